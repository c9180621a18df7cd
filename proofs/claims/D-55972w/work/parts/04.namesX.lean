/-! GateGrammar -/
set_option maxRecDepth 100000
def RX1 : String := "GateGrammar"
def TX1 : u_T := fun k => match k with
  | 0 => ("GateGrammar", "rules", "[LGateGrammar$Rule;", true)
  | 1 => ("GateGrammar", "state", "LGateGrammar$State;", false)
  | 2 => ("GateGrammar", "snapshot", "LGateGrammar$State;", false)
  | 3 => ("GateGrammar", "history", "LGateGrammar$History;", true)
  | 4 => ("GateGrammar", "text", "Ljava/lang/StringBuilder;", true)
  | 5 => ("GateGrammar", "line", "Ljava/lang/String;", false)
  | 6 => ("GateGrammar", "errorPosition", "I", false)
  | _ => ("GateGrammar", "failedCommand", "I", false)
def tyX1 : Nat → FieldType := fun k => match k with
  | 0 => .array (.object "GateGrammar$Rule")
  | 1 => .object "GateGrammar$State"
  | 2 => .object "GateGrammar$State"
  | 3 => .object "GateGrammar$History"
  | 4 => .object "java/lang/StringBuilder"
  | 5 => .object "java/lang/String"
  | 6 => .int
  | _ => .int
abbrev wsX10 : List Cond := u_ws RX1 TX1 8
theorem nmX1 : ∀ a, a < 8 → ∀ b, b < 8 → a ≠ b → (TX1 a).2.1 ≠ (TX1 b).2.1 := by decide +kernel
theorem tyX1_ok : ∀ k, k < 8 → parseFieldDescriptor (TX1 k).2.2.1 = some (tyX1 k) := by decide +kernel
abbrev cX1_init : ByteArray := prog_1_method_1_code
def yX1_init : MethodName := ⟨RX1, "<init>", "()V"⟩
def dkwX1_init_5 : List UInt8 := [186, 0, 58, 0, 0, 83, 132, 2, 1, 167, 255, 221, 177]
abbrev dktX1_init_5 : List UInt8 := dkwX1_init_5 ++ []
def dkwX1_init_4 : List UInt8 := [190, 162, 0, 32, 28, 6, 160, 0, 7, 4, 167, 0, 4, 3, 62, 42, 180, 0, 9, 28, 29]
abbrev dktX1_init_4 : List UInt8 := dkwX1_init_4 ++ dktX1_init_5
def dkwX1_init_3 : List UInt8 := [186, 0, 51, 0, 0, 83, 42, 180, 0, 9, 4, 186, 0, 55, 0, 0, 83, 5, 61, 28, 42, 180, 0, 9]
abbrev dktX1_init_3 : List UInt8 := dkwX1_init_3 ++ dktX1_init_4
def dkwX1_init_2 : List UInt8 := [18, 38, 181, 0, 40, 42, 2, 181, 0, 44, 42, 2, 181, 0, 48, 3, 60, 42, 180, 0, 9, 3, 27]
abbrev dktX1_init_2 : List UInt8 := dkwX1_init_2 ++ dktX1_init_3
def dkwX1_init_1 : List UInt8 := [187, 0, 22, 89, 16, 8, 183, 0, 24, 181, 0, 27, 42, 187, 0, 31, 89, 183, 0, 33, 181, 0, 34, 42]
abbrev dktX1_init_1 : List UInt8 := dkwX1_init_1 ++ dktX1_init_2
def dkwX1_init_0 : List UInt8 := [42, 183, 0, 1, 42, 7, 189, 0, 7, 181, 0, 9, 42, 187, 0, 15, 89, 183, 0, 17, 181, 0, 18, 42]
abbrev dktX1_init_0 : List UInt8 := dkwX1_init_0 ++ dktX1_init_1
theorem dksX1_init_0 : cX1_init.data.toList.drop 0 = dktX1_init_0 := by decide +kernel
theorem dksX1_init_1 : cX1_init.data.toList.drop 24 = dktX1_init_1 := dk_seg dksX1_init_0 24 rfl rfl
theorem dksX1_init_2 : cX1_init.data.toList.drop 48 = dktX1_init_2 := dk_seg dksX1_init_1 24 rfl rfl
theorem dksX1_init_3 : cX1_init.data.toList.drop 71 = dktX1_init_3 := dk_seg dksX1_init_2 23 rfl rfl
theorem dksX1_init_4 : cX1_init.data.toList.drop 95 = dktX1_init_4 := dk_seg dksX1_init_3 24 rfl rfl
theorem dksX1_init_5 : cX1_init.data.toList.drop 116 = dktX1_init_5 := dk_seg dksX1_init_4 21 rfl rfl
theorem dX1_init_0 : decode cX1_init 0 = .ok (.aload_n 0, 1) := dk_42 (dk_at dksX1_init_0 0 rfl rfl)
theorem dX1_init_1 : decode cX1_init 1 = .ok (.invokespecial 1, 3) := dk_183 0 1 (dk_at dksX1_init_0 1 rfl rfl)
theorem dX1_init_4 : decode cX1_init 4 = .ok (.aload_n 0, 1) := dk_42 (dk_at dksX1_init_0 4 rfl rfl)
theorem dX1_init_5 : decode cX1_init 5 = .ok (.iconst 4, 1) := dk_7 (dk_at dksX1_init_0 5 rfl rfl)
theorem dX1_init_6 : decode cX1_init 6 = .ok (.anewarray 7, 3) := dk_189 0 7 (dk_at dksX1_init_0 6 rfl rfl)
theorem dX1_init_9 : decode cX1_init 9 = .ok (.putfield 9, 3) := dk_181 0 9 (dk_at dksX1_init_0 9 rfl rfl)
theorem dX1_init_12 : decode cX1_init 12 = .ok (.aload_n 0, 1) := dk_42 (dk_at dksX1_init_0 12 rfl rfl)
theorem dX1_init_13 : decode cX1_init 13 = .ok (.new 15, 3) := dk_187 0 15 (dk_at dksX1_init_0 13 rfl rfl)
theorem dX1_init_16 : decode cX1_init 16 = .ok (.dup, 1) := dk_89 (dk_at dksX1_init_0 16 rfl rfl)
theorem dX1_init_17 : decode cX1_init 17 = .ok (.invokespecial 17, 3) := dk_183 0 17 (dk_at dksX1_init_0 17 rfl rfl)
theorem dX1_init_20 : decode cX1_init 20 = .ok (.putfield 18, 3) := dk_181 0 18 (dk_at dksX1_init_0 20 rfl rfl)
theorem dX1_init_23 : decode cX1_init 23 = .ok (.aload_n 0, 1) := dk_42 (dk_at dksX1_init_0 23 rfl rfl)
theorem dX1_init_24 : decode cX1_init 24 = .ok (.new 22, 3) := dk_187 0 22 (dk_at dksX1_init_1 0 rfl rfl)
theorem dX1_init_27 : decode cX1_init 27 = .ok (.dup, 1) := dk_89 (dk_at dksX1_init_1 3 rfl rfl)
theorem dX1_init_28 : decode cX1_init 28 = .ok (.bipush 8, 2) := dk_16 8 (dk_at dksX1_init_1 4 rfl rfl)
theorem dX1_init_30 : decode cX1_init 30 = .ok (.invokespecial 24, 3) := dk_183 0 24 (dk_at dksX1_init_1 6 rfl rfl)
theorem dX1_init_33 : decode cX1_init 33 = .ok (.putfield 27, 3) := dk_181 0 27 (dk_at dksX1_init_1 9 rfl rfl)
theorem dX1_init_36 : decode cX1_init 36 = .ok (.aload_n 0, 1) := dk_42 (dk_at dksX1_init_1 12 rfl rfl)
theorem dX1_init_37 : decode cX1_init 37 = .ok (.new 31, 3) := dk_187 0 31 (dk_at dksX1_init_1 13 rfl rfl)
theorem dX1_init_40 : decode cX1_init 40 = .ok (.dup, 1) := dk_89 (dk_at dksX1_init_1 16 rfl rfl)
theorem dX1_init_41 : decode cX1_init 41 = .ok (.invokespecial 33, 3) := dk_183 0 33 (dk_at dksX1_init_1 17 rfl rfl)
theorem dX1_init_44 : decode cX1_init 44 = .ok (.putfield 34, 3) := dk_181 0 34 (dk_at dksX1_init_1 20 rfl rfl)
theorem dX1_init_47 : decode cX1_init 47 = .ok (.aload_n 0, 1) := dk_42 (dk_at dksX1_init_1 23 rfl rfl)
theorem dX1_init_48 : decode cX1_init 48 = .ok (.ldc 38, 2) := dk_18 38 (dk_at dksX1_init_2 0 rfl rfl)
theorem dX1_init_50 : decode cX1_init 50 = .ok (.putfield 40, 3) := dk_181 0 40 (dk_at dksX1_init_2 2 rfl rfl)
theorem dX1_init_53 : decode cX1_init 53 = .ok (.aload_n 0, 1) := dk_42 (dk_at dksX1_init_2 5 rfl rfl)
theorem dX1_init_54 : decode cX1_init 54 = .ok (.iconst (-1), 1) := dk_2 (dk_at dksX1_init_2 6 rfl rfl)
theorem dX1_init_55 : decode cX1_init 55 = .ok (.putfield 44, 3) := dk_181 0 44 (dk_at dksX1_init_2 7 rfl rfl)
theorem dX1_init_58 : decode cX1_init 58 = .ok (.aload_n 0, 1) := dk_42 (dk_at dksX1_init_2 10 rfl rfl)
theorem dX1_init_59 : decode cX1_init 59 = .ok (.iconst (-1), 1) := dk_2 (dk_at dksX1_init_2 11 rfl rfl)
theorem dX1_init_60 : decode cX1_init 60 = .ok (.putfield 48, 3) := dk_181 0 48 (dk_at dksX1_init_2 12 rfl rfl)
theorem dX1_init_63 : decode cX1_init 63 = .ok (.iconst 0, 1) := dk_3 (dk_at dksX1_init_2 15 rfl rfl)
theorem dX1_init_64 : decode cX1_init 64 = .ok (.istore_n 1, 1) := dk_60 (dk_at dksX1_init_2 16 rfl rfl)
theorem dX1_init_65 : decode cX1_init 65 = .ok (.aload_n 0, 1) := dk_42 (dk_at dksX1_init_2 17 rfl rfl)
theorem dX1_init_66 : decode cX1_init 66 = .ok (.getfield 9, 3) := dk_180 0 9 (dk_at dksX1_init_2 18 rfl rfl)
theorem dX1_init_69 : decode cX1_init 69 = .ok (.iconst 0, 1) := dk_3 (dk_at dksX1_init_2 21 rfl rfl)
theorem dX1_init_70 : decode cX1_init 70 = .ok (.iload_n 1, 1) := dk_27 (dk_at dksX1_init_2 22 rfl rfl)
theorem dX1_init_71 : decode cX1_init 71 = .ok (.invokedynamic 51, 5) := by decide +kernel
theorem dX1_init_76 : decode cX1_init 76 = .ok (.aastore, 1) := dk_83 (dk_at dksX1_init_3 5 rfl rfl)
theorem dX1_init_77 : decode cX1_init 77 = .ok (.aload_n 0, 1) := dk_42 (dk_at dksX1_init_3 6 rfl rfl)
theorem dX1_init_78 : decode cX1_init 78 = .ok (.getfield 9, 3) := dk_180 0 9 (dk_at dksX1_init_3 7 rfl rfl)
theorem dX1_init_81 : decode cX1_init 81 = .ok (.iconst 1, 1) := dk_4 (dk_at dksX1_init_3 10 rfl rfl)
theorem dX1_init_82 : decode cX1_init 82 = .ok (.invokedynamic 55, 5) := by decide +kernel
theorem dX1_init_87 : decode cX1_init 87 = .ok (.aastore, 1) := dk_83 (dk_at dksX1_init_3 16 rfl rfl)
theorem dX1_init_88 : decode cX1_init 88 = .ok (.iconst 2, 1) := dk_5 (dk_at dksX1_init_3 17 rfl rfl)
theorem dX1_init_89 : decode cX1_init 89 = .ok (.istore_n 2, 1) := dk_61 (dk_at dksX1_init_3 18 rfl rfl)
theorem dX1_init_90 : decode cX1_init 90 = .ok (.iload_n 2, 1) := dk_28 (dk_at dksX1_init_3 19 rfl rfl)
theorem dX1_init_91 : decode cX1_init 91 = .ok (.aload_n 0, 1) := dk_42 (dk_at dksX1_init_3 20 rfl rfl)
theorem dX1_init_92 : decode cX1_init 92 = .ok (.getfield 9, 3) := dk_180 0 9 (dk_at dksX1_init_3 21 rfl rfl)
theorem dX1_init_95 : decode cX1_init 95 = .ok (.arraylength, 1) := dk_190 (dk_at dksX1_init_4 0 rfl rfl)
theorem dX1_init_96 : decode cX1_init 96 = .ok (.if_icmp .ge 32, 3) := dk_162 0 32 (dk_at dksX1_init_4 1 rfl rfl)
theorem dX1_init_99 : decode cX1_init 99 = .ok (.iload_n 2, 1) := dk_28 (dk_at dksX1_init_4 4 rfl rfl)
theorem dX1_init_100 : decode cX1_init 100 = .ok (.iconst 3, 1) := dk_6 (dk_at dksX1_init_4 5 rfl rfl)
theorem dX1_init_101 : decode cX1_init 101 = .ok (.if_icmp .ne 7, 3) := dk_160 0 7 (dk_at dksX1_init_4 6 rfl rfl)
theorem dX1_init_104 : decode cX1_init 104 = .ok (.iconst 1, 1) := dk_4 (dk_at dksX1_init_4 9 rfl rfl)
theorem dX1_init_105 : decode cX1_init 105 = .ok (.goto 4, 3) := dk_167 0 4 (dk_at dksX1_init_4 10 rfl rfl)
theorem dX1_init_108 : decode cX1_init 108 = .ok (.iconst 0, 1) := dk_3 (dk_at dksX1_init_4 13 rfl rfl)
theorem dX1_init_109 : decode cX1_init 109 = .ok (.istore_n 3, 1) := dk_62 (dk_at dksX1_init_4 14 rfl rfl)
theorem dX1_init_110 : decode cX1_init 110 = .ok (.aload_n 0, 1) := dk_42 (dk_at dksX1_init_4 15 rfl rfl)
theorem dX1_init_111 : decode cX1_init 111 = .ok (.getfield 9, 3) := dk_180 0 9 (dk_at dksX1_init_4 16 rfl rfl)
theorem dX1_init_114 : decode cX1_init 114 = .ok (.iload_n 2, 1) := dk_28 (dk_at dksX1_init_4 19 rfl rfl)
theorem dX1_init_115 : decode cX1_init 115 = .ok (.iload_n 3, 1) := dk_29 (dk_at dksX1_init_4 20 rfl rfl)
theorem dX1_init_116 : decode cX1_init 116 = .ok (.invokedynamic 58, 5) := by decide +kernel
theorem dX1_init_121 : decode cX1_init 121 = .ok (.aastore, 1) := dk_83 (dk_at dksX1_init_5 5 rfl rfl)
theorem dX1_init_122 : decode cX1_init 122 = .ok (.iinc 2 1, 3) := dk_132 2 1 (dk_at dksX1_init_5 6 rfl rfl)
theorem dX1_init_125 : decode cX1_init 125 = .ok (.goto (-35), 3) := dk_167 255 221 (dk_at dksX1_init_5 9 rfl rfl)
theorem dX1_init_128 : decode cX1_init 128 = .ok (.return_, 1) := dk_177 (dk_at dksX1_init_5 12 rfl rfl)
abbrev cX1_lambda_new_0 : ByteArray := prog_1_method_70_code
def yX1_lambda_new_0 : MethodName := ⟨RX1, "lambda$new$0", "(ILGateGrammar$State;LGateGrammar$Sentence;LGateGrammar$Clause;LGateGrammar$Report;)V"⟩
def dkwX1_lambda_new_0_2 : List UInt8 := [180, 0, 155, 26, 159, 0, 7, 4, 167, 0, 4, 3, 182, 1, 212, 167, 255, 206, 177]
abbrev dktX1_lambda_new_0_2 : List UInt8 := dkwX1_lambda_new_0_2 ++ []
def dkwX1_lambda_new_0_1 : List UInt8 := [185, 0, 106, 1, 0, 192, 1, 215, 182, 1, 217, 54, 6, 25, 4, 21, 6, 44, 21, 6, 182, 1, 48]
abbrev dktX1_lambda_new_0_1 : List UInt8 := dkwX1_lambda_new_0_1 ++ dktX1_lambda_new_0_2
def dkwX1_lambda_new_0_0 : List UInt8 := [45, 180, 1, 42, 182, 1, 23, 58, 5, 25, 5, 185, 0, 100, 1, 0, 153, 0, 46, 25, 5]
abbrev dktX1_lambda_new_0_0 : List UInt8 := dkwX1_lambda_new_0_0 ++ dktX1_lambda_new_0_1
theorem dksX1_lambda_new_0_0 : cX1_lambda_new_0.data.toList.drop 0 = dktX1_lambda_new_0_0 := by decide +kernel
theorem dksX1_lambda_new_0_1 : cX1_lambda_new_0.data.toList.drop 21 = dktX1_lambda_new_0_1 := dk_seg dksX1_lambda_new_0_0 21 rfl rfl
theorem dksX1_lambda_new_0_2 : cX1_lambda_new_0.data.toList.drop 44 = dktX1_lambda_new_0_2 := dk_seg dksX1_lambda_new_0_1 23 rfl rfl
theorem dX1_lambda_new_0_0 : decode cX1_lambda_new_0 0 = .ok (.aload_n 3, 1) := dk_45 (dk_at dksX1_lambda_new_0_0 0 rfl rfl)
theorem dX1_lambda_new_0_1 : decode cX1_lambda_new_0 1 = .ok (.getfield 298, 3) := dk_180 1 42 (dk_at dksX1_lambda_new_0_0 1 rfl rfl)
theorem dX1_lambda_new_0_4 : decode cX1_lambda_new_0 4 = .ok (.invokevirtual 279, 3) := dk_182 1 23 (dk_at dksX1_lambda_new_0_0 4 rfl rfl)
theorem dX1_lambda_new_0_7 : decode cX1_lambda_new_0 7 = .ok (.astore 5, 2) := dk_58 5 (dk_at dksX1_lambda_new_0_0 7 rfl rfl)
theorem dX1_lambda_new_0_9 : decode cX1_lambda_new_0 9 = .ok (.aload 5, 2) := dk_25 5 (dk_at dksX1_lambda_new_0_0 9 rfl rfl)
theorem dX1_lambda_new_0_11 : decode cX1_lambda_new_0 11 = .ok (.invokeinterface 100 1, 5) := by decide +kernel
theorem dX1_lambda_new_0_16 : decode cX1_lambda_new_0 16 = .ok (.ifCond .eq 46, 3) := dk_153 0 46 (dk_at dksX1_lambda_new_0_0 16 rfl rfl)
theorem dX1_lambda_new_0_19 : decode cX1_lambda_new_0 19 = .ok (.aload 5, 2) := dk_25 5 (dk_at dksX1_lambda_new_0_0 19 rfl rfl)
theorem dX1_lambda_new_0_21 : decode cX1_lambda_new_0 21 = .ok (.invokeinterface 106 1, 5) := by decide +kernel
theorem dX1_lambda_new_0_26 : decode cX1_lambda_new_0 26 = .ok (.checkcast 471, 3) := dk_192 1 215 (dk_at dksX1_lambda_new_0_1 5 rfl rfl)
theorem dX1_lambda_new_0_29 : decode cX1_lambda_new_0 29 = .ok (.invokevirtual 473, 3) := dk_182 1 217 (dk_at dksX1_lambda_new_0_1 8 rfl rfl)
theorem dX1_lambda_new_0_32 : decode cX1_lambda_new_0 32 = .ok (.istore 6, 2) := dk_54 6 (dk_at dksX1_lambda_new_0_1 11 rfl rfl)
theorem dX1_lambda_new_0_34 : decode cX1_lambda_new_0 34 = .ok (.aload 4, 2) := dk_25 4 (dk_at dksX1_lambda_new_0_1 13 rfl rfl)
theorem dX1_lambda_new_0_36 : decode cX1_lambda_new_0 36 = .ok (.iload 6, 2) := dk_21 6 (dk_at dksX1_lambda_new_0_1 15 rfl rfl)
theorem dX1_lambda_new_0_38 : decode cX1_lambda_new_0 38 = .ok (.aload_n 2, 1) := dk_44 (dk_at dksX1_lambda_new_0_1 17 rfl rfl)
theorem dX1_lambda_new_0_39 : decode cX1_lambda_new_0 39 = .ok (.iload 6, 2) := dk_21 6 (dk_at dksX1_lambda_new_0_1 18 rfl rfl)
theorem dX1_lambda_new_0_41 : decode cX1_lambda_new_0 41 = .ok (.invokevirtual 304, 3) := dk_182 1 48 (dk_at dksX1_lambda_new_0_1 20 rfl rfl)
theorem dX1_lambda_new_0_44 : decode cX1_lambda_new_0 44 = .ok (.getfield 155, 3) := dk_180 0 155 (dk_at dksX1_lambda_new_0_2 0 rfl rfl)
theorem dX1_lambda_new_0_47 : decode cX1_lambda_new_0 47 = .ok (.iload_n 0, 1) := dk_26 (dk_at dksX1_lambda_new_0_2 3 rfl rfl)
theorem dX1_lambda_new_0_48 : decode cX1_lambda_new_0 48 = .ok (.if_icmp .eq 7, 3) := dk_159 0 7 (dk_at dksX1_lambda_new_0_2 4 rfl rfl)
theorem dX1_lambda_new_0_51 : decode cX1_lambda_new_0 51 = .ok (.iconst 1, 1) := dk_4 (dk_at dksX1_lambda_new_0_2 7 rfl rfl)
theorem dX1_lambda_new_0_52 : decode cX1_lambda_new_0 52 = .ok (.goto 4, 3) := dk_167 0 4 (dk_at dksX1_lambda_new_0_2 8 rfl rfl)
theorem dX1_lambda_new_0_55 : decode cX1_lambda_new_0 55 = .ok (.iconst 0, 1) := dk_3 (dk_at dksX1_lambda_new_0_2 11 rfl rfl)
theorem dX1_lambda_new_0_56 : decode cX1_lambda_new_0 56 = .ok (.invokevirtual 468, 3) := dk_182 1 212 (dk_at dksX1_lambda_new_0_2 12 rfl rfl)
theorem dX1_lambda_new_0_59 : decode cX1_lambda_new_0 59 = .ok (.goto (-50), 3) := dk_167 255 206 (dk_at dksX1_lambda_new_0_2 15 rfl rfl)
theorem dX1_lambda_new_0_62 : decode cX1_lambda_new_0 62 = .ok (.return_, 1) := dk_177 (dk_at dksX1_lambda_new_0_2 18 rfl rfl)
abbrev cX1_lambda_new_1 : ByteArray := prog_1_method_69_code
def yX1_lambda_new_1 : MethodName := ⟨RX1, "lambda$new$1", "(LGateGrammar$State;LGateGrammar$Sentence;LGateGrammar$Clause;LGateGrammar$Report;)V"⟩
def dkwX1_lambda_new_1_2 : List UInt8 := [4, 167, 0, 4, 3, 182, 1, 212, 177]
abbrev dktX1_lambda_new_1_2 : List UInt8 := dkwX1_lambda_new_1_2 ++ []
def dkwX1_lambda_new_1_1 : List UInt8 := [180, 0, 155, 42, 180, 0, 142, 43, 44, 180, 1, 45, 182, 1, 48, 180, 0, 146, 182, 0, 149, 159, 0, 7]
abbrev dktX1_lambda_new_1_1 : List UInt8 := dkwX1_lambda_new_1_1 ++ dktX1_lambda_new_1_2
def dkwX1_lambda_new_1_0 : List UInt8 := [44, 180, 1, 56, 155, 0, 52, 43, 44, 180, 1, 56, 182, 1, 48, 58, 4, 45, 44, 180, 1, 56, 25, 4]
abbrev dktX1_lambda_new_1_0 : List UInt8 := dkwX1_lambda_new_1_0 ++ dktX1_lambda_new_1_1
theorem dksX1_lambda_new_1_0 : cX1_lambda_new_1.data.toList.drop 0 = dktX1_lambda_new_1_0 := by decide +kernel
theorem dksX1_lambda_new_1_1 : cX1_lambda_new_1.data.toList.drop 24 = dktX1_lambda_new_1_1 := dk_seg dksX1_lambda_new_1_0 24 rfl rfl
theorem dksX1_lambda_new_1_2 : cX1_lambda_new_1.data.toList.drop 48 = dktX1_lambda_new_1_2 := dk_seg dksX1_lambda_new_1_1 24 rfl rfl
theorem dX1_lambda_new_1_0 : decode cX1_lambda_new_1 0 = .ok (.aload_n 2, 1) := dk_44 (dk_at dksX1_lambda_new_1_0 0 rfl rfl)
theorem dX1_lambda_new_1_1 : decode cX1_lambda_new_1 1 = .ok (.getfield 312, 3) := dk_180 1 56 (dk_at dksX1_lambda_new_1_0 1 rfl rfl)
theorem dX1_lambda_new_1_4 : decode cX1_lambda_new_1 4 = .ok (.ifCond .lt 52, 3) := dk_155 0 52 (dk_at dksX1_lambda_new_1_0 4 rfl rfl)
theorem dX1_lambda_new_1_7 : decode cX1_lambda_new_1 7 = .ok (.aload_n 1, 1) := dk_43 (dk_at dksX1_lambda_new_1_0 7 rfl rfl)
theorem dX1_lambda_new_1_8 : decode cX1_lambda_new_1 8 = .ok (.aload_n 2, 1) := dk_44 (dk_at dksX1_lambda_new_1_0 8 rfl rfl)
theorem dX1_lambda_new_1_9 : decode cX1_lambda_new_1 9 = .ok (.getfield 312, 3) := dk_180 1 56 (dk_at dksX1_lambda_new_1_0 9 rfl rfl)
theorem dX1_lambda_new_1_12 : decode cX1_lambda_new_1 12 = .ok (.invokevirtual 304, 3) := dk_182 1 48 (dk_at dksX1_lambda_new_1_0 12 rfl rfl)
theorem dX1_lambda_new_1_15 : decode cX1_lambda_new_1 15 = .ok (.astore 4, 2) := dk_58 4 (dk_at dksX1_lambda_new_1_0 15 rfl rfl)
theorem dX1_lambda_new_1_17 : decode cX1_lambda_new_1 17 = .ok (.aload_n 3, 1) := dk_45 (dk_at dksX1_lambda_new_1_0 17 rfl rfl)
theorem dX1_lambda_new_1_18 : decode cX1_lambda_new_1 18 = .ok (.aload_n 2, 1) := dk_44 (dk_at dksX1_lambda_new_1_0 18 rfl rfl)
theorem dX1_lambda_new_1_19 : decode cX1_lambda_new_1 19 = .ok (.getfield 312, 3) := dk_180 1 56 (dk_at dksX1_lambda_new_1_0 19 rfl rfl)
theorem dX1_lambda_new_1_22 : decode cX1_lambda_new_1 22 = .ok (.aload 4, 2) := dk_25 4 (dk_at dksX1_lambda_new_1_0 22 rfl rfl)
theorem dX1_lambda_new_1_24 : decode cX1_lambda_new_1 24 = .ok (.getfield 155, 3) := dk_180 0 155 (dk_at dksX1_lambda_new_1_1 0 rfl rfl)
theorem dX1_lambda_new_1_27 : decode cX1_lambda_new_1 27 = .ok (.aload_n 0, 1) := dk_42 (dk_at dksX1_lambda_new_1_1 3 rfl rfl)
theorem dX1_lambda_new_1_28 : decode cX1_lambda_new_1 28 = .ok (.getfield 142, 3) := dk_180 0 142 (dk_at dksX1_lambda_new_1_1 4 rfl rfl)
theorem dX1_lambda_new_1_31 : decode cX1_lambda_new_1 31 = .ok (.aload_n 1, 1) := dk_43 (dk_at dksX1_lambda_new_1_1 7 rfl rfl)
theorem dX1_lambda_new_1_32 : decode cX1_lambda_new_1 32 = .ok (.aload_n 2, 1) := dk_44 (dk_at dksX1_lambda_new_1_1 8 rfl rfl)
theorem dX1_lambda_new_1_33 : decode cX1_lambda_new_1 33 = .ok (.getfield 301, 3) := dk_180 1 45 (dk_at dksX1_lambda_new_1_1 9 rfl rfl)
theorem dX1_lambda_new_1_36 : decode cX1_lambda_new_1 36 = .ok (.invokevirtual 304, 3) := dk_182 1 48 (dk_at dksX1_lambda_new_1_1 12 rfl rfl)
theorem dX1_lambda_new_1_39 : decode cX1_lambda_new_1 39 = .ok (.getfield 146, 3) := dk_180 0 146 (dk_at dksX1_lambda_new_1_1 15 rfl rfl)
theorem dX1_lambda_new_1_42 : decode cX1_lambda_new_1 42 = .ok (.invokevirtual 149, 3) := dk_182 0 149 (dk_at dksX1_lambda_new_1_1 18 rfl rfl)
theorem dX1_lambda_new_1_45 : decode cX1_lambda_new_1 45 = .ok (.if_icmp .eq 7, 3) := dk_159 0 7 (dk_at dksX1_lambda_new_1_1 21 rfl rfl)
theorem dX1_lambda_new_1_48 : decode cX1_lambda_new_1 48 = .ok (.iconst 1, 1) := dk_4 (dk_at dksX1_lambda_new_1_2 0 rfl rfl)
theorem dX1_lambda_new_1_49 : decode cX1_lambda_new_1 49 = .ok (.goto 4, 3) := dk_167 0 4 (dk_at dksX1_lambda_new_1_2 1 rfl rfl)
theorem dX1_lambda_new_1_52 : decode cX1_lambda_new_1 52 = .ok (.iconst 0, 1) := dk_3 (dk_at dksX1_lambda_new_1_2 4 rfl rfl)
theorem dX1_lambda_new_1_53 : decode cX1_lambda_new_1 53 = .ok (.invokevirtual 468, 3) := dk_182 1 212 (dk_at dksX1_lambda_new_1_2 5 rfl rfl)
theorem dX1_lambda_new_1_56 : decode cX1_lambda_new_1 56 = .ok (.return_, 1) := dk_177 (dk_at dksX1_lambda_new_1_2 8 rfl rfl)
abbrev cX1_checkIndex : ByteArray := prog_1_method_6_code
def yX1_checkIndex : MethodName := ⟨RX1, "checkIndex", "(II)V"⟩
def dkwX1_checkIndex_0 : List UInt8 := [26, 3, 27, 4, 100, 184, 0, 70, 154, 0, 11, 187, 0, 74, 89, 183, 0, 76, 191, 177]
abbrev dktX1_checkIndex_0 : List UInt8 := dkwX1_checkIndex_0 ++ []
theorem dksX1_checkIndex_0 : cX1_checkIndex.data.toList.drop 0 = dktX1_checkIndex_0 := by decide +kernel
theorem dX1_checkIndex_0 : decode cX1_checkIndex 0 = .ok (.iload_n 0, 1) := dk_26 (dk_at dksX1_checkIndex_0 0 rfl rfl)
theorem dX1_checkIndex_1 : decode cX1_checkIndex 1 = .ok (.iconst 0, 1) := dk_3 (dk_at dksX1_checkIndex_0 1 rfl rfl)
theorem dX1_checkIndex_2 : decode cX1_checkIndex 2 = .ok (.iload_n 1, 1) := dk_27 (dk_at dksX1_checkIndex_0 2 rfl rfl)
theorem dX1_checkIndex_3 : decode cX1_checkIndex 3 = .ok (.iconst 1, 1) := dk_4 (dk_at dksX1_checkIndex_0 3 rfl rfl)
theorem dX1_checkIndex_4 : decode cX1_checkIndex 4 = .ok (.isub, 1) := dk_100 (dk_at dksX1_checkIndex_0 4 rfl rfl)
theorem dX1_checkIndex_5 : decode cX1_checkIndex 5 = .ok (.invokestatic 70, 3) := dk_184 0 70 (dk_at dksX1_checkIndex_0 5 rfl rfl)
theorem dX1_checkIndex_8 : decode cX1_checkIndex 8 = .ok (.ifCond .ne 11, 3) := dk_154 0 11 (dk_at dksX1_checkIndex_0 8 rfl rfl)
theorem dX1_checkIndex_11 : decode cX1_checkIndex 11 = .ok (.new 74, 3) := dk_187 0 74 (dk_at dksX1_checkIndex_0 11 rfl rfl)
theorem dX1_checkIndex_14 : decode cX1_checkIndex 14 = .ok (.dup, 1) := dk_89 (dk_at dksX1_checkIndex_0 14 rfl rfl)
theorem dX1_checkIndex_15 : decode cX1_checkIndex 15 = .ok (.invokespecial 76, 3) := dk_183 0 76 (dk_at dksX1_checkIndex_0 15 rfl rfl)
theorem dX1_checkIndex_18 : decode cX1_checkIndex 18 = .ok (.athrow, 1) := dk_191 (dk_at dksX1_checkIndex_0 18 rfl rfl)
theorem dX1_checkIndex_19 : decode cX1_checkIndex 19 = .ok (.return_, 1) := dk_177 (dk_at dksX1_checkIndex_0 19 rfl rfl)
abbrev cX1_isBetween : ByteArray := prog_1_method_2_code
def yX1_isBetween : MethodName := ⟨RX1, "isBetween", "(III)Z"⟩
def dkwX1_isBetween_0 : List UInt8 := [26, 27, 161, 0, 12, 26, 28, 163, 0, 7, 4, 167, 0, 4, 3, 172]
abbrev dktX1_isBetween_0 : List UInt8 := dkwX1_isBetween_0 ++ []
theorem dksX1_isBetween_0 : cX1_isBetween.data.toList.drop 0 = dktX1_isBetween_0 := by decide +kernel
theorem dX1_isBetween_0 : decode cX1_isBetween 0 = .ok (.iload_n 0, 1) := dk_26 (dk_at dksX1_isBetween_0 0 rfl rfl)
theorem dX1_isBetween_1 : decode cX1_isBetween 1 = .ok (.iload_n 1, 1) := dk_27 (dk_at dksX1_isBetween_0 1 rfl rfl)
theorem dX1_isBetween_2 : decode cX1_isBetween 2 = .ok (.if_icmp .lt 12, 3) := dk_161 0 12 (dk_at dksX1_isBetween_0 2 rfl rfl)
theorem dX1_isBetween_5 : decode cX1_isBetween 5 = .ok (.iload_n 0, 1) := dk_26 (dk_at dksX1_isBetween_0 5 rfl rfl)
theorem dX1_isBetween_6 : decode cX1_isBetween 6 = .ok (.iload_n 2, 1) := dk_28 (dk_at dksX1_isBetween_0 6 rfl rfl)
theorem dX1_isBetween_7 : decode cX1_isBetween 7 = .ok (.if_icmp .gt 7, 3) := dk_163 0 7 (dk_at dksX1_isBetween_0 7 rfl rfl)
theorem dX1_isBetween_10 : decode cX1_isBetween 10 = .ok (.iconst 1, 1) := dk_4 (dk_at dksX1_isBetween_0 10 rfl rfl)
theorem dX1_isBetween_11 : decode cX1_isBetween 11 = .ok (.goto 4, 3) := dk_167 0 4 (dk_at dksX1_isBetween_0 11 rfl rfl)
theorem dX1_isBetween_14 : decode cX1_isBetween 14 = .ok (.iconst 0, 1) := dk_3 (dk_at dksX1_isBetween_0 14 rfl rfl)
theorem dX1_isBetween_15 : decode cX1_isBetween 15 = .ok (.ireturn, 1) := dk_172 (dk_at dksX1_isBetween_0 15 rfl rfl)
abbrev cX1_lambda_new_2 : ByteArray := prog_1_method_68_code
def yX1_lambda_new_2 : MethodName := ⟨RX1, "lambda$new$2", "(ZLGateGrammar$State;LGateGrammar$Sentence;LGateGrammar$Clause;LGateGrammar$Report;)V"⟩
def dkwX1_lambda_new_2_1 : List UInt8 := [182, 1, 212, 177]
abbrev dktX1_lambda_new_2_1 : List UInt8 := dkwX1_lambda_new_2_1 ++ []
def dkwX1_lambda_new_2_0 : List UInt8 := [25, 4, 45, 180, 1, 45, 26, 153, 0, 11, 44, 45, 182, 1, 205, 167, 0, 8, 44, 45, 182, 1, 209]
abbrev dktX1_lambda_new_2_0 : List UInt8 := dkwX1_lambda_new_2_0 ++ dktX1_lambda_new_2_1
theorem dksX1_lambda_new_2_0 : cX1_lambda_new_2.data.toList.drop 0 = dktX1_lambda_new_2_0 := by decide +kernel
theorem dksX1_lambda_new_2_1 : cX1_lambda_new_2.data.toList.drop 23 = dktX1_lambda_new_2_1 := dk_seg dksX1_lambda_new_2_0 23 rfl rfl
theorem dX1_lambda_new_2_0 : decode cX1_lambda_new_2 0 = .ok (.aload 4, 2) := dk_25 4 (dk_at dksX1_lambda_new_2_0 0 rfl rfl)
theorem dX1_lambda_new_2_2 : decode cX1_lambda_new_2 2 = .ok (.aload_n 3, 1) := dk_45 (dk_at dksX1_lambda_new_2_0 2 rfl rfl)
theorem dX1_lambda_new_2_3 : decode cX1_lambda_new_2 3 = .ok (.getfield 301, 3) := dk_180 1 45 (dk_at dksX1_lambda_new_2_0 3 rfl rfl)
theorem dX1_lambda_new_2_6 : decode cX1_lambda_new_2 6 = .ok (.iload_n 0, 1) := dk_26 (dk_at dksX1_lambda_new_2_0 6 rfl rfl)
theorem dX1_lambda_new_2_7 : decode cX1_lambda_new_2 7 = .ok (.ifCond .eq 11, 3) := dk_153 0 11 (dk_at dksX1_lambda_new_2_0 7 rfl rfl)
theorem dX1_lambda_new_2_10 : decode cX1_lambda_new_2 10 = .ok (.aload_n 2, 1) := dk_44 (dk_at dksX1_lambda_new_2_0 10 rfl rfl)
theorem dX1_lambda_new_2_11 : decode cX1_lambda_new_2 11 = .ok (.aload_n 3, 1) := dk_45 (dk_at dksX1_lambda_new_2_0 11 rfl rfl)
theorem dX1_lambda_new_2_12 : decode cX1_lambda_new_2 12 = .ok (.invokevirtual 461, 3) := dk_182 1 205 (dk_at dksX1_lambda_new_2_0 12 rfl rfl)
theorem dX1_lambda_new_2_15 : decode cX1_lambda_new_2 15 = .ok (.goto 8, 3) := dk_167 0 8 (dk_at dksX1_lambda_new_2_0 15 rfl rfl)
theorem dX1_lambda_new_2_18 : decode cX1_lambda_new_2 18 = .ok (.aload_n 2, 1) := dk_44 (dk_at dksX1_lambda_new_2_0 18 rfl rfl)
theorem dX1_lambda_new_2_19 : decode cX1_lambda_new_2 19 = .ok (.aload_n 3, 1) := dk_45 (dk_at dksX1_lambda_new_2_0 19 rfl rfl)
theorem dX1_lambda_new_2_20 : decode cX1_lambda_new_2 20 = .ok (.invokevirtual 465, 3) := dk_182 1 209 (dk_at dksX1_lambda_new_2_0 20 rfl rfl)
theorem dX1_lambda_new_2_23 : decode cX1_lambda_new_2 23 = .ok (.invokevirtual 468, 3) := dk_182 1 212 (dk_at dksX1_lambda_new_2_1 0 rfl rfl)
theorem dX1_lambda_new_2_26 : decode cX1_lambda_new_2 26 = .ok (.return_, 1) := dk_177 (dk_at dksX1_lambda_new_2_1 3 rfl rfl)
abbrev cX1_nounCount : ByteArray := prog_1_method_17_code
def yX1_nounCount : MethodName := ⟨RX1, "nounCount", "()I"⟩
def dkwX1_nounCount_0 : List UInt8 := [42, 180, 0, 18, 180, 0, 142, 180, 0, 212, 172]
abbrev dktX1_nounCount_0 : List UInt8 := dkwX1_nounCount_0 ++ []
theorem dksX1_nounCount_0 : cX1_nounCount.data.toList.drop 0 = dktX1_nounCount_0 := by decide +kernel
theorem dX1_nounCount_0 : decode cX1_nounCount 0 = .ok (.aload_n 0, 1) := dk_42 (dk_at dksX1_nounCount_0 0 rfl rfl)
theorem dX1_nounCount_1 : decode cX1_nounCount 1 = .ok (.getfield 18, 3) := dk_180 0 18 (dk_at dksX1_nounCount_0 1 rfl rfl)
theorem dX1_nounCount_4 : decode cX1_nounCount 4 = .ok (.getfield 142, 3) := dk_180 0 142 (dk_at dksX1_nounCount_0 4 rfl rfl)
theorem dX1_nounCount_7 : decode cX1_nounCount 7 = .ok (.getfield 212, 3) := dk_180 0 212 (dk_at dksX1_nounCount_0 7 rfl rfl)
theorem dX1_nounCount_10 : decode cX1_nounCount 10 = .ok (.ireturn, 1) := dk_172 (dk_at dksX1_nounCount_0 10 rfl rfl)
abbrev cX1_verbCount : ByteArray := prog_1_method_18_code
def yX1_verbCount : MethodName := ⟨RX1, "verbCount", "()I"⟩
def dkwX1_verbCount_0 : List UInt8 := [42, 180, 0, 18, 180, 0, 142, 180, 0, 215, 172]
abbrev dktX1_verbCount_0 : List UInt8 := dkwX1_verbCount_0 ++ []
theorem dksX1_verbCount_0 : cX1_verbCount.data.toList.drop 0 = dktX1_verbCount_0 := by decide +kernel
theorem dX1_verbCount_0 : decode cX1_verbCount 0 = .ok (.aload_n 0, 1) := dk_42 (dk_at dksX1_verbCount_0 0 rfl rfl)
theorem dX1_verbCount_1 : decode cX1_verbCount 1 = .ok (.getfield 18, 3) := dk_180 0 18 (dk_at dksX1_verbCount_0 1 rfl rfl)
theorem dX1_verbCount_4 : decode cX1_verbCount 4 = .ok (.getfield 142, 3) := dk_180 0 142 (dk_at dksX1_verbCount_0 4 rfl rfl)
theorem dX1_verbCount_7 : decode cX1_verbCount 7 = .ok (.getfield 215, 3) := dk_180 0 215 (dk_at dksX1_verbCount_0 7 rfl rfl)
theorem dX1_verbCount_10 : decode cX1_verbCount 10 = .ok (.ireturn, 1) := dk_172 (dk_at dksX1_verbCount_0 10 rfl rfl)
abbrev cX1_shutCount : ByteArray := prog_1_method_49_code
def yX1_shutCount : MethodName := ⟨RX1, "shutCount", "()I"⟩
def dkwX1_shutCount_2 : List UInt8 := [60, 167, 255, 221, 27, 172]
abbrev dktX1_shutCount_2 : List UInt8 := dkwX1_shutCount_2 ++ []
def dkwX1_shutCount_1 : List UInt8 := [185, 0, 106, 1, 0, 192, 0, 168, 78, 27, 42, 45, 182, 1, 86, 153, 0, 7, 4, 167, 0, 4, 3, 96]
abbrev dktX1_shutCount_1 : List UInt8 := dkwX1_shutCount_1 ++ dktX1_shutCount_2
def dkwX1_shutCount_0 : List UInt8 := [3, 60, 42, 180, 0, 18, 180, 1, 90, 182, 1, 23, 77, 44, 185, 0, 100, 1, 0, 153, 0, 32, 44]
abbrev dktX1_shutCount_0 : List UInt8 := dkwX1_shutCount_0 ++ dktX1_shutCount_1
theorem dksX1_shutCount_0 : cX1_shutCount.data.toList.drop 0 = dktX1_shutCount_0 := by decide +kernel
theorem dksX1_shutCount_1 : cX1_shutCount.data.toList.drop 23 = dktX1_shutCount_1 := dk_seg dksX1_shutCount_0 23 rfl rfl
theorem dksX1_shutCount_2 : cX1_shutCount.data.toList.drop 47 = dktX1_shutCount_2 := dk_seg dksX1_shutCount_1 24 rfl rfl
theorem dX1_shutCount_0 : decode cX1_shutCount 0 = .ok (.iconst 0, 1) := dk_3 (dk_at dksX1_shutCount_0 0 rfl rfl)
theorem dX1_shutCount_1 : decode cX1_shutCount 1 = .ok (.istore_n 1, 1) := dk_60 (dk_at dksX1_shutCount_0 1 rfl rfl)
theorem dX1_shutCount_2 : decode cX1_shutCount 2 = .ok (.aload_n 0, 1) := dk_42 (dk_at dksX1_shutCount_0 2 rfl rfl)
theorem dX1_shutCount_3 : decode cX1_shutCount 3 = .ok (.getfield 18, 3) := dk_180 0 18 (dk_at dksX1_shutCount_0 3 rfl rfl)
theorem dX1_shutCount_6 : decode cX1_shutCount 6 = .ok (.getfield 346, 3) := dk_180 1 90 (dk_at dksX1_shutCount_0 6 rfl rfl)
theorem dX1_shutCount_9 : decode cX1_shutCount 9 = .ok (.invokevirtual 279, 3) := dk_182 1 23 (dk_at dksX1_shutCount_0 9 rfl rfl)
theorem dX1_shutCount_12 : decode cX1_shutCount 12 = .ok (.astore_n 2, 1) := dk_77 (dk_at dksX1_shutCount_0 12 rfl rfl)
theorem dX1_shutCount_13 : decode cX1_shutCount 13 = .ok (.aload_n 2, 1) := dk_44 (dk_at dksX1_shutCount_0 13 rfl rfl)
theorem dX1_shutCount_14 : decode cX1_shutCount 14 = .ok (.invokeinterface 100 1, 5) := by decide +kernel
theorem dX1_shutCount_19 : decode cX1_shutCount 19 = .ok (.ifCond .eq 32, 3) := dk_153 0 32 (dk_at dksX1_shutCount_0 19 rfl rfl)
theorem dX1_shutCount_22 : decode cX1_shutCount 22 = .ok (.aload_n 2, 1) := dk_44 (dk_at dksX1_shutCount_0 22 rfl rfl)
theorem dX1_shutCount_23 : decode cX1_shutCount 23 = .ok (.invokeinterface 106 1, 5) := by decide +kernel
theorem dX1_shutCount_28 : decode cX1_shutCount 28 = .ok (.checkcast 168, 3) := dk_192 0 168 (dk_at dksX1_shutCount_1 5 rfl rfl)
theorem dX1_shutCount_31 : decode cX1_shutCount 31 = .ok (.astore_n 3, 1) := dk_78 (dk_at dksX1_shutCount_1 8 rfl rfl)
theorem dX1_shutCount_32 : decode cX1_shutCount 32 = .ok (.iload_n 1, 1) := dk_27 (dk_at dksX1_shutCount_1 9 rfl rfl)
theorem dX1_shutCount_33 : decode cX1_shutCount 33 = .ok (.aload_n 0, 1) := dk_42 (dk_at dksX1_shutCount_1 10 rfl rfl)
theorem dX1_shutCount_34 : decode cX1_shutCount 34 = .ok (.aload_n 3, 1) := dk_45 (dk_at dksX1_shutCount_1 11 rfl rfl)
theorem dX1_shutCount_35 : decode cX1_shutCount 35 = .ok (.invokevirtual 342, 3) := dk_182 1 86 (dk_at dksX1_shutCount_1 12 rfl rfl)
theorem dX1_shutCount_38 : decode cX1_shutCount 38 = .ok (.ifCond .eq 7, 3) := dk_153 0 7 (dk_at dksX1_shutCount_1 15 rfl rfl)
theorem dX1_shutCount_41 : decode cX1_shutCount 41 = .ok (.iconst 1, 1) := dk_4 (dk_at dksX1_shutCount_1 18 rfl rfl)
theorem dX1_shutCount_42 : decode cX1_shutCount 42 = .ok (.goto 4, 3) := dk_167 0 4 (dk_at dksX1_shutCount_1 19 rfl rfl)
theorem dX1_shutCount_45 : decode cX1_shutCount 45 = .ok (.iconst 0, 1) := dk_3 (dk_at dksX1_shutCount_1 22 rfl rfl)
theorem dX1_shutCount_46 : decode cX1_shutCount 46 = .ok (.iadd, 1) := dk_96 (dk_at dksX1_shutCount_1 23 rfl rfl)
theorem dX1_shutCount_47 : decode cX1_shutCount 47 = .ok (.istore_n 1, 1) := dk_60 (dk_at dksX1_shutCount_2 0 rfl rfl)
theorem dX1_shutCount_48 : decode cX1_shutCount 48 = .ok (.goto (-35), 3) := dk_167 255 221 (dk_at dksX1_shutCount_2 1 rfl rfl)
theorem dX1_shutCount_51 : decode cX1_shutCount 51 = .ok (.iload_n 1, 1) := dk_27 (dk_at dksX1_shutCount_2 4 rfl rfl)
theorem dX1_shutCount_52 : decode cX1_shutCount 52 = .ok (.ireturn, 1) := dk_172 (dk_at dksX1_shutCount_2 5 rfl rfl)
abbrev cX1_isShut : ByteArray := prog_1_method_47_code
def yX1_isShut : MethodName := ⟨RX1, "isShut", "(LGateGrammar$Gate;)Z"⟩
def dkwX1_isShut_1 : List UInt8 := [3, 172]
abbrev dktX1_isShut_1 : List UInt8 := dkwX1_isShut_1 ++ []
def dkwX1_isShut_0 : List UInt8 := [43, 184, 0, 182, 77, 44, 198, 0, 18, 42, 44, 182, 1, 72, 180, 1, 76, 154, 0, 7, 4, 167, 0, 4]
abbrev dktX1_isShut_0 : List UInt8 := dkwX1_isShut_0 ++ dktX1_isShut_1
theorem dksX1_isShut_0 : cX1_isShut.data.toList.drop 0 = dktX1_isShut_0 := by decide +kernel
theorem dksX1_isShut_1 : cX1_isShut.data.toList.drop 24 = dktX1_isShut_1 := dk_seg dksX1_isShut_0 24 rfl rfl
theorem dX1_isShut_0 : decode cX1_isShut 0 = .ok (.aload_n 1, 1) := dk_43 (dk_at dksX1_isShut_0 0 rfl rfl)
theorem dX1_isShut_1 : decode cX1_isShut 1 = .ok (.invokestatic 182, 3) := dk_184 0 182 (dk_at dksX1_isShut_0 1 rfl rfl)
theorem dX1_isShut_4 : decode cX1_isShut 4 = .ok (.astore_n 2, 1) := dk_77 (dk_at dksX1_isShut_0 4 rfl rfl)
theorem dX1_isShut_5 : decode cX1_isShut 5 = .ok (.aload_n 2, 1) := dk_44 (dk_at dksX1_isShut_0 5 rfl rfl)
theorem dX1_isShut_6 : decode cX1_isShut 6 = .ok (.ifnull 18, 3) := dk_198 0 18 (dk_at dksX1_isShut_0 6 rfl rfl)
theorem dX1_isShut_9 : decode cX1_isShut 9 = .ok (.aload_n 0, 1) := dk_42 (dk_at dksX1_isShut_0 9 rfl rfl)
theorem dX1_isShut_10 : decode cX1_isShut 10 = .ok (.aload_n 2, 1) := dk_44 (dk_at dksX1_isShut_0 10 rfl rfl)
theorem dX1_isShut_11 : decode cX1_isShut 11 = .ok (.invokevirtual 328, 3) := dk_182 1 72 (dk_at dksX1_isShut_0 11 rfl rfl)
theorem dX1_isShut_14 : decode cX1_isShut 14 = .ok (.getfield 332, 3) := dk_180 1 76 (dk_at dksX1_isShut_0 14 rfl rfl)
theorem dX1_isShut_17 : decode cX1_isShut 17 = .ok (.ifCond .ne 7, 3) := dk_154 0 7 (dk_at dksX1_isShut_0 17 rfl rfl)
theorem dX1_isShut_20 : decode cX1_isShut 20 = .ok (.iconst 1, 1) := dk_4 (dk_at dksX1_isShut_0 20 rfl rfl)
theorem dX1_isShut_21 : decode cX1_isShut 21 = .ok (.goto 4, 3) := dk_167 0 4 (dk_at dksX1_isShut_0 21 rfl rfl)
theorem dX1_isShut_24 : decode cX1_isShut 24 = .ok (.iconst 0, 1) := dk_3 (dk_at dksX1_isShut_1 0 rfl rfl)
theorem dX1_isShut_25 : decode cX1_isShut 25 = .ok (.ireturn, 1) := dk_172 (dk_at dksX1_isShut_1 1 rfl rfl)
abbrev cX1_parse : ByteArray := prog_1_method_11_code
def yX1_parse : MethodName := ⟨RX1, "parse", "(LGateGrammar$Gate;)LGateGrammar$Sentence;"⟩
def dkwX1_parse_0 : List UInt8 := [187, 0, 120, 89, 42, 180, 0, 167, 183, 0, 173, 176, 76, 1, 176]
abbrev dktX1_parse_0 : List UInt8 := dkwX1_parse_0 ++ []
theorem dksX1_parse_0 : cX1_parse.data.toList.drop 0 = dktX1_parse_0 := by decide +kernel
theorem dX1_parse_0 : decode cX1_parse 0 = .ok (.new 120, 3) := dk_187 0 120 (dk_at dksX1_parse_0 0 rfl rfl)
theorem dX1_parse_3 : decode cX1_parse 3 = .ok (.dup, 1) := dk_89 (dk_at dksX1_parse_0 3 rfl rfl)
theorem dX1_parse_4 : decode cX1_parse 4 = .ok (.aload_n 0, 1) := dk_42 (dk_at dksX1_parse_0 4 rfl rfl)
theorem dX1_parse_5 : decode cX1_parse 5 = .ok (.getfield 167, 3) := dk_180 0 167 (dk_at dksX1_parse_0 5 rfl rfl)
theorem dX1_parse_8 : decode cX1_parse 8 = .ok (.invokespecial 173, 3) := dk_183 0 173 (dk_at dksX1_parse_0 8 rfl rfl)
theorem dX1_parse_11 : decode cX1_parse 11 = .ok (.areturn, 1) := dk_176 (dk_at dksX1_parse_0 11 rfl rfl)
theorem dX1_parse_12 : decode cX1_parse 12 = .ok (.astore_n 1, 1) := dk_76 (dk_at dksX1_parse_0 12 rfl rfl)
theorem dX1_parse_13 : decode cX1_parse 13 = .ok (.aconst_null, 1) := dk_1 (dk_at dksX1_parse_0 13 rfl rfl)
theorem dX1_parse_14 : decode cX1_parse 14 = .ok (.areturn, 1) := dk_176 (dk_at dksX1_parse_0 14 rfl rfl)
abbrev cX1_report : ByteArray := prog_1_method_9_code
def yX1_report : MethodName := ⟨RX1, "report", "(LGateGrammar$Sentence;)LGateGrammar$Report;"⟩
def dkwX1_report_3 : List UInt8 := [185, 0, 124, 5, 0, 132, 7, 1, 167, 255, 224, 167, 255, 187, 44, 176]
abbrev dktX1_report_3 : List UInt8 := dkwX1_report_3 ++ []
def dkwX1_report_2 : List UInt8 := [21, 7, 21, 6, 162, 0, 31, 25, 5, 21, 7, 50, 58, 8, 25, 8, 42, 180, 0, 18, 43, 25, 4, 44]
abbrev dktX1_report_2 : List UInt8 := dkwX1_report_2 ++ dktX1_report_3
def dkwX1_report_1 : List UInt8 := [185, 0, 106, 1, 0, 192, 0, 122, 58, 4, 42, 180, 0, 9, 58, 5, 25, 5, 190, 54, 6, 3, 54, 7]
abbrev dktX1_report_1 : List UInt8 := dkwX1_report_1 ++ dktX1_report_2
def dkwX1_report_0 : List UInt8 := [187, 0, 116, 89, 183, 0, 118, 77, 43, 182, 0, 119, 78, 45, 185, 0, 100, 1, 0, 153, 0, 66, 45]
abbrev dktX1_report_0 : List UInt8 := dkwX1_report_0 ++ dktX1_report_1
theorem dksX1_report_0 : cX1_report.data.toList.drop 0 = dktX1_report_0 := by decide +kernel
theorem dksX1_report_1 : cX1_report.data.toList.drop 23 = dktX1_report_1 := dk_seg dksX1_report_0 23 rfl rfl
theorem dksX1_report_2 : cX1_report.data.toList.drop 47 = dktX1_report_2 := dk_seg dksX1_report_1 24 rfl rfl
theorem dksX1_report_3 : cX1_report.data.toList.drop 71 = dktX1_report_3 := dk_seg dksX1_report_2 24 rfl rfl
theorem dX1_report_0 : decode cX1_report 0 = .ok (.new 116, 3) := dk_187 0 116 (dk_at dksX1_report_0 0 rfl rfl)
theorem dX1_report_3 : decode cX1_report 3 = .ok (.dup, 1) := dk_89 (dk_at dksX1_report_0 3 rfl rfl)
theorem dX1_report_4 : decode cX1_report 4 = .ok (.invokespecial 118, 3) := dk_183 0 118 (dk_at dksX1_report_0 4 rfl rfl)
theorem dX1_report_7 : decode cX1_report 7 = .ok (.astore_n 2, 1) := dk_77 (dk_at dksX1_report_0 7 rfl rfl)
theorem dX1_report_8 : decode cX1_report 8 = .ok (.aload_n 1, 1) := dk_43 (dk_at dksX1_report_0 8 rfl rfl)
theorem dX1_report_9 : decode cX1_report 9 = .ok (.invokevirtual 119, 3) := dk_182 0 119 (dk_at dksX1_report_0 9 rfl rfl)
theorem dX1_report_12 : decode cX1_report 12 = .ok (.astore_n 3, 1) := dk_78 (dk_at dksX1_report_0 12 rfl rfl)
theorem dX1_report_13 : decode cX1_report 13 = .ok (.aload_n 3, 1) := dk_45 (dk_at dksX1_report_0 13 rfl rfl)
theorem dX1_report_14 : decode cX1_report 14 = .ok (.invokeinterface 100 1, 5) := by decide +kernel
theorem dX1_report_19 : decode cX1_report 19 = .ok (.ifCond .eq 66, 3) := dk_153 0 66 (dk_at dksX1_report_0 19 rfl rfl)
theorem dX1_report_22 : decode cX1_report 22 = .ok (.aload_n 3, 1) := dk_45 (dk_at dksX1_report_0 22 rfl rfl)
theorem dX1_report_23 : decode cX1_report 23 = .ok (.invokeinterface 106 1, 5) := by decide +kernel
theorem dX1_report_28 : decode cX1_report 28 = .ok (.checkcast 122, 3) := dk_192 0 122 (dk_at dksX1_report_1 5 rfl rfl)
theorem dX1_report_31 : decode cX1_report 31 = .ok (.astore 4, 2) := dk_58 4 (dk_at dksX1_report_1 8 rfl rfl)
theorem dX1_report_33 : decode cX1_report 33 = .ok (.aload_n 0, 1) := dk_42 (dk_at dksX1_report_1 10 rfl rfl)
theorem dX1_report_34 : decode cX1_report 34 = .ok (.getfield 9, 3) := dk_180 0 9 (dk_at dksX1_report_1 11 rfl rfl)
theorem dX1_report_37 : decode cX1_report 37 = .ok (.astore 5, 2) := dk_58 5 (dk_at dksX1_report_1 14 rfl rfl)
theorem dX1_report_39 : decode cX1_report 39 = .ok (.aload 5, 2) := dk_25 5 (dk_at dksX1_report_1 16 rfl rfl)
theorem dX1_report_41 : decode cX1_report 41 = .ok (.arraylength, 1) := dk_190 (dk_at dksX1_report_1 18 rfl rfl)
theorem dX1_report_42 : decode cX1_report 42 = .ok (.istore 6, 2) := dk_54 6 (dk_at dksX1_report_1 19 rfl rfl)
theorem dX1_report_44 : decode cX1_report 44 = .ok (.iconst 0, 1) := dk_3 (dk_at dksX1_report_1 21 rfl rfl)
theorem dX1_report_45 : decode cX1_report 45 = .ok (.istore 7, 2) := dk_54 7 (dk_at dksX1_report_1 22 rfl rfl)
theorem dX1_report_47 : decode cX1_report 47 = .ok (.iload 7, 2) := dk_21 7 (dk_at dksX1_report_2 0 rfl rfl)
theorem dX1_report_49 : decode cX1_report 49 = .ok (.iload 6, 2) := dk_21 6 (dk_at dksX1_report_2 2 rfl rfl)
theorem dX1_report_51 : decode cX1_report 51 = .ok (.if_icmp .ge 31, 3) := dk_162 0 31 (dk_at dksX1_report_2 4 rfl rfl)
theorem dX1_report_54 : decode cX1_report 54 = .ok (.aload 5, 2) := dk_25 5 (dk_at dksX1_report_2 7 rfl rfl)
theorem dX1_report_56 : decode cX1_report 56 = .ok (.iload 7, 2) := dk_21 7 (dk_at dksX1_report_2 9 rfl rfl)
theorem dX1_report_58 : decode cX1_report 58 = .ok (.aaload, 1) := dk_50 (dk_at dksX1_report_2 11 rfl rfl)
theorem dX1_report_59 : decode cX1_report 59 = .ok (.astore 8, 2) := dk_58 8 (dk_at dksX1_report_2 12 rfl rfl)
theorem dX1_report_61 : decode cX1_report 61 = .ok (.aload 8, 2) := dk_25 8 (dk_at dksX1_report_2 14 rfl rfl)
theorem dX1_report_63 : decode cX1_report 63 = .ok (.aload_n 0, 1) := dk_42 (dk_at dksX1_report_2 16 rfl rfl)
theorem dX1_report_64 : decode cX1_report 64 = .ok (.getfield 18, 3) := dk_180 0 18 (dk_at dksX1_report_2 17 rfl rfl)
theorem dX1_report_67 : decode cX1_report 67 = .ok (.aload_n 1, 1) := dk_43 (dk_at dksX1_report_2 20 rfl rfl)
theorem dX1_report_68 : decode cX1_report 68 = .ok (.aload 4, 2) := dk_25 4 (dk_at dksX1_report_2 21 rfl rfl)
theorem dX1_report_70 : decode cX1_report 70 = .ok (.aload_n 2, 1) := dk_44 (dk_at dksX1_report_2 23 rfl rfl)
theorem dX1_report_71 : decode cX1_report 71 = .ok (.invokeinterface 124 5, 5) := by decide +kernel
theorem dX1_report_76 : decode cX1_report 76 = .ok (.iinc 7 1, 3) := dk_132 7 1 (dk_at dksX1_report_3 5 rfl rfl)
theorem dX1_report_79 : decode cX1_report 79 = .ok (.goto (-32), 3) := dk_167 255 224 (dk_at dksX1_report_3 8 rfl rfl)
theorem dX1_report_82 : decode cX1_report 82 = .ok (.goto (-69), 3) := dk_167 255 187 (dk_at dksX1_report_3 11 rfl rfl)
theorem dX1_report_85 : decode cX1_report 85 = .ok (.aload_n 2, 1) := dk_44 (dk_at dksX1_report_3 14 rfl rfl)
theorem dX1_report_86 : decode cX1_report 86 = .ok (.areturn, 1) := dk_176 (dk_at dksX1_report_3 15 rfl rfl)
abbrev cX1_meanTokens : ByteArray := prog_1_method_62_code
def yX1_meanTokens : MethodName := ⟨RX1, "meanTokens", "()D"⟩
def dkwX1_meanTokens_0 : List UInt8 := [42, 180, 0, 18, 182, 1, 177, 135, 20, 1, 179, 111, 175]
abbrev dktX1_meanTokens_0 : List UInt8 := dkwX1_meanTokens_0 ++ []
theorem dksX1_meanTokens_0 : cX1_meanTokens.data.toList.drop 0 = dktX1_meanTokens_0 := by decide +kernel
theorem dX1_meanTokens_0 : decode cX1_meanTokens 0 = .ok (.aload_n 0, 1) := dk_42 (dk_at dksX1_meanTokens_0 0 rfl rfl)
theorem dX1_meanTokens_1 : decode cX1_meanTokens 1 = .ok (.getfield 18, 3) := dk_180 0 18 (dk_at dksX1_meanTokens_0 1 rfl rfl)
theorem dX1_meanTokens_4 : decode cX1_meanTokens 4 = .ok (.invokevirtual 433, 3) := dk_182 1 177 (dk_at dksX1_meanTokens_0 4 rfl rfl)
theorem dX1_meanTokens_7 : decode cX1_meanTokens 7 = .ok (.i2d, 1) := dk_135 (dk_at dksX1_meanTokens_0 7 rfl rfl)
theorem dX1_meanTokens_8 : decode cX1_meanTokens 8 = .ok (.ldc2_w 435, 3) := dk_20 1 179 (dk_at dksX1_meanTokens_0 8 rfl rfl)
theorem dX1_meanTokens_11 : decode cX1_meanTokens 11 = .ok (.ddiv, 1) := dk_111 (dk_at dksX1_meanTokens_0 11 rfl rfl)
theorem dX1_meanTokens_12 : decode cX1_meanTokens 12 = .ok (.dreturn, 1) := dk_175 (dk_at dksX1_meanTokens_0 12 rfl rfl)
abbrev cX1_isConsistent : ByteArray := prog_1_method_64_code
def yX1_isConsistent : MethodName := ⟨RX1, "isConsistent", "()Z"⟩
def dkwX1_isConsistent_2 : List UInt8 := [182, 1, 192, 160, 0, 7, 4, 167, 0, 4, 3, 126, 60, 132, 2, 1, 167, 255, 200, 27, 172]
abbrev dktX1_isConsistent_2 : List UInt8 := dkwX1_isConsistent_2 ++ []
def dkwX1_isConsistent_1 : List UInt8 := [160, 0, 7, 4, 167, 0, 4, 3, 126, 60, 27, 29, 156, 0, 16, 42, 28, 182, 1, 189, 42, 28]
abbrev dktX1_isConsistent_1 : List UInt8 := dkwX1_isConsistent_1 ++ dktX1_isConsistent_2
def dkwX1_isConsistent_0 : List UInt8 := [4, 60, 3, 61, 28, 7, 162, 0, 57, 42, 28, 182, 1, 184, 62, 27, 29, 42, 28, 182, 1, 186]
abbrev dktX1_isConsistent_0 : List UInt8 := dkwX1_isConsistent_0 ++ dktX1_isConsistent_1
theorem dksX1_isConsistent_0 : cX1_isConsistent.data.toList.drop 0 = dktX1_isConsistent_0 := by decide +kernel
theorem dksX1_isConsistent_1 : cX1_isConsistent.data.toList.drop 22 = dktX1_isConsistent_1 := dk_seg dksX1_isConsistent_0 22 rfl rfl
theorem dksX1_isConsistent_2 : cX1_isConsistent.data.toList.drop 44 = dktX1_isConsistent_2 := dk_seg dksX1_isConsistent_1 22 rfl rfl
theorem dX1_isConsistent_0 : decode cX1_isConsistent 0 = .ok (.iconst 1, 1) := dk_4 (dk_at dksX1_isConsistent_0 0 rfl rfl)
theorem dX1_isConsistent_1 : decode cX1_isConsistent 1 = .ok (.istore_n 1, 1) := dk_60 (dk_at dksX1_isConsistent_0 1 rfl rfl)
theorem dX1_isConsistent_2 : decode cX1_isConsistent 2 = .ok (.iconst 0, 1) := dk_3 (dk_at dksX1_isConsistent_0 2 rfl rfl)
theorem dX1_isConsistent_3 : decode cX1_isConsistent 3 = .ok (.istore_n 2, 1) := dk_61 (dk_at dksX1_isConsistent_0 3 rfl rfl)
theorem dX1_isConsistent_4 : decode cX1_isConsistent 4 = .ok (.iload_n 2, 1) := dk_28 (dk_at dksX1_isConsistent_0 4 rfl rfl)
theorem dX1_isConsistent_5 : decode cX1_isConsistent 5 = .ok (.iconst 4, 1) := dk_7 (dk_at dksX1_isConsistent_0 5 rfl rfl)
theorem dX1_isConsistent_6 : decode cX1_isConsistent 6 = .ok (.if_icmp .ge 57, 3) := dk_162 0 57 (dk_at dksX1_isConsistent_0 6 rfl rfl)
theorem dX1_isConsistent_9 : decode cX1_isConsistent 9 = .ok (.aload_n 0, 1) := dk_42 (dk_at dksX1_isConsistent_0 9 rfl rfl)
theorem dX1_isConsistent_10 : decode cX1_isConsistent 10 = .ok (.iload_n 2, 1) := dk_28 (dk_at dksX1_isConsistent_0 10 rfl rfl)
theorem dX1_isConsistent_11 : decode cX1_isConsistent 11 = .ok (.invokevirtual 440, 3) := dk_182 1 184 (dk_at dksX1_isConsistent_0 11 rfl rfl)
theorem dX1_isConsistent_14 : decode cX1_isConsistent 14 = .ok (.istore_n 3, 1) := dk_62 (dk_at dksX1_isConsistent_0 14 rfl rfl)
theorem dX1_isConsistent_15 : decode cX1_isConsistent 15 = .ok (.iload_n 1, 1) := dk_27 (dk_at dksX1_isConsistent_0 15 rfl rfl)
theorem dX1_isConsistent_16 : decode cX1_isConsistent 16 = .ok (.iload_n 3, 1) := dk_29 (dk_at dksX1_isConsistent_0 16 rfl rfl)
theorem dX1_isConsistent_17 : decode cX1_isConsistent 17 = .ok (.aload_n 0, 1) := dk_42 (dk_at dksX1_isConsistent_0 17 rfl rfl)
theorem dX1_isConsistent_18 : decode cX1_isConsistent 18 = .ok (.iload_n 2, 1) := dk_28 (dk_at dksX1_isConsistent_0 18 rfl rfl)
theorem dX1_isConsistent_19 : decode cX1_isConsistent 19 = .ok (.invokevirtual 442, 3) := dk_182 1 186 (dk_at dksX1_isConsistent_0 19 rfl rfl)
theorem dX1_isConsistent_22 : decode cX1_isConsistent 22 = .ok (.if_icmp .ne 7, 3) := dk_160 0 7 (dk_at dksX1_isConsistent_1 0 rfl rfl)
theorem dX1_isConsistent_25 : decode cX1_isConsistent 25 = .ok (.iconst 1, 1) := dk_4 (dk_at dksX1_isConsistent_1 3 rfl rfl)
theorem dX1_isConsistent_26 : decode cX1_isConsistent 26 = .ok (.goto 4, 3) := dk_167 0 4 (dk_at dksX1_isConsistent_1 4 rfl rfl)
theorem dX1_isConsistent_29 : decode cX1_isConsistent 29 = .ok (.iconst 0, 1) := dk_3 (dk_at dksX1_isConsistent_1 7 rfl rfl)
theorem dX1_isConsistent_30 : decode cX1_isConsistent 30 = .ok (.iand, 1) := dk_126 (dk_at dksX1_isConsistent_1 8 rfl rfl)
theorem dX1_isConsistent_31 : decode cX1_isConsistent 31 = .ok (.istore_n 1, 1) := dk_60 (dk_at dksX1_isConsistent_1 9 rfl rfl)
theorem dX1_isConsistent_32 : decode cX1_isConsistent 32 = .ok (.iload_n 1, 1) := dk_27 (dk_at dksX1_isConsistent_1 10 rfl rfl)
theorem dX1_isConsistent_33 : decode cX1_isConsistent 33 = .ok (.iload_n 3, 1) := dk_29 (dk_at dksX1_isConsistent_1 11 rfl rfl)
theorem dX1_isConsistent_34 : decode cX1_isConsistent 34 = .ok (.ifCond .ge 16, 3) := dk_156 0 16 (dk_at dksX1_isConsistent_1 12 rfl rfl)
theorem dX1_isConsistent_37 : decode cX1_isConsistent 37 = .ok (.aload_n 0, 1) := dk_42 (dk_at dksX1_isConsistent_1 15 rfl rfl)
theorem dX1_isConsistent_38 : decode cX1_isConsistent 38 = .ok (.iload_n 2, 1) := dk_28 (dk_at dksX1_isConsistent_1 16 rfl rfl)
theorem dX1_isConsistent_39 : decode cX1_isConsistent 39 = .ok (.invokevirtual 445, 3) := dk_182 1 189 (dk_at dksX1_isConsistent_1 17 rfl rfl)
theorem dX1_isConsistent_42 : decode cX1_isConsistent 42 = .ok (.aload_n 0, 1) := dk_42 (dk_at dksX1_isConsistent_1 20 rfl rfl)
theorem dX1_isConsistent_43 : decode cX1_isConsistent 43 = .ok (.iload_n 2, 1) := dk_28 (dk_at dksX1_isConsistent_1 21 rfl rfl)
theorem dX1_isConsistent_44 : decode cX1_isConsistent 44 = .ok (.invokevirtual 448, 3) := dk_182 1 192 (dk_at dksX1_isConsistent_2 0 rfl rfl)
theorem dX1_isConsistent_47 : decode cX1_isConsistent 47 = .ok (.if_icmp .ne 7, 3) := dk_160 0 7 (dk_at dksX1_isConsistent_2 3 rfl rfl)
theorem dX1_isConsistent_50 : decode cX1_isConsistent 50 = .ok (.iconst 1, 1) := dk_4 (dk_at dksX1_isConsistent_2 6 rfl rfl)
theorem dX1_isConsistent_51 : decode cX1_isConsistent 51 = .ok (.goto 4, 3) := dk_167 0 4 (dk_at dksX1_isConsistent_2 7 rfl rfl)
theorem dX1_isConsistent_54 : decode cX1_isConsistent 54 = .ok (.iconst 0, 1) := dk_3 (dk_at dksX1_isConsistent_2 10 rfl rfl)
theorem dX1_isConsistent_55 : decode cX1_isConsistent 55 = .ok (.iand, 1) := dk_126 (dk_at dksX1_isConsistent_2 11 rfl rfl)
theorem dX1_isConsistent_56 : decode cX1_isConsistent 56 = .ok (.istore_n 1, 1) := dk_60 (dk_at dksX1_isConsistent_2 12 rfl rfl)
theorem dX1_isConsistent_57 : decode cX1_isConsistent 57 = .ok (.iinc 2 1, 3) := dk_132 2 1 (dk_at dksX1_isConsistent_2 13 rfl rfl)
theorem dX1_isConsistent_60 : decode cX1_isConsistent 60 = .ok (.goto (-56), 3) := dk_167 255 200 (dk_at dksX1_isConsistent_2 16 rfl rfl)
theorem dX1_isConsistent_63 : decode cX1_isConsistent 63 = .ok (.iload_n 1, 1) := dk_27 (dk_at dksX1_isConsistent_2 19 rfl rfl)
theorem dX1_isConsistent_64 : decode cX1_isConsistent 64 = .ok (.ireturn, 1) := dk_172 (dk_at dksX1_isConsistent_2 20 rfl rfl)
abbrev cX1_syntaxError : ByteArray := prog_1_method_33_code
def yX1_syntaxError : MethodName := ⟨RX1, "syntaxError", "(I)I"⟩
def dkwX1_syntaxError_1 : List UInt8 := [180, 1, 7, 172]
abbrev dktX1_syntaxError_1 : List UInt8 := dkwX1_syntaxError_1 ++ []
def dkwX1_syntaxError_0 : List UInt8 := [187, 0, 120, 89, 42, 180, 0, 18, 27, 182, 0, 178, 180, 0, 167, 183, 0, 173, 77, 2, 172, 77, 44]
abbrev dktX1_syntaxError_0 : List UInt8 := dkwX1_syntaxError_0 ++ dktX1_syntaxError_1
theorem dksX1_syntaxError_0 : cX1_syntaxError.data.toList.drop 0 = dktX1_syntaxError_0 := by decide +kernel
theorem dksX1_syntaxError_1 : cX1_syntaxError.data.toList.drop 23 = dktX1_syntaxError_1 := dk_seg dksX1_syntaxError_0 23 rfl rfl
theorem dX1_syntaxError_0 : decode cX1_syntaxError 0 = .ok (.new 120, 3) := dk_187 0 120 (dk_at dksX1_syntaxError_0 0 rfl rfl)
theorem dX1_syntaxError_3 : decode cX1_syntaxError 3 = .ok (.dup, 1) := dk_89 (dk_at dksX1_syntaxError_0 3 rfl rfl)
theorem dX1_syntaxError_4 : decode cX1_syntaxError 4 = .ok (.aload_n 0, 1) := dk_42 (dk_at dksX1_syntaxError_0 4 rfl rfl)
theorem dX1_syntaxError_5 : decode cX1_syntaxError 5 = .ok (.getfield 18, 3) := dk_180 0 18 (dk_at dksX1_syntaxError_0 5 rfl rfl)
theorem dX1_syntaxError_8 : decode cX1_syntaxError 8 = .ok (.iload_n 1, 1) := dk_27 (dk_at dksX1_syntaxError_0 8 rfl rfl)
theorem dX1_syntaxError_9 : decode cX1_syntaxError 9 = .ok (.invokevirtual 178, 3) := dk_182 0 178 (dk_at dksX1_syntaxError_0 9 rfl rfl)
theorem dX1_syntaxError_12 : decode cX1_syntaxError 12 = .ok (.getfield 167, 3) := dk_180 0 167 (dk_at dksX1_syntaxError_0 12 rfl rfl)
theorem dX1_syntaxError_15 : decode cX1_syntaxError 15 = .ok (.invokespecial 173, 3) := dk_183 0 173 (dk_at dksX1_syntaxError_0 15 rfl rfl)
theorem dX1_syntaxError_18 : decode cX1_syntaxError 18 = .ok (.astore_n 2, 1) := dk_77 (dk_at dksX1_syntaxError_0 18 rfl rfl)
theorem dX1_syntaxError_19 : decode cX1_syntaxError 19 = .ok (.iconst (-1), 1) := dk_2 (dk_at dksX1_syntaxError_0 19 rfl rfl)
theorem dX1_syntaxError_20 : decode cX1_syntaxError 20 = .ok (.ireturn, 1) := dk_172 (dk_at dksX1_syntaxError_0 20 rfl rfl)
theorem dX1_syntaxError_21 : decode cX1_syntaxError 21 = .ok (.astore_n 2, 1) := dk_77 (dk_at dksX1_syntaxError_0 21 rfl rfl)
theorem dX1_syntaxError_22 : decode cX1_syntaxError 22 = .ok (.aload_n 2, 1) := dk_44 (dk_at dksX1_syntaxError_0 22 rfl rfl)
theorem dX1_syntaxError_23 : decode cX1_syntaxError 23 = .ok (.getfield 263, 3) := dk_180 1 7 (dk_at dksX1_syntaxError_1 0 rfl rfl)
theorem dX1_syntaxError_26 : decode cX1_syntaxError 26 = .ok (.ireturn, 1) := dk_172 (dk_at dksX1_syntaxError_1 3 rfl rfl)
abbrev cX1_syntaxErrorByLoop : ByteArray := prog_1_method_34_code
def yX1_syntaxErrorByLoop : MethodName := ⟨RX1, "syntaxErrorByLoop", "(I)I"⟩
def dkwX1_syntaxErrorByLoop_0 : List UInt8 := [42, 180, 0, 18, 27, 182, 0, 178, 180, 0, 167, 184, 1, 10, 182, 1, 14, 172]
abbrev dktX1_syntaxErrorByLoop_0 : List UInt8 := dkwX1_syntaxErrorByLoop_0 ++ []
theorem dksX1_syntaxErrorByLoop_0 : cX1_syntaxErrorByLoop.data.toList.drop 0 = dktX1_syntaxErrorByLoop_0 := by decide +kernel
theorem dX1_syntaxErrorByLoop_0 : decode cX1_syntaxErrorByLoop 0 = .ok (.aload_n 0, 1) := dk_42 (dk_at dksX1_syntaxErrorByLoop_0 0 rfl rfl)
theorem dX1_syntaxErrorByLoop_1 : decode cX1_syntaxErrorByLoop 1 = .ok (.getfield 18, 3) := dk_180 0 18 (dk_at dksX1_syntaxErrorByLoop_0 1 rfl rfl)
theorem dX1_syntaxErrorByLoop_4 : decode cX1_syntaxErrorByLoop 4 = .ok (.iload_n 1, 1) := dk_27 (dk_at dksX1_syntaxErrorByLoop_0 4 rfl rfl)
theorem dX1_syntaxErrorByLoop_5 : decode cX1_syntaxErrorByLoop 5 = .ok (.invokevirtual 178, 3) := dk_182 0 178 (dk_at dksX1_syntaxErrorByLoop_0 5 rfl rfl)
theorem dX1_syntaxErrorByLoop_8 : decode cX1_syntaxErrorByLoop 8 = .ok (.getfield 167, 3) := dk_180 0 167 (dk_at dksX1_syntaxErrorByLoop_0 8 rfl rfl)
theorem dX1_syntaxErrorByLoop_11 : decode cX1_syntaxErrorByLoop 11 = .ok (.invokestatic 266, 3) := dk_184 1 10 (dk_at dksX1_syntaxErrorByLoop_0 11 rfl rfl)
theorem dX1_syntaxErrorByLoop_14 : decode cX1_syntaxErrorByLoop 14 = .ok (.invokevirtual 270, 3) := dk_182 1 14 (dk_at dksX1_syntaxErrorByLoop_0 14 rfl rfl)
theorem dX1_syntaxErrorByLoop_17 : decode cX1_syntaxErrorByLoop 17 = .ok (.ireturn, 1) := dk_172 (dk_at dksX1_syntaxErrorByLoop_0 17 rfl rfl)
abbrev cX1_scan : ByteArray := prog_1_method_8_code
def yX1_scan : MethodName := ⟨RX1, "scan", "(Ljava/util/List;)LGateGrammar$Scanner;"⟩
def dkwX1_scan_1 : List UInt8 := [44, 185, 0, 106, 1, 0, 192, 0, 110, 78, 43, 45, 182, 0, 112, 54, 4, 167, 255, 230, 43, 176]
abbrev dktX1_scan_1 : List UInt8 := dkwX1_scan_1 ++ []
def dkwX1_scan_0 : List UInt8 := [187, 0, 93, 89, 183, 0, 95, 76, 42, 185, 0, 96, 1, 0, 77, 44, 185, 0, 100, 1, 0, 153, 0, 23]
abbrev dktX1_scan_0 : List UInt8 := dkwX1_scan_0 ++ dktX1_scan_1
theorem dksX1_scan_0 : cX1_scan.data.toList.drop 0 = dktX1_scan_0 := by decide +kernel
theorem dksX1_scan_1 : cX1_scan.data.toList.drop 24 = dktX1_scan_1 := dk_seg dksX1_scan_0 24 rfl rfl
theorem dX1_scan_0 : decode cX1_scan 0 = .ok (.new 93, 3) := dk_187 0 93 (dk_at dksX1_scan_0 0 rfl rfl)
theorem dX1_scan_3 : decode cX1_scan 3 = .ok (.dup, 1) := dk_89 (dk_at dksX1_scan_0 3 rfl rfl)
theorem dX1_scan_4 : decode cX1_scan 4 = .ok (.invokespecial 95, 3) := dk_183 0 95 (dk_at dksX1_scan_0 4 rfl rfl)
theorem dX1_scan_7 : decode cX1_scan 7 = .ok (.astore_n 1, 1) := dk_76 (dk_at dksX1_scan_0 7 rfl rfl)
theorem dX1_scan_8 : decode cX1_scan 8 = .ok (.aload_n 0, 1) := dk_42 (dk_at dksX1_scan_0 8 rfl rfl)
theorem dX1_scan_9 : decode cX1_scan 9 = .ok (.invokeinterface 96 1, 5) := by decide +kernel
theorem dX1_scan_14 : decode cX1_scan 14 = .ok (.astore_n 2, 1) := dk_77 (dk_at dksX1_scan_0 14 rfl rfl)
theorem dX1_scan_15 : decode cX1_scan 15 = .ok (.aload_n 2, 1) := dk_44 (dk_at dksX1_scan_0 15 rfl rfl)
theorem dX1_scan_16 : decode cX1_scan 16 = .ok (.invokeinterface 100 1, 5) := by decide +kernel
theorem dX1_scan_21 : decode cX1_scan 21 = .ok (.ifCond .eq 23, 3) := dk_153 0 23 (dk_at dksX1_scan_0 21 rfl rfl)
theorem dX1_scan_24 : decode cX1_scan 24 = .ok (.aload_n 2, 1) := dk_44 (dk_at dksX1_scan_1 0 rfl rfl)
theorem dX1_scan_25 : decode cX1_scan 25 = .ok (.invokeinterface 106 1, 5) := by decide +kernel
theorem dX1_scan_30 : decode cX1_scan 30 = .ok (.checkcast 110, 3) := dk_192 0 110 (dk_at dksX1_scan_1 6 rfl rfl)
theorem dX1_scan_33 : decode cX1_scan 33 = .ok (.astore_n 3, 1) := dk_78 (dk_at dksX1_scan_1 9 rfl rfl)
theorem dX1_scan_34 : decode cX1_scan 34 = .ok (.aload_n 1, 1) := dk_43 (dk_at dksX1_scan_1 10 rfl rfl)
theorem dX1_scan_35 : decode cX1_scan 35 = .ok (.aload_n 3, 1) := dk_45 (dk_at dksX1_scan_1 11 rfl rfl)
theorem dX1_scan_36 : decode cX1_scan 36 = .ok (.invokevirtual 112, 3) := dk_182 0 112 (dk_at dksX1_scan_1 12 rfl rfl)
theorem dX1_scan_39 : decode cX1_scan 39 = .ok (.istore 4, 2) := dk_54 4 (dk_at dksX1_scan_1 15 rfl rfl)
theorem dX1_scan_41 : decode cX1_scan 41 = .ok (.goto (-26), 3) := dk_167 255 230 (dk_at dksX1_scan_1 17 rfl rfl)
theorem dX1_scan_44 : decode cX1_scan 44 = .ok (.aload_n 1, 1) := dk_43 (dk_at dksX1_scan_1 20 rfl rfl)
theorem dX1_scan_45 : decode cX1_scan 45 = .ok (.areturn, 1) := dk_176 (dk_at dksX1_scan_1 21 rfl rfl)
abbrev cX1_disagreementCount : ByteArray := prog_1_method_44_code
def yX1_disagreementCount : MethodName := ⟨RX1, "disagreementCount", "(I)I"⟩
def dkwX1_disagreementCount_0 : List UInt8 := [42, 42, 27, 182, 1, 31, 182, 1, 72, 180, 1, 76, 172]
abbrev dktX1_disagreementCount_0 : List UInt8 := dkwX1_disagreementCount_0 ++ []
theorem dksX1_disagreementCount_0 : cX1_disagreementCount.data.toList.drop 0 = dktX1_disagreementCount_0 := by decide +kernel
theorem dX1_disagreementCount_0 : decode cX1_disagreementCount 0 = .ok (.aload_n 0, 1) := dk_42 (dk_at dksX1_disagreementCount_0 0 rfl rfl)
theorem dX1_disagreementCount_1 : decode cX1_disagreementCount 1 = .ok (.aload_n 0, 1) := dk_42 (dk_at dksX1_disagreementCount_0 1 rfl rfl)
theorem dX1_disagreementCount_2 : decode cX1_disagreementCount 2 = .ok (.iload_n 1, 1) := dk_27 (dk_at dksX1_disagreementCount_0 2 rfl rfl)
theorem dX1_disagreementCount_3 : decode cX1_disagreementCount 3 = .ok (.invokevirtual 287, 3) := dk_182 1 31 (dk_at dksX1_disagreementCount_0 3 rfl rfl)
theorem dX1_disagreementCount_6 : decode cX1_disagreementCount 6 = .ok (.invokevirtual 328, 3) := dk_182 1 72 (dk_at dksX1_disagreementCount_0 6 rfl rfl)
theorem dX1_disagreementCount_9 : decode cX1_disagreementCount 9 = .ok (.getfield 332, 3) := dk_180 1 76 (dk_at dksX1_disagreementCount_0 9 rfl rfl)
theorem dX1_disagreementCount_12 : decode cX1_disagreementCount 12 = .ok (.ireturn, 1) := dk_172 (dk_at dksX1_disagreementCount_0 12 rfl rfl)
abbrev cX1_sentence : ByteArray := prog_1_method_12_code
def yX1_sentence : MethodName := ⟨RX1, "sentence", "(I)LGateGrammar$Sentence;"⟩
def dkwX1_sentence_1 : List UInt8 := [44, 176]
abbrev dktX1_sentence_1 : List UInt8 := dkwX1_sentence_1 ++ []
def dkwX1_sentence_0 : List UInt8 := [42, 180, 0, 18, 27, 182, 0, 178, 184, 0, 182, 77, 44, 198, 0, 7, 4, 167, 0, 4, 3, 184, 0, 186]
abbrev dktX1_sentence_0 : List UInt8 := dkwX1_sentence_0 ++ dktX1_sentence_1
theorem dksX1_sentence_0 : cX1_sentence.data.toList.drop 0 = dktX1_sentence_0 := by decide +kernel
theorem dksX1_sentence_1 : cX1_sentence.data.toList.drop 24 = dktX1_sentence_1 := dk_seg dksX1_sentence_0 24 rfl rfl
theorem dX1_sentence_0 : decode cX1_sentence 0 = .ok (.aload_n 0, 1) := dk_42 (dk_at dksX1_sentence_0 0 rfl rfl)
theorem dX1_sentence_1 : decode cX1_sentence 1 = .ok (.getfield 18, 3) := dk_180 0 18 (dk_at dksX1_sentence_0 1 rfl rfl)
theorem dX1_sentence_4 : decode cX1_sentence 4 = .ok (.iload_n 1, 1) := dk_27 (dk_at dksX1_sentence_0 4 rfl rfl)
theorem dX1_sentence_5 : decode cX1_sentence 5 = .ok (.invokevirtual 178, 3) := dk_182 0 178 (dk_at dksX1_sentence_0 5 rfl rfl)
theorem dX1_sentence_8 : decode cX1_sentence 8 = .ok (.invokestatic 182, 3) := dk_184 0 182 (dk_at dksX1_sentence_0 8 rfl rfl)
theorem dX1_sentence_11 : decode cX1_sentence 11 = .ok (.astore_n 2, 1) := dk_77 (dk_at dksX1_sentence_0 11 rfl rfl)
theorem dX1_sentence_12 : decode cX1_sentence 12 = .ok (.aload_n 2, 1) := dk_44 (dk_at dksX1_sentence_0 12 rfl rfl)
theorem dX1_sentence_13 : decode cX1_sentence 13 = .ok (.ifnull 7, 3) := dk_198 0 7 (dk_at dksX1_sentence_0 13 rfl rfl)
theorem dX1_sentence_16 : decode cX1_sentence 16 = .ok (.iconst 1, 1) := dk_4 (dk_at dksX1_sentence_0 16 rfl rfl)
theorem dX1_sentence_17 : decode cX1_sentence 17 = .ok (.goto 4, 3) := dk_167 0 4 (dk_at dksX1_sentence_0 17 rfl rfl)
theorem dX1_sentence_20 : decode cX1_sentence 20 = .ok (.iconst 0, 1) := dk_3 (dk_at dksX1_sentence_0 20 rfl rfl)
theorem dX1_sentence_21 : decode cX1_sentence 21 = .ok (.invokestatic 186, 3) := dk_184 0 186 (dk_at dksX1_sentence_0 21 rfl rfl)
theorem dX1_sentence_24 : decode cX1_sentence 24 = .ok (.aload_n 2, 1) := dk_44 (dk_at dksX1_sentence_1 0 rfl rfl)
theorem dX1_sentence_25 : decode cX1_sentence 25 = .ok (.areturn, 1) := dk_176 (dk_at dksX1_sentence_1 1 rfl rfl)
abbrev cX1_checkElement : ByteArray := prog_1_method_5_code
def yX1_checkElement : MethodName := ⟨RX1, "checkElement", "(Z)V"⟩
def dkwX1_checkElement_0 : List UInt8 := [26, 154, 0, 11, 187, 0, 67, 89, 183, 0, 69, 191, 177]
abbrev dktX1_checkElement_0 : List UInt8 := dkwX1_checkElement_0 ++ []
theorem dksX1_checkElement_0 : cX1_checkElement.data.toList.drop 0 = dktX1_checkElement_0 := by decide +kernel
theorem dX1_checkElement_0 : decode cX1_checkElement 0 = .ok (.iload_n 0, 1) := dk_26 (dk_at dksX1_checkElement_0 0 rfl rfl)
theorem dX1_checkElement_1 : decode cX1_checkElement 1 = .ok (.ifCond .ne 11, 3) := dk_154 0 11 (dk_at dksX1_checkElement_0 1 rfl rfl)
theorem dX1_checkElement_4 : decode cX1_checkElement 4 = .ok (.new 67, 3) := dk_187 0 67 (dk_at dksX1_checkElement_0 4 rfl rfl)
theorem dX1_checkElement_7 : decode cX1_checkElement 7 = .ok (.dup, 1) := dk_89 (dk_at dksX1_checkElement_0 7 rfl rfl)
theorem dX1_checkElement_8 : decode cX1_checkElement 8 = .ok (.invokespecial 69, 3) := dk_183 0 69 (dk_at dksX1_checkElement_0 8 rfl rfl)
theorem dX1_checkElement_11 : decode cX1_checkElement 11 = .ok (.athrow, 1) := dk_191 (dk_at dksX1_checkElement_0 11 rfl rfl)
theorem dX1_checkElement_12 : decode cX1_checkElement 12 = .ok (.return_, 1) := dk_177 (dk_at dksX1_checkElement_0 12 rfl rfl)
abbrev cX1_disagreementCountByLoop : ByteArray := prog_1_method_45_code
def yX1_disagreementCountByLoop : MethodName := ⟨RX1, "disagreementCountByLoop", "(I)I"⟩
def dkwX1_disagreementCountByLoop_1 : List UInt8 := [180, 0, 167, 182, 1, 79, 172]
abbrev dktX1_disagreementCountByLoop_1 : List UInt8 := dkwX1_disagreementCountByLoop_1 ++ []
def dkwX1_disagreementCountByLoop_0 : List UInt8 := [42, 180, 0, 18, 27, 182, 0, 178, 77, 44, 180, 0, 167, 184, 1, 10, 182, 1, 24, 184, 0, 186, 42, 44]
abbrev dktX1_disagreementCountByLoop_0 : List UInt8 := dkwX1_disagreementCountByLoop_0 ++ dktX1_disagreementCountByLoop_1
theorem dksX1_disagreementCountByLoop_0 : cX1_disagreementCountByLoop.data.toList.drop 0 = dktX1_disagreementCountByLoop_0 := by decide +kernel
theorem dksX1_disagreementCountByLoop_1 : cX1_disagreementCountByLoop.data.toList.drop 24 = dktX1_disagreementCountByLoop_1 := dk_seg dksX1_disagreementCountByLoop_0 24 rfl rfl
theorem dX1_disagreementCountByLoop_0 : decode cX1_disagreementCountByLoop 0 = .ok (.aload_n 0, 1) := dk_42 (dk_at dksX1_disagreementCountByLoop_0 0 rfl rfl)
theorem dX1_disagreementCountByLoop_1 : decode cX1_disagreementCountByLoop 1 = .ok (.getfield 18, 3) := dk_180 0 18 (dk_at dksX1_disagreementCountByLoop_0 1 rfl rfl)
theorem dX1_disagreementCountByLoop_4 : decode cX1_disagreementCountByLoop 4 = .ok (.iload_n 1, 1) := dk_27 (dk_at dksX1_disagreementCountByLoop_0 4 rfl rfl)
theorem dX1_disagreementCountByLoop_5 : decode cX1_disagreementCountByLoop 5 = .ok (.invokevirtual 178, 3) := dk_182 0 178 (dk_at dksX1_disagreementCountByLoop_0 5 rfl rfl)
theorem dX1_disagreementCountByLoop_8 : decode cX1_disagreementCountByLoop 8 = .ok (.astore_n 2, 1) := dk_77 (dk_at dksX1_disagreementCountByLoop_0 8 rfl rfl)
theorem dX1_disagreementCountByLoop_9 : decode cX1_disagreementCountByLoop 9 = .ok (.aload_n 2, 1) := dk_44 (dk_at dksX1_disagreementCountByLoop_0 9 rfl rfl)
theorem dX1_disagreementCountByLoop_10 : decode cX1_disagreementCountByLoop 10 = .ok (.getfield 167, 3) := dk_180 0 167 (dk_at dksX1_disagreementCountByLoop_0 10 rfl rfl)
theorem dX1_disagreementCountByLoop_13 : decode cX1_disagreementCountByLoop 13 = .ok (.invokestatic 266, 3) := dk_184 1 10 (dk_at dksX1_disagreementCountByLoop_0 13 rfl rfl)
theorem dX1_disagreementCountByLoop_16 : decode cX1_disagreementCountByLoop 16 = .ok (.invokevirtual 280, 3) := dk_182 1 24 (dk_at dksX1_disagreementCountByLoop_0 16 rfl rfl)
theorem dX1_disagreementCountByLoop_19 : decode cX1_disagreementCountByLoop 19 = .ok (.invokestatic 186, 3) := dk_184 0 186 (dk_at dksX1_disagreementCountByLoop_0 19 rfl rfl)
theorem dX1_disagreementCountByLoop_22 : decode cX1_disagreementCountByLoop 22 = .ok (.aload_n 0, 1) := dk_42 (dk_at dksX1_disagreementCountByLoop_0 22 rfl rfl)
theorem dX1_disagreementCountByLoop_23 : decode cX1_disagreementCountByLoop 23 = .ok (.aload_n 2, 1) := dk_44 (dk_at dksX1_disagreementCountByLoop_0 23 rfl rfl)
theorem dX1_disagreementCountByLoop_24 : decode cX1_disagreementCountByLoop 24 = .ok (.getfield 167, 3) := dk_180 0 167 (dk_at dksX1_disagreementCountByLoop_1 0 rfl rfl)
theorem dX1_disagreementCountByLoop_27 : decode cX1_disagreementCountByLoop 27 = .ok (.invokevirtual 335, 3) := dk_182 1 79 (dk_at dksX1_disagreementCountByLoop_1 3 rfl rfl)
theorem dX1_disagreementCountByLoop_30 : decode cX1_disagreementCountByLoop 30 = .ok (.ireturn, 1) := dk_172 (dk_at dksX1_disagreementCountByLoop_1 6 rfl rfl)
abbrev cX1_disagreementsByLoop : ByteArray := prog_1_method_10_code
def yX1_disagreementsByLoop : MethodName := ⟨RX1, "disagreementsByLoop", "(Ljava/util/List;)I"⟩
def dkwX1_disagreementsByLoop_9 : List UInt8 := [167, 0, 15, 44, 182, 0, 164, 192, 0, 130, 58, 11, 167, 0, 3, 167, 255, 67, 21, 4, 172]
abbrev dktX1_disagreementsByLoop_9 : List UInt8 := dkwX1_disagreementsByLoop_9 ++ []
def dkwX1_disagreementsByLoop_8 : List UInt8 := [96, 54, 4, 167, 0, 34, 44, 187, 0, 130, 89, 25, 5, 180, 0, 155, 183, 0, 132, 182, 0, 133]
abbrev dktX1_disagreementsByLoop_8 : List UInt8 := dkwX1_disagreementsByLoop_8 ++ dktX1_disagreementsByLoop_9
def dkwX1_disagreementsByLoop_7 : List UInt8 := [167, 0, 61, 25, 7, 58, 5, 21, 4, 44, 182, 0, 158, 192, 0, 130, 25, 7, 180, 0, 155, 182, 0, 161]
abbrev dktX1_disagreementsByLoop_7 : List UInt8 := dkwX1_disagreementsByLoop_7 ++ dktX1_disagreementsByLoop_8
def dkwX1_disagreementsByLoop_6 : List UInt8 := [54, 10, 21, 4, 25, 7, 180, 0, 155, 21, 10, 159, 0, 7, 4, 167, 0, 4, 3, 96, 54, 4]
abbrev dktX1_disagreementsByLoop_6 : List UInt8 := dkwX1_disagreementsByLoop_6 ++ dktX1_disagreementsByLoop_7
def dkwX1_disagreementsByLoop_5 : List UInt8 := [21, 8, 153, 0, 21, 42, 180, 0, 18, 180, 0, 142, 25, 5, 180, 0, 146, 182, 0, 149, 167, 0, 4, 3]
abbrev dktX1_disagreementsByLoop_5 : List UInt8 := dkwX1_disagreementsByLoop_5 ++ dktX1_disagreementsByLoop_6
def dkwX1_disagreementsByLoop_4 : List UInt8 := [170, 0, 0, 0, 0, 0, 0, 139, 0, 0, 0, 0, 0, 0, 0, 3, 0, 0, 0, 32, 0, 0, 0, 81, 0, 0, 0, 108, 0, 0, 0, 127]
abbrev dktX1_disagreementsByLoop_4 : List UInt8 := dkwX1_disagreementsByLoop_4 ++ dktX1_disagreementsByLoop_5
def dkwX1_disagreementsByLoop_3 : List UInt8 := [5, 160, 0, 7, 4, 167, 0, 4, 3, 54, 8, 45, 25, 7, 182, 0, 112, 54, 9, 25, 7, 180, 0, 139]
abbrev dktX1_disagreementsByLoop_3 : List UInt8 := dkwX1_disagreementsByLoop_3 ++ dktX1_disagreementsByLoop_4
def dkwX1_disagreementsByLoop_2 : List UInt8 := [185, 0, 100, 1, 0, 153, 0, 185, 25, 6, 185, 0, 106, 1, 0, 192, 0, 110, 58, 7, 45, 180, 0, 137]
abbrev dktX1_disagreementsByLoop_2 : List UInt8 := dkwX1_disagreementsByLoop_2 ++ dktX1_disagreementsByLoop_3
def dkwX1_disagreementsByLoop_1 : List UInt8 := [183, 0, 95, 78, 3, 54, 4, 1, 58, 5, 43, 185, 0, 96, 1, 0, 58, 6, 25, 6]
abbrev dktX1_disagreementsByLoop_1 : List UInt8 := dkwX1_disagreementsByLoop_1 ++ dktX1_disagreementsByLoop_2
def dkwX1_disagreementsByLoop_0 : List UInt8 := [187, 0, 127, 89, 183, 0, 129, 77, 44, 187, 0, 130, 89, 6, 183, 0, 132, 182, 0, 133, 187, 0, 93, 89]
abbrev dktX1_disagreementsByLoop_0 : List UInt8 := dkwX1_disagreementsByLoop_0 ++ dktX1_disagreementsByLoop_1
theorem dksX1_disagreementsByLoop_0 : cX1_disagreementsByLoop.data.toList.drop 0 = dktX1_disagreementsByLoop_0 := by decide +kernel
theorem dksX1_disagreementsByLoop_1 : cX1_disagreementsByLoop.data.toList.drop 24 = dktX1_disagreementsByLoop_1 := dk_seg dksX1_disagreementsByLoop_0 24 rfl rfl
theorem dksX1_disagreementsByLoop_2 : cX1_disagreementsByLoop.data.toList.drop 44 = dktX1_disagreementsByLoop_2 := dk_seg dksX1_disagreementsByLoop_1 20 rfl rfl
theorem dksX1_disagreementsByLoop_3 : cX1_disagreementsByLoop.data.toList.drop 68 = dktX1_disagreementsByLoop_3 := dk_seg dksX1_disagreementsByLoop_2 24 rfl rfl
theorem dksX1_disagreementsByLoop_4 : cX1_disagreementsByLoop.data.toList.drop 92 = dktX1_disagreementsByLoop_4 := dk_seg dksX1_disagreementsByLoop_3 24 rfl rfl
theorem dksX1_disagreementsByLoop_5 : cX1_disagreementsByLoop.data.toList.drop 124 = dktX1_disagreementsByLoop_5 := dk_seg dksX1_disagreementsByLoop_4 32 rfl rfl
theorem dksX1_disagreementsByLoop_6 : cX1_disagreementsByLoop.data.toList.drop 148 = dktX1_disagreementsByLoop_6 := dk_seg dksX1_disagreementsByLoop_5 24 rfl rfl
theorem dksX1_disagreementsByLoop_7 : cX1_disagreementsByLoop.data.toList.drop 170 = dktX1_disagreementsByLoop_7 := dk_seg dksX1_disagreementsByLoop_6 22 rfl rfl
theorem dksX1_disagreementsByLoop_8 : cX1_disagreementsByLoop.data.toList.drop 194 = dktX1_disagreementsByLoop_8 := dk_seg dksX1_disagreementsByLoop_7 24 rfl rfl
theorem dksX1_disagreementsByLoop_9 : cX1_disagreementsByLoop.data.toList.drop 216 = dktX1_disagreementsByLoop_9 := dk_seg dksX1_disagreementsByLoop_8 22 rfl rfl
theorem dX1_disagreementsByLoop_0 : decode cX1_disagreementsByLoop 0 = .ok (.new 127, 3) := dk_187 0 127 (dk_at dksX1_disagreementsByLoop_0 0 rfl rfl)
theorem dX1_disagreementsByLoop_3 : decode cX1_disagreementsByLoop 3 = .ok (.dup, 1) := dk_89 (dk_at dksX1_disagreementsByLoop_0 3 rfl rfl)
theorem dX1_disagreementsByLoop_4 : decode cX1_disagreementsByLoop 4 = .ok (.invokespecial 129, 3) := dk_183 0 129 (dk_at dksX1_disagreementsByLoop_0 4 rfl rfl)
theorem dX1_disagreementsByLoop_7 : decode cX1_disagreementsByLoop 7 = .ok (.astore_n 2, 1) := dk_77 (dk_at dksX1_disagreementsByLoop_0 7 rfl rfl)
theorem dX1_disagreementsByLoop_8 : decode cX1_disagreementsByLoop 8 = .ok (.aload_n 2, 1) := dk_44 (dk_at dksX1_disagreementsByLoop_0 8 rfl rfl)
theorem dX1_disagreementsByLoop_9 : decode cX1_disagreementsByLoop 9 = .ok (.new 130, 3) := dk_187 0 130 (dk_at dksX1_disagreementsByLoop_0 9 rfl rfl)
theorem dX1_disagreementsByLoop_12 : decode cX1_disagreementsByLoop 12 = .ok (.dup, 1) := dk_89 (dk_at dksX1_disagreementsByLoop_0 12 rfl rfl)
theorem dX1_disagreementsByLoop_13 : decode cX1_disagreementsByLoop 13 = .ok (.iconst 3, 1) := dk_6 (dk_at dksX1_disagreementsByLoop_0 13 rfl rfl)
theorem dX1_disagreementsByLoop_14 : decode cX1_disagreementsByLoop 14 = .ok (.invokespecial 132, 3) := dk_183 0 132 (dk_at dksX1_disagreementsByLoop_0 14 rfl rfl)
theorem dX1_disagreementsByLoop_17 : decode cX1_disagreementsByLoop 17 = .ok (.invokevirtual 133, 3) := dk_182 0 133 (dk_at dksX1_disagreementsByLoop_0 17 rfl rfl)
theorem dX1_disagreementsByLoop_20 : decode cX1_disagreementsByLoop 20 = .ok (.new 93, 3) := dk_187 0 93 (dk_at dksX1_disagreementsByLoop_0 20 rfl rfl)
theorem dX1_disagreementsByLoop_23 : decode cX1_disagreementsByLoop 23 = .ok (.dup, 1) := dk_89 (dk_at dksX1_disagreementsByLoop_0 23 rfl rfl)
theorem dX1_disagreementsByLoop_24 : decode cX1_disagreementsByLoop 24 = .ok (.invokespecial 95, 3) := dk_183 0 95 (dk_at dksX1_disagreementsByLoop_1 0 rfl rfl)
theorem dX1_disagreementsByLoop_27 : decode cX1_disagreementsByLoop 27 = .ok (.astore_n 3, 1) := dk_78 (dk_at dksX1_disagreementsByLoop_1 3 rfl rfl)
theorem dX1_disagreementsByLoop_28 : decode cX1_disagreementsByLoop 28 = .ok (.iconst 0, 1) := dk_3 (dk_at dksX1_disagreementsByLoop_1 4 rfl rfl)
theorem dX1_disagreementsByLoop_29 : decode cX1_disagreementsByLoop 29 = .ok (.istore 4, 2) := dk_54 4 (dk_at dksX1_disagreementsByLoop_1 5 rfl rfl)
theorem dX1_disagreementsByLoop_31 : decode cX1_disagreementsByLoop 31 = .ok (.aconst_null, 1) := dk_1 (dk_at dksX1_disagreementsByLoop_1 7 rfl rfl)
theorem dX1_disagreementsByLoop_32 : decode cX1_disagreementsByLoop 32 = .ok (.astore 5, 2) := dk_58 5 (dk_at dksX1_disagreementsByLoop_1 8 rfl rfl)
theorem dX1_disagreementsByLoop_34 : decode cX1_disagreementsByLoop 34 = .ok (.aload_n 1, 1) := dk_43 (dk_at dksX1_disagreementsByLoop_1 10 rfl rfl)
theorem dX1_disagreementsByLoop_35 : decode cX1_disagreementsByLoop 35 = .ok (.invokeinterface 96 1, 5) := by decide +kernel
theorem dX1_disagreementsByLoop_40 : decode cX1_disagreementsByLoop 40 = .ok (.astore 6, 2) := dk_58 6 (dk_at dksX1_disagreementsByLoop_1 16 rfl rfl)
theorem dX1_disagreementsByLoop_42 : decode cX1_disagreementsByLoop 42 = .ok (.aload 6, 2) := dk_25 6 (dk_at dksX1_disagreementsByLoop_1 18 rfl rfl)
theorem dX1_disagreementsByLoop_44 : decode cX1_disagreementsByLoop 44 = .ok (.invokeinterface 100 1, 5) := by decide +kernel
theorem dX1_disagreementsByLoop_49 : decode cX1_disagreementsByLoop 49 = .ok (.ifCond .eq 185, 3) := dk_153 0 185 (dk_at dksX1_disagreementsByLoop_2 5 rfl rfl)
theorem dX1_disagreementsByLoop_52 : decode cX1_disagreementsByLoop 52 = .ok (.aload 6, 2) := dk_25 6 (dk_at dksX1_disagreementsByLoop_2 8 rfl rfl)
theorem dX1_disagreementsByLoop_54 : decode cX1_disagreementsByLoop 54 = .ok (.invokeinterface 106 1, 5) := by decide +kernel
theorem dX1_disagreementsByLoop_59 : decode cX1_disagreementsByLoop 59 = .ok (.checkcast 110, 3) := dk_192 0 110 (dk_at dksX1_disagreementsByLoop_2 15 rfl rfl)
theorem dX1_disagreementsByLoop_62 : decode cX1_disagreementsByLoop 62 = .ok (.astore 7, 2) := dk_58 7 (dk_at dksX1_disagreementsByLoop_2 18 rfl rfl)
theorem dX1_disagreementsByLoop_64 : decode cX1_disagreementsByLoop 64 = .ok (.aload_n 3, 1) := dk_45 (dk_at dksX1_disagreementsByLoop_2 20 rfl rfl)
theorem dX1_disagreementsByLoop_65 : decode cX1_disagreementsByLoop 65 = .ok (.getfield 137, 3) := dk_180 0 137 (dk_at dksX1_disagreementsByLoop_2 21 rfl rfl)
theorem dX1_disagreementsByLoop_68 : decode cX1_disagreementsByLoop 68 = .ok (.iconst 2, 1) := dk_5 (dk_at dksX1_disagreementsByLoop_3 0 rfl rfl)
theorem dX1_disagreementsByLoop_69 : decode cX1_disagreementsByLoop 69 = .ok (.if_icmp .ne 7, 3) := dk_160 0 7 (dk_at dksX1_disagreementsByLoop_3 1 rfl rfl)
theorem dX1_disagreementsByLoop_72 : decode cX1_disagreementsByLoop 72 = .ok (.iconst 1, 1) := dk_4 (dk_at dksX1_disagreementsByLoop_3 4 rfl rfl)
theorem dX1_disagreementsByLoop_73 : decode cX1_disagreementsByLoop 73 = .ok (.goto 4, 3) := dk_167 0 4 (dk_at dksX1_disagreementsByLoop_3 5 rfl rfl)
theorem dX1_disagreementsByLoop_76 : decode cX1_disagreementsByLoop 76 = .ok (.iconst 0, 1) := dk_3 (dk_at dksX1_disagreementsByLoop_3 8 rfl rfl)
theorem dX1_disagreementsByLoop_77 : decode cX1_disagreementsByLoop 77 = .ok (.istore 8, 2) := dk_54 8 (dk_at dksX1_disagreementsByLoop_3 9 rfl rfl)
theorem dX1_disagreementsByLoop_79 : decode cX1_disagreementsByLoop 79 = .ok (.aload_n 3, 1) := dk_45 (dk_at dksX1_disagreementsByLoop_3 11 rfl rfl)
theorem dX1_disagreementsByLoop_80 : decode cX1_disagreementsByLoop 80 = .ok (.aload 7, 2) := dk_25 7 (dk_at dksX1_disagreementsByLoop_3 12 rfl rfl)
theorem dX1_disagreementsByLoop_82 : decode cX1_disagreementsByLoop 82 = .ok (.invokevirtual 112, 3) := dk_182 0 112 (dk_at dksX1_disagreementsByLoop_3 14 rfl rfl)
theorem dX1_disagreementsByLoop_85 : decode cX1_disagreementsByLoop 85 = .ok (.istore 9, 2) := dk_54 9 (dk_at dksX1_disagreementsByLoop_3 17 rfl rfl)
theorem dX1_disagreementsByLoop_87 : decode cX1_disagreementsByLoop 87 = .ok (.aload 7, 2) := dk_25 7 (dk_at dksX1_disagreementsByLoop_3 19 rfl rfl)
theorem dX1_disagreementsByLoop_89 : decode cX1_disagreementsByLoop 89 = .ok (.getfield 139, 3) := dk_180 0 139 (dk_at dksX1_disagreementsByLoop_3 21 rfl rfl)
theorem dX1_disagreementsByLoop_92 : decode cX1_disagreementsByLoop 92 = .ok (.tableswitch 139 0 3 #[32, 81, 108, 127], 32) := by decide +kernel
theorem dX1_disagreementsByLoop_124 : decode cX1_disagreementsByLoop 124 = .ok (.iload 8, 2) := dk_21 8 (dk_at dksX1_disagreementsByLoop_5 0 rfl rfl)
theorem dX1_disagreementsByLoop_126 : decode cX1_disagreementsByLoop 126 = .ok (.ifCond .eq 21, 3) := dk_153 0 21 (dk_at dksX1_disagreementsByLoop_5 2 rfl rfl)
theorem dX1_disagreementsByLoop_129 : decode cX1_disagreementsByLoop 129 = .ok (.aload_n 0, 1) := dk_42 (dk_at dksX1_disagreementsByLoop_5 5 rfl rfl)
theorem dX1_disagreementsByLoop_130 : decode cX1_disagreementsByLoop 130 = .ok (.getfield 18, 3) := dk_180 0 18 (dk_at dksX1_disagreementsByLoop_5 6 rfl rfl)
theorem dX1_disagreementsByLoop_133 : decode cX1_disagreementsByLoop 133 = .ok (.getfield 142, 3) := dk_180 0 142 (dk_at dksX1_disagreementsByLoop_5 9 rfl rfl)
theorem dX1_disagreementsByLoop_136 : decode cX1_disagreementsByLoop 136 = .ok (.aload 5, 2) := dk_25 5 (dk_at dksX1_disagreementsByLoop_5 12 rfl rfl)
theorem dX1_disagreementsByLoop_138 : decode cX1_disagreementsByLoop 138 = .ok (.getfield 146, 3) := dk_180 0 146 (dk_at dksX1_disagreementsByLoop_5 14 rfl rfl)
theorem dX1_disagreementsByLoop_141 : decode cX1_disagreementsByLoop 141 = .ok (.invokevirtual 149, 3) := dk_182 0 149 (dk_at dksX1_disagreementsByLoop_5 17 rfl rfl)
theorem dX1_disagreementsByLoop_144 : decode cX1_disagreementsByLoop 144 = .ok (.goto 4, 3) := dk_167 0 4 (dk_at dksX1_disagreementsByLoop_5 20 rfl rfl)
theorem dX1_disagreementsByLoop_147 : decode cX1_disagreementsByLoop 147 = .ok (.iconst 0, 1) := dk_3 (dk_at dksX1_disagreementsByLoop_5 23 rfl rfl)
theorem dX1_disagreementsByLoop_148 : decode cX1_disagreementsByLoop 148 = .ok (.istore 10, 2) := dk_54 10 (dk_at dksX1_disagreementsByLoop_6 0 rfl rfl)
theorem dX1_disagreementsByLoop_150 : decode cX1_disagreementsByLoop 150 = .ok (.iload 4, 2) := dk_21 4 (dk_at dksX1_disagreementsByLoop_6 2 rfl rfl)
theorem dX1_disagreementsByLoop_152 : decode cX1_disagreementsByLoop 152 = .ok (.aload 7, 2) := dk_25 7 (dk_at dksX1_disagreementsByLoop_6 4 rfl rfl)
theorem dX1_disagreementsByLoop_154 : decode cX1_disagreementsByLoop 154 = .ok (.getfield 155, 3) := dk_180 0 155 (dk_at dksX1_disagreementsByLoop_6 6 rfl rfl)
theorem dX1_disagreementsByLoop_157 : decode cX1_disagreementsByLoop 157 = .ok (.iload 10, 2) := dk_21 10 (dk_at dksX1_disagreementsByLoop_6 9 rfl rfl)
theorem dX1_disagreementsByLoop_159 : decode cX1_disagreementsByLoop 159 = .ok (.if_icmp .eq 7, 3) := dk_159 0 7 (dk_at dksX1_disagreementsByLoop_6 11 rfl rfl)
theorem dX1_disagreementsByLoop_162 : decode cX1_disagreementsByLoop 162 = .ok (.iconst 1, 1) := dk_4 (dk_at dksX1_disagreementsByLoop_6 14 rfl rfl)
theorem dX1_disagreementsByLoop_163 : decode cX1_disagreementsByLoop 163 = .ok (.goto 4, 3) := dk_167 0 4 (dk_at dksX1_disagreementsByLoop_6 15 rfl rfl)
theorem dX1_disagreementsByLoop_166 : decode cX1_disagreementsByLoop 166 = .ok (.iconst 0, 1) := dk_3 (dk_at dksX1_disagreementsByLoop_6 18 rfl rfl)
theorem dX1_disagreementsByLoop_167 : decode cX1_disagreementsByLoop 167 = .ok (.iadd, 1) := dk_96 (dk_at dksX1_disagreementsByLoop_6 19 rfl rfl)
theorem dX1_disagreementsByLoop_168 : decode cX1_disagreementsByLoop 168 = .ok (.istore 4, 2) := dk_54 4 (dk_at dksX1_disagreementsByLoop_6 20 rfl rfl)
theorem dX1_disagreementsByLoop_170 : decode cX1_disagreementsByLoop 170 = .ok (.goto 61, 3) := dk_167 0 61 (dk_at dksX1_disagreementsByLoop_7 0 rfl rfl)
theorem dX1_disagreementsByLoop_173 : decode cX1_disagreementsByLoop 173 = .ok (.aload 7, 2) := dk_25 7 (dk_at dksX1_disagreementsByLoop_7 3 rfl rfl)
theorem dX1_disagreementsByLoop_175 : decode cX1_disagreementsByLoop 175 = .ok (.astore 5, 2) := dk_58 5 (dk_at dksX1_disagreementsByLoop_7 5 rfl rfl)
theorem dX1_disagreementsByLoop_177 : decode cX1_disagreementsByLoop 177 = .ok (.iload 4, 2) := dk_21 4 (dk_at dksX1_disagreementsByLoop_7 7 rfl rfl)
theorem dX1_disagreementsByLoop_179 : decode cX1_disagreementsByLoop 179 = .ok (.aload_n 2, 1) := dk_44 (dk_at dksX1_disagreementsByLoop_7 9 rfl rfl)
theorem dX1_disagreementsByLoop_180 : decode cX1_disagreementsByLoop 180 = .ok (.invokevirtual 158, 3) := dk_182 0 158 (dk_at dksX1_disagreementsByLoop_7 10 rfl rfl)
theorem dX1_disagreementsByLoop_183 : decode cX1_disagreementsByLoop 183 = .ok (.checkcast 130, 3) := dk_192 0 130 (dk_at dksX1_disagreementsByLoop_7 13 rfl rfl)
theorem dX1_disagreementsByLoop_186 : decode cX1_disagreementsByLoop 186 = .ok (.aload 7, 2) := dk_25 7 (dk_at dksX1_disagreementsByLoop_7 16 rfl rfl)
theorem dX1_disagreementsByLoop_188 : decode cX1_disagreementsByLoop 188 = .ok (.getfield 155, 3) := dk_180 0 155 (dk_at dksX1_disagreementsByLoop_7 18 rfl rfl)
theorem dX1_disagreementsByLoop_191 : decode cX1_disagreementsByLoop 191 = .ok (.invokevirtual 161, 3) := dk_182 0 161 (dk_at dksX1_disagreementsByLoop_7 21 rfl rfl)
theorem dX1_disagreementsByLoop_194 : decode cX1_disagreementsByLoop 194 = .ok (.iadd, 1) := dk_96 (dk_at dksX1_disagreementsByLoop_8 0 rfl rfl)
theorem dX1_disagreementsByLoop_195 : decode cX1_disagreementsByLoop 195 = .ok (.istore 4, 2) := dk_54 4 (dk_at dksX1_disagreementsByLoop_8 1 rfl rfl)
theorem dX1_disagreementsByLoop_197 : decode cX1_disagreementsByLoop 197 = .ok (.goto 34, 3) := dk_167 0 34 (dk_at dksX1_disagreementsByLoop_8 3 rfl rfl)
theorem dX1_disagreementsByLoop_200 : decode cX1_disagreementsByLoop 200 = .ok (.aload_n 2, 1) := dk_44 (dk_at dksX1_disagreementsByLoop_8 6 rfl rfl)
theorem dX1_disagreementsByLoop_201 : decode cX1_disagreementsByLoop 201 = .ok (.new 130, 3) := dk_187 0 130 (dk_at dksX1_disagreementsByLoop_8 7 rfl rfl)
theorem dX1_disagreementsByLoop_204 : decode cX1_disagreementsByLoop 204 = .ok (.dup, 1) := dk_89 (dk_at dksX1_disagreementsByLoop_8 10 rfl rfl)
theorem dX1_disagreementsByLoop_205 : decode cX1_disagreementsByLoop 205 = .ok (.aload 5, 2) := dk_25 5 (dk_at dksX1_disagreementsByLoop_8 11 rfl rfl)
theorem dX1_disagreementsByLoop_207 : decode cX1_disagreementsByLoop 207 = .ok (.getfield 155, 3) := dk_180 0 155 (dk_at dksX1_disagreementsByLoop_8 13 rfl rfl)
theorem dX1_disagreementsByLoop_210 : decode cX1_disagreementsByLoop 210 = .ok (.invokespecial 132, 3) := dk_183 0 132 (dk_at dksX1_disagreementsByLoop_8 16 rfl rfl)
theorem dX1_disagreementsByLoop_213 : decode cX1_disagreementsByLoop 213 = .ok (.invokevirtual 133, 3) := dk_182 0 133 (dk_at dksX1_disagreementsByLoop_8 19 rfl rfl)
theorem dX1_disagreementsByLoop_216 : decode cX1_disagreementsByLoop 216 = .ok (.goto 15, 3) := dk_167 0 15 (dk_at dksX1_disagreementsByLoop_9 0 rfl rfl)
theorem dX1_disagreementsByLoop_219 : decode cX1_disagreementsByLoop 219 = .ok (.aload_n 2, 1) := dk_44 (dk_at dksX1_disagreementsByLoop_9 3 rfl rfl)
theorem dX1_disagreementsByLoop_220 : decode cX1_disagreementsByLoop 220 = .ok (.invokevirtual 164, 3) := dk_182 0 164 (dk_at dksX1_disagreementsByLoop_9 4 rfl rfl)
theorem dX1_disagreementsByLoop_223 : decode cX1_disagreementsByLoop 223 = .ok (.checkcast 130, 3) := dk_192 0 130 (dk_at dksX1_disagreementsByLoop_9 7 rfl rfl)
theorem dX1_disagreementsByLoop_226 : decode cX1_disagreementsByLoop 226 = .ok (.astore 11, 2) := dk_58 11 (dk_at dksX1_disagreementsByLoop_9 10 rfl rfl)
theorem dX1_disagreementsByLoop_228 : decode cX1_disagreementsByLoop 228 = .ok (.goto 3, 3) := dk_167 0 3 (dk_at dksX1_disagreementsByLoop_9 12 rfl rfl)
theorem dX1_disagreementsByLoop_231 : decode cX1_disagreementsByLoop 231 = .ok (.goto (-189), 3) := dk_167 255 67 (dk_at dksX1_disagreementsByLoop_9 15 rfl rfl)
theorem dX1_disagreementsByLoop_234 : decode cX1_disagreementsByLoop 234 = .ok (.iload 4, 2) := dk_21 4 (dk_at dksX1_disagreementsByLoop_9 18 rfl rfl)
theorem dX1_disagreementsByLoop_236 : decode cX1_disagreementsByLoop 236 = .ok (.ireturn, 1) := dk_172 (dk_at dksX1_disagreementsByLoop_9 20 rfl rfl)
abbrev cX1_save : ByteArray := prog_1_method_66_code
def yX1_save : MethodName := ⟨RX1, "save", "()I"⟩
def dkwX1_save_0 : List UInt8 := [42, 42, 180, 0, 18, 182, 0, 194, 181, 1, 200, 42, 180, 1, 200, 182, 1, 177, 172]
abbrev dktX1_save_0 : List UInt8 := dkwX1_save_0 ++ []
theorem dksX1_save_0 : cX1_save.data.toList.drop 0 = dktX1_save_0 := by decide +kernel
theorem dX1_save_0 : decode cX1_save 0 = .ok (.aload_n 0, 1) := dk_42 (dk_at dksX1_save_0 0 rfl rfl)
theorem dX1_save_1 : decode cX1_save 1 = .ok (.aload_n 0, 1) := dk_42 (dk_at dksX1_save_0 1 rfl rfl)
theorem dX1_save_2 : decode cX1_save 2 = .ok (.getfield 18, 3) := dk_180 0 18 (dk_at dksX1_save_0 2 rfl rfl)
theorem dX1_save_5 : decode cX1_save 5 = .ok (.invokevirtual 194, 3) := dk_182 0 194 (dk_at dksX1_save_0 5 rfl rfl)
theorem dX1_save_8 : decode cX1_save 8 = .ok (.putfield 456, 3) := dk_181 1 200 (dk_at dksX1_save_0 8 rfl rfl)
theorem dX1_save_11 : decode cX1_save 11 = .ok (.aload_n 0, 1) := dk_42 (dk_at dksX1_save_0 11 rfl rfl)
theorem dX1_save_12 : decode cX1_save 12 = .ok (.getfield 456, 3) := dk_180 1 200 (dk_at dksX1_save_0 12 rfl rfl)
theorem dX1_save_15 : decode cX1_save 15 = .ok (.invokevirtual 433, 3) := dk_182 1 177 (dk_at dksX1_save_0 15 rfl rfl)
theorem dX1_save_18 : decode cX1_save 18 = .ok (.ireturn, 1) := dk_172 (dk_at dksX1_save_0 18 rfl rfl)
abbrev cX1_addNoun : ByteArray := prog_1_method_14_code
def yX1_addNoun : MethodName := ⟨RX1, "addNoun", "(I)I"⟩
def dkwX1_addNoun_1 : List UInt8 := [172]
abbrev dktX1_addNoun_1 : List UInt8 := dkwX1_addNoun_1 ++ []
def dkwX1_addNoun_0 : List UInt8 := [42, 180, 0, 18, 182, 0, 194, 77, 42, 44, 42, 180, 0, 18, 180, 0, 142, 27, 182, 0, 198, 182, 0, 201]
abbrev dktX1_addNoun_0 : List UInt8 := dkwX1_addNoun_0 ++ dktX1_addNoun_1
theorem dksX1_addNoun_0 : cX1_addNoun.data.toList.drop 0 = dktX1_addNoun_0 := by decide +kernel
theorem dksX1_addNoun_1 : cX1_addNoun.data.toList.drop 24 = dktX1_addNoun_1 := dk_seg dksX1_addNoun_0 24 rfl rfl
theorem dX1_addNoun_0 : decode cX1_addNoun 0 = .ok (.aload_n 0, 1) := dk_42 (dk_at dksX1_addNoun_0 0 rfl rfl)
theorem dX1_addNoun_1 : decode cX1_addNoun 1 = .ok (.getfield 18, 3) := dk_180 0 18 (dk_at dksX1_addNoun_0 1 rfl rfl)
theorem dX1_addNoun_4 : decode cX1_addNoun 4 = .ok (.invokevirtual 194, 3) := dk_182 0 194 (dk_at dksX1_addNoun_0 4 rfl rfl)
theorem dX1_addNoun_7 : decode cX1_addNoun 7 = .ok (.astore_n 2, 1) := dk_77 (dk_at dksX1_addNoun_0 7 rfl rfl)
theorem dX1_addNoun_8 : decode cX1_addNoun 8 = .ok (.aload_n 0, 1) := dk_42 (dk_at dksX1_addNoun_0 8 rfl rfl)
theorem dX1_addNoun_9 : decode cX1_addNoun 9 = .ok (.aload_n 2, 1) := dk_44 (dk_at dksX1_addNoun_0 9 rfl rfl)
theorem dX1_addNoun_10 : decode cX1_addNoun 10 = .ok (.aload_n 0, 1) := dk_42 (dk_at dksX1_addNoun_0 10 rfl rfl)
theorem dX1_addNoun_11 : decode cX1_addNoun 11 = .ok (.getfield 18, 3) := dk_180 0 18 (dk_at dksX1_addNoun_0 11 rfl rfl)
theorem dX1_addNoun_14 : decode cX1_addNoun 14 = .ok (.getfield 142, 3) := dk_180 0 142 (dk_at dksX1_addNoun_0 14 rfl rfl)
theorem dX1_addNoun_17 : decode cX1_addNoun 17 = .ok (.iload_n 1, 1) := dk_27 (dk_at dksX1_addNoun_0 17 rfl rfl)
theorem dX1_addNoun_18 : decode cX1_addNoun 18 = .ok (.invokevirtual 198, 3) := dk_182 0 198 (dk_at dksX1_addNoun_0 18 rfl rfl)
theorem dX1_addNoun_21 : decode cX1_addNoun 21 = .ok (.invokevirtual 201, 3) := dk_182 0 201 (dk_at dksX1_addNoun_0 21 rfl rfl)
theorem dX1_addNoun_24 : decode cX1_addNoun 24 = .ok (.ireturn, 1) := dk_172 (dk_at dksX1_addNoun_1 0 rfl rfl)
abbrev cX1_checkArgument : ByteArray := prog_1_method_3_code
def yX1_checkArgument : MethodName := ⟨RX1, "checkArgument", "(Z)V"⟩
def dkwX1_checkArgument_0 : List UInt8 := [26, 154, 0, 11, 187, 0, 61, 89, 183, 0, 63, 191, 177]
abbrev dktX1_checkArgument_0 : List UInt8 := dkwX1_checkArgument_0 ++ []
theorem dksX1_checkArgument_0 : cX1_checkArgument.data.toList.drop 0 = dktX1_checkArgument_0 := by decide +kernel
theorem dX1_checkArgument_0 : decode cX1_checkArgument 0 = .ok (.iload_n 0, 1) := dk_26 (dk_at dksX1_checkArgument_0 0 rfl rfl)
theorem dX1_checkArgument_1 : decode cX1_checkArgument 1 = .ok (.ifCond .ne 11, 3) := dk_154 0 11 (dk_at dksX1_checkArgument_0 1 rfl rfl)
theorem dX1_checkArgument_4 : decode cX1_checkArgument 4 = .ok (.new 61, 3) := dk_187 0 61 (dk_at dksX1_checkArgument_0 4 rfl rfl)
theorem dX1_checkArgument_7 : decode cX1_checkArgument 7 = .ok (.dup, 1) := dk_89 (dk_at dksX1_checkArgument_0 7 rfl rfl)
theorem dX1_checkArgument_8 : decode cX1_checkArgument 8 = .ok (.invokespecial 63, 3) := dk_183 0 63 (dk_at dksX1_checkArgument_0 8 rfl rfl)
theorem dX1_checkArgument_11 : decode cX1_checkArgument 11 = .ok (.athrow, 1) := dk_191 (dk_at dksX1_checkArgument_0 11 rfl rfl)
theorem dX1_checkArgument_12 : decode cX1_checkArgument 12 = .ok (.return_, 1) := dk_177 (dk_at dksX1_checkArgument_0 12 rfl rfl)
abbrev cX1_checkState : ByteArray := prog_1_method_4_code
def yX1_checkState : MethodName := ⟨RX1, "checkState", "(Z)V"⟩
def dkwX1_checkState_0 : List UInt8 := [26, 154, 0, 11, 187, 0, 64, 89, 183, 0, 66, 191, 177]
abbrev dktX1_checkState_0 : List UInt8 := dkwX1_checkState_0 ++ []
theorem dksX1_checkState_0 : cX1_checkState.data.toList.drop 0 = dktX1_checkState_0 := by decide +kernel
theorem dX1_checkState_0 : decode cX1_checkState 0 = .ok (.iload_n 0, 1) := dk_26 (dk_at dksX1_checkState_0 0 rfl rfl)
theorem dX1_checkState_1 : decode cX1_checkState 1 = .ok (.ifCond .ne 11, 3) := dk_154 0 11 (dk_at dksX1_checkState_0 1 rfl rfl)
theorem dX1_checkState_4 : decode cX1_checkState 4 = .ok (.new 64, 3) := dk_187 0 64 (dk_at dksX1_checkState_0 4 rfl rfl)
theorem dX1_checkState_7 : decode cX1_checkState 7 = .ok (.dup, 1) := dk_89 (dk_at dksX1_checkState_0 7 rfl rfl)
theorem dX1_checkState_8 : decode cX1_checkState 8 = .ok (.invokespecial 66, 3) := dk_183 0 66 (dk_at dksX1_checkState_0 8 rfl rfl)
theorem dX1_checkState_11 : decode cX1_checkState 11 = .ok (.athrow, 1) := dk_191 (dk_at dksX1_checkState_0 11 rfl rfl)
theorem dX1_checkState_12 : decode cX1_checkState 12 = .ok (.return_, 1) := dk_177 (dk_at dksX1_checkState_0 12 rfl rfl)
abbrev cX1_changed : ByteArray := prog_1_method_13_code
def yX1_changed : MethodName := ⟨RX1, "changed", "(LGateGrammar$State;I)I"⟩
def dkwX1_changed_0 : List UInt8 := [42, 180, 0, 27, 43, 182, 0, 190, 28, 172]
abbrev dktX1_changed_0 : List UInt8 := dkwX1_changed_0 ++ []
theorem dksX1_changed_0 : cX1_changed.data.toList.drop 0 = dktX1_changed_0 := by decide +kernel
theorem dX1_changed_0 : decode cX1_changed 0 = .ok (.aload_n 0, 1) := dk_42 (dk_at dksX1_changed_0 0 rfl rfl)
theorem dX1_changed_1 : decode cX1_changed 1 = .ok (.getfield 27, 3) := dk_180 0 27 (dk_at dksX1_changed_0 1 rfl rfl)
theorem dX1_changed_4 : decode cX1_changed 4 = .ok (.aload_n 1, 1) := dk_43 (dk_at dksX1_changed_0 4 rfl rfl)
theorem dX1_changed_5 : decode cX1_changed 5 = .ok (.invokevirtual 190, 3) := dk_182 0 190 (dk_at dksX1_changed_0 5 rfl rfl)
theorem dX1_changed_8 : decode cX1_changed 8 = .ok (.iload_n 2, 1) := dk_28 (dk_at dksX1_changed_0 8 rfl rfl)
theorem dX1_changed_9 : decode cX1_changed 9 = .ok (.ireturn, 1) := dk_172 (dk_at dksX1_changed_0 9 rfl rfl)
abbrev cX1_addVerb : ByteArray := prog_1_method_15_code
def yX1_addVerb : MethodName := ⟨RX1, "addVerb", "(I)I"⟩
def dkwX1_addVerb_1 : List UInt8 := [172]
abbrev dktX1_addVerb_1 : List UInt8 := dkwX1_addVerb_1 ++ []
def dkwX1_addVerb_0 : List UInt8 := [42, 180, 0, 18, 182, 0, 194, 77, 42, 44, 42, 180, 0, 18, 180, 0, 142, 27, 182, 0, 205, 182, 0, 201]
abbrev dktX1_addVerb_0 : List UInt8 := dkwX1_addVerb_0 ++ dktX1_addVerb_1
theorem dksX1_addVerb_0 : cX1_addVerb.data.toList.drop 0 = dktX1_addVerb_0 := by decide +kernel
theorem dksX1_addVerb_1 : cX1_addVerb.data.toList.drop 24 = dktX1_addVerb_1 := dk_seg dksX1_addVerb_0 24 rfl rfl
theorem dX1_addVerb_0 : decode cX1_addVerb 0 = .ok (.aload_n 0, 1) := dk_42 (dk_at dksX1_addVerb_0 0 rfl rfl)
theorem dX1_addVerb_1 : decode cX1_addVerb 1 = .ok (.getfield 18, 3) := dk_180 0 18 (dk_at dksX1_addVerb_0 1 rfl rfl)
theorem dX1_addVerb_4 : decode cX1_addVerb 4 = .ok (.invokevirtual 194, 3) := dk_182 0 194 (dk_at dksX1_addVerb_0 4 rfl rfl)
theorem dX1_addVerb_7 : decode cX1_addVerb 7 = .ok (.astore_n 2, 1) := dk_77 (dk_at dksX1_addVerb_0 7 rfl rfl)
theorem dX1_addVerb_8 : decode cX1_addVerb 8 = .ok (.aload_n 0, 1) := dk_42 (dk_at dksX1_addVerb_0 8 rfl rfl)
theorem dX1_addVerb_9 : decode cX1_addVerb 9 = .ok (.aload_n 2, 1) := dk_44 (dk_at dksX1_addVerb_0 9 rfl rfl)
theorem dX1_addVerb_10 : decode cX1_addVerb 10 = .ok (.aload_n 0, 1) := dk_42 (dk_at dksX1_addVerb_0 10 rfl rfl)
theorem dX1_addVerb_11 : decode cX1_addVerb 11 = .ok (.getfield 18, 3) := dk_180 0 18 (dk_at dksX1_addVerb_0 11 rfl rfl)
theorem dX1_addVerb_14 : decode cX1_addVerb 14 = .ok (.getfield 142, 3) := dk_180 0 142 (dk_at dksX1_addVerb_0 14 rfl rfl)
theorem dX1_addVerb_17 : decode cX1_addVerb 17 = .ok (.iload_n 1, 1) := dk_27 (dk_at dksX1_addVerb_0 17 rfl rfl)
theorem dX1_addVerb_18 : decode cX1_addVerb 18 = .ok (.invokevirtual 205, 3) := dk_182 0 205 (dk_at dksX1_addVerb_0 18 rfl rfl)
theorem dX1_addVerb_21 : decode cX1_addVerb 21 = .ok (.invokevirtual 201, 3) := dk_182 0 201 (dk_at dksX1_addVerb_0 21 rfl rfl)
theorem dX1_addVerb_24 : decode cX1_addVerb 24 = .ok (.ireturn, 1) := dk_172 (dk_at dksX1_addVerb_1 0 rfl rfl)
abbrev cX1_setObjectCase : ByteArray := prog_1_method_16_code
def yX1_setObjectCase : MethodName := ⟨RX1, "setObjectCase", "(II)I"⟩
def dkwX1_setObjectCase_1 : List UInt8 := [182, 0, 201, 172]
abbrev dktX1_setObjectCase_1 : List UInt8 := dkwX1_setObjectCase_1 ++ []
def dkwX1_setObjectCase_0 : List UInt8 := [42, 180, 0, 18, 182, 0, 194, 78, 42, 45, 42, 180, 0, 18, 180, 0, 142, 27, 28, 182, 0, 208]
abbrev dktX1_setObjectCase_0 : List UInt8 := dkwX1_setObjectCase_0 ++ dktX1_setObjectCase_1
theorem dksX1_setObjectCase_0 : cX1_setObjectCase.data.toList.drop 0 = dktX1_setObjectCase_0 := by decide +kernel
theorem dksX1_setObjectCase_1 : cX1_setObjectCase.data.toList.drop 22 = dktX1_setObjectCase_1 := dk_seg dksX1_setObjectCase_0 22 rfl rfl
theorem dX1_setObjectCase_0 : decode cX1_setObjectCase 0 = .ok (.aload_n 0, 1) := dk_42 (dk_at dksX1_setObjectCase_0 0 rfl rfl)
theorem dX1_setObjectCase_1 : decode cX1_setObjectCase 1 = .ok (.getfield 18, 3) := dk_180 0 18 (dk_at dksX1_setObjectCase_0 1 rfl rfl)
theorem dX1_setObjectCase_4 : decode cX1_setObjectCase 4 = .ok (.invokevirtual 194, 3) := dk_182 0 194 (dk_at dksX1_setObjectCase_0 4 rfl rfl)
theorem dX1_setObjectCase_7 : decode cX1_setObjectCase 7 = .ok (.astore_n 3, 1) := dk_78 (dk_at dksX1_setObjectCase_0 7 rfl rfl)
theorem dX1_setObjectCase_8 : decode cX1_setObjectCase 8 = .ok (.aload_n 0, 1) := dk_42 (dk_at dksX1_setObjectCase_0 8 rfl rfl)
theorem dX1_setObjectCase_9 : decode cX1_setObjectCase 9 = .ok (.aload_n 3, 1) := dk_45 (dk_at dksX1_setObjectCase_0 9 rfl rfl)
theorem dX1_setObjectCase_10 : decode cX1_setObjectCase 10 = .ok (.aload_n 0, 1) := dk_42 (dk_at dksX1_setObjectCase_0 10 rfl rfl)
theorem dX1_setObjectCase_11 : decode cX1_setObjectCase 11 = .ok (.getfield 18, 3) := dk_180 0 18 (dk_at dksX1_setObjectCase_0 11 rfl rfl)
theorem dX1_setObjectCase_14 : decode cX1_setObjectCase 14 = .ok (.getfield 142, 3) := dk_180 0 142 (dk_at dksX1_setObjectCase_0 14 rfl rfl)
theorem dX1_setObjectCase_17 : decode cX1_setObjectCase 17 = .ok (.iload_n 1, 1) := dk_27 (dk_at dksX1_setObjectCase_0 17 rfl rfl)
theorem dX1_setObjectCase_18 : decode cX1_setObjectCase 18 = .ok (.iload_n 2, 1) := dk_28 (dk_at dksX1_setObjectCase_0 18 rfl rfl)
theorem dX1_setObjectCase_19 : decode cX1_setObjectCase 19 = .ok (.invokevirtual 208, 3) := dk_182 0 208 (dk_at dksX1_setObjectCase_0 19 rfl rfl)
theorem dX1_setObjectCase_22 : decode cX1_setObjectCase 22 = .ok (.invokevirtual 201, 3) := dk_182 0 201 (dk_at dksX1_setObjectCase_1 0 rfl rfl)
theorem dX1_setObjectCase_25 : decode cX1_setObjectCase 25 = .ok (.ireturn, 1) := dk_172 (dk_at dksX1_setObjectCase_1 3 rfl rfl)
abbrev cX1_gender : ByteArray := prog_1_method_19_code
def yX1_gender : MethodName := ⟨RX1, "gender", "(I)I"⟩
def dkwX1_gender_0 : List UInt8 := [42, 180, 0, 18, 180, 0, 142, 27, 182, 0, 218, 172]
abbrev dktX1_gender_0 : List UInt8 := dkwX1_gender_0 ++ []
theorem dksX1_gender_0 : cX1_gender.data.toList.drop 0 = dktX1_gender_0 := by decide +kernel
theorem dX1_gender_0 : decode cX1_gender 0 = .ok (.aload_n 0, 1) := dk_42 (dk_at dksX1_gender_0 0 rfl rfl)
theorem dX1_gender_1 : decode cX1_gender 1 = .ok (.getfield 18, 3) := dk_180 0 18 (dk_at dksX1_gender_0 1 rfl rfl)
theorem dX1_gender_4 : decode cX1_gender 4 = .ok (.getfield 142, 3) := dk_180 0 142 (dk_at dksX1_gender_0 4 rfl rfl)
theorem dX1_gender_7 : decode cX1_gender 7 = .ok (.iload_n 1, 1) := dk_27 (dk_at dksX1_gender_0 7 rfl rfl)
theorem dX1_gender_8 : decode cX1_gender 8 = .ok (.invokevirtual 218, 3) := dk_182 0 218 (dk_at dksX1_gender_0 8 rfl rfl)
theorem dX1_gender_11 : decode cX1_gender 11 = .ok (.ireturn, 1) := dk_172 (dk_at dksX1_gender_0 11 rfl rfl)
abbrev cX1_objectCase : ByteArray := prog_1_method_20_code
def yX1_objectCase : MethodName := ⟨RX1, "objectCase", "(I)I"⟩
def dkwX1_objectCase_0 : List UInt8 := [42, 180, 0, 18, 180, 0, 142, 27, 182, 0, 149, 172]
abbrev dktX1_objectCase_0 : List UInt8 := dkwX1_objectCase_0 ++ []
theorem dksX1_objectCase_0 : cX1_objectCase.data.toList.drop 0 = dktX1_objectCase_0 := by decide +kernel
theorem dX1_objectCase_0 : decode cX1_objectCase 0 = .ok (.aload_n 0, 1) := dk_42 (dk_at dksX1_objectCase_0 0 rfl rfl)
theorem dX1_objectCase_1 : decode cX1_objectCase 1 = .ok (.getfield 18, 3) := dk_180 0 18 (dk_at dksX1_objectCase_0 1 rfl rfl)
theorem dX1_objectCase_4 : decode cX1_objectCase 4 = .ok (.getfield 142, 3) := dk_180 0 142 (dk_at dksX1_objectCase_0 4 rfl rfl)
theorem dX1_objectCase_7 : decode cX1_objectCase 7 = .ok (.iload_n 1, 1) := dk_27 (dk_at dksX1_objectCase_0 7 rfl rfl)
theorem dX1_objectCase_8 : decode cX1_objectCase 8 = .ok (.invokevirtual 149, 3) := dk_182 0 149 (dk_at dksX1_objectCase_0 8 rfl rfl)
theorem dX1_objectCase_11 : decode cX1_objectCase 11 = .ok (.ireturn, 1) := dk_172 (dk_at dksX1_objectCase_0 11 rfl rfl)
abbrev cX1_ending : ByteArray := prog_1_method_21_code
def yX1_ending : MethodName := ⟨RX1, "ending", "(II)C"⟩
def dkwX1_ending_0 : List UInt8 := [42, 180, 0, 18, 180, 0, 142, 27, 28, 182, 0, 221, 172]
abbrev dktX1_ending_0 : List UInt8 := dkwX1_ending_0 ++ []
theorem dksX1_ending_0 : cX1_ending.data.toList.drop 0 = dktX1_ending_0 := by decide +kernel
theorem dX1_ending_0 : decode cX1_ending 0 = .ok (.aload_n 0, 1) := dk_42 (dk_at dksX1_ending_0 0 rfl rfl)
theorem dX1_ending_1 : decode cX1_ending 1 = .ok (.getfield 18, 3) := dk_180 0 18 (dk_at dksX1_ending_0 1 rfl rfl)
theorem dX1_ending_4 : decode cX1_ending 4 = .ok (.getfield 142, 3) := dk_180 0 142 (dk_at dksX1_ending_0 4 rfl rfl)
theorem dX1_ending_7 : decode cX1_ending 7 = .ok (.iload_n 1, 1) := dk_27 (dk_at dksX1_ending_0 7 rfl rfl)
theorem dX1_ending_8 : decode cX1_ending 8 = .ok (.iload_n 2, 1) := dk_28 (dk_at dksX1_ending_0 8 rfl rfl)
theorem dX1_ending_9 : decode cX1_ending 9 = .ok (.invokevirtual 221, 3) := dk_182 0 221 (dk_at dksX1_ending_0 9 rfl rfl)
theorem dX1_ending_12 : decode cX1_ending 12 = .ok (.ireturn, 1) := dk_172 (dk_at dksX1_ending_0 12 rfl rfl)
abbrev cX1_appendNoun : ByteArray := prog_1_method_22_code
def yX1_appendNoun : MethodName := ⟨RX1, "appendNoun", "(III)I"⟩
def dkwX1_appendNoun_1 : List UInt8 := [182, 0, 201, 172]
abbrev dktX1_appendNoun_1 : List UInt8 := dkwX1_appendNoun_1 ++ []
def dkwX1_appendNoun_0 : List UInt8 := [42, 180, 0, 18, 182, 0, 194, 58, 4, 42, 25, 4, 42, 180, 0, 18, 27, 28, 29, 182, 0, 225]
abbrev dktX1_appendNoun_0 : List UInt8 := dkwX1_appendNoun_0 ++ dktX1_appendNoun_1
theorem dksX1_appendNoun_0 : cX1_appendNoun.data.toList.drop 0 = dktX1_appendNoun_0 := by decide +kernel
theorem dksX1_appendNoun_1 : cX1_appendNoun.data.toList.drop 22 = dktX1_appendNoun_1 := dk_seg dksX1_appendNoun_0 22 rfl rfl
theorem dX1_appendNoun_0 : decode cX1_appendNoun 0 = .ok (.aload_n 0, 1) := dk_42 (dk_at dksX1_appendNoun_0 0 rfl rfl)
theorem dX1_appendNoun_1 : decode cX1_appendNoun 1 = .ok (.getfield 18, 3) := dk_180 0 18 (dk_at dksX1_appendNoun_0 1 rfl rfl)
theorem dX1_appendNoun_4 : decode cX1_appendNoun 4 = .ok (.invokevirtual 194, 3) := dk_182 0 194 (dk_at dksX1_appendNoun_0 4 rfl rfl)
theorem dX1_appendNoun_7 : decode cX1_appendNoun 7 = .ok (.astore 4, 2) := dk_58 4 (dk_at dksX1_appendNoun_0 7 rfl rfl)
theorem dX1_appendNoun_9 : decode cX1_appendNoun 9 = .ok (.aload_n 0, 1) := dk_42 (dk_at dksX1_appendNoun_0 9 rfl rfl)
theorem dX1_appendNoun_10 : decode cX1_appendNoun 10 = .ok (.aload 4, 2) := dk_25 4 (dk_at dksX1_appendNoun_0 10 rfl rfl)
theorem dX1_appendNoun_12 : decode cX1_appendNoun 12 = .ok (.aload_n 0, 1) := dk_42 (dk_at dksX1_appendNoun_0 12 rfl rfl)
theorem dX1_appendNoun_13 : decode cX1_appendNoun 13 = .ok (.getfield 18, 3) := dk_180 0 18 (dk_at dksX1_appendNoun_0 13 rfl rfl)
theorem dX1_appendNoun_16 : decode cX1_appendNoun 16 = .ok (.iload_n 1, 1) := dk_27 (dk_at dksX1_appendNoun_0 16 rfl rfl)
theorem dX1_appendNoun_17 : decode cX1_appendNoun 17 = .ok (.iload_n 2, 1) := dk_28 (dk_at dksX1_appendNoun_0 17 rfl rfl)
theorem dX1_appendNoun_18 : decode cX1_appendNoun 18 = .ok (.iload_n 3, 1) := dk_29 (dk_at dksX1_appendNoun_0 18 rfl rfl)
theorem dX1_appendNoun_19 : decode cX1_appendNoun 19 = .ok (.invokevirtual 225, 3) := dk_182 0 225 (dk_at dksX1_appendNoun_0 19 rfl rfl)
theorem dX1_appendNoun_22 : decode cX1_appendNoun 22 = .ok (.invokevirtual 201, 3) := dk_182 0 201 (dk_at dksX1_appendNoun_1 0 rfl rfl)
theorem dX1_appendNoun_25 : decode cX1_appendNoun 25 = .ok (.ireturn, 1) := dk_172 (dk_at dksX1_appendNoun_1 3 rfl rfl)
abbrev cX1_appendVerb : ByteArray := prog_1_method_23_code
def yX1_appendVerb : MethodName := ⟨RX1, "appendVerb", "(III)I"⟩
def dkwX1_appendVerb_1 : List UInt8 := [182, 0, 201, 172]
abbrev dktX1_appendVerb_1 : List UInt8 := dkwX1_appendVerb_1 ++ []
def dkwX1_appendVerb_0 : List UInt8 := [42, 180, 0, 18, 182, 0, 194, 58, 4, 42, 25, 4, 42, 180, 0, 18, 27, 28, 29, 182, 0, 229]
abbrev dktX1_appendVerb_0 : List UInt8 := dkwX1_appendVerb_0 ++ dktX1_appendVerb_1
theorem dksX1_appendVerb_0 : cX1_appendVerb.data.toList.drop 0 = dktX1_appendVerb_0 := by decide +kernel
theorem dksX1_appendVerb_1 : cX1_appendVerb.data.toList.drop 22 = dktX1_appendVerb_1 := dk_seg dksX1_appendVerb_0 22 rfl rfl
theorem dX1_appendVerb_0 : decode cX1_appendVerb 0 = .ok (.aload_n 0, 1) := dk_42 (dk_at dksX1_appendVerb_0 0 rfl rfl)
theorem dX1_appendVerb_1 : decode cX1_appendVerb 1 = .ok (.getfield 18, 3) := dk_180 0 18 (dk_at dksX1_appendVerb_0 1 rfl rfl)
theorem dX1_appendVerb_4 : decode cX1_appendVerb 4 = .ok (.invokevirtual 194, 3) := dk_182 0 194 (dk_at dksX1_appendVerb_0 4 rfl rfl)
theorem dX1_appendVerb_7 : decode cX1_appendVerb 7 = .ok (.astore 4, 2) := dk_58 4 (dk_at dksX1_appendVerb_0 7 rfl rfl)
theorem dX1_appendVerb_9 : decode cX1_appendVerb 9 = .ok (.aload_n 0, 1) := dk_42 (dk_at dksX1_appendVerb_0 9 rfl rfl)
theorem dX1_appendVerb_10 : decode cX1_appendVerb 10 = .ok (.aload 4, 2) := dk_25 4 (dk_at dksX1_appendVerb_0 10 rfl rfl)
theorem dX1_appendVerb_12 : decode cX1_appendVerb 12 = .ok (.aload_n 0, 1) := dk_42 (dk_at dksX1_appendVerb_0 12 rfl rfl)
theorem dX1_appendVerb_13 : decode cX1_appendVerb 13 = .ok (.getfield 18, 3) := dk_180 0 18 (dk_at dksX1_appendVerb_0 13 rfl rfl)
theorem dX1_appendVerb_16 : decode cX1_appendVerb 16 = .ok (.iload_n 1, 1) := dk_27 (dk_at dksX1_appendVerb_0 16 rfl rfl)
theorem dX1_appendVerb_17 : decode cX1_appendVerb 17 = .ok (.iload_n 2, 1) := dk_28 (dk_at dksX1_appendVerb_0 17 rfl rfl)
theorem dX1_appendVerb_18 : decode cX1_appendVerb 18 = .ok (.iload_n 3, 1) := dk_29 (dk_at dksX1_appendVerb_0 18 rfl rfl)
theorem dX1_appendVerb_19 : decode cX1_appendVerb 19 = .ok (.invokevirtual 229, 3) := dk_182 0 229 (dk_at dksX1_appendVerb_0 19 rfl rfl)
theorem dX1_appendVerb_22 : decode cX1_appendVerb 22 = .ok (.invokevirtual 201, 3) := dk_182 0 201 (dk_at dksX1_appendVerb_1 0 rfl rfl)
theorem dX1_appendVerb_25 : decode cX1_appendVerb 25 = .ok (.ireturn, 1) := dk_172 (dk_at dksX1_appendVerb_1 3 rfl rfl)
abbrev cX1_appendOpen : ByteArray := prog_1_method_24_code
def yX1_appendOpen : MethodName := ⟨RX1, "appendOpen", "(I)I"⟩
def dkwX1_appendOpen_0 : List UInt8 := [42, 180, 0, 18, 182, 0, 194, 77, 42, 44, 42, 180, 0, 18, 27, 5, 182, 0, 232, 182, 0, 201, 172]
abbrev dktX1_appendOpen_0 : List UInt8 := dkwX1_appendOpen_0 ++ []
theorem dksX1_appendOpen_0 : cX1_appendOpen.data.toList.drop 0 = dktX1_appendOpen_0 := by decide +kernel
theorem dX1_appendOpen_0 : decode cX1_appendOpen 0 = .ok (.aload_n 0, 1) := dk_42 (dk_at dksX1_appendOpen_0 0 rfl rfl)
theorem dX1_appendOpen_1 : decode cX1_appendOpen 1 = .ok (.getfield 18, 3) := dk_180 0 18 (dk_at dksX1_appendOpen_0 1 rfl rfl)
theorem dX1_appendOpen_4 : decode cX1_appendOpen 4 = .ok (.invokevirtual 194, 3) := dk_182 0 194 (dk_at dksX1_appendOpen_0 4 rfl rfl)
theorem dX1_appendOpen_7 : decode cX1_appendOpen 7 = .ok (.astore_n 2, 1) := dk_77 (dk_at dksX1_appendOpen_0 7 rfl rfl)
theorem dX1_appendOpen_8 : decode cX1_appendOpen 8 = .ok (.aload_n 0, 1) := dk_42 (dk_at dksX1_appendOpen_0 8 rfl rfl)
theorem dX1_appendOpen_9 : decode cX1_appendOpen 9 = .ok (.aload_n 2, 1) := dk_44 (dk_at dksX1_appendOpen_0 9 rfl rfl)
theorem dX1_appendOpen_10 : decode cX1_appendOpen 10 = .ok (.aload_n 0, 1) := dk_42 (dk_at dksX1_appendOpen_0 10 rfl rfl)
theorem dX1_appendOpen_11 : decode cX1_appendOpen 11 = .ok (.getfield 18, 3) := dk_180 0 18 (dk_at dksX1_appendOpen_0 11 rfl rfl)
theorem dX1_appendOpen_14 : decode cX1_appendOpen 14 = .ok (.iload_n 1, 1) := dk_27 (dk_at dksX1_appendOpen_0 14 rfl rfl)
theorem dX1_appendOpen_15 : decode cX1_appendOpen 15 = .ok (.iconst 2, 1) := dk_5 (dk_at dksX1_appendOpen_0 15 rfl rfl)
theorem dX1_appendOpen_16 : decode cX1_appendOpen 16 = .ok (.invokevirtual 232, 3) := dk_182 0 232 (dk_at dksX1_appendOpen_0 16 rfl rfl)
theorem dX1_appendOpen_19 : decode cX1_appendOpen 19 = .ok (.invokevirtual 201, 3) := dk_182 0 201 (dk_at dksX1_appendOpen_0 19 rfl rfl)
theorem dX1_appendOpen_22 : decode cX1_appendOpen 22 = .ok (.ireturn, 1) := dk_172 (dk_at dksX1_appendOpen_0 22 rfl rfl)
abbrev cX1_appendClose : ByteArray := prog_1_method_25_code
def yX1_appendClose : MethodName := ⟨RX1, "appendClose", "(I)I"⟩
def dkwX1_appendClose_0 : List UInt8 := [42, 180, 0, 18, 182, 0, 194, 77, 42, 44, 42, 180, 0, 18, 27, 6, 182, 0, 232, 182, 0, 201, 172]
abbrev dktX1_appendClose_0 : List UInt8 := dkwX1_appendClose_0 ++ []
theorem dksX1_appendClose_0 : cX1_appendClose.data.toList.drop 0 = dktX1_appendClose_0 := by decide +kernel
theorem dX1_appendClose_0 : decode cX1_appendClose 0 = .ok (.aload_n 0, 1) := dk_42 (dk_at dksX1_appendClose_0 0 rfl rfl)
theorem dX1_appendClose_1 : decode cX1_appendClose 1 = .ok (.getfield 18, 3) := dk_180 0 18 (dk_at dksX1_appendClose_0 1 rfl rfl)
theorem dX1_appendClose_4 : decode cX1_appendClose 4 = .ok (.invokevirtual 194, 3) := dk_182 0 194 (dk_at dksX1_appendClose_0 4 rfl rfl)
theorem dX1_appendClose_7 : decode cX1_appendClose 7 = .ok (.astore_n 2, 1) := dk_77 (dk_at dksX1_appendClose_0 7 rfl rfl)
theorem dX1_appendClose_8 : decode cX1_appendClose 8 = .ok (.aload_n 0, 1) := dk_42 (dk_at dksX1_appendClose_0 8 rfl rfl)
theorem dX1_appendClose_9 : decode cX1_appendClose 9 = .ok (.aload_n 2, 1) := dk_44 (dk_at dksX1_appendClose_0 9 rfl rfl)
theorem dX1_appendClose_10 : decode cX1_appendClose 10 = .ok (.aload_n 0, 1) := dk_42 (dk_at dksX1_appendClose_0 10 rfl rfl)
theorem dX1_appendClose_11 : decode cX1_appendClose 11 = .ok (.getfield 18, 3) := dk_180 0 18 (dk_at dksX1_appendClose_0 11 rfl rfl)
theorem dX1_appendClose_14 : decode cX1_appendClose 14 = .ok (.iload_n 1, 1) := dk_27 (dk_at dksX1_appendClose_0 14 rfl rfl)
theorem dX1_appendClose_15 : decode cX1_appendClose 15 = .ok (.iconst 3, 1) := dk_6 (dk_at dksX1_appendClose_0 15 rfl rfl)
theorem dX1_appendClose_16 : decode cX1_appendClose 16 = .ok (.invokevirtual 232, 3) := dk_182 0 232 (dk_at dksX1_appendClose_0 16 rfl rfl)
theorem dX1_appendClose_19 : decode cX1_appendClose 19 = .ok (.invokevirtual 201, 3) := dk_182 0 201 (dk_at dksX1_appendClose_0 19 rfl rfl)
theorem dX1_appendClose_22 : decode cX1_appendClose 22 = .ok (.ireturn, 1) := dk_172 (dk_at dksX1_appendClose_0 22 rfl rfl)
abbrev cX1_appendAnd : ByteArray := prog_1_method_26_code
def yX1_appendAnd : MethodName := ⟨RX1, "appendAnd", "(I)I"⟩
def dkwX1_appendAnd_0 : List UInt8 := [42, 180, 0, 18, 182, 0, 194, 77, 42, 44, 42, 180, 0, 18, 27, 7, 182, 0, 232, 182, 0, 201, 172]
abbrev dktX1_appendAnd_0 : List UInt8 := dkwX1_appendAnd_0 ++ []
theorem dksX1_appendAnd_0 : cX1_appendAnd.data.toList.drop 0 = dktX1_appendAnd_0 := by decide +kernel
theorem dX1_appendAnd_0 : decode cX1_appendAnd 0 = .ok (.aload_n 0, 1) := dk_42 (dk_at dksX1_appendAnd_0 0 rfl rfl)
theorem dX1_appendAnd_1 : decode cX1_appendAnd 1 = .ok (.getfield 18, 3) := dk_180 0 18 (dk_at dksX1_appendAnd_0 1 rfl rfl)
theorem dX1_appendAnd_4 : decode cX1_appendAnd 4 = .ok (.invokevirtual 194, 3) := dk_182 0 194 (dk_at dksX1_appendAnd_0 4 rfl rfl)
theorem dX1_appendAnd_7 : decode cX1_appendAnd 7 = .ok (.astore_n 2, 1) := dk_77 (dk_at dksX1_appendAnd_0 7 rfl rfl)
theorem dX1_appendAnd_8 : decode cX1_appendAnd 8 = .ok (.aload_n 0, 1) := dk_42 (dk_at dksX1_appendAnd_0 8 rfl rfl)
theorem dX1_appendAnd_9 : decode cX1_appendAnd 9 = .ok (.aload_n 2, 1) := dk_44 (dk_at dksX1_appendAnd_0 9 rfl rfl)
theorem dX1_appendAnd_10 : decode cX1_appendAnd 10 = .ok (.aload_n 0, 1) := dk_42 (dk_at dksX1_appendAnd_0 10 rfl rfl)
theorem dX1_appendAnd_11 : decode cX1_appendAnd 11 = .ok (.getfield 18, 3) := dk_180 0 18 (dk_at dksX1_appendAnd_0 11 rfl rfl)
theorem dX1_appendAnd_14 : decode cX1_appendAnd 14 = .ok (.iload_n 1, 1) := dk_27 (dk_at dksX1_appendAnd_0 14 rfl rfl)
theorem dX1_appendAnd_15 : decode cX1_appendAnd 15 = .ok (.iconst 4, 1) := dk_7 (dk_at dksX1_appendAnd_0 15 rfl rfl)
theorem dX1_appendAnd_16 : decode cX1_appendAnd 16 = .ok (.invokevirtual 232, 3) := dk_182 0 232 (dk_at dksX1_appendAnd_0 16 rfl rfl)
theorem dX1_appendAnd_19 : decode cX1_appendAnd 19 = .ok (.invokevirtual 201, 3) := dk_182 0 201 (dk_at dksX1_appendAnd_0 19 rfl rfl)
theorem dX1_appendAnd_22 : decode cX1_appendAnd 22 = .ok (.ireturn, 1) := dk_172 (dk_at dksX1_appendAnd_0 22 rfl rfl)
abbrev cX1_removeLast : ByteArray := prog_1_method_27_code
def yX1_removeLast : MethodName := ⟨RX1, "removeLast", "(I)I"⟩
def dkwX1_removeLast_1 : List UInt8 := [172]
abbrev dktX1_removeLast_1 : List UInt8 := dkwX1_removeLast_1 ++ []
def dkwX1_removeLast_0 : List UInt8 := [42, 180, 0, 18, 182, 0, 194, 77, 42, 44, 42, 180, 0, 18, 27, 182, 0, 178, 182, 0, 235, 182, 0, 201]
abbrev dktX1_removeLast_0 : List UInt8 := dkwX1_removeLast_0 ++ dktX1_removeLast_1
theorem dksX1_removeLast_0 : cX1_removeLast.data.toList.drop 0 = dktX1_removeLast_0 := by decide +kernel
theorem dksX1_removeLast_1 : cX1_removeLast.data.toList.drop 24 = dktX1_removeLast_1 := dk_seg dksX1_removeLast_0 24 rfl rfl
theorem dX1_removeLast_0 : decode cX1_removeLast 0 = .ok (.aload_n 0, 1) := dk_42 (dk_at dksX1_removeLast_0 0 rfl rfl)
theorem dX1_removeLast_1 : decode cX1_removeLast 1 = .ok (.getfield 18, 3) := dk_180 0 18 (dk_at dksX1_removeLast_0 1 rfl rfl)
theorem dX1_removeLast_4 : decode cX1_removeLast 4 = .ok (.invokevirtual 194, 3) := dk_182 0 194 (dk_at dksX1_removeLast_0 4 rfl rfl)
theorem dX1_removeLast_7 : decode cX1_removeLast 7 = .ok (.astore_n 2, 1) := dk_77 (dk_at dksX1_removeLast_0 7 rfl rfl)
theorem dX1_removeLast_8 : decode cX1_removeLast 8 = .ok (.aload_n 0, 1) := dk_42 (dk_at dksX1_removeLast_0 8 rfl rfl)
theorem dX1_removeLast_9 : decode cX1_removeLast 9 = .ok (.aload_n 2, 1) := dk_44 (dk_at dksX1_removeLast_0 9 rfl rfl)
theorem dX1_removeLast_10 : decode cX1_removeLast 10 = .ok (.aload_n 0, 1) := dk_42 (dk_at dksX1_removeLast_0 10 rfl rfl)
theorem dX1_removeLast_11 : decode cX1_removeLast 11 = .ok (.getfield 18, 3) := dk_180 0 18 (dk_at dksX1_removeLast_0 11 rfl rfl)
theorem dX1_removeLast_14 : decode cX1_removeLast 14 = .ok (.iload_n 1, 1) := dk_27 (dk_at dksX1_removeLast_0 14 rfl rfl)
theorem dX1_removeLast_15 : decode cX1_removeLast 15 = .ok (.invokevirtual 178, 3) := dk_182 0 178 (dk_at dksX1_removeLast_0 15 rfl rfl)
theorem dX1_removeLast_18 : decode cX1_removeLast 18 = .ok (.invokevirtual 235, 3) := dk_182 0 235 (dk_at dksX1_removeLast_0 18 rfl rfl)
theorem dX1_removeLast_21 : decode cX1_removeLast 21 = .ok (.invokevirtual 201, 3) := dk_182 0 201 (dk_at dksX1_removeLast_0 21 rfl rfl)
theorem dX1_removeLast_24 : decode cX1_removeLast 24 = .ok (.ireturn, 1) := dk_172 (dk_at dksX1_removeLast_1 0 rfl rfl)
abbrev cX1_clear : ByteArray := prog_1_method_28_code
def yX1_clear : MethodName := ⟨RX1, "clear", "(I)I"⟩
def dkwX1_clear_1 : List UInt8 := [172]
abbrev dktX1_clear_1 : List UInt8 := dkwX1_clear_1 ++ []
def dkwX1_clear_0 : List UInt8 := [42, 180, 0, 18, 182, 0, 194, 77, 42, 44, 42, 180, 0, 18, 27, 182, 0, 178, 182, 0, 237, 182, 0, 201]
abbrev dktX1_clear_0 : List UInt8 := dkwX1_clear_0 ++ dktX1_clear_1
theorem dksX1_clear_0 : cX1_clear.data.toList.drop 0 = dktX1_clear_0 := by decide +kernel
theorem dksX1_clear_1 : cX1_clear.data.toList.drop 24 = dktX1_clear_1 := dk_seg dksX1_clear_0 24 rfl rfl
theorem dX1_clear_0 : decode cX1_clear 0 = .ok (.aload_n 0, 1) := dk_42 (dk_at dksX1_clear_0 0 rfl rfl)
theorem dX1_clear_1 : decode cX1_clear 1 = .ok (.getfield 18, 3) := dk_180 0 18 (dk_at dksX1_clear_0 1 rfl rfl)
theorem dX1_clear_4 : decode cX1_clear 4 = .ok (.invokevirtual 194, 3) := dk_182 0 194 (dk_at dksX1_clear_0 4 rfl rfl)
theorem dX1_clear_7 : decode cX1_clear 7 = .ok (.astore_n 2, 1) := dk_77 (dk_at dksX1_clear_0 7 rfl rfl)
theorem dX1_clear_8 : decode cX1_clear 8 = .ok (.aload_n 0, 1) := dk_42 (dk_at dksX1_clear_0 8 rfl rfl)
theorem dX1_clear_9 : decode cX1_clear 9 = .ok (.aload_n 2, 1) := dk_44 (dk_at dksX1_clear_0 9 rfl rfl)
theorem dX1_clear_10 : decode cX1_clear 10 = .ok (.aload_n 0, 1) := dk_42 (dk_at dksX1_clear_0 10 rfl rfl)
theorem dX1_clear_11 : decode cX1_clear 11 = .ok (.getfield 18, 3) := dk_180 0 18 (dk_at dksX1_clear_0 11 rfl rfl)
theorem dX1_clear_14 : decode cX1_clear 14 = .ok (.iload_n 1, 1) := dk_27 (dk_at dksX1_clear_0 14 rfl rfl)
theorem dX1_clear_15 : decode cX1_clear 15 = .ok (.invokevirtual 178, 3) := dk_182 0 178 (dk_at dksX1_clear_0 15 rfl rfl)
theorem dX1_clear_18 : decode cX1_clear 18 = .ok (.invokevirtual 237, 3) := dk_182 0 237 (dk_at dksX1_clear_0 18 rfl rfl)
theorem dX1_clear_21 : decode cX1_clear 21 = .ok (.invokevirtual 201, 3) := dk_182 0 201 (dk_at dksX1_clear_0 21 rfl rfl)
theorem dX1_clear_24 : decode cX1_clear 24 = .ok (.ireturn, 1) := dk_172 (dk_at dksX1_clear_1 0 rfl rfl)
abbrev cX1_swing : ByteArray := prog_1_method_30_code
def yX1_swing : MethodName := ⟨RX1, "swing", "(I)I"⟩
def dkwX1_swing_0 : List UInt8 := [42, 180, 0, 18, 182, 0, 194, 77, 42, 44, 42, 180, 0, 18, 27, 184, 1, 0, 182, 0, 201, 172]
abbrev dktX1_swing_0 : List UInt8 := dkwX1_swing_0 ++ []
theorem dksX1_swing_0 : cX1_swing.data.toList.drop 0 = dktX1_swing_0 := by decide +kernel
theorem dX1_swing_0 : decode cX1_swing 0 = .ok (.aload_n 0, 1) := dk_42 (dk_at dksX1_swing_0 0 rfl rfl)
theorem dX1_swing_1 : decode cX1_swing 1 = .ok (.getfield 18, 3) := dk_180 0 18 (dk_at dksX1_swing_0 1 rfl rfl)
theorem dX1_swing_4 : decode cX1_swing 4 = .ok (.invokevirtual 194, 3) := dk_182 0 194 (dk_at dksX1_swing_0 4 rfl rfl)
theorem dX1_swing_7 : decode cX1_swing 7 = .ok (.astore_n 2, 1) := dk_77 (dk_at dksX1_swing_0 7 rfl rfl)
theorem dX1_swing_8 : decode cX1_swing 8 = .ok (.aload_n 0, 1) := dk_42 (dk_at dksX1_swing_0 8 rfl rfl)
theorem dX1_swing_9 : decode cX1_swing 9 = .ok (.aload_n 2, 1) := dk_44 (dk_at dksX1_swing_0 9 rfl rfl)
theorem dX1_swing_10 : decode cX1_swing 10 = .ok (.aload_n 0, 1) := dk_42 (dk_at dksX1_swing_0 10 rfl rfl)
theorem dX1_swing_11 : decode cX1_swing 11 = .ok (.getfield 18, 3) := dk_180 0 18 (dk_at dksX1_swing_0 11 rfl rfl)
theorem dX1_swing_14 : decode cX1_swing 14 = .ok (.iload_n 1, 1) := dk_27 (dk_at dksX1_swing_0 14 rfl rfl)
theorem dX1_swing_15 : decode cX1_swing 15 = .ok (.invokestatic 256, 3) := dk_184 1 0 (dk_at dksX1_swing_0 15 rfl rfl)
theorem dX1_swing_18 : decode cX1_swing 18 = .ok (.invokevirtual 201, 3) := dk_182 0 201 (dk_at dksX1_swing_0 18 rfl rfl)
theorem dX1_swing_21 : decode cX1_swing 21 = .ok (.ireturn, 1) := dk_172 (dk_at dksX1_swing_0 21 rfl rfl)
abbrev cX1_swing_2 : ByteArray := prog_1_method_29_code
def yX1_swing_2 : MethodName := ⟨RX1, "swing", "(LGateGrammar$State;I)I"⟩
def dkwX1_swing_2_3 : List UInt8 := [21, 4, 182, 0, 253, 21, 5, 172]
abbrev dktX1_swing_2_3 : List UInt8 := dkwX1_swing_2_3 ++ []
def dkwX1_swing_2_2 : List UInt8 := [182, 0, 249, 192, 0, 122, 180, 0, 250, 54, 4, 44, 180, 0, 167, 182, 0, 243, 21, 4, 100, 54, 5, 44]
abbrev dktX1_swing_2_2 : List UInt8 := dkwX1_swing_2_2 ++ dktX1_swing_2_3
def dkwX1_swing_2_1 : List UInt8 := [164, 0, 7, 4, 167, 0, 4, 3, 184, 0, 246, 45, 180, 0, 240, 45, 180, 0, 240, 182, 0, 243, 4, 100]
abbrev dktX1_swing_2_1 : List UInt8 := dkwX1_swing_2_1 ++ dktX1_swing_2_2
def dkwX1_swing_2_0 : List UInt8 := [42, 27, 182, 0, 178, 77, 44, 184, 0, 182, 78, 45, 198, 0, 18, 45, 180, 0, 240, 182, 0, 243, 4]
abbrev dktX1_swing_2_0 : List UInt8 := dkwX1_swing_2_0 ++ dktX1_swing_2_1
theorem dksX1_swing_2_0 : cX1_swing_2.data.toList.drop 0 = dktX1_swing_2_0 := by decide +kernel
theorem dksX1_swing_2_1 : cX1_swing_2.data.toList.drop 23 = dktX1_swing_2_1 := dk_seg dksX1_swing_2_0 23 rfl rfl
theorem dksX1_swing_2_2 : cX1_swing_2.data.toList.drop 47 = dktX1_swing_2_2 := dk_seg dksX1_swing_2_1 24 rfl rfl
theorem dksX1_swing_2_3 : cX1_swing_2.data.toList.drop 71 = dktX1_swing_2_3 := dk_seg dksX1_swing_2_2 24 rfl rfl
theorem dX1_swing_2_0 : decode cX1_swing_2 0 = .ok (.aload_n 0, 1) := dk_42 (dk_at dksX1_swing_2_0 0 rfl rfl)
theorem dX1_swing_2_1 : decode cX1_swing_2 1 = .ok (.iload_n 1, 1) := dk_27 (dk_at dksX1_swing_2_0 1 rfl rfl)
theorem dX1_swing_2_2 : decode cX1_swing_2 2 = .ok (.invokevirtual 178, 3) := dk_182 0 178 (dk_at dksX1_swing_2_0 2 rfl rfl)
theorem dX1_swing_2_5 : decode cX1_swing_2 5 = .ok (.astore_n 2, 1) := dk_77 (dk_at dksX1_swing_2_0 5 rfl rfl)
theorem dX1_swing_2_6 : decode cX1_swing_2 6 = .ok (.aload_n 2, 1) := dk_44 (dk_at dksX1_swing_2_0 6 rfl rfl)
theorem dX1_swing_2_7 : decode cX1_swing_2 7 = .ok (.invokestatic 182, 3) := dk_184 0 182 (dk_at dksX1_swing_2_0 7 rfl rfl)
theorem dX1_swing_2_10 : decode cX1_swing_2 10 = .ok (.astore_n 3, 1) := dk_78 (dk_at dksX1_swing_2_0 10 rfl rfl)
theorem dX1_swing_2_11 : decode cX1_swing_2 11 = .ok (.aload_n 3, 1) := dk_45 (dk_at dksX1_swing_2_0 11 rfl rfl)
theorem dX1_swing_2_12 : decode cX1_swing_2 12 = .ok (.ifnull 18, 3) := dk_198 0 18 (dk_at dksX1_swing_2_0 12 rfl rfl)
theorem dX1_swing_2_15 : decode cX1_swing_2 15 = .ok (.aload_n 3, 1) := dk_45 (dk_at dksX1_swing_2_0 15 rfl rfl)
theorem dX1_swing_2_16 : decode cX1_swing_2 16 = .ok (.getfield 240, 3) := dk_180 0 240 (dk_at dksX1_swing_2_0 16 rfl rfl)
theorem dX1_swing_2_19 : decode cX1_swing_2 19 = .ok (.invokevirtual 243, 3) := dk_182 0 243 (dk_at dksX1_swing_2_0 19 rfl rfl)
theorem dX1_swing_2_22 : decode cX1_swing_2 22 = .ok (.iconst 1, 1) := dk_4 (dk_at dksX1_swing_2_0 22 rfl rfl)
theorem dX1_swing_2_23 : decode cX1_swing_2 23 = .ok (.if_icmp .le 7, 3) := dk_164 0 7 (dk_at dksX1_swing_2_1 0 rfl rfl)
theorem dX1_swing_2_26 : decode cX1_swing_2 26 = .ok (.iconst 1, 1) := dk_4 (dk_at dksX1_swing_2_1 3 rfl rfl)
theorem dX1_swing_2_27 : decode cX1_swing_2 27 = .ok (.goto 4, 3) := dk_167 0 4 (dk_at dksX1_swing_2_1 4 rfl rfl)
theorem dX1_swing_2_30 : decode cX1_swing_2 30 = .ok (.iconst 0, 1) := dk_3 (dk_at dksX1_swing_2_1 7 rfl rfl)
theorem dX1_swing_2_31 : decode cX1_swing_2 31 = .ok (.invokestatic 246, 3) := dk_184 0 246 (dk_at dksX1_swing_2_1 8 rfl rfl)
theorem dX1_swing_2_34 : decode cX1_swing_2 34 = .ok (.aload_n 3, 1) := dk_45 (dk_at dksX1_swing_2_1 11 rfl rfl)
theorem dX1_swing_2_35 : decode cX1_swing_2 35 = .ok (.getfield 240, 3) := dk_180 0 240 (dk_at dksX1_swing_2_1 12 rfl rfl)
theorem dX1_swing_2_38 : decode cX1_swing_2 38 = .ok (.aload_n 3, 1) := dk_45 (dk_at dksX1_swing_2_1 15 rfl rfl)
theorem dX1_swing_2_39 : decode cX1_swing_2 39 = .ok (.getfield 240, 3) := dk_180 0 240 (dk_at dksX1_swing_2_1 16 rfl rfl)
theorem dX1_swing_2_42 : decode cX1_swing_2 42 = .ok (.invokevirtual 243, 3) := dk_182 0 243 (dk_at dksX1_swing_2_1 19 rfl rfl)
theorem dX1_swing_2_45 : decode cX1_swing_2 45 = .ok (.iconst 1, 1) := dk_4 (dk_at dksX1_swing_2_1 22 rfl rfl)
theorem dX1_swing_2_46 : decode cX1_swing_2 46 = .ok (.isub, 1) := dk_100 (dk_at dksX1_swing_2_1 23 rfl rfl)
theorem dX1_swing_2_47 : decode cX1_swing_2 47 = .ok (.invokevirtual 249, 3) := dk_182 0 249 (dk_at dksX1_swing_2_2 0 rfl rfl)
theorem dX1_swing_2_50 : decode cX1_swing_2 50 = .ok (.checkcast 122, 3) := dk_192 0 122 (dk_at dksX1_swing_2_2 3 rfl rfl)
theorem dX1_swing_2_53 : decode cX1_swing_2 53 = .ok (.getfield 250, 3) := dk_180 0 250 (dk_at dksX1_swing_2_2 6 rfl rfl)
theorem dX1_swing_2_56 : decode cX1_swing_2 56 = .ok (.istore 4, 2) := dk_54 4 (dk_at dksX1_swing_2_2 9 rfl rfl)
theorem dX1_swing_2_58 : decode cX1_swing_2 58 = .ok (.aload_n 2, 1) := dk_44 (dk_at dksX1_swing_2_2 11 rfl rfl)
theorem dX1_swing_2_59 : decode cX1_swing_2 59 = .ok (.getfield 167, 3) := dk_180 0 167 (dk_at dksX1_swing_2_2 12 rfl rfl)
theorem dX1_swing_2_62 : decode cX1_swing_2 62 = .ok (.invokevirtual 243, 3) := dk_182 0 243 (dk_at dksX1_swing_2_2 15 rfl rfl)
theorem dX1_swing_2_65 : decode cX1_swing_2 65 = .ok (.iload 4, 2) := dk_21 4 (dk_at dksX1_swing_2_2 18 rfl rfl)
theorem dX1_swing_2_67 : decode cX1_swing_2 67 = .ok (.isub, 1) := dk_100 (dk_at dksX1_swing_2_2 20 rfl rfl)
theorem dX1_swing_2_68 : decode cX1_swing_2 68 = .ok (.istore 5, 2) := dk_54 5 (dk_at dksX1_swing_2_2 21 rfl rfl)
theorem dX1_swing_2_70 : decode cX1_swing_2 70 = .ok (.aload_n 2, 1) := dk_44 (dk_at dksX1_swing_2_2 23 rfl rfl)
theorem dX1_swing_2_71 : decode cX1_swing_2 71 = .ok (.iload 4, 2) := dk_21 4 (dk_at dksX1_swing_2_3 0 rfl rfl)
theorem dX1_swing_2_73 : decode cX1_swing_2 73 = .ok (.invokevirtual 253, 3) := dk_182 0 253 (dk_at dksX1_swing_2_3 2 rfl rfl)
theorem dX1_swing_2_76 : decode cX1_swing_2 76 = .ok (.iload 5, 2) := dk_21 5 (dk_at dksX1_swing_2_3 5 rfl rfl)
theorem dX1_swing_2_78 : decode cX1_swing_2 78 = .ok (.ireturn, 1) := dk_172 (dk_at dksX1_swing_2_3 7 rfl rfl)
abbrev cX1_tokenCount : ByteArray := prog_1_method_31_code
def yX1_tokenCount : MethodName := ⟨RX1, "tokenCount", "(I)I"⟩
def dkwX1_tokenCount_0 : List UInt8 := [42, 180, 0, 18, 27, 182, 0, 178, 180, 0, 167, 182, 0, 243, 172]
abbrev dktX1_tokenCount_0 : List UInt8 := dkwX1_tokenCount_0 ++ []
theorem dksX1_tokenCount_0 : cX1_tokenCount.data.toList.drop 0 = dktX1_tokenCount_0 := by decide +kernel
theorem dX1_tokenCount_0 : decode cX1_tokenCount 0 = .ok (.aload_n 0, 1) := dk_42 (dk_at dksX1_tokenCount_0 0 rfl rfl)
theorem dX1_tokenCount_1 : decode cX1_tokenCount 1 = .ok (.getfield 18, 3) := dk_180 0 18 (dk_at dksX1_tokenCount_0 1 rfl rfl)
theorem dX1_tokenCount_4 : decode cX1_tokenCount 4 = .ok (.iload_n 1, 1) := dk_27 (dk_at dksX1_tokenCount_0 4 rfl rfl)
theorem dX1_tokenCount_5 : decode cX1_tokenCount 5 = .ok (.invokevirtual 178, 3) := dk_182 0 178 (dk_at dksX1_tokenCount_0 5 rfl rfl)
theorem dX1_tokenCount_8 : decode cX1_tokenCount 8 = .ok (.getfield 167, 3) := dk_180 0 167 (dk_at dksX1_tokenCount_0 8 rfl rfl)
theorem dX1_tokenCount_11 : decode cX1_tokenCount 11 = .ok (.invokevirtual 243, 3) := dk_182 0 243 (dk_at dksX1_tokenCount_0 11 rfl rfl)
theorem dX1_tokenCount_14 : decode cX1_tokenCount 14 = .ok (.ireturn, 1) := dk_172 (dk_at dksX1_tokenCount_0 14 rfl rfl)
abbrev cX1_tokenKind : ByteArray := prog_1_method_32_code
def yX1_tokenKind : MethodName := ⟨RX1, "tokenKind", "(II)I"⟩
def dkwX1_tokenKind_1 : List UInt8 := [28, 182, 0, 249, 192, 0, 110, 180, 0, 139, 172]
abbrev dktX1_tokenKind_1 : List UInt8 := dkwX1_tokenKind_1 ++ []
def dkwX1_tokenKind_0 : List UInt8 := [42, 180, 0, 18, 27, 182, 0, 178, 78, 28, 45, 180, 0, 167, 182, 0, 243, 184, 1, 3, 45, 180, 0, 167]
abbrev dktX1_tokenKind_0 : List UInt8 := dkwX1_tokenKind_0 ++ dktX1_tokenKind_1
theorem dksX1_tokenKind_0 : cX1_tokenKind.data.toList.drop 0 = dktX1_tokenKind_0 := by decide +kernel
theorem dksX1_tokenKind_1 : cX1_tokenKind.data.toList.drop 24 = dktX1_tokenKind_1 := dk_seg dksX1_tokenKind_0 24 rfl rfl
theorem dX1_tokenKind_0 : decode cX1_tokenKind 0 = .ok (.aload_n 0, 1) := dk_42 (dk_at dksX1_tokenKind_0 0 rfl rfl)
theorem dX1_tokenKind_1 : decode cX1_tokenKind 1 = .ok (.getfield 18, 3) := dk_180 0 18 (dk_at dksX1_tokenKind_0 1 rfl rfl)
theorem dX1_tokenKind_4 : decode cX1_tokenKind 4 = .ok (.iload_n 1, 1) := dk_27 (dk_at dksX1_tokenKind_0 4 rfl rfl)
theorem dX1_tokenKind_5 : decode cX1_tokenKind 5 = .ok (.invokevirtual 178, 3) := dk_182 0 178 (dk_at dksX1_tokenKind_0 5 rfl rfl)
theorem dX1_tokenKind_8 : decode cX1_tokenKind 8 = .ok (.astore_n 3, 1) := dk_78 (dk_at dksX1_tokenKind_0 8 rfl rfl)
theorem dX1_tokenKind_9 : decode cX1_tokenKind 9 = .ok (.iload_n 2, 1) := dk_28 (dk_at dksX1_tokenKind_0 9 rfl rfl)
theorem dX1_tokenKind_10 : decode cX1_tokenKind 10 = .ok (.aload_n 3, 1) := dk_45 (dk_at dksX1_tokenKind_0 10 rfl rfl)
theorem dX1_tokenKind_11 : decode cX1_tokenKind 11 = .ok (.getfield 167, 3) := dk_180 0 167 (dk_at dksX1_tokenKind_0 11 rfl rfl)
theorem dX1_tokenKind_14 : decode cX1_tokenKind 14 = .ok (.invokevirtual 243, 3) := dk_182 0 243 (dk_at dksX1_tokenKind_0 14 rfl rfl)
theorem dX1_tokenKind_17 : decode cX1_tokenKind 17 = .ok (.invokestatic 259, 3) := dk_184 1 3 (dk_at dksX1_tokenKind_0 17 rfl rfl)
theorem dX1_tokenKind_20 : decode cX1_tokenKind 20 = .ok (.aload_n 3, 1) := dk_45 (dk_at dksX1_tokenKind_0 20 rfl rfl)
theorem dX1_tokenKind_21 : decode cX1_tokenKind 21 = .ok (.getfield 167, 3) := dk_180 0 167 (dk_at dksX1_tokenKind_0 21 rfl rfl)
theorem dX1_tokenKind_24 : decode cX1_tokenKind 24 = .ok (.iload_n 2, 1) := dk_28 (dk_at dksX1_tokenKind_1 0 rfl rfl)
theorem dX1_tokenKind_25 : decode cX1_tokenKind 25 = .ok (.invokevirtual 249, 3) := dk_182 0 249 (dk_at dksX1_tokenKind_1 1 rfl rfl)
theorem dX1_tokenKind_28 : decode cX1_tokenKind 28 = .ok (.checkcast 110, 3) := dk_192 0 110 (dk_at dksX1_tokenKind_1 4 rfl rfl)
theorem dX1_tokenKind_31 : decode cX1_tokenKind 31 = .ok (.getfield 139, 3) := dk_180 0 139 (dk_at dksX1_tokenKind_1 7 rfl rfl)
theorem dX1_tokenKind_34 : decode cX1_tokenKind 34 = .ok (.ireturn, 1) := dk_172 (dk_at dksX1_tokenKind_1 10 rfl rfl)
abbrev cX1_allowedKinds : ByteArray := prog_1_method_35_code
def yX1_allowedKinds : MethodName := ⟨RX1, "allowedKinds", "(I)I"⟩
def dkwX1_allowedKinds_1 : List UInt8 := [167, 0, 7, 44, 182, 1, 20, 172]
abbrev dktX1_allowedKinds_1 : List UInt8 := dkwX1_allowedKinds_1 ++ []
def dkwX1_allowedKinds_0 : List UInt8 := [42, 180, 0, 18, 27, 182, 0, 178, 180, 0, 167, 184, 1, 10, 77, 44, 180, 1, 17, 155, 0, 7, 3]
abbrev dktX1_allowedKinds_0 : List UInt8 := dkwX1_allowedKinds_0 ++ dktX1_allowedKinds_1
theorem dksX1_allowedKinds_0 : cX1_allowedKinds.data.toList.drop 0 = dktX1_allowedKinds_0 := by decide +kernel
theorem dksX1_allowedKinds_1 : cX1_allowedKinds.data.toList.drop 23 = dktX1_allowedKinds_1 := dk_seg dksX1_allowedKinds_0 23 rfl rfl
theorem dX1_allowedKinds_0 : decode cX1_allowedKinds 0 = .ok (.aload_n 0, 1) := dk_42 (dk_at dksX1_allowedKinds_0 0 rfl rfl)
theorem dX1_allowedKinds_1 : decode cX1_allowedKinds 1 = .ok (.getfield 18, 3) := dk_180 0 18 (dk_at dksX1_allowedKinds_0 1 rfl rfl)
theorem dX1_allowedKinds_4 : decode cX1_allowedKinds 4 = .ok (.iload_n 1, 1) := dk_27 (dk_at dksX1_allowedKinds_0 4 rfl rfl)
theorem dX1_allowedKinds_5 : decode cX1_allowedKinds 5 = .ok (.invokevirtual 178, 3) := dk_182 0 178 (dk_at dksX1_allowedKinds_0 5 rfl rfl)
theorem dX1_allowedKinds_8 : decode cX1_allowedKinds 8 = .ok (.getfield 167, 3) := dk_180 0 167 (dk_at dksX1_allowedKinds_0 8 rfl rfl)
theorem dX1_allowedKinds_11 : decode cX1_allowedKinds 11 = .ok (.invokestatic 266, 3) := dk_184 1 10 (dk_at dksX1_allowedKinds_0 11 rfl rfl)
theorem dX1_allowedKinds_14 : decode cX1_allowedKinds 14 = .ok (.astore_n 2, 1) := dk_77 (dk_at dksX1_allowedKinds_0 14 rfl rfl)
theorem dX1_allowedKinds_15 : decode cX1_allowedKinds 15 = .ok (.aload_n 2, 1) := dk_44 (dk_at dksX1_allowedKinds_0 15 rfl rfl)
theorem dX1_allowedKinds_16 : decode cX1_allowedKinds 16 = .ok (.getfield 273, 3) := dk_180 1 17 (dk_at dksX1_allowedKinds_0 16 rfl rfl)
theorem dX1_allowedKinds_19 : decode cX1_allowedKinds 19 = .ok (.ifCond .lt 7, 3) := dk_155 0 7 (dk_at dksX1_allowedKinds_0 19 rfl rfl)
theorem dX1_allowedKinds_22 : decode cX1_allowedKinds 22 = .ok (.iconst 0, 1) := dk_3 (dk_at dksX1_allowedKinds_0 22 rfl rfl)
theorem dX1_allowedKinds_23 : decode cX1_allowedKinds 23 = .ok (.goto 7, 3) := dk_167 0 7 (dk_at dksX1_allowedKinds_1 0 rfl rfl)
theorem dX1_allowedKinds_26 : decode cX1_allowedKinds 26 = .ok (.aload_n 2, 1) := dk_44 (dk_at dksX1_allowedKinds_1 3 rfl rfl)
theorem dX1_allowedKinds_27 : decode cX1_allowedKinds 27 = .ok (.invokevirtual 276, 3) := dk_182 1 20 (dk_at dksX1_allowedKinds_1 4 rfl rfl)
theorem dX1_allowedKinds_30 : decode cX1_allowedKinds 30 = .ok (.ireturn, 1) := dk_172 (dk_at dksX1_allowedKinds_1 7 rfl rfl)
abbrev cX1_excessTokens : ByteArray := prog_1_method_36_code
def yX1_excessTokens : MethodName := ⟨RX1, "excessTokens", "(I)I"⟩
def dkwX1_excessTokens_4 : List UInt8 := [180, 0, 167, 182, 0, 243, 21, 4, 100, 172]
abbrev dktX1_excessTokens_4 : List UInt8 := dkwX1_excessTokens_4 ++ []
def dkwX1_excessTokens_3 : List UInt8 := [167, 0, 5, 21, 4, 54, 4, 167, 255, 208, 21, 4, 155, 0, 7, 4, 167, 0, 4, 3, 184, 0, 186, 44]
abbrev dktX1_excessTokens_3 : List UInt8 := dkwX1_excessTokens_3 ++ dktX1_excessTokens_4
def dkwX1_excessTokens_2 : List UInt8 := [192, 0, 110, 58, 6, 45, 25, 6, 182, 0, 112, 54, 7, 45, 182, 1, 24, 153, 0, 10, 45, 180, 1, 27]
abbrev dktX1_excessTokens_2 : List UInt8 := dkwX1_excessTokens_2 ++ dktX1_excessTokens_3
def dkwX1_excessTokens_1 : List UInt8 := [182, 1, 23, 58, 5, 25, 5, 185, 0, 100, 1, 0, 153, 0, 44, 25, 5, 185, 0, 106, 1, 0]
abbrev dktX1_excessTokens_1 : List UInt8 := dkwX1_excessTokens_1 ++ dktX1_excessTokens_2
def dkwX1_excessTokens_0 : List UInt8 := [42, 180, 0, 18, 27, 182, 0, 178, 77, 187, 0, 93, 89, 183, 0, 95, 78, 2, 54, 4, 44, 180, 0, 167]
abbrev dktX1_excessTokens_0 : List UInt8 := dkwX1_excessTokens_0 ++ dktX1_excessTokens_1
theorem dksX1_excessTokens_0 : cX1_excessTokens.data.toList.drop 0 = dktX1_excessTokens_0 := by decide +kernel
theorem dksX1_excessTokens_1 : cX1_excessTokens.data.toList.drop 24 = dktX1_excessTokens_1 := dk_seg dksX1_excessTokens_0 24 rfl rfl
theorem dksX1_excessTokens_2 : cX1_excessTokens.data.toList.drop 46 = dktX1_excessTokens_2 := dk_seg dksX1_excessTokens_1 22 rfl rfl
theorem dksX1_excessTokens_3 : cX1_excessTokens.data.toList.drop 70 = dktX1_excessTokens_3 := dk_seg dksX1_excessTokens_2 24 rfl rfl
theorem dksX1_excessTokens_4 : cX1_excessTokens.data.toList.drop 94 = dktX1_excessTokens_4 := dk_seg dksX1_excessTokens_3 24 rfl rfl
theorem dX1_excessTokens_0 : decode cX1_excessTokens 0 = .ok (.aload_n 0, 1) := dk_42 (dk_at dksX1_excessTokens_0 0 rfl rfl)
theorem dX1_excessTokens_1 : decode cX1_excessTokens 1 = .ok (.getfield 18, 3) := dk_180 0 18 (dk_at dksX1_excessTokens_0 1 rfl rfl)
theorem dX1_excessTokens_4 : decode cX1_excessTokens 4 = .ok (.iload_n 1, 1) := dk_27 (dk_at dksX1_excessTokens_0 4 rfl rfl)
theorem dX1_excessTokens_5 : decode cX1_excessTokens 5 = .ok (.invokevirtual 178, 3) := dk_182 0 178 (dk_at dksX1_excessTokens_0 5 rfl rfl)
theorem dX1_excessTokens_8 : decode cX1_excessTokens 8 = .ok (.astore_n 2, 1) := dk_77 (dk_at dksX1_excessTokens_0 8 rfl rfl)
theorem dX1_excessTokens_9 : decode cX1_excessTokens 9 = .ok (.new 93, 3) := dk_187 0 93 (dk_at dksX1_excessTokens_0 9 rfl rfl)
theorem dX1_excessTokens_12 : decode cX1_excessTokens 12 = .ok (.dup, 1) := dk_89 (dk_at dksX1_excessTokens_0 12 rfl rfl)
theorem dX1_excessTokens_13 : decode cX1_excessTokens 13 = .ok (.invokespecial 95, 3) := dk_183 0 95 (dk_at dksX1_excessTokens_0 13 rfl rfl)
theorem dX1_excessTokens_16 : decode cX1_excessTokens 16 = .ok (.astore_n 3, 1) := dk_78 (dk_at dksX1_excessTokens_0 16 rfl rfl)
theorem dX1_excessTokens_17 : decode cX1_excessTokens 17 = .ok (.iconst (-1), 1) := dk_2 (dk_at dksX1_excessTokens_0 17 rfl rfl)
theorem dX1_excessTokens_18 : decode cX1_excessTokens 18 = .ok (.istore 4, 2) := dk_54 4 (dk_at dksX1_excessTokens_0 18 rfl rfl)
theorem dX1_excessTokens_20 : decode cX1_excessTokens 20 = .ok (.aload_n 2, 1) := dk_44 (dk_at dksX1_excessTokens_0 20 rfl rfl)
theorem dX1_excessTokens_21 : decode cX1_excessTokens 21 = .ok (.getfield 167, 3) := dk_180 0 167 (dk_at dksX1_excessTokens_0 21 rfl rfl)
theorem dX1_excessTokens_24 : decode cX1_excessTokens 24 = .ok (.invokevirtual 279, 3) := dk_182 1 23 (dk_at dksX1_excessTokens_1 0 rfl rfl)
theorem dX1_excessTokens_27 : decode cX1_excessTokens 27 = .ok (.astore 5, 2) := dk_58 5 (dk_at dksX1_excessTokens_1 3 rfl rfl)
theorem dX1_excessTokens_29 : decode cX1_excessTokens 29 = .ok (.aload 5, 2) := dk_25 5 (dk_at dksX1_excessTokens_1 5 rfl rfl)
theorem dX1_excessTokens_31 : decode cX1_excessTokens 31 = .ok (.invokeinterface 100 1, 5) := by decide +kernel
theorem dX1_excessTokens_36 : decode cX1_excessTokens 36 = .ok (.ifCond .eq 44, 3) := dk_153 0 44 (dk_at dksX1_excessTokens_1 12 rfl rfl)
theorem dX1_excessTokens_39 : decode cX1_excessTokens 39 = .ok (.aload 5, 2) := dk_25 5 (dk_at dksX1_excessTokens_1 15 rfl rfl)
theorem dX1_excessTokens_41 : decode cX1_excessTokens 41 = .ok (.invokeinterface 106 1, 5) := by decide +kernel
theorem dX1_excessTokens_46 : decode cX1_excessTokens 46 = .ok (.checkcast 110, 3) := dk_192 0 110 (dk_at dksX1_excessTokens_2 0 rfl rfl)
theorem dX1_excessTokens_49 : decode cX1_excessTokens 49 = .ok (.astore 6, 2) := dk_58 6 (dk_at dksX1_excessTokens_2 3 rfl rfl)
theorem dX1_excessTokens_51 : decode cX1_excessTokens 51 = .ok (.aload_n 3, 1) := dk_45 (dk_at dksX1_excessTokens_2 5 rfl rfl)
theorem dX1_excessTokens_52 : decode cX1_excessTokens 52 = .ok (.aload 6, 2) := dk_25 6 (dk_at dksX1_excessTokens_2 6 rfl rfl)
theorem dX1_excessTokens_54 : decode cX1_excessTokens 54 = .ok (.invokevirtual 112, 3) := dk_182 0 112 (dk_at dksX1_excessTokens_2 8 rfl rfl)
theorem dX1_excessTokens_57 : decode cX1_excessTokens 57 = .ok (.istore 7, 2) := dk_54 7 (dk_at dksX1_excessTokens_2 11 rfl rfl)
theorem dX1_excessTokens_59 : decode cX1_excessTokens 59 = .ok (.aload_n 3, 1) := dk_45 (dk_at dksX1_excessTokens_2 13 rfl rfl)
theorem dX1_excessTokens_60 : decode cX1_excessTokens 60 = .ok (.invokevirtual 280, 3) := dk_182 1 24 (dk_at dksX1_excessTokens_2 14 rfl rfl)
theorem dX1_excessTokens_63 : decode cX1_excessTokens 63 = .ok (.ifCond .eq 10, 3) := dk_153 0 10 (dk_at dksX1_excessTokens_2 17 rfl rfl)
theorem dX1_excessTokens_66 : decode cX1_excessTokens 66 = .ok (.aload_n 3, 1) := dk_45 (dk_at dksX1_excessTokens_2 20 rfl rfl)
theorem dX1_excessTokens_67 : decode cX1_excessTokens 67 = .ok (.getfield 283, 3) := dk_180 1 27 (dk_at dksX1_excessTokens_2 21 rfl rfl)
theorem dX1_excessTokens_70 : decode cX1_excessTokens 70 = .ok (.goto 5, 3) := dk_167 0 5 (dk_at dksX1_excessTokens_3 0 rfl rfl)
theorem dX1_excessTokens_73 : decode cX1_excessTokens 73 = .ok (.iload 4, 2) := dk_21 4 (dk_at dksX1_excessTokens_3 3 rfl rfl)
theorem dX1_excessTokens_75 : decode cX1_excessTokens 75 = .ok (.istore 4, 2) := dk_54 4 (dk_at dksX1_excessTokens_3 5 rfl rfl)
theorem dX1_excessTokens_77 : decode cX1_excessTokens 77 = .ok (.goto (-48), 3) := dk_167 255 208 (dk_at dksX1_excessTokens_3 7 rfl rfl)
theorem dX1_excessTokens_80 : decode cX1_excessTokens 80 = .ok (.iload 4, 2) := dk_21 4 (dk_at dksX1_excessTokens_3 10 rfl rfl)
theorem dX1_excessTokens_82 : decode cX1_excessTokens 82 = .ok (.ifCond .lt 7, 3) := dk_155 0 7 (dk_at dksX1_excessTokens_3 12 rfl rfl)
theorem dX1_excessTokens_85 : decode cX1_excessTokens 85 = .ok (.iconst 1, 1) := dk_4 (dk_at dksX1_excessTokens_3 15 rfl rfl)
theorem dX1_excessTokens_86 : decode cX1_excessTokens 86 = .ok (.goto 4, 3) := dk_167 0 4 (dk_at dksX1_excessTokens_3 16 rfl rfl)
theorem dX1_excessTokens_89 : decode cX1_excessTokens 89 = .ok (.iconst 0, 1) := dk_3 (dk_at dksX1_excessTokens_3 19 rfl rfl)
theorem dX1_excessTokens_90 : decode cX1_excessTokens 90 = .ok (.invokestatic 186, 3) := dk_184 0 186 (dk_at dksX1_excessTokens_3 20 rfl rfl)
theorem dX1_excessTokens_93 : decode cX1_excessTokens 93 = .ok (.aload_n 2, 1) := dk_44 (dk_at dksX1_excessTokens_3 23 rfl rfl)
theorem dX1_excessTokens_94 : decode cX1_excessTokens 94 = .ok (.getfield 167, 3) := dk_180 0 167 (dk_at dksX1_excessTokens_4 0 rfl rfl)
theorem dX1_excessTokens_97 : decode cX1_excessTokens 97 = .ok (.invokevirtual 243, 3) := dk_182 0 243 (dk_at dksX1_excessTokens_4 3 rfl rfl)
theorem dX1_excessTokens_100 : decode cX1_excessTokens 100 = .ok (.iload 4, 2) := dk_21 4 (dk_at dksX1_excessTokens_4 6 rfl rfl)
theorem dX1_excessTokens_102 : decode cX1_excessTokens 102 = .ok (.isub, 1) := dk_100 (dk_at dksX1_excessTokens_4 8 rfl rfl)
theorem dX1_excessTokens_103 : decode cX1_excessTokens 103 = .ok (.ireturn, 1) := dk_172 (dk_at dksX1_excessTokens_4 9 rfl rfl)
abbrev cX1_clauseCount : ByteArray := prog_1_method_37_code
def yX1_clauseCount : MethodName := ⟨RX1, "clauseCount", "(I)I"⟩
def dkwX1_clauseCount_1 : List UInt8 := [172]
abbrev dktX1_clauseCount_1 : List UInt8 := dkwX1_clauseCount_1 ++ []
def dkwX1_clauseCount_0 : List UInt8 := [42, 180, 0, 18, 27, 182, 0, 178, 184, 0, 182, 77, 44, 199, 0, 7, 3, 167, 0, 7, 44, 180, 1, 28]
abbrev dktX1_clauseCount_0 : List UInt8 := dkwX1_clauseCount_0 ++ dktX1_clauseCount_1
theorem dksX1_clauseCount_0 : cX1_clauseCount.data.toList.drop 0 = dktX1_clauseCount_0 := by decide +kernel
theorem dksX1_clauseCount_1 : cX1_clauseCount.data.toList.drop 24 = dktX1_clauseCount_1 := dk_seg dksX1_clauseCount_0 24 rfl rfl
theorem dX1_clauseCount_0 : decode cX1_clauseCount 0 = .ok (.aload_n 0, 1) := dk_42 (dk_at dksX1_clauseCount_0 0 rfl rfl)
theorem dX1_clauseCount_1 : decode cX1_clauseCount 1 = .ok (.getfield 18, 3) := dk_180 0 18 (dk_at dksX1_clauseCount_0 1 rfl rfl)
theorem dX1_clauseCount_4 : decode cX1_clauseCount 4 = .ok (.iload_n 1, 1) := dk_27 (dk_at dksX1_clauseCount_0 4 rfl rfl)
theorem dX1_clauseCount_5 : decode cX1_clauseCount 5 = .ok (.invokevirtual 178, 3) := dk_182 0 178 (dk_at dksX1_clauseCount_0 5 rfl rfl)
theorem dX1_clauseCount_8 : decode cX1_clauseCount 8 = .ok (.invokestatic 182, 3) := dk_184 0 182 (dk_at dksX1_clauseCount_0 8 rfl rfl)
theorem dX1_clauseCount_11 : decode cX1_clauseCount 11 = .ok (.astore_n 2, 1) := dk_77 (dk_at dksX1_clauseCount_0 11 rfl rfl)
theorem dX1_clauseCount_12 : decode cX1_clauseCount 12 = .ok (.aload_n 2, 1) := dk_44 (dk_at dksX1_clauseCount_0 12 rfl rfl)
theorem dX1_clauseCount_13 : decode cX1_clauseCount 13 = .ok (.ifnonnull 7, 3) := dk_199 0 7 (dk_at dksX1_clauseCount_0 13 rfl rfl)
theorem dX1_clauseCount_16 : decode cX1_clauseCount 16 = .ok (.iconst 0, 1) := dk_3 (dk_at dksX1_clauseCount_0 16 rfl rfl)
theorem dX1_clauseCount_17 : decode cX1_clauseCount 17 = .ok (.goto 7, 3) := dk_167 0 7 (dk_at dksX1_clauseCount_0 17 rfl rfl)
theorem dX1_clauseCount_20 : decode cX1_clauseCount 20 = .ok (.aload_n 2, 1) := dk_44 (dk_at dksX1_clauseCount_0 20 rfl rfl)
theorem dX1_clauseCount_21 : decode cX1_clauseCount 21 = .ok (.getfield 284, 3) := dk_180 1 28 (dk_at dksX1_clauseCount_0 21 rfl rfl)
theorem dX1_clauseCount_24 : decode cX1_clauseCount 24 = .ok (.ireturn, 1) := dk_172 (dk_at dksX1_clauseCount_1 0 rfl rfl)
abbrev cX1_depth : ByteArray := prog_1_method_38_code
def yX1_depth : MethodName := ⟨RX1, "depth", "(I)I"⟩
def dkwX1_depth_0 : List UInt8 := [42, 27, 182, 1, 31, 182, 1, 35, 172]
abbrev dktX1_depth_0 : List UInt8 := dkwX1_depth_0 ++ []
theorem dksX1_depth_0 : cX1_depth.data.toList.drop 0 = dktX1_depth_0 := by decide +kernel
theorem dX1_depth_0 : decode cX1_depth 0 = .ok (.aload_n 0, 1) := dk_42 (dk_at dksX1_depth_0 0 rfl rfl)
theorem dX1_depth_1 : decode cX1_depth 1 = .ok (.iload_n 1, 1) := dk_27 (dk_at dksX1_depth_0 1 rfl rfl)
theorem dX1_depth_2 : decode cX1_depth 2 = .ok (.invokevirtual 287, 3) := dk_182 1 31 (dk_at dksX1_depth_0 2 rfl rfl)
theorem dX1_depth_5 : decode cX1_depth 5 = .ok (.invokevirtual 291, 3) := dk_182 1 35 (dk_at dksX1_depth_0 5 rfl rfl)
theorem dX1_depth_8 : decode cX1_depth 8 = .ok (.ireturn, 1) := dk_172 (dk_at dksX1_depth_0 8 rfl rfl)
abbrev cX1_subjectCount : ByteArray := prog_1_method_39_code
def yX1_subjectCount : MethodName := ⟨RX1, "subjectCount", "(II)I"⟩
def dkwX1_subjectCount_0 : List UInt8 := [42, 27, 182, 1, 31, 28, 182, 1, 38, 180, 1, 42, 182, 0, 243, 172]
abbrev dktX1_subjectCount_0 : List UInt8 := dkwX1_subjectCount_0 ++ []
theorem dksX1_subjectCount_0 : cX1_subjectCount.data.toList.drop 0 = dktX1_subjectCount_0 := by decide +kernel
theorem dX1_subjectCount_0 : decode cX1_subjectCount 0 = .ok (.aload_n 0, 1) := dk_42 (dk_at dksX1_subjectCount_0 0 rfl rfl)
theorem dX1_subjectCount_1 : decode cX1_subjectCount 1 = .ok (.iload_n 1, 1) := dk_27 (dk_at dksX1_subjectCount_0 1 rfl rfl)
theorem dX1_subjectCount_2 : decode cX1_subjectCount 2 = .ok (.invokevirtual 287, 3) := dk_182 1 31 (dk_at dksX1_subjectCount_0 2 rfl rfl)
theorem dX1_subjectCount_5 : decode cX1_subjectCount 5 = .ok (.iload_n 2, 1) := dk_28 (dk_at dksX1_subjectCount_0 5 rfl rfl)
theorem dX1_subjectCount_6 : decode cX1_subjectCount 6 = .ok (.invokevirtual 294, 3) := dk_182 1 38 (dk_at dksX1_subjectCount_0 6 rfl rfl)
theorem dX1_subjectCount_9 : decode cX1_subjectCount 9 = .ok (.getfield 298, 3) := dk_180 1 42 (dk_at dksX1_subjectCount_0 9 rfl rfl)
theorem dX1_subjectCount_12 : decode cX1_subjectCount 12 = .ok (.invokevirtual 243, 3) := dk_182 0 243 (dk_at dksX1_subjectCount_0 12 rfl rfl)
theorem dX1_subjectCount_15 : decode cX1_subjectCount 15 = .ok (.ireturn, 1) := dk_172 (dk_at dksX1_subjectCount_0 15 rfl rfl)
abbrev cX1_verbOf : ByteArray := prog_1_method_40_code
def yX1_verbOf : MethodName := ⟨RX1, "verbOf", "(II)I"⟩
def dkwX1_verbOf_0 : List UInt8 := [42, 27, 182, 1, 31, 78, 45, 45, 28, 182, 1, 38, 180, 1, 45, 182, 1, 48, 180, 0, 146, 172]
abbrev dktX1_verbOf_0 : List UInt8 := dkwX1_verbOf_0 ++ []
theorem dksX1_verbOf_0 : cX1_verbOf.data.toList.drop 0 = dktX1_verbOf_0 := by decide +kernel
theorem dX1_verbOf_0 : decode cX1_verbOf 0 = .ok (.aload_n 0, 1) := dk_42 (dk_at dksX1_verbOf_0 0 rfl rfl)
theorem dX1_verbOf_1 : decode cX1_verbOf 1 = .ok (.iload_n 1, 1) := dk_27 (dk_at dksX1_verbOf_0 1 rfl rfl)
theorem dX1_verbOf_2 : decode cX1_verbOf 2 = .ok (.invokevirtual 287, 3) := dk_182 1 31 (dk_at dksX1_verbOf_0 2 rfl rfl)
theorem dX1_verbOf_5 : decode cX1_verbOf 5 = .ok (.astore_n 3, 1) := dk_78 (dk_at dksX1_verbOf_0 5 rfl rfl)
theorem dX1_verbOf_6 : decode cX1_verbOf 6 = .ok (.aload_n 3, 1) := dk_45 (dk_at dksX1_verbOf_0 6 rfl rfl)
theorem dX1_verbOf_7 : decode cX1_verbOf 7 = .ok (.aload_n 3, 1) := dk_45 (dk_at dksX1_verbOf_0 7 rfl rfl)
theorem dX1_verbOf_8 : decode cX1_verbOf 8 = .ok (.iload_n 2, 1) := dk_28 (dk_at dksX1_verbOf_0 8 rfl rfl)
theorem dX1_verbOf_9 : decode cX1_verbOf 9 = .ok (.invokevirtual 294, 3) := dk_182 1 38 (dk_at dksX1_verbOf_0 9 rfl rfl)
theorem dX1_verbOf_12 : decode cX1_verbOf 12 = .ok (.getfield 301, 3) := dk_180 1 45 (dk_at dksX1_verbOf_0 12 rfl rfl)
theorem dX1_verbOf_15 : decode cX1_verbOf 15 = .ok (.invokevirtual 304, 3) := dk_182 1 48 (dk_at dksX1_verbOf_0 15 rfl rfl)
theorem dX1_verbOf_18 : decode cX1_verbOf 18 = .ok (.getfield 146, 3) := dk_180 0 146 (dk_at dksX1_verbOf_0 18 rfl rfl)
theorem dX1_verbOf_21 : decode cX1_verbOf 21 = .ok (.ireturn, 1) := dk_172 (dk_at dksX1_verbOf_0 21 rfl rfl)
abbrev cX1_tenseOf : ByteArray := prog_1_method_41_code
def yX1_tenseOf : MethodName := ⟨RX1, "tenseOf", "(II)I"⟩
def dkwX1_tenseOf_0 : List UInt8 := [42, 27, 182, 1, 31, 78, 45, 45, 28, 182, 1, 38, 182, 1, 52, 172]
abbrev dktX1_tenseOf_0 : List UInt8 := dkwX1_tenseOf_0 ++ []
theorem dksX1_tenseOf_0 : cX1_tenseOf.data.toList.drop 0 = dktX1_tenseOf_0 := by decide +kernel
theorem dX1_tenseOf_0 : decode cX1_tenseOf 0 = .ok (.aload_n 0, 1) := dk_42 (dk_at dksX1_tenseOf_0 0 rfl rfl)
theorem dX1_tenseOf_1 : decode cX1_tenseOf 1 = .ok (.iload_n 1, 1) := dk_27 (dk_at dksX1_tenseOf_0 1 rfl rfl)
theorem dX1_tenseOf_2 : decode cX1_tenseOf 2 = .ok (.invokevirtual 287, 3) := dk_182 1 31 (dk_at dksX1_tenseOf_0 2 rfl rfl)
theorem dX1_tenseOf_5 : decode cX1_tenseOf 5 = .ok (.astore_n 3, 1) := dk_78 (dk_at dksX1_tenseOf_0 5 rfl rfl)
theorem dX1_tenseOf_6 : decode cX1_tenseOf 6 = .ok (.aload_n 3, 1) := dk_45 (dk_at dksX1_tenseOf_0 6 rfl rfl)
theorem dX1_tenseOf_7 : decode cX1_tenseOf 7 = .ok (.aload_n 3, 1) := dk_45 (dk_at dksX1_tenseOf_0 7 rfl rfl)
theorem dX1_tenseOf_8 : decode cX1_tenseOf 8 = .ok (.iload_n 2, 1) := dk_28 (dk_at dksX1_tenseOf_0 8 rfl rfl)
theorem dX1_tenseOf_9 : decode cX1_tenseOf 9 = .ok (.invokevirtual 294, 3) := dk_182 1 38 (dk_at dksX1_tenseOf_0 9 rfl rfl)
theorem dX1_tenseOf_12 : decode cX1_tenseOf 12 = .ok (.invokevirtual 308, 3) := dk_182 1 52 (dk_at dksX1_tenseOf_0 12 rfl rfl)
theorem dX1_tenseOf_15 : decode cX1_tenseOf 15 = .ok (.ireturn, 1) := dk_172 (dk_at dksX1_tenseOf_0 15 rfl rfl)
abbrev cX1_hasObject : ByteArray := prog_1_method_42_code
def yX1_hasObject : MethodName := ⟨RX1, "hasObject", "(II)Z"⟩
def dkwX1_hasObject_1 : List UInt8 := [154, 0, 7, 4, 167, 0, 4, 3, 172]
abbrev dktX1_hasObject_1 : List UInt8 := dkwX1_hasObject_1 ++ []
def dkwX1_hasObject_0 : List UInt8 := [42, 27, 182, 1, 31, 28, 182, 1, 38, 78, 45, 180, 1, 56, 156, 0, 13, 45, 180, 1, 59, 182, 1, 62]
abbrev dktX1_hasObject_0 : List UInt8 := dkwX1_hasObject_0 ++ dktX1_hasObject_1
theorem dksX1_hasObject_0 : cX1_hasObject.data.toList.drop 0 = dktX1_hasObject_0 := by decide +kernel
theorem dksX1_hasObject_1 : cX1_hasObject.data.toList.drop 24 = dktX1_hasObject_1 := dk_seg dksX1_hasObject_0 24 rfl rfl
theorem dX1_hasObject_0 : decode cX1_hasObject 0 = .ok (.aload_n 0, 1) := dk_42 (dk_at dksX1_hasObject_0 0 rfl rfl)
theorem dX1_hasObject_1 : decode cX1_hasObject 1 = .ok (.iload_n 1, 1) := dk_27 (dk_at dksX1_hasObject_0 1 rfl rfl)
theorem dX1_hasObject_2 : decode cX1_hasObject 2 = .ok (.invokevirtual 287, 3) := dk_182 1 31 (dk_at dksX1_hasObject_0 2 rfl rfl)
theorem dX1_hasObject_5 : decode cX1_hasObject 5 = .ok (.iload_n 2, 1) := dk_28 (dk_at dksX1_hasObject_0 5 rfl rfl)
theorem dX1_hasObject_6 : decode cX1_hasObject 6 = .ok (.invokevirtual 294, 3) := dk_182 1 38 (dk_at dksX1_hasObject_0 6 rfl rfl)
theorem dX1_hasObject_9 : decode cX1_hasObject 9 = .ok (.astore_n 3, 1) := dk_78 (dk_at dksX1_hasObject_0 9 rfl rfl)
theorem dX1_hasObject_10 : decode cX1_hasObject 10 = .ok (.aload_n 3, 1) := dk_45 (dk_at dksX1_hasObject_0 10 rfl rfl)
theorem dX1_hasObject_11 : decode cX1_hasObject 11 = .ok (.getfield 312, 3) := dk_180 1 56 (dk_at dksX1_hasObject_0 11 rfl rfl)
theorem dX1_hasObject_14 : decode cX1_hasObject 14 = .ok (.ifCond .ge 13, 3) := dk_156 0 13 (dk_at dksX1_hasObject_0 14 rfl rfl)
theorem dX1_hasObject_17 : decode cX1_hasObject 17 = .ok (.aload_n 3, 1) := dk_45 (dk_at dksX1_hasObject_0 17 rfl rfl)
theorem dX1_hasObject_18 : decode cX1_hasObject 18 = .ok (.getfield 315, 3) := dk_180 1 59 (dk_at dksX1_hasObject_0 18 rfl rfl)
theorem dX1_hasObject_21 : decode cX1_hasObject 21 = .ok (.invokevirtual 318, 3) := dk_182 1 62 (dk_at dksX1_hasObject_0 21 rfl rfl)
theorem dX1_hasObject_24 : decode cX1_hasObject 24 = .ok (.ifCond .ne 7, 3) := dk_154 0 7 (dk_at dksX1_hasObject_1 0 rfl rfl)
theorem dX1_hasObject_27 : decode cX1_hasObject 27 = .ok (.iconst 1, 1) := dk_4 (dk_at dksX1_hasObject_1 3 rfl rfl)
theorem dX1_hasObject_28 : decode cX1_hasObject 28 = .ok (.goto 4, 3) := dk_167 0 4 (dk_at dksX1_hasObject_1 4 rfl rfl)
theorem dX1_hasObject_31 : decode cX1_hasObject 31 = .ok (.iconst 0, 1) := dk_3 (dk_at dksX1_hasObject_1 7 rfl rfl)
theorem dX1_hasObject_32 : decode cX1_hasObject 32 = .ok (.ireturn, 1) := dk_172 (dk_at dksX1_hasObject_1 8 rfl rfl)
abbrev cX1_parentOf : ByteArray := prog_1_method_43_code
def yX1_parentOf : MethodName := ⟨RX1, "parentOf", "(II)I"⟩
def dkwX1_parentOf_1 : List UInt8 := [180, 1, 69, 172]
abbrev dktX1_parentOf_1 : List UInt8 := dkwX1_parentOf_1 ++ []
def dkwX1_parentOf_0 : List UInt8 := [42, 27, 182, 1, 31, 28, 182, 1, 38, 180, 1, 65, 78, 45, 199, 0, 7, 2, 167, 0, 7, 45]
abbrev dktX1_parentOf_0 : List UInt8 := dkwX1_parentOf_0 ++ dktX1_parentOf_1
theorem dksX1_parentOf_0 : cX1_parentOf.data.toList.drop 0 = dktX1_parentOf_0 := by decide +kernel
theorem dksX1_parentOf_1 : cX1_parentOf.data.toList.drop 22 = dktX1_parentOf_1 := dk_seg dksX1_parentOf_0 22 rfl rfl
theorem dX1_parentOf_0 : decode cX1_parentOf 0 = .ok (.aload_n 0, 1) := dk_42 (dk_at dksX1_parentOf_0 0 rfl rfl)
theorem dX1_parentOf_1 : decode cX1_parentOf 1 = .ok (.iload_n 1, 1) := dk_27 (dk_at dksX1_parentOf_0 1 rfl rfl)
theorem dX1_parentOf_2 : decode cX1_parentOf 2 = .ok (.invokevirtual 287, 3) := dk_182 1 31 (dk_at dksX1_parentOf_0 2 rfl rfl)
theorem dX1_parentOf_5 : decode cX1_parentOf 5 = .ok (.iload_n 2, 1) := dk_28 (dk_at dksX1_parentOf_0 5 rfl rfl)
theorem dX1_parentOf_6 : decode cX1_parentOf 6 = .ok (.invokevirtual 294, 3) := dk_182 1 38 (dk_at dksX1_parentOf_0 6 rfl rfl)
theorem dX1_parentOf_9 : decode cX1_parentOf 9 = .ok (.getfield 321, 3) := dk_180 1 65 (dk_at dksX1_parentOf_0 9 rfl rfl)
theorem dX1_parentOf_12 : decode cX1_parentOf 12 = .ok (.astore_n 3, 1) := dk_78 (dk_at dksX1_parentOf_0 12 rfl rfl)
theorem dX1_parentOf_13 : decode cX1_parentOf 13 = .ok (.aload_n 3, 1) := dk_45 (dk_at dksX1_parentOf_0 13 rfl rfl)
theorem dX1_parentOf_14 : decode cX1_parentOf 14 = .ok (.ifnonnull 7, 3) := dk_199 0 7 (dk_at dksX1_parentOf_0 14 rfl rfl)
theorem dX1_parentOf_17 : decode cX1_parentOf 17 = .ok (.iconst (-1), 1) := dk_2 (dk_at dksX1_parentOf_0 17 rfl rfl)
theorem dX1_parentOf_18 : decode cX1_parentOf 18 = .ok (.goto 7, 3) := dk_167 0 7 (dk_at dksX1_parentOf_0 18 rfl rfl)
theorem dX1_parentOf_21 : decode cX1_parentOf 21 = .ok (.aload_n 3, 1) := dk_45 (dk_at dksX1_parentOf_0 21 rfl rfl)
theorem dX1_parentOf_22 : decode cX1_parentOf 22 = .ok (.getfield 325, 3) := dk_180 1 69 (dk_at dksX1_parentOf_1 0 rfl rfl)
theorem dX1_parentOf_25 : decode cX1_parentOf 25 = .ok (.ireturn, 1) := dk_172 (dk_at dksX1_parentOf_1 3 rfl rfl)
abbrev cX1_firstDisagreement : ByteArray := prog_1_method_46_code
def yX1_firstDisagreement : MethodName := ⟨RX1, "firstDisagreement", "(I)I"⟩
def dkwX1_firstDisagreement_1 : List UInt8 := [184, 0, 186, 44, 180, 1, 83, 172]
abbrev dktX1_firstDisagreement_1 : List UInt8 := dkwX1_firstDisagreement_1 ++ []
def dkwX1_firstDisagreement_0 : List UInt8 := [42, 42, 27, 182, 1, 31, 182, 1, 72, 77, 44, 180, 1, 76, 158, 0, 7, 4, 167, 0, 4, 3]
abbrev dktX1_firstDisagreement_0 : List UInt8 := dkwX1_firstDisagreement_0 ++ dktX1_firstDisagreement_1
theorem dksX1_firstDisagreement_0 : cX1_firstDisagreement.data.toList.drop 0 = dktX1_firstDisagreement_0 := by decide +kernel
theorem dksX1_firstDisagreement_1 : cX1_firstDisagreement.data.toList.drop 22 = dktX1_firstDisagreement_1 := dk_seg dksX1_firstDisagreement_0 22 rfl rfl
theorem dX1_firstDisagreement_0 : decode cX1_firstDisagreement 0 = .ok (.aload_n 0, 1) := dk_42 (dk_at dksX1_firstDisagreement_0 0 rfl rfl)
theorem dX1_firstDisagreement_1 : decode cX1_firstDisagreement 1 = .ok (.aload_n 0, 1) := dk_42 (dk_at dksX1_firstDisagreement_0 1 rfl rfl)
theorem dX1_firstDisagreement_2 : decode cX1_firstDisagreement 2 = .ok (.iload_n 1, 1) := dk_27 (dk_at dksX1_firstDisagreement_0 2 rfl rfl)
theorem dX1_firstDisagreement_3 : decode cX1_firstDisagreement 3 = .ok (.invokevirtual 287, 3) := dk_182 1 31 (dk_at dksX1_firstDisagreement_0 3 rfl rfl)
theorem dX1_firstDisagreement_6 : decode cX1_firstDisagreement 6 = .ok (.invokevirtual 328, 3) := dk_182 1 72 (dk_at dksX1_firstDisagreement_0 6 rfl rfl)
theorem dX1_firstDisagreement_9 : decode cX1_firstDisagreement 9 = .ok (.astore_n 2, 1) := dk_77 (dk_at dksX1_firstDisagreement_0 9 rfl rfl)
theorem dX1_firstDisagreement_10 : decode cX1_firstDisagreement 10 = .ok (.aload_n 2, 1) := dk_44 (dk_at dksX1_firstDisagreement_0 10 rfl rfl)
theorem dX1_firstDisagreement_11 : decode cX1_firstDisagreement 11 = .ok (.getfield 332, 3) := dk_180 1 76 (dk_at dksX1_firstDisagreement_0 11 rfl rfl)
theorem dX1_firstDisagreement_14 : decode cX1_firstDisagreement 14 = .ok (.ifCond .le 7, 3) := dk_158 0 7 (dk_at dksX1_firstDisagreement_0 14 rfl rfl)
theorem dX1_firstDisagreement_17 : decode cX1_firstDisagreement 17 = .ok (.iconst 1, 1) := dk_4 (dk_at dksX1_firstDisagreement_0 17 rfl rfl)
theorem dX1_firstDisagreement_18 : decode cX1_firstDisagreement 18 = .ok (.goto 4, 3) := dk_167 0 4 (dk_at dksX1_firstDisagreement_0 18 rfl rfl)
theorem dX1_firstDisagreement_21 : decode cX1_firstDisagreement 21 = .ok (.iconst 0, 1) := dk_3 (dk_at dksX1_firstDisagreement_0 21 rfl rfl)
theorem dX1_firstDisagreement_22 : decode cX1_firstDisagreement 22 = .ok (.invokestatic 186, 3) := dk_184 0 186 (dk_at dksX1_firstDisagreement_1 0 rfl rfl)
theorem dX1_firstDisagreement_25 : decode cX1_firstDisagreement 25 = .ok (.aload_n 2, 1) := dk_44 (dk_at dksX1_firstDisagreement_1 3 rfl rfl)
theorem dX1_firstDisagreement_26 : decode cX1_firstDisagreement 26 = .ok (.getfield 339, 3) := dk_180 1 83 (dk_at dksX1_firstDisagreement_1 4 rfl rfl)
theorem dX1_firstDisagreement_29 : decode cX1_firstDisagreement 29 = .ok (.ireturn, 1) := dk_172 (dk_at dksX1_firstDisagreement_1 7 rfl rfl)
abbrev cX1_isShut_2 : ByteArray := prog_1_method_48_code
def yX1_isShut_2 : MethodName := ⟨RX1, "isShut", "(I)Z"⟩
def dkwX1_isShut_2_0 : List UInt8 := [42, 42, 180, 0, 18, 27, 182, 0, 178, 182, 1, 86, 172]
abbrev dktX1_isShut_2_0 : List UInt8 := dkwX1_isShut_2_0 ++ []
theorem dksX1_isShut_2_0 : cX1_isShut_2.data.toList.drop 0 = dktX1_isShut_2_0 := by decide +kernel
theorem dX1_isShut_2_0 : decode cX1_isShut_2 0 = .ok (.aload_n 0, 1) := dk_42 (dk_at dksX1_isShut_2_0 0 rfl rfl)
theorem dX1_isShut_2_1 : decode cX1_isShut_2 1 = .ok (.aload_n 0, 1) := dk_42 (dk_at dksX1_isShut_2_0 1 rfl rfl)
theorem dX1_isShut_2_2 : decode cX1_isShut_2 2 = .ok (.getfield 18, 3) := dk_180 0 18 (dk_at dksX1_isShut_2_0 2 rfl rfl)
theorem dX1_isShut_2_5 : decode cX1_isShut_2 5 = .ok (.iload_n 1, 1) := dk_27 (dk_at dksX1_isShut_2_0 5 rfl rfl)
theorem dX1_isShut_2_6 : decode cX1_isShut_2 6 = .ok (.invokevirtual 178, 3) := dk_182 0 178 (dk_at dksX1_isShut_2_0 6 rfl rfl)
theorem dX1_isShut_2_9 : decode cX1_isShut_2 9 = .ok (.invokevirtual 342, 3) := dk_182 1 86 (dk_at dksX1_isShut_2_0 9 rfl rfl)
theorem dX1_isShut_2_12 : decode cX1_isShut_2 12 = .ok (.ireturn, 1) := dk_172 (dk_at dksX1_isShut_2_0 12 rfl rfl)
abbrev cX1_worstGate : ByteArray := prog_1_method_50_code
def yX1_worstGate : MethodName := ⟨RX1, "worstGate", "()I"⟩
def dkwX1_worstGate_3 : List UInt8 := [184, 0, 186, 43, 187, 1, 98, 89, 42, 183, 1, 100, 3, 184, 1, 103, 192, 0, 168, 180, 1, 107, 172]
abbrev dktX1_worstGate_3 : List UInt8 := dkwX1_worstGate_3 ++ []
def dkwX1_worstGate_2 : List UInt8 := [198, 0, 9, 43, 45, 182, 1, 94, 87, 167, 255, 224, 43, 182, 1, 62, 154, 0, 7, 4, 167, 0, 4, 3]
abbrev dktX1_worstGate_2 : List UInt8 := dkwX1_worstGate_2 ++ dktX1_worstGate_3
def dkwX1_worstGate_1 : List UInt8 := [185, 0, 100, 1, 0, 153, 0, 29, 44, 185, 0, 106, 1, 0, 192, 0, 168, 78, 45, 184, 0, 182]
abbrev dktX1_worstGate_1 : List UInt8 := dkwX1_worstGate_1 ++ dktX1_worstGate_2
def dkwX1_worstGate_0 : List UInt8 := [187, 0, 244, 89, 183, 1, 93, 76, 42, 180, 0, 18, 180, 1, 90, 182, 1, 23, 77, 44]
abbrev dktX1_worstGate_0 : List UInt8 := dkwX1_worstGate_0 ++ dktX1_worstGate_1
theorem dksX1_worstGate_0 : cX1_worstGate.data.toList.drop 0 = dktX1_worstGate_0 := by decide +kernel
theorem dksX1_worstGate_1 : cX1_worstGate.data.toList.drop 20 = dktX1_worstGate_1 := dk_seg dksX1_worstGate_0 20 rfl rfl
theorem dksX1_worstGate_2 : cX1_worstGate.data.toList.drop 42 = dktX1_worstGate_2 := dk_seg dksX1_worstGate_1 22 rfl rfl
theorem dksX1_worstGate_3 : cX1_worstGate.data.toList.drop 66 = dktX1_worstGate_3 := dk_seg dksX1_worstGate_2 24 rfl rfl
theorem dX1_worstGate_0 : decode cX1_worstGate 0 = .ok (.new 244, 3) := dk_187 0 244 (dk_at dksX1_worstGate_0 0 rfl rfl)
theorem dX1_worstGate_3 : decode cX1_worstGate 3 = .ok (.dup, 1) := dk_89 (dk_at dksX1_worstGate_0 3 rfl rfl)
theorem dX1_worstGate_4 : decode cX1_worstGate 4 = .ok (.invokespecial 349, 3) := dk_183 1 93 (dk_at dksX1_worstGate_0 4 rfl rfl)
theorem dX1_worstGate_7 : decode cX1_worstGate 7 = .ok (.astore_n 1, 1) := dk_76 (dk_at dksX1_worstGate_0 7 rfl rfl)
theorem dX1_worstGate_8 : decode cX1_worstGate 8 = .ok (.aload_n 0, 1) := dk_42 (dk_at dksX1_worstGate_0 8 rfl rfl)
theorem dX1_worstGate_9 : decode cX1_worstGate 9 = .ok (.getfield 18, 3) := dk_180 0 18 (dk_at dksX1_worstGate_0 9 rfl rfl)
theorem dX1_worstGate_12 : decode cX1_worstGate 12 = .ok (.getfield 346, 3) := dk_180 1 90 (dk_at dksX1_worstGate_0 12 rfl rfl)
theorem dX1_worstGate_15 : decode cX1_worstGate 15 = .ok (.invokevirtual 279, 3) := dk_182 1 23 (dk_at dksX1_worstGate_0 15 rfl rfl)
theorem dX1_worstGate_18 : decode cX1_worstGate 18 = .ok (.astore_n 2, 1) := dk_77 (dk_at dksX1_worstGate_0 18 rfl rfl)
theorem dX1_worstGate_19 : decode cX1_worstGate 19 = .ok (.aload_n 2, 1) := dk_44 (dk_at dksX1_worstGate_0 19 rfl rfl)
theorem dX1_worstGate_20 : decode cX1_worstGate 20 = .ok (.invokeinterface 100 1, 5) := by decide +kernel
theorem dX1_worstGate_25 : decode cX1_worstGate 25 = .ok (.ifCond .eq 29, 3) := dk_153 0 29 (dk_at dksX1_worstGate_1 5 rfl rfl)
theorem dX1_worstGate_28 : decode cX1_worstGate 28 = .ok (.aload_n 2, 1) := dk_44 (dk_at dksX1_worstGate_1 8 rfl rfl)
theorem dX1_worstGate_29 : decode cX1_worstGate 29 = .ok (.invokeinterface 106 1, 5) := by decide +kernel
theorem dX1_worstGate_34 : decode cX1_worstGate 34 = .ok (.checkcast 168, 3) := dk_192 0 168 (dk_at dksX1_worstGate_1 14 rfl rfl)
theorem dX1_worstGate_37 : decode cX1_worstGate 37 = .ok (.astore_n 3, 1) := dk_78 (dk_at dksX1_worstGate_1 17 rfl rfl)
theorem dX1_worstGate_38 : decode cX1_worstGate 38 = .ok (.aload_n 3, 1) := dk_45 (dk_at dksX1_worstGate_1 18 rfl rfl)
theorem dX1_worstGate_39 : decode cX1_worstGate 39 = .ok (.invokestatic 182, 3) := dk_184 0 182 (dk_at dksX1_worstGate_1 19 rfl rfl)
theorem dX1_worstGate_42 : decode cX1_worstGate 42 = .ok (.ifnull 9, 3) := dk_198 0 9 (dk_at dksX1_worstGate_2 0 rfl rfl)
theorem dX1_worstGate_45 : decode cX1_worstGate 45 = .ok (.aload_n 1, 1) := dk_43 (dk_at dksX1_worstGate_2 3 rfl rfl)
theorem dX1_worstGate_46 : decode cX1_worstGate 46 = .ok (.aload_n 3, 1) := dk_45 (dk_at dksX1_worstGate_2 4 rfl rfl)
theorem dX1_worstGate_47 : decode cX1_worstGate 47 = .ok (.invokevirtual 350, 3) := dk_182 1 94 (dk_at dksX1_worstGate_2 5 rfl rfl)
theorem dX1_worstGate_50 : decode cX1_worstGate 50 = .ok (.pop, 1) := dk_87 (dk_at dksX1_worstGate_2 8 rfl rfl)
theorem dX1_worstGate_51 : decode cX1_worstGate 51 = .ok (.goto (-32), 3) := dk_167 255 224 (dk_at dksX1_worstGate_2 9 rfl rfl)
theorem dX1_worstGate_54 : decode cX1_worstGate 54 = .ok (.aload_n 1, 1) := dk_43 (dk_at dksX1_worstGate_2 12 rfl rfl)
theorem dX1_worstGate_55 : decode cX1_worstGate 55 = .ok (.invokevirtual 318, 3) := dk_182 1 62 (dk_at dksX1_worstGate_2 13 rfl rfl)
theorem dX1_worstGate_58 : decode cX1_worstGate 58 = .ok (.ifCond .ne 7, 3) := dk_154 0 7 (dk_at dksX1_worstGate_2 16 rfl rfl)
theorem dX1_worstGate_61 : decode cX1_worstGate 61 = .ok (.iconst 1, 1) := dk_4 (dk_at dksX1_worstGate_2 19 rfl rfl)
theorem dX1_worstGate_62 : decode cX1_worstGate 62 = .ok (.goto 4, 3) := dk_167 0 4 (dk_at dksX1_worstGate_2 20 rfl rfl)
theorem dX1_worstGate_65 : decode cX1_worstGate 65 = .ok (.iconst 0, 1) := dk_3 (dk_at dksX1_worstGate_2 23 rfl rfl)
theorem dX1_worstGate_66 : decode cX1_worstGate 66 = .ok (.invokestatic 186, 3) := dk_184 0 186 (dk_at dksX1_worstGate_3 0 rfl rfl)
theorem dX1_worstGate_69 : decode cX1_worstGate 69 = .ok (.aload_n 1, 1) := dk_43 (dk_at dksX1_worstGate_3 3 rfl rfl)
theorem dX1_worstGate_70 : decode cX1_worstGate 70 = .ok (.new 354, 3) := dk_187 1 98 (dk_at dksX1_worstGate_3 4 rfl rfl)
theorem dX1_worstGate_73 : decode cX1_worstGate 73 = .ok (.dup, 1) := dk_89 (dk_at dksX1_worstGate_3 7 rfl rfl)
theorem dX1_worstGate_74 : decode cX1_worstGate 74 = .ok (.aload_n 0, 1) := dk_42 (dk_at dksX1_worstGate_3 8 rfl rfl)
theorem dX1_worstGate_75 : decode cX1_worstGate 75 = .ok (.invokespecial 356, 3) := dk_183 1 100 (dk_at dksX1_worstGate_3 9 rfl rfl)
theorem dX1_worstGate_78 : decode cX1_worstGate 78 = .ok (.iconst 0, 1) := dk_3 (dk_at dksX1_worstGate_3 12 rfl rfl)
theorem dX1_worstGate_79 : decode cX1_worstGate 79 = .ok (.invokestatic 359, 3) := dk_184 1 103 (dk_at dksX1_worstGate_3 13 rfl rfl)
theorem dX1_worstGate_82 : decode cX1_worstGate 82 = .ok (.checkcast 168, 3) := dk_192 0 168 (dk_at dksX1_worstGate_3 16 rfl rfl)
theorem dX1_worstGate_85 : decode cX1_worstGate 85 = .ok (.getfield 363, 3) := dk_180 1 107 (dk_at dksX1_worstGate_3 19 rfl rfl)
theorem dX1_worstGate_88 : decode cX1_worstGate 88 = .ok (.ireturn, 1) := dk_172 (dk_at dksX1_worstGate_3 22 rfl rfl)
abbrev cX1_atRank : ByteArray := prog_1_method_7_code
def yX1_atRank : MethodName := ⟨RX1, "atRank", "(Ljava/util/List;LGateGrammar$Preference;I)Ljava/lang/Object;"⟩
def dkwX1_atRank_4 : List UInt8 := [29, 185, 0, 83, 2, 0, 176, 132, 3, 1, 167, 255, 157, 187, 0, 74, 89, 183, 0, 76, 191]
abbrev dktX1_atRank_4 : List UInt8 := dkwX1_atRank_4 ++ []
def dkwX1_atRank_3 : List UInt8 := [162, 0, 7, 4, 167, 0, 4, 3, 96, 54, 4, 132, 5, 1, 167, 255, 193, 21, 4, 28, 160, 0, 11, 42]
abbrev dktX1_atRank_3 : List UInt8 := dkwX1_atRank_3 ++ dktX1_atRank_4
def dkwX1_atRank_2 : List UInt8 := [185, 0, 87, 3, 0, 54, 6, 21, 4, 21, 6, 157, 0, 14, 21, 6, 154, 0, 13, 21, 5, 29]
abbrev dktX1_atRank_2 : List UInt8 := dkwX1_atRank_2 ++ dktX1_atRank_3
def dkwX1_atRank_1 : List UInt8 := [185, 0, 77, 1, 0, 162, 0, 58, 43, 42, 21, 5, 185, 0, 83, 2, 0, 42, 29, 185, 0, 83, 2, 0]
abbrev dktX1_atRank_1 : List UInt8 := dkwX1_atRank_1 ++ dktX1_atRank_2
def dkwX1_atRank_0 : List UInt8 := [3, 62, 29, 42, 185, 0, 77, 1, 0, 162, 0, 95, 3, 54, 4, 3, 54, 5, 21, 5, 42]
abbrev dktX1_atRank_0 : List UInt8 := dkwX1_atRank_0 ++ dktX1_atRank_1
theorem dksX1_atRank_0 : cX1_atRank.data.toList.drop 0 = dktX1_atRank_0 := by decide +kernel
theorem dksX1_atRank_1 : cX1_atRank.data.toList.drop 21 = dktX1_atRank_1 := dk_seg dksX1_atRank_0 21 rfl rfl
theorem dksX1_atRank_2 : cX1_atRank.data.toList.drop 45 = dktX1_atRank_2 := dk_seg dksX1_atRank_1 24 rfl rfl
theorem dksX1_atRank_3 : cX1_atRank.data.toList.drop 67 = dktX1_atRank_3 := dk_seg dksX1_atRank_2 22 rfl rfl
theorem dksX1_atRank_4 : cX1_atRank.data.toList.drop 91 = dktX1_atRank_4 := dk_seg dksX1_atRank_3 24 rfl rfl
theorem dX1_atRank_0 : decode cX1_atRank 0 = .ok (.iconst 0, 1) := dk_3 (dk_at dksX1_atRank_0 0 rfl rfl)
theorem dX1_atRank_1 : decode cX1_atRank 1 = .ok (.istore_n 3, 1) := dk_62 (dk_at dksX1_atRank_0 1 rfl rfl)
theorem dX1_atRank_2 : decode cX1_atRank 2 = .ok (.iload_n 3, 1) := dk_29 (dk_at dksX1_atRank_0 2 rfl rfl)
theorem dX1_atRank_3 : decode cX1_atRank 3 = .ok (.aload_n 0, 1) := dk_42 (dk_at dksX1_atRank_0 3 rfl rfl)
theorem dX1_atRank_4 : decode cX1_atRank 4 = .ok (.invokeinterface 77 1, 5) := by decide +kernel
theorem dX1_atRank_9 : decode cX1_atRank 9 = .ok (.if_icmp .ge 95, 3) := dk_162 0 95 (dk_at dksX1_atRank_0 9 rfl rfl)
theorem dX1_atRank_12 : decode cX1_atRank 12 = .ok (.iconst 0, 1) := dk_3 (dk_at dksX1_atRank_0 12 rfl rfl)
theorem dX1_atRank_13 : decode cX1_atRank 13 = .ok (.istore 4, 2) := dk_54 4 (dk_at dksX1_atRank_0 13 rfl rfl)
theorem dX1_atRank_15 : decode cX1_atRank 15 = .ok (.iconst 0, 1) := dk_3 (dk_at dksX1_atRank_0 15 rfl rfl)
theorem dX1_atRank_16 : decode cX1_atRank 16 = .ok (.istore 5, 2) := dk_54 5 (dk_at dksX1_atRank_0 16 rfl rfl)
theorem dX1_atRank_18 : decode cX1_atRank 18 = .ok (.iload 5, 2) := dk_21 5 (dk_at dksX1_atRank_0 18 rfl rfl)
theorem dX1_atRank_20 : decode cX1_atRank 20 = .ok (.aload_n 0, 1) := dk_42 (dk_at dksX1_atRank_0 20 rfl rfl)
theorem dX1_atRank_21 : decode cX1_atRank 21 = .ok (.invokeinterface 77 1, 5) := by decide +kernel
theorem dX1_atRank_26 : decode cX1_atRank 26 = .ok (.if_icmp .ge 58, 3) := dk_162 0 58 (dk_at dksX1_atRank_1 5 rfl rfl)
theorem dX1_atRank_29 : decode cX1_atRank 29 = .ok (.aload_n 1, 1) := dk_43 (dk_at dksX1_atRank_1 8 rfl rfl)
theorem dX1_atRank_30 : decode cX1_atRank 30 = .ok (.aload_n 0, 1) := dk_42 (dk_at dksX1_atRank_1 9 rfl rfl)
theorem dX1_atRank_31 : decode cX1_atRank 31 = .ok (.iload 5, 2) := dk_21 5 (dk_at dksX1_atRank_1 10 rfl rfl)
theorem dX1_atRank_33 : decode cX1_atRank 33 = .ok (.invokeinterface 83 2, 5) := by decide +kernel
theorem dX1_atRank_38 : decode cX1_atRank 38 = .ok (.aload_n 0, 1) := dk_42 (dk_at dksX1_atRank_1 17 rfl rfl)
theorem dX1_atRank_39 : decode cX1_atRank 39 = .ok (.iload_n 3, 1) := dk_29 (dk_at dksX1_atRank_1 18 rfl rfl)
theorem dX1_atRank_40 : decode cX1_atRank 40 = .ok (.invokeinterface 83 2, 5) := by decide +kernel
theorem dX1_atRank_45 : decode cX1_atRank 45 = .ok (.invokeinterface 87 3, 5) := by decide +kernel
theorem dX1_atRank_50 : decode cX1_atRank 50 = .ok (.istore 6, 2) := dk_54 6 (dk_at dksX1_atRank_2 5 rfl rfl)
theorem dX1_atRank_52 : decode cX1_atRank 52 = .ok (.iload 4, 2) := dk_21 4 (dk_at dksX1_atRank_2 7 rfl rfl)
theorem dX1_atRank_54 : decode cX1_atRank 54 = .ok (.iload 6, 2) := dk_21 6 (dk_at dksX1_atRank_2 9 rfl rfl)
theorem dX1_atRank_56 : decode cX1_atRank 56 = .ok (.ifCond .gt 14, 3) := dk_157 0 14 (dk_at dksX1_atRank_2 11 rfl rfl)
theorem dX1_atRank_59 : decode cX1_atRank 59 = .ok (.iload 6, 2) := dk_21 6 (dk_at dksX1_atRank_2 14 rfl rfl)
theorem dX1_atRank_61 : decode cX1_atRank 61 = .ok (.ifCond .ne 13, 3) := dk_154 0 13 (dk_at dksX1_atRank_2 16 rfl rfl)
theorem dX1_atRank_64 : decode cX1_atRank 64 = .ok (.iload 5, 2) := dk_21 5 (dk_at dksX1_atRank_2 19 rfl rfl)
theorem dX1_atRank_66 : decode cX1_atRank 66 = .ok (.iload_n 3, 1) := dk_29 (dk_at dksX1_atRank_2 21 rfl rfl)
theorem dX1_atRank_67 : decode cX1_atRank 67 = .ok (.if_icmp .ge 7, 3) := dk_162 0 7 (dk_at dksX1_atRank_3 0 rfl rfl)
theorem dX1_atRank_70 : decode cX1_atRank 70 = .ok (.iconst 1, 1) := dk_4 (dk_at dksX1_atRank_3 3 rfl rfl)
theorem dX1_atRank_71 : decode cX1_atRank 71 = .ok (.goto 4, 3) := dk_167 0 4 (dk_at dksX1_atRank_3 4 rfl rfl)
theorem dX1_atRank_74 : decode cX1_atRank 74 = .ok (.iconst 0, 1) := dk_3 (dk_at dksX1_atRank_3 7 rfl rfl)
theorem dX1_atRank_75 : decode cX1_atRank 75 = .ok (.iadd, 1) := dk_96 (dk_at dksX1_atRank_3 8 rfl rfl)
theorem dX1_atRank_76 : decode cX1_atRank 76 = .ok (.istore 4, 2) := dk_54 4 (dk_at dksX1_atRank_3 9 rfl rfl)
theorem dX1_atRank_78 : decode cX1_atRank 78 = .ok (.iinc 5 1, 3) := dk_132 5 1 (dk_at dksX1_atRank_3 11 rfl rfl)
theorem dX1_atRank_81 : decode cX1_atRank 81 = .ok (.goto (-63), 3) := dk_167 255 193 (dk_at dksX1_atRank_3 14 rfl rfl)
theorem dX1_atRank_84 : decode cX1_atRank 84 = .ok (.iload 4, 2) := dk_21 4 (dk_at dksX1_atRank_3 17 rfl rfl)
theorem dX1_atRank_86 : decode cX1_atRank 86 = .ok (.iload_n 2, 1) := dk_28 (dk_at dksX1_atRank_3 19 rfl rfl)
theorem dX1_atRank_87 : decode cX1_atRank 87 = .ok (.if_icmp .ne 11, 3) := dk_160 0 11 (dk_at dksX1_atRank_3 20 rfl rfl)
theorem dX1_atRank_90 : decode cX1_atRank 90 = .ok (.aload_n 0, 1) := dk_42 (dk_at dksX1_atRank_3 23 rfl rfl)
theorem dX1_atRank_91 : decode cX1_atRank 91 = .ok (.iload_n 3, 1) := dk_29 (dk_at dksX1_atRank_4 0 rfl rfl)
theorem dX1_atRank_92 : decode cX1_atRank 92 = .ok (.invokeinterface 83 2, 5) := by decide +kernel
theorem dX1_atRank_97 : decode cX1_atRank 97 = .ok (.areturn, 1) := dk_176 (dk_at dksX1_atRank_4 6 rfl rfl)
theorem dX1_atRank_98 : decode cX1_atRank 98 = .ok (.iinc 3 1, 3) := dk_132 3 1 (dk_at dksX1_atRank_4 7 rfl rfl)
theorem dX1_atRank_101 : decode cX1_atRank 101 = .ok (.goto (-99), 3) := dk_167 255 157 (dk_at dksX1_atRank_4 10 rfl rfl)
theorem dX1_atRank_104 : decode cX1_atRank 104 = .ok (.new 74, 3) := dk_187 0 74 (dk_at dksX1_atRank_4 13 rfl rfl)
theorem dX1_atRank_107 : decode cX1_atRank 107 = .ok (.dup, 1) := dk_89 (dk_at dksX1_atRank_4 16 rfl rfl)
theorem dX1_atRank_108 : decode cX1_atRank 108 = .ok (.invokespecial 76, 3) := dk_183 0 76 (dk_at dksX1_atRank_4 17 rfl rfl)
theorem dX1_atRank_111 : decode cX1_atRank 111 = .ok (.athrow, 1) := dk_191 (dk_at dksX1_atRank_4 20 rfl rfl)
abbrev cX1_walk : ByteArray := prog_1_method_52_code
def yX1_walk : MethodName := ⟨RX1, "walk", "(I)I"⟩
def dkwX1_walk_0 : List UInt8 := [42, 180, 0, 18, 182, 0, 194, 77, 42, 44, 42, 42, 180, 0, 18, 27, 182, 1, 111, 182, 0, 201, 172]
abbrev dktX1_walk_0 : List UInt8 := dkwX1_walk_0 ++ []
theorem dksX1_walk_0 : cX1_walk.data.toList.drop 0 = dktX1_walk_0 := by decide +kernel
theorem dX1_walk_0 : decode cX1_walk 0 = .ok (.aload_n 0, 1) := dk_42 (dk_at dksX1_walk_0 0 rfl rfl)
theorem dX1_walk_1 : decode cX1_walk 1 = .ok (.getfield 18, 3) := dk_180 0 18 (dk_at dksX1_walk_0 1 rfl rfl)
theorem dX1_walk_4 : decode cX1_walk 4 = .ok (.invokevirtual 194, 3) := dk_182 0 194 (dk_at dksX1_walk_0 4 rfl rfl)
theorem dX1_walk_7 : decode cX1_walk 7 = .ok (.astore_n 2, 1) := dk_77 (dk_at dksX1_walk_0 7 rfl rfl)
theorem dX1_walk_8 : decode cX1_walk 8 = .ok (.aload_n 0, 1) := dk_42 (dk_at dksX1_walk_0 8 rfl rfl)
theorem dX1_walk_9 : decode cX1_walk 9 = .ok (.aload_n 2, 1) := dk_44 (dk_at dksX1_walk_0 9 rfl rfl)
theorem dX1_walk_10 : decode cX1_walk 10 = .ok (.aload_n 0, 1) := dk_42 (dk_at dksX1_walk_0 10 rfl rfl)
theorem dX1_walk_11 : decode cX1_walk 11 = .ok (.aload_n 0, 1) := dk_42 (dk_at dksX1_walk_0 11 rfl rfl)
theorem dX1_walk_12 : decode cX1_walk 12 = .ok (.getfield 18, 3) := dk_180 0 18 (dk_at dksX1_walk_0 12 rfl rfl)
theorem dX1_walk_15 : decode cX1_walk 15 = .ok (.iload_n 1, 1) := dk_27 (dk_at dksX1_walk_0 15 rfl rfl)
theorem dX1_walk_16 : decode cX1_walk 16 = .ok (.invokevirtual 367, 3) := dk_182 1 111 (dk_at dksX1_walk_0 16 rfl rfl)
theorem dX1_walk_19 : decode cX1_walk 19 = .ok (.invokevirtual 201, 3) := dk_182 0 201 (dk_at dksX1_walk_0 19 rfl rfl)
theorem dX1_walk_22 : decode cX1_walk 22 = .ok (.ireturn, 1) := dk_172 (dk_at dksX1_walk_0 22 rfl rfl)
abbrev cX1_walk_2 : ByteArray := prog_1_method_51_code
def yX1_walk_2 : MethodName := ⟨RX1, "walk", "(LGateGrammar$State;I)I"⟩
def dkwX1_walk_2_1 : List UInt8 := [180, 1, 108, 4, 96, 181, 1, 108, 45, 180, 1, 108, 172]
abbrev dktX1_walk_2_1 : List UInt8 := dkwX1_walk_2_1 ++ []
def dkwX1_walk_2_0 : List UInt8 := [43, 28, 182, 0, 178, 78, 42, 45, 182, 1, 86, 154, 0, 7, 4, 167, 0, 4, 3, 184, 0, 246, 45, 89]
abbrev dktX1_walk_2_0 : List UInt8 := dkwX1_walk_2_0 ++ dktX1_walk_2_1
theorem dksX1_walk_2_0 : cX1_walk_2.data.toList.drop 0 = dktX1_walk_2_0 := by decide +kernel
theorem dksX1_walk_2_1 : cX1_walk_2.data.toList.drop 24 = dktX1_walk_2_1 := dk_seg dksX1_walk_2_0 24 rfl rfl
theorem dX1_walk_2_0 : decode cX1_walk_2 0 = .ok (.aload_n 1, 1) := dk_43 (dk_at dksX1_walk_2_0 0 rfl rfl)
theorem dX1_walk_2_1 : decode cX1_walk_2 1 = .ok (.iload_n 2, 1) := dk_28 (dk_at dksX1_walk_2_0 1 rfl rfl)
theorem dX1_walk_2_2 : decode cX1_walk_2 2 = .ok (.invokevirtual 178, 3) := dk_182 0 178 (dk_at dksX1_walk_2_0 2 rfl rfl)
theorem dX1_walk_2_5 : decode cX1_walk_2 5 = .ok (.astore_n 3, 1) := dk_78 (dk_at dksX1_walk_2_0 5 rfl rfl)
theorem dX1_walk_2_6 : decode cX1_walk_2 6 = .ok (.aload_n 0, 1) := dk_42 (dk_at dksX1_walk_2_0 6 rfl rfl)
theorem dX1_walk_2_7 : decode cX1_walk_2 7 = .ok (.aload_n 3, 1) := dk_45 (dk_at dksX1_walk_2_0 7 rfl rfl)
theorem dX1_walk_2_8 : decode cX1_walk_2 8 = .ok (.invokevirtual 342, 3) := dk_182 1 86 (dk_at dksX1_walk_2_0 8 rfl rfl)
theorem dX1_walk_2_11 : decode cX1_walk_2 11 = .ok (.ifCond .ne 7, 3) := dk_154 0 7 (dk_at dksX1_walk_2_0 11 rfl rfl)
theorem dX1_walk_2_14 : decode cX1_walk_2 14 = .ok (.iconst 1, 1) := dk_4 (dk_at dksX1_walk_2_0 14 rfl rfl)
theorem dX1_walk_2_15 : decode cX1_walk_2 15 = .ok (.goto 4, 3) := dk_167 0 4 (dk_at dksX1_walk_2_0 15 rfl rfl)
theorem dX1_walk_2_18 : decode cX1_walk_2 18 = .ok (.iconst 0, 1) := dk_3 (dk_at dksX1_walk_2_0 18 rfl rfl)
theorem dX1_walk_2_19 : decode cX1_walk_2 19 = .ok (.invokestatic 246, 3) := dk_184 0 246 (dk_at dksX1_walk_2_0 19 rfl rfl)
theorem dX1_walk_2_22 : decode cX1_walk_2 22 = .ok (.aload_n 3, 1) := dk_45 (dk_at dksX1_walk_2_0 22 rfl rfl)
theorem dX1_walk_2_23 : decode cX1_walk_2 23 = .ok (.dup, 1) := dk_89 (dk_at dksX1_walk_2_0 23 rfl rfl)
theorem dX1_walk_2_24 : decode cX1_walk_2 24 = .ok (.getfield 364, 3) := dk_180 1 108 (dk_at dksX1_walk_2_1 0 rfl rfl)
theorem dX1_walk_2_27 : decode cX1_walk_2 27 = .ok (.iconst 1, 1) := dk_4 (dk_at dksX1_walk_2_1 3 rfl rfl)
theorem dX1_walk_2_28 : decode cX1_walk_2 28 = .ok (.iadd, 1) := dk_96 (dk_at dksX1_walk_2_1 4 rfl rfl)
theorem dX1_walk_2_29 : decode cX1_walk_2 29 = .ok (.putfield 364, 3) := dk_181 1 108 (dk_at dksX1_walk_2_1 5 rfl rfl)
theorem dX1_walk_2_32 : decode cX1_walk_2 32 = .ok (.aload_n 3, 1) := dk_45 (dk_at dksX1_walk_2_1 8 rfl rfl)
theorem dX1_walk_2_33 : decode cX1_walk_2 33 = .ok (.getfield 364, 3) := dk_180 1 108 (dk_at dksX1_walk_2_1 9 rfl rfl)
theorem dX1_walk_2_36 : decode cX1_walk_2 36 = .ok (.ireturn, 1) := dk_172 (dk_at dksX1_walk_2_1 12 rfl rfl)
abbrev cX1_walkCount : ByteArray := prog_1_method_53_code
def yX1_walkCount : MethodName := ⟨RX1, "walkCount", "(I)I"⟩
def dkwX1_walkCount_0 : List UInt8 := [42, 180, 0, 18, 27, 182, 0, 178, 180, 1, 108, 172]
abbrev dktX1_walkCount_0 : List UInt8 := dkwX1_walkCount_0 ++ []
theorem dksX1_walkCount_0 : cX1_walkCount.data.toList.drop 0 = dktX1_walkCount_0 := by decide +kernel
theorem dX1_walkCount_0 : decode cX1_walkCount 0 = .ok (.aload_n 0, 1) := dk_42 (dk_at dksX1_walkCount_0 0 rfl rfl)
theorem dX1_walkCount_1 : decode cX1_walkCount 1 = .ok (.getfield 18, 3) := dk_180 0 18 (dk_at dksX1_walkCount_0 1 rfl rfl)
theorem dX1_walkCount_4 : decode cX1_walkCount 4 = .ok (.iload_n 1, 1) := dk_27 (dk_at dksX1_walkCount_0 4 rfl rfl)
theorem dX1_walkCount_5 : decode cX1_walkCount 5 = .ok (.invokevirtual 178, 3) := dk_182 0 178 (dk_at dksX1_walkCount_0 5 rfl rfl)
theorem dX1_walkCount_8 : decode cX1_walkCount 8 = .ok (.getfield 364, 3) := dk_180 1 108 (dk_at dksX1_walkCount_0 8 rfl rfl)
theorem dX1_walkCount_11 : decode cX1_walkCount 11 = .ok (.ireturn, 1) := dk_172 (dk_at dksX1_walkCount_0 11 rfl rfl)
abbrev cX1_gateAtRank : ByteArray := prog_1_method_54_code
def yX1_gateAtRank : MethodName := ⟨RX1, "gateAtRank", "(I)I"⟩
def dkwX1_gateAtRank_1 : List UInt8 := [180, 1, 107, 172]
abbrev dktX1_gateAtRank_1 : List UInt8 := dkwX1_gateAtRank_1 ++ []
def dkwX1_gateAtRank_0 : List UInt8 := [187, 1, 114, 89, 42, 183, 1, 116, 77, 42, 180, 0, 18, 180, 1, 90, 44, 27, 184, 1, 103, 192, 0, 168]
abbrev dktX1_gateAtRank_0 : List UInt8 := dkwX1_gateAtRank_0 ++ dktX1_gateAtRank_1
theorem dksX1_gateAtRank_0 : cX1_gateAtRank.data.toList.drop 0 = dktX1_gateAtRank_0 := by decide +kernel
theorem dksX1_gateAtRank_1 : cX1_gateAtRank.data.toList.drop 24 = dktX1_gateAtRank_1 := dk_seg dksX1_gateAtRank_0 24 rfl rfl
theorem dX1_gateAtRank_0 : decode cX1_gateAtRank 0 = .ok (.new 370, 3) := dk_187 1 114 (dk_at dksX1_gateAtRank_0 0 rfl rfl)
theorem dX1_gateAtRank_3 : decode cX1_gateAtRank 3 = .ok (.dup, 1) := dk_89 (dk_at dksX1_gateAtRank_0 3 rfl rfl)
theorem dX1_gateAtRank_4 : decode cX1_gateAtRank 4 = .ok (.aload_n 0, 1) := dk_42 (dk_at dksX1_gateAtRank_0 4 rfl rfl)
theorem dX1_gateAtRank_5 : decode cX1_gateAtRank 5 = .ok (.invokespecial 372, 3) := dk_183 1 116 (dk_at dksX1_gateAtRank_0 5 rfl rfl)
theorem dX1_gateAtRank_8 : decode cX1_gateAtRank 8 = .ok (.astore_n 2, 1) := dk_77 (dk_at dksX1_gateAtRank_0 8 rfl rfl)
theorem dX1_gateAtRank_9 : decode cX1_gateAtRank 9 = .ok (.aload_n 0, 1) := dk_42 (dk_at dksX1_gateAtRank_0 9 rfl rfl)
theorem dX1_gateAtRank_10 : decode cX1_gateAtRank 10 = .ok (.getfield 18, 3) := dk_180 0 18 (dk_at dksX1_gateAtRank_0 10 rfl rfl)
theorem dX1_gateAtRank_13 : decode cX1_gateAtRank 13 = .ok (.getfield 346, 3) := dk_180 1 90 (dk_at dksX1_gateAtRank_0 13 rfl rfl)
theorem dX1_gateAtRank_16 : decode cX1_gateAtRank 16 = .ok (.aload_n 2, 1) := dk_44 (dk_at dksX1_gateAtRank_0 16 rfl rfl)
theorem dX1_gateAtRank_17 : decode cX1_gateAtRank 17 = .ok (.iload_n 1, 1) := dk_27 (dk_at dksX1_gateAtRank_0 17 rfl rfl)
theorem dX1_gateAtRank_18 : decode cX1_gateAtRank 18 = .ok (.invokestatic 359, 3) := dk_184 1 103 (dk_at dksX1_gateAtRank_0 18 rfl rfl)
theorem dX1_gateAtRank_21 : decode cX1_gateAtRank 21 = .ok (.checkcast 168, 3) := dk_192 0 168 (dk_at dksX1_gateAtRank_0 21 rfl rfl)
theorem dX1_gateAtRank_24 : decode cX1_gateAtRank 24 = .ok (.getfield 363, 3) := dk_180 1 107 (dk_at dksX1_gateAtRank_1 0 rfl rfl)
theorem dX1_gateAtRank_27 : decode cX1_gateAtRank 27 = .ok (.ireturn, 1) := dk_172 (dk_at dksX1_gateAtRank_1 3 rfl rfl)
abbrev cX1_append : ByteArray := prog_1_method_55_code
def yX1_append : MethodName := ⟨RX1, "append", "(C)I"⟩
def dkwX1_append_1 : List UInt8 := [167, 0, 4, 3, 184, 0, 246, 42, 180, 0, 34, 27, 182, 1, 123, 87, 42, 180, 0, 34, 182, 1, 120, 172]
abbrev dktX1_append_1 : List UInt8 := dkwX1_append_1 ++ []
def dkwX1_append_0 : List UInt8 := [27, 16, 32, 16, 126, 184, 0, 70, 184, 1, 117, 42, 180, 0, 34, 182, 1, 120, 16, 60, 162, 0, 7, 4]
abbrev dktX1_append_0 : List UInt8 := dkwX1_append_0 ++ dktX1_append_1
theorem dksX1_append_0 : cX1_append.data.toList.drop 0 = dktX1_append_0 := by decide +kernel
theorem dksX1_append_1 : cX1_append.data.toList.drop 24 = dktX1_append_1 := dk_seg dksX1_append_0 24 rfl rfl
theorem dX1_append_0 : decode cX1_append 0 = .ok (.iload_n 1, 1) := dk_27 (dk_at dksX1_append_0 0 rfl rfl)
theorem dX1_append_1 : decode cX1_append 1 = .ok (.bipush 32, 2) := dk_16 32 (dk_at dksX1_append_0 1 rfl rfl)
theorem dX1_append_3 : decode cX1_append 3 = .ok (.bipush 126, 2) := dk_16 126 (dk_at dksX1_append_0 3 rfl rfl)
theorem dX1_append_5 : decode cX1_append 5 = .ok (.invokestatic 70, 3) := dk_184 0 70 (dk_at dksX1_append_0 5 rfl rfl)
theorem dX1_append_8 : decode cX1_append 8 = .ok (.invokestatic 373, 3) := dk_184 1 117 (dk_at dksX1_append_0 8 rfl rfl)
theorem dX1_append_11 : decode cX1_append 11 = .ok (.aload_n 0, 1) := dk_42 (dk_at dksX1_append_0 11 rfl rfl)
theorem dX1_append_12 : decode cX1_append 12 = .ok (.getfield 34, 3) := dk_180 0 34 (dk_at dksX1_append_0 12 rfl rfl)
theorem dX1_append_15 : decode cX1_append 15 = .ok (.invokevirtual 376, 3) := dk_182 1 120 (dk_at dksX1_append_0 15 rfl rfl)
theorem dX1_append_18 : decode cX1_append 18 = .ok (.bipush 60, 2) := dk_16 60 (dk_at dksX1_append_0 18 rfl rfl)
theorem dX1_append_20 : decode cX1_append 20 = .ok (.if_icmp .ge 7, 3) := dk_162 0 7 (dk_at dksX1_append_0 20 rfl rfl)
theorem dX1_append_23 : decode cX1_append 23 = .ok (.iconst 1, 1) := dk_4 (dk_at dksX1_append_0 23 rfl rfl)
theorem dX1_append_24 : decode cX1_append 24 = .ok (.goto 4, 3) := dk_167 0 4 (dk_at dksX1_append_1 0 rfl rfl)
theorem dX1_append_27 : decode cX1_append 27 = .ok (.iconst 0, 1) := dk_3 (dk_at dksX1_append_1 3 rfl rfl)
theorem dX1_append_28 : decode cX1_append 28 = .ok (.invokestatic 246, 3) := dk_184 0 246 (dk_at dksX1_append_1 4 rfl rfl)
theorem dX1_append_31 : decode cX1_append 31 = .ok (.aload_n 0, 1) := dk_42 (dk_at dksX1_append_1 7 rfl rfl)
theorem dX1_append_32 : decode cX1_append 32 = .ok (.getfield 34, 3) := dk_180 0 34 (dk_at dksX1_append_1 8 rfl rfl)
theorem dX1_append_35 : decode cX1_append 35 = .ok (.iload_n 1, 1) := dk_27 (dk_at dksX1_append_1 11 rfl rfl)
theorem dX1_append_36 : decode cX1_append 36 = .ok (.invokevirtual 379, 3) := dk_182 1 123 (dk_at dksX1_append_1 12 rfl rfl)
theorem dX1_append_39 : decode cX1_append 39 = .ok (.pop, 1) := dk_87 (dk_at dksX1_append_1 15 rfl rfl)
theorem dX1_append_40 : decode cX1_append 40 = .ok (.aload_n 0, 1) := dk_42 (dk_at dksX1_append_1 16 rfl rfl)
theorem dX1_append_41 : decode cX1_append 41 = .ok (.getfield 34, 3) := dk_180 0 34 (dk_at dksX1_append_1 17 rfl rfl)
theorem dX1_append_44 : decode cX1_append 44 = .ok (.invokevirtual 376, 3) := dk_182 1 120 (dk_at dksX1_append_1 20 rfl rfl)
theorem dX1_append_47 : decode cX1_append 47 = .ok (.ireturn, 1) := dk_172 (dk_at dksX1_append_1 23 rfl rfl)
abbrev cX1_run : ByteArray := prog_1_method_57_code
def yX1_run : MethodName := ⟨RX1, "run", "()I"⟩
def dkwX1_run_2 : List UInt8 := [3, 182, 1, 149, 44, 191]
abbrev dktX1_run_2 : List UInt8 := dkwX1_run_2 ++ []
def dkwX1_run_1 : List UInt8 := [27, 172, 76, 42, 43, 180, 1, 154, 181, 0, 44, 187, 0, 61, 89, 183, 0, 63, 191, 77, 42, 180, 0, 34]
abbrev dktX1_run_1 : List UInt8 := dkwX1_run_1 ++ dktX1_run_2
def dkwX1_run_0 : List UInt8 := [42, 187, 1, 139, 89, 42, 183, 1, 141, 182, 1, 142, 182, 1, 146, 60, 42, 180, 0, 34, 3, 182, 1, 149]
abbrev dktX1_run_0 : List UInt8 := dkwX1_run_0 ++ dktX1_run_1
theorem dksX1_run_0 : cX1_run.data.toList.drop 0 = dktX1_run_0 := by decide +kernel
theorem dksX1_run_1 : cX1_run.data.toList.drop 24 = dktX1_run_1 := dk_seg dksX1_run_0 24 rfl rfl
theorem dksX1_run_2 : cX1_run.data.toList.drop 48 = dktX1_run_2 := dk_seg dksX1_run_1 24 rfl rfl
theorem dX1_run_0 : decode cX1_run 0 = .ok (.aload_n 0, 1) := dk_42 (dk_at dksX1_run_0 0 rfl rfl)
theorem dX1_run_1 : decode cX1_run 1 = .ok (.new 395, 3) := dk_187 1 139 (dk_at dksX1_run_0 1 rfl rfl)
theorem dX1_run_4 : decode cX1_run 4 = .ok (.dup, 1) := dk_89 (dk_at dksX1_run_0 4 rfl rfl)
theorem dX1_run_5 : decode cX1_run 5 = .ok (.aload_n 0, 1) := dk_42 (dk_at dksX1_run_0 5 rfl rfl)
theorem dX1_run_6 : decode cX1_run 6 = .ok (.invokespecial 397, 3) := dk_183 1 141 (dk_at dksX1_run_0 6 rfl rfl)
theorem dX1_run_9 : decode cX1_run 9 = .ok (.invokevirtual 398, 3) := dk_182 1 142 (dk_at dksX1_run_0 9 rfl rfl)
theorem dX1_run_12 : decode cX1_run 12 = .ok (.invokevirtual 402, 3) := dk_182 1 146 (dk_at dksX1_run_0 12 rfl rfl)
theorem dX1_run_15 : decode cX1_run 15 = .ok (.istore_n 1, 1) := dk_60 (dk_at dksX1_run_0 15 rfl rfl)
theorem dX1_run_16 : decode cX1_run 16 = .ok (.aload_n 0, 1) := dk_42 (dk_at dksX1_run_0 16 rfl rfl)
theorem dX1_run_17 : decode cX1_run 17 = .ok (.getfield 34, 3) := dk_180 0 34 (dk_at dksX1_run_0 17 rfl rfl)
theorem dX1_run_20 : decode cX1_run 20 = .ok (.iconst 0, 1) := dk_3 (dk_at dksX1_run_0 20 rfl rfl)
theorem dX1_run_21 : decode cX1_run 21 = .ok (.invokevirtual 405, 3) := dk_182 1 149 (dk_at dksX1_run_0 21 rfl rfl)
theorem dX1_run_24 : decode cX1_run 24 = .ok (.iload_n 1, 1) := dk_27 (dk_at dksX1_run_1 0 rfl rfl)
theorem dX1_run_25 : decode cX1_run 25 = .ok (.ireturn, 1) := dk_172 (dk_at dksX1_run_1 1 rfl rfl)
theorem dX1_run_26 : decode cX1_run 26 = .ok (.astore_n 1, 1) := dk_76 (dk_at dksX1_run_1 2 rfl rfl)
theorem dX1_run_27 : decode cX1_run 27 = .ok (.aload_n 0, 1) := dk_42 (dk_at dksX1_run_1 3 rfl rfl)
theorem dX1_run_28 : decode cX1_run 28 = .ok (.aload_n 1, 1) := dk_43 (dk_at dksX1_run_1 4 rfl rfl)
theorem dX1_run_29 : decode cX1_run 29 = .ok (.getfield 410, 3) := dk_180 1 154 (dk_at dksX1_run_1 5 rfl rfl)
theorem dX1_run_32 : decode cX1_run 32 = .ok (.putfield 44, 3) := dk_181 0 44 (dk_at dksX1_run_1 8 rfl rfl)
theorem dX1_run_35 : decode cX1_run 35 = .ok (.new 61, 3) := dk_187 0 61 (dk_at dksX1_run_1 11 rfl rfl)
theorem dX1_run_38 : decode cX1_run 38 = .ok (.dup, 1) := dk_89 (dk_at dksX1_run_1 14 rfl rfl)
theorem dX1_run_39 : decode cX1_run 39 = .ok (.invokespecial 63, 3) := dk_183 0 63 (dk_at dksX1_run_1 15 rfl rfl)
theorem dX1_run_42 : decode cX1_run 42 = .ok (.athrow, 1) := dk_191 (dk_at dksX1_run_1 18 rfl rfl)
theorem dX1_run_43 : decode cX1_run 43 = .ok (.astore_n 2, 1) := dk_77 (dk_at dksX1_run_1 19 rfl rfl)
theorem dX1_run_44 : decode cX1_run 44 = .ok (.aload_n 0, 1) := dk_42 (dk_at dksX1_run_1 20 rfl rfl)
theorem dX1_run_45 : decode cX1_run 45 = .ok (.getfield 34, 3) := dk_180 0 34 (dk_at dksX1_run_1 21 rfl rfl)
theorem dX1_run_48 : decode cX1_run 48 = .ok (.iconst 0, 1) := dk_3 (dk_at dksX1_run_2 0 rfl rfl)
theorem dX1_run_49 : decode cX1_run 49 = .ok (.invokevirtual 405, 3) := dk_182 1 149 (dk_at dksX1_run_2 1 rfl rfl)
theorem dX1_run_52 : decode cX1_run 52 = .ok (.aload_n 2, 1) := dk_44 (dk_at dksX1_run_2 4 rfl rfl)
theorem dX1_run_53 : decode cX1_run 53 = .ok (.athrow, 1) := dk_191 (dk_at dksX1_run_2 5 rfl rfl)
abbrev cX1_execute : ByteArray := prog_1_method_56_code
def yX1_execute : MethodName := ⟨RX1, "execute", "(Ljava/util/LinkedList;)I"⟩
def dkwX1_execute_2 : List UInt8 := [167, 255, 219, 42, 180, 0, 18, 58, 4, 42, 44, 181, 0, 18, 42, 25, 4, 29, 182, 0, 201, 172]
abbrev dktX1_execute_2 : List UInt8 := dkwX1_execute_2 ++ []
def dkwX1_execute_1 : List UInt8 := [44, 182, 1, 135, 154, 0, 16, 42, 29, 181, 0, 48, 187, 0, 64, 89, 183, 0, 66, 191, 132, 3, 1]
abbrev dktX1_execute_1 : List UInt8 := dkwX1_execute_1 ++ dktX1_execute_2
def dkwX1_execute_0 : List UInt8 := [42, 180, 0, 18, 182, 0, 194, 77, 3, 62, 43, 182, 1, 127, 154, 0, 36, 43, 182, 1, 130, 192, 1, 133]
abbrev dktX1_execute_0 : List UInt8 := dkwX1_execute_0 ++ dktX1_execute_1
theorem dksX1_execute_0 : cX1_execute.data.toList.drop 0 = dktX1_execute_0 := by decide +kernel
theorem dksX1_execute_1 : cX1_execute.data.toList.drop 24 = dktX1_execute_1 := dk_seg dksX1_execute_0 24 rfl rfl
theorem dksX1_execute_2 : cX1_execute.data.toList.drop 47 = dktX1_execute_2 := dk_seg dksX1_execute_1 23 rfl rfl
theorem dX1_execute_0 : decode cX1_execute 0 = .ok (.aload_n 0, 1) := dk_42 (dk_at dksX1_execute_0 0 rfl rfl)
theorem dX1_execute_1 : decode cX1_execute 1 = .ok (.getfield 18, 3) := dk_180 0 18 (dk_at dksX1_execute_0 1 rfl rfl)
theorem dX1_execute_4 : decode cX1_execute 4 = .ok (.invokevirtual 194, 3) := dk_182 0 194 (dk_at dksX1_execute_0 4 rfl rfl)
theorem dX1_execute_7 : decode cX1_execute 7 = .ok (.astore_n 2, 1) := dk_77 (dk_at dksX1_execute_0 7 rfl rfl)
theorem dX1_execute_8 : decode cX1_execute 8 = .ok (.iconst 0, 1) := dk_3 (dk_at dksX1_execute_0 8 rfl rfl)
theorem dX1_execute_9 : decode cX1_execute 9 = .ok (.istore_n 3, 1) := dk_62 (dk_at dksX1_execute_0 9 rfl rfl)
theorem dX1_execute_10 : decode cX1_execute 10 = .ok (.aload_n 1, 1) := dk_43 (dk_at dksX1_execute_0 10 rfl rfl)
theorem dX1_execute_11 : decode cX1_execute 11 = .ok (.invokevirtual 383, 3) := dk_182 1 127 (dk_at dksX1_execute_0 11 rfl rfl)
theorem dX1_execute_14 : decode cX1_execute 14 = .ok (.ifCond .ne 36, 3) := dk_154 0 36 (dk_at dksX1_execute_0 14 rfl rfl)
theorem dX1_execute_17 : decode cX1_execute 17 = .ok (.aload_n 1, 1) := dk_43 (dk_at dksX1_execute_0 17 rfl rfl)
theorem dX1_execute_18 : decode cX1_execute 18 = .ok (.invokevirtual 386, 3) := dk_182 1 130 (dk_at dksX1_execute_0 18 rfl rfl)
theorem dX1_execute_21 : decode cX1_execute 21 = .ok (.checkcast 389, 3) := dk_192 1 133 (dk_at dksX1_execute_0 21 rfl rfl)
theorem dX1_execute_24 : decode cX1_execute 24 = .ok (.aload_n 2, 1) := dk_44 (dk_at dksX1_execute_1 0 rfl rfl)
theorem dX1_execute_25 : decode cX1_execute 25 = .ok (.invokevirtual 391, 3) := dk_182 1 135 (dk_at dksX1_execute_1 1 rfl rfl)
theorem dX1_execute_28 : decode cX1_execute 28 = .ok (.ifCond .ne 16, 3) := dk_154 0 16 (dk_at dksX1_execute_1 4 rfl rfl)
theorem dX1_execute_31 : decode cX1_execute 31 = .ok (.aload_n 0, 1) := dk_42 (dk_at dksX1_execute_1 7 rfl rfl)
theorem dX1_execute_32 : decode cX1_execute 32 = .ok (.iload_n 3, 1) := dk_29 (dk_at dksX1_execute_1 8 rfl rfl)
theorem dX1_execute_33 : decode cX1_execute 33 = .ok (.putfield 48, 3) := dk_181 0 48 (dk_at dksX1_execute_1 9 rfl rfl)
theorem dX1_execute_36 : decode cX1_execute 36 = .ok (.new 64, 3) := dk_187 0 64 (dk_at dksX1_execute_1 12 rfl rfl)
theorem dX1_execute_39 : decode cX1_execute 39 = .ok (.dup, 1) := dk_89 (dk_at dksX1_execute_1 15 rfl rfl)
theorem dX1_execute_40 : decode cX1_execute 40 = .ok (.invokespecial 66, 3) := dk_183 0 66 (dk_at dksX1_execute_1 16 rfl rfl)
theorem dX1_execute_43 : decode cX1_execute 43 = .ok (.athrow, 1) := dk_191 (dk_at dksX1_execute_1 19 rfl rfl)
theorem dX1_execute_44 : decode cX1_execute 44 = .ok (.iinc 3 1, 3) := dk_132 3 1 (dk_at dksX1_execute_1 20 rfl rfl)
theorem dX1_execute_47 : decode cX1_execute 47 = .ok (.goto (-37), 3) := dk_167 255 219 (dk_at dksX1_execute_2 0 rfl rfl)
theorem dX1_execute_50 : decode cX1_execute 50 = .ok (.aload_n 0, 1) := dk_42 (dk_at dksX1_execute_2 3 rfl rfl)
theorem dX1_execute_51 : decode cX1_execute 51 = .ok (.getfield 18, 3) := dk_180 0 18 (dk_at dksX1_execute_2 4 rfl rfl)
theorem dX1_execute_54 : decode cX1_execute 54 = .ok (.astore 4, 2) := dk_58 4 (dk_at dksX1_execute_2 7 rfl rfl)
theorem dX1_execute_56 : decode cX1_execute 56 = .ok (.aload_n 0, 1) := dk_42 (dk_at dksX1_execute_2 9 rfl rfl)
theorem dX1_execute_57 : decode cX1_execute 57 = .ok (.aload_n 2, 1) := dk_44 (dk_at dksX1_execute_2 10 rfl rfl)
theorem dX1_execute_58 : decode cX1_execute 58 = .ok (.putfield 18, 3) := dk_181 0 18 (dk_at dksX1_execute_2 11 rfl rfl)
theorem dX1_execute_61 : decode cX1_execute 61 = .ok (.aload_n 0, 1) := dk_42 (dk_at dksX1_execute_2 14 rfl rfl)
theorem dX1_execute_62 : decode cX1_execute 62 = .ok (.aload 4, 2) := dk_25 4 (dk_at dksX1_execute_2 15 rfl rfl)
theorem dX1_execute_64 : decode cX1_execute 64 = .ok (.iload_n 3, 1) := dk_29 (dk_at dksX1_execute_2 17 rfl rfl)
theorem dX1_execute_65 : decode cX1_execute 65 = .ok (.invokevirtual 201, 3) := dk_182 0 201 (dk_at dksX1_execute_2 18 rfl rfl)
theorem dX1_execute_68 : decode cX1_execute 68 = .ok (.ireturn, 1) := dk_172 (dk_at dksX1_execute_2 21 rfl rfl)
abbrev cX1_errorPosition : ByteArray := prog_1_method_58_code
def yX1_errorPosition : MethodName := ⟨RX1, "errorPosition", "()I"⟩
def dkwX1_errorPosition_0 : List UInt8 := [42, 180, 0, 44, 155, 0, 7, 4, 167, 0, 4, 3, 184, 0, 186, 42, 180, 0, 44, 172]
abbrev dktX1_errorPosition_0 : List UInt8 := dkwX1_errorPosition_0 ++ []
theorem dksX1_errorPosition_0 : cX1_errorPosition.data.toList.drop 0 = dktX1_errorPosition_0 := by decide +kernel
theorem dX1_errorPosition_0 : decode cX1_errorPosition 0 = .ok (.aload_n 0, 1) := dk_42 (dk_at dksX1_errorPosition_0 0 rfl rfl)
theorem dX1_errorPosition_1 : decode cX1_errorPosition 1 = .ok (.getfield 44, 3) := dk_180 0 44 (dk_at dksX1_errorPosition_0 1 rfl rfl)
theorem dX1_errorPosition_4 : decode cX1_errorPosition 4 = .ok (.ifCond .lt 7, 3) := dk_155 0 7 (dk_at dksX1_errorPosition_0 4 rfl rfl)
theorem dX1_errorPosition_7 : decode cX1_errorPosition 7 = .ok (.iconst 1, 1) := dk_4 (dk_at dksX1_errorPosition_0 7 rfl rfl)
theorem dX1_errorPosition_8 : decode cX1_errorPosition 8 = .ok (.goto 4, 3) := dk_167 0 4 (dk_at dksX1_errorPosition_0 8 rfl rfl)
theorem dX1_errorPosition_11 : decode cX1_errorPosition 11 = .ok (.iconst 0, 1) := dk_3 (dk_at dksX1_errorPosition_0 11 rfl rfl)
theorem dX1_errorPosition_12 : decode cX1_errorPosition 12 = .ok (.invokestatic 186, 3) := dk_184 0 186 (dk_at dksX1_errorPosition_0 12 rfl rfl)
theorem dX1_errorPosition_15 : decode cX1_errorPosition 15 = .ok (.aload_n 0, 1) := dk_42 (dk_at dksX1_errorPosition_0 15 rfl rfl)
theorem dX1_errorPosition_16 : decode cX1_errorPosition 16 = .ok (.getfield 44, 3) := dk_180 0 44 (dk_at dksX1_errorPosition_0 16 rfl rfl)
theorem dX1_errorPosition_19 : decode cX1_errorPosition 19 = .ok (.ireturn, 1) := dk_172 (dk_at dksX1_errorPosition_0 19 rfl rfl)
abbrev cX1_failedCommand : ByteArray := prog_1_method_59_code
def yX1_failedCommand : MethodName := ⟨RX1, "failedCommand", "()I"⟩
def dkwX1_failedCommand_0 : List UInt8 := [42, 180, 0, 48, 155, 0, 7, 4, 167, 0, 4, 3, 184, 0, 186, 42, 180, 0, 48, 172]
abbrev dktX1_failedCommand_0 : List UInt8 := dkwX1_failedCommand_0 ++ []
theorem dksX1_failedCommand_0 : cX1_failedCommand.data.toList.drop 0 = dktX1_failedCommand_0 := by decide +kernel
theorem dX1_failedCommand_0 : decode cX1_failedCommand 0 = .ok (.aload_n 0, 1) := dk_42 (dk_at dksX1_failedCommand_0 0 rfl rfl)
theorem dX1_failedCommand_1 : decode cX1_failedCommand 1 = .ok (.getfield 48, 3) := dk_180 0 48 (dk_at dksX1_failedCommand_0 1 rfl rfl)
theorem dX1_failedCommand_4 : decode cX1_failedCommand 4 = .ok (.ifCond .lt 7, 3) := dk_155 0 7 (dk_at dksX1_failedCommand_0 4 rfl rfl)
theorem dX1_failedCommand_7 : decode cX1_failedCommand 7 = .ok (.iconst 1, 1) := dk_4 (dk_at dksX1_failedCommand_0 7 rfl rfl)
theorem dX1_failedCommand_8 : decode cX1_failedCommand 8 = .ok (.goto 4, 3) := dk_167 0 4 (dk_at dksX1_failedCommand_0 8 rfl rfl)
theorem dX1_failedCommand_11 : decode cX1_failedCommand 11 = .ok (.iconst 0, 1) := dk_3 (dk_at dksX1_failedCommand_0 11 rfl rfl)
theorem dX1_failedCommand_12 : decode cX1_failedCommand 12 = .ok (.invokestatic 186, 3) := dk_184 0 186 (dk_at dksX1_failedCommand_0 12 rfl rfl)
theorem dX1_failedCommand_15 : decode cX1_failedCommand 15 = .ok (.aload_n 0, 1) := dk_42 (dk_at dksX1_failedCommand_0 15 rfl rfl)
theorem dX1_failedCommand_16 : decode cX1_failedCommand 16 = .ok (.getfield 48, 3) := dk_180 0 48 (dk_at dksX1_failedCommand_0 16 rfl rfl)
theorem dX1_failedCommand_19 : decode cX1_failedCommand 19 = .ok (.ireturn, 1) := dk_172 (dk_at dksX1_failedCommand_0 19 rfl rfl)
abbrev cX1_describe : ByteArray := prog_1_method_60_code
def yX1_describe : MethodName := ⟨RX1, "describe", "(I)I"⟩
def dkwX1_describe_4 : List UInt8 := [182, 1, 170, 172]
abbrev dktX1_describe_4 : List UInt8 := dkwX1_describe_4 ++ []
def dkwX1_describe_3 : List UInt8 := [182, 1, 162, 182, 1, 159, 87, 167, 255, 201, 42, 44, 182, 1, 166, 181, 0, 40, 42, 180, 0, 40]
abbrev dktX1_describe_3 : List UInt8 := dkwX1_describe_3 ++ dktX1_describe_4
def dkwX1_describe_2 : List UInt8 := [154, 0, 8, 18, 38, 167, 0, 6, 19, 1, 157, 182, 1, 159, 25, 4, 42, 180, 0, 18, 180, 0, 142]
abbrev dktX1_describe_2 : List UInt8 := dkwX1_describe_2 ++ dktX1_describe_3
def dkwX1_describe_1 : List UInt8 := [185, 0, 100, 1, 0, 153, 0, 52, 45, 185, 0, 106, 1, 0, 192, 0, 110, 58, 4, 44, 44, 182, 1, 120]
abbrev dktX1_describe_1 : List UInt8 := dkwX1_describe_1 ++ dktX1_describe_2
def dkwX1_describe_0 : List UInt8 := [187, 0, 31, 89, 183, 0, 33, 77, 42, 180, 0, 18, 27, 182, 0, 178, 180, 0, 167, 182, 1, 23, 78, 45]
abbrev dktX1_describe_0 : List UInt8 := dkwX1_describe_0 ++ dktX1_describe_1
theorem dksX1_describe_0 : cX1_describe.data.toList.drop 0 = dktX1_describe_0 := by decide +kernel
theorem dksX1_describe_1 : cX1_describe.data.toList.drop 24 = dktX1_describe_1 := dk_seg dksX1_describe_0 24 rfl rfl
theorem dksX1_describe_2 : cX1_describe.data.toList.drop 48 = dktX1_describe_2 := dk_seg dksX1_describe_1 24 rfl rfl
theorem dksX1_describe_3 : cX1_describe.data.toList.drop 71 = dktX1_describe_3 := dk_seg dksX1_describe_2 23 rfl rfl
theorem dksX1_describe_4 : cX1_describe.data.toList.drop 93 = dktX1_describe_4 := dk_seg dksX1_describe_3 22 rfl rfl
theorem dX1_describe_0 : decode cX1_describe 0 = .ok (.new 31, 3) := dk_187 0 31 (dk_at dksX1_describe_0 0 rfl rfl)
theorem dX1_describe_3 : decode cX1_describe 3 = .ok (.dup, 1) := dk_89 (dk_at dksX1_describe_0 3 rfl rfl)
theorem dX1_describe_4 : decode cX1_describe 4 = .ok (.invokespecial 33, 3) := dk_183 0 33 (dk_at dksX1_describe_0 4 rfl rfl)
theorem dX1_describe_7 : decode cX1_describe 7 = .ok (.astore_n 2, 1) := dk_77 (dk_at dksX1_describe_0 7 rfl rfl)
theorem dX1_describe_8 : decode cX1_describe 8 = .ok (.aload_n 0, 1) := dk_42 (dk_at dksX1_describe_0 8 rfl rfl)
theorem dX1_describe_9 : decode cX1_describe 9 = .ok (.getfield 18, 3) := dk_180 0 18 (dk_at dksX1_describe_0 9 rfl rfl)
theorem dX1_describe_12 : decode cX1_describe 12 = .ok (.iload_n 1, 1) := dk_27 (dk_at dksX1_describe_0 12 rfl rfl)
theorem dX1_describe_13 : decode cX1_describe 13 = .ok (.invokevirtual 178, 3) := dk_182 0 178 (dk_at dksX1_describe_0 13 rfl rfl)
theorem dX1_describe_16 : decode cX1_describe 16 = .ok (.getfield 167, 3) := dk_180 0 167 (dk_at dksX1_describe_0 16 rfl rfl)
theorem dX1_describe_19 : decode cX1_describe 19 = .ok (.invokevirtual 279, 3) := dk_182 1 23 (dk_at dksX1_describe_0 19 rfl rfl)
theorem dX1_describe_22 : decode cX1_describe 22 = .ok (.astore_n 3, 1) := dk_78 (dk_at dksX1_describe_0 22 rfl rfl)
theorem dX1_describe_23 : decode cX1_describe 23 = .ok (.aload_n 3, 1) := dk_45 (dk_at dksX1_describe_0 23 rfl rfl)
theorem dX1_describe_24 : decode cX1_describe 24 = .ok (.invokeinterface 100 1, 5) := by decide +kernel
theorem dX1_describe_29 : decode cX1_describe 29 = .ok (.ifCond .eq 52, 3) := dk_153 0 52 (dk_at dksX1_describe_1 5 rfl rfl)
theorem dX1_describe_32 : decode cX1_describe 32 = .ok (.aload_n 3, 1) := dk_45 (dk_at dksX1_describe_1 8 rfl rfl)
theorem dX1_describe_33 : decode cX1_describe 33 = .ok (.invokeinterface 106 1, 5) := by decide +kernel
theorem dX1_describe_38 : decode cX1_describe 38 = .ok (.checkcast 110, 3) := dk_192 0 110 (dk_at dksX1_describe_1 14 rfl rfl)
theorem dX1_describe_41 : decode cX1_describe 41 = .ok (.astore 4, 2) := dk_58 4 (dk_at dksX1_describe_1 17 rfl rfl)
theorem dX1_describe_43 : decode cX1_describe 43 = .ok (.aload_n 2, 1) := dk_44 (dk_at dksX1_describe_1 19 rfl rfl)
theorem dX1_describe_44 : decode cX1_describe 44 = .ok (.aload_n 2, 1) := dk_44 (dk_at dksX1_describe_1 20 rfl rfl)
theorem dX1_describe_45 : decode cX1_describe 45 = .ok (.invokevirtual 376, 3) := dk_182 1 120 (dk_at dksX1_describe_1 21 rfl rfl)
theorem dX1_describe_48 : decode cX1_describe 48 = .ok (.ifCond .ne 8, 3) := dk_154 0 8 (dk_at dksX1_describe_2 0 rfl rfl)
theorem dX1_describe_51 : decode cX1_describe 51 = .ok (.ldc 38, 2) := dk_18 38 (dk_at dksX1_describe_2 3 rfl rfl)
theorem dX1_describe_53 : decode cX1_describe 53 = .ok (.goto 6, 3) := dk_167 0 6 (dk_at dksX1_describe_2 5 rfl rfl)
theorem dX1_describe_56 : decode cX1_describe 56 = .ok (.ldc_w 413, 3) := dk_19 1 157 (dk_at dksX1_describe_2 8 rfl rfl)
theorem dX1_describe_59 : decode cX1_describe 59 = .ok (.invokevirtual 415, 3) := dk_182 1 159 (dk_at dksX1_describe_2 11 rfl rfl)
theorem dX1_describe_62 : decode cX1_describe 62 = .ok (.aload 4, 2) := dk_25 4 (dk_at dksX1_describe_2 14 rfl rfl)
theorem dX1_describe_64 : decode cX1_describe 64 = .ok (.aload_n 0, 1) := dk_42 (dk_at dksX1_describe_2 16 rfl rfl)
theorem dX1_describe_65 : decode cX1_describe 65 = .ok (.getfield 18, 3) := dk_180 0 18 (dk_at dksX1_describe_2 17 rfl rfl)
theorem dX1_describe_68 : decode cX1_describe 68 = .ok (.getfield 142, 3) := dk_180 0 142 (dk_at dksX1_describe_2 20 rfl rfl)
theorem dX1_describe_71 : decode cX1_describe 71 = .ok (.invokevirtual 418, 3) := dk_182 1 162 (dk_at dksX1_describe_3 0 rfl rfl)
theorem dX1_describe_74 : decode cX1_describe 74 = .ok (.invokevirtual 415, 3) := dk_182 1 159 (dk_at dksX1_describe_3 3 rfl rfl)
theorem dX1_describe_77 : decode cX1_describe 77 = .ok (.pop, 1) := dk_87 (dk_at dksX1_describe_3 6 rfl rfl)
theorem dX1_describe_78 : decode cX1_describe 78 = .ok (.goto (-55), 3) := dk_167 255 201 (dk_at dksX1_describe_3 7 rfl rfl)
theorem dX1_describe_81 : decode cX1_describe 81 = .ok (.aload_n 0, 1) := dk_42 (dk_at dksX1_describe_3 10 rfl rfl)
theorem dX1_describe_82 : decode cX1_describe 82 = .ok (.aload_n 2, 1) := dk_44 (dk_at dksX1_describe_3 11 rfl rfl)
theorem dX1_describe_83 : decode cX1_describe 83 = .ok (.invokevirtual 422, 3) := dk_182 1 166 (dk_at dksX1_describe_3 12 rfl rfl)
theorem dX1_describe_86 : decode cX1_describe 86 = .ok (.putfield 40, 3) := dk_181 0 40 (dk_at dksX1_describe_3 15 rfl rfl)
theorem dX1_describe_89 : decode cX1_describe 89 = .ok (.aload_n 0, 1) := dk_42 (dk_at dksX1_describe_3 18 rfl rfl)
theorem dX1_describe_90 : decode cX1_describe 90 = .ok (.getfield 40, 3) := dk_180 0 40 (dk_at dksX1_describe_3 19 rfl rfl)
theorem dX1_describe_93 : decode cX1_describe 93 = .ok (.invokevirtual 426, 3) := dk_182 1 170 (dk_at dksX1_describe_4 0 rfl rfl)
theorem dX1_describe_96 : decode cX1_describe 96 = .ok (.ireturn, 1) := dk_172 (dk_at dksX1_describe_4 3 rfl rfl)
abbrev cX1_lineAt : ByteArray := prog_1_method_61_code
def yX1_lineAt : MethodName := ⟨RX1, "lineAt", "(I)C"⟩
def dkwX1_lineAt_0 : List UInt8 := [27, 42, 180, 0, 40, 182, 1, 170, 184, 1, 3, 42, 180, 0, 40, 27, 182, 1, 173, 172]
abbrev dktX1_lineAt_0 : List UInt8 := dkwX1_lineAt_0 ++ []
theorem dksX1_lineAt_0 : cX1_lineAt.data.toList.drop 0 = dktX1_lineAt_0 := by decide +kernel
theorem dX1_lineAt_0 : decode cX1_lineAt 0 = .ok (.iload_n 1, 1) := dk_27 (dk_at dksX1_lineAt_0 0 rfl rfl)
theorem dX1_lineAt_1 : decode cX1_lineAt 1 = .ok (.aload_n 0, 1) := dk_42 (dk_at dksX1_lineAt_0 1 rfl rfl)
theorem dX1_lineAt_2 : decode cX1_lineAt 2 = .ok (.getfield 40, 3) := dk_180 0 40 (dk_at dksX1_lineAt_0 2 rfl rfl)
theorem dX1_lineAt_5 : decode cX1_lineAt 5 = .ok (.invokevirtual 426, 3) := dk_182 1 170 (dk_at dksX1_lineAt_0 5 rfl rfl)
theorem dX1_lineAt_8 : decode cX1_lineAt 8 = .ok (.invokestatic 259, 3) := dk_184 1 3 (dk_at dksX1_lineAt_0 8 rfl rfl)
theorem dX1_lineAt_11 : decode cX1_lineAt 11 = .ok (.aload_n 0, 1) := dk_42 (dk_at dksX1_lineAt_0 11 rfl rfl)
theorem dX1_lineAt_12 : decode cX1_lineAt 12 = .ok (.getfield 40, 3) := dk_180 0 40 (dk_at dksX1_lineAt_0 12 rfl rfl)
theorem dX1_lineAt_15 : decode cX1_lineAt 15 = .ok (.iload_n 1, 1) := dk_27 (dk_at dksX1_lineAt_0 15 rfl rfl)
theorem dX1_lineAt_16 : decode cX1_lineAt 16 = .ok (.invokevirtual 429, 3) := dk_182 1 173 (dk_at dksX1_lineAt_0 16 rfl rfl)
theorem dX1_lineAt_19 : decode cX1_lineAt 19 = .ok (.ireturn, 1) := dk_172 (dk_at dksX1_lineAt_0 19 rfl rfl)
abbrev cX1_nounShare : ByteArray := prog_1_method_63_code
def yX1_nounShare : MethodName := ⟨RX1, "nounShare", "(I)F"⟩
def dkwX1_nounShare_3 : List UInt8 := [4, 167, 0, 4, 3, 96, 62, 167, 255, 218, 29, 134, 44, 180, 0, 167, 182, 0, 243, 134, 110, 174]
abbrev dktX1_nounShare_3 : List UInt8 := dkwX1_nounShare_3 ++ []
def dkwX1_nounShare_2 : List UInt8 := [153, 0, 34, 25, 4, 185, 0, 106, 1, 0, 192, 0, 110, 58, 5, 29, 25, 5, 180, 0, 139, 154, 0, 7]
abbrev dktX1_nounShare_2 : List UInt8 := dkwX1_nounShare_2 ++ dktX1_nounShare_3
def dkwX1_nounShare_1 : List UInt8 := [183, 1, 183, 191, 3, 62, 44, 180, 0, 167, 182, 1, 23, 58, 4, 25, 4, 185, 0, 100, 1, 0]
abbrev dktX1_nounShare_1 : List UInt8 := dkwX1_nounShare_1 ++ dktX1_nounShare_2
def dkwX1_nounShare_0 : List UInt8 := [42, 180, 0, 18, 27, 182, 0, 178, 77, 44, 180, 0, 167, 182, 1, 62, 153, 0, 11, 187, 1, 181, 89]
abbrev dktX1_nounShare_0 : List UInt8 := dkwX1_nounShare_0 ++ dktX1_nounShare_1
theorem dksX1_nounShare_0 : cX1_nounShare.data.toList.drop 0 = dktX1_nounShare_0 := by decide +kernel
theorem dksX1_nounShare_1 : cX1_nounShare.data.toList.drop 23 = dktX1_nounShare_1 := dk_seg dksX1_nounShare_0 23 rfl rfl
theorem dksX1_nounShare_2 : cX1_nounShare.data.toList.drop 45 = dktX1_nounShare_2 := dk_seg dksX1_nounShare_1 22 rfl rfl
theorem dksX1_nounShare_3 : cX1_nounShare.data.toList.drop 69 = dktX1_nounShare_3 := dk_seg dksX1_nounShare_2 24 rfl rfl
theorem dX1_nounShare_0 : decode cX1_nounShare 0 = .ok (.aload_n 0, 1) := dk_42 (dk_at dksX1_nounShare_0 0 rfl rfl)
theorem dX1_nounShare_1 : decode cX1_nounShare 1 = .ok (.getfield 18, 3) := dk_180 0 18 (dk_at dksX1_nounShare_0 1 rfl rfl)
theorem dX1_nounShare_4 : decode cX1_nounShare 4 = .ok (.iload_n 1, 1) := dk_27 (dk_at dksX1_nounShare_0 4 rfl rfl)
theorem dX1_nounShare_5 : decode cX1_nounShare 5 = .ok (.invokevirtual 178, 3) := dk_182 0 178 (dk_at dksX1_nounShare_0 5 rfl rfl)
theorem dX1_nounShare_8 : decode cX1_nounShare 8 = .ok (.astore_n 2, 1) := dk_77 (dk_at dksX1_nounShare_0 8 rfl rfl)
theorem dX1_nounShare_9 : decode cX1_nounShare 9 = .ok (.aload_n 2, 1) := dk_44 (dk_at dksX1_nounShare_0 9 rfl rfl)
theorem dX1_nounShare_10 : decode cX1_nounShare 10 = .ok (.getfield 167, 3) := dk_180 0 167 (dk_at dksX1_nounShare_0 10 rfl rfl)
theorem dX1_nounShare_13 : decode cX1_nounShare 13 = .ok (.invokevirtual 318, 3) := dk_182 1 62 (dk_at dksX1_nounShare_0 13 rfl rfl)
theorem dX1_nounShare_16 : decode cX1_nounShare 16 = .ok (.ifCond .eq 11, 3) := dk_153 0 11 (dk_at dksX1_nounShare_0 16 rfl rfl)
theorem dX1_nounShare_19 : decode cX1_nounShare 19 = .ok (.new 437, 3) := dk_187 1 181 (dk_at dksX1_nounShare_0 19 rfl rfl)
theorem dX1_nounShare_22 : decode cX1_nounShare 22 = .ok (.dup, 1) := dk_89 (dk_at dksX1_nounShare_0 22 rfl rfl)
theorem dX1_nounShare_23 : decode cX1_nounShare 23 = .ok (.invokespecial 439, 3) := dk_183 1 183 (dk_at dksX1_nounShare_1 0 rfl rfl)
theorem dX1_nounShare_26 : decode cX1_nounShare 26 = .ok (.athrow, 1) := dk_191 (dk_at dksX1_nounShare_1 3 rfl rfl)
theorem dX1_nounShare_27 : decode cX1_nounShare 27 = .ok (.iconst 0, 1) := dk_3 (dk_at dksX1_nounShare_1 4 rfl rfl)
theorem dX1_nounShare_28 : decode cX1_nounShare 28 = .ok (.istore_n 3, 1) := dk_62 (dk_at dksX1_nounShare_1 5 rfl rfl)
theorem dX1_nounShare_29 : decode cX1_nounShare 29 = .ok (.aload_n 2, 1) := dk_44 (dk_at dksX1_nounShare_1 6 rfl rfl)
theorem dX1_nounShare_30 : decode cX1_nounShare 30 = .ok (.getfield 167, 3) := dk_180 0 167 (dk_at dksX1_nounShare_1 7 rfl rfl)
theorem dX1_nounShare_33 : decode cX1_nounShare 33 = .ok (.invokevirtual 279, 3) := dk_182 1 23 (dk_at dksX1_nounShare_1 10 rfl rfl)
theorem dX1_nounShare_36 : decode cX1_nounShare 36 = .ok (.astore 4, 2) := dk_58 4 (dk_at dksX1_nounShare_1 13 rfl rfl)
theorem dX1_nounShare_38 : decode cX1_nounShare 38 = .ok (.aload 4, 2) := dk_25 4 (dk_at dksX1_nounShare_1 15 rfl rfl)
theorem dX1_nounShare_40 : decode cX1_nounShare 40 = .ok (.invokeinterface 100 1, 5) := by decide +kernel
theorem dX1_nounShare_45 : decode cX1_nounShare 45 = .ok (.ifCond .eq 34, 3) := dk_153 0 34 (dk_at dksX1_nounShare_2 0 rfl rfl)
theorem dX1_nounShare_48 : decode cX1_nounShare 48 = .ok (.aload 4, 2) := dk_25 4 (dk_at dksX1_nounShare_2 3 rfl rfl)
theorem dX1_nounShare_50 : decode cX1_nounShare 50 = .ok (.invokeinterface 106 1, 5) := by decide +kernel
theorem dX1_nounShare_55 : decode cX1_nounShare 55 = .ok (.checkcast 110, 3) := dk_192 0 110 (dk_at dksX1_nounShare_2 10 rfl rfl)
theorem dX1_nounShare_58 : decode cX1_nounShare 58 = .ok (.astore 5, 2) := dk_58 5 (dk_at dksX1_nounShare_2 13 rfl rfl)
theorem dX1_nounShare_60 : decode cX1_nounShare 60 = .ok (.iload_n 3, 1) := dk_29 (dk_at dksX1_nounShare_2 15 rfl rfl)
theorem dX1_nounShare_61 : decode cX1_nounShare 61 = .ok (.aload 5, 2) := dk_25 5 (dk_at dksX1_nounShare_2 16 rfl rfl)
theorem dX1_nounShare_63 : decode cX1_nounShare 63 = .ok (.getfield 139, 3) := dk_180 0 139 (dk_at dksX1_nounShare_2 18 rfl rfl)
theorem dX1_nounShare_66 : decode cX1_nounShare 66 = .ok (.ifCond .ne 7, 3) := dk_154 0 7 (dk_at dksX1_nounShare_2 21 rfl rfl)
theorem dX1_nounShare_69 : decode cX1_nounShare 69 = .ok (.iconst 1, 1) := dk_4 (dk_at dksX1_nounShare_3 0 rfl rfl)
theorem dX1_nounShare_70 : decode cX1_nounShare 70 = .ok (.goto 4, 3) := dk_167 0 4 (dk_at dksX1_nounShare_3 1 rfl rfl)
theorem dX1_nounShare_73 : decode cX1_nounShare 73 = .ok (.iconst 0, 1) := dk_3 (dk_at dksX1_nounShare_3 4 rfl rfl)
theorem dX1_nounShare_74 : decode cX1_nounShare 74 = .ok (.iadd, 1) := dk_96 (dk_at dksX1_nounShare_3 5 rfl rfl)
theorem dX1_nounShare_75 : decode cX1_nounShare 75 = .ok (.istore_n 3, 1) := dk_62 (dk_at dksX1_nounShare_3 6 rfl rfl)
theorem dX1_nounShare_76 : decode cX1_nounShare 76 = .ok (.goto (-38), 3) := dk_167 255 218 (dk_at dksX1_nounShare_3 7 rfl rfl)
theorem dX1_nounShare_79 : decode cX1_nounShare 79 = .ok (.iload_n 3, 1) := dk_29 (dk_at dksX1_nounShare_3 10 rfl rfl)
theorem dX1_nounShare_80 : decode cX1_nounShare 80 = .ok (.i2f, 1) := dk_134 (dk_at dksX1_nounShare_3 11 rfl rfl)
theorem dX1_nounShare_81 : decode cX1_nounShare 81 = .ok (.aload_n 2, 1) := dk_44 (dk_at dksX1_nounShare_3 12 rfl rfl)
theorem dX1_nounShare_82 : decode cX1_nounShare 82 = .ok (.getfield 167, 3) := dk_180 0 167 (dk_at dksX1_nounShare_3 13 rfl rfl)
theorem dX1_nounShare_85 : decode cX1_nounShare 85 = .ok (.invokevirtual 243, 3) := dk_182 0 243 (dk_at dksX1_nounShare_3 16 rfl rfl)
theorem dX1_nounShare_88 : decode cX1_nounShare 88 = .ok (.i2f, 1) := dk_134 (dk_at dksX1_nounShare_3 19 rfl rfl)
theorem dX1_nounShare_89 : decode cX1_nounShare 89 = .ok (.fdiv, 1) := dk_110 (dk_at dksX1_nounShare_3 20 rfl rfl)
theorem dX1_nounShare_90 : decode cX1_nounShare 90 = .ok (.freturn, 1) := dk_174 (dk_at dksX1_nounShare_3 21 rfl rfl)
abbrev cX1_undo : ByteArray := prog_1_method_65_code
def yX1_undo : MethodName := ⟨RX1, "undo", "()I"⟩
def dkwX1_undo_0 : List UInt8 := [42, 42, 180, 0, 27, 182, 1, 195, 192, 0, 15, 181, 0, 18, 42, 180, 0, 27, 182, 1, 199, 172]
abbrev dktX1_undo_0 : List UInt8 := dkwX1_undo_0 ++ []
theorem dksX1_undo_0 : cX1_undo.data.toList.drop 0 = dktX1_undo_0 := by decide +kernel
theorem dX1_undo_0 : decode cX1_undo 0 = .ok (.aload_n 0, 1) := dk_42 (dk_at dksX1_undo_0 0 rfl rfl)
theorem dX1_undo_1 : decode cX1_undo 1 = .ok (.aload_n 0, 1) := dk_42 (dk_at dksX1_undo_0 1 rfl rfl)
theorem dX1_undo_2 : decode cX1_undo 2 = .ok (.getfield 27, 3) := dk_180 0 27 (dk_at dksX1_undo_0 2 rfl rfl)
theorem dX1_undo_5 : decode cX1_undo 5 = .ok (.invokevirtual 451, 3) := dk_182 1 195 (dk_at dksX1_undo_0 5 rfl rfl)
theorem dX1_undo_8 : decode cX1_undo 8 = .ok (.checkcast 15, 3) := dk_192 0 15 (dk_at dksX1_undo_0 8 rfl rfl)
theorem dX1_undo_11 : decode cX1_undo 11 = .ok (.putfield 18, 3) := dk_181 0 18 (dk_at dksX1_undo_0 11 rfl rfl)
theorem dX1_undo_14 : decode cX1_undo 14 = .ok (.aload_n 0, 1) := dk_42 (dk_at dksX1_undo_0 14 rfl rfl)
theorem dX1_undo_15 : decode cX1_undo 15 = .ok (.getfield 27, 3) := dk_180 0 27 (dk_at dksX1_undo_0 15 rfl rfl)
theorem dX1_undo_18 : decode cX1_undo 18 = .ok (.invokevirtual 455, 3) := dk_182 1 199 (dk_at dksX1_undo_0 18 rfl rfl)
theorem dX1_undo_21 : decode cX1_undo 21 = .ok (.ireturn, 1) := dk_172 (dk_at dksX1_undo_0 21 rfl rfl)
abbrev cX1_restore : ByteArray := prog_1_method_67_code
def yX1_restore : MethodName := ⟨RX1, "restore", "()I"⟩
def dkwX1_restore_1 : List UInt8 := [181, 0, 18, 42, 180, 0, 27, 182, 1, 203, 42, 180, 0, 18, 182, 1, 177, 172]
abbrev dktX1_restore_1 : List UInt8 := dkwX1_restore_1 ++ []
def dkwX1_restore_0 : List UInt8 := [42, 180, 1, 200, 198, 0, 7, 4, 167, 0, 4, 3, 184, 0, 246, 42, 42, 180, 1, 200, 182, 0, 194]
abbrev dktX1_restore_0 : List UInt8 := dkwX1_restore_0 ++ dktX1_restore_1
theorem dksX1_restore_0 : cX1_restore.data.toList.drop 0 = dktX1_restore_0 := by decide +kernel
theorem dksX1_restore_1 : cX1_restore.data.toList.drop 23 = dktX1_restore_1 := dk_seg dksX1_restore_0 23 rfl rfl
theorem dX1_restore_0 : decode cX1_restore 0 = .ok (.aload_n 0, 1) := dk_42 (dk_at dksX1_restore_0 0 rfl rfl)
theorem dX1_restore_1 : decode cX1_restore 1 = .ok (.getfield 456, 3) := dk_180 1 200 (dk_at dksX1_restore_0 1 rfl rfl)
theorem dX1_restore_4 : decode cX1_restore 4 = .ok (.ifnull 7, 3) := dk_198 0 7 (dk_at dksX1_restore_0 4 rfl rfl)
theorem dX1_restore_7 : decode cX1_restore 7 = .ok (.iconst 1, 1) := dk_4 (dk_at dksX1_restore_0 7 rfl rfl)
theorem dX1_restore_8 : decode cX1_restore 8 = .ok (.goto 4, 3) := dk_167 0 4 (dk_at dksX1_restore_0 8 rfl rfl)
theorem dX1_restore_11 : decode cX1_restore 11 = .ok (.iconst 0, 1) := dk_3 (dk_at dksX1_restore_0 11 rfl rfl)
theorem dX1_restore_12 : decode cX1_restore 12 = .ok (.invokestatic 246, 3) := dk_184 0 246 (dk_at dksX1_restore_0 12 rfl rfl)
theorem dX1_restore_15 : decode cX1_restore 15 = .ok (.aload_n 0, 1) := dk_42 (dk_at dksX1_restore_0 15 rfl rfl)
theorem dX1_restore_16 : decode cX1_restore 16 = .ok (.aload_n 0, 1) := dk_42 (dk_at dksX1_restore_0 16 rfl rfl)
theorem dX1_restore_17 : decode cX1_restore 17 = .ok (.getfield 456, 3) := dk_180 1 200 (dk_at dksX1_restore_0 17 rfl rfl)
theorem dX1_restore_20 : decode cX1_restore 20 = .ok (.invokevirtual 194, 3) := dk_182 0 194 (dk_at dksX1_restore_0 20 rfl rfl)
theorem dX1_restore_23 : decode cX1_restore 23 = .ok (.putfield 18, 3) := dk_181 0 18 (dk_at dksX1_restore_1 0 rfl rfl)
theorem dX1_restore_26 : decode cX1_restore 26 = .ok (.aload_n 0, 1) := dk_42 (dk_at dksX1_restore_1 3 rfl rfl)
theorem dX1_restore_27 : decode cX1_restore 27 = .ok (.getfield 27, 3) := dk_180 0 27 (dk_at dksX1_restore_1 4 rfl rfl)
theorem dX1_restore_30 : decode cX1_restore 30 = .ok (.invokevirtual 459, 3) := dk_182 1 203 (dk_at dksX1_restore_1 7 rfl rfl)
theorem dX1_restore_33 : decode cX1_restore 33 = .ok (.aload_n 0, 1) := dk_42 (dk_at dksX1_restore_1 10 rfl rfl)
theorem dX1_restore_34 : decode cX1_restore 34 = .ok (.getfield 18, 3) := dk_180 0 18 (dk_at dksX1_restore_1 11 rfl rfl)
theorem dX1_restore_37 : decode cX1_restore 37 = .ok (.invokevirtual 433, 3) := dk_182 1 177 (dk_at dksX1_restore_1 14 rfl rfl)
theorem dX1_restore_40 : decode cX1_restore 40 = .ok (.ireturn, 1) := dk_172 (dk_at dksX1_restore_1 17 rfl rfl)
theorem q76 : (Jvm.Cond.initialized "GateGrammar") ∈ lw_all := lw_g (lw_at lw_m1 1 rfl) rfl
theorem q132 : (Jvm.Cond.instantiable "GateGrammar" (8 : Nat)) ∈ lw_all := lw_g (lw_at lw_m1 57 rfl) rfl
theorem q134 : (Jvm.Cond.instanceMethod ({ cls := "GateGrammar", name := "<init>", desc := "()V" } : Jvm.MethodName)) ∈ lw_all := lw_g (lw_at lw_m1 59 rfl) rfl
theorem q135 : (Jvm.Cond.code ({ cls := "GateGrammar", name := "<init>", desc := "()V" } : Jvm.MethodName) prog_1_method_1_code (4 : Nat) (Option.none : Option Jvm.ClassFile.FieldType)) ∈ lw_all := lw_g (lw_at lw_m1 60 rfl) rfl
theorem q136 : (Jvm.Cond.methodLink "GateGrammar" (1 : Nat) ({ cls := "java/lang/Object", name := "<init>", desc := "()V" } : Jvm.MethodName)) ∈ lw_all := lw_g (lw_at lw_m1 61 rfl) rfl
theorem q139 : (Jvm.Cond.classLink "GateGrammar" (7 : Nat) "GateGrammar$Rule") ∈ lw_all := lw_g (lw_at lw_m1 64 rfl) rfl
theorem q141 : (Jvm.Cond.classLink "GateGrammar" (15 : Nat) "GateGrammar$State") ∈ lw_all := lw_g (lw_at lw_m1 66 rfl) rfl
theorem q143 : (Jvm.Cond.methodLink "GateGrammar" (17 : Nat) ({ cls := "GateGrammar$State", name := "<init>", desc := "()V" } : Jvm.MethodName)) ∈ lw_all := lw_g (lw_at lw_m1 68 rfl) rfl
theorem q156 : (Jvm.Cond.fieldLinkNest "GateGrammar" (212 : Nat) "GateGrammar$Lexicon" "nouns" "I" "GateGrammar") ∈ lw_tbl := lw_at lw_m1 81 rfl
theorem q159 : (Jvm.Cond.fieldLinkNest "GateGrammar" (215 : Nat) "GateGrammar$Lexicon" "verbs" "I" "GateGrammar") ∈ lw_tbl := lw_at lw_m1 84 rfl
theorem q531 : (Jvm.Cond.fieldLinkNest "GateGrammar" (142 : Nat) "GateGrammar$State" "lexicon" "LGateGrammar$Lexicon;" "GateGrammar") ∈ lw_tbl := lw_at lw_m2 216 rfl
theorem q533 : (Jvm.Cond.fieldLinkNest "GateGrammar" (346 : Nat) "GateGrammar$State" "gates" "Ljava/util/ArrayList;" "GateGrammar") ∈ lw_tbl := lw_at lw_m2 218 rfl
theorem q548 : (Jvm.Cond.fieldLinkNest "GateGrammar" (363 : Nat) "GateGrammar$Gate" "number" "I" "GateGrammar") ∈ lw_tbl := lw_at lw_m2 233 rfl
theorem q552 : (Jvm.Cond.fieldLinkNest "GateGrammar" (167 : Nat) "GateGrammar$Gate" "tokens" "Ljava/util/ArrayList;" "GateGrammar") ∈ lw_tbl := lw_at lw_m2 237 rfl
theorem q555 : (Jvm.Cond.fieldLinkNest "GateGrammar" (364 : Nat) "GateGrammar$Gate" "walks" "I" "GateGrammar") ∈ lw_tbl := lw_at lw_m3 0 rfl
theorem q588 : (Jvm.Cond.selects "GateGrammar" ({ cls := "java/lang/Object", name := "getClass", desc := "()Ljava/lang/Class;" } : Jvm.MethodName) ({ cls := "java/lang/Object", name := "getClass", desc := "()Ljava/lang/Class;" } : Jvm.MethodName)) ∈ lw_all := lw_g (lw_at lw_m3 33 rfl) rfl
theorem q633 : (Jvm.Cond.classLink "GateGrammar" (22 : Nat) "GateGrammar$History") ∈ lw_all := lw_g (lw_at lw_m3 78 rfl) rfl
theorem q635 : (Jvm.Cond.methodLink "GateGrammar" (24 : Nat) ({ cls := "GateGrammar$History", name := "<init>", desc := "(I)V" } : Jvm.MethodName)) ∈ lw_all := lw_g (lw_at lw_m3 80 rfl) rfl
theorem q663 : (Jvm.Cond.classLink "GateGrammar" (31 : Nat) "java/lang/StringBuilder") ∈ lw_all := lw_g (lw_at lw_m3 108 rfl) rfl
theorem q664 : (Jvm.Cond.methodLink "GateGrammar" (33 : Nat) ({ cls := "java/lang/StringBuilder", name := "<init>", desc := "()V" } : Jvm.MethodName)) ∈ lw_all := lw_g (lw_at lw_m3 109 rfl) rfl
theorem q665 : (Jvm.Cond.stringRef "GateGrammar" (38 : Nat) "") ∈ lw_tbl := lw_at lw_m3 110 rfl
theorem q666 : (Jvm.Cond.static ({ cls := "GateGrammar", name := "lambda$new$0", desc := "(ILGateGrammar$State;LGateGrammar$Sentence;LGateGrammar$Clause;LGateGrammar$Report;)V" } : Jvm.MethodName)) ∈ lw_all := lw_g (lw_at lw_m3 111 rfl) rfl
theorem q667 : (Jvm.Cond.code ({ cls := "GateGrammar", name := "lambda$new$0", desc := "(ILGateGrammar$State;LGateGrammar$Sentence;LGateGrammar$Clause;LGateGrammar$Report;)V" } : Jvm.MethodName) prog_1_method_70_code (7 : Nat) (Option.none : Option Jvm.ClassFile.FieldType)) ∈ lw_all := lw_g (lw_at lw_m3 112 rfl) rfl
theorem q668 : (Jvm.Cond.methodLink "GateGrammar" (279 : Nat) ({ cls := "java/util/ArrayList", name := "iterator", desc := "()Ljava/util/Iterator;" } : Jvm.MethodName)) ∈ lw_all := lw_g (lw_at lw_m3 113 rfl) rfl
theorem q693 : (Jvm.Cond.interfaceEntry "GateGrammar" (100 : Nat)) ∈ lw_tbl := lw_at lw_m3 138 rfl
theorem q694 : (Jvm.Cond.methodLink "GateGrammar" (100 : Nat) ({ cls := "java/util/Iterator", name := "hasNext", desc := "()Z" } : Jvm.MethodName)) ∈ lw_all := lw_g (lw_at lw_m3 139 rfl) rfl
theorem q737 : (Jvm.Cond.interfaceEntry "GateGrammar" (106 : Nat)) ∈ lw_tbl := lw_at lw_m3 182 rfl
theorem q738 : (Jvm.Cond.methodLink "GateGrammar" (106 : Nat) ({ cls := "java/util/Iterator", name := "next", desc := "()Ljava/lang/Object;" } : Jvm.MethodName)) ∈ lw_all := lw_g (lw_at lw_m3 183 rfl) rfl
theorem q977 : (Jvm.Cond.classLink "GateGrammar" (471 : Nat) "java/lang/Integer") ∈ lw_all := lw_g (lw_at lw_m4 182 rfl) rfl
theorem q978 : (Jvm.Cond.methodLink "GateGrammar" (473 : Nat) ({ cls := "java/lang/Integer", name := "intValue", desc := "()I" } : Jvm.MethodName)) ∈ lw_all := lw_g (lw_at lw_m4 183 rfl) rfl
theorem q982 : (Jvm.Cond.methodLink "GateGrammar" (304 : Nat) ({ cls := "GateGrammar$Sentence", name := "token", desc := "(I)LGateGrammar$Token;" } : Jvm.MethodName)) ∈ lw_all := lw_g (lw_at lw_m4 187 rfl) rfl
theorem q999 : (Jvm.Cond.methodLink "GateGrammar" (468 : Nat) ({ cls := "GateGrammar$Report", name := "add", desc := "(IZ)V" } : Jvm.MethodName)) ∈ lw_all := lw_g (lw_at lw_m4 204 rfl) rfl
theorem q1004 : (Jvm.Cond.static ({ cls := "GateGrammar", name := "lambda$new$1", desc := "(LGateGrammar$State;LGateGrammar$Sentence;LGateGrammar$Clause;LGateGrammar$Report;)V" } : Jvm.MethodName)) ∈ lw_all := lw_g (lw_at lw_m4 209 rfl) rfl
theorem q1005 : (Jvm.Cond.code ({ cls := "GateGrammar", name := "lambda$new$1", desc := "(LGateGrammar$State;LGateGrammar$Sentence;LGateGrammar$Clause;LGateGrammar$Report;)V" } : Jvm.MethodName) prog_1_method_69_code (5 : Nat) (Option.none : Option Jvm.ClassFile.FieldType)) ∈ lw_all := lw_g (lw_at lw_m4 210 rfl) rfl
theorem q1006 : (Jvm.Cond.methodLink "GateGrammar" (149 : Nat) ({ cls := "GateGrammar$Lexicon", name := "objectCase", desc := "(I)I" } : Jvm.MethodName)) ∈ lw_all := lw_g (lw_at lw_m4 211 rfl) rfl
theorem q1011 : (Jvm.Cond.static ({ cls := "GateGrammar", name := "checkIndex", desc := "(II)V" } : Jvm.MethodName)) ∈ lw_all := lw_g (lw_at lw_m4 216 rfl) rfl
theorem q1012 : (Jvm.Cond.code ({ cls := "GateGrammar", name := "checkIndex", desc := "(II)V" } : Jvm.MethodName) prog_1_method_6_code (2 : Nat) (Option.none : Option Jvm.ClassFile.FieldType)) ∈ lw_all := lw_g (lw_at lw_m4 217 rfl) rfl
theorem q1013 : (Jvm.Cond.methodLink "GateGrammar" (70 : Nat) ({ cls := "GateGrammar", name := "isBetween", desc := "(III)Z" } : Jvm.MethodName)) ∈ lw_all := lw_g (lw_at lw_m4 218 rfl) rfl
theorem q1014 : (Jvm.Cond.static ({ cls := "GateGrammar", name := "isBetween", desc := "(III)Z" } : Jvm.MethodName)) ∈ lw_all := lw_g (lw_at lw_m4 219 rfl) rfl
theorem q1015 : (Jvm.Cond.code ({ cls := "GateGrammar", name := "isBetween", desc := "(III)Z" } : Jvm.MethodName) prog_1_method_2_code (3 : Nat) (Option.some Jvm.ClassFile.FieldType.boolean)) ∈ lw_all := lw_g (lw_at lw_m4 220 rfl) rfl
theorem q1016 : (Jvm.Cond.classLink "GateGrammar" (74 : Nat) "java/lang/IndexOutOfBoundsException") ∈ lw_all := lw_g (lw_at lw_m4 221 rfl) rfl
theorem q1017 : (Jvm.Cond.methodLink "GateGrammar" (76 : Nat) ({ cls := "java/lang/IndexOutOfBoundsException", name := "<init>", desc := "()V" } : Jvm.MethodName)) ∈ lw_all := lw_g (lw_at lw_m4 222 rfl) rfl
theorem q1021 : (Jvm.Cond.static ({ cls := "GateGrammar", name := "lambda$new$2", desc := "(ZLGateGrammar$State;LGateGrammar$Sentence;LGateGrammar$Clause;LGateGrammar$Report;)V" } : Jvm.MethodName)) ∈ lw_all := lw_g (lw_at lw_m4 226 rfl) rfl
theorem q1022 : (Jvm.Cond.code ({ cls := "GateGrammar", name := "lambda$new$2", desc := "(ZLGateGrammar$State;LGateGrammar$Sentence;LGateGrammar$Clause;LGateGrammar$Report;)V" } : Jvm.MethodName) prog_1_method_68_code (5 : Nat) (Option.none : Option Jvm.ClassFile.FieldType)) ∈ lw_all := lw_g (lw_at lw_m4 227 rfl) rfl
theorem q1023 : (Jvm.Cond.methodLink "GateGrammar" (461 : Nat) ({ cls := "GateGrammar$Sentence", name := "isLaterThanParent", desc := "(LGateGrammar$Clause;)Z" } : Jvm.MethodName)) ∈ lw_all := lw_g (lw_at lw_m4 228 rfl) rfl
theorem q1032 : (Jvm.Cond.methodLink "GateGrammar" (465 : Nat) ({ cls := "GateGrammar$Sentence", name := "differsFromFirst", desc := "(LGateGrammar$Clause;)Z" } : Jvm.MethodName)) ∈ lw_all := lw_g (lw_at lw_m4 237 rfl) rfl
theorem q1037 : (Jvm.Cond.fieldLink "GateGrammar" (9 : Nat) "GateGrammar" "rules" "[LGateGrammar$Rule;") ∈ lw_all := lw_g (lw_at lw_m5 2 rfl) rfl
theorem q1038 : (Jvm.Cond.fieldLink "GateGrammar" (18 : Nat) "GateGrammar" "state" "LGateGrammar$State;") ∈ lw_all := lw_g (lw_at lw_m5 3 rfl) rfl
theorem q1039 : (Jvm.Cond.fieldLink "GateGrammar" (456 : Nat) "GateGrammar" "snapshot" "LGateGrammar$State;") ∈ lw_all := lw_g (lw_at lw_m5 4 rfl) rfl
theorem q1040 : (Jvm.Cond.fieldLink "GateGrammar" (27 : Nat) "GateGrammar" "history" "LGateGrammar$History;") ∈ lw_all := lw_g (lw_at lw_m5 5 rfl) rfl
theorem q1041 : (Jvm.Cond.fieldLink "GateGrammar" (34 : Nat) "GateGrammar" "text" "Ljava/lang/StringBuilder;") ∈ lw_all := lw_g (lw_at lw_m5 6 rfl) rfl
theorem q1043 : (Jvm.Cond.fieldLink "GateGrammar" (40 : Nat) "GateGrammar" "line" "Ljava/lang/String;") ∈ lw_all := lw_g (lw_at lw_m5 8 rfl) rfl
theorem q1044 : (Jvm.Cond.fieldLink "GateGrammar" (44 : Nat) "GateGrammar" "errorPosition" "I") ∈ lw_all := lw_g (lw_at lw_m5 9 rfl) rfl
theorem q1045 : (Jvm.Cond.fieldLink "GateGrammar" (48 : Nat) "GateGrammar" "failedCommand" "I") ∈ lw_all := lw_g (lw_at lw_m5 10 rfl) rfl
theorem q1046 : (Jvm.Cond.laysFinal "GateGrammar" "GateGrammar" "rules" "[LGateGrammar$Rule;") ∈ lw_all := lw_g (lw_at lw_m5 11 rfl) rfl
theorem q1047 : (Jvm.Cond.soleField "GateGrammar" "rules") ∈ lw_all := lw_g (lw_at lw_m5 12 rfl) rfl
theorem q1048 : (Jvm.Cond.lays "GateGrammar" "GateGrammar" "state" "LGateGrammar$State;") ∈ lw_all := lw_g (lw_at lw_m5 13 rfl) rfl
theorem q1049 : (Jvm.Cond.soleField "GateGrammar" "state") ∈ lw_all := lw_g (lw_at lw_m5 14 rfl) rfl
theorem q1050 : (Jvm.Cond.lays "GateGrammar" "GateGrammar" "snapshot" "LGateGrammar$State;") ∈ lw_all := lw_g (lw_at lw_m5 15 rfl) rfl
theorem q1051 : (Jvm.Cond.soleField "GateGrammar" "snapshot") ∈ lw_all := lw_g (lw_at lw_m5 16 rfl) rfl
theorem q1052 : (Jvm.Cond.laysFinal "GateGrammar" "GateGrammar" "history" "LGateGrammar$History;") ∈ lw_all := lw_g (lw_at lw_m5 17 rfl) rfl
theorem q1053 : (Jvm.Cond.soleField "GateGrammar" "history") ∈ lw_all := lw_g (lw_at lw_m5 18 rfl) rfl
theorem q1054 : (Jvm.Cond.laysFinal "GateGrammar" "GateGrammar" "text" "Ljava/lang/StringBuilder;") ∈ lw_all := lw_g (lw_at lw_m5 19 rfl) rfl
theorem q1055 : (Jvm.Cond.soleField "GateGrammar" "text") ∈ lw_all := lw_g (lw_at lw_m5 20 rfl) rfl
theorem q1056 : (Jvm.Cond.lays "GateGrammar" "GateGrammar" "line" "Ljava/lang/String;") ∈ lw_all := lw_g (lw_at lw_m5 21 rfl) rfl
theorem q1057 : (Jvm.Cond.soleField "GateGrammar" "line") ∈ lw_all := lw_g (lw_at lw_m5 22 rfl) rfl
theorem q1058 : (Jvm.Cond.lays "GateGrammar" "GateGrammar" "errorPosition" "I") ∈ lw_all := lw_g (lw_at lw_m5 23 rfl) rfl
theorem q1059 : (Jvm.Cond.soleField "GateGrammar" "errorPosition") ∈ lw_all := lw_g (lw_at lw_m5 24 rfl) rfl
theorem q1060 : (Jvm.Cond.lays "GateGrammar" "GateGrammar" "failedCommand" "I") ∈ lw_all := lw_g (lw_at lw_m5 25 rfl) rfl
theorem q1061 : (Jvm.Cond.soleField "GateGrammar" "failedCommand") ∈ lw_all := lw_g (lw_at lw_m5 26 rfl) rfl
theorem q1062 : (Jvm.Cond.superclass "GateGrammar" "java/lang/Object") ∈ lw_all := lw_g (lw_at lw_m5 27 rfl) rfl
theorem q1064 : (Jvm.Cond.instanceMethod ({ cls := "GateGrammar", name := "nounCount", desc := "()I" } : Jvm.MethodName)) ∈ lw_all := lw_g (lw_at lw_m5 29 rfl) rfl
theorem q1065 : (Jvm.Cond.selects "GateGrammar" ({ cls := "GateGrammar", name := "nounCount", desc := "()I" } : Jvm.MethodName) ({ cls := "GateGrammar", name := "nounCount", desc := "()I" } : Jvm.MethodName)) ∈ lw_all := lw_g (lw_at lw_m5 30 rfl) rfl
theorem q1066 : (Jvm.Cond.code ({ cls := "GateGrammar", name := "nounCount", desc := "()I" } : Jvm.MethodName) prog_1_method_17_code (1 : Nat) (Option.some Jvm.ClassFile.FieldType.int)) ∈ lw_all := lw_g (lw_at lw_m5 31 rfl) rfl
theorem q1068 : (Jvm.Cond.instanceMethod ({ cls := "GateGrammar", name := "verbCount", desc := "()I" } : Jvm.MethodName)) ∈ lw_all := lw_g (lw_at lw_m5 33 rfl) rfl
theorem q1069 : (Jvm.Cond.selects "GateGrammar" ({ cls := "GateGrammar", name := "verbCount", desc := "()I" } : Jvm.MethodName) ({ cls := "GateGrammar", name := "verbCount", desc := "()I" } : Jvm.MethodName)) ∈ lw_all := lw_g (lw_at lw_m5 34 rfl) rfl
theorem q1070 : (Jvm.Cond.code ({ cls := "GateGrammar", name := "verbCount", desc := "()I" } : Jvm.MethodName) prog_1_method_18_code (1 : Nat) (Option.some Jvm.ClassFile.FieldType.int)) ∈ lw_all := lw_g (lw_at lw_m5 35 rfl) rfl
theorem q1072 : (Jvm.Cond.instanceMethod ({ cls := "GateGrammar", name := "shutCount", desc := "()I" } : Jvm.MethodName)) ∈ lw_all := lw_g (lw_at lw_m5 37 rfl) rfl
theorem q1073 : (Jvm.Cond.selects "GateGrammar" ({ cls := "GateGrammar", name := "shutCount", desc := "()I" } : Jvm.MethodName) ({ cls := "GateGrammar", name := "shutCount", desc := "()I" } : Jvm.MethodName)) ∈ lw_all := lw_g (lw_at lw_m5 38 rfl) rfl
theorem q1074 : (Jvm.Cond.code ({ cls := "GateGrammar", name := "shutCount", desc := "()I" } : Jvm.MethodName) prog_1_method_49_code (4 : Nat) (Option.some Jvm.ClassFile.FieldType.int)) ∈ lw_all := lw_g (lw_at lw_m5 39 rfl) rfl
theorem q1075 : (Jvm.Cond.classLink "GateGrammar" (168 : Nat) "GateGrammar$Gate") ∈ lw_all := lw_g (lw_at lw_m5 40 rfl) rfl
theorem q1076 : (Jvm.Cond.methodLink "GateGrammar" (342 : Nat) ({ cls := "GateGrammar", name := "isShut", desc := "(LGateGrammar$Gate;)Z" } : Jvm.MethodName)) ∈ lw_all := lw_g (lw_at lw_m5 41 rfl) rfl
theorem q1077 : (Jvm.Cond.privateMethod ({ cls := "GateGrammar", name := "isShut", desc := "(LGateGrammar$Gate;)Z" } : Jvm.MethodName)) ∈ lw_tbl := lw_at lw_m5 42 rfl
theorem q1078 : (Jvm.Cond.instanceMethod ({ cls := "GateGrammar", name := "isShut", desc := "(LGateGrammar$Gate;)Z" } : Jvm.MethodName)) ∈ lw_all := lw_g (lw_at lw_m5 43 rfl) rfl
theorem q1079 : (Jvm.Cond.code ({ cls := "GateGrammar", name := "isShut", desc := "(LGateGrammar$Gate;)Z" } : Jvm.MethodName) prog_1_method_47_code (3 : Nat) (Option.some Jvm.ClassFile.FieldType.boolean)) ∈ lw_all := lw_g (lw_at lw_m5 44 rfl) rfl
theorem q1080 : (Jvm.Cond.methodLink "GateGrammar" (182 : Nat) ({ cls := "GateGrammar", name := "parse", desc := "(LGateGrammar$Gate;)LGateGrammar$Sentence;" } : Jvm.MethodName)) ∈ lw_all := lw_g (lw_at lw_m5 45 rfl) rfl
theorem q1081 : (Jvm.Cond.static ({ cls := "GateGrammar", name := "parse", desc := "(LGateGrammar$Gate;)LGateGrammar$Sentence;" } : Jvm.MethodName)) ∈ lw_all := lw_g (lw_at lw_m5 46 rfl) rfl
theorem q1082 : (Jvm.Cond.codeWith ({ cls := "GateGrammar", name := "parse", desc := "(LGateGrammar$Gate;)LGateGrammar$Sentence;" } : Jvm.MethodName) prog_1_method_11_code (2 : Nat) (Option.some (Jvm.ClassFile.FieldType.object "GateGrammar$Sentence")) [((0 : Nat), (11 : Nat), (12 : Nat), (176 : Nat))]) ∈ lw_all := lw_g (lw_at lw_m5 47 rfl) rfl
theorem q1083 : (Jvm.Cond.classLink "GateGrammar" (176 : Nat) "GateGrammar$SyntaxStop") ∈ lw_all := lw_g (lw_at lw_m5 48 rfl) rfl
theorem q1084 : (Jvm.Cond.classLink "GateGrammar" (120 : Nat) "GateGrammar$Sentence") ∈ lw_all := lw_g (lw_at lw_m5 49 rfl) rfl
theorem q1086 : (Jvm.Cond.methodLink "GateGrammar" (173 : Nat) ({ cls := "GateGrammar$Sentence", name := "<init>", desc := "(Ljava/util/List;)V" } : Jvm.MethodName)) ∈ lw_all := lw_g (lw_at lw_m5 51 rfl) rfl
theorem q1111 : (Jvm.Cond.fieldLinkNest "GateGrammar" (325 : Nat) "GateGrammar$Clause" "number" "I" "GateGrammar") ∈ lw_tbl := lw_at lw_m5 76 rfl
theorem q1114 : (Jvm.Cond.fieldLinkNest "GateGrammar" (321 : Nat) "GateGrammar$Clause" "parent" "LGateGrammar$Clause;" "GateGrammar") ∈ lw_tbl := lw_at lw_m5 79 rfl
theorem q1118 : (Jvm.Cond.fieldLinkNest "GateGrammar" (250 : Nat) "GateGrammar$Clause" "start" "I" "GateGrammar") ∈ lw_tbl := lw_at lw_m5 83 rfl
theorem q1121 : (Jvm.Cond.fieldLinkNest "GateGrammar" (298 : Nat) "GateGrammar$Clause" "subjects" "Ljava/util/ArrayList;" "GateGrammar") ∈ lw_tbl := lw_at lw_m5 86 rfl
theorem q1125 : (Jvm.Cond.fieldLinkNest "GateGrammar" (315 : Nat) "GateGrammar$Clause" "nested" "Ljava/util/ArrayList;" "GateGrammar") ∈ lw_tbl := lw_at lw_m5 90 rfl
theorem q1128 : (Jvm.Cond.fieldLinkNest "GateGrammar" (301 : Nat) "GateGrammar$Clause" "verb" "I" "GateGrammar") ∈ lw_tbl := lw_at lw_m5 93 rfl
theorem q1131 : (Jvm.Cond.fieldLinkNest "GateGrammar" (312 : Nat) "GateGrammar$Clause" "object" "I" "GateGrammar") ∈ lw_tbl := lw_at lw_m5 96 rfl
theorem q1227 : (Jvm.Cond.fieldLinkNest "GateGrammar" (263 : Nat) "GateGrammar$SyntaxStop" "index" "I" "GateGrammar") ∈ lw_tbl := lw_at lw_m5 192 rfl
theorem q1255 : (Jvm.Cond.fieldLinkNest "GateGrammar" (240 : Nat) "GateGrammar$Sentence" "topLevel" "Ljava/util/ArrayList;" "GateGrammar") ∈ lw_tbl := lw_at lw_m5 220 rfl
theorem q1258 : (Jvm.Cond.fieldLinkNest "GateGrammar" (284 : Nat) "GateGrammar$Sentence" "clauses" "I" "GateGrammar") ∈ lw_tbl := lw_at lw_m5 223 rfl
theorem q1268 : (Jvm.Cond.methodLink "GateGrammar" (328 : Nat) ({ cls := "GateGrammar", name := "report", desc := "(LGateGrammar$Sentence;)LGateGrammar$Report;" } : Jvm.MethodName)) ∈ lw_all := lw_g (lw_at lw_m5 233 rfl) rfl
theorem q1269 : (Jvm.Cond.privateMethod ({ cls := "GateGrammar", name := "report", desc := "(LGateGrammar$Sentence;)LGateGrammar$Report;" } : Jvm.MethodName)) ∈ lw_tbl := lw_at lw_m5 234 rfl
theorem q1270 : (Jvm.Cond.instanceMethod ({ cls := "GateGrammar", name := "report", desc := "(LGateGrammar$Sentence;)LGateGrammar$Report;" } : Jvm.MethodName)) ∈ lw_all := lw_g (lw_at lw_m5 235 rfl) rfl
theorem q1271 : (Jvm.Cond.code ({ cls := "GateGrammar", name := "report", desc := "(LGateGrammar$Sentence;)LGateGrammar$Report;" } : Jvm.MethodName) prog_1_method_9_code (9 : Nat) (Option.some (Jvm.ClassFile.FieldType.object "GateGrammar$Report"))) ∈ lw_all := lw_g (lw_at lw_m5 236 rfl) rfl
theorem q1272 : (Jvm.Cond.classLink "GateGrammar" (116 : Nat) "GateGrammar$Report") ∈ lw_all := lw_g (lw_at lw_m5 237 rfl) rfl
theorem q1274 : (Jvm.Cond.methodLinkNest "GateGrammar" (118 : Nat) ({ cls := "GateGrammar$Report", name := "<init>", desc := "()V" } : Jvm.MethodName) "GateGrammar") ∈ lw_tbl := lw_at lw_m5 239 rfl
theorem q1280 : (Jvm.Cond.fieldLinkNest "GateGrammar" (332 : Nat) "GateGrammar$Report" "count" "I" "GateGrammar") ∈ lw_tbl := lw_at lw_m6 5 rfl
theorem q1282 : (Jvm.Cond.fieldLinkNest "GateGrammar" (339 : Nat) "GateGrammar$Report" "first" "I" "GateGrammar") ∈ lw_tbl := lw_at lw_m6 7 rfl
theorem q1288 : (Jvm.Cond.methodLink "GateGrammar" (119 : Nat) ({ cls := "GateGrammar$Sentence", name := "iterator", desc := "()Ljava/util/Iterator;" } : Jvm.MethodName)) ∈ lw_all := lw_g (lw_at lw_m6 13 rfl) rfl
theorem q1310 : (Jvm.Cond.classLink "GateGrammar" (122 : Nat) "GateGrammar$Clause") ∈ lw_all := lw_g (lw_at lw_m6 35 rfl) rfl
theorem q1311 : (Jvm.Cond.interfaceEntry "GateGrammar" (124 : Nat)) ∈ lw_tbl := lw_at lw_m6 36 rfl
theorem q1312 : (Jvm.Cond.methodLink "GateGrammar" (124 : Nat) ({ cls := "GateGrammar$Rule", name := "check", desc := "(LGateGrammar$State;LGateGrammar$Sentence;LGateGrammar$Clause;LGateGrammar$Report;)V" } : Jvm.MethodName)) ∈ lw_all := lw_g (lw_at lw_m6 37 rfl) rfl
theorem q1316 : (Jvm.Cond.instanceMethod ({ cls := "GateGrammar", name := "meanTokens", desc := "()D" } : Jvm.MethodName)) ∈ lw_all := lw_g (lw_at lw_m6 41 rfl) rfl
theorem q1317 : (Jvm.Cond.selects "GateGrammar" ({ cls := "GateGrammar", name := "meanTokens", desc := "()D" } : Jvm.MethodName) ({ cls := "GateGrammar", name := "meanTokens", desc := "()D" } : Jvm.MethodName)) ∈ lw_all := lw_g (lw_at lw_m6 42 rfl) rfl
theorem q1318 : (Jvm.Cond.code ({ cls := "GateGrammar", name := "meanTokens", desc := "()D" } : Jvm.MethodName) prog_1_method_62_code (1 : Nat) (Option.some Jvm.ClassFile.FieldType.double)) ∈ lw_all := lw_g (lw_at lw_m6 43 rfl) rfl
theorem q1319 : (Jvm.Cond.methodLink "GateGrammar" (433 : Nat) ({ cls := "GateGrammar$State", name := "tokens", desc := "()I" } : Jvm.MethodName)) ∈ lw_all := lw_g (lw_at lw_m6 44 rfl) rfl
theorem q1329 : (Jvm.Cond.constantDouble "GateGrammar" (435 : Nat) (4616189618054758400 : UInt64)) ∈ lw_all := lw_g (lw_at lw_m6 54 rfl) rfl
theorem q1331 : (Jvm.Cond.instanceMethod ({ cls := "GateGrammar", name := "isConsistent", desc := "()Z" } : Jvm.MethodName)) ∈ lw_all := lw_g (lw_at lw_m6 56 rfl) rfl
theorem q1332 : (Jvm.Cond.selects "GateGrammar" ({ cls := "GateGrammar", name := "isConsistent", desc := "()Z" } : Jvm.MethodName) ({ cls := "GateGrammar", name := "isConsistent", desc := "()Z" } : Jvm.MethodName)) ∈ lw_all := lw_g (lw_at lw_m6 57 rfl) rfl
theorem q1333 : (Jvm.Cond.code ({ cls := "GateGrammar", name := "isConsistent", desc := "()Z" } : Jvm.MethodName) prog_1_method_64_code (4 : Nat) (Option.some Jvm.ClassFile.FieldType.boolean)) ∈ lw_all := lw_g (lw_at lw_m6 58 rfl) rfl
theorem q1334 : (Jvm.Cond.methodLink "GateGrammar" (440 : Nat) ({ cls := "GateGrammar", name := "syntaxError", desc := "(I)I" } : Jvm.MethodName)) ∈ lw_all := lw_g (lw_at lw_m6 59 rfl) rfl
theorem q1335 : (Jvm.Cond.instanceMethod ({ cls := "GateGrammar", name := "syntaxError", desc := "(I)I" } : Jvm.MethodName)) ∈ lw_all := lw_g (lw_at lw_m6 60 rfl) rfl
theorem q1336 : (Jvm.Cond.selects "GateGrammar" ({ cls := "GateGrammar", name := "syntaxError", desc := "(I)I" } : Jvm.MethodName) ({ cls := "GateGrammar", name := "syntaxError", desc := "(I)I" } : Jvm.MethodName)) ∈ lw_all := lw_g (lw_at lw_m6 61 rfl) rfl
theorem q1337 : (Jvm.Cond.codeWith ({ cls := "GateGrammar", name := "syntaxError", desc := "(I)I" } : Jvm.MethodName) prog_1_method_33_code (3 : Nat) (Option.some Jvm.ClassFile.FieldType.int) [((0 : Nat), (20 : Nat), (21 : Nat), (176 : Nat))]) ∈ lw_all := lw_g (lw_at lw_m6 62 rfl) rfl
theorem q1338 : (Jvm.Cond.methodLink "GateGrammar" (178 : Nat) ({ cls := "GateGrammar$State", name := "gate", desc := "(I)LGateGrammar$Gate;" } : Jvm.MethodName)) ∈ lw_all := lw_g (lw_at lw_m6 63 rfl) rfl
theorem q1344 : (Jvm.Cond.methodLink "GateGrammar" (442 : Nat) ({ cls := "GateGrammar", name := "syntaxErrorByLoop", desc := "(I)I" } : Jvm.MethodName)) ∈ lw_all := lw_g (lw_at lw_m6 69 rfl) rfl
theorem q1345 : (Jvm.Cond.instanceMethod ({ cls := "GateGrammar", name := "syntaxErrorByLoop", desc := "(I)I" } : Jvm.MethodName)) ∈ lw_all := lw_g (lw_at lw_m6 70 rfl) rfl
theorem q1346 : (Jvm.Cond.selects "GateGrammar" ({ cls := "GateGrammar", name := "syntaxErrorByLoop", desc := "(I)I" } : Jvm.MethodName) ({ cls := "GateGrammar", name := "syntaxErrorByLoop", desc := "(I)I" } : Jvm.MethodName)) ∈ lw_all := lw_g (lw_at lw_m6 71 rfl) rfl
theorem q1347 : (Jvm.Cond.code ({ cls := "GateGrammar", name := "syntaxErrorByLoop", desc := "(I)I" } : Jvm.MethodName) prog_1_method_34_code (2 : Nat) (Option.some Jvm.ClassFile.FieldType.int)) ∈ lw_all := lw_g (lw_at lw_m6 72 rfl) rfl
theorem q1348 : (Jvm.Cond.methodLink "GateGrammar" (266 : Nat) ({ cls := "GateGrammar", name := "scan", desc := "(Ljava/util/List;)LGateGrammar$Scanner;" } : Jvm.MethodName)) ∈ lw_all := lw_g (lw_at lw_m6 73 rfl) rfl
theorem q1349 : (Jvm.Cond.static ({ cls := "GateGrammar", name := "scan", desc := "(Ljava/util/List;)LGateGrammar$Scanner;" } : Jvm.MethodName)) ∈ lw_all := lw_g (lw_at lw_m6 74 rfl) rfl
theorem q1350 : (Jvm.Cond.code ({ cls := "GateGrammar", name := "scan", desc := "(Ljava/util/List;)LGateGrammar$Scanner;" } : Jvm.MethodName) prog_1_method_8_code (5 : Nat) (Option.some (Jvm.ClassFile.FieldType.object "GateGrammar$Scanner"))) ∈ lw_all := lw_g (lw_at lw_m6 75 rfl) rfl
theorem q1351 : (Jvm.Cond.classLink "GateGrammar" (93 : Nat) "GateGrammar$Scanner") ∈ lw_all := lw_g (lw_at lw_m6 76 rfl) rfl
theorem q1353 : (Jvm.Cond.methodLinkNest "GateGrammar" (95 : Nat) ({ cls := "GateGrammar$Scanner", name := "<init>", desc := "()V" } : Jvm.MethodName) "GateGrammar") ∈ lw_tbl := lw_at lw_m6 78 rfl
theorem q1358 : (Jvm.Cond.fieldLinkNest "GateGrammar" (137 : Nat) "GateGrammar$Scanner" "state" "I" "GateGrammar") ∈ lw_tbl := lw_at lw_m6 83 rfl
theorem q1361 : (Jvm.Cond.fieldLinkNest "GateGrammar" (273 : Nat) "GateGrammar$Scanner" "error" "I" "GateGrammar") ∈ lw_tbl := lw_at lw_m6 86 rfl
theorem q1363 : (Jvm.Cond.fieldLinkNest "GateGrammar" (283 : Nat) "GateGrammar$Scanner" "index" "I" "GateGrammar") ∈ lw_tbl := lw_at lw_m6 88 rfl
theorem q1373 : (Jvm.Cond.interfaceEntry "GateGrammar" (96 : Nat)) ∈ lw_tbl := lw_at lw_m6 98 rfl
theorem q1374 : (Jvm.Cond.methodLink "GateGrammar" (96 : Nat) ({ cls := "java/util/List", name := "iterator", desc := "()Ljava/util/Iterator;" } : Jvm.MethodName)) ∈ lw_all := lw_g (lw_at lw_m6 99 rfl) rfl
theorem q1458 : (Jvm.Cond.classLink "GateGrammar" (110 : Nat) "GateGrammar$Token") ∈ lw_all := lw_g (lw_at lw_m6 183 rfl) rfl
theorem q1459 : (Jvm.Cond.methodLink "GateGrammar" (112 : Nat) ({ cls := "GateGrammar$Scanner", name := "accepts", desc := "(LGateGrammar$Token;)Z" } : Jvm.MethodName)) ∈ lw_all := lw_g (lw_at lw_m6 184 rfl) rfl
theorem q1471 : (Jvm.Cond.methodLink "GateGrammar" (270 : Nat) ({ cls := "GateGrammar$Scanner", name := "syntaxError", desc := "()I" } : Jvm.MethodName)) ∈ lw_all := lw_g (lw_at lw_m6 196 rfl) rfl
theorem q1479 : (Jvm.Cond.methodLink "GateGrammar" (445 : Nat) ({ cls := "GateGrammar", name := "disagreementCount", desc := "(I)I" } : Jvm.MethodName)) ∈ lw_all := lw_g (lw_at lw_m6 204 rfl) rfl
theorem q1480 : (Jvm.Cond.instanceMethod ({ cls := "GateGrammar", name := "disagreementCount", desc := "(I)I" } : Jvm.MethodName)) ∈ lw_all := lw_g (lw_at lw_m6 205 rfl) rfl
theorem q1481 : (Jvm.Cond.selects "GateGrammar" ({ cls := "GateGrammar", name := "disagreementCount", desc := "(I)I" } : Jvm.MethodName) ({ cls := "GateGrammar", name := "disagreementCount", desc := "(I)I" } : Jvm.MethodName)) ∈ lw_all := lw_g (lw_at lw_m6 206 rfl) rfl
theorem q1482 : (Jvm.Cond.code ({ cls := "GateGrammar", name := "disagreementCount", desc := "(I)I" } : Jvm.MethodName) prog_1_method_44_code (2 : Nat) (Option.some Jvm.ClassFile.FieldType.int)) ∈ lw_all := lw_g (lw_at lw_m6 207 rfl) rfl
theorem q1483 : (Jvm.Cond.methodLink "GateGrammar" (287 : Nat) ({ cls := "GateGrammar", name := "sentence", desc := "(I)LGateGrammar$Sentence;" } : Jvm.MethodName)) ∈ lw_all := lw_g (lw_at lw_m6 208 rfl) rfl
theorem q1484 : (Jvm.Cond.privateMethod ({ cls := "GateGrammar", name := "sentence", desc := "(I)LGateGrammar$Sentence;" } : Jvm.MethodName)) ∈ lw_tbl := lw_at lw_m6 209 rfl
theorem q1485 : (Jvm.Cond.instanceMethod ({ cls := "GateGrammar", name := "sentence", desc := "(I)LGateGrammar$Sentence;" } : Jvm.MethodName)) ∈ lw_all := lw_g (lw_at lw_m6 210 rfl) rfl
theorem q1486 : (Jvm.Cond.code ({ cls := "GateGrammar", name := "sentence", desc := "(I)LGateGrammar$Sentence;" } : Jvm.MethodName) prog_1_method_12_code (3 : Nat) (Option.some (Jvm.ClassFile.FieldType.object "GateGrammar$Sentence"))) ∈ lw_all := lw_g (lw_at lw_m6 211 rfl) rfl
theorem q1487 : (Jvm.Cond.methodLink "GateGrammar" (186 : Nat) ({ cls := "GateGrammar", name := "checkElement", desc := "(Z)V" } : Jvm.MethodName)) ∈ lw_all := lw_g (lw_at lw_m6 212 rfl) rfl
theorem q1488 : (Jvm.Cond.static ({ cls := "GateGrammar", name := "checkElement", desc := "(Z)V" } : Jvm.MethodName)) ∈ lw_all := lw_g (lw_at lw_m6 213 rfl) rfl
theorem q1489 : (Jvm.Cond.code ({ cls := "GateGrammar", name := "checkElement", desc := "(Z)V" } : Jvm.MethodName) prog_1_method_5_code (1 : Nat) (Option.none : Option Jvm.ClassFile.FieldType)) ∈ lw_all := lw_g (lw_at lw_m6 214 rfl) rfl
theorem q1490 : (Jvm.Cond.classLink "GateGrammar" (67 : Nat) "java/util/NoSuchElementException") ∈ lw_all := lw_g (lw_at lw_m6 215 rfl) rfl
theorem q1491 : (Jvm.Cond.methodLink "GateGrammar" (69 : Nat) ({ cls := "java/util/NoSuchElementException", name := "<init>", desc := "()V" } : Jvm.MethodName)) ∈ lw_all := lw_g (lw_at lw_m6 216 rfl) rfl
theorem q1492 : (Jvm.Cond.methodLink "GateGrammar" (448 : Nat) ({ cls := "GateGrammar", name := "disagreementCountByLoop", desc := "(I)I" } : Jvm.MethodName)) ∈ lw_all := lw_g (lw_at lw_m6 217 rfl) rfl
theorem q1493 : (Jvm.Cond.instanceMethod ({ cls := "GateGrammar", name := "disagreementCountByLoop", desc := "(I)I" } : Jvm.MethodName)) ∈ lw_all := lw_g (lw_at lw_m6 218 rfl) rfl
theorem q1494 : (Jvm.Cond.selects "GateGrammar" ({ cls := "GateGrammar", name := "disagreementCountByLoop", desc := "(I)I" } : Jvm.MethodName) ({ cls := "GateGrammar", name := "disagreementCountByLoop", desc := "(I)I" } : Jvm.MethodName)) ∈ lw_all := lw_g (lw_at lw_m6 219 rfl) rfl
theorem q1495 : (Jvm.Cond.code ({ cls := "GateGrammar", name := "disagreementCountByLoop", desc := "(I)I" } : Jvm.MethodName) prog_1_method_45_code (3 : Nat) (Option.some Jvm.ClassFile.FieldType.int)) ∈ lw_all := lw_g (lw_at lw_m6 220 rfl) rfl
theorem q1496 : (Jvm.Cond.methodLink "GateGrammar" (280 : Nat) ({ cls := "GateGrammar$Scanner", name := "isSentence", desc := "()Z" } : Jvm.MethodName)) ∈ lw_all := lw_g (lw_at lw_m6 221 rfl) rfl
theorem q1497 : (Jvm.Cond.methodLink "GateGrammar" (335 : Nat) ({ cls := "GateGrammar", name := "disagreementsByLoop", desc := "(Ljava/util/List;)I" } : Jvm.MethodName)) ∈ lw_all := lw_g (lw_at lw_m6 222 rfl) rfl
theorem q1498 : (Jvm.Cond.privateMethod ({ cls := "GateGrammar", name := "disagreementsByLoop", desc := "(Ljava/util/List;)I" } : Jvm.MethodName)) ∈ lw_tbl := lw_at lw_m6 223 rfl
theorem q1499 : (Jvm.Cond.instanceMethod ({ cls := "GateGrammar", name := "disagreementsByLoop", desc := "(Ljava/util/List;)I" } : Jvm.MethodName)) ∈ lw_all := lw_g (lw_at lw_m6 224 rfl) rfl
theorem q1500 : (Jvm.Cond.code ({ cls := "GateGrammar", name := "disagreementsByLoop", desc := "(Ljava/util/List;)I" } : Jvm.MethodName) prog_1_method_10_code (12 : Nat) (Option.some Jvm.ClassFile.FieldType.int)) ∈ lw_all := lw_g (lw_at lw_m6 225 rfl) rfl
theorem q1501 : (Jvm.Cond.classLink "GateGrammar" (127 : Nat) "java/util/ArrayDeque") ∈ lw_all := lw_g (lw_at lw_m6 226 rfl) rfl
theorem q1502 : (Jvm.Cond.methodLink "GateGrammar" (129 : Nat) ({ cls := "java/util/ArrayDeque", name := "<init>", desc := "()V" } : Jvm.MethodName)) ∈ lw_all := lw_g (lw_at lw_m6 227 rfl) rfl
theorem q1503 : (Jvm.Cond.classLink "GateGrammar" (130 : Nat) "GateGrammar$Level") ∈ lw_all := lw_g (lw_at lw_m6 228 rfl) rfl
theorem q1505 : (Jvm.Cond.methodLink "GateGrammar" (132 : Nat) ({ cls := "GateGrammar$Level", name := "<init>", desc := "(I)V" } : Jvm.MethodName)) ∈ lw_all := lw_g (lw_at lw_m6 230 rfl) rfl
theorem q1516 : (Jvm.Cond.methodLink "GateGrammar" (133 : Nat) ({ cls := "java/util/ArrayDeque", name := "addLast", desc := "(Ljava/lang/Object;)V" } : Jvm.MethodName)) ∈ lw_all := lw_g (lw_at lw_m7 1 rfl) rfl
theorem q1520 : (Jvm.Cond.methodLink "GateGrammar" (158 : Nat) ({ cls := "java/util/ArrayDeque", name := "getLast", desc := "()Ljava/lang/Object;" } : Jvm.MethodName)) ∈ lw_all := lw_g (lw_at lw_m7 5 rfl) rfl
theorem q1524 : (Jvm.Cond.methodLink "GateGrammar" (161 : Nat) ({ cls := "GateGrammar$Level", name := "disagreements", desc := "(I)I" } : Jvm.MethodName)) ∈ lw_all := lw_g (lw_at lw_m7 9 rfl) rfl
theorem q1528 : (Jvm.Cond.methodLink "GateGrammar" (164 : Nat) ({ cls := "java/util/ArrayDeque", name := "removeLast", desc := "()Ljava/lang/Object;" } : Jvm.MethodName)) ∈ lw_all := lw_g (lw_at lw_m7 13 rfl) rfl
theorem q1537 : (Jvm.Cond.instanceMethod ({ cls := "GateGrammar", name := "save", desc := "()I" } : Jvm.MethodName)) ∈ lw_all := lw_g (lw_at lw_m7 22 rfl) rfl
theorem q1538 : (Jvm.Cond.selects "GateGrammar" ({ cls := "GateGrammar", name := "save", desc := "()I" } : Jvm.MethodName) ({ cls := "GateGrammar", name := "save", desc := "()I" } : Jvm.MethodName)) ∈ lw_all := lw_g (lw_at lw_m7 23 rfl) rfl
theorem q1539 : (Jvm.Cond.code ({ cls := "GateGrammar", name := "save", desc := "()I" } : Jvm.MethodName) prog_1_method_66_code (1 : Nat) (Option.some Jvm.ClassFile.FieldType.int)) ∈ lw_all := lw_g (lw_at lw_m7 24 rfl) rfl
theorem q1540 : (Jvm.Cond.methodLink "GateGrammar" (194 : Nat) ({ cls := "GateGrammar$State", name := "copy", desc := "()LGateGrammar$State;" } : Jvm.MethodName)) ∈ lw_all := lw_g (lw_at lw_m7 25 rfl) rfl
theorem q1570 : (Jvm.Cond.instanceMethod ({ cls := "GateGrammar", name := "addNoun", desc := "(I)I" } : Jvm.MethodName)) ∈ lw_all := lw_g (lw_at lw_m7 55 rfl) rfl
theorem q1571 : (Jvm.Cond.selects "GateGrammar" ({ cls := "GateGrammar", name := "addNoun", desc := "(I)I" } : Jvm.MethodName) ({ cls := "GateGrammar", name := "addNoun", desc := "(I)I" } : Jvm.MethodName)) ∈ lw_all := lw_g (lw_at lw_m7 56 rfl) rfl
theorem q1572 : (Jvm.Cond.code ({ cls := "GateGrammar", name := "addNoun", desc := "(I)I" } : Jvm.MethodName) prog_1_method_14_code (3 : Nat) (Option.some Jvm.ClassFile.FieldType.int)) ∈ lw_all := lw_g (lw_at lw_m7 57 rfl) rfl
theorem q1573 : (Jvm.Cond.methodLink "GateGrammar" (198 : Nat) ({ cls := "GateGrammar$Lexicon", name := "addNoun", desc := "(I)I" } : Jvm.MethodName)) ∈ lw_all := lw_g (lw_at lw_m7 58 rfl) rfl
theorem q1579 : (Jvm.Cond.static ({ cls := "GateGrammar", name := "checkArgument", desc := "(Z)V" } : Jvm.MethodName)) ∈ lw_all := lw_g (lw_at lw_m7 64 rfl) rfl
theorem q1580 : (Jvm.Cond.code ({ cls := "GateGrammar", name := "checkArgument", desc := "(Z)V" } : Jvm.MethodName) prog_1_method_3_code (1 : Nat) (Option.none : Option Jvm.ClassFile.FieldType)) ∈ lw_all := lw_g (lw_at lw_m7 65 rfl) rfl
theorem q1581 : (Jvm.Cond.classLink "GateGrammar" (61 : Nat) "java/lang/IllegalArgumentException") ∈ lw_all := lw_g (lw_at lw_m7 66 rfl) rfl
theorem q1582 : (Jvm.Cond.methodLink "GateGrammar" (63 : Nat) ({ cls := "java/lang/IllegalArgumentException", name := "<init>", desc := "()V" } : Jvm.MethodName)) ∈ lw_all := lw_g (lw_at lw_m7 67 rfl) rfl
theorem q1587 : (Jvm.Cond.static ({ cls := "GateGrammar", name := "checkState", desc := "(Z)V" } : Jvm.MethodName)) ∈ lw_all := lw_g (lw_at lw_m7 72 rfl) rfl
theorem q1588 : (Jvm.Cond.code ({ cls := "GateGrammar", name := "checkState", desc := "(Z)V" } : Jvm.MethodName) prog_1_method_4_code (1 : Nat) (Option.none : Option Jvm.ClassFile.FieldType)) ∈ lw_all := lw_g (lw_at lw_m7 73 rfl) rfl
theorem q1589 : (Jvm.Cond.classLink "GateGrammar" (64 : Nat) "java/lang/IllegalStateException") ∈ lw_all := lw_g (lw_at lw_m7 74 rfl) rfl
theorem q1590 : (Jvm.Cond.methodLink "GateGrammar" (66 : Nat) ({ cls := "java/lang/IllegalStateException", name := "<init>", desc := "()V" } : Jvm.MethodName)) ∈ lw_all := lw_g (lw_at lw_m7 75 rfl) rfl
theorem q1594 : (Jvm.Cond.methodLink "GateGrammar" (201 : Nat) ({ cls := "GateGrammar", name := "changed", desc := "(LGateGrammar$State;I)I" } : Jvm.MethodName)) ∈ lw_all := lw_g (lw_at lw_m7 79 rfl) rfl
theorem q1595 : (Jvm.Cond.privateMethod ({ cls := "GateGrammar", name := "changed", desc := "(LGateGrammar$State;I)I" } : Jvm.MethodName)) ∈ lw_tbl := lw_at lw_m7 80 rfl
theorem q1596 : (Jvm.Cond.instanceMethod ({ cls := "GateGrammar", name := "changed", desc := "(LGateGrammar$State;I)I" } : Jvm.MethodName)) ∈ lw_all := lw_g (lw_at lw_m7 81 rfl) rfl
theorem q1597 : (Jvm.Cond.code ({ cls := "GateGrammar", name := "changed", desc := "(LGateGrammar$State;I)I" } : Jvm.MethodName) prog_1_method_13_code (3 : Nat) (Option.some Jvm.ClassFile.FieldType.int)) ∈ lw_all := lw_g (lw_at lw_m7 82 rfl) rfl
theorem q1598 : (Jvm.Cond.methodLink "GateGrammar" (190 : Nat) ({ cls := "GateGrammar$History", name := "push", desc := "(LGateGrammar$Copyable;)V" } : Jvm.MethodName)) ∈ lw_all := lw_g (lw_at lw_m7 83 rfl) rfl
theorem q1616 : (Jvm.Cond.instanceMethod ({ cls := "GateGrammar", name := "addVerb", desc := "(I)I" } : Jvm.MethodName)) ∈ lw_all := lw_g (lw_at lw_m7 101 rfl) rfl
theorem q1617 : (Jvm.Cond.selects "GateGrammar" ({ cls := "GateGrammar", name := "addVerb", desc := "(I)I" } : Jvm.MethodName) ({ cls := "GateGrammar", name := "addVerb", desc := "(I)I" } : Jvm.MethodName)) ∈ lw_all := lw_g (lw_at lw_m7 102 rfl) rfl
theorem q1618 : (Jvm.Cond.code ({ cls := "GateGrammar", name := "addVerb", desc := "(I)I" } : Jvm.MethodName) prog_1_method_15_code (3 : Nat) (Option.some Jvm.ClassFile.FieldType.int)) ∈ lw_all := lw_g (lw_at lw_m7 103 rfl) rfl
theorem q1619 : (Jvm.Cond.methodLink "GateGrammar" (205 : Nat) ({ cls := "GateGrammar$Lexicon", name := "addVerb", desc := "(I)I" } : Jvm.MethodName)) ∈ lw_all := lw_g (lw_at lw_m7 104 rfl) rfl
theorem q1643 : (Jvm.Cond.instanceMethod ({ cls := "GateGrammar", name := "setObjectCase", desc := "(II)I" } : Jvm.MethodName)) ∈ lw_all := lw_g (lw_at lw_m7 128 rfl) rfl
theorem q1644 : (Jvm.Cond.selects "GateGrammar" ({ cls := "GateGrammar", name := "setObjectCase", desc := "(II)I" } : Jvm.MethodName) ({ cls := "GateGrammar", name := "setObjectCase", desc := "(II)I" } : Jvm.MethodName)) ∈ lw_all := lw_g (lw_at lw_m7 129 rfl) rfl
theorem q1645 : (Jvm.Cond.code ({ cls := "GateGrammar", name := "setObjectCase", desc := "(II)I" } : Jvm.MethodName) prog_1_method_16_code (4 : Nat) (Option.some Jvm.ClassFile.FieldType.int)) ∈ lw_all := lw_g (lw_at lw_m7 130 rfl) rfl
theorem q1646 : (Jvm.Cond.methodLink "GateGrammar" (208 : Nat) ({ cls := "GateGrammar$Lexicon", name := "setObjectCase", desc := "(II)I" } : Jvm.MethodName)) ∈ lw_all := lw_g (lw_at lw_m7 131 rfl) rfl
theorem q1654 : (Jvm.Cond.instanceMethod ({ cls := "GateGrammar", name := "gender", desc := "(I)I" } : Jvm.MethodName)) ∈ lw_all := lw_g (lw_at lw_m7 139 rfl) rfl
theorem q1655 : (Jvm.Cond.selects "GateGrammar" ({ cls := "GateGrammar", name := "gender", desc := "(I)I" } : Jvm.MethodName) ({ cls := "GateGrammar", name := "gender", desc := "(I)I" } : Jvm.MethodName)) ∈ lw_all := lw_g (lw_at lw_m7 140 rfl) rfl
theorem q1656 : (Jvm.Cond.code ({ cls := "GateGrammar", name := "gender", desc := "(I)I" } : Jvm.MethodName) prog_1_method_19_code (2 : Nat) (Option.some Jvm.ClassFile.FieldType.int)) ∈ lw_all := lw_g (lw_at lw_m7 141 rfl) rfl
theorem q1657 : (Jvm.Cond.methodLink "GateGrammar" (218 : Nat) ({ cls := "GateGrammar$Lexicon", name := "gender", desc := "(I)I" } : Jvm.MethodName)) ∈ lw_all := lw_g (lw_at lw_m7 142 rfl) rfl
theorem q1665 : (Jvm.Cond.instanceMethod ({ cls := "GateGrammar", name := "objectCase", desc := "(I)I" } : Jvm.MethodName)) ∈ lw_all := lw_g (lw_at lw_m7 150 rfl) rfl
theorem q1666 : (Jvm.Cond.selects "GateGrammar" ({ cls := "GateGrammar", name := "objectCase", desc := "(I)I" } : Jvm.MethodName) ({ cls := "GateGrammar", name := "objectCase", desc := "(I)I" } : Jvm.MethodName)) ∈ lw_all := lw_g (lw_at lw_m7 151 rfl) rfl
theorem q1667 : (Jvm.Cond.code ({ cls := "GateGrammar", name := "objectCase", desc := "(I)I" } : Jvm.MethodName) prog_1_method_20_code (2 : Nat) (Option.some Jvm.ClassFile.FieldType.int)) ∈ lw_all := lw_g (lw_at lw_m7 152 rfl) rfl
theorem q1672 : (Jvm.Cond.instanceMethod ({ cls := "GateGrammar", name := "ending", desc := "(II)C" } : Jvm.MethodName)) ∈ lw_all := lw_g (lw_at lw_m7 157 rfl) rfl
theorem q1673 : (Jvm.Cond.selects "GateGrammar" ({ cls := "GateGrammar", name := "ending", desc := "(II)C" } : Jvm.MethodName) ({ cls := "GateGrammar", name := "ending", desc := "(II)C" } : Jvm.MethodName)) ∈ lw_all := lw_g (lw_at lw_m7 158 rfl) rfl
theorem q1674 : (Jvm.Cond.code ({ cls := "GateGrammar", name := "ending", desc := "(II)C" } : Jvm.MethodName) prog_1_method_21_code (3 : Nat) (Option.some Jvm.ClassFile.FieldType.char)) ∈ lw_all := lw_g (lw_at lw_m7 159 rfl) rfl
theorem q1675 : (Jvm.Cond.methodLink "GateGrammar" (221 : Nat) ({ cls := "GateGrammar$Lexicon", name := "ending", desc := "(II)C" } : Jvm.MethodName)) ∈ lw_all := lw_g (lw_at lw_m7 160 rfl) rfl
theorem q1707 : (Jvm.Cond.instanceMethod ({ cls := "GateGrammar", name := "appendNoun", desc := "(III)I" } : Jvm.MethodName)) ∈ lw_all := lw_g (lw_at lw_m7 192 rfl) rfl
theorem q1708 : (Jvm.Cond.selects "GateGrammar" ({ cls := "GateGrammar", name := "appendNoun", desc := "(III)I" } : Jvm.MethodName) ({ cls := "GateGrammar", name := "appendNoun", desc := "(III)I" } : Jvm.MethodName)) ∈ lw_all := lw_g (lw_at lw_m7 193 rfl) rfl
theorem q1709 : (Jvm.Cond.code ({ cls := "GateGrammar", name := "appendNoun", desc := "(III)I" } : Jvm.MethodName) prog_1_method_22_code (5 : Nat) (Option.some Jvm.ClassFile.FieldType.int)) ∈ lw_all := lw_g (lw_at lw_m7 194 rfl) rfl
theorem q1710 : (Jvm.Cond.methodLink "GateGrammar" (225 : Nat) ({ cls := "GateGrammar$State", name := "appendNoun", desc := "(III)I" } : Jvm.MethodName)) ∈ lw_all := lw_g (lw_at lw_m7 195 rfl) rfl
theorem q1727 : (Jvm.Cond.fieldLinkNest "GateGrammar" (139 : Nat) "GateGrammar$Token" "kind" "I" "GateGrammar") ∈ lw_tbl := lw_at lw_m7 212 rfl
theorem q1729 : (Jvm.Cond.fieldLinkNest "GateGrammar" (146 : Nat) "GateGrammar$Token" "word" "I" "GateGrammar") ∈ lw_tbl := lw_at lw_m7 214 rfl
theorem q1732 : (Jvm.Cond.fieldLinkNest "GateGrammar" (155 : Nat) "GateGrammar$Token" "detail" "I" "GateGrammar") ∈ lw_tbl := lw_at lw_m7 217 rfl
theorem q1754 : (Jvm.Cond.instanceMethod ({ cls := "GateGrammar", name := "appendVerb", desc := "(III)I" } : Jvm.MethodName)) ∈ lw_all := lw_g (lw_at lw_m7 239 rfl) rfl
theorem q1755 : (Jvm.Cond.selects "GateGrammar" ({ cls := "GateGrammar", name := "appendVerb", desc := "(III)I" } : Jvm.MethodName) ({ cls := "GateGrammar", name := "appendVerb", desc := "(III)I" } : Jvm.MethodName)) ∈ lw_all := lw_g (lw_at lw_m8 0 rfl) rfl
theorem q1756 : (Jvm.Cond.code ({ cls := "GateGrammar", name := "appendVerb", desc := "(III)I" } : Jvm.MethodName) prog_1_method_23_code (5 : Nat) (Option.some Jvm.ClassFile.FieldType.int)) ∈ lw_all := lw_g (lw_at lw_m8 1 rfl) rfl
theorem q1757 : (Jvm.Cond.methodLink "GateGrammar" (229 : Nat) ({ cls := "GateGrammar$State", name := "appendVerb", desc := "(III)I" } : Jvm.MethodName)) ∈ lw_all := lw_g (lw_at lw_m8 2 rfl) rfl
theorem q1765 : (Jvm.Cond.instanceMethod ({ cls := "GateGrammar", name := "appendOpen", desc := "(I)I" } : Jvm.MethodName)) ∈ lw_all := lw_g (lw_at lw_m8 10 rfl) rfl
theorem q1766 : (Jvm.Cond.selects "GateGrammar" ({ cls := "GateGrammar", name := "appendOpen", desc := "(I)I" } : Jvm.MethodName) ({ cls := "GateGrammar", name := "appendOpen", desc := "(I)I" } : Jvm.MethodName)) ∈ lw_all := lw_g (lw_at lw_m8 11 rfl) rfl
theorem q1767 : (Jvm.Cond.code ({ cls := "GateGrammar", name := "appendOpen", desc := "(I)I" } : Jvm.MethodName) prog_1_method_24_code (3 : Nat) (Option.some Jvm.ClassFile.FieldType.int)) ∈ lw_all := lw_g (lw_at lw_m8 12 rfl) rfl
theorem q1768 : (Jvm.Cond.methodLink "GateGrammar" (232 : Nat) ({ cls := "GateGrammar$State", name := "appendMark", desc := "(II)I" } : Jvm.MethodName)) ∈ lw_all := lw_g (lw_at lw_m8 13 rfl) rfl
theorem q1780 : (Jvm.Cond.instanceMethod ({ cls := "GateGrammar", name := "appendClose", desc := "(I)I" } : Jvm.MethodName)) ∈ lw_all := lw_g (lw_at lw_m8 25 rfl) rfl
theorem q1781 : (Jvm.Cond.selects "GateGrammar" ({ cls := "GateGrammar", name := "appendClose", desc := "(I)I" } : Jvm.MethodName) ({ cls := "GateGrammar", name := "appendClose", desc := "(I)I" } : Jvm.MethodName)) ∈ lw_all := lw_g (lw_at lw_m8 26 rfl) rfl
theorem q1782 : (Jvm.Cond.code ({ cls := "GateGrammar", name := "appendClose", desc := "(I)I" } : Jvm.MethodName) prog_1_method_25_code (3 : Nat) (Option.some Jvm.ClassFile.FieldType.int)) ∈ lw_all := lw_g (lw_at lw_m8 27 rfl) rfl
theorem q1787 : (Jvm.Cond.instanceMethod ({ cls := "GateGrammar", name := "appendAnd", desc := "(I)I" } : Jvm.MethodName)) ∈ lw_all := lw_g (lw_at lw_m8 32 rfl) rfl
theorem q1788 : (Jvm.Cond.selects "GateGrammar" ({ cls := "GateGrammar", name := "appendAnd", desc := "(I)I" } : Jvm.MethodName) ({ cls := "GateGrammar", name := "appendAnd", desc := "(I)I" } : Jvm.MethodName)) ∈ lw_all := lw_g (lw_at lw_m8 33 rfl) rfl
theorem q1789 : (Jvm.Cond.code ({ cls := "GateGrammar", name := "appendAnd", desc := "(I)I" } : Jvm.MethodName) prog_1_method_26_code (3 : Nat) (Option.some Jvm.ClassFile.FieldType.int)) ∈ lw_all := lw_g (lw_at lw_m8 34 rfl) rfl
theorem q1794 : (Jvm.Cond.instanceMethod ({ cls := "GateGrammar", name := "removeLast", desc := "(I)I" } : Jvm.MethodName)) ∈ lw_all := lw_g (lw_at lw_m8 39 rfl) rfl
theorem q1795 : (Jvm.Cond.selects "GateGrammar" ({ cls := "GateGrammar", name := "removeLast", desc := "(I)I" } : Jvm.MethodName) ({ cls := "GateGrammar", name := "removeLast", desc := "(I)I" } : Jvm.MethodName)) ∈ lw_all := lw_g (lw_at lw_m8 40 rfl) rfl
theorem q1796 : (Jvm.Cond.code ({ cls := "GateGrammar", name := "removeLast", desc := "(I)I" } : Jvm.MethodName) prog_1_method_27_code (3 : Nat) (Option.some Jvm.ClassFile.FieldType.int)) ∈ lw_all := lw_g (lw_at lw_m8 41 rfl) rfl
theorem q1797 : (Jvm.Cond.methodLink "GateGrammar" (235 : Nat) ({ cls := "GateGrammar$Gate", name := "removeLast", desc := "()I" } : Jvm.MethodName)) ∈ lw_all := lw_g (lw_at lw_m8 42 rfl) rfl
theorem q1818 : (Jvm.Cond.instanceMethod ({ cls := "GateGrammar", name := "clear", desc := "(I)I" } : Jvm.MethodName)) ∈ lw_all := lw_g (lw_at lw_m8 63 rfl) rfl
theorem q1819 : (Jvm.Cond.selects "GateGrammar" ({ cls := "GateGrammar", name := "clear", desc := "(I)I" } : Jvm.MethodName) ({ cls := "GateGrammar", name := "clear", desc := "(I)I" } : Jvm.MethodName)) ∈ lw_all := lw_g (lw_at lw_m8 64 rfl) rfl
theorem q1820 : (Jvm.Cond.code ({ cls := "GateGrammar", name := "clear", desc := "(I)I" } : Jvm.MethodName) prog_1_method_28_code (3 : Nat) (Option.some Jvm.ClassFile.FieldType.int)) ∈ lw_all := lw_g (lw_at lw_m8 65 rfl) rfl
theorem q1821 : (Jvm.Cond.methodLink "GateGrammar" (237 : Nat) ({ cls := "GateGrammar$Gate", name := "clear", desc := "()I" } : Jvm.MethodName)) ∈ lw_all := lw_g (lw_at lw_m8 66 rfl) rfl
theorem q1833 : (Jvm.Cond.instanceMethod ({ cls := "GateGrammar", name := "swing", desc := "(I)I" } : Jvm.MethodName)) ∈ lw_all := lw_g (lw_at lw_m8 78 rfl) rfl
theorem q1834 : (Jvm.Cond.selects "GateGrammar" ({ cls := "GateGrammar", name := "swing", desc := "(I)I" } : Jvm.MethodName) ({ cls := "GateGrammar", name := "swing", desc := "(I)I" } : Jvm.MethodName)) ∈ lw_all := lw_g (lw_at lw_m8 79 rfl) rfl
theorem q1835 : (Jvm.Cond.code ({ cls := "GateGrammar", name := "swing", desc := "(I)I" } : Jvm.MethodName) prog_1_method_30_code (3 : Nat) (Option.some Jvm.ClassFile.FieldType.int)) ∈ lw_all := lw_g (lw_at lw_m8 80 rfl) rfl
theorem q1836 : (Jvm.Cond.methodLink "GateGrammar" (256 : Nat) ({ cls := "GateGrammar", name := "swing", desc := "(LGateGrammar$State;I)I" } : Jvm.MethodName)) ∈ lw_all := lw_g (lw_at lw_m8 81 rfl) rfl
theorem q1837 : (Jvm.Cond.static ({ cls := "GateGrammar", name := "swing", desc := "(LGateGrammar$State;I)I" } : Jvm.MethodName)) ∈ lw_all := lw_g (lw_at lw_m8 82 rfl) rfl
theorem q1838 : (Jvm.Cond.code ({ cls := "GateGrammar", name := "swing", desc := "(LGateGrammar$State;I)I" } : Jvm.MethodName) prog_1_method_29_code (6 : Nat) (Option.some Jvm.ClassFile.FieldType.int)) ∈ lw_all := lw_g (lw_at lw_m8 83 rfl) rfl
theorem q1839 : (Jvm.Cond.methodLink "GateGrammar" (243 : Nat) ({ cls := "java/util/ArrayList", name := "size", desc := "()I" } : Jvm.MethodName)) ∈ lw_all := lw_g (lw_at lw_m8 84 rfl) rfl
theorem q1840 : (Jvm.Cond.methodLink "GateGrammar" (246 : Nat) ({ cls := "GateGrammar", name := "checkState", desc := "(Z)V" } : Jvm.MethodName)) ∈ lw_all := lw_g (lw_at lw_m8 85 rfl) rfl
theorem q1841 : (Jvm.Cond.methodLink "GateGrammar" (249 : Nat) ({ cls := "java/util/ArrayList", name := "get", desc := "(I)Ljava/lang/Object;" } : Jvm.MethodName)) ∈ lw_all := lw_g (lw_at lw_m8 86 rfl) rfl
theorem q1842 : (Jvm.Cond.methodLink "GateGrammar" (253 : Nat) ({ cls := "GateGrammar$Gate", name := "rotate", desc := "(I)V" } : Jvm.MethodName)) ∈ lw_all := lw_g (lw_at lw_m8 87 rfl) rfl
theorem q1852 : (Jvm.Cond.instanceMethod ({ cls := "GateGrammar", name := "tokenCount", desc := "(I)I" } : Jvm.MethodName)) ∈ lw_all := lw_g (lw_at lw_m8 97 rfl) rfl
theorem q1853 : (Jvm.Cond.selects "GateGrammar" ({ cls := "GateGrammar", name := "tokenCount", desc := "(I)I" } : Jvm.MethodName) ({ cls := "GateGrammar", name := "tokenCount", desc := "(I)I" } : Jvm.MethodName)) ∈ lw_all := lw_g (lw_at lw_m8 98 rfl) rfl
theorem q1854 : (Jvm.Cond.code ({ cls := "GateGrammar", name := "tokenCount", desc := "(I)I" } : Jvm.MethodName) prog_1_method_31_code (2 : Nat) (Option.some Jvm.ClassFile.FieldType.int)) ∈ lw_all := lw_g (lw_at lw_m8 99 rfl) rfl
theorem q1859 : (Jvm.Cond.instanceMethod ({ cls := "GateGrammar", name := "tokenKind", desc := "(II)I" } : Jvm.MethodName)) ∈ lw_all := lw_g (lw_at lw_m8 104 rfl) rfl
theorem q1860 : (Jvm.Cond.selects "GateGrammar" ({ cls := "GateGrammar", name := "tokenKind", desc := "(II)I" } : Jvm.MethodName) ({ cls := "GateGrammar", name := "tokenKind", desc := "(II)I" } : Jvm.MethodName)) ∈ lw_all := lw_g (lw_at lw_m8 105 rfl) rfl
theorem q1861 : (Jvm.Cond.code ({ cls := "GateGrammar", name := "tokenKind", desc := "(II)I" } : Jvm.MethodName) prog_1_method_32_code (4 : Nat) (Option.some Jvm.ClassFile.FieldType.int)) ∈ lw_all := lw_g (lw_at lw_m8 106 rfl) rfl
theorem q1862 : (Jvm.Cond.methodLink "GateGrammar" (259 : Nat) ({ cls := "GateGrammar", name := "checkIndex", desc := "(II)V" } : Jvm.MethodName)) ∈ lw_all := lw_g (lw_at lw_m8 107 rfl) rfl
theorem q1875 : (Jvm.Cond.instanceMethod ({ cls := "GateGrammar", name := "allowedKinds", desc := "(I)I" } : Jvm.MethodName)) ∈ lw_all := lw_g (lw_at lw_m8 120 rfl) rfl
theorem q1876 : (Jvm.Cond.selects "GateGrammar" ({ cls := "GateGrammar", name := "allowedKinds", desc := "(I)I" } : Jvm.MethodName) ({ cls := "GateGrammar", name := "allowedKinds", desc := "(I)I" } : Jvm.MethodName)) ∈ lw_all := lw_g (lw_at lw_m8 121 rfl) rfl
theorem q1877 : (Jvm.Cond.code ({ cls := "GateGrammar", name := "allowedKinds", desc := "(I)I" } : Jvm.MethodName) prog_1_method_35_code (3 : Nat) (Option.some Jvm.ClassFile.FieldType.int)) ∈ lw_all := lw_g (lw_at lw_m8 122 rfl) rfl
theorem q1878 : (Jvm.Cond.methodLink "GateGrammar" (276 : Nat) ({ cls := "GateGrammar$Scanner", name := "allowed", desc := "()I" } : Jvm.MethodName)) ∈ lw_all := lw_g (lw_at lw_m8 123 rfl) rfl
theorem q1884 : (Jvm.Cond.instanceMethod ({ cls := "GateGrammar", name := "excessTokens", desc := "(I)I" } : Jvm.MethodName)) ∈ lw_all := lw_g (lw_at lw_m8 129 rfl) rfl
theorem q1885 : (Jvm.Cond.selects "GateGrammar" ({ cls := "GateGrammar", name := "excessTokens", desc := "(I)I" } : Jvm.MethodName) ({ cls := "GateGrammar", name := "excessTokens", desc := "(I)I" } : Jvm.MethodName)) ∈ lw_all := lw_g (lw_at lw_m8 130 rfl) rfl
theorem q1886 : (Jvm.Cond.code ({ cls := "GateGrammar", name := "excessTokens", desc := "(I)I" } : Jvm.MethodName) prog_1_method_36_code (8 : Nat) (Option.some Jvm.ClassFile.FieldType.int)) ∈ lw_all := lw_g (lw_at lw_m8 131 rfl) rfl
theorem q1891 : (Jvm.Cond.instanceMethod ({ cls := "GateGrammar", name := "clauseCount", desc := "(I)I" } : Jvm.MethodName)) ∈ lw_all := lw_g (lw_at lw_m8 136 rfl) rfl
theorem q1892 : (Jvm.Cond.selects "GateGrammar" ({ cls := "GateGrammar", name := "clauseCount", desc := "(I)I" } : Jvm.MethodName) ({ cls := "GateGrammar", name := "clauseCount", desc := "(I)I" } : Jvm.MethodName)) ∈ lw_all := lw_g (lw_at lw_m8 137 rfl) rfl
theorem q1893 : (Jvm.Cond.code ({ cls := "GateGrammar", name := "clauseCount", desc := "(I)I" } : Jvm.MethodName) prog_1_method_37_code (3 : Nat) (Option.some Jvm.ClassFile.FieldType.int)) ∈ lw_all := lw_g (lw_at lw_m8 138 rfl) rfl
theorem q1898 : (Jvm.Cond.instanceMethod ({ cls := "GateGrammar", name := "depth", desc := "(I)I" } : Jvm.MethodName)) ∈ lw_all := lw_g (lw_at lw_m8 143 rfl) rfl
theorem q1899 : (Jvm.Cond.selects "GateGrammar" ({ cls := "GateGrammar", name := "depth", desc := "(I)I" } : Jvm.MethodName) ({ cls := "GateGrammar", name := "depth", desc := "(I)I" } : Jvm.MethodName)) ∈ lw_all := lw_g (lw_at lw_m8 144 rfl) rfl
theorem q1900 : (Jvm.Cond.code ({ cls := "GateGrammar", name := "depth", desc := "(I)I" } : Jvm.MethodName) prog_1_method_38_code (2 : Nat) (Option.some Jvm.ClassFile.FieldType.int)) ∈ lw_all := lw_g (lw_at lw_m8 145 rfl) rfl
theorem q1901 : (Jvm.Cond.methodLink "GateGrammar" (291 : Nat) ({ cls := "GateGrammar$Sentence", name := "depth", desc := "()I" } : Jvm.MethodName)) ∈ lw_all := lw_g (lw_at lw_m8 146 rfl) rfl
theorem q1920 : (Jvm.Cond.instanceMethod ({ cls := "GateGrammar", name := "subjectCount", desc := "(II)I" } : Jvm.MethodName)) ∈ lw_all := lw_g (lw_at lw_m8 165 rfl) rfl
theorem q1921 : (Jvm.Cond.selects "GateGrammar" ({ cls := "GateGrammar", name := "subjectCount", desc := "(II)I" } : Jvm.MethodName) ({ cls := "GateGrammar", name := "subjectCount", desc := "(II)I" } : Jvm.MethodName)) ∈ lw_all := lw_g (lw_at lw_m8 166 rfl) rfl
theorem q1922 : (Jvm.Cond.code ({ cls := "GateGrammar", name := "subjectCount", desc := "(II)I" } : Jvm.MethodName) prog_1_method_39_code (3 : Nat) (Option.some Jvm.ClassFile.FieldType.int)) ∈ lw_all := lw_g (lw_at lw_m8 167 rfl) rfl
theorem q1923 : (Jvm.Cond.methodLink "GateGrammar" (294 : Nat) ({ cls := "GateGrammar$Sentence", name := "clause", desc := "(I)LGateGrammar$Clause;" } : Jvm.MethodName)) ∈ lw_all := lw_g (lw_at lw_m8 168 rfl) rfl
theorem q1933 : (Jvm.Cond.instanceMethod ({ cls := "GateGrammar", name := "verbOf", desc := "(II)I" } : Jvm.MethodName)) ∈ lw_all := lw_g (lw_at lw_m8 178 rfl) rfl
theorem q1934 : (Jvm.Cond.selects "GateGrammar" ({ cls := "GateGrammar", name := "verbOf", desc := "(II)I" } : Jvm.MethodName) ({ cls := "GateGrammar", name := "verbOf", desc := "(II)I" } : Jvm.MethodName)) ∈ lw_all := lw_g (lw_at lw_m8 179 rfl) rfl
theorem q1935 : (Jvm.Cond.code ({ cls := "GateGrammar", name := "verbOf", desc := "(II)I" } : Jvm.MethodName) prog_1_method_40_code (4 : Nat) (Option.some Jvm.ClassFile.FieldType.int)) ∈ lw_all := lw_g (lw_at lw_m8 180 rfl) rfl
theorem q1940 : (Jvm.Cond.instanceMethod ({ cls := "GateGrammar", name := "tenseOf", desc := "(II)I" } : Jvm.MethodName)) ∈ lw_all := lw_g (lw_at lw_m8 185 rfl) rfl
theorem q1941 : (Jvm.Cond.selects "GateGrammar" ({ cls := "GateGrammar", name := "tenseOf", desc := "(II)I" } : Jvm.MethodName) ({ cls := "GateGrammar", name := "tenseOf", desc := "(II)I" } : Jvm.MethodName)) ∈ lw_all := lw_g (lw_at lw_m8 186 rfl) rfl
theorem q1942 : (Jvm.Cond.code ({ cls := "GateGrammar", name := "tenseOf", desc := "(II)I" } : Jvm.MethodName) prog_1_method_41_code (4 : Nat) (Option.some Jvm.ClassFile.FieldType.int)) ∈ lw_all := lw_g (lw_at lw_m8 187 rfl) rfl
theorem q1943 : (Jvm.Cond.methodLink "GateGrammar" (308 : Nat) ({ cls := "GateGrammar$Sentence", name := "tense", desc := "(LGateGrammar$Clause;)I" } : Jvm.MethodName)) ∈ lw_all := lw_g (lw_at lw_m8 188 rfl) rfl
theorem q1948 : (Jvm.Cond.instanceMethod ({ cls := "GateGrammar", name := "hasObject", desc := "(II)Z" } : Jvm.MethodName)) ∈ lw_all := lw_g (lw_at lw_m8 193 rfl) rfl
theorem q1949 : (Jvm.Cond.selects "GateGrammar" ({ cls := "GateGrammar", name := "hasObject", desc := "(II)Z" } : Jvm.MethodName) ({ cls := "GateGrammar", name := "hasObject", desc := "(II)Z" } : Jvm.MethodName)) ∈ lw_all := lw_g (lw_at lw_m8 194 rfl) rfl
theorem q1950 : (Jvm.Cond.code ({ cls := "GateGrammar", name := "hasObject", desc := "(II)Z" } : Jvm.MethodName) prog_1_method_42_code (4 : Nat) (Option.some Jvm.ClassFile.FieldType.boolean)) ∈ lw_all := lw_g (lw_at lw_m8 195 rfl) rfl
theorem q1951 : (Jvm.Cond.methodLink "GateGrammar" (318 : Nat) ({ cls := "java/util/ArrayList", name := "isEmpty", desc := "()Z" } : Jvm.MethodName)) ∈ lw_all := lw_g (lw_at lw_m8 196 rfl) rfl
theorem q1956 : (Jvm.Cond.instanceMethod ({ cls := "GateGrammar", name := "parentOf", desc := "(II)I" } : Jvm.MethodName)) ∈ lw_all := lw_g (lw_at lw_m8 201 rfl) rfl
theorem q1957 : (Jvm.Cond.selects "GateGrammar" ({ cls := "GateGrammar", name := "parentOf", desc := "(II)I" } : Jvm.MethodName) ({ cls := "GateGrammar", name := "parentOf", desc := "(II)I" } : Jvm.MethodName)) ∈ lw_all := lw_g (lw_at lw_m8 202 rfl) rfl
theorem q1958 : (Jvm.Cond.code ({ cls := "GateGrammar", name := "parentOf", desc := "(II)I" } : Jvm.MethodName) prog_1_method_43_code (4 : Nat) (Option.some Jvm.ClassFile.FieldType.int)) ∈ lw_all := lw_g (lw_at lw_m8 203 rfl) rfl
theorem q1971 : (Jvm.Cond.instanceMethod ({ cls := "GateGrammar", name := "firstDisagreement", desc := "(I)I" } : Jvm.MethodName)) ∈ lw_all := lw_g (lw_at lw_m8 216 rfl) rfl
theorem q1972 : (Jvm.Cond.selects "GateGrammar" ({ cls := "GateGrammar", name := "firstDisagreement", desc := "(I)I" } : Jvm.MethodName) ({ cls := "GateGrammar", name := "firstDisagreement", desc := "(I)I" } : Jvm.MethodName)) ∈ lw_all := lw_g (lw_at lw_m8 217 rfl) rfl
theorem q1973 : (Jvm.Cond.code ({ cls := "GateGrammar", name := "firstDisagreement", desc := "(I)I" } : Jvm.MethodName) prog_1_method_46_code (3 : Nat) (Option.some Jvm.ClassFile.FieldType.int)) ∈ lw_all := lw_g (lw_at lw_m8 218 rfl) rfl
theorem q1978 : (Jvm.Cond.instanceMethod ({ cls := "GateGrammar", name := "isShut", desc := "(I)Z" } : Jvm.MethodName)) ∈ lw_all := lw_g (lw_at lw_m8 223 rfl) rfl
theorem q1979 : (Jvm.Cond.selects "GateGrammar" ({ cls := "GateGrammar", name := "isShut", desc := "(I)Z" } : Jvm.MethodName) ({ cls := "GateGrammar", name := "isShut", desc := "(I)Z" } : Jvm.MethodName)) ∈ lw_all := lw_g (lw_at lw_m8 224 rfl) rfl
theorem q1980 : (Jvm.Cond.code ({ cls := "GateGrammar", name := "isShut", desc := "(I)Z" } : Jvm.MethodName) prog_1_method_48_code (2 : Nat) (Option.some Jvm.ClassFile.FieldType.boolean)) ∈ lw_all := lw_g (lw_at lw_m8 225 rfl) rfl
theorem q1985 : (Jvm.Cond.instanceMethod ({ cls := "GateGrammar", name := "worstGate", desc := "()I" } : Jvm.MethodName)) ∈ lw_all := lw_g (lw_at lw_m8 230 rfl) rfl
theorem q1986 : (Jvm.Cond.selects "GateGrammar" ({ cls := "GateGrammar", name := "worstGate", desc := "()I" } : Jvm.MethodName) ({ cls := "GateGrammar", name := "worstGate", desc := "()I" } : Jvm.MethodName)) ∈ lw_all := lw_g (lw_at lw_m8 231 rfl) rfl
theorem q1987 : (Jvm.Cond.code ({ cls := "GateGrammar", name := "worstGate", desc := "()I" } : Jvm.MethodName) prog_1_method_50_code (4 : Nat) (Option.some Jvm.ClassFile.FieldType.int)) ∈ lw_all := lw_g (lw_at lw_m8 232 rfl) rfl
theorem q1988 : (Jvm.Cond.classLink "GateGrammar" (244 : Nat) "java/util/ArrayList") ∈ lw_all := lw_g (lw_at lw_m8 233 rfl) rfl
theorem q1989 : (Jvm.Cond.methodLink "GateGrammar" (349 : Nat) ({ cls := "java/util/ArrayList", name := "<init>", desc := "()V" } : Jvm.MethodName)) ∈ lw_all := lw_g (lw_at lw_m8 234 rfl) rfl
theorem q1990 : (Jvm.Cond.methodLink "GateGrammar" (350 : Nat) ({ cls := "java/util/ArrayList", name := "add", desc := "(Ljava/lang/Object;)Z" } : Jvm.MethodName)) ∈ lw_all := lw_g (lw_at lw_m8 235 rfl) rfl
theorem q1991 : (Jvm.Cond.classLink "GateGrammar" (354 : Nat) "GateGrammar$1MoreDisagreements") ∈ lw_all := lw_g (lw_at lw_m8 236 rfl) rfl
theorem q1993 : (Jvm.Cond.methodLink "GateGrammar" (356 : Nat) ({ cls := "GateGrammar$1MoreDisagreements", name := "<init>", desc := "(LGateGrammar;)V" } : Jvm.MethodName)) ∈ lw_all := lw_g (lw_at lw_m8 238 rfl) rfl
theorem q2001 : (Jvm.Cond.methodLink "GateGrammar" (359 : Nat) ({ cls := "GateGrammar", name := "atRank", desc := "(Ljava/util/List;LGateGrammar$Preference;I)Ljava/lang/Object;" } : Jvm.MethodName)) ∈ lw_all := lw_g (lw_at lw_m9 6 rfl) rfl
theorem q2002 : (Jvm.Cond.static ({ cls := "GateGrammar", name := "atRank", desc := "(Ljava/util/List;LGateGrammar$Preference;I)Ljava/lang/Object;" } : Jvm.MethodName)) ∈ lw_all := lw_g (lw_at lw_m9 7 rfl) rfl
theorem q2003 : (Jvm.Cond.code ({ cls := "GateGrammar", name := "atRank", desc := "(Ljava/util/List;LGateGrammar$Preference;I)Ljava/lang/Object;" } : Jvm.MethodName) prog_1_method_7_code (7 : Nat) (Option.some (Jvm.ClassFile.FieldType.object "java/lang/Object"))) ∈ lw_all := lw_g (lw_at lw_m9 8 rfl) rfl
theorem q2004 : (Jvm.Cond.interfaceEntry "GateGrammar" (77 : Nat)) ∈ lw_tbl := lw_at lw_m9 9 rfl
theorem q2005 : (Jvm.Cond.methodLink "GateGrammar" (77 : Nat) ({ cls := "java/util/List", name := "size", desc := "()I" } : Jvm.MethodName)) ∈ lw_all := lw_g (lw_at lw_m9 10 rfl) rfl
theorem q2006 : (Jvm.Cond.interfaceEntry "GateGrammar" (83 : Nat)) ∈ lw_tbl := lw_at lw_m9 11 rfl
theorem q2007 : (Jvm.Cond.methodLink "GateGrammar" (83 : Nat) ({ cls := "java/util/List", name := "get", desc := "(I)Ljava/lang/Object;" } : Jvm.MethodName)) ∈ lw_all := lw_g (lw_at lw_m9 12 rfl) rfl
theorem q2008 : (Jvm.Cond.interfaceEntry "GateGrammar" (87 : Nat)) ∈ lw_tbl := lw_at lw_m9 13 rfl
theorem q2009 : (Jvm.Cond.methodLink "GateGrammar" (87 : Nat) ({ cls := "GateGrammar$Preference", name := "compare", desc := "(Ljava/lang/Object;Ljava/lang/Object;)I" } : Jvm.MethodName)) ∈ lw_all := lw_g (lw_at lw_m9 14 rfl) rfl
theorem q2041 : (Jvm.Cond.instanceMethod ({ cls := "GateGrammar", name := "walk", desc := "(I)I" } : Jvm.MethodName)) ∈ lw_all := lw_g (lw_at lw_m9 46 rfl) rfl
theorem q2042 : (Jvm.Cond.selects "GateGrammar" ({ cls := "GateGrammar", name := "walk", desc := "(I)I" } : Jvm.MethodName) ({ cls := "GateGrammar", name := "walk", desc := "(I)I" } : Jvm.MethodName)) ∈ lw_all := lw_g (lw_at lw_m9 47 rfl) rfl
theorem q2043 : (Jvm.Cond.code ({ cls := "GateGrammar", name := "walk", desc := "(I)I" } : Jvm.MethodName) prog_1_method_52_code (3 : Nat) (Option.some Jvm.ClassFile.FieldType.int)) ∈ lw_all := lw_g (lw_at lw_m9 48 rfl) rfl
theorem q2044 : (Jvm.Cond.methodLink "GateGrammar" (367 : Nat) ({ cls := "GateGrammar", name := "walk", desc := "(LGateGrammar$State;I)I" } : Jvm.MethodName)) ∈ lw_all := lw_g (lw_at lw_m9 49 rfl) rfl
theorem q2045 : (Jvm.Cond.privateMethod ({ cls := "GateGrammar", name := "walk", desc := "(LGateGrammar$State;I)I" } : Jvm.MethodName)) ∈ lw_tbl := lw_at lw_m9 50 rfl
theorem q2046 : (Jvm.Cond.instanceMethod ({ cls := "GateGrammar", name := "walk", desc := "(LGateGrammar$State;I)I" } : Jvm.MethodName)) ∈ lw_all := lw_g (lw_at lw_m9 51 rfl) rfl
theorem q2047 : (Jvm.Cond.code ({ cls := "GateGrammar", name := "walk", desc := "(LGateGrammar$State;I)I" } : Jvm.MethodName) prog_1_method_51_code (4 : Nat) (Option.some Jvm.ClassFile.FieldType.int)) ∈ lw_all := lw_g (lw_at lw_m9 52 rfl) rfl
theorem q2052 : (Jvm.Cond.instanceMethod ({ cls := "GateGrammar", name := "walkCount", desc := "(I)I" } : Jvm.MethodName)) ∈ lw_all := lw_g (lw_at lw_m9 57 rfl) rfl
theorem q2053 : (Jvm.Cond.selects "GateGrammar" ({ cls := "GateGrammar", name := "walkCount", desc := "(I)I" } : Jvm.MethodName) ({ cls := "GateGrammar", name := "walkCount", desc := "(I)I" } : Jvm.MethodName)) ∈ lw_all := lw_g (lw_at lw_m9 58 rfl) rfl
theorem q2054 : (Jvm.Cond.code ({ cls := "GateGrammar", name := "walkCount", desc := "(I)I" } : Jvm.MethodName) prog_1_method_53_code (2 : Nat) (Option.some Jvm.ClassFile.FieldType.int)) ∈ lw_all := lw_g (lw_at lw_m9 59 rfl) rfl
theorem q2059 : (Jvm.Cond.instanceMethod ({ cls := "GateGrammar", name := "gateAtRank", desc := "(I)I" } : Jvm.MethodName)) ∈ lw_all := lw_g (lw_at lw_m9 64 rfl) rfl
theorem q2060 : (Jvm.Cond.selects "GateGrammar" ({ cls := "GateGrammar", name := "gateAtRank", desc := "(I)I" } : Jvm.MethodName) ({ cls := "GateGrammar", name := "gateAtRank", desc := "(I)I" } : Jvm.MethodName)) ∈ lw_all := lw_g (lw_at lw_m9 65 rfl) rfl
theorem q2061 : (Jvm.Cond.code ({ cls := "GateGrammar", name := "gateAtRank", desc := "(I)I" } : Jvm.MethodName) prog_1_method_54_code (3 : Nat) (Option.some Jvm.ClassFile.FieldType.int)) ∈ lw_all := lw_g (lw_at lw_m9 66 rfl) rfl
theorem q2062 : (Jvm.Cond.classLink "GateGrammar" (370 : Nat) "GateGrammar$1") ∈ lw_all := lw_g (lw_at lw_m9 67 rfl) rfl
theorem q2064 : (Jvm.Cond.methodLink "GateGrammar" (372 : Nat) ({ cls := "GateGrammar$1", name := "<init>", desc := "(LGateGrammar;)V" } : Jvm.MethodName)) ∈ lw_all := lw_g (lw_at lw_m9 69 rfl) rfl
theorem q2076 : (Jvm.Cond.instanceMethod ({ cls := "GateGrammar", name := "append", desc := "(C)I" } : Jvm.MethodName)) ∈ lw_all := lw_g (lw_at lw_m9 81 rfl) rfl
theorem q2077 : (Jvm.Cond.selects "GateGrammar" ({ cls := "GateGrammar", name := "append", desc := "(C)I" } : Jvm.MethodName) ({ cls := "GateGrammar", name := "append", desc := "(C)I" } : Jvm.MethodName)) ∈ lw_all := lw_g (lw_at lw_m9 82 rfl) rfl
theorem q2078 : (Jvm.Cond.code ({ cls := "GateGrammar", name := "append", desc := "(C)I" } : Jvm.MethodName) prog_1_method_55_code (2 : Nat) (Option.some Jvm.ClassFile.FieldType.int)) ∈ lw_all := lw_g (lw_at lw_m9 83 rfl) rfl
theorem q2079 : (Jvm.Cond.methodLink "GateGrammar" (373 : Nat) ({ cls := "GateGrammar", name := "checkArgument", desc := "(Z)V" } : Jvm.MethodName)) ∈ lw_all := lw_g (lw_at lw_m9 84 rfl) rfl
theorem q2080 : (Jvm.Cond.methodLink "GateGrammar" (376 : Nat) ({ cls := "java/lang/StringBuilder", name := "length", desc := "()I" } : Jvm.MethodName)) ∈ lw_all := lw_g (lw_at lw_m9 85 rfl) rfl
theorem q2081 : (Jvm.Cond.methodLink "GateGrammar" (379 : Nat) ({ cls := "java/lang/StringBuilder", name := "append", desc := "(C)Ljava/lang/StringBuilder;" } : Jvm.MethodName)) ∈ lw_all := lw_g (lw_at lw_m9 86 rfl) rfl
theorem q2098 : (Jvm.Cond.instanceMethod ({ cls := "GateGrammar", name := "run", desc := "()I" } : Jvm.MethodName)) ∈ lw_all := lw_g (lw_at lw_m9 103 rfl) rfl
theorem q2099 : (Jvm.Cond.selects "GateGrammar" ({ cls := "GateGrammar", name := "run", desc := "()I" } : Jvm.MethodName) ({ cls := "GateGrammar", name := "run", desc := "()I" } : Jvm.MethodName)) ∈ lw_all := lw_g (lw_at lw_m9 104 rfl) rfl
theorem q2100 : (Jvm.Cond.codeWith ({ cls := "GateGrammar", name := "run", desc := "()I" } : Jvm.MethodName) prog_1_method_57_code (3 : Nat) (Option.some Jvm.ClassFile.FieldType.int) [((0 : Nat), (16 : Nat), (26 : Nat), (408 : Nat)), ((0 : Nat), (16 : Nat), (43 : Nat), (0 : Nat)), ((26 : Nat), (44 : Nat), (43 : Nat), (0 : Nat))]) ∈ lw_all := lw_g (lw_at lw_m9 105 rfl) rfl
theorem q2101 : (Jvm.Cond.classLink "GateGrammar" (408 : Nat) "GateGrammar$SyntaxError") ∈ lw_all := lw_g (lw_at lw_m9 106 rfl) rfl
theorem q2102 : (Jvm.Cond.classLink "GateGrammar" (395 : Nat) "GateGrammar$Parser") ∈ lw_all := lw_g (lw_at lw_m9 107 rfl) rfl
theorem q2104 : (Jvm.Cond.methodLinkNest "GateGrammar" (397 : Nat) ({ cls := "GateGrammar$Parser", name := "<init>", desc := "(LGateGrammar;)V" } : Jvm.MethodName) "GateGrammar") ∈ lw_tbl := lw_at lw_m9 109 rfl
theorem q2115 : (Jvm.Cond.methodLink "GateGrammar" (398 : Nat) ({ cls := "GateGrammar$Parser", name := "commands", desc := "()Ljava/util/LinkedList;" } : Jvm.MethodName)) ∈ lw_all := lw_g (lw_at lw_m9 120 rfl) rfl
theorem q2189 : (Jvm.Cond.fieldLinkNest "GateGrammar" (410 : Nat) "GateGrammar$SyntaxError" "position" "I" "GateGrammar") ∈ lw_tbl := lw_at lw_m9 194 rfl
theorem q2245 : (Jvm.Cond.methodLink "GateGrammar" (402 : Nat) ({ cls := "GateGrammar", name := "execute", desc := "(Ljava/util/LinkedList;)I" } : Jvm.MethodName)) ∈ lw_all := lw_g (lw_at lw_m10 10 rfl) rfl
theorem q2246 : (Jvm.Cond.privateMethod ({ cls := "GateGrammar", name := "execute", desc := "(Ljava/util/LinkedList;)I" } : Jvm.MethodName)) ∈ lw_tbl := lw_at lw_m10 11 rfl
theorem q2247 : (Jvm.Cond.instanceMethod ({ cls := "GateGrammar", name := "execute", desc := "(Ljava/util/LinkedList;)I" } : Jvm.MethodName)) ∈ lw_all := lw_g (lw_at lw_m10 12 rfl) rfl
theorem q2248 : (Jvm.Cond.code ({ cls := "GateGrammar", name := "execute", desc := "(Ljava/util/LinkedList;)I" } : Jvm.MethodName) prog_1_method_56_code (5 : Nat) (Option.some Jvm.ClassFile.FieldType.int)) ∈ lw_all := lw_g (lw_at lw_m10 13 rfl) rfl
theorem q2249 : (Jvm.Cond.methodLink "GateGrammar" (383 : Nat) ({ cls := "java/util/LinkedList", name := "isEmpty", desc := "()Z" } : Jvm.MethodName)) ∈ lw_all := lw_g (lw_at lw_m10 14 rfl) rfl
theorem q2256 : (Jvm.Cond.methodLink "GateGrammar" (386 : Nat) ({ cls := "java/util/LinkedList", name := "removeFirst", desc := "()Ljava/lang/Object;" } : Jvm.MethodName)) ∈ lw_all := lw_g (lw_at lw_m10 21 rfl) rfl
theorem q2266 : (Jvm.Cond.classLink "GateGrammar" (389 : Nat) "GateGrammar$Command") ∈ lw_all := lw_g (lw_at lw_m10 31 rfl) rfl
theorem q2267 : (Jvm.Cond.methodLink "GateGrammar" (391 : Nat) ({ cls := "GateGrammar$Command", name := "execute", desc := "(LGateGrammar$State;)Z" } : Jvm.MethodName)) ∈ lw_all := lw_g (lw_at lw_m10 32 rfl) rfl
theorem q2350 : (Jvm.Cond.methodLink "GateGrammar" (405 : Nat) ({ cls := "java/lang/StringBuilder", name := "setLength", desc := "(I)V" } : Jvm.MethodName)) ∈ lw_all := lw_g (lw_at lw_m10 115 rfl) rfl
theorem q2406 : (Jvm.Cond.instanceMethod ({ cls := "GateGrammar", name := "errorPosition", desc := "()I" } : Jvm.MethodName)) ∈ lw_all := lw_g (lw_at lw_m10 171 rfl) rfl
theorem q2407 : (Jvm.Cond.selects "GateGrammar" ({ cls := "GateGrammar", name := "errorPosition", desc := "()I" } : Jvm.MethodName) ({ cls := "GateGrammar", name := "errorPosition", desc := "()I" } : Jvm.MethodName)) ∈ lw_all := lw_g (lw_at lw_m10 172 rfl) rfl
theorem q2408 : (Jvm.Cond.code ({ cls := "GateGrammar", name := "errorPosition", desc := "()I" } : Jvm.MethodName) prog_1_method_58_code (1 : Nat) (Option.some Jvm.ClassFile.FieldType.int)) ∈ lw_all := lw_g (lw_at lw_m10 173 rfl) rfl
theorem q2413 : (Jvm.Cond.instanceMethod ({ cls := "GateGrammar", name := "failedCommand", desc := "()I" } : Jvm.MethodName)) ∈ lw_all := lw_g (lw_at lw_m10 178 rfl) rfl
theorem q2414 : (Jvm.Cond.selects "GateGrammar" ({ cls := "GateGrammar", name := "failedCommand", desc := "()I" } : Jvm.MethodName) ({ cls := "GateGrammar", name := "failedCommand", desc := "()I" } : Jvm.MethodName)) ∈ lw_all := lw_g (lw_at lw_m10 179 rfl) rfl
theorem q2415 : (Jvm.Cond.code ({ cls := "GateGrammar", name := "failedCommand", desc := "()I" } : Jvm.MethodName) prog_1_method_59_code (1 : Nat) (Option.some Jvm.ClassFile.FieldType.int)) ∈ lw_all := lw_g (lw_at lw_m10 180 rfl) rfl
theorem q2420 : (Jvm.Cond.instanceMethod ({ cls := "GateGrammar", name := "describe", desc := "(I)I" } : Jvm.MethodName)) ∈ lw_all := lw_g (lw_at lw_m10 185 rfl) rfl
theorem q2421 : (Jvm.Cond.selects "GateGrammar" ({ cls := "GateGrammar", name := "describe", desc := "(I)I" } : Jvm.MethodName) ({ cls := "GateGrammar", name := "describe", desc := "(I)I" } : Jvm.MethodName)) ∈ lw_all := lw_g (lw_at lw_m10 186 rfl) rfl
theorem q2422 : (Jvm.Cond.code ({ cls := "GateGrammar", name := "describe", desc := "(I)I" } : Jvm.MethodName) prog_1_method_60_code (5 : Nat) (Option.some Jvm.ClassFile.FieldType.int)) ∈ lw_all := lw_g (lw_at lw_m10 187 rfl) rfl
theorem q2423 : (Jvm.Cond.stringRef "GateGrammar" (413 : Nat) " ") ∈ lw_tbl := lw_at lw_m10 188 rfl
theorem q2424 : (Jvm.Cond.methodLink "GateGrammar" (415 : Nat) ({ cls := "java/lang/StringBuilder", name := "append", desc := "(Ljava/lang/String;)Ljava/lang/StringBuilder;" } : Jvm.MethodName)) ∈ lw_all := lw_g (lw_at lw_m10 189 rfl) rfl
theorem q2425 : (Jvm.Cond.methodLink "GateGrammar" (418 : Nat) ({ cls := "GateGrammar$Token", name := "describe", desc := "(LGateGrammar$Lexicon;)Ljava/lang/String;" } : Jvm.MethodName)) ∈ lw_all := lw_g (lw_at lw_m10 190 rfl) rfl
theorem q2452 : (Jvm.Cond.methodLink "GateGrammar" (422 : Nat) ({ cls := "java/lang/StringBuilder", name := "toString", desc := "()Ljava/lang/String;" } : Jvm.MethodName)) ∈ lw_all := lw_g (lw_at lw_m10 217 rfl) rfl
theorem q2453 : (Jvm.Cond.methodLink "GateGrammar" (426 : Nat) ({ cls := "java/lang/String", name := "length", desc := "()I" } : Jvm.MethodName)) ∈ lw_all := lw_g (lw_at lw_m10 218 rfl) rfl
theorem q2458 : (Jvm.Cond.instanceMethod ({ cls := "GateGrammar", name := "lineAt", desc := "(I)C" } : Jvm.MethodName)) ∈ lw_all := lw_g (lw_at lw_m10 223 rfl) rfl
theorem q2459 : (Jvm.Cond.selects "GateGrammar" ({ cls := "GateGrammar", name := "lineAt", desc := "(I)C" } : Jvm.MethodName) ({ cls := "GateGrammar", name := "lineAt", desc := "(I)C" } : Jvm.MethodName)) ∈ lw_all := lw_g (lw_at lw_m10 224 rfl) rfl
theorem q2460 : (Jvm.Cond.code ({ cls := "GateGrammar", name := "lineAt", desc := "(I)C" } : Jvm.MethodName) prog_1_method_61_code (2 : Nat) (Option.some Jvm.ClassFile.FieldType.char)) ∈ lw_all := lw_g (lw_at lw_m10 225 rfl) rfl
theorem q2461 : (Jvm.Cond.methodLink "GateGrammar" (429 : Nat) ({ cls := "java/lang/String", name := "charAt", desc := "(I)C" } : Jvm.MethodName)) ∈ lw_all := lw_g (lw_at lw_m10 226 rfl) rfl
theorem q2480 : (Jvm.Cond.instanceMethod ({ cls := "GateGrammar", name := "nounShare", desc := "(I)F" } : Jvm.MethodName)) ∈ lw_all := lw_g (lw_at lw_m11 5 rfl) rfl
theorem q2481 : (Jvm.Cond.selects "GateGrammar" ({ cls := "GateGrammar", name := "nounShare", desc := "(I)F" } : Jvm.MethodName) ({ cls := "GateGrammar", name := "nounShare", desc := "(I)F" } : Jvm.MethodName)) ∈ lw_all := lw_g (lw_at lw_m11 6 rfl) rfl
theorem q2482 : (Jvm.Cond.code ({ cls := "GateGrammar", name := "nounShare", desc := "(I)F" } : Jvm.MethodName) prog_1_method_63_code (6 : Nat) (Option.some Jvm.ClassFile.FieldType.float)) ∈ lw_all := lw_g (lw_at lw_m11 7 rfl) rfl
theorem q2483 : (Jvm.Cond.classLink "GateGrammar" (437 : Nat) "java/lang/ArithmeticException") ∈ lw_all := lw_g (lw_at lw_m11 8 rfl) rfl
theorem q2484 : (Jvm.Cond.methodLink "GateGrammar" (439 : Nat) ({ cls := "java/lang/ArithmeticException", name := "<init>", desc := "()V" } : Jvm.MethodName)) ∈ lw_all := lw_g (lw_at lw_m11 9 rfl) rfl
theorem q2492 : (Jvm.Cond.instanceMethod ({ cls := "GateGrammar", name := "undo", desc := "()I" } : Jvm.MethodName)) ∈ lw_all := lw_g (lw_at lw_m11 17 rfl) rfl
theorem q2493 : (Jvm.Cond.selects "GateGrammar" ({ cls := "GateGrammar", name := "undo", desc := "()I" } : Jvm.MethodName) ({ cls := "GateGrammar", name := "undo", desc := "()I" } : Jvm.MethodName)) ∈ lw_all := lw_g (lw_at lw_m11 18 rfl) rfl
theorem q2494 : (Jvm.Cond.code ({ cls := "GateGrammar", name := "undo", desc := "()I" } : Jvm.MethodName) prog_1_method_65_code (1 : Nat) (Option.some Jvm.ClassFile.FieldType.int)) ∈ lw_all := lw_g (lw_at lw_m11 19 rfl) rfl
theorem q2495 : (Jvm.Cond.methodLink "GateGrammar" (451 : Nat) ({ cls := "GateGrammar$History", name := "pop", desc := "()LGateGrammar$Copyable;" } : Jvm.MethodName)) ∈ lw_all := lw_g (lw_at lw_m11 20 rfl) rfl
theorem q2502 : (Jvm.Cond.methodLink "GateGrammar" (455 : Nat) ({ cls := "GateGrammar$History", name := "size", desc := "()I" } : Jvm.MethodName)) ∈ lw_all := lw_g (lw_at lw_m11 27 rfl) rfl
theorem q2510 : (Jvm.Cond.instanceMethod ({ cls := "GateGrammar", name := "restore", desc := "()I" } : Jvm.MethodName)) ∈ lw_all := lw_g (lw_at lw_m11 35 rfl) rfl
theorem q2511 : (Jvm.Cond.selects "GateGrammar" ({ cls := "GateGrammar", name := "restore", desc := "()I" } : Jvm.MethodName) ({ cls := "GateGrammar", name := "restore", desc := "()I" } : Jvm.MethodName)) ∈ lw_all := lw_g (lw_at lw_m11 36 rfl) rfl
theorem q2512 : (Jvm.Cond.code ({ cls := "GateGrammar", name := "restore", desc := "()I" } : Jvm.MethodName) prog_1_method_67_code (1 : Nat) (Option.some Jvm.ClassFile.FieldType.int)) ∈ lw_all := lw_g (lw_at lw_m11 37 rfl) rfl
theorem q2513 : (Jvm.Cond.methodLink "GateGrammar" (459 : Nat) ({ cls := "GateGrammar$History", name := "clear", desc := "()V" } : Jvm.MethodName)) ∈ lw_all := lw_g (lw_at lw_m11 38 rfl) rfl
theorem q3041 : (Jvm.Cond.castable "GateGrammar" "java/lang/Object") ∈ lw_tbl := lw_at lw_m13 86 rfl
theorem in_X1 : ∀ w ∈ wsX10, w ∈ lw_all := lw_in wsX10 [1046, 1048, 1050, 1052, 1054, 1056, 1058, 1060] (by decide +kernel) (by decide +kernel)

/-! GateGrammar$State -/
set_option maxRecDepth 100000
def RX2 : String := "GateGrammar$State"
def TX2 : u_T := fun k => match k with
  | 0 => ("GateGrammar$State", "lexicon", "LGateGrammar$Lexicon;", true)
  | _ => ("GateGrammar$State", "gates", "Ljava/util/ArrayList;", true)
def tyX2 : Nat → FieldType := fun k => match k with
  | 0 => .object "GateGrammar$Lexicon"
  | _ => .object "java/util/ArrayList"
abbrev wsX20 : List Cond := u_ws RX2 TX2 2
theorem nmX2 : ∀ a, a < 2 → ∀ b, b < 2 → a ≠ b → (TX2 a).2.1 ≠ (TX2 b).2.1 := by decide +kernel
theorem tyX2_ok : ∀ k, k < 2 → parseFieldDescriptor (TX2 k).2.2.1 = some (tyX2 k) := by decide +kernel
abbrev cX2_init : ByteArray := prog_18_method_1_code
def yX2_init : MethodName := ⟨RX2, "<init>", "()V"⟩
def dkwX2_init_1 : List UInt8 := [187, 0, 18, 89, 27, 183, 0, 20, 182, 0, 23, 87, 132, 1, 1, 167, 255, 232, 177]
abbrev dktX2_init_1 : List UInt8 := dkwX2_init_1 ++ []
def dkwX2_init_0 : List UInt8 := [42, 187, 0, 3, 89, 183, 0, 5, 183, 0, 9, 3, 60, 27, 7, 162, 0, 25, 42, 180, 0, 14]
abbrev dktX2_init_0 : List UInt8 := dkwX2_init_0 ++ dktX2_init_1
theorem dksX2_init_0 : cX2_init.data.toList.drop 0 = dktX2_init_0 := by decide +kernel
theorem dksX2_init_1 : cX2_init.data.toList.drop 22 = dktX2_init_1 := dk_seg dksX2_init_0 22 rfl rfl
theorem dX2_init_0 : decode cX2_init 0 = .ok (.aload_n 0, 1) := dk_42 (dk_at dksX2_init_0 0 rfl rfl)
theorem dX2_init_1 : decode cX2_init 1 = .ok (.new 3, 3) := dk_187 0 3 (dk_at dksX2_init_0 1 rfl rfl)
theorem dX2_init_4 : decode cX2_init 4 = .ok (.dup, 1) := dk_89 (dk_at dksX2_init_0 4 rfl rfl)
theorem dX2_init_5 : decode cX2_init 5 = .ok (.invokespecial 5, 3) := dk_183 0 5 (dk_at dksX2_init_0 5 rfl rfl)
theorem dX2_init_8 : decode cX2_init 8 = .ok (.invokespecial 9, 3) := dk_183 0 9 (dk_at dksX2_init_0 8 rfl rfl)
theorem dX2_init_11 : decode cX2_init 11 = .ok (.iconst 0, 1) := dk_3 (dk_at dksX2_init_0 11 rfl rfl)
theorem dX2_init_12 : decode cX2_init 12 = .ok (.istore_n 1, 1) := dk_60 (dk_at dksX2_init_0 12 rfl rfl)
theorem dX2_init_13 : decode cX2_init 13 = .ok (.iload_n 1, 1) := dk_27 (dk_at dksX2_init_0 13 rfl rfl)
theorem dX2_init_14 : decode cX2_init 14 = .ok (.iconst 4, 1) := dk_7 (dk_at dksX2_init_0 14 rfl rfl)
theorem dX2_init_15 : decode cX2_init 15 = .ok (.if_icmp .ge 25, 3) := dk_162 0 25 (dk_at dksX2_init_0 15 rfl rfl)
theorem dX2_init_18 : decode cX2_init 18 = .ok (.aload_n 0, 1) := dk_42 (dk_at dksX2_init_0 18 rfl rfl)
theorem dX2_init_19 : decode cX2_init 19 = .ok (.getfield 14, 3) := dk_180 0 14 (dk_at dksX2_init_0 19 rfl rfl)
theorem dX2_init_22 : decode cX2_init 22 = .ok (.new 18, 3) := dk_187 0 18 (dk_at dksX2_init_1 0 rfl rfl)
theorem dX2_init_25 : decode cX2_init 25 = .ok (.dup, 1) := dk_89 (dk_at dksX2_init_1 3 rfl rfl)
theorem dX2_init_26 : decode cX2_init 26 = .ok (.iload_n 1, 1) := dk_27 (dk_at dksX2_init_1 4 rfl rfl)
theorem dX2_init_27 : decode cX2_init 27 = .ok (.invokespecial 20, 3) := dk_183 0 20 (dk_at dksX2_init_1 5 rfl rfl)
theorem dX2_init_30 : decode cX2_init 30 = .ok (.invokevirtual 23, 3) := dk_182 0 23 (dk_at dksX2_init_1 8 rfl rfl)
theorem dX2_init_33 : decode cX2_init 33 = .ok (.pop, 1) := dk_87 (dk_at dksX2_init_1 11 rfl rfl)
theorem dX2_init_34 : decode cX2_init 34 = .ok (.iinc 1 1, 3) := dk_132 1 1 (dk_at dksX2_init_1 12 rfl rfl)
theorem dX2_init_37 : decode cX2_init 37 = .ok (.goto (-24), 3) := dk_167 255 232 (dk_at dksX2_init_1 15 rfl rfl)
theorem dX2_init_40 : decode cX2_init 40 = .ok (.return_, 1) := dk_177 (dk_at dksX2_init_1 18 rfl rfl)
abbrev cX2_init_2 : ByteArray := prog_18_method_2_code
def yX2_init_2 : MethodName := ⟨RX2, "<init>", "(LGateGrammar$Lexicon;)V"⟩
def dkwX2_init_2_0 : List UInt8 := [42, 183, 0, 29, 42, 187, 0, 24, 89, 7, 183, 0, 32, 181, 0, 14, 42, 43, 181, 0, 33, 177]
abbrev dktX2_init_2_0 : List UInt8 := dkwX2_init_2_0 ++ []
theorem dksX2_init_2_0 : cX2_init_2.data.toList.drop 0 = dktX2_init_2_0 := by decide +kernel
theorem dX2_init_2_0 : decode cX2_init_2 0 = .ok (.aload_n 0, 1) := dk_42 (dk_at dksX2_init_2_0 0 rfl rfl)
theorem dX2_init_2_1 : decode cX2_init_2 1 = .ok (.invokespecial 29, 3) := dk_183 0 29 (dk_at dksX2_init_2_0 1 rfl rfl)
theorem dX2_init_2_4 : decode cX2_init_2 4 = .ok (.aload_n 0, 1) := dk_42 (dk_at dksX2_init_2_0 4 rfl rfl)
theorem dX2_init_2_5 : decode cX2_init_2 5 = .ok (.new 24, 3) := dk_187 0 24 (dk_at dksX2_init_2_0 5 rfl rfl)
theorem dX2_init_2_8 : decode cX2_init_2 8 = .ok (.dup, 1) := dk_89 (dk_at dksX2_init_2_0 8 rfl rfl)
theorem dX2_init_2_9 : decode cX2_init_2 9 = .ok (.iconst 4, 1) := dk_7 (dk_at dksX2_init_2_0 9 rfl rfl)
theorem dX2_init_2_10 : decode cX2_init_2 10 = .ok (.invokespecial 32, 3) := dk_183 0 32 (dk_at dksX2_init_2_0 10 rfl rfl)
theorem dX2_init_2_13 : decode cX2_init_2 13 = .ok (.putfield 14, 3) := dk_181 0 14 (dk_at dksX2_init_2_0 13 rfl rfl)
theorem dX2_init_2_16 : decode cX2_init_2 16 = .ok (.aload_n 0, 1) := dk_42 (dk_at dksX2_init_2_0 16 rfl rfl)
theorem dX2_init_2_17 : decode cX2_init_2 17 = .ok (.aload_n 1, 1) := dk_43 (dk_at dksX2_init_2_0 17 rfl rfl)
theorem dX2_init_2_18 : decode cX2_init_2 18 = .ok (.putfield 33, 3) := dk_181 0 33 (dk_at dksX2_init_2_0 18 rfl rfl)
theorem dX2_init_2_21 : decode cX2_init_2 21 = .ok (.return_, 1) := dk_177 (dk_at dksX2_init_2_0 21 rfl rfl)
abbrev cX2_tokens : ByteArray := prog_18_method_8_code
def yX2_tokens : MethodName := ⟨RX2, "tokens", "()I"⟩
def dkwX2_tokens_1 : List UInt8 := [185, 0, 51, 1, 0, 192, 0, 18, 78, 27, 45, 180, 0, 94, 182, 0, 97, 96, 60, 167, 255, 227, 27, 172]
abbrev dktX2_tokens_1 : List UInt8 := dkwX2_tokens_1 ++ []
def dkwX2_tokens_0 : List UInt8 := [3, 60, 42, 180, 0, 14, 182, 0, 41, 77, 44, 185, 0, 45, 1, 0, 153, 0, 26, 44]
abbrev dktX2_tokens_0 : List UInt8 := dkwX2_tokens_0 ++ dktX2_tokens_1
theorem dksX2_tokens_0 : cX2_tokens.data.toList.drop 0 = dktX2_tokens_0 := by decide +kernel
theorem dksX2_tokens_1 : cX2_tokens.data.toList.drop 20 = dktX2_tokens_1 := dk_seg dksX2_tokens_0 20 rfl rfl
theorem dX2_tokens_0 : decode cX2_tokens 0 = .ok (.iconst 0, 1) := dk_3 (dk_at dksX2_tokens_0 0 rfl rfl)
theorem dX2_tokens_1 : decode cX2_tokens 1 = .ok (.istore_n 1, 1) := dk_60 (dk_at dksX2_tokens_0 1 rfl rfl)
theorem dX2_tokens_2 : decode cX2_tokens 2 = .ok (.aload_n 0, 1) := dk_42 (dk_at dksX2_tokens_0 2 rfl rfl)
theorem dX2_tokens_3 : decode cX2_tokens 3 = .ok (.getfield 14, 3) := dk_180 0 14 (dk_at dksX2_tokens_0 3 rfl rfl)
theorem dX2_tokens_6 : decode cX2_tokens 6 = .ok (.invokevirtual 41, 3) := dk_182 0 41 (dk_at dksX2_tokens_0 6 rfl rfl)
theorem dX2_tokens_9 : decode cX2_tokens 9 = .ok (.astore_n 2, 1) := dk_77 (dk_at dksX2_tokens_0 9 rfl rfl)
theorem dX2_tokens_10 : decode cX2_tokens 10 = .ok (.aload_n 2, 1) := dk_44 (dk_at dksX2_tokens_0 10 rfl rfl)
theorem dX2_tokens_11 : decode cX2_tokens 11 = .ok (.invokeinterface 45 1, 5) := by decide +kernel
theorem dX2_tokens_16 : decode cX2_tokens 16 = .ok (.ifCond .eq 26, 3) := dk_153 0 26 (dk_at dksX2_tokens_0 16 rfl rfl)
theorem dX2_tokens_19 : decode cX2_tokens 19 = .ok (.aload_n 2, 1) := dk_44 (dk_at dksX2_tokens_0 19 rfl rfl)
theorem dX2_tokens_20 : decode cX2_tokens 20 = .ok (.invokeinterface 51 1, 5) := by decide +kernel
theorem dX2_tokens_25 : decode cX2_tokens 25 = .ok (.checkcast 18, 3) := dk_192 0 18 (dk_at dksX2_tokens_1 5 rfl rfl)
theorem dX2_tokens_28 : decode cX2_tokens 28 = .ok (.astore_n 3, 1) := dk_78 (dk_at dksX2_tokens_1 8 rfl rfl)
theorem dX2_tokens_29 : decode cX2_tokens 29 = .ok (.iload_n 1, 1) := dk_27 (dk_at dksX2_tokens_1 9 rfl rfl)
theorem dX2_tokens_30 : decode cX2_tokens 30 = .ok (.aload_n 3, 1) := dk_45 (dk_at dksX2_tokens_1 10 rfl rfl)
theorem dX2_tokens_31 : decode cX2_tokens 31 = .ok (.getfield 94, 3) := dk_180 0 94 (dk_at dksX2_tokens_1 11 rfl rfl)
theorem dX2_tokens_34 : decode cX2_tokens 34 = .ok (.invokevirtual 97, 3) := dk_182 0 97 (dk_at dksX2_tokens_1 14 rfl rfl)
theorem dX2_tokens_37 : decode cX2_tokens 37 = .ok (.iadd, 1) := dk_96 (dk_at dksX2_tokens_1 17 rfl rfl)
theorem dX2_tokens_38 : decode cX2_tokens 38 = .ok (.istore_n 1, 1) := dk_60 (dk_at dksX2_tokens_1 18 rfl rfl)
theorem dX2_tokens_39 : decode cX2_tokens 39 = .ok (.goto (-29), 3) := dk_167 255 227 (dk_at dksX2_tokens_1 19 rfl rfl)
theorem dX2_tokens_42 : decode cX2_tokens 42 = .ok (.iload_n 1, 1) := dk_27 (dk_at dksX2_tokens_1 22 rfl rfl)
theorem dX2_tokens_43 : decode cX2_tokens 43 = .ok (.ireturn, 1) := dk_172 (dk_at dksX2_tokens_1 23 rfl rfl)
abbrev cX2_gate : ByteArray := prog_18_method_4_code
def yX2_gate : MethodName := ⟨RX2, "gate", "(I)LGateGrammar$Gate;"⟩
def dkwX2_gate_0 : List UInt8 := [27, 7, 184, 0, 58, 42, 180, 0, 14, 27, 182, 0, 62, 192, 0, 18, 176]
abbrev dktX2_gate_0 : List UInt8 := dkwX2_gate_0 ++ []
theorem dksX2_gate_0 : cX2_gate.data.toList.drop 0 = dktX2_gate_0 := by decide +kernel
theorem dX2_gate_0 : decode cX2_gate 0 = .ok (.iload_n 1, 1) := dk_27 (dk_at dksX2_gate_0 0 rfl rfl)
theorem dX2_gate_1 : decode cX2_gate 1 = .ok (.iconst 4, 1) := dk_7 (dk_at dksX2_gate_0 1 rfl rfl)
theorem dX2_gate_2 : decode cX2_gate 2 = .ok (.invokestatic 58, 3) := dk_184 0 58 (dk_at dksX2_gate_0 2 rfl rfl)
theorem dX2_gate_5 : decode cX2_gate 5 = .ok (.aload_n 0, 1) := dk_42 (dk_at dksX2_gate_0 5 rfl rfl)
theorem dX2_gate_6 : decode cX2_gate 6 = .ok (.getfield 14, 3) := dk_180 0 14 (dk_at dksX2_gate_0 6 rfl rfl)
theorem dX2_gate_9 : decode cX2_gate 9 = .ok (.iload_n 1, 1) := dk_27 (dk_at dksX2_gate_0 9 rfl rfl)
theorem dX2_gate_10 : decode cX2_gate 10 = .ok (.invokevirtual 62, 3) := dk_182 0 62 (dk_at dksX2_gate_0 10 rfl rfl)
theorem dX2_gate_13 : decode cX2_gate 13 = .ok (.checkcast 18, 3) := dk_192 0 18 (dk_at dksX2_gate_0 13 rfl rfl)
theorem dX2_gate_16 : decode cX2_gate 16 = .ok (.areturn, 1) := dk_176 (dk_at dksX2_gate_0 16 rfl rfl)
abbrev cX2_copy : ByteArray := prog_18_method_3_code
def yX2_copy : MethodName := ⟨RX2, "copy", "()LGateGrammar$State;"⟩
def dkwX2_copy_2 : List UInt8 := [182, 0, 55, 182, 0, 23, 87, 167, 255, 225, 43, 176]
abbrev dktX2_copy_2 : List UInt8 := dkwX2_copy_2 ++ []
def dkwX2_copy_1 : List UInt8 := [185, 0, 45, 1, 0, 153, 0, 28, 44, 185, 0, 51, 1, 0, 192, 0, 18, 78, 43, 180, 0, 14, 45]
abbrev dktX2_copy_1 : List UInt8 := dkwX2_copy_1 ++ dktX2_copy_2
def dkwX2_copy_0 : List UInt8 := [187, 0, 10, 89, 42, 180, 0, 33, 182, 0, 37, 183, 0, 9, 76, 42, 180, 0, 14, 182, 0, 41, 77, 44]
abbrev dktX2_copy_0 : List UInt8 := dkwX2_copy_0 ++ dktX2_copy_1
theorem dksX2_copy_0 : cX2_copy.data.toList.drop 0 = dktX2_copy_0 := by decide +kernel
theorem dksX2_copy_1 : cX2_copy.data.toList.drop 24 = dktX2_copy_1 := dk_seg dksX2_copy_0 24 rfl rfl
theorem dksX2_copy_2 : cX2_copy.data.toList.drop 47 = dktX2_copy_2 := dk_seg dksX2_copy_1 23 rfl rfl
theorem dX2_copy_0 : decode cX2_copy 0 = .ok (.new 10, 3) := dk_187 0 10 (dk_at dksX2_copy_0 0 rfl rfl)
theorem dX2_copy_3 : decode cX2_copy 3 = .ok (.dup, 1) := dk_89 (dk_at dksX2_copy_0 3 rfl rfl)
theorem dX2_copy_4 : decode cX2_copy 4 = .ok (.aload_n 0, 1) := dk_42 (dk_at dksX2_copy_0 4 rfl rfl)
theorem dX2_copy_5 : decode cX2_copy 5 = .ok (.getfield 33, 3) := dk_180 0 33 (dk_at dksX2_copy_0 5 rfl rfl)
theorem dX2_copy_8 : decode cX2_copy 8 = .ok (.invokevirtual 37, 3) := dk_182 0 37 (dk_at dksX2_copy_0 8 rfl rfl)
theorem dX2_copy_11 : decode cX2_copy 11 = .ok (.invokespecial 9, 3) := dk_183 0 9 (dk_at dksX2_copy_0 11 rfl rfl)
theorem dX2_copy_14 : decode cX2_copy 14 = .ok (.astore_n 1, 1) := dk_76 (dk_at dksX2_copy_0 14 rfl rfl)
theorem dX2_copy_15 : decode cX2_copy 15 = .ok (.aload_n 0, 1) := dk_42 (dk_at dksX2_copy_0 15 rfl rfl)
theorem dX2_copy_16 : decode cX2_copy 16 = .ok (.getfield 14, 3) := dk_180 0 14 (dk_at dksX2_copy_0 16 rfl rfl)
theorem dX2_copy_19 : decode cX2_copy 19 = .ok (.invokevirtual 41, 3) := dk_182 0 41 (dk_at dksX2_copy_0 19 rfl rfl)
theorem dX2_copy_22 : decode cX2_copy 22 = .ok (.astore_n 2, 1) := dk_77 (dk_at dksX2_copy_0 22 rfl rfl)
theorem dX2_copy_23 : decode cX2_copy 23 = .ok (.aload_n 2, 1) := dk_44 (dk_at dksX2_copy_0 23 rfl rfl)
theorem dX2_copy_24 : decode cX2_copy 24 = .ok (.invokeinterface 45 1, 5) := by decide +kernel
theorem dX2_copy_29 : decode cX2_copy 29 = .ok (.ifCond .eq 28, 3) := dk_153 0 28 (dk_at dksX2_copy_1 5 rfl rfl)
theorem dX2_copy_32 : decode cX2_copy 32 = .ok (.aload_n 2, 1) := dk_44 (dk_at dksX2_copy_1 8 rfl rfl)
theorem dX2_copy_33 : decode cX2_copy 33 = .ok (.invokeinterface 51 1, 5) := by decide +kernel
theorem dX2_copy_38 : decode cX2_copy 38 = .ok (.checkcast 18, 3) := dk_192 0 18 (dk_at dksX2_copy_1 14 rfl rfl)
theorem dX2_copy_41 : decode cX2_copy 41 = .ok (.astore_n 3, 1) := dk_78 (dk_at dksX2_copy_1 17 rfl rfl)
theorem dX2_copy_42 : decode cX2_copy 42 = .ok (.aload_n 1, 1) := dk_43 (dk_at dksX2_copy_1 18 rfl rfl)
theorem dX2_copy_43 : decode cX2_copy 43 = .ok (.getfield 14, 3) := dk_180 0 14 (dk_at dksX2_copy_1 19 rfl rfl)
theorem dX2_copy_46 : decode cX2_copy 46 = .ok (.aload_n 3, 1) := dk_45 (dk_at dksX2_copy_1 22 rfl rfl)
theorem dX2_copy_47 : decode cX2_copy 47 = .ok (.invokevirtual 55, 3) := dk_182 0 55 (dk_at dksX2_copy_2 0 rfl rfl)
theorem dX2_copy_50 : decode cX2_copy 50 = .ok (.invokevirtual 23, 3) := dk_182 0 23 (dk_at dksX2_copy_2 3 rfl rfl)
theorem dX2_copy_53 : decode cX2_copy 53 = .ok (.pop, 1) := dk_87 (dk_at dksX2_copy_2 6 rfl rfl)
theorem dX2_copy_54 : decode cX2_copy 54 = .ok (.goto (-31), 3) := dk_167 255 225 (dk_at dksX2_copy_2 7 rfl rfl)
theorem dX2_copy_57 : decode cX2_copy 57 = .ok (.aload_n 1, 1) := dk_43 (dk_at dksX2_copy_2 10 rfl rfl)
theorem dX2_copy_58 : decode cX2_copy 58 = .ok (.areturn, 1) := dk_176 (dk_at dksX2_copy_2 11 rfl rfl)
abbrev cX2_appendNoun : ByteArray := prog_18_method_5_code
def yX2_appendNoun : MethodName := ⟨RX2, "appendNoun", "(III)I"⟩
def dkwX2_appendNoun_1 : List UInt8 := [184, 0, 78, 25, 4, 187, 0, 82, 89, 3, 28, 29, 183, 0, 84, 182, 0, 87, 172]
abbrev dktX2_appendNoun_1 : List UInt8 := dkwX2_appendNoun_1 ++ []
def dkwX2_appendNoun_0 : List UInt8 := [42, 27, 182, 0, 66, 58, 4, 28, 42, 180, 0, 33, 180, 0, 70, 184, 0, 58, 29, 3, 6, 184, 0, 74]
abbrev dktX2_appendNoun_0 : List UInt8 := dkwX2_appendNoun_0 ++ dktX2_appendNoun_1
theorem dksX2_appendNoun_0 : cX2_appendNoun.data.toList.drop 0 = dktX2_appendNoun_0 := by decide +kernel
theorem dksX2_appendNoun_1 : cX2_appendNoun.data.toList.drop 24 = dktX2_appendNoun_1 := dk_seg dksX2_appendNoun_0 24 rfl rfl
theorem dX2_appendNoun_0 : decode cX2_appendNoun 0 = .ok (.aload_n 0, 1) := dk_42 (dk_at dksX2_appendNoun_0 0 rfl rfl)
theorem dX2_appendNoun_1 : decode cX2_appendNoun 1 = .ok (.iload_n 1, 1) := dk_27 (dk_at dksX2_appendNoun_0 1 rfl rfl)
theorem dX2_appendNoun_2 : decode cX2_appendNoun 2 = .ok (.invokevirtual 66, 3) := dk_182 0 66 (dk_at dksX2_appendNoun_0 2 rfl rfl)
theorem dX2_appendNoun_5 : decode cX2_appendNoun 5 = .ok (.astore 4, 2) := dk_58 4 (dk_at dksX2_appendNoun_0 5 rfl rfl)
theorem dX2_appendNoun_7 : decode cX2_appendNoun 7 = .ok (.iload_n 2, 1) := dk_28 (dk_at dksX2_appendNoun_0 7 rfl rfl)
theorem dX2_appendNoun_8 : decode cX2_appendNoun 8 = .ok (.aload_n 0, 1) := dk_42 (dk_at dksX2_appendNoun_0 8 rfl rfl)
theorem dX2_appendNoun_9 : decode cX2_appendNoun 9 = .ok (.getfield 33, 3) := dk_180 0 33 (dk_at dksX2_appendNoun_0 9 rfl rfl)
theorem dX2_appendNoun_12 : decode cX2_appendNoun 12 = .ok (.getfield 70, 3) := dk_180 0 70 (dk_at dksX2_appendNoun_0 12 rfl rfl)
theorem dX2_appendNoun_15 : decode cX2_appendNoun 15 = .ok (.invokestatic 58, 3) := dk_184 0 58 (dk_at dksX2_appendNoun_0 15 rfl rfl)
theorem dX2_appendNoun_18 : decode cX2_appendNoun 18 = .ok (.iload_n 3, 1) := dk_29 (dk_at dksX2_appendNoun_0 18 rfl rfl)
theorem dX2_appendNoun_19 : decode cX2_appendNoun 19 = .ok (.iconst 0, 1) := dk_3 (dk_at dksX2_appendNoun_0 19 rfl rfl)
theorem dX2_appendNoun_20 : decode cX2_appendNoun 20 = .ok (.iconst 3, 1) := dk_6 (dk_at dksX2_appendNoun_0 20 rfl rfl)
theorem dX2_appendNoun_21 : decode cX2_appendNoun 21 = .ok (.invokestatic 74, 3) := dk_184 0 74 (dk_at dksX2_appendNoun_0 21 rfl rfl)
theorem dX2_appendNoun_24 : decode cX2_appendNoun 24 = .ok (.invokestatic 78, 3) := dk_184 0 78 (dk_at dksX2_appendNoun_1 0 rfl rfl)
theorem dX2_appendNoun_27 : decode cX2_appendNoun 27 = .ok (.aload 4, 2) := dk_25 4 (dk_at dksX2_appendNoun_1 3 rfl rfl)
theorem dX2_appendNoun_29 : decode cX2_appendNoun 29 = .ok (.new 82, 3) := dk_187 0 82 (dk_at dksX2_appendNoun_1 5 rfl rfl)
theorem dX2_appendNoun_32 : decode cX2_appendNoun 32 = .ok (.dup, 1) := dk_89 (dk_at dksX2_appendNoun_1 8 rfl rfl)
theorem dX2_appendNoun_33 : decode cX2_appendNoun 33 = .ok (.iconst 0, 1) := dk_3 (dk_at dksX2_appendNoun_1 9 rfl rfl)
theorem dX2_appendNoun_34 : decode cX2_appendNoun 34 = .ok (.iload_n 2, 1) := dk_28 (dk_at dksX2_appendNoun_1 10 rfl rfl)
theorem dX2_appendNoun_35 : decode cX2_appendNoun 35 = .ok (.iload_n 3, 1) := dk_29 (dk_at dksX2_appendNoun_1 11 rfl rfl)
theorem dX2_appendNoun_36 : decode cX2_appendNoun 36 = .ok (.invokespecial 84, 3) := dk_183 0 84 (dk_at dksX2_appendNoun_1 12 rfl rfl)
theorem dX2_appendNoun_39 : decode cX2_appendNoun 39 = .ok (.invokevirtual 87, 3) := dk_182 0 87 (dk_at dksX2_appendNoun_1 15 rfl rfl)
theorem dX2_appendNoun_42 : decode cX2_appendNoun 42 = .ok (.ireturn, 1) := dk_172 (dk_at dksX2_appendNoun_1 18 rfl rfl)
abbrev cX2_appendVerb : ByteArray := prog_18_method_6_code
def yX2_appendVerb : MethodName := ⟨RX2, "appendVerb", "(III)I"⟩
def dkwX2_appendVerb_1 : List UInt8 := [184, 0, 78, 25, 4, 187, 0, 82, 89, 4, 28, 29, 183, 0, 84, 182, 0, 87, 172]
abbrev dktX2_appendVerb_1 : List UInt8 := dkwX2_appendVerb_1 ++ []
def dkwX2_appendVerb_0 : List UInt8 := [42, 27, 182, 0, 66, 58, 4, 28, 42, 180, 0, 33, 180, 0, 90, 184, 0, 58, 29, 3, 5, 184, 0, 74]
abbrev dktX2_appendVerb_0 : List UInt8 := dkwX2_appendVerb_0 ++ dktX2_appendVerb_1
theorem dksX2_appendVerb_0 : cX2_appendVerb.data.toList.drop 0 = dktX2_appendVerb_0 := by decide +kernel
theorem dksX2_appendVerb_1 : cX2_appendVerb.data.toList.drop 24 = dktX2_appendVerb_1 := dk_seg dksX2_appendVerb_0 24 rfl rfl
theorem dX2_appendVerb_0 : decode cX2_appendVerb 0 = .ok (.aload_n 0, 1) := dk_42 (dk_at dksX2_appendVerb_0 0 rfl rfl)
theorem dX2_appendVerb_1 : decode cX2_appendVerb 1 = .ok (.iload_n 1, 1) := dk_27 (dk_at dksX2_appendVerb_0 1 rfl rfl)
theorem dX2_appendVerb_2 : decode cX2_appendVerb 2 = .ok (.invokevirtual 66, 3) := dk_182 0 66 (dk_at dksX2_appendVerb_0 2 rfl rfl)
theorem dX2_appendVerb_5 : decode cX2_appendVerb 5 = .ok (.astore 4, 2) := dk_58 4 (dk_at dksX2_appendVerb_0 5 rfl rfl)
theorem dX2_appendVerb_7 : decode cX2_appendVerb 7 = .ok (.iload_n 2, 1) := dk_28 (dk_at dksX2_appendVerb_0 7 rfl rfl)
theorem dX2_appendVerb_8 : decode cX2_appendVerb 8 = .ok (.aload_n 0, 1) := dk_42 (dk_at dksX2_appendVerb_0 8 rfl rfl)
theorem dX2_appendVerb_9 : decode cX2_appendVerb 9 = .ok (.getfield 33, 3) := dk_180 0 33 (dk_at dksX2_appendVerb_0 9 rfl rfl)
theorem dX2_appendVerb_12 : decode cX2_appendVerb 12 = .ok (.getfield 90, 3) := dk_180 0 90 (dk_at dksX2_appendVerb_0 12 rfl rfl)
theorem dX2_appendVerb_15 : decode cX2_appendVerb 15 = .ok (.invokestatic 58, 3) := dk_184 0 58 (dk_at dksX2_appendVerb_0 15 rfl rfl)
theorem dX2_appendVerb_18 : decode cX2_appendVerb 18 = .ok (.iload_n 3, 1) := dk_29 (dk_at dksX2_appendVerb_0 18 rfl rfl)
theorem dX2_appendVerb_19 : decode cX2_appendVerb 19 = .ok (.iconst 0, 1) := dk_3 (dk_at dksX2_appendVerb_0 19 rfl rfl)
theorem dX2_appendVerb_20 : decode cX2_appendVerb 20 = .ok (.iconst 2, 1) := dk_5 (dk_at dksX2_appendVerb_0 20 rfl rfl)
theorem dX2_appendVerb_21 : decode cX2_appendVerb 21 = .ok (.invokestatic 74, 3) := dk_184 0 74 (dk_at dksX2_appendVerb_0 21 rfl rfl)
theorem dX2_appendVerb_24 : decode cX2_appendVerb 24 = .ok (.invokestatic 78, 3) := dk_184 0 78 (dk_at dksX2_appendVerb_1 0 rfl rfl)
theorem dX2_appendVerb_27 : decode cX2_appendVerb 27 = .ok (.aload 4, 2) := dk_25 4 (dk_at dksX2_appendVerb_1 3 rfl rfl)
theorem dX2_appendVerb_29 : decode cX2_appendVerb 29 = .ok (.new 82, 3) := dk_187 0 82 (dk_at dksX2_appendVerb_1 5 rfl rfl)
theorem dX2_appendVerb_32 : decode cX2_appendVerb 32 = .ok (.dup, 1) := dk_89 (dk_at dksX2_appendVerb_1 8 rfl rfl)
theorem dX2_appendVerb_33 : decode cX2_appendVerb 33 = .ok (.iconst 1, 1) := dk_4 (dk_at dksX2_appendVerb_1 9 rfl rfl)
theorem dX2_appendVerb_34 : decode cX2_appendVerb 34 = .ok (.iload_n 2, 1) := dk_28 (dk_at dksX2_appendVerb_1 10 rfl rfl)
theorem dX2_appendVerb_35 : decode cX2_appendVerb 35 = .ok (.iload_n 3, 1) := dk_29 (dk_at dksX2_appendVerb_1 11 rfl rfl)
theorem dX2_appendVerb_36 : decode cX2_appendVerb 36 = .ok (.invokespecial 84, 3) := dk_183 0 84 (dk_at dksX2_appendVerb_1 12 rfl rfl)
theorem dX2_appendVerb_39 : decode cX2_appendVerb 39 = .ok (.invokevirtual 87, 3) := dk_182 0 87 (dk_at dksX2_appendVerb_1 15 rfl rfl)
theorem dX2_appendVerb_42 : decode cX2_appendVerb 42 = .ok (.ireturn, 1) := dk_172 (dk_at dksX2_appendVerb_1 18 rfl rfl)
abbrev cX2_appendMark : ByteArray := prog_18_method_7_code
def yX2_appendMark : MethodName := ⟨RX2, "appendMark", "(II)I"⟩
def dkwX2_appendMark_0 : List UInt8 := [42, 27, 182, 0, 66, 187, 0, 82, 89, 28, 183, 0, 93, 182, 0, 87, 172]
abbrev dktX2_appendMark_0 : List UInt8 := dkwX2_appendMark_0 ++ []
theorem dksX2_appendMark_0 : cX2_appendMark.data.toList.drop 0 = dktX2_appendMark_0 := by decide +kernel
theorem dX2_appendMark_0 : decode cX2_appendMark 0 = .ok (.aload_n 0, 1) := dk_42 (dk_at dksX2_appendMark_0 0 rfl rfl)
theorem dX2_appendMark_1 : decode cX2_appendMark 1 = .ok (.iload_n 1, 1) := dk_27 (dk_at dksX2_appendMark_0 1 rfl rfl)
theorem dX2_appendMark_2 : decode cX2_appendMark 2 = .ok (.invokevirtual 66, 3) := dk_182 0 66 (dk_at dksX2_appendMark_0 2 rfl rfl)
theorem dX2_appendMark_5 : decode cX2_appendMark 5 = .ok (.new 82, 3) := dk_187 0 82 (dk_at dksX2_appendMark_0 5 rfl rfl)
theorem dX2_appendMark_8 : decode cX2_appendMark 8 = .ok (.dup, 1) := dk_89 (dk_at dksX2_appendMark_0 8 rfl rfl)
theorem dX2_appendMark_9 : decode cX2_appendMark 9 = .ok (.iload_n 2, 1) := dk_28 (dk_at dksX2_appendMark_0 9 rfl rfl)
theorem dX2_appendMark_10 : decode cX2_appendMark 10 = .ok (.invokespecial 93, 3) := dk_183 0 93 (dk_at dksX2_appendMark_0 10 rfl rfl)
theorem dX2_appendMark_13 : decode cX2_appendMark 13 = .ok (.invokevirtual 87, 3) := dk_182 0 87 (dk_at dksX2_appendMark_0 13 rfl rfl)
theorem dX2_appendMark_16 : decode cX2_appendMark 16 = .ok (.ireturn, 1) := dk_172 (dk_at dksX2_appendMark_0 16 rfl rfl)
theorem q77 : (Jvm.Cond.initialized "GateGrammar$State") ∈ lw_all := lw_g (lw_at lw_m1 2 rfl) rfl
theorem q142 : (Jvm.Cond.instantiable "GateGrammar$State" (2 : Nat)) ∈ lw_all := lw_g (lw_at lw_m1 67 rfl) rfl
theorem q144 : (Jvm.Cond.instanceMethod ({ cls := "GateGrammar$State", name := "<init>", desc := "()V" } : Jvm.MethodName)) ∈ lw_all := lw_g (lw_at lw_m1 69 rfl) rfl
theorem q145 : (Jvm.Cond.code ({ cls := "GateGrammar$State", name := "<init>", desc := "()V" } : Jvm.MethodName) prog_18_method_1_code (2 : Nat) (Option.none : Option Jvm.ClassFile.FieldType)) ∈ lw_all := lw_g (lw_at lw_m1 70 rfl) rfl
theorem q146 : (Jvm.Cond.classLink "GateGrammar$State" (3 : Nat) "GateGrammar$Lexicon") ∈ lw_all := lw_g (lw_at lw_m1 71 rfl) rfl
theorem q148 : (Jvm.Cond.methodLinkNest "GateGrammar$State" (5 : Nat) ({ cls := "GateGrammar$Lexicon", name := "<init>", desc := "()V" } : Jvm.MethodName) "GateGrammar") ∈ lw_tbl := lw_at lw_m1 73 rfl
theorem q155 : (Jvm.Cond.fieldLinkNest "GateGrammar$State" (70 : Nat) "GateGrammar$Lexicon" "nouns" "I" "GateGrammar") ∈ lw_tbl := lw_at lw_m1 80 rfl
theorem q158 : (Jvm.Cond.fieldLinkNest "GateGrammar$State" (90 : Nat) "GateGrammar$Lexicon" "verbs" "I" "GateGrammar") ∈ lw_tbl := lw_at lw_m1 83 rfl
theorem q170 : (Jvm.Cond.methodLink "GateGrammar$State" (9 : Nat) ({ cls := "GateGrammar$State", name := "<init>", desc := "(LGateGrammar$Lexicon;)V" } : Jvm.MethodName)) ∈ lw_all := lw_g (lw_at lw_m1 95 rfl) rfl
theorem q171 : (Jvm.Cond.instanceMethod ({ cls := "GateGrammar$State", name := "<init>", desc := "(LGateGrammar$Lexicon;)V" } : Jvm.MethodName)) ∈ lw_all := lw_g (lw_at lw_m1 96 rfl) rfl
theorem q172 : (Jvm.Cond.code ({ cls := "GateGrammar$State", name := "<init>", desc := "(LGateGrammar$Lexicon;)V" } : Jvm.MethodName) prog_18_method_2_code (2 : Nat) (Option.none : Option Jvm.ClassFile.FieldType)) ∈ lw_all := lw_g (lw_at lw_m1 97 rfl) rfl
theorem q173 : (Jvm.Cond.methodLink "GateGrammar$State" (29 : Nat) ({ cls := "java/lang/Object", name := "<init>", desc := "()V" } : Jvm.MethodName)) ∈ lw_all := lw_g (lw_at lw_m1 98 rfl) rfl
theorem q174 : (Jvm.Cond.classLink "GateGrammar$State" (24 : Nat) "java/util/ArrayList") ∈ lw_all := lw_g (lw_at lw_m1 99 rfl) rfl
theorem q176 : (Jvm.Cond.methodLink "GateGrammar$State" (32 : Nat) ({ cls := "java/util/ArrayList", name := "<init>", desc := "(I)V" } : Jvm.MethodName)) ∈ lw_all := lw_g (lw_at lw_m1 101 rfl) rfl
theorem q530 : (Jvm.Cond.fieldLink "GateGrammar$State" (33 : Nat) "GateGrammar$State" "lexicon" "LGateGrammar$Lexicon;") ∈ lw_all := lw_g (lw_at lw_m2 215 rfl) rfl
theorem q532 : (Jvm.Cond.fieldLink "GateGrammar$State" (14 : Nat) "GateGrammar$State" "gates" "Ljava/util/ArrayList;") ∈ lw_all := lw_g (lw_at lw_m2 217 rfl) rfl
theorem q534 : (Jvm.Cond.laysFinal "GateGrammar$State" "GateGrammar$State" "lexicon" "LGateGrammar$Lexicon;") ∈ lw_all := lw_g (lw_at lw_m2 219 rfl) rfl
theorem q535 : (Jvm.Cond.soleField "GateGrammar$State" "lexicon") ∈ lw_all := lw_g (lw_at lw_m2 220 rfl) rfl
theorem q536 : (Jvm.Cond.laysFinal "GateGrammar$State" "GateGrammar$State" "gates" "Ljava/util/ArrayList;") ∈ lw_all := lw_g (lw_at lw_m2 221 rfl) rfl
theorem q537 : (Jvm.Cond.soleField "GateGrammar$State" "gates") ∈ lw_all := lw_g (lw_at lw_m2 222 rfl) rfl
theorem q538 : (Jvm.Cond.superclass "GateGrammar$State" "java/lang/Object") ∈ lw_all := lw_g (lw_at lw_m2 223 rfl) rfl
theorem q539 : (Jvm.Cond.classLink "GateGrammar$State" (18 : Nat) "GateGrammar$Gate") ∈ lw_all := lw_g (lw_at lw_m2 224 rfl) rfl
theorem q541 : (Jvm.Cond.methodLink "GateGrammar$State" (20 : Nat) ({ cls := "GateGrammar$Gate", name := "<init>", desc := "(I)V" } : Jvm.MethodName)) ∈ lw_all := lw_g (lw_at lw_m2 226 rfl) rfl
theorem q551 : (Jvm.Cond.fieldLinkNest "GateGrammar$State" (94 : Nat) "GateGrammar$Gate" "tokens" "Ljava/util/ArrayList;" "GateGrammar") ∈ lw_tbl := lw_at lw_m2 236 rfl
theorem q563 : (Jvm.Cond.methodLink "GateGrammar$State" (23 : Nat) ({ cls := "java/util/ArrayList", name := "add", desc := "(Ljava/lang/Object;)Z" } : Jvm.MethodName)) ∈ lw_all := lw_g (lw_at lw_m3 8 rfl) rfl
theorem q602 : (Jvm.Cond.selects "GateGrammar$State" ({ cls := "java/lang/Object", name := "getClass", desc := "()Ljava/lang/Class;" } : Jvm.MethodName) ({ cls := "java/lang/Object", name := "getClass", desc := "()Ljava/lang/Class;" } : Jvm.MethodName)) ∈ lw_all := lw_g (lw_at lw_m3 47 rfl) rfl
theorem q1320 : (Jvm.Cond.instanceMethod ({ cls := "GateGrammar$State", name := "tokens", desc := "()I" } : Jvm.MethodName)) ∈ lw_all := lw_g (lw_at lw_m6 45 rfl) rfl
theorem q1321 : (Jvm.Cond.selects "GateGrammar$State" ({ cls := "GateGrammar$State", name := "tokens", desc := "()I" } : Jvm.MethodName) ({ cls := "GateGrammar$State", name := "tokens", desc := "()I" } : Jvm.MethodName)) ∈ lw_all := lw_g (lw_at lw_m6 46 rfl) rfl
theorem q1322 : (Jvm.Cond.code ({ cls := "GateGrammar$State", name := "tokens", desc := "()I" } : Jvm.MethodName) prog_18_method_8_code (4 : Nat) (Option.some Jvm.ClassFile.FieldType.int)) ∈ lw_all := lw_g (lw_at lw_m6 47 rfl) rfl
theorem q1323 : (Jvm.Cond.methodLink "GateGrammar$State" (41 : Nat) ({ cls := "java/util/ArrayList", name := "iterator", desc := "()Ljava/util/Iterator;" } : Jvm.MethodName)) ∈ lw_all := lw_g (lw_at lw_m6 48 rfl) rfl
theorem q1324 : (Jvm.Cond.interfaceEntry "GateGrammar$State" (45 : Nat)) ∈ lw_tbl := lw_at lw_m6 49 rfl
theorem q1325 : (Jvm.Cond.methodLink "GateGrammar$State" (45 : Nat) ({ cls := "java/util/Iterator", name := "hasNext", desc := "()Z" } : Jvm.MethodName)) ∈ lw_all := lw_g (lw_at lw_m6 50 rfl) rfl
theorem q1326 : (Jvm.Cond.interfaceEntry "GateGrammar$State" (51 : Nat)) ∈ lw_tbl := lw_at lw_m6 51 rfl
theorem q1327 : (Jvm.Cond.methodLink "GateGrammar$State" (51 : Nat) ({ cls := "java/util/Iterator", name := "next", desc := "()Ljava/lang/Object;" } : Jvm.MethodName)) ∈ lw_all := lw_g (lw_at lw_m6 52 rfl) rfl
theorem q1328 : (Jvm.Cond.methodLink "GateGrammar$State" (97 : Nat) ({ cls := "java/util/ArrayList", name := "size", desc := "()I" } : Jvm.MethodName)) ∈ lw_all := lw_g (lw_at lw_m6 53 rfl) rfl
theorem q1339 : (Jvm.Cond.instanceMethod ({ cls := "GateGrammar$State", name := "gate", desc := "(I)LGateGrammar$Gate;" } : Jvm.MethodName)) ∈ lw_all := lw_g (lw_at lw_m6 64 rfl) rfl
theorem q1340 : (Jvm.Cond.selects "GateGrammar$State" ({ cls := "GateGrammar$State", name := "gate", desc := "(I)LGateGrammar$Gate;" } : Jvm.MethodName) ({ cls := "GateGrammar$State", name := "gate", desc := "(I)LGateGrammar$Gate;" } : Jvm.MethodName)) ∈ lw_all := lw_g (lw_at lw_m6 65 rfl) rfl
theorem q1341 : (Jvm.Cond.code ({ cls := "GateGrammar$State", name := "gate", desc := "(I)LGateGrammar$Gate;" } : Jvm.MethodName) prog_18_method_4_code (2 : Nat) (Option.some (Jvm.ClassFile.FieldType.object "GateGrammar$Gate"))) ∈ lw_all := lw_g (lw_at lw_m6 66 rfl) rfl
theorem q1342 : (Jvm.Cond.methodLinkNest "GateGrammar$State" (58 : Nat) ({ cls := "GateGrammar", name := "checkIndex", desc := "(II)V" } : Jvm.MethodName) "GateGrammar") ∈ lw_tbl := lw_at lw_m6 67 rfl
theorem q1343 : (Jvm.Cond.methodLink "GateGrammar$State" (62 : Nat) ({ cls := "java/util/ArrayList", name := "get", desc := "(I)Ljava/lang/Object;" } : Jvm.MethodName)) ∈ lw_all := lw_g (lw_at lw_m6 68 rfl) rfl
theorem q1541 : (Jvm.Cond.instanceMethod ({ cls := "GateGrammar$State", name := "copy", desc := "()LGateGrammar$State;" } : Jvm.MethodName)) ∈ lw_all := lw_g (lw_at lw_m7 26 rfl) rfl
theorem q1542 : (Jvm.Cond.selects "GateGrammar$State" ({ cls := "GateGrammar$State", name := "copy", desc := "()LGateGrammar$State;" } : Jvm.MethodName) ({ cls := "GateGrammar$State", name := "copy", desc := "()LGateGrammar$State;" } : Jvm.MethodName)) ∈ lw_all := lw_g (lw_at lw_m7 27 rfl) rfl
theorem q1543 : (Jvm.Cond.code ({ cls := "GateGrammar$State", name := "copy", desc := "()LGateGrammar$State;" } : Jvm.MethodName) prog_18_method_3_code (4 : Nat) (Option.some (Jvm.ClassFile.FieldType.object "GateGrammar$State"))) ∈ lw_all := lw_g (lw_at lw_m7 28 rfl) rfl
theorem q1544 : (Jvm.Cond.classLink "GateGrammar$State" (10 : Nat) "GateGrammar$State") ∈ lw_all := lw_g (lw_at lw_m7 29 rfl) rfl
theorem q1545 : (Jvm.Cond.methodLink "GateGrammar$State" (37 : Nat) ({ cls := "GateGrammar$Lexicon", name := "copy", desc := "()LGateGrammar$Lexicon;" } : Jvm.MethodName)) ∈ lw_all := lw_g (lw_at lw_m7 30 rfl) rfl
theorem q1551 : (Jvm.Cond.methodLink "GateGrammar$State" (55 : Nat) ({ cls := "GateGrammar$Gate", name := "copy", desc := "()LGateGrammar$Gate;" } : Jvm.MethodName)) ∈ lw_all := lw_g (lw_at lw_m7 36 rfl) rfl
theorem q1711 : (Jvm.Cond.instanceMethod ({ cls := "GateGrammar$State", name := "appendNoun", desc := "(III)I" } : Jvm.MethodName)) ∈ lw_all := lw_g (lw_at lw_m7 196 rfl) rfl
theorem q1712 : (Jvm.Cond.selects "GateGrammar$State" ({ cls := "GateGrammar$State", name := "appendNoun", desc := "(III)I" } : Jvm.MethodName) ({ cls := "GateGrammar$State", name := "appendNoun", desc := "(III)I" } : Jvm.MethodName)) ∈ lw_all := lw_g (lw_at lw_m7 197 rfl) rfl
theorem q1713 : (Jvm.Cond.code ({ cls := "GateGrammar$State", name := "appendNoun", desc := "(III)I" } : Jvm.MethodName) prog_18_method_5_code (5 : Nat) (Option.some Jvm.ClassFile.FieldType.int)) ∈ lw_all := lw_g (lw_at lw_m7 198 rfl) rfl
theorem q1714 : (Jvm.Cond.methodLink "GateGrammar$State" (66 : Nat) ({ cls := "GateGrammar$State", name := "gate", desc := "(I)LGateGrammar$Gate;" } : Jvm.MethodName)) ∈ lw_all := lw_g (lw_at lw_m7 199 rfl) rfl
theorem q1715 : (Jvm.Cond.methodLinkNest "GateGrammar$State" (74 : Nat) ({ cls := "GateGrammar", name := "isBetween", desc := "(III)Z" } : Jvm.MethodName) "GateGrammar") ∈ lw_tbl := lw_at lw_m7 200 rfl
theorem q1716 : (Jvm.Cond.methodLinkNest "GateGrammar$State" (78 : Nat) ({ cls := "GateGrammar", name := "checkArgument", desc := "(Z)V" } : Jvm.MethodName) "GateGrammar") ∈ lw_tbl := lw_at lw_m7 201 rfl
theorem q1717 : (Jvm.Cond.classLink "GateGrammar$State" (82 : Nat) "GateGrammar$Token") ∈ lw_all := lw_g (lw_at lw_m7 202 rfl) rfl
theorem q1719 : (Jvm.Cond.methodLink "GateGrammar$State" (84 : Nat) ({ cls := "GateGrammar$Token", name := "<init>", desc := "(III)V" } : Jvm.MethodName)) ∈ lw_all := lw_g (lw_at lw_m7 204 rfl) rfl
theorem q1740 : (Jvm.Cond.methodLink "GateGrammar$State" (87 : Nat) ({ cls := "GateGrammar$Gate", name := "add", desc := "(LGateGrammar$Token;)I" } : Jvm.MethodName)) ∈ lw_all := lw_g (lw_at lw_m7 225 rfl) rfl
theorem q1758 : (Jvm.Cond.instanceMethod ({ cls := "GateGrammar$State", name := "appendVerb", desc := "(III)I" } : Jvm.MethodName)) ∈ lw_all := lw_g (lw_at lw_m8 3 rfl) rfl
theorem q1759 : (Jvm.Cond.selects "GateGrammar$State" ({ cls := "GateGrammar$State", name := "appendVerb", desc := "(III)I" } : Jvm.MethodName) ({ cls := "GateGrammar$State", name := "appendVerb", desc := "(III)I" } : Jvm.MethodName)) ∈ lw_all := lw_g (lw_at lw_m8 4 rfl) rfl
theorem q1760 : (Jvm.Cond.code ({ cls := "GateGrammar$State", name := "appendVerb", desc := "(III)I" } : Jvm.MethodName) prog_18_method_6_code (5 : Nat) (Option.some Jvm.ClassFile.FieldType.int)) ∈ lw_all := lw_g (lw_at lw_m8 5 rfl) rfl
theorem q1769 : (Jvm.Cond.instanceMethod ({ cls := "GateGrammar$State", name := "appendMark", desc := "(II)I" } : Jvm.MethodName)) ∈ lw_all := lw_g (lw_at lw_m8 14 rfl) rfl
theorem q1770 : (Jvm.Cond.selects "GateGrammar$State" ({ cls := "GateGrammar$State", name := "appendMark", desc := "(II)I" } : Jvm.MethodName) ({ cls := "GateGrammar$State", name := "appendMark", desc := "(II)I" } : Jvm.MethodName)) ∈ lw_all := lw_g (lw_at lw_m8 15 rfl) rfl
theorem q1771 : (Jvm.Cond.code ({ cls := "GateGrammar$State", name := "appendMark", desc := "(II)I" } : Jvm.MethodName) prog_18_method_7_code (3 : Nat) (Option.some Jvm.ClassFile.FieldType.int)) ∈ lw_all := lw_g (lw_at lw_m8 16 rfl) rfl
theorem q1772 : (Jvm.Cond.methodLink "GateGrammar$State" (93 : Nat) ({ cls := "GateGrammar$Token", name := "<init>", desc := "(I)V" } : Jvm.MethodName)) ∈ lw_all := lw_g (lw_at lw_m8 17 rfl) rfl
theorem q3038 : (Jvm.Cond.castable "GateGrammar$State" "GateGrammar$Copyable") ∈ lw_tbl := lw_at lw_m13 83 rfl
theorem q3042 : (Jvm.Cond.castable "GateGrammar$State" "java/lang/Object") ∈ lw_tbl := lw_at lw_m13 87 rfl
theorem in_X2 : ∀ w ∈ wsX20, w ∈ lw_all := lw_in wsX20 [534, 536] (by decide +kernel) (by decide +kernel)

/-! GateGrammar$Lexicon -/
set_option maxRecDepth 100000
def RX3 : String := "GateGrammar$Lexicon"
def TX3 : u_T := fun k => match k with
  | 0 => ("GateGrammar$Lexicon", "genders", "[I", true)
  | 1 => ("GateGrammar$Lexicon", "objectCases", "[I", true)
  | 2 => ("GateGrammar$Lexicon", "nouns", "I", false)
  | _ => ("GateGrammar$Lexicon", "verbs", "I", false)
def tyX3 : Nat → FieldType := fun k => match k with
  | 0 => .array .int
  | 1 => .array .int
  | 2 => .int
  | _ => .int
abbrev wsX30 : List Cond := u_ws RX3 TX3 4
theorem nmX3 : ∀ a, a < 4 → ∀ b, b < 4 → a ≠ b → (TX3 a).2.1 ≠ (TX3 b).2.1 := by decide +kernel
theorem tyX3_ok : ∀ k, k < 4 → parseFieldDescriptor (TX3 k).2.2.1 = some (tyX3 k) := by decide +kernel
abbrev cX3_init : ByteArray := prog_10_method_1_code
def yX3_init : MethodName := ⟨RX3, "<init>", "()V"⟩
def dkwX3_init_0 : List UInt8 := [42, 183, 0, 3, 42, 16, 8, 188, 10, 181, 0, 9, 42, 16, 8, 188, 10, 181, 0, 15, 177]
abbrev dktX3_init_0 : List UInt8 := dkwX3_init_0 ++ []
theorem dksX3_init_0 : cX3_init.data.toList.drop 0 = dktX3_init_0 := by decide +kernel
theorem dX3_init_0 : decode cX3_init 0 = .ok (.aload_n 0, 1) := dk_42 (dk_at dksX3_init_0 0 rfl rfl)
theorem dX3_init_1 : decode cX3_init 1 = .ok (.invokespecial 3, 3) := dk_183 0 3 (dk_at dksX3_init_0 1 rfl rfl)
theorem dX3_init_4 : decode cX3_init 4 = .ok (.aload_n 0, 1) := dk_42 (dk_at dksX3_init_0 4 rfl rfl)
theorem dX3_init_5 : decode cX3_init 5 = .ok (.bipush 8, 2) := dk_16 8 (dk_at dksX3_init_0 5 rfl rfl)
theorem dX3_init_7 : decode cX3_init 7 = .ok (.newarray .int, 2) := dk_188_10 (dk_at dksX3_init_0 7 rfl rfl)
theorem dX3_init_9 : decode cX3_init 9 = .ok (.putfield 9, 3) := dk_181 0 9 (dk_at dksX3_init_0 9 rfl rfl)
theorem dX3_init_12 : decode cX3_init 12 = .ok (.aload_n 0, 1) := dk_42 (dk_at dksX3_init_0 12 rfl rfl)
theorem dX3_init_13 : decode cX3_init 13 = .ok (.bipush 8, 2) := dk_16 8 (dk_at dksX3_init_0 13 rfl rfl)
theorem dX3_init_15 : decode cX3_init 15 = .ok (.newarray .int, 2) := dk_188_10 (dk_at dksX3_init_0 15 rfl rfl)
theorem dX3_init_17 : decode cX3_init 17 = .ok (.putfield 15, 3) := dk_181 0 15 (dk_at dksX3_init_0 17 rfl rfl)
theorem dX3_init_20 : decode cX3_init 20 = .ok (.return_, 1) := dk_177 (dk_at dksX3_init_0 20 rfl rfl)
abbrev cX3_objectCase : ByteArray := prog_10_method_7_code
def yX3_objectCase : MethodName := ⟨RX3, "objectCase", "(I)I"⟩
def dkwX3_objectCase_0 : List UInt8 := [27, 42, 180, 0, 23, 184, 0, 37, 42, 180, 0, 15, 27, 46, 172]
abbrev dktX3_objectCase_0 : List UInt8 := dkwX3_objectCase_0 ++ []
theorem dksX3_objectCase_0 : cX3_objectCase.data.toList.drop 0 = dktX3_objectCase_0 := by decide +kernel
theorem dX3_objectCase_0 : decode cX3_objectCase 0 = .ok (.iload_n 1, 1) := dk_27 (dk_at dksX3_objectCase_0 0 rfl rfl)
theorem dX3_objectCase_1 : decode cX3_objectCase 1 = .ok (.aload_n 0, 1) := dk_42 (dk_at dksX3_objectCase_0 1 rfl rfl)
theorem dX3_objectCase_2 : decode cX3_objectCase 2 = .ok (.getfield 23, 3) := dk_180 0 23 (dk_at dksX3_objectCase_0 2 rfl rfl)
theorem dX3_objectCase_5 : decode cX3_objectCase 5 = .ok (.invokestatic 37, 3) := dk_184 0 37 (dk_at dksX3_objectCase_0 5 rfl rfl)
theorem dX3_objectCase_8 : decode cX3_objectCase 8 = .ok (.aload_n 0, 1) := dk_42 (dk_at dksX3_objectCase_0 8 rfl rfl)
theorem dX3_objectCase_9 : decode cX3_objectCase 9 = .ok (.getfield 15, 3) := dk_180 0 15 (dk_at dksX3_objectCase_0 9 rfl rfl)
theorem dX3_objectCase_12 : decode cX3_objectCase 12 = .ok (.iload_n 1, 1) := dk_27 (dk_at dksX3_objectCase_0 12 rfl rfl)
theorem dX3_objectCase_13 : decode cX3_objectCase 13 = .ok (.iaload, 1) := dk_46 (dk_at dksX3_objectCase_0 13 rfl rfl)
theorem dX3_objectCase_14 : decode cX3_objectCase 14 = .ok (.ireturn, 1) := dk_172 (dk_at dksX3_objectCase_0 14 rfl rfl)
abbrev cX3_copy : ByteArray := prog_10_method_2_code
def yX3_copy : MethodName := ⟨RX3, "copy", "()LGateGrammar$Lexicon;"⟩
def dkwX3_copy_2 : List UInt8 := [43, 42, 180, 0, 19, 181, 0, 19, 43, 42, 180, 0, 23, 181, 0, 23, 43, 176]
abbrev dktX3_copy_2 : List UInt8 := dkwX3_copy_2 ++ []
def dkwX3_copy_1 : List UInt8 := [180, 0, 9, 28, 46, 79, 43, 180, 0, 15, 28, 42, 180, 0, 15, 28, 46, 79, 132, 2, 1, 167, 255, 223]
abbrev dktX3_copy_1 : List UInt8 := dkwX3_copy_1 ++ dktX3_copy_2
def dkwX3_copy_0 : List UInt8 := [187, 0, 10, 89, 183, 0, 18, 76, 3, 61, 28, 16, 8, 162, 0, 33, 43, 180, 0, 9, 28, 42]
abbrev dktX3_copy_0 : List UInt8 := dkwX3_copy_0 ++ dktX3_copy_1
theorem dksX3_copy_0 : cX3_copy.data.toList.drop 0 = dktX3_copy_0 := by decide +kernel
theorem dksX3_copy_1 : cX3_copy.data.toList.drop 22 = dktX3_copy_1 := dk_seg dksX3_copy_0 22 rfl rfl
theorem dksX3_copy_2 : cX3_copy.data.toList.drop 46 = dktX3_copy_2 := dk_seg dksX3_copy_1 24 rfl rfl
theorem dX3_copy_0 : decode cX3_copy 0 = .ok (.new 10, 3) := dk_187 0 10 (dk_at dksX3_copy_0 0 rfl rfl)
theorem dX3_copy_3 : decode cX3_copy 3 = .ok (.dup, 1) := dk_89 (dk_at dksX3_copy_0 3 rfl rfl)
theorem dX3_copy_4 : decode cX3_copy 4 = .ok (.invokespecial 18, 3) := dk_183 0 18 (dk_at dksX3_copy_0 4 rfl rfl)
theorem dX3_copy_7 : decode cX3_copy 7 = .ok (.astore_n 1, 1) := dk_76 (dk_at dksX3_copy_0 7 rfl rfl)
theorem dX3_copy_8 : decode cX3_copy 8 = .ok (.iconst 0, 1) := dk_3 (dk_at dksX3_copy_0 8 rfl rfl)
theorem dX3_copy_9 : decode cX3_copy 9 = .ok (.istore_n 2, 1) := dk_61 (dk_at dksX3_copy_0 9 rfl rfl)
theorem dX3_copy_10 : decode cX3_copy 10 = .ok (.iload_n 2, 1) := dk_28 (dk_at dksX3_copy_0 10 rfl rfl)
theorem dX3_copy_11 : decode cX3_copy 11 = .ok (.bipush 8, 2) := dk_16 8 (dk_at dksX3_copy_0 11 rfl rfl)
theorem dX3_copy_13 : decode cX3_copy 13 = .ok (.if_icmp .ge 33, 3) := dk_162 0 33 (dk_at dksX3_copy_0 13 rfl rfl)
theorem dX3_copy_16 : decode cX3_copy 16 = .ok (.aload_n 1, 1) := dk_43 (dk_at dksX3_copy_0 16 rfl rfl)
theorem dX3_copy_17 : decode cX3_copy 17 = .ok (.getfield 9, 3) := dk_180 0 9 (dk_at dksX3_copy_0 17 rfl rfl)
theorem dX3_copy_20 : decode cX3_copy 20 = .ok (.iload_n 2, 1) := dk_28 (dk_at dksX3_copy_0 20 rfl rfl)
theorem dX3_copy_21 : decode cX3_copy 21 = .ok (.aload_n 0, 1) := dk_42 (dk_at dksX3_copy_0 21 rfl rfl)
theorem dX3_copy_22 : decode cX3_copy 22 = .ok (.getfield 9, 3) := dk_180 0 9 (dk_at dksX3_copy_1 0 rfl rfl)
theorem dX3_copy_25 : decode cX3_copy 25 = .ok (.iload_n 2, 1) := dk_28 (dk_at dksX3_copy_1 3 rfl rfl)
theorem dX3_copy_26 : decode cX3_copy 26 = .ok (.iaload, 1) := dk_46 (dk_at dksX3_copy_1 4 rfl rfl)
theorem dX3_copy_27 : decode cX3_copy 27 = .ok (.iastore, 1) := dk_79 (dk_at dksX3_copy_1 5 rfl rfl)
theorem dX3_copy_28 : decode cX3_copy 28 = .ok (.aload_n 1, 1) := dk_43 (dk_at dksX3_copy_1 6 rfl rfl)
theorem dX3_copy_29 : decode cX3_copy 29 = .ok (.getfield 15, 3) := dk_180 0 15 (dk_at dksX3_copy_1 7 rfl rfl)
theorem dX3_copy_32 : decode cX3_copy 32 = .ok (.iload_n 2, 1) := dk_28 (dk_at dksX3_copy_1 10 rfl rfl)
theorem dX3_copy_33 : decode cX3_copy 33 = .ok (.aload_n 0, 1) := dk_42 (dk_at dksX3_copy_1 11 rfl rfl)
theorem dX3_copy_34 : decode cX3_copy 34 = .ok (.getfield 15, 3) := dk_180 0 15 (dk_at dksX3_copy_1 12 rfl rfl)
theorem dX3_copy_37 : decode cX3_copy 37 = .ok (.iload_n 2, 1) := dk_28 (dk_at dksX3_copy_1 15 rfl rfl)
theorem dX3_copy_38 : decode cX3_copy 38 = .ok (.iaload, 1) := dk_46 (dk_at dksX3_copy_1 16 rfl rfl)
theorem dX3_copy_39 : decode cX3_copy 39 = .ok (.iastore, 1) := dk_79 (dk_at dksX3_copy_1 17 rfl rfl)
theorem dX3_copy_40 : decode cX3_copy 40 = .ok (.iinc 2 1, 3) := dk_132 2 1 (dk_at dksX3_copy_1 18 rfl rfl)
theorem dX3_copy_43 : decode cX3_copy 43 = .ok (.goto (-33), 3) := dk_167 255 223 (dk_at dksX3_copy_1 21 rfl rfl)
theorem dX3_copy_46 : decode cX3_copy 46 = .ok (.aload_n 1, 1) := dk_43 (dk_at dksX3_copy_2 0 rfl rfl)
theorem dX3_copy_47 : decode cX3_copy 47 = .ok (.aload_n 0, 1) := dk_42 (dk_at dksX3_copy_2 1 rfl rfl)
theorem dX3_copy_48 : decode cX3_copy 48 = .ok (.getfield 19, 3) := dk_180 0 19 (dk_at dksX3_copy_2 2 rfl rfl)
theorem dX3_copy_51 : decode cX3_copy 51 = .ok (.putfield 19, 3) := dk_181 0 19 (dk_at dksX3_copy_2 5 rfl rfl)
theorem dX3_copy_54 : decode cX3_copy 54 = .ok (.aload_n 1, 1) := dk_43 (dk_at dksX3_copy_2 8 rfl rfl)
theorem dX3_copy_55 : decode cX3_copy 55 = .ok (.aload_n 0, 1) := dk_42 (dk_at dksX3_copy_2 9 rfl rfl)
theorem dX3_copy_56 : decode cX3_copy 56 = .ok (.getfield 23, 3) := dk_180 0 23 (dk_at dksX3_copy_2 10 rfl rfl)
theorem dX3_copy_59 : decode cX3_copy 59 = .ok (.putfield 23, 3) := dk_181 0 23 (dk_at dksX3_copy_2 13 rfl rfl)
theorem dX3_copy_62 : decode cX3_copy 62 = .ok (.aload_n 1, 1) := dk_43 (dk_at dksX3_copy_2 16 rfl rfl)
theorem dX3_copy_63 : decode cX3_copy 63 = .ok (.areturn, 1) := dk_176 (dk_at dksX3_copy_2 17 rfl rfl)
abbrev cX3_addNoun : ByteArray := prog_10_method_3_code
def yX3_addNoun : MethodName := ⟨RX3, "addNoun", "(I)I"⟩
def dkwX3_addNoun_2 : List UInt8 := [180, 0, 19, 4, 100, 172]
abbrev dktX3_addNoun_2 : List UInt8 := dkwX3_addNoun_2 ++ []
def dkwX3_addNoun_1 : List UInt8 := [184, 0, 34, 42, 180, 0, 9, 42, 180, 0, 19, 27, 79, 42, 89, 180, 0, 19, 4, 96, 181, 0, 19, 42]
abbrev dktX3_addNoun_1 : List UInt8 := dkwX3_addNoun_1 ++ dktX3_addNoun_2
def dkwX3_addNoun_0 : List UInt8 := [27, 3, 5, 184, 0, 26, 184, 0, 30, 42, 180, 0, 19, 16, 8, 162, 0, 7, 4, 167, 0, 4, 3]
abbrev dktX3_addNoun_0 : List UInt8 := dkwX3_addNoun_0 ++ dktX3_addNoun_1
theorem dksX3_addNoun_0 : cX3_addNoun.data.toList.drop 0 = dktX3_addNoun_0 := by decide +kernel
theorem dksX3_addNoun_1 : cX3_addNoun.data.toList.drop 23 = dktX3_addNoun_1 := dk_seg dksX3_addNoun_0 23 rfl rfl
theorem dksX3_addNoun_2 : cX3_addNoun.data.toList.drop 47 = dktX3_addNoun_2 := dk_seg dksX3_addNoun_1 24 rfl rfl
theorem dX3_addNoun_0 : decode cX3_addNoun 0 = .ok (.iload_n 1, 1) := dk_27 (dk_at dksX3_addNoun_0 0 rfl rfl)
theorem dX3_addNoun_1 : decode cX3_addNoun 1 = .ok (.iconst 0, 1) := dk_3 (dk_at dksX3_addNoun_0 1 rfl rfl)
theorem dX3_addNoun_2 : decode cX3_addNoun 2 = .ok (.iconst 2, 1) := dk_5 (dk_at dksX3_addNoun_0 2 rfl rfl)
theorem dX3_addNoun_3 : decode cX3_addNoun 3 = .ok (.invokestatic 26, 3) := dk_184 0 26 (dk_at dksX3_addNoun_0 3 rfl rfl)
theorem dX3_addNoun_6 : decode cX3_addNoun 6 = .ok (.invokestatic 30, 3) := dk_184 0 30 (dk_at dksX3_addNoun_0 6 rfl rfl)
theorem dX3_addNoun_9 : decode cX3_addNoun 9 = .ok (.aload_n 0, 1) := dk_42 (dk_at dksX3_addNoun_0 9 rfl rfl)
theorem dX3_addNoun_10 : decode cX3_addNoun 10 = .ok (.getfield 19, 3) := dk_180 0 19 (dk_at dksX3_addNoun_0 10 rfl rfl)
theorem dX3_addNoun_13 : decode cX3_addNoun 13 = .ok (.bipush 8, 2) := dk_16 8 (dk_at dksX3_addNoun_0 13 rfl rfl)
theorem dX3_addNoun_15 : decode cX3_addNoun 15 = .ok (.if_icmp .ge 7, 3) := dk_162 0 7 (dk_at dksX3_addNoun_0 15 rfl rfl)
theorem dX3_addNoun_18 : decode cX3_addNoun 18 = .ok (.iconst 1, 1) := dk_4 (dk_at dksX3_addNoun_0 18 rfl rfl)
theorem dX3_addNoun_19 : decode cX3_addNoun 19 = .ok (.goto 4, 3) := dk_167 0 4 (dk_at dksX3_addNoun_0 19 rfl rfl)
theorem dX3_addNoun_22 : decode cX3_addNoun 22 = .ok (.iconst 0, 1) := dk_3 (dk_at dksX3_addNoun_0 22 rfl rfl)
theorem dX3_addNoun_23 : decode cX3_addNoun 23 = .ok (.invokestatic 34, 3) := dk_184 0 34 (dk_at dksX3_addNoun_1 0 rfl rfl)
theorem dX3_addNoun_26 : decode cX3_addNoun 26 = .ok (.aload_n 0, 1) := dk_42 (dk_at dksX3_addNoun_1 3 rfl rfl)
theorem dX3_addNoun_27 : decode cX3_addNoun 27 = .ok (.getfield 9, 3) := dk_180 0 9 (dk_at dksX3_addNoun_1 4 rfl rfl)
theorem dX3_addNoun_30 : decode cX3_addNoun 30 = .ok (.aload_n 0, 1) := dk_42 (dk_at dksX3_addNoun_1 7 rfl rfl)
theorem dX3_addNoun_31 : decode cX3_addNoun 31 = .ok (.getfield 19, 3) := dk_180 0 19 (dk_at dksX3_addNoun_1 8 rfl rfl)
theorem dX3_addNoun_34 : decode cX3_addNoun 34 = .ok (.iload_n 1, 1) := dk_27 (dk_at dksX3_addNoun_1 11 rfl rfl)
theorem dX3_addNoun_35 : decode cX3_addNoun 35 = .ok (.iastore, 1) := dk_79 (dk_at dksX3_addNoun_1 12 rfl rfl)
theorem dX3_addNoun_36 : decode cX3_addNoun 36 = .ok (.aload_n 0, 1) := dk_42 (dk_at dksX3_addNoun_1 13 rfl rfl)
theorem dX3_addNoun_37 : decode cX3_addNoun 37 = .ok (.dup, 1) := dk_89 (dk_at dksX3_addNoun_1 14 rfl rfl)
theorem dX3_addNoun_38 : decode cX3_addNoun 38 = .ok (.getfield 19, 3) := dk_180 0 19 (dk_at dksX3_addNoun_1 15 rfl rfl)
theorem dX3_addNoun_41 : decode cX3_addNoun 41 = .ok (.iconst 1, 1) := dk_4 (dk_at dksX3_addNoun_1 18 rfl rfl)
theorem dX3_addNoun_42 : decode cX3_addNoun 42 = .ok (.iadd, 1) := dk_96 (dk_at dksX3_addNoun_1 19 rfl rfl)
theorem dX3_addNoun_43 : decode cX3_addNoun 43 = .ok (.putfield 19, 3) := dk_181 0 19 (dk_at dksX3_addNoun_1 20 rfl rfl)
theorem dX3_addNoun_46 : decode cX3_addNoun 46 = .ok (.aload_n 0, 1) := dk_42 (dk_at dksX3_addNoun_1 23 rfl rfl)
theorem dX3_addNoun_47 : decode cX3_addNoun 47 = .ok (.getfield 19, 3) := dk_180 0 19 (dk_at dksX3_addNoun_2 0 rfl rfl)
theorem dX3_addNoun_50 : decode cX3_addNoun 50 = .ok (.iconst 1, 1) := dk_4 (dk_at dksX3_addNoun_2 3 rfl rfl)
theorem dX3_addNoun_51 : decode cX3_addNoun 51 = .ok (.isub, 1) := dk_100 (dk_at dksX3_addNoun_2 4 rfl rfl)
theorem dX3_addNoun_52 : decode cX3_addNoun 52 = .ok (.ireturn, 1) := dk_172 (dk_at dksX3_addNoun_2 5 rfl rfl)
abbrev cX3_addVerb : ByteArray := prog_10_method_4_code
def yX3_addVerb : MethodName := ⟨RX3, "addVerb", "(I)I"⟩
def dkwX3_addVerb_2 : List UInt8 := [180, 0, 23, 4, 100, 172]
abbrev dktX3_addVerb_2 : List UInt8 := dkwX3_addVerb_2 ++ []
def dkwX3_addVerb_1 : List UInt8 := [184, 0, 34, 42, 180, 0, 15, 42, 180, 0, 23, 27, 79, 42, 89, 180, 0, 23, 4, 96, 181, 0, 23, 42]
abbrev dktX3_addVerb_1 : List UInt8 := dkwX3_addVerb_1 ++ dktX3_addVerb_2
def dkwX3_addVerb_0 : List UInt8 := [27, 3, 6, 184, 0, 26, 184, 0, 30, 42, 180, 0, 23, 16, 8, 162, 0, 7, 4, 167, 0, 4, 3]
abbrev dktX3_addVerb_0 : List UInt8 := dkwX3_addVerb_0 ++ dktX3_addVerb_1
theorem dksX3_addVerb_0 : cX3_addVerb.data.toList.drop 0 = dktX3_addVerb_0 := by decide +kernel
theorem dksX3_addVerb_1 : cX3_addVerb.data.toList.drop 23 = dktX3_addVerb_1 := dk_seg dksX3_addVerb_0 23 rfl rfl
theorem dksX3_addVerb_2 : cX3_addVerb.data.toList.drop 47 = dktX3_addVerb_2 := dk_seg dksX3_addVerb_1 24 rfl rfl
theorem dX3_addVerb_0 : decode cX3_addVerb 0 = .ok (.iload_n 1, 1) := dk_27 (dk_at dksX3_addVerb_0 0 rfl rfl)
theorem dX3_addVerb_1 : decode cX3_addVerb 1 = .ok (.iconst 0, 1) := dk_3 (dk_at dksX3_addVerb_0 1 rfl rfl)
theorem dX3_addVerb_2 : decode cX3_addVerb 2 = .ok (.iconst 3, 1) := dk_6 (dk_at dksX3_addVerb_0 2 rfl rfl)
theorem dX3_addVerb_3 : decode cX3_addVerb 3 = .ok (.invokestatic 26, 3) := dk_184 0 26 (dk_at dksX3_addVerb_0 3 rfl rfl)
theorem dX3_addVerb_6 : decode cX3_addVerb 6 = .ok (.invokestatic 30, 3) := dk_184 0 30 (dk_at dksX3_addVerb_0 6 rfl rfl)
theorem dX3_addVerb_9 : decode cX3_addVerb 9 = .ok (.aload_n 0, 1) := dk_42 (dk_at dksX3_addVerb_0 9 rfl rfl)
theorem dX3_addVerb_10 : decode cX3_addVerb 10 = .ok (.getfield 23, 3) := dk_180 0 23 (dk_at dksX3_addVerb_0 10 rfl rfl)
theorem dX3_addVerb_13 : decode cX3_addVerb 13 = .ok (.bipush 8, 2) := dk_16 8 (dk_at dksX3_addVerb_0 13 rfl rfl)
theorem dX3_addVerb_15 : decode cX3_addVerb 15 = .ok (.if_icmp .ge 7, 3) := dk_162 0 7 (dk_at dksX3_addVerb_0 15 rfl rfl)
theorem dX3_addVerb_18 : decode cX3_addVerb 18 = .ok (.iconst 1, 1) := dk_4 (dk_at dksX3_addVerb_0 18 rfl rfl)
theorem dX3_addVerb_19 : decode cX3_addVerb 19 = .ok (.goto 4, 3) := dk_167 0 4 (dk_at dksX3_addVerb_0 19 rfl rfl)
theorem dX3_addVerb_22 : decode cX3_addVerb 22 = .ok (.iconst 0, 1) := dk_3 (dk_at dksX3_addVerb_0 22 rfl rfl)
theorem dX3_addVerb_23 : decode cX3_addVerb 23 = .ok (.invokestatic 34, 3) := dk_184 0 34 (dk_at dksX3_addVerb_1 0 rfl rfl)
theorem dX3_addVerb_26 : decode cX3_addVerb 26 = .ok (.aload_n 0, 1) := dk_42 (dk_at dksX3_addVerb_1 3 rfl rfl)
theorem dX3_addVerb_27 : decode cX3_addVerb 27 = .ok (.getfield 15, 3) := dk_180 0 15 (dk_at dksX3_addVerb_1 4 rfl rfl)
theorem dX3_addVerb_30 : decode cX3_addVerb 30 = .ok (.aload_n 0, 1) := dk_42 (dk_at dksX3_addVerb_1 7 rfl rfl)
theorem dX3_addVerb_31 : decode cX3_addVerb 31 = .ok (.getfield 23, 3) := dk_180 0 23 (dk_at dksX3_addVerb_1 8 rfl rfl)
theorem dX3_addVerb_34 : decode cX3_addVerb 34 = .ok (.iload_n 1, 1) := dk_27 (dk_at dksX3_addVerb_1 11 rfl rfl)
theorem dX3_addVerb_35 : decode cX3_addVerb 35 = .ok (.iastore, 1) := dk_79 (dk_at dksX3_addVerb_1 12 rfl rfl)
theorem dX3_addVerb_36 : decode cX3_addVerb 36 = .ok (.aload_n 0, 1) := dk_42 (dk_at dksX3_addVerb_1 13 rfl rfl)
theorem dX3_addVerb_37 : decode cX3_addVerb 37 = .ok (.dup, 1) := dk_89 (dk_at dksX3_addVerb_1 14 rfl rfl)
theorem dX3_addVerb_38 : decode cX3_addVerb 38 = .ok (.getfield 23, 3) := dk_180 0 23 (dk_at dksX3_addVerb_1 15 rfl rfl)
theorem dX3_addVerb_41 : decode cX3_addVerb 41 = .ok (.iconst 1, 1) := dk_4 (dk_at dksX3_addVerb_1 18 rfl rfl)
theorem dX3_addVerb_42 : decode cX3_addVerb 42 = .ok (.iadd, 1) := dk_96 (dk_at dksX3_addVerb_1 19 rfl rfl)
theorem dX3_addVerb_43 : decode cX3_addVerb 43 = .ok (.putfield 23, 3) := dk_181 0 23 (dk_at dksX3_addVerb_1 20 rfl rfl)
theorem dX3_addVerb_46 : decode cX3_addVerb 46 = .ok (.aload_n 0, 1) := dk_42 (dk_at dksX3_addVerb_1 23 rfl rfl)
theorem dX3_addVerb_47 : decode cX3_addVerb 47 = .ok (.getfield 23, 3) := dk_180 0 23 (dk_at dksX3_addVerb_2 0 rfl rfl)
theorem dX3_addVerb_50 : decode cX3_addVerb 50 = .ok (.iconst 1, 1) := dk_4 (dk_at dksX3_addVerb_2 3 rfl rfl)
theorem dX3_addVerb_51 : decode cX3_addVerb 51 = .ok (.isub, 1) := dk_100 (dk_at dksX3_addVerb_2 4 rfl rfl)
theorem dX3_addVerb_52 : decode cX3_addVerb 52 = .ok (.ireturn, 1) := dk_172 (dk_at dksX3_addVerb_2 5 rfl rfl)
abbrev cX3_setObjectCase : ByteArray := prog_10_method_5_code
def yX3_setObjectCase : MethodName := ⟨RX3, "setObjectCase", "(II)I"⟩
def dkwX3_setObjectCase_1 : List UInt8 := [42, 180, 0, 15, 27, 28, 79, 29, 172]
abbrev dktX3_setObjectCase_1 : List UInt8 := dkwX3_setObjectCase_1 ++ []
def dkwX3_setObjectCase_0 : List UInt8 := [27, 42, 180, 0, 23, 184, 0, 37, 28, 3, 6, 184, 0, 26, 184, 0, 30, 42, 180, 0, 15, 27, 46, 62]
abbrev dktX3_setObjectCase_0 : List UInt8 := dkwX3_setObjectCase_0 ++ dktX3_setObjectCase_1
theorem dksX3_setObjectCase_0 : cX3_setObjectCase.data.toList.drop 0 = dktX3_setObjectCase_0 := by decide +kernel
theorem dksX3_setObjectCase_1 : cX3_setObjectCase.data.toList.drop 24 = dktX3_setObjectCase_1 := dk_seg dksX3_setObjectCase_0 24 rfl rfl
theorem dX3_setObjectCase_0 : decode cX3_setObjectCase 0 = .ok (.iload_n 1, 1) := dk_27 (dk_at dksX3_setObjectCase_0 0 rfl rfl)
theorem dX3_setObjectCase_1 : decode cX3_setObjectCase 1 = .ok (.aload_n 0, 1) := dk_42 (dk_at dksX3_setObjectCase_0 1 rfl rfl)
theorem dX3_setObjectCase_2 : decode cX3_setObjectCase 2 = .ok (.getfield 23, 3) := dk_180 0 23 (dk_at dksX3_setObjectCase_0 2 rfl rfl)
theorem dX3_setObjectCase_5 : decode cX3_setObjectCase 5 = .ok (.invokestatic 37, 3) := dk_184 0 37 (dk_at dksX3_setObjectCase_0 5 rfl rfl)
theorem dX3_setObjectCase_8 : decode cX3_setObjectCase 8 = .ok (.iload_n 2, 1) := dk_28 (dk_at dksX3_setObjectCase_0 8 rfl rfl)
theorem dX3_setObjectCase_9 : decode cX3_setObjectCase 9 = .ok (.iconst 0, 1) := dk_3 (dk_at dksX3_setObjectCase_0 9 rfl rfl)
theorem dX3_setObjectCase_10 : decode cX3_setObjectCase 10 = .ok (.iconst 3, 1) := dk_6 (dk_at dksX3_setObjectCase_0 10 rfl rfl)
theorem dX3_setObjectCase_11 : decode cX3_setObjectCase 11 = .ok (.invokestatic 26, 3) := dk_184 0 26 (dk_at dksX3_setObjectCase_0 11 rfl rfl)
theorem dX3_setObjectCase_14 : decode cX3_setObjectCase 14 = .ok (.invokestatic 30, 3) := dk_184 0 30 (dk_at dksX3_setObjectCase_0 14 rfl rfl)
theorem dX3_setObjectCase_17 : decode cX3_setObjectCase 17 = .ok (.aload_n 0, 1) := dk_42 (dk_at dksX3_setObjectCase_0 17 rfl rfl)
theorem dX3_setObjectCase_18 : decode cX3_setObjectCase 18 = .ok (.getfield 15, 3) := dk_180 0 15 (dk_at dksX3_setObjectCase_0 18 rfl rfl)
theorem dX3_setObjectCase_21 : decode cX3_setObjectCase 21 = .ok (.iload_n 1, 1) := dk_27 (dk_at dksX3_setObjectCase_0 21 rfl rfl)
theorem dX3_setObjectCase_22 : decode cX3_setObjectCase 22 = .ok (.iaload, 1) := dk_46 (dk_at dksX3_setObjectCase_0 22 rfl rfl)
theorem dX3_setObjectCase_23 : decode cX3_setObjectCase 23 = .ok (.istore_n 3, 1) := dk_62 (dk_at dksX3_setObjectCase_0 23 rfl rfl)
theorem dX3_setObjectCase_24 : decode cX3_setObjectCase 24 = .ok (.aload_n 0, 1) := dk_42 (dk_at dksX3_setObjectCase_1 0 rfl rfl)
theorem dX3_setObjectCase_25 : decode cX3_setObjectCase 25 = .ok (.getfield 15, 3) := dk_180 0 15 (dk_at dksX3_setObjectCase_1 1 rfl rfl)
theorem dX3_setObjectCase_28 : decode cX3_setObjectCase 28 = .ok (.iload_n 1, 1) := dk_27 (dk_at dksX3_setObjectCase_1 4 rfl rfl)
theorem dX3_setObjectCase_29 : decode cX3_setObjectCase 29 = .ok (.iload_n 2, 1) := dk_28 (dk_at dksX3_setObjectCase_1 5 rfl rfl)
theorem dX3_setObjectCase_30 : decode cX3_setObjectCase 30 = .ok (.iastore, 1) := dk_79 (dk_at dksX3_setObjectCase_1 6 rfl rfl)
theorem dX3_setObjectCase_31 : decode cX3_setObjectCase 31 = .ok (.iload_n 3, 1) := dk_29 (dk_at dksX3_setObjectCase_1 7 rfl rfl)
theorem dX3_setObjectCase_32 : decode cX3_setObjectCase 32 = .ok (.ireturn, 1) := dk_172 (dk_at dksX3_setObjectCase_1 8 rfl rfl)
abbrev cX3_gender : ByteArray := prog_10_method_6_code
def yX3_gender : MethodName := ⟨RX3, "gender", "(I)I"⟩
def dkwX3_gender_0 : List UInt8 := [27, 42, 180, 0, 19, 184, 0, 37, 42, 180, 0, 9, 27, 46, 172]
abbrev dktX3_gender_0 : List UInt8 := dkwX3_gender_0 ++ []
theorem dksX3_gender_0 : cX3_gender.data.toList.drop 0 = dktX3_gender_0 := by decide +kernel
theorem dX3_gender_0 : decode cX3_gender 0 = .ok (.iload_n 1, 1) := dk_27 (dk_at dksX3_gender_0 0 rfl rfl)
theorem dX3_gender_1 : decode cX3_gender 1 = .ok (.aload_n 0, 1) := dk_42 (dk_at dksX3_gender_0 1 rfl rfl)
theorem dX3_gender_2 : decode cX3_gender 2 = .ok (.getfield 19, 3) := dk_180 0 19 (dk_at dksX3_gender_0 2 rfl rfl)
theorem dX3_gender_5 : decode cX3_gender 5 = .ok (.invokestatic 37, 3) := dk_184 0 37 (dk_at dksX3_gender_0 5 rfl rfl)
theorem dX3_gender_8 : decode cX3_gender 8 = .ok (.aload_n 0, 1) := dk_42 (dk_at dksX3_gender_0 8 rfl rfl)
theorem dX3_gender_9 : decode cX3_gender 9 = .ok (.getfield 9, 3) := dk_180 0 9 (dk_at dksX3_gender_0 9 rfl rfl)
theorem dX3_gender_12 : decode cX3_gender 12 = .ok (.iload_n 1, 1) := dk_27 (dk_at dksX3_gender_0 12 rfl rfl)
theorem dX3_gender_13 : decode cX3_gender 13 = .ok (.iaload, 1) := dk_46 (dk_at dksX3_gender_0 13 rfl rfl)
theorem dX3_gender_14 : decode cX3_gender 14 = .ok (.ireturn, 1) := dk_172 (dk_at dksX3_gender_0 14 rfl rfl)
abbrev cX3_ending : ByteArray := prog_10_method_8_code
def yX3_ending : MethodName := ⟨RX3, "ending", "(II)C"⟩
def dkwX3_ending_1 : List UInt8 := [182, 0, 47, 172]
abbrev dktX3_ending_1 : List UInt8 := dkwX3_ending_1 ++ []
def dkwX3_ending_0 : List UInt8 := [42, 27, 182, 0, 41, 62, 28, 3, 6, 184, 0, 26, 184, 0, 30, 18, 45, 7, 29, 104, 28, 96]
abbrev dktX3_ending_0 : List UInt8 := dkwX3_ending_0 ++ dktX3_ending_1
theorem dksX3_ending_0 : cX3_ending.data.toList.drop 0 = dktX3_ending_0 := by decide +kernel
theorem dksX3_ending_1 : cX3_ending.data.toList.drop 22 = dktX3_ending_1 := dk_seg dksX3_ending_0 22 rfl rfl
theorem dX3_ending_0 : decode cX3_ending 0 = .ok (.aload_n 0, 1) := dk_42 (dk_at dksX3_ending_0 0 rfl rfl)
theorem dX3_ending_1 : decode cX3_ending 1 = .ok (.iload_n 1, 1) := dk_27 (dk_at dksX3_ending_0 1 rfl rfl)
theorem dX3_ending_2 : decode cX3_ending 2 = .ok (.invokevirtual 41, 3) := dk_182 0 41 (dk_at dksX3_ending_0 2 rfl rfl)
theorem dX3_ending_5 : decode cX3_ending 5 = .ok (.istore_n 3, 1) := dk_62 (dk_at dksX3_ending_0 5 rfl rfl)
theorem dX3_ending_6 : decode cX3_ending 6 = .ok (.iload_n 2, 1) := dk_28 (dk_at dksX3_ending_0 6 rfl rfl)
theorem dX3_ending_7 : decode cX3_ending 7 = .ok (.iconst 0, 1) := dk_3 (dk_at dksX3_ending_0 7 rfl rfl)
theorem dX3_ending_8 : decode cX3_ending 8 = .ok (.iconst 3, 1) := dk_6 (dk_at dksX3_ending_0 8 rfl rfl)
theorem dX3_ending_9 : decode cX3_ending 9 = .ok (.invokestatic 26, 3) := dk_184 0 26 (dk_at dksX3_ending_0 9 rfl rfl)
theorem dX3_ending_12 : decode cX3_ending 12 = .ok (.invokestatic 30, 3) := dk_184 0 30 (dk_at dksX3_ending_0 12 rfl rfl)
theorem dX3_ending_15 : decode cX3_ending 15 = .ok (.ldc 45, 2) := dk_18 45 (dk_at dksX3_ending_0 15 rfl rfl)
theorem dX3_ending_17 : decode cX3_ending 17 = .ok (.iconst 4, 1) := dk_7 (dk_at dksX3_ending_0 17 rfl rfl)
theorem dX3_ending_18 : decode cX3_ending 18 = .ok (.iload_n 3, 1) := dk_29 (dk_at dksX3_ending_0 18 rfl rfl)
theorem dX3_ending_19 : decode cX3_ending 19 = .ok (.imul, 1) := dk_104 (dk_at dksX3_ending_0 19 rfl rfl)
theorem dX3_ending_20 : decode cX3_ending 20 = .ok (.iload_n 2, 1) := dk_28 (dk_at dksX3_ending_0 20 rfl rfl)
theorem dX3_ending_21 : decode cX3_ending 21 = .ok (.iadd, 1) := dk_96 (dk_at dksX3_ending_0 21 rfl rfl)
theorem dX3_ending_22 : decode cX3_ending 22 = .ok (.invokevirtual 47, 3) := dk_182 0 47 (dk_at dksX3_ending_1 0 rfl rfl)
theorem dX3_ending_25 : decode cX3_ending 25 = .ok (.ireturn, 1) := dk_172 (dk_at dksX3_ending_1 3 rfl rfl)
theorem q78 : (Jvm.Cond.initialized "GateGrammar$Lexicon") ∈ lw_all := lw_g (lw_at lw_m1 3 rfl) rfl
theorem q147 : (Jvm.Cond.instantiable "GateGrammar$Lexicon" (4 : Nat)) ∈ lw_all := lw_g (lw_at lw_m1 72 rfl) rfl
theorem q149 : (Jvm.Cond.instanceMethod ({ cls := "GateGrammar$Lexicon", name := "<init>", desc := "()V" } : Jvm.MethodName)) ∈ lw_all := lw_g (lw_at lw_m1 74 rfl) rfl
theorem q150 : (Jvm.Cond.code ({ cls := "GateGrammar$Lexicon", name := "<init>", desc := "()V" } : Jvm.MethodName) prog_10_method_1_code (1 : Nat) (Option.none : Option Jvm.ClassFile.FieldType)) ∈ lw_all := lw_g (lw_at lw_m1 75 rfl) rfl
theorem q151 : (Jvm.Cond.methodLink "GateGrammar$Lexicon" (3 : Nat) ({ cls := "java/lang/Object", name := "<init>", desc := "()V" } : Jvm.MethodName)) ∈ lw_all := lw_g (lw_at lw_m1 76 rfl) rfl
theorem q152 : (Jvm.Cond.fieldLink "GateGrammar$Lexicon" (9 : Nat) "GateGrammar$Lexicon" "genders" "[I") ∈ lw_all := lw_g (lw_at lw_m1 77 rfl) rfl
theorem q153 : (Jvm.Cond.fieldLink "GateGrammar$Lexicon" (15 : Nat) "GateGrammar$Lexicon" "objectCases" "[I") ∈ lw_all := lw_g (lw_at lw_m1 78 rfl) rfl
theorem q154 : (Jvm.Cond.fieldLink "GateGrammar$Lexicon" (19 : Nat) "GateGrammar$Lexicon" "nouns" "I") ∈ lw_all := lw_g (lw_at lw_m1 79 rfl) rfl
theorem q157 : (Jvm.Cond.fieldLink "GateGrammar$Lexicon" (23 : Nat) "GateGrammar$Lexicon" "verbs" "I") ∈ lw_all := lw_g (lw_at lw_m1 82 rfl) rfl
theorem q160 : (Jvm.Cond.laysFinal "GateGrammar$Lexicon" "GateGrammar$Lexicon" "genders" "[I") ∈ lw_all := lw_g (lw_at lw_m1 85 rfl) rfl
theorem q161 : (Jvm.Cond.soleField "GateGrammar$Lexicon" "genders") ∈ lw_all := lw_g (lw_at lw_m1 86 rfl) rfl
theorem q162 : (Jvm.Cond.laysFinal "GateGrammar$Lexicon" "GateGrammar$Lexicon" "objectCases" "[I") ∈ lw_all := lw_g (lw_at lw_m1 87 rfl) rfl
theorem q163 : (Jvm.Cond.soleField "GateGrammar$Lexicon" "objectCases") ∈ lw_all := lw_g (lw_at lw_m1 88 rfl) rfl
theorem q164 : (Jvm.Cond.lays "GateGrammar$Lexicon" "GateGrammar$Lexicon" "nouns" "I") ∈ lw_all := lw_g (lw_at lw_m1 89 rfl) rfl
theorem q165 : (Jvm.Cond.soleField "GateGrammar$Lexicon" "nouns") ∈ lw_all := lw_g (lw_at lw_m1 90 rfl) rfl
theorem q166 : (Jvm.Cond.lays "GateGrammar$Lexicon" "GateGrammar$Lexicon" "verbs" "I") ∈ lw_all := lw_g (lw_at lw_m1 91 rfl) rfl
theorem q167 : (Jvm.Cond.soleField "GateGrammar$Lexicon" "verbs") ∈ lw_all := lw_g (lw_at lw_m1 92 rfl) rfl
theorem q168 : (Jvm.Cond.superclass "GateGrammar$Lexicon" "java/lang/Object") ∈ lw_all := lw_g (lw_at lw_m1 93 rfl) rfl
theorem q596 : (Jvm.Cond.selects "GateGrammar$Lexicon" ({ cls := "java/lang/Object", name := "getClass", desc := "()Ljava/lang/Class;" } : Jvm.MethodName) ({ cls := "java/lang/Object", name := "getClass", desc := "()Ljava/lang/Class;" } : Jvm.MethodName)) ∈ lw_all := lw_g (lw_at lw_m3 41 rfl) rfl
theorem q1007 : (Jvm.Cond.instanceMethod ({ cls := "GateGrammar$Lexicon", name := "objectCase", desc := "(I)I" } : Jvm.MethodName)) ∈ lw_all := lw_g (lw_at lw_m4 212 rfl) rfl
theorem q1008 : (Jvm.Cond.selects "GateGrammar$Lexicon" ({ cls := "GateGrammar$Lexicon", name := "objectCase", desc := "(I)I" } : Jvm.MethodName) ({ cls := "GateGrammar$Lexicon", name := "objectCase", desc := "(I)I" } : Jvm.MethodName)) ∈ lw_all := lw_g (lw_at lw_m4 213 rfl) rfl
theorem q1009 : (Jvm.Cond.code ({ cls := "GateGrammar$Lexicon", name := "objectCase", desc := "(I)I" } : Jvm.MethodName) prog_10_method_7_code (2 : Nat) (Option.some Jvm.ClassFile.FieldType.int)) ∈ lw_all := lw_g (lw_at lw_m4 214 rfl) rfl
theorem q1010 : (Jvm.Cond.methodLinkNest "GateGrammar$Lexicon" (37 : Nat) ({ cls := "GateGrammar", name := "checkIndex", desc := "(II)V" } : Jvm.MethodName) "GateGrammar") ∈ lw_tbl := lw_at lw_m4 215 rfl
theorem q1546 : (Jvm.Cond.instanceMethod ({ cls := "GateGrammar$Lexicon", name := "copy", desc := "()LGateGrammar$Lexicon;" } : Jvm.MethodName)) ∈ lw_all := lw_g (lw_at lw_m7 31 rfl) rfl
theorem q1547 : (Jvm.Cond.selects "GateGrammar$Lexicon" ({ cls := "GateGrammar$Lexicon", name := "copy", desc := "()LGateGrammar$Lexicon;" } : Jvm.MethodName) ({ cls := "GateGrammar$Lexicon", name := "copy", desc := "()LGateGrammar$Lexicon;" } : Jvm.MethodName)) ∈ lw_all := lw_g (lw_at lw_m7 32 rfl) rfl
theorem q1548 : (Jvm.Cond.code ({ cls := "GateGrammar$Lexicon", name := "copy", desc := "()LGateGrammar$Lexicon;" } : Jvm.MethodName) prog_10_method_2_code (3 : Nat) (Option.some (Jvm.ClassFile.FieldType.object "GateGrammar$Lexicon"))) ∈ lw_all := lw_g (lw_at lw_m7 33 rfl) rfl
theorem q1549 : (Jvm.Cond.classLink "GateGrammar$Lexicon" (10 : Nat) "GateGrammar$Lexicon") ∈ lw_all := lw_g (lw_at lw_m7 34 rfl) rfl
theorem q1550 : (Jvm.Cond.methodLink "GateGrammar$Lexicon" (18 : Nat) ({ cls := "GateGrammar$Lexicon", name := "<init>", desc := "()V" } : Jvm.MethodName)) ∈ lw_all := lw_g (lw_at lw_m7 35 rfl) rfl
theorem q1574 : (Jvm.Cond.instanceMethod ({ cls := "GateGrammar$Lexicon", name := "addNoun", desc := "(I)I" } : Jvm.MethodName)) ∈ lw_all := lw_g (lw_at lw_m7 59 rfl) rfl
theorem q1575 : (Jvm.Cond.selects "GateGrammar$Lexicon" ({ cls := "GateGrammar$Lexicon", name := "addNoun", desc := "(I)I" } : Jvm.MethodName) ({ cls := "GateGrammar$Lexicon", name := "addNoun", desc := "(I)I" } : Jvm.MethodName)) ∈ lw_all := lw_g (lw_at lw_m7 60 rfl) rfl
theorem q1576 : (Jvm.Cond.code ({ cls := "GateGrammar$Lexicon", name := "addNoun", desc := "(I)I" } : Jvm.MethodName) prog_10_method_3_code (2 : Nat) (Option.some Jvm.ClassFile.FieldType.int)) ∈ lw_all := lw_g (lw_at lw_m7 61 rfl) rfl
theorem q1577 : (Jvm.Cond.methodLinkNest "GateGrammar$Lexicon" (26 : Nat) ({ cls := "GateGrammar", name := "isBetween", desc := "(III)Z" } : Jvm.MethodName) "GateGrammar") ∈ lw_tbl := lw_at lw_m7 62 rfl
theorem q1578 : (Jvm.Cond.methodLinkNest "GateGrammar$Lexicon" (30 : Nat) ({ cls := "GateGrammar", name := "checkArgument", desc := "(Z)V" } : Jvm.MethodName) "GateGrammar") ∈ lw_tbl := lw_at lw_m7 63 rfl
theorem q1586 : (Jvm.Cond.methodLinkNest "GateGrammar$Lexicon" (34 : Nat) ({ cls := "GateGrammar", name := "checkState", desc := "(Z)V" } : Jvm.MethodName) "GateGrammar") ∈ lw_tbl := lw_at lw_m7 71 rfl
theorem q1620 : (Jvm.Cond.instanceMethod ({ cls := "GateGrammar$Lexicon", name := "addVerb", desc := "(I)I" } : Jvm.MethodName)) ∈ lw_all := lw_g (lw_at lw_m7 105 rfl) rfl
theorem q1621 : (Jvm.Cond.selects "GateGrammar$Lexicon" ({ cls := "GateGrammar$Lexicon", name := "addVerb", desc := "(I)I" } : Jvm.MethodName) ({ cls := "GateGrammar$Lexicon", name := "addVerb", desc := "(I)I" } : Jvm.MethodName)) ∈ lw_all := lw_g (lw_at lw_m7 106 rfl) rfl
theorem q1622 : (Jvm.Cond.code ({ cls := "GateGrammar$Lexicon", name := "addVerb", desc := "(I)I" } : Jvm.MethodName) prog_10_method_4_code (2 : Nat) (Option.some Jvm.ClassFile.FieldType.int)) ∈ lw_all := lw_g (lw_at lw_m7 107 rfl) rfl
theorem q1647 : (Jvm.Cond.instanceMethod ({ cls := "GateGrammar$Lexicon", name := "setObjectCase", desc := "(II)I" } : Jvm.MethodName)) ∈ lw_all := lw_g (lw_at lw_m7 132 rfl) rfl
theorem q1648 : (Jvm.Cond.selects "GateGrammar$Lexicon" ({ cls := "GateGrammar$Lexicon", name := "setObjectCase", desc := "(II)I" } : Jvm.MethodName) ({ cls := "GateGrammar$Lexicon", name := "setObjectCase", desc := "(II)I" } : Jvm.MethodName)) ∈ lw_all := lw_g (lw_at lw_m7 133 rfl) rfl
theorem q1649 : (Jvm.Cond.code ({ cls := "GateGrammar$Lexicon", name := "setObjectCase", desc := "(II)I" } : Jvm.MethodName) prog_10_method_5_code (4 : Nat) (Option.some Jvm.ClassFile.FieldType.int)) ∈ lw_all := lw_g (lw_at lw_m7 134 rfl) rfl
theorem q1658 : (Jvm.Cond.instanceMethod ({ cls := "GateGrammar$Lexicon", name := "gender", desc := "(I)I" } : Jvm.MethodName)) ∈ lw_all := lw_g (lw_at lw_m7 143 rfl) rfl
theorem q1659 : (Jvm.Cond.selects "GateGrammar$Lexicon" ({ cls := "GateGrammar$Lexicon", name := "gender", desc := "(I)I" } : Jvm.MethodName) ({ cls := "GateGrammar$Lexicon", name := "gender", desc := "(I)I" } : Jvm.MethodName)) ∈ lw_all := lw_g (lw_at lw_m7 144 rfl) rfl
theorem q1660 : (Jvm.Cond.code ({ cls := "GateGrammar$Lexicon", name := "gender", desc := "(I)I" } : Jvm.MethodName) prog_10_method_6_code (2 : Nat) (Option.some Jvm.ClassFile.FieldType.int)) ∈ lw_all := lw_g (lw_at lw_m7 145 rfl) rfl
theorem q1676 : (Jvm.Cond.instanceMethod ({ cls := "GateGrammar$Lexicon", name := "ending", desc := "(II)C" } : Jvm.MethodName)) ∈ lw_all := lw_g (lw_at lw_m7 161 rfl) rfl
theorem q1677 : (Jvm.Cond.selects "GateGrammar$Lexicon" ({ cls := "GateGrammar$Lexicon", name := "ending", desc := "(II)C" } : Jvm.MethodName) ({ cls := "GateGrammar$Lexicon", name := "ending", desc := "(II)C" } : Jvm.MethodName)) ∈ lw_all := lw_g (lw_at lw_m7 162 rfl) rfl
theorem q1678 : (Jvm.Cond.code ({ cls := "GateGrammar$Lexicon", name := "ending", desc := "(II)C" } : Jvm.MethodName) prog_10_method_8_code (4 : Nat) (Option.some Jvm.ClassFile.FieldType.char)) ∈ lw_all := lw_g (lw_at lw_m7 163 rfl) rfl
theorem q1679 : (Jvm.Cond.methodLink "GateGrammar$Lexicon" (41 : Nat) ({ cls := "GateGrammar$Lexicon", name := "gender", desc := "(I)I" } : Jvm.MethodName)) ∈ lw_all := lw_g (lw_at lw_m7 164 rfl) rfl
theorem q1680 : (Jvm.Cond.stringRef "GateGrammar$Lexicon" (45 : Nat) "aeiourstlnmk") ∈ lw_tbl := lw_at lw_m7 165 rfl
theorem q1681 : (Jvm.Cond.methodLink "GateGrammar$Lexicon" (47 : Nat) ({ cls := "java/lang/String", name := "charAt", desc := "(I)C" } : Jvm.MethodName)) ∈ lw_all := lw_g (lw_at lw_m7 166 rfl) rfl
theorem q3037 : (Jvm.Cond.castable "GateGrammar$Lexicon" "GateGrammar$Copyable") ∈ lw_tbl := lw_at lw_m13 82 rfl
theorem q3043 : (Jvm.Cond.castable "GateGrammar$Lexicon" "java/lang/Object") ∈ lw_tbl := lw_at lw_m13 88 rfl
theorem in_X3 : ∀ w ∈ wsX30, w ∈ lw_all := lw_in wsX30 [160, 162, 164, 166] (by decide +kernel) (by decide +kernel)

/-! GateGrammar$Gate -/
set_option maxRecDepth 100000
def RX4 : String := "GateGrammar$Gate"
def TX4 : u_T := fun k => match k with
  | 0 => ("GateGrammar$Gate", "number", "I", true)
  | 1 => ("GateGrammar$Gate", "tokens", "Ljava/util/ArrayList;", true)
  | _ => ("GateGrammar$Gate", "walks", "I", false)
def tyX4 : Nat → FieldType := fun k => match k with
  | 0 => .int
  | 1 => .object "java/util/ArrayList"
  | _ => .int
abbrev wsX40 : List Cond := u_ws RX4 TX4 3
theorem nmX4 : ∀ a, a < 3 → ∀ b, b < 3 → a ≠ b → (TX4 a).2.1 ≠ (TX4 b).2.1 := by decide +kernel
theorem tyX4_ok : ∀ k, k < 3 → parseFieldDescriptor (TX4 k).2.2.1 = some (tyX4 k) := by decide +kernel
abbrev cX4_init : ByteArray := prog_7_method_1_code
def yX4_init : MethodName := ⟨RX4, "<init>", "(I)V"⟩
def dkwX4_init_0 : List UInt8 := [42, 183, 0, 3, 42, 187, 0, 9, 89, 16, 24, 183, 0, 11, 181, 0, 14, 42, 27, 181, 0, 20, 177]
abbrev dktX4_init_0 : List UInt8 := dkwX4_init_0 ++ []
theorem dksX4_init_0 : cX4_init.data.toList.drop 0 = dktX4_init_0 := by decide +kernel
theorem dX4_init_0 : decode cX4_init 0 = .ok (.aload_n 0, 1) := dk_42 (dk_at dksX4_init_0 0 rfl rfl)
theorem dX4_init_1 : decode cX4_init 1 = .ok (.invokespecial 3, 3) := dk_183 0 3 (dk_at dksX4_init_0 1 rfl rfl)
theorem dX4_init_4 : decode cX4_init 4 = .ok (.aload_n 0, 1) := dk_42 (dk_at dksX4_init_0 4 rfl rfl)
theorem dX4_init_5 : decode cX4_init 5 = .ok (.new 9, 3) := dk_187 0 9 (dk_at dksX4_init_0 5 rfl rfl)
theorem dX4_init_8 : decode cX4_init 8 = .ok (.dup, 1) := dk_89 (dk_at dksX4_init_0 8 rfl rfl)
theorem dX4_init_9 : decode cX4_init 9 = .ok (.bipush 24, 2) := dk_16 24 (dk_at dksX4_init_0 9 rfl rfl)
theorem dX4_init_11 : decode cX4_init 11 = .ok (.invokespecial 11, 3) := dk_183 0 11 (dk_at dksX4_init_0 11 rfl rfl)
theorem dX4_init_14 : decode cX4_init 14 = .ok (.putfield 14, 3) := dk_181 0 14 (dk_at dksX4_init_0 14 rfl rfl)
theorem dX4_init_17 : decode cX4_init 17 = .ok (.aload_n 0, 1) := dk_42 (dk_at dksX4_init_0 17 rfl rfl)
theorem dX4_init_18 : decode cX4_init 18 = .ok (.iload_n 1, 1) := dk_27 (dk_at dksX4_init_0 18 rfl rfl)
theorem dX4_init_19 : decode cX4_init 19 = .ok (.putfield 20, 3) := dk_181 0 20 (dk_at dksX4_init_0 19 rfl rfl)
theorem dX4_init_22 : decode cX4_init 22 = .ok (.return_, 1) := dk_177 (dk_at dksX4_init_0 22 rfl rfl)
abbrev cX4_copy : ByteArray := prog_7_method_2_code
def yX4_copy : MethodName := ⟨RX4, "copy", "()LGateGrammar$Gate;"⟩
def dkwX4_copy_2 : List UInt8 := [182, 0, 41, 87, 167, 255, 228, 43, 42, 180, 0, 45, 181, 0, 45, 43, 176]
abbrev dktX4_copy_2 : List UInt8 := dkwX4_copy_2 ++ []
def dkwX4_copy_1 : List UInt8 := [185, 0, 29, 1, 0, 153, 0, 25, 44, 185, 0, 35, 1, 0, 192, 0, 39, 78, 43, 180, 0, 14, 45]
abbrev dktX4_copy_1 : List UInt8 := dkwX4_copy_1 ++ dktX4_copy_2
def dkwX4_copy_0 : List UInt8 := [187, 0, 15, 89, 42, 180, 0, 20, 183, 0, 24, 76, 42, 180, 0, 14, 182, 0, 25, 77, 44]
abbrev dktX4_copy_0 : List UInt8 := dkwX4_copy_0 ++ dktX4_copy_1
theorem dksX4_copy_0 : cX4_copy.data.toList.drop 0 = dktX4_copy_0 := by decide +kernel
theorem dksX4_copy_1 : cX4_copy.data.toList.drop 21 = dktX4_copy_1 := dk_seg dksX4_copy_0 21 rfl rfl
theorem dksX4_copy_2 : cX4_copy.data.toList.drop 44 = dktX4_copy_2 := dk_seg dksX4_copy_1 23 rfl rfl
theorem dX4_copy_0 : decode cX4_copy 0 = .ok (.new 15, 3) := dk_187 0 15 (dk_at dksX4_copy_0 0 rfl rfl)
theorem dX4_copy_3 : decode cX4_copy 3 = .ok (.dup, 1) := dk_89 (dk_at dksX4_copy_0 3 rfl rfl)
theorem dX4_copy_4 : decode cX4_copy 4 = .ok (.aload_n 0, 1) := dk_42 (dk_at dksX4_copy_0 4 rfl rfl)
theorem dX4_copy_5 : decode cX4_copy 5 = .ok (.getfield 20, 3) := dk_180 0 20 (dk_at dksX4_copy_0 5 rfl rfl)
theorem dX4_copy_8 : decode cX4_copy 8 = .ok (.invokespecial 24, 3) := dk_183 0 24 (dk_at dksX4_copy_0 8 rfl rfl)
theorem dX4_copy_11 : decode cX4_copy 11 = .ok (.astore_n 1, 1) := dk_76 (dk_at dksX4_copy_0 11 rfl rfl)
theorem dX4_copy_12 : decode cX4_copy 12 = .ok (.aload_n 0, 1) := dk_42 (dk_at dksX4_copy_0 12 rfl rfl)
theorem dX4_copy_13 : decode cX4_copy 13 = .ok (.getfield 14, 3) := dk_180 0 14 (dk_at dksX4_copy_0 13 rfl rfl)
theorem dX4_copy_16 : decode cX4_copy 16 = .ok (.invokevirtual 25, 3) := dk_182 0 25 (dk_at dksX4_copy_0 16 rfl rfl)
theorem dX4_copy_19 : decode cX4_copy 19 = .ok (.astore_n 2, 1) := dk_77 (dk_at dksX4_copy_0 19 rfl rfl)
theorem dX4_copy_20 : decode cX4_copy 20 = .ok (.aload_n 2, 1) := dk_44 (dk_at dksX4_copy_0 20 rfl rfl)
theorem dX4_copy_21 : decode cX4_copy 21 = .ok (.invokeinterface 29 1, 5) := by decide +kernel
theorem dX4_copy_26 : decode cX4_copy 26 = .ok (.ifCond .eq 25, 3) := dk_153 0 25 (dk_at dksX4_copy_1 5 rfl rfl)
theorem dX4_copy_29 : decode cX4_copy 29 = .ok (.aload_n 2, 1) := dk_44 (dk_at dksX4_copy_1 8 rfl rfl)
theorem dX4_copy_30 : decode cX4_copy 30 = .ok (.invokeinterface 35 1, 5) := by decide +kernel
theorem dX4_copy_35 : decode cX4_copy 35 = .ok (.checkcast 39, 3) := dk_192 0 39 (dk_at dksX4_copy_1 14 rfl rfl)
theorem dX4_copy_38 : decode cX4_copy 38 = .ok (.astore_n 3, 1) := dk_78 (dk_at dksX4_copy_1 17 rfl rfl)
theorem dX4_copy_39 : decode cX4_copy 39 = .ok (.aload_n 1, 1) := dk_43 (dk_at dksX4_copy_1 18 rfl rfl)
theorem dX4_copy_40 : decode cX4_copy 40 = .ok (.getfield 14, 3) := dk_180 0 14 (dk_at dksX4_copy_1 19 rfl rfl)
theorem dX4_copy_43 : decode cX4_copy 43 = .ok (.aload_n 3, 1) := dk_45 (dk_at dksX4_copy_1 22 rfl rfl)
theorem dX4_copy_44 : decode cX4_copy 44 = .ok (.invokevirtual 41, 3) := dk_182 0 41 (dk_at dksX4_copy_2 0 rfl rfl)
theorem dX4_copy_47 : decode cX4_copy 47 = .ok (.pop, 1) := dk_87 (dk_at dksX4_copy_2 3 rfl rfl)
theorem dX4_copy_48 : decode cX4_copy 48 = .ok (.goto (-28), 3) := dk_167 255 228 (dk_at dksX4_copy_2 4 rfl rfl)
theorem dX4_copy_51 : decode cX4_copy 51 = .ok (.aload_n 1, 1) := dk_43 (dk_at dksX4_copy_2 7 rfl rfl)
theorem dX4_copy_52 : decode cX4_copy 52 = .ok (.aload_n 0, 1) := dk_42 (dk_at dksX4_copy_2 8 rfl rfl)
theorem dX4_copy_53 : decode cX4_copy 53 = .ok (.getfield 45, 3) := dk_180 0 45 (dk_at dksX4_copy_2 9 rfl rfl)
theorem dX4_copy_56 : decode cX4_copy 56 = .ok (.putfield 45, 3) := dk_181 0 45 (dk_at dksX4_copy_2 12 rfl rfl)
theorem dX4_copy_59 : decode cX4_copy 59 = .ok (.aload_n 1, 1) := dk_43 (dk_at dksX4_copy_2 15 rfl rfl)
theorem dX4_copy_60 : decode cX4_copy 60 = .ok (.areturn, 1) := dk_176 (dk_at dksX4_copy_2 16 rfl rfl)
abbrev cX4_add : ByteArray := prog_7_method_4_code
def yX4_add : MethodName := ⟨RX4, "add", "(LGateGrammar$Token;)I"⟩
def dkwX4_add_0 : List UInt8 := [42, 182, 0, 56, 42, 180, 0, 14, 43, 182, 0, 41, 87, 42, 180, 0, 14, 182, 0, 48, 172]
abbrev dktX4_add_0 : List UInt8 := dkwX4_add_0 ++ []
theorem dksX4_add_0 : cX4_add.data.toList.drop 0 = dktX4_add_0 := by decide +kernel
theorem dX4_add_0 : decode cX4_add 0 = .ok (.aload_n 0, 1) := dk_42 (dk_at dksX4_add_0 0 rfl rfl)
theorem dX4_add_1 : decode cX4_add 1 = .ok (.invokevirtual 56, 3) := dk_182 0 56 (dk_at dksX4_add_0 1 rfl rfl)
theorem dX4_add_4 : decode cX4_add 4 = .ok (.aload_n 0, 1) := dk_42 (dk_at dksX4_add_0 4 rfl rfl)
theorem dX4_add_5 : decode cX4_add 5 = .ok (.getfield 14, 3) := dk_180 0 14 (dk_at dksX4_add_0 5 rfl rfl)
theorem dX4_add_8 : decode cX4_add 8 = .ok (.aload_n 1, 1) := dk_43 (dk_at dksX4_add_0 8 rfl rfl)
theorem dX4_add_9 : decode cX4_add 9 = .ok (.invokevirtual 41, 3) := dk_182 0 41 (dk_at dksX4_add_0 9 rfl rfl)
theorem dX4_add_12 : decode cX4_add 12 = .ok (.pop, 1) := dk_87 (dk_at dksX4_add_0 12 rfl rfl)
theorem dX4_add_13 : decode cX4_add 13 = .ok (.aload_n 0, 1) := dk_42 (dk_at dksX4_add_0 13 rfl rfl)
theorem dX4_add_14 : decode cX4_add 14 = .ok (.getfield 14, 3) := dk_180 0 14 (dk_at dksX4_add_0 14 rfl rfl)
theorem dX4_add_17 : decode cX4_add 17 = .ok (.invokevirtual 48, 3) := dk_182 0 48 (dk_at dksX4_add_0 17 rfl rfl)
theorem dX4_add_20 : decode cX4_add 20 = .ok (.ireturn, 1) := dk_172 (dk_at dksX4_add_0 20 rfl rfl)
abbrev cX4_checkRoom : ByteArray := prog_7_method_3_code
def yX4_checkRoom : MethodName := ⟨RX4, "checkRoom", "()V"⟩
def dkwX4_checkRoom_0 : List UInt8 := [42, 180, 0, 14, 182, 0, 48, 16, 24, 162, 0, 7, 4, 167, 0, 4, 3, 184, 0, 52, 177]
abbrev dktX4_checkRoom_0 : List UInt8 := dkwX4_checkRoom_0 ++ []
theorem dksX4_checkRoom_0 : cX4_checkRoom.data.toList.drop 0 = dktX4_checkRoom_0 := by decide +kernel
theorem dX4_checkRoom_0 : decode cX4_checkRoom 0 = .ok (.aload_n 0, 1) := dk_42 (dk_at dksX4_checkRoom_0 0 rfl rfl)
theorem dX4_checkRoom_1 : decode cX4_checkRoom 1 = .ok (.getfield 14, 3) := dk_180 0 14 (dk_at dksX4_checkRoom_0 1 rfl rfl)
theorem dX4_checkRoom_4 : decode cX4_checkRoom 4 = .ok (.invokevirtual 48, 3) := dk_182 0 48 (dk_at dksX4_checkRoom_0 4 rfl rfl)
theorem dX4_checkRoom_7 : decode cX4_checkRoom 7 = .ok (.bipush 24, 2) := dk_16 24 (dk_at dksX4_checkRoom_0 7 rfl rfl)
theorem dX4_checkRoom_9 : decode cX4_checkRoom 9 = .ok (.if_icmp .ge 7, 3) := dk_162 0 7 (dk_at dksX4_checkRoom_0 9 rfl rfl)
theorem dX4_checkRoom_12 : decode cX4_checkRoom 12 = .ok (.iconst 1, 1) := dk_4 (dk_at dksX4_checkRoom_0 12 rfl rfl)
theorem dX4_checkRoom_13 : decode cX4_checkRoom 13 = .ok (.goto 4, 3) := dk_167 0 4 (dk_at dksX4_checkRoom_0 13 rfl rfl)
theorem dX4_checkRoom_16 : decode cX4_checkRoom 16 = .ok (.iconst 0, 1) := dk_3 (dk_at dksX4_checkRoom_0 16 rfl rfl)
theorem dX4_checkRoom_17 : decode cX4_checkRoom 17 = .ok (.invokestatic 52, 3) := dk_184 0 52 (dk_at dksX4_checkRoom_0 17 rfl rfl)
theorem dX4_checkRoom_20 : decode cX4_checkRoom 20 = .ok (.return_, 1) := dk_177 (dk_at dksX4_checkRoom_0 20 rfl rfl)
abbrev cX4_removeLast : ByteArray := prog_7_method_5_code
def yX4_removeLast : MethodName := ⟨RX4, "removeLast", "()I"⟩
def dkwX4_removeLast_1 : List UInt8 := [180, 0, 14, 182, 0, 48, 4, 100, 182, 0, 62, 192, 0, 39, 180, 0, 66, 172]
abbrev dktX4_removeLast_1 : List UInt8 := dkwX4_removeLast_1 ++ []
def dkwX4_removeLast_0 : List UInt8 := [42, 180, 0, 14, 182, 0, 59, 154, 0, 7, 4, 167, 0, 4, 3, 184, 0, 52, 42, 180, 0, 14, 42]
abbrev dktX4_removeLast_0 : List UInt8 := dkwX4_removeLast_0 ++ dktX4_removeLast_1
theorem dksX4_removeLast_0 : cX4_removeLast.data.toList.drop 0 = dktX4_removeLast_0 := by decide +kernel
theorem dksX4_removeLast_1 : cX4_removeLast.data.toList.drop 23 = dktX4_removeLast_1 := dk_seg dksX4_removeLast_0 23 rfl rfl
theorem dX4_removeLast_0 : decode cX4_removeLast 0 = .ok (.aload_n 0, 1) := dk_42 (dk_at dksX4_removeLast_0 0 rfl rfl)
theorem dX4_removeLast_1 : decode cX4_removeLast 1 = .ok (.getfield 14, 3) := dk_180 0 14 (dk_at dksX4_removeLast_0 1 rfl rfl)
theorem dX4_removeLast_4 : decode cX4_removeLast 4 = .ok (.invokevirtual 59, 3) := dk_182 0 59 (dk_at dksX4_removeLast_0 4 rfl rfl)
theorem dX4_removeLast_7 : decode cX4_removeLast 7 = .ok (.ifCond .ne 7, 3) := dk_154 0 7 (dk_at dksX4_removeLast_0 7 rfl rfl)
theorem dX4_removeLast_10 : decode cX4_removeLast 10 = .ok (.iconst 1, 1) := dk_4 (dk_at dksX4_removeLast_0 10 rfl rfl)
theorem dX4_removeLast_11 : decode cX4_removeLast 11 = .ok (.goto 4, 3) := dk_167 0 4 (dk_at dksX4_removeLast_0 11 rfl rfl)
theorem dX4_removeLast_14 : decode cX4_removeLast 14 = .ok (.iconst 0, 1) := dk_3 (dk_at dksX4_removeLast_0 14 rfl rfl)
theorem dX4_removeLast_15 : decode cX4_removeLast 15 = .ok (.invokestatic 52, 3) := dk_184 0 52 (dk_at dksX4_removeLast_0 15 rfl rfl)
theorem dX4_removeLast_18 : decode cX4_removeLast 18 = .ok (.aload_n 0, 1) := dk_42 (dk_at dksX4_removeLast_0 18 rfl rfl)
theorem dX4_removeLast_19 : decode cX4_removeLast 19 = .ok (.getfield 14, 3) := dk_180 0 14 (dk_at dksX4_removeLast_0 19 rfl rfl)
theorem dX4_removeLast_22 : decode cX4_removeLast 22 = .ok (.aload_n 0, 1) := dk_42 (dk_at dksX4_removeLast_0 22 rfl rfl)
theorem dX4_removeLast_23 : decode cX4_removeLast 23 = .ok (.getfield 14, 3) := dk_180 0 14 (dk_at dksX4_removeLast_1 0 rfl rfl)
theorem dX4_removeLast_26 : decode cX4_removeLast 26 = .ok (.invokevirtual 48, 3) := dk_182 0 48 (dk_at dksX4_removeLast_1 3 rfl rfl)
theorem dX4_removeLast_29 : decode cX4_removeLast 29 = .ok (.iconst 1, 1) := dk_4 (dk_at dksX4_removeLast_1 6 rfl rfl)
theorem dX4_removeLast_30 : decode cX4_removeLast 30 = .ok (.isub, 1) := dk_100 (dk_at dksX4_removeLast_1 7 rfl rfl)
theorem dX4_removeLast_31 : decode cX4_removeLast 31 = .ok (.invokevirtual 62, 3) := dk_182 0 62 (dk_at dksX4_removeLast_1 8 rfl rfl)
theorem dX4_removeLast_34 : decode cX4_removeLast 34 = .ok (.checkcast 39, 3) := dk_192 0 39 (dk_at dksX4_removeLast_1 11 rfl rfl)
theorem dX4_removeLast_37 : decode cX4_removeLast 37 = .ok (.getfield 66, 3) := dk_180 0 66 (dk_at dksX4_removeLast_1 14 rfl rfl)
theorem dX4_removeLast_40 : decode cX4_removeLast 40 = .ok (.ireturn, 1) := dk_172 (dk_at dksX4_removeLast_1 17 rfl rfl)
abbrev cX4_clear : ByteArray := prog_7_method_6_code
def yX4_clear : MethodName := ⟨RX4, "clear", "()I"⟩
def dkwX4_clear_0 : List UInt8 := [42, 180, 0, 14, 182, 0, 48, 60, 42, 180, 0, 14, 182, 0, 69, 27, 172]
abbrev dktX4_clear_0 : List UInt8 := dkwX4_clear_0 ++ []
theorem dksX4_clear_0 : cX4_clear.data.toList.drop 0 = dktX4_clear_0 := by decide +kernel
theorem dX4_clear_0 : decode cX4_clear 0 = .ok (.aload_n 0, 1) := dk_42 (dk_at dksX4_clear_0 0 rfl rfl)
theorem dX4_clear_1 : decode cX4_clear 1 = .ok (.getfield 14, 3) := dk_180 0 14 (dk_at dksX4_clear_0 1 rfl rfl)
theorem dX4_clear_4 : decode cX4_clear 4 = .ok (.invokevirtual 48, 3) := dk_182 0 48 (dk_at dksX4_clear_0 4 rfl rfl)
theorem dX4_clear_7 : decode cX4_clear 7 = .ok (.istore_n 1, 1) := dk_60 (dk_at dksX4_clear_0 7 rfl rfl)
theorem dX4_clear_8 : decode cX4_clear 8 = .ok (.aload_n 0, 1) := dk_42 (dk_at dksX4_clear_0 8 rfl rfl)
theorem dX4_clear_9 : decode cX4_clear 9 = .ok (.getfield 14, 3) := dk_180 0 14 (dk_at dksX4_clear_0 9 rfl rfl)
theorem dX4_clear_12 : decode cX4_clear 12 = .ok (.invokevirtual 69, 3) := dk_182 0 69 (dk_at dksX4_clear_0 12 rfl rfl)
theorem dX4_clear_15 : decode cX4_clear 15 = .ok (.iload_n 1, 1) := dk_27 (dk_at dksX4_clear_0 15 rfl rfl)
theorem dX4_clear_16 : decode cX4_clear 16 = .ok (.ireturn, 1) := dk_172 (dk_at dksX4_clear_0 16 rfl rfl)
abbrev cX4_rotate : ByteArray := prog_7_method_7_code
def yX4_rotate : MethodName := ⟨RX4, "rotate", "(I)V"⟩
def dkwX4_rotate_5 : List UInt8 := [192, 0, 39, 58, 4, 42, 180, 0, 14, 25, 4, 182, 0, 41, 87, 167, 255, 226, 177]
abbrev dktX4_rotate_5 : List UInt8 := dkwX4_rotate_5 ++ []
def dkwX4_rotate_4 : List UInt8 := [182, 0, 69, 44, 182, 0, 25, 78, 45, 185, 0, 29, 1, 0, 153, 0, 27, 45, 185, 0, 35, 1, 0]
abbrev dktX4_rotate_4 : List UInt8 := dkwX4_rotate_4 ++ dktX4_rotate_5
def dkwX4_rotate_3 : List UInt8 := [180, 0, 14, 29, 182, 0, 72, 192, 0, 39, 182, 0, 41, 87, 132, 3, 1, 167, 255, 230, 42, 180, 0, 14]
abbrev dktX4_rotate_3 : List UInt8 := dkwX4_rotate_3 ++ dktX4_rotate_4
def dkwX4_rotate_2 : List UInt8 := [187, 0, 39, 89, 7, 183, 0, 75, 182, 0, 41, 87, 3, 62, 29, 27, 4, 100, 162, 0, 25, 44, 42]
abbrev dktX4_rotate_2 : List UInt8 := dkwX4_rotate_2 ++ dktX4_rotate_3
def dkwX4_rotate_1 : List UInt8 := [42, 180, 0, 14, 29, 182, 0, 72, 192, 0, 39, 182, 0, 41, 87, 132, 3, 1, 167, 255, 226, 44]
abbrev dktX4_rotate_1 : List UInt8 := dkwX4_rotate_1 ++ dktX4_rotate_2
def dkwX4_rotate_0 : List UInt8 := [187, 0, 9, 89, 16, 24, 183, 0, 11, 77, 27, 62, 29, 42, 180, 0, 14, 182, 0, 48, 162, 0, 25, 44]
abbrev dktX4_rotate_0 : List UInt8 := dkwX4_rotate_0 ++ dktX4_rotate_1
theorem dksX4_rotate_0 : cX4_rotate.data.toList.drop 0 = dktX4_rotate_0 := by decide +kernel
theorem dksX4_rotate_1 : cX4_rotate.data.toList.drop 24 = dktX4_rotate_1 := dk_seg dksX4_rotate_0 24 rfl rfl
theorem dksX4_rotate_2 : cX4_rotate.data.toList.drop 46 = dktX4_rotate_2 := dk_seg dksX4_rotate_1 22 rfl rfl
theorem dksX4_rotate_3 : cX4_rotate.data.toList.drop 69 = dktX4_rotate_3 := dk_seg dksX4_rotate_2 23 rfl rfl
theorem dksX4_rotate_4 : cX4_rotate.data.toList.drop 93 = dktX4_rotate_4 := dk_seg dksX4_rotate_3 24 rfl rfl
theorem dksX4_rotate_5 : cX4_rotate.data.toList.drop 116 = dktX4_rotate_5 := dk_seg dksX4_rotate_4 23 rfl rfl
theorem dX4_rotate_0 : decode cX4_rotate 0 = .ok (.new 9, 3) := dk_187 0 9 (dk_at dksX4_rotate_0 0 rfl rfl)
theorem dX4_rotate_3 : decode cX4_rotate 3 = .ok (.dup, 1) := dk_89 (dk_at dksX4_rotate_0 3 rfl rfl)
theorem dX4_rotate_4 : decode cX4_rotate 4 = .ok (.bipush 24, 2) := dk_16 24 (dk_at dksX4_rotate_0 4 rfl rfl)
theorem dX4_rotate_6 : decode cX4_rotate 6 = .ok (.invokespecial 11, 3) := dk_183 0 11 (dk_at dksX4_rotate_0 6 rfl rfl)
theorem dX4_rotate_9 : decode cX4_rotate 9 = .ok (.astore_n 2, 1) := dk_77 (dk_at dksX4_rotate_0 9 rfl rfl)
theorem dX4_rotate_10 : decode cX4_rotate 10 = .ok (.iload_n 1, 1) := dk_27 (dk_at dksX4_rotate_0 10 rfl rfl)
theorem dX4_rotate_11 : decode cX4_rotate 11 = .ok (.istore_n 3, 1) := dk_62 (dk_at dksX4_rotate_0 11 rfl rfl)
theorem dX4_rotate_12 : decode cX4_rotate 12 = .ok (.iload_n 3, 1) := dk_29 (dk_at dksX4_rotate_0 12 rfl rfl)
theorem dX4_rotate_13 : decode cX4_rotate 13 = .ok (.aload_n 0, 1) := dk_42 (dk_at dksX4_rotate_0 13 rfl rfl)
theorem dX4_rotate_14 : decode cX4_rotate 14 = .ok (.getfield 14, 3) := dk_180 0 14 (dk_at dksX4_rotate_0 14 rfl rfl)
theorem dX4_rotate_17 : decode cX4_rotate 17 = .ok (.invokevirtual 48, 3) := dk_182 0 48 (dk_at dksX4_rotate_0 17 rfl rfl)
theorem dX4_rotate_20 : decode cX4_rotate 20 = .ok (.if_icmp .ge 25, 3) := dk_162 0 25 (dk_at dksX4_rotate_0 20 rfl rfl)
theorem dX4_rotate_23 : decode cX4_rotate 23 = .ok (.aload_n 2, 1) := dk_44 (dk_at dksX4_rotate_0 23 rfl rfl)
theorem dX4_rotate_24 : decode cX4_rotate 24 = .ok (.aload_n 0, 1) := dk_42 (dk_at dksX4_rotate_1 0 rfl rfl)
theorem dX4_rotate_25 : decode cX4_rotate 25 = .ok (.getfield 14, 3) := dk_180 0 14 (dk_at dksX4_rotate_1 1 rfl rfl)
theorem dX4_rotate_28 : decode cX4_rotate 28 = .ok (.iload_n 3, 1) := dk_29 (dk_at dksX4_rotate_1 4 rfl rfl)
theorem dX4_rotate_29 : decode cX4_rotate 29 = .ok (.invokevirtual 72, 3) := dk_182 0 72 (dk_at dksX4_rotate_1 5 rfl rfl)
theorem dX4_rotate_32 : decode cX4_rotate 32 = .ok (.checkcast 39, 3) := dk_192 0 39 (dk_at dksX4_rotate_1 8 rfl rfl)
theorem dX4_rotate_35 : decode cX4_rotate 35 = .ok (.invokevirtual 41, 3) := dk_182 0 41 (dk_at dksX4_rotate_1 11 rfl rfl)
theorem dX4_rotate_38 : decode cX4_rotate 38 = .ok (.pop, 1) := dk_87 (dk_at dksX4_rotate_1 14 rfl rfl)
theorem dX4_rotate_39 : decode cX4_rotate 39 = .ok (.iinc 3 1, 3) := dk_132 3 1 (dk_at dksX4_rotate_1 15 rfl rfl)
theorem dX4_rotate_42 : decode cX4_rotate 42 = .ok (.goto (-30), 3) := dk_167 255 226 (dk_at dksX4_rotate_1 18 rfl rfl)
theorem dX4_rotate_45 : decode cX4_rotate 45 = .ok (.aload_n 2, 1) := dk_44 (dk_at dksX4_rotate_1 21 rfl rfl)
theorem dX4_rotate_46 : decode cX4_rotate 46 = .ok (.new 39, 3) := dk_187 0 39 (dk_at dksX4_rotate_2 0 rfl rfl)
theorem dX4_rotate_49 : decode cX4_rotate 49 = .ok (.dup, 1) := dk_89 (dk_at dksX4_rotate_2 3 rfl rfl)
theorem dX4_rotate_50 : decode cX4_rotate 50 = .ok (.iconst 4, 1) := dk_7 (dk_at dksX4_rotate_2 4 rfl rfl)
theorem dX4_rotate_51 : decode cX4_rotate 51 = .ok (.invokespecial 75, 3) := dk_183 0 75 (dk_at dksX4_rotate_2 5 rfl rfl)
theorem dX4_rotate_54 : decode cX4_rotate 54 = .ok (.invokevirtual 41, 3) := dk_182 0 41 (dk_at dksX4_rotate_2 8 rfl rfl)
theorem dX4_rotate_57 : decode cX4_rotate 57 = .ok (.pop, 1) := dk_87 (dk_at dksX4_rotate_2 11 rfl rfl)
theorem dX4_rotate_58 : decode cX4_rotate 58 = .ok (.iconst 0, 1) := dk_3 (dk_at dksX4_rotate_2 12 rfl rfl)
theorem dX4_rotate_59 : decode cX4_rotate 59 = .ok (.istore_n 3, 1) := dk_62 (dk_at dksX4_rotate_2 13 rfl rfl)
theorem dX4_rotate_60 : decode cX4_rotate 60 = .ok (.iload_n 3, 1) := dk_29 (dk_at dksX4_rotate_2 14 rfl rfl)
theorem dX4_rotate_61 : decode cX4_rotate 61 = .ok (.iload_n 1, 1) := dk_27 (dk_at dksX4_rotate_2 15 rfl rfl)
theorem dX4_rotate_62 : decode cX4_rotate 62 = .ok (.iconst 1, 1) := dk_4 (dk_at dksX4_rotate_2 16 rfl rfl)
theorem dX4_rotate_63 : decode cX4_rotate 63 = .ok (.isub, 1) := dk_100 (dk_at dksX4_rotate_2 17 rfl rfl)
theorem dX4_rotate_64 : decode cX4_rotate 64 = .ok (.if_icmp .ge 25, 3) := dk_162 0 25 (dk_at dksX4_rotate_2 18 rfl rfl)
theorem dX4_rotate_67 : decode cX4_rotate 67 = .ok (.aload_n 2, 1) := dk_44 (dk_at dksX4_rotate_2 21 rfl rfl)
theorem dX4_rotate_68 : decode cX4_rotate 68 = .ok (.aload_n 0, 1) := dk_42 (dk_at dksX4_rotate_2 22 rfl rfl)
theorem dX4_rotate_69 : decode cX4_rotate 69 = .ok (.getfield 14, 3) := dk_180 0 14 (dk_at dksX4_rotate_3 0 rfl rfl)
theorem dX4_rotate_72 : decode cX4_rotate 72 = .ok (.iload_n 3, 1) := dk_29 (dk_at dksX4_rotate_3 3 rfl rfl)
theorem dX4_rotate_73 : decode cX4_rotate 73 = .ok (.invokevirtual 72, 3) := dk_182 0 72 (dk_at dksX4_rotate_3 4 rfl rfl)
theorem dX4_rotate_76 : decode cX4_rotate 76 = .ok (.checkcast 39, 3) := dk_192 0 39 (dk_at dksX4_rotate_3 7 rfl rfl)
theorem dX4_rotate_79 : decode cX4_rotate 79 = .ok (.invokevirtual 41, 3) := dk_182 0 41 (dk_at dksX4_rotate_3 10 rfl rfl)
theorem dX4_rotate_82 : decode cX4_rotate 82 = .ok (.pop, 1) := dk_87 (dk_at dksX4_rotate_3 13 rfl rfl)
theorem dX4_rotate_83 : decode cX4_rotate 83 = .ok (.iinc 3 1, 3) := dk_132 3 1 (dk_at dksX4_rotate_3 14 rfl rfl)
theorem dX4_rotate_86 : decode cX4_rotate 86 = .ok (.goto (-26), 3) := dk_167 255 230 (dk_at dksX4_rotate_3 17 rfl rfl)
theorem dX4_rotate_89 : decode cX4_rotate 89 = .ok (.aload_n 0, 1) := dk_42 (dk_at dksX4_rotate_3 20 rfl rfl)
theorem dX4_rotate_90 : decode cX4_rotate 90 = .ok (.getfield 14, 3) := dk_180 0 14 (dk_at dksX4_rotate_3 21 rfl rfl)
theorem dX4_rotate_93 : decode cX4_rotate 93 = .ok (.invokevirtual 69, 3) := dk_182 0 69 (dk_at dksX4_rotate_4 0 rfl rfl)
theorem dX4_rotate_96 : decode cX4_rotate 96 = .ok (.aload_n 2, 1) := dk_44 (dk_at dksX4_rotate_4 3 rfl rfl)
theorem dX4_rotate_97 : decode cX4_rotate 97 = .ok (.invokevirtual 25, 3) := dk_182 0 25 (dk_at dksX4_rotate_4 4 rfl rfl)
theorem dX4_rotate_100 : decode cX4_rotate 100 = .ok (.astore_n 3, 1) := dk_78 (dk_at dksX4_rotate_4 7 rfl rfl)
theorem dX4_rotate_101 : decode cX4_rotate 101 = .ok (.aload_n 3, 1) := dk_45 (dk_at dksX4_rotate_4 8 rfl rfl)
theorem dX4_rotate_102 : decode cX4_rotate 102 = .ok (.invokeinterface 29 1, 5) := by decide +kernel
theorem dX4_rotate_107 : decode cX4_rotate 107 = .ok (.ifCond .eq 27, 3) := dk_153 0 27 (dk_at dksX4_rotate_4 14 rfl rfl)
theorem dX4_rotate_110 : decode cX4_rotate 110 = .ok (.aload_n 3, 1) := dk_45 (dk_at dksX4_rotate_4 17 rfl rfl)
theorem dX4_rotate_111 : decode cX4_rotate 111 = .ok (.invokeinterface 35 1, 5) := by decide +kernel
theorem dX4_rotate_116 : decode cX4_rotate 116 = .ok (.checkcast 39, 3) := dk_192 0 39 (dk_at dksX4_rotate_5 0 rfl rfl)
theorem dX4_rotate_119 : decode cX4_rotate 119 = .ok (.astore 4, 2) := dk_58 4 (dk_at dksX4_rotate_5 3 rfl rfl)
theorem dX4_rotate_121 : decode cX4_rotate 121 = .ok (.aload_n 0, 1) := dk_42 (dk_at dksX4_rotate_5 5 rfl rfl)
theorem dX4_rotate_122 : decode cX4_rotate 122 = .ok (.getfield 14, 3) := dk_180 0 14 (dk_at dksX4_rotate_5 6 rfl rfl)
theorem dX4_rotate_125 : decode cX4_rotate 125 = .ok (.aload 4, 2) := dk_25 4 (dk_at dksX4_rotate_5 9 rfl rfl)
theorem dX4_rotate_127 : decode cX4_rotate 127 = .ok (.invokevirtual 41, 3) := dk_182 0 41 (dk_at dksX4_rotate_5 11 rfl rfl)
theorem dX4_rotate_130 : decode cX4_rotate 130 = .ok (.pop, 1) := dk_87 (dk_at dksX4_rotate_5 14 rfl rfl)
theorem dX4_rotate_131 : decode cX4_rotate 131 = .ok (.goto (-30), 3) := dk_167 255 226 (dk_at dksX4_rotate_5 15 rfl rfl)
theorem dX4_rotate_134 : decode cX4_rotate 134 = .ok (.return_, 1) := dk_177 (dk_at dksX4_rotate_5 18 rfl rfl)
theorem q98 : (Jvm.Cond.initialized "GateGrammar$Gate") ∈ lw_all := lw_g (lw_at lw_m1 23 rfl) rfl
theorem q540 : (Jvm.Cond.instantiable "GateGrammar$Gate" (3 : Nat)) ∈ lw_all := lw_g (lw_at lw_m2 225 rfl) rfl
theorem q542 : (Jvm.Cond.instanceMethod ({ cls := "GateGrammar$Gate", name := "<init>", desc := "(I)V" } : Jvm.MethodName)) ∈ lw_all := lw_g (lw_at lw_m2 227 rfl) rfl
theorem q543 : (Jvm.Cond.code ({ cls := "GateGrammar$Gate", name := "<init>", desc := "(I)V" } : Jvm.MethodName) prog_7_method_1_code (2 : Nat) (Option.none : Option Jvm.ClassFile.FieldType)) ∈ lw_all := lw_g (lw_at lw_m2 228 rfl) rfl
theorem q544 : (Jvm.Cond.methodLink "GateGrammar$Gate" (3 : Nat) ({ cls := "java/lang/Object", name := "<init>", desc := "()V" } : Jvm.MethodName)) ∈ lw_all := lw_g (lw_at lw_m2 229 rfl) rfl
theorem q545 : (Jvm.Cond.classLink "GateGrammar$Gate" (9 : Nat) "java/util/ArrayList") ∈ lw_all := lw_g (lw_at lw_m2 230 rfl) rfl
theorem q546 : (Jvm.Cond.methodLink "GateGrammar$Gate" (11 : Nat) ({ cls := "java/util/ArrayList", name := "<init>", desc := "(I)V" } : Jvm.MethodName)) ∈ lw_all := lw_g (lw_at lw_m2 231 rfl) rfl
theorem q547 : (Jvm.Cond.fieldLink "GateGrammar$Gate" (20 : Nat) "GateGrammar$Gate" "number" "I") ∈ lw_all := lw_g (lw_at lw_m2 232 rfl) rfl
theorem q549 : (Jvm.Cond.fieldLink "GateGrammar$Gate" (14 : Nat) "GateGrammar$Gate" "tokens" "Ljava/util/ArrayList;") ∈ lw_all := lw_g (lw_at lw_m2 234 rfl) rfl
theorem q554 : (Jvm.Cond.fieldLink "GateGrammar$Gate" (45 : Nat) "GateGrammar$Gate" "walks" "I") ∈ lw_all := lw_g (lw_at lw_m2 239 rfl) rfl
theorem q556 : (Jvm.Cond.laysFinal "GateGrammar$Gate" "GateGrammar$Gate" "number" "I") ∈ lw_all := lw_g (lw_at lw_m3 1 rfl) rfl
theorem q557 : (Jvm.Cond.soleField "GateGrammar$Gate" "number") ∈ lw_all := lw_g (lw_at lw_m3 2 rfl) rfl
theorem q558 : (Jvm.Cond.laysFinal "GateGrammar$Gate" "GateGrammar$Gate" "tokens" "Ljava/util/ArrayList;") ∈ lw_all := lw_g (lw_at lw_m3 3 rfl) rfl
theorem q559 : (Jvm.Cond.soleField "GateGrammar$Gate" "tokens") ∈ lw_all := lw_g (lw_at lw_m3 4 rfl) rfl
theorem q560 : (Jvm.Cond.lays "GateGrammar$Gate" "GateGrammar$Gate" "walks" "I") ∈ lw_all := lw_g (lw_at lw_m3 5 rfl) rfl
theorem q561 : (Jvm.Cond.soleField "GateGrammar$Gate" "walks") ∈ lw_all := lw_g (lw_at lw_m3 6 rfl) rfl
theorem q562 : (Jvm.Cond.superclass "GateGrammar$Gate" "java/lang/Object") ∈ lw_all := lw_g (lw_at lw_m3 7 rfl) rfl
theorem q593 : (Jvm.Cond.selects "GateGrammar$Gate" ({ cls := "java/lang/Object", name := "getClass", desc := "()Ljava/lang/Class;" } : Jvm.MethodName) ({ cls := "java/lang/Object", name := "getClass", desc := "()Ljava/lang/Class;" } : Jvm.MethodName)) ∈ lw_all := lw_g (lw_at lw_m3 38 rfl) rfl
theorem q1552 : (Jvm.Cond.instanceMethod ({ cls := "GateGrammar$Gate", name := "copy", desc := "()LGateGrammar$Gate;" } : Jvm.MethodName)) ∈ lw_all := lw_g (lw_at lw_m7 37 rfl) rfl
theorem q1553 : (Jvm.Cond.selects "GateGrammar$Gate" ({ cls := "GateGrammar$Gate", name := "copy", desc := "()LGateGrammar$Gate;" } : Jvm.MethodName) ({ cls := "GateGrammar$Gate", name := "copy", desc := "()LGateGrammar$Gate;" } : Jvm.MethodName)) ∈ lw_all := lw_g (lw_at lw_m7 38 rfl) rfl
theorem q1554 : (Jvm.Cond.code ({ cls := "GateGrammar$Gate", name := "copy", desc := "()LGateGrammar$Gate;" } : Jvm.MethodName) prog_7_method_2_code (4 : Nat) (Option.some (Jvm.ClassFile.FieldType.object "GateGrammar$Gate"))) ∈ lw_all := lw_g (lw_at lw_m7 39 rfl) rfl
theorem q1555 : (Jvm.Cond.classLink "GateGrammar$Gate" (15 : Nat) "GateGrammar$Gate") ∈ lw_all := lw_g (lw_at lw_m7 40 rfl) rfl
theorem q1556 : (Jvm.Cond.methodLink "GateGrammar$Gate" (24 : Nat) ({ cls := "GateGrammar$Gate", name := "<init>", desc := "(I)V" } : Jvm.MethodName)) ∈ lw_all := lw_g (lw_at lw_m7 41 rfl) rfl
theorem q1557 : (Jvm.Cond.methodLink "GateGrammar$Gate" (25 : Nat) ({ cls := "java/util/ArrayList", name := "iterator", desc := "()Ljava/util/Iterator;" } : Jvm.MethodName)) ∈ lw_all := lw_g (lw_at lw_m7 42 rfl) rfl
theorem q1558 : (Jvm.Cond.interfaceEntry "GateGrammar$Gate" (29 : Nat)) ∈ lw_tbl := lw_at lw_m7 43 rfl
theorem q1559 : (Jvm.Cond.methodLink "GateGrammar$Gate" (29 : Nat) ({ cls := "java/util/Iterator", name := "hasNext", desc := "()Z" } : Jvm.MethodName)) ∈ lw_all := lw_g (lw_at lw_m7 44 rfl) rfl
theorem q1560 : (Jvm.Cond.interfaceEntry "GateGrammar$Gate" (35 : Nat)) ∈ lw_tbl := lw_at lw_m7 45 rfl
theorem q1561 : (Jvm.Cond.methodLink "GateGrammar$Gate" (35 : Nat) ({ cls := "java/util/Iterator", name := "next", desc := "()Ljava/lang/Object;" } : Jvm.MethodName)) ∈ lw_all := lw_g (lw_at lw_m7 46 rfl) rfl
theorem q1562 : (Jvm.Cond.classLink "GateGrammar$Gate" (39 : Nat) "GateGrammar$Token") ∈ lw_all := lw_g (lw_at lw_m7 47 rfl) rfl
theorem q1563 : (Jvm.Cond.methodLink "GateGrammar$Gate" (41 : Nat) ({ cls := "java/util/ArrayList", name := "add", desc := "(Ljava/lang/Object;)Z" } : Jvm.MethodName)) ∈ lw_all := lw_g (lw_at lw_m7 48 rfl) rfl
theorem q1725 : (Jvm.Cond.fieldLinkNest "GateGrammar$Gate" (66 : Nat) "GateGrammar$Token" "kind" "I" "GateGrammar") ∈ lw_tbl := lw_at lw_m7 210 rfl
theorem q1741 : (Jvm.Cond.instanceMethod ({ cls := "GateGrammar$Gate", name := "add", desc := "(LGateGrammar$Token;)I" } : Jvm.MethodName)) ∈ lw_all := lw_g (lw_at lw_m7 226 rfl) rfl
theorem q1742 : (Jvm.Cond.selects "GateGrammar$Gate" ({ cls := "GateGrammar$Gate", name := "add", desc := "(LGateGrammar$Token;)I" } : Jvm.MethodName) ({ cls := "GateGrammar$Gate", name := "add", desc := "(LGateGrammar$Token;)I" } : Jvm.MethodName)) ∈ lw_all := lw_g (lw_at lw_m7 227 rfl) rfl
theorem q1743 : (Jvm.Cond.code ({ cls := "GateGrammar$Gate", name := "add", desc := "(LGateGrammar$Token;)I" } : Jvm.MethodName) prog_7_method_4_code (2 : Nat) (Option.some Jvm.ClassFile.FieldType.int)) ∈ lw_all := lw_g (lw_at lw_m7 228 rfl) rfl
theorem q1744 : (Jvm.Cond.methodLink "GateGrammar$Gate" (56 : Nat) ({ cls := "GateGrammar$Gate", name := "checkRoom", desc := "()V" } : Jvm.MethodName)) ∈ lw_all := lw_g (lw_at lw_m7 229 rfl) rfl
theorem q1745 : (Jvm.Cond.instanceMethod ({ cls := "GateGrammar$Gate", name := "checkRoom", desc := "()V" } : Jvm.MethodName)) ∈ lw_all := lw_g (lw_at lw_m7 230 rfl) rfl
theorem q1746 : (Jvm.Cond.selects "GateGrammar$Gate" ({ cls := "GateGrammar$Gate", name := "checkRoom", desc := "()V" } : Jvm.MethodName) ({ cls := "GateGrammar$Gate", name := "checkRoom", desc := "()V" } : Jvm.MethodName)) ∈ lw_all := lw_g (lw_at lw_m7 231 rfl) rfl
theorem q1747 : (Jvm.Cond.code ({ cls := "GateGrammar$Gate", name := "checkRoom", desc := "()V" } : Jvm.MethodName) prog_7_method_3_code (1 : Nat) (Option.none : Option Jvm.ClassFile.FieldType)) ∈ lw_all := lw_g (lw_at lw_m7 232 rfl) rfl
theorem q1748 : (Jvm.Cond.methodLink "GateGrammar$Gate" (48 : Nat) ({ cls := "java/util/ArrayList", name := "size", desc := "()I" } : Jvm.MethodName)) ∈ lw_all := lw_g (lw_at lw_m7 233 rfl) rfl
theorem q1749 : (Jvm.Cond.methodLinkNest "GateGrammar$Gate" (52 : Nat) ({ cls := "GateGrammar", name := "checkState", desc := "(Z)V" } : Jvm.MethodName) "GateGrammar") ∈ lw_tbl := lw_at lw_m7 234 rfl
theorem q1798 : (Jvm.Cond.instanceMethod ({ cls := "GateGrammar$Gate", name := "removeLast", desc := "()I" } : Jvm.MethodName)) ∈ lw_all := lw_g (lw_at lw_m8 43 rfl) rfl
theorem q1799 : (Jvm.Cond.selects "GateGrammar$Gate" ({ cls := "GateGrammar$Gate", name := "removeLast", desc := "()I" } : Jvm.MethodName) ({ cls := "GateGrammar$Gate", name := "removeLast", desc := "()I" } : Jvm.MethodName)) ∈ lw_all := lw_g (lw_at lw_m8 44 rfl) rfl
theorem q1800 : (Jvm.Cond.code ({ cls := "GateGrammar$Gate", name := "removeLast", desc := "()I" } : Jvm.MethodName) prog_7_method_5_code (1 : Nat) (Option.some Jvm.ClassFile.FieldType.int)) ∈ lw_all := lw_g (lw_at lw_m8 45 rfl) rfl
theorem q1801 : (Jvm.Cond.methodLink "GateGrammar$Gate" (59 : Nat) ({ cls := "java/util/ArrayList", name := "isEmpty", desc := "()Z" } : Jvm.MethodName)) ∈ lw_all := lw_g (lw_at lw_m8 46 rfl) rfl
theorem q1805 : (Jvm.Cond.methodLink "GateGrammar$Gate" (62 : Nat) ({ cls := "java/util/ArrayList", name := "remove", desc := "(I)Ljava/lang/Object;" } : Jvm.MethodName)) ∈ lw_all := lw_g (lw_at lw_m8 50 rfl) rfl
theorem q1822 : (Jvm.Cond.instanceMethod ({ cls := "GateGrammar$Gate", name := "clear", desc := "()I" } : Jvm.MethodName)) ∈ lw_all := lw_g (lw_at lw_m8 67 rfl) rfl
theorem q1823 : (Jvm.Cond.selects "GateGrammar$Gate" ({ cls := "GateGrammar$Gate", name := "clear", desc := "()I" } : Jvm.MethodName) ({ cls := "GateGrammar$Gate", name := "clear", desc := "()I" } : Jvm.MethodName)) ∈ lw_all := lw_g (lw_at lw_m8 68 rfl) rfl
theorem q1824 : (Jvm.Cond.code ({ cls := "GateGrammar$Gate", name := "clear", desc := "()I" } : Jvm.MethodName) prog_7_method_6_code (2 : Nat) (Option.some Jvm.ClassFile.FieldType.int)) ∈ lw_all := lw_g (lw_at lw_m8 69 rfl) rfl
theorem q1825 : (Jvm.Cond.methodLink "GateGrammar$Gate" (69 : Nat) ({ cls := "java/util/ArrayList", name := "clear", desc := "()V" } : Jvm.MethodName)) ∈ lw_all := lw_g (lw_at lw_m8 70 rfl) rfl
theorem q1843 : (Jvm.Cond.instanceMethod ({ cls := "GateGrammar$Gate", name := "rotate", desc := "(I)V" } : Jvm.MethodName)) ∈ lw_all := lw_g (lw_at lw_m8 88 rfl) rfl
theorem q1844 : (Jvm.Cond.selects "GateGrammar$Gate" ({ cls := "GateGrammar$Gate", name := "rotate", desc := "(I)V" } : Jvm.MethodName) ({ cls := "GateGrammar$Gate", name := "rotate", desc := "(I)V" } : Jvm.MethodName)) ∈ lw_all := lw_g (lw_at lw_m8 89 rfl) rfl
theorem q1845 : (Jvm.Cond.code ({ cls := "GateGrammar$Gate", name := "rotate", desc := "(I)V" } : Jvm.MethodName) prog_7_method_7_code (5 : Nat) (Option.none : Option Jvm.ClassFile.FieldType)) ∈ lw_all := lw_g (lw_at lw_m8 90 rfl) rfl
theorem q1846 : (Jvm.Cond.methodLink "GateGrammar$Gate" (72 : Nat) ({ cls := "java/util/ArrayList", name := "get", desc := "(I)Ljava/lang/Object;" } : Jvm.MethodName)) ∈ lw_all := lw_g (lw_at lw_m8 91 rfl) rfl
theorem q1847 : (Jvm.Cond.methodLink "GateGrammar$Gate" (75 : Nat) ({ cls := "GateGrammar$Token", name := "<init>", desc := "(I)V" } : Jvm.MethodName)) ∈ lw_all := lw_g (lw_at lw_m8 92 rfl) rfl
theorem q3036 : (Jvm.Cond.castable "GateGrammar$Gate" "GateGrammar$Copyable") ∈ lw_tbl := lw_at lw_m13 81 rfl
theorem q3047 : (Jvm.Cond.castable "GateGrammar$Gate" "java/lang/Object") ∈ lw_tbl := lw_at lw_m13 92 rfl
theorem in_X4 : ∀ w ∈ wsX40, w ∈ lw_all := lw_in wsX40 [556, 558, 560] (by decide +kernel) (by decide +kernel)

/-! GateGrammar$History -/
set_option maxRecDepth 100000
def RX5 : String := "GateGrammar$History"
def TX5 : u_T := fun k => match k with
  | 0 => ("GateGrammar$History", "states", "Ljava/util/ArrayDeque;", true)
  | _ => ("GateGrammar$History", "capacity", "I", true)
def tyX5 : Nat → FieldType := fun k => match k with
  | 0 => .object "java/util/ArrayDeque"
  | _ => .int
abbrev wsX50 : List Cond := u_ws RX5 TX5 2
theorem nmX5 : ∀ a, a < 2 → ∀ b, b < 2 → a ≠ b → (TX5 a).2.1 ≠ (TX5 b).2.1 := by decide +kernel
theorem tyX5_ok : ∀ k, k < 2 → parseFieldDescriptor (TX5 k).2.2.1 = some (tyX5 k) := by decide +kernel
abbrev cX5_init : ByteArray := prog_8_method_1_code
def yX5_init : MethodName := ⟨RX5, "<init>", "(I)V"⟩
def dkwX5_init_0 : List UInt8 := [42, 183, 0, 1, 42, 187, 0, 7, 89, 183, 0, 9, 181, 0, 10, 42, 27, 181, 0, 16, 177]
abbrev dktX5_init_0 : List UInt8 := dkwX5_init_0 ++ []
theorem dksX5_init_0 : cX5_init.data.toList.drop 0 = dktX5_init_0 := by decide +kernel
theorem dX5_init_0 : decode cX5_init 0 = .ok (.aload_n 0, 1) := dk_42 (dk_at dksX5_init_0 0 rfl rfl)
theorem dX5_init_1 : decode cX5_init 1 = .ok (.invokespecial 1, 3) := dk_183 0 1 (dk_at dksX5_init_0 1 rfl rfl)
theorem dX5_init_4 : decode cX5_init 4 = .ok (.aload_n 0, 1) := dk_42 (dk_at dksX5_init_0 4 rfl rfl)
theorem dX5_init_5 : decode cX5_init 5 = .ok (.new 7, 3) := dk_187 0 7 (dk_at dksX5_init_0 5 rfl rfl)
theorem dX5_init_8 : decode cX5_init 8 = .ok (.dup, 1) := dk_89 (dk_at dksX5_init_0 8 rfl rfl)
theorem dX5_init_9 : decode cX5_init 9 = .ok (.invokespecial 9, 3) := dk_183 0 9 (dk_at dksX5_init_0 9 rfl rfl)
theorem dX5_init_12 : decode cX5_init 12 = .ok (.putfield 10, 3) := dk_181 0 10 (dk_at dksX5_init_0 12 rfl rfl)
theorem dX5_init_15 : decode cX5_init 15 = .ok (.aload_n 0, 1) := dk_42 (dk_at dksX5_init_0 15 rfl rfl)
theorem dX5_init_16 : decode cX5_init 16 = .ok (.iload_n 1, 1) := dk_27 (dk_at dksX5_init_0 16 rfl rfl)
theorem dX5_init_17 : decode cX5_init 17 = .ok (.putfield 16, 3) := dk_181 0 16 (dk_at dksX5_init_0 17 rfl rfl)
theorem dX5_init_20 : decode cX5_init 20 = .ok (.return_, 1) := dk_177 (dk_at dksX5_init_0 20 rfl rfl)
abbrev cX5_push : ByteArray := prog_8_method_2_code
def yX5_push : MethodName := ⟨RX5, "push", "(LGateGrammar$Copyable;)V"⟩
def dkwX5_push_1 : List UInt8 := [180, 0, 10, 182, 0, 28, 192, 0, 32, 77, 177]
abbrev dktX5_push_1 : List UInt8 := dkwX5_push_1 ++ []
def dkwX5_push_0 : List UInt8 := [42, 180, 0, 10, 43, 182, 0, 20, 42, 180, 0, 10, 182, 0, 24, 42, 180, 0, 16, 164, 0, 14, 42]
abbrev dktX5_push_0 : List UInt8 := dkwX5_push_0 ++ dktX5_push_1
theorem dksX5_push_0 : cX5_push.data.toList.drop 0 = dktX5_push_0 := by decide +kernel
theorem dksX5_push_1 : cX5_push.data.toList.drop 23 = dktX5_push_1 := dk_seg dksX5_push_0 23 rfl rfl
theorem dX5_push_0 : decode cX5_push 0 = .ok (.aload_n 0, 1) := dk_42 (dk_at dksX5_push_0 0 rfl rfl)
theorem dX5_push_1 : decode cX5_push 1 = .ok (.getfield 10, 3) := dk_180 0 10 (dk_at dksX5_push_0 1 rfl rfl)
theorem dX5_push_4 : decode cX5_push 4 = .ok (.aload_n 1, 1) := dk_43 (dk_at dksX5_push_0 4 rfl rfl)
theorem dX5_push_5 : decode cX5_push 5 = .ok (.invokevirtual 20, 3) := dk_182 0 20 (dk_at dksX5_push_0 5 rfl rfl)
theorem dX5_push_8 : decode cX5_push 8 = .ok (.aload_n 0, 1) := dk_42 (dk_at dksX5_push_0 8 rfl rfl)
theorem dX5_push_9 : decode cX5_push 9 = .ok (.getfield 10, 3) := dk_180 0 10 (dk_at dksX5_push_0 9 rfl rfl)
theorem dX5_push_12 : decode cX5_push 12 = .ok (.invokevirtual 24, 3) := dk_182 0 24 (dk_at dksX5_push_0 12 rfl rfl)
theorem dX5_push_15 : decode cX5_push 15 = .ok (.aload_n 0, 1) := dk_42 (dk_at dksX5_push_0 15 rfl rfl)
theorem dX5_push_16 : decode cX5_push 16 = .ok (.getfield 16, 3) := dk_180 0 16 (dk_at dksX5_push_0 16 rfl rfl)
theorem dX5_push_19 : decode cX5_push 19 = .ok (.if_icmp .le 14, 3) := dk_164 0 14 (dk_at dksX5_push_0 19 rfl rfl)
theorem dX5_push_22 : decode cX5_push 22 = .ok (.aload_n 0, 1) := dk_42 (dk_at dksX5_push_0 22 rfl rfl)
theorem dX5_push_23 : decode cX5_push 23 = .ok (.getfield 10, 3) := dk_180 0 10 (dk_at dksX5_push_1 0 rfl rfl)
theorem dX5_push_26 : decode cX5_push 26 = .ok (.invokevirtual 28, 3) := dk_182 0 28 (dk_at dksX5_push_1 3 rfl rfl)
theorem dX5_push_29 : decode cX5_push 29 = .ok (.checkcast 32, 3) := dk_192 0 32 (dk_at dksX5_push_1 6 rfl rfl)
theorem dX5_push_32 : decode cX5_push 32 = .ok (.astore_n 2, 1) := dk_77 (dk_at dksX5_push_1 9 rfl rfl)
theorem dX5_push_33 : decode cX5_push 33 = .ok (.return_, 1) := dk_177 (dk_at dksX5_push_1 10 rfl rfl)
abbrev cX5_pop : ByteArray := prog_8_method_3_code
def yX5_pop : MethodName := ⟨RX5, "pop", "()LGateGrammar$Copyable;"⟩
def dkwX5_pop_1 : List UInt8 := [182, 0, 44, 192, 0, 32, 176]
abbrev dktX5_pop_1 : List UInt8 := dkwX5_pop_1 ++ []
def dkwX5_pop_0 : List UInt8 := [42, 180, 0, 10, 182, 0, 34, 154, 0, 7, 4, 167, 0, 4, 3, 184, 0, 38, 42, 180, 0, 10]
abbrev dktX5_pop_0 : List UInt8 := dkwX5_pop_0 ++ dktX5_pop_1
theorem dksX5_pop_0 : cX5_pop.data.toList.drop 0 = dktX5_pop_0 := by decide +kernel
theorem dksX5_pop_1 : cX5_pop.data.toList.drop 22 = dktX5_pop_1 := dk_seg dksX5_pop_0 22 rfl rfl
theorem dX5_pop_0 : decode cX5_pop 0 = .ok (.aload_n 0, 1) := dk_42 (dk_at dksX5_pop_0 0 rfl rfl)
theorem dX5_pop_1 : decode cX5_pop 1 = .ok (.getfield 10, 3) := dk_180 0 10 (dk_at dksX5_pop_0 1 rfl rfl)
theorem dX5_pop_4 : decode cX5_pop 4 = .ok (.invokevirtual 34, 3) := dk_182 0 34 (dk_at dksX5_pop_0 4 rfl rfl)
theorem dX5_pop_7 : decode cX5_pop 7 = .ok (.ifCond .ne 7, 3) := dk_154 0 7 (dk_at dksX5_pop_0 7 rfl rfl)
theorem dX5_pop_10 : decode cX5_pop 10 = .ok (.iconst 1, 1) := dk_4 (dk_at dksX5_pop_0 10 rfl rfl)
theorem dX5_pop_11 : decode cX5_pop 11 = .ok (.goto 4, 3) := dk_167 0 4 (dk_at dksX5_pop_0 11 rfl rfl)
theorem dX5_pop_14 : decode cX5_pop 14 = .ok (.iconst 0, 1) := dk_3 (dk_at dksX5_pop_0 14 rfl rfl)
theorem dX5_pop_15 : decode cX5_pop 15 = .ok (.invokestatic 38, 3) := dk_184 0 38 (dk_at dksX5_pop_0 15 rfl rfl)
theorem dX5_pop_18 : decode cX5_pop 18 = .ok (.aload_n 0, 1) := dk_42 (dk_at dksX5_pop_0 18 rfl rfl)
theorem dX5_pop_19 : decode cX5_pop 19 = .ok (.getfield 10, 3) := dk_180 0 10 (dk_at dksX5_pop_0 19 rfl rfl)
theorem dX5_pop_22 : decode cX5_pop 22 = .ok (.invokevirtual 44, 3) := dk_182 0 44 (dk_at dksX5_pop_1 0 rfl rfl)
theorem dX5_pop_25 : decode cX5_pop 25 = .ok (.checkcast 32, 3) := dk_192 0 32 (dk_at dksX5_pop_1 3 rfl rfl)
theorem dX5_pop_28 : decode cX5_pop 28 = .ok (.areturn, 1) := dk_176 (dk_at dksX5_pop_1 6 rfl rfl)
abbrev cX5_size : ByteArray := prog_8_method_4_code
def yX5_size : MethodName := ⟨RX5, "size", "()I"⟩
def dkwX5_size_0 : List UInt8 := [42, 180, 0, 10, 182, 0, 24, 172]
abbrev dktX5_size_0 : List UInt8 := dkwX5_size_0 ++ []
theorem dksX5_size_0 : cX5_size.data.toList.drop 0 = dktX5_size_0 := by decide +kernel
theorem dX5_size_0 : decode cX5_size 0 = .ok (.aload_n 0, 1) := dk_42 (dk_at dksX5_size_0 0 rfl rfl)
theorem dX5_size_1 : decode cX5_size 1 = .ok (.getfield 10, 3) := dk_180 0 10 (dk_at dksX5_size_0 1 rfl rfl)
theorem dX5_size_4 : decode cX5_size 4 = .ok (.invokevirtual 24, 3) := dk_182 0 24 (dk_at dksX5_size_0 4 rfl rfl)
theorem dX5_size_7 : decode cX5_size 7 = .ok (.ireturn, 1) := dk_172 (dk_at dksX5_size_0 7 rfl rfl)
abbrev cX5_clear : ByteArray := prog_8_method_5_code
def yX5_clear : MethodName := ⟨RX5, "clear", "()V"⟩
def dkwX5_clear_0 : List UInt8 := [42, 180, 0, 10, 182, 0, 47, 177]
abbrev dktX5_clear_0 : List UInt8 := dkwX5_clear_0 ++ []
theorem dksX5_clear_0 : cX5_clear.data.toList.drop 0 = dktX5_clear_0 := by decide +kernel
theorem dX5_clear_0 : decode cX5_clear 0 = .ok (.aload_n 0, 1) := dk_42 (dk_at dksX5_clear_0 0 rfl rfl)
theorem dX5_clear_1 : decode cX5_clear 1 = .ok (.getfield 10, 3) := dk_180 0 10 (dk_at dksX5_clear_0 1 rfl rfl)
theorem dX5_clear_4 : decode cX5_clear 4 = .ok (.invokevirtual 47, 3) := dk_182 0 47 (dk_at dksX5_clear_0 4 rfl rfl)
theorem dX5_clear_7 : decode cX5_clear 7 = .ok (.return_, 1) := dk_177 (dk_at dksX5_clear_0 7 rfl rfl)
theorem q99 : (Jvm.Cond.initialized "GateGrammar$History") ∈ lw_all := lw_g (lw_at lw_m1 24 rfl) rfl
theorem q594 : (Jvm.Cond.selects "GateGrammar$History" ({ cls := "java/lang/Object", name := "getClass", desc := "()Ljava/lang/Class;" } : Jvm.MethodName) ({ cls := "java/lang/Object", name := "getClass", desc := "()Ljava/lang/Class;" } : Jvm.MethodName)) ∈ lw_all := lw_g (lw_at lw_m3 39 rfl) rfl
theorem q634 : (Jvm.Cond.instantiable "GateGrammar$History" (2 : Nat)) ∈ lw_all := lw_g (lw_at lw_m3 79 rfl) rfl
theorem q636 : (Jvm.Cond.instanceMethod ({ cls := "GateGrammar$History", name := "<init>", desc := "(I)V" } : Jvm.MethodName)) ∈ lw_all := lw_g (lw_at lw_m3 81 rfl) rfl
theorem q637 : (Jvm.Cond.code ({ cls := "GateGrammar$History", name := "<init>", desc := "(I)V" } : Jvm.MethodName) prog_8_method_1_code (2 : Nat) (Option.none : Option Jvm.ClassFile.FieldType)) ∈ lw_all := lw_g (lw_at lw_m3 82 rfl) rfl
theorem q638 : (Jvm.Cond.methodLink "GateGrammar$History" (1 : Nat) ({ cls := "java/lang/Object", name := "<init>", desc := "()V" } : Jvm.MethodName)) ∈ lw_all := lw_g (lw_at lw_m3 83 rfl) rfl
theorem q639 : (Jvm.Cond.classLink "GateGrammar$History" (7 : Nat) "java/util/ArrayDeque") ∈ lw_all := lw_g (lw_at lw_m3 84 rfl) rfl
theorem q641 : (Jvm.Cond.methodLink "GateGrammar$History" (9 : Nat) ({ cls := "java/util/ArrayDeque", name := "<init>", desc := "()V" } : Jvm.MethodName)) ∈ lw_all := lw_g (lw_at lw_m3 86 rfl) rfl
theorem q656 : (Jvm.Cond.fieldLink "GateGrammar$History" (10 : Nat) "GateGrammar$History" "states" "Ljava/util/ArrayDeque;") ∈ lw_all := lw_g (lw_at lw_m3 101 rfl) rfl
theorem q657 : (Jvm.Cond.fieldLink "GateGrammar$History" (16 : Nat) "GateGrammar$History" "capacity" "I") ∈ lw_all := lw_g (lw_at lw_m3 102 rfl) rfl
theorem q658 : (Jvm.Cond.laysFinal "GateGrammar$History" "GateGrammar$History" "states" "Ljava/util/ArrayDeque;") ∈ lw_all := lw_g (lw_at lw_m3 103 rfl) rfl
theorem q659 : (Jvm.Cond.soleField "GateGrammar$History" "states") ∈ lw_all := lw_g (lw_at lw_m3 104 rfl) rfl
theorem q660 : (Jvm.Cond.laysFinal "GateGrammar$History" "GateGrammar$History" "capacity" "I") ∈ lw_all := lw_g (lw_at lw_m3 105 rfl) rfl
theorem q661 : (Jvm.Cond.soleField "GateGrammar$History" "capacity") ∈ lw_all := lw_g (lw_at lw_m3 106 rfl) rfl
theorem q662 : (Jvm.Cond.superclass "GateGrammar$History" "java/lang/Object") ∈ lw_all := lw_g (lw_at lw_m3 107 rfl) rfl
theorem q1599 : (Jvm.Cond.instanceMethod ({ cls := "GateGrammar$History", name := "push", desc := "(LGateGrammar$Copyable;)V" } : Jvm.MethodName)) ∈ lw_all := lw_g (lw_at lw_m7 84 rfl) rfl
theorem q1600 : (Jvm.Cond.selects "GateGrammar$History" ({ cls := "GateGrammar$History", name := "push", desc := "(LGateGrammar$Copyable;)V" } : Jvm.MethodName) ({ cls := "GateGrammar$History", name := "push", desc := "(LGateGrammar$Copyable;)V" } : Jvm.MethodName)) ∈ lw_all := lw_g (lw_at lw_m7 85 rfl) rfl
theorem q1601 : (Jvm.Cond.code ({ cls := "GateGrammar$History", name := "push", desc := "(LGateGrammar$Copyable;)V" } : Jvm.MethodName) prog_8_method_2_code (3 : Nat) (Option.none : Option Jvm.ClassFile.FieldType)) ∈ lw_all := lw_g (lw_at lw_m7 86 rfl) rfl
theorem q1602 : (Jvm.Cond.methodLink "GateGrammar$History" (20 : Nat) ({ cls := "java/util/ArrayDeque", name := "addLast", desc := "(Ljava/lang/Object;)V" } : Jvm.MethodName)) ∈ lw_all := lw_g (lw_at lw_m7 87 rfl) rfl
theorem q1603 : (Jvm.Cond.methodLink "GateGrammar$History" (24 : Nat) ({ cls := "java/util/ArrayDeque", name := "size", desc := "()I" } : Jvm.MethodName)) ∈ lw_all := lw_g (lw_at lw_m7 88 rfl) rfl
theorem q1610 : (Jvm.Cond.methodLink "GateGrammar$History" (28 : Nat) ({ cls := "java/util/ArrayDeque", name := "removeFirst", desc := "()Ljava/lang/Object;" } : Jvm.MethodName)) ∈ lw_all := lw_g (lw_at lw_m7 95 rfl) rfl
theorem q1611 : (Jvm.Cond.classLink "GateGrammar$History" (32 : Nat) "GateGrammar$Copyable") ∈ lw_all := lw_g (lw_at lw_m7 96 rfl) rfl
theorem q2496 : (Jvm.Cond.instanceMethod ({ cls := "GateGrammar$History", name := "pop", desc := "()LGateGrammar$Copyable;" } : Jvm.MethodName)) ∈ lw_all := lw_g (lw_at lw_m11 21 rfl) rfl
theorem q2497 : (Jvm.Cond.selects "GateGrammar$History" ({ cls := "GateGrammar$History", name := "pop", desc := "()LGateGrammar$Copyable;" } : Jvm.MethodName) ({ cls := "GateGrammar$History", name := "pop", desc := "()LGateGrammar$Copyable;" } : Jvm.MethodName)) ∈ lw_all := lw_g (lw_at lw_m11 22 rfl) rfl
theorem q2498 : (Jvm.Cond.code ({ cls := "GateGrammar$History", name := "pop", desc := "()LGateGrammar$Copyable;" } : Jvm.MethodName) prog_8_method_3_code (1 : Nat) (Option.some (Jvm.ClassFile.FieldType.object "GateGrammar$Copyable"))) ∈ lw_all := lw_g (lw_at lw_m11 23 rfl) rfl
theorem q2499 : (Jvm.Cond.methodLink "GateGrammar$History" (34 : Nat) ({ cls := "java/util/ArrayDeque", name := "isEmpty", desc := "()Z" } : Jvm.MethodName)) ∈ lw_all := lw_g (lw_at lw_m11 24 rfl) rfl
theorem q2500 : (Jvm.Cond.methodLinkNest "GateGrammar$History" (38 : Nat) ({ cls := "GateGrammar", name := "checkState", desc := "(Z)V" } : Jvm.MethodName) "GateGrammar") ∈ lw_tbl := lw_at lw_m11 25 rfl
theorem q2501 : (Jvm.Cond.methodLink "GateGrammar$History" (44 : Nat) ({ cls := "java/util/ArrayDeque", name := "removeLast", desc := "()Ljava/lang/Object;" } : Jvm.MethodName)) ∈ lw_all := lw_g (lw_at lw_m11 26 rfl) rfl
theorem q2503 : (Jvm.Cond.instanceMethod ({ cls := "GateGrammar$History", name := "size", desc := "()I" } : Jvm.MethodName)) ∈ lw_all := lw_g (lw_at lw_m11 28 rfl) rfl
theorem q2504 : (Jvm.Cond.selects "GateGrammar$History" ({ cls := "GateGrammar$History", name := "size", desc := "()I" } : Jvm.MethodName) ({ cls := "GateGrammar$History", name := "size", desc := "()I" } : Jvm.MethodName)) ∈ lw_all := lw_g (lw_at lw_m11 29 rfl) rfl
theorem q2505 : (Jvm.Cond.code ({ cls := "GateGrammar$History", name := "size", desc := "()I" } : Jvm.MethodName) prog_8_method_4_code (1 : Nat) (Option.some Jvm.ClassFile.FieldType.int)) ∈ lw_all := lw_g (lw_at lw_m11 30 rfl) rfl
theorem q2514 : (Jvm.Cond.instanceMethod ({ cls := "GateGrammar$History", name := "clear", desc := "()V" } : Jvm.MethodName)) ∈ lw_all := lw_g (lw_at lw_m11 39 rfl) rfl
theorem q2515 : (Jvm.Cond.selects "GateGrammar$History" ({ cls := "GateGrammar$History", name := "clear", desc := "()V" } : Jvm.MethodName) ({ cls := "GateGrammar$History", name := "clear", desc := "()V" } : Jvm.MethodName)) ∈ lw_all := lw_g (lw_at lw_m11 40 rfl) rfl
theorem q2516 : (Jvm.Cond.code ({ cls := "GateGrammar$History", name := "clear", desc := "()V" } : Jvm.MethodName) prog_8_method_5_code (1 : Nat) (Option.none : Option Jvm.ClassFile.FieldType)) ∈ lw_all := lw_g (lw_at lw_m11 41 rfl) rfl
theorem q2517 : (Jvm.Cond.methodLink "GateGrammar$History" (47 : Nat) ({ cls := "java/util/ArrayDeque", name := "clear", desc := "()V" } : Jvm.MethodName)) ∈ lw_all := lw_g (lw_at lw_m11 42 rfl) rfl
theorem q3048 : (Jvm.Cond.castable "GateGrammar$History" "java/lang/Object") ∈ lw_tbl := lw_at lw_m13 93 rfl
theorem in_X5 : ∀ w ∈ wsX50, w ∈ lw_all := lw_in wsX50 [658, 660] (by decide +kernel) (by decide +kernel)

/-! GateGrammar$Token -/
set_option maxRecDepth 100000
def RX7 : String := "GateGrammar$Token"
def TX7 : u_T := fun k => match k with
  | 0 => ("GateGrammar$Token", "kind", "I", true)
  | 1 => ("GateGrammar$Token", "word", "I", true)
  | _ => ("GateGrammar$Token", "detail", "I", true)
def tyX7 : Nat → FieldType := fun k => match k with
  | 0 => .int
  | 1 => .int
  | _ => .int
abbrev wsX70 : List Cond := u_ws RX7 TX7 3
theorem nmX7 : ∀ a, a < 3 → ∀ b, b < 3 → a ≠ b → (TX7 a).2.1 ≠ (TX7 b).2.1 := by decide +kernel
theorem tyX7_ok : ∀ k, k < 3 → parseFieldDescriptor (TX7 k).2.2.1 = some (tyX7 k) := by decide +kernel
abbrev cX7_init : ByteArray := prog_21_method_1_code
def yX7_init : MethodName := ⟨RX7, "<init>", "(III)V"⟩
def dkwX7_init_0 : List UInt8 := [42, 183, 0, 3, 42, 27, 181, 0, 9, 42, 28, 181, 0, 15, 42, 29, 181, 0, 18, 177]
abbrev dktX7_init_0 : List UInt8 := dkwX7_init_0 ++ []
theorem dksX7_init_0 : cX7_init.data.toList.drop 0 = dktX7_init_0 := by decide +kernel
theorem dX7_init_0 : decode cX7_init 0 = .ok (.aload_n 0, 1) := dk_42 (dk_at dksX7_init_0 0 rfl rfl)
theorem dX7_init_1 : decode cX7_init 1 = .ok (.invokespecial 3, 3) := dk_183 0 3 (dk_at dksX7_init_0 1 rfl rfl)
theorem dX7_init_4 : decode cX7_init 4 = .ok (.aload_n 0, 1) := dk_42 (dk_at dksX7_init_0 4 rfl rfl)
theorem dX7_init_5 : decode cX7_init 5 = .ok (.iload_n 1, 1) := dk_27 (dk_at dksX7_init_0 5 rfl rfl)
theorem dX7_init_6 : decode cX7_init 6 = .ok (.putfield 9, 3) := dk_181 0 9 (dk_at dksX7_init_0 6 rfl rfl)
theorem dX7_init_9 : decode cX7_init 9 = .ok (.aload_n 0, 1) := dk_42 (dk_at dksX7_init_0 9 rfl rfl)
theorem dX7_init_10 : decode cX7_init 10 = .ok (.iload_n 2, 1) := dk_28 (dk_at dksX7_init_0 10 rfl rfl)
theorem dX7_init_11 : decode cX7_init 11 = .ok (.putfield 15, 3) := dk_181 0 15 (dk_at dksX7_init_0 11 rfl rfl)
theorem dX7_init_14 : decode cX7_init 14 = .ok (.aload_n 0, 1) := dk_42 (dk_at dksX7_init_0 14 rfl rfl)
theorem dX7_init_15 : decode cX7_init 15 = .ok (.iload_n 3, 1) := dk_29 (dk_at dksX7_init_0 15 rfl rfl)
theorem dX7_init_16 : decode cX7_init 16 = .ok (.putfield 18, 3) := dk_181 0 18 (dk_at dksX7_init_0 16 rfl rfl)
theorem dX7_init_19 : decode cX7_init 19 = .ok (.return_, 1) := dk_177 (dk_at dksX7_init_0 19 rfl rfl)
abbrev cX7_init_2 : ByteArray := prog_21_method_2_code
def yX7_init_2 : MethodName := ⟨RX7, "<init>", "(I)V"⟩
def dkwX7_init_2_0 : List UInt8 := [42, 27, 3, 3, 183, 0, 21, 177]
abbrev dktX7_init_2_0 : List UInt8 := dkwX7_init_2_0 ++ []
theorem dksX7_init_2_0 : cX7_init_2.data.toList.drop 0 = dktX7_init_2_0 := by decide +kernel
theorem dX7_init_2_0 : decode cX7_init_2 0 = .ok (.aload_n 0, 1) := dk_42 (dk_at dksX7_init_2_0 0 rfl rfl)
theorem dX7_init_2_1 : decode cX7_init_2 1 = .ok (.iload_n 1, 1) := dk_27 (dk_at dksX7_init_2_0 1 rfl rfl)
theorem dX7_init_2_2 : decode cX7_init_2 2 = .ok (.iconst 0, 1) := dk_3 (dk_at dksX7_init_2_0 2 rfl rfl)
theorem dX7_init_2_3 : decode cX7_init_2 3 = .ok (.iconst 0, 1) := dk_3 (dk_at dksX7_init_2_0 3 rfl rfl)
theorem dX7_init_2_4 : decode cX7_init_2 4 = .ok (.invokespecial 21, 3) := dk_183 0 21 (dk_at dksX7_init_2_0 4 rfl rfl)
theorem dX7_init_2_7 : decode cX7_init_2 7 = .ok (.return_, 1) := dk_177 (dk_at dksX7_init_2_0 7 rfl rfl)
abbrev cX7_describe : ByteArray := prog_21_method_3_code
def yX7_describe : MethodName := ⟨RX7, "describe", "(LGateGrammar$Lexicon;)Ljava/lang/String;"⟩
def dkwX7_describe_5 : List UInt8 := [132, 3, 1, 167, 255, 238, 44, 182, 0, 45, 176]
abbrev dktX7_describe_5 : List UInt8 := dkwX7_describe_5 ++ []
def dkwX7_describe_4 : List UInt8 := [180, 0, 15, 182, 0, 33, 87, 3, 62, 29, 42, 180, 0, 18, 163, 0, 16, 44, 16, 33, 182, 0, 42, 87]
abbrev dktX7_describe_4 : List UInt8 := dkwX7_describe_4 ++ dktX7_describe_5
def dkwX7_describe_3 : List UInt8 := [6, 160, 0, 8, 18, 51, 167, 0, 5, 18, 53, 176, 187, 0, 24, 89, 18, 55, 183, 0, 57, 77, 44, 42]
abbrev dktX7_describe_3 : List UInt8 := dkwX7_describe_3 ++ dktX7_describe_4
def dkwX7_describe_2 : List UInt8 := [180, 0, 9, 4, 159, 0, 32, 42, 180, 0, 9, 5, 160, 0, 8, 18, 49, 167, 0, 18, 42, 180, 0, 9]
abbrev dktX7_describe_2 : List UInt8 := dkwX7_describe_2 ++ dktX7_describe_3
def dkwX7_describe_1 : List UInt8 := [182, 0, 33, 43, 42, 180, 0, 15, 42, 180, 0, 18, 182, 0, 36, 182, 0, 42, 182, 0, 45, 176, 42]
abbrev dktX7_describe_1 : List UInt8 := dkwX7_describe_1 ++ dktX7_describe_2
def dkwX7_describe_0 : List UInt8 := [42, 180, 0, 9, 154, 0, 41, 187, 0, 24, 89, 183, 0, 26, 18, 27, 182, 0, 29, 42, 180, 0, 15]
abbrev dktX7_describe_0 : List UInt8 := dkwX7_describe_0 ++ dktX7_describe_1
theorem dksX7_describe_0 : cX7_describe.data.toList.drop 0 = dktX7_describe_0 := by decide +kernel
theorem dksX7_describe_1 : cX7_describe.data.toList.drop 23 = dktX7_describe_1 := dk_seg dksX7_describe_0 23 rfl rfl
theorem dksX7_describe_2 : cX7_describe.data.toList.drop 46 = dktX7_describe_2 := dk_seg dksX7_describe_1 23 rfl rfl
theorem dksX7_describe_3 : cX7_describe.data.toList.drop 70 = dktX7_describe_3 := dk_seg dksX7_describe_2 24 rfl rfl
theorem dksX7_describe_4 : cX7_describe.data.toList.drop 94 = dktX7_describe_4 := dk_seg dksX7_describe_3 24 rfl rfl
theorem dksX7_describe_5 : cX7_describe.data.toList.drop 118 = dktX7_describe_5 := dk_seg dksX7_describe_4 24 rfl rfl
theorem dX7_describe_0 : decode cX7_describe 0 = .ok (.aload_n 0, 1) := dk_42 (dk_at dksX7_describe_0 0 rfl rfl)
theorem dX7_describe_1 : decode cX7_describe 1 = .ok (.getfield 9, 3) := dk_180 0 9 (dk_at dksX7_describe_0 1 rfl rfl)
theorem dX7_describe_4 : decode cX7_describe 4 = .ok (.ifCond .ne 41, 3) := dk_154 0 41 (dk_at dksX7_describe_0 4 rfl rfl)
theorem dX7_describe_7 : decode cX7_describe 7 = .ok (.new 24, 3) := dk_187 0 24 (dk_at dksX7_describe_0 7 rfl rfl)
theorem dX7_describe_10 : decode cX7_describe 10 = .ok (.dup, 1) := dk_89 (dk_at dksX7_describe_0 10 rfl rfl)
theorem dX7_describe_11 : decode cX7_describe 11 = .ok (.invokespecial 26, 3) := dk_183 0 26 (dk_at dksX7_describe_0 11 rfl rfl)
theorem dX7_describe_14 : decode cX7_describe 14 = .ok (.ldc 27, 2) := dk_18 27 (dk_at dksX7_describe_0 14 rfl rfl)
theorem dX7_describe_16 : decode cX7_describe 16 = .ok (.invokevirtual 29, 3) := dk_182 0 29 (dk_at dksX7_describe_0 16 rfl rfl)
theorem dX7_describe_19 : decode cX7_describe 19 = .ok (.aload_n 0, 1) := dk_42 (dk_at dksX7_describe_0 19 rfl rfl)
theorem dX7_describe_20 : decode cX7_describe 20 = .ok (.getfield 15, 3) := dk_180 0 15 (dk_at dksX7_describe_0 20 rfl rfl)
theorem dX7_describe_23 : decode cX7_describe 23 = .ok (.invokevirtual 33, 3) := dk_182 0 33 (dk_at dksX7_describe_1 0 rfl rfl)
theorem dX7_describe_26 : decode cX7_describe 26 = .ok (.aload_n 1, 1) := dk_43 (dk_at dksX7_describe_1 3 rfl rfl)
theorem dX7_describe_27 : decode cX7_describe 27 = .ok (.aload_n 0, 1) := dk_42 (dk_at dksX7_describe_1 4 rfl rfl)
theorem dX7_describe_28 : decode cX7_describe 28 = .ok (.getfield 15, 3) := dk_180 0 15 (dk_at dksX7_describe_1 5 rfl rfl)
theorem dX7_describe_31 : decode cX7_describe 31 = .ok (.aload_n 0, 1) := dk_42 (dk_at dksX7_describe_1 8 rfl rfl)
theorem dX7_describe_32 : decode cX7_describe 32 = .ok (.getfield 18, 3) := dk_180 0 18 (dk_at dksX7_describe_1 9 rfl rfl)
theorem dX7_describe_35 : decode cX7_describe 35 = .ok (.invokevirtual 36, 3) := dk_182 0 36 (dk_at dksX7_describe_1 12 rfl rfl)
theorem dX7_describe_38 : decode cX7_describe 38 = .ok (.invokevirtual 42, 3) := dk_182 0 42 (dk_at dksX7_describe_1 15 rfl rfl)
theorem dX7_describe_41 : decode cX7_describe 41 = .ok (.invokevirtual 45, 3) := dk_182 0 45 (dk_at dksX7_describe_1 18 rfl rfl)
theorem dX7_describe_44 : decode cX7_describe 44 = .ok (.areturn, 1) := dk_176 (dk_at dksX7_describe_1 21 rfl rfl)
theorem dX7_describe_45 : decode cX7_describe 45 = .ok (.aload_n 0, 1) := dk_42 (dk_at dksX7_describe_1 22 rfl rfl)
theorem dX7_describe_46 : decode cX7_describe 46 = .ok (.getfield 9, 3) := dk_180 0 9 (dk_at dksX7_describe_2 0 rfl rfl)
theorem dX7_describe_49 : decode cX7_describe 49 = .ok (.iconst 1, 1) := dk_4 (dk_at dksX7_describe_2 3 rfl rfl)
theorem dX7_describe_50 : decode cX7_describe 50 = .ok (.if_icmp .eq 32, 3) := dk_159 0 32 (dk_at dksX7_describe_2 4 rfl rfl)
theorem dX7_describe_53 : decode cX7_describe 53 = .ok (.aload_n 0, 1) := dk_42 (dk_at dksX7_describe_2 7 rfl rfl)
theorem dX7_describe_54 : decode cX7_describe 54 = .ok (.getfield 9, 3) := dk_180 0 9 (dk_at dksX7_describe_2 8 rfl rfl)
theorem dX7_describe_57 : decode cX7_describe 57 = .ok (.iconst 2, 1) := dk_5 (dk_at dksX7_describe_2 11 rfl rfl)
theorem dX7_describe_58 : decode cX7_describe 58 = .ok (.if_icmp .ne 8, 3) := dk_160 0 8 (dk_at dksX7_describe_2 12 rfl rfl)
theorem dX7_describe_61 : decode cX7_describe 61 = .ok (.ldc 49, 2) := dk_18 49 (dk_at dksX7_describe_2 15 rfl rfl)
theorem dX7_describe_63 : decode cX7_describe 63 = .ok (.goto 18, 3) := dk_167 0 18 (dk_at dksX7_describe_2 17 rfl rfl)
theorem dX7_describe_66 : decode cX7_describe 66 = .ok (.aload_n 0, 1) := dk_42 (dk_at dksX7_describe_2 20 rfl rfl)
theorem dX7_describe_67 : decode cX7_describe 67 = .ok (.getfield 9, 3) := dk_180 0 9 (dk_at dksX7_describe_2 21 rfl rfl)
theorem dX7_describe_70 : decode cX7_describe 70 = .ok (.iconst 3, 1) := dk_6 (dk_at dksX7_describe_3 0 rfl rfl)
theorem dX7_describe_71 : decode cX7_describe 71 = .ok (.if_icmp .ne 8, 3) := dk_160 0 8 (dk_at dksX7_describe_3 1 rfl rfl)
theorem dX7_describe_74 : decode cX7_describe 74 = .ok (.ldc 51, 2) := dk_18 51 (dk_at dksX7_describe_3 4 rfl rfl)
theorem dX7_describe_76 : decode cX7_describe 76 = .ok (.goto 5, 3) := dk_167 0 5 (dk_at dksX7_describe_3 6 rfl rfl)
theorem dX7_describe_79 : decode cX7_describe 79 = .ok (.ldc 53, 2) := dk_18 53 (dk_at dksX7_describe_3 9 rfl rfl)
theorem dX7_describe_81 : decode cX7_describe 81 = .ok (.areturn, 1) := dk_176 (dk_at dksX7_describe_3 11 rfl rfl)
theorem dX7_describe_82 : decode cX7_describe 82 = .ok (.new 24, 3) := dk_187 0 24 (dk_at dksX7_describe_3 12 rfl rfl)
theorem dX7_describe_85 : decode cX7_describe 85 = .ok (.dup, 1) := dk_89 (dk_at dksX7_describe_3 15 rfl rfl)
theorem dX7_describe_86 : decode cX7_describe 86 = .ok (.ldc 55, 2) := dk_18 55 (dk_at dksX7_describe_3 16 rfl rfl)
theorem dX7_describe_88 : decode cX7_describe 88 = .ok (.invokespecial 57, 3) := dk_183 0 57 (dk_at dksX7_describe_3 18 rfl rfl)
theorem dX7_describe_91 : decode cX7_describe 91 = .ok (.astore_n 2, 1) := dk_77 (dk_at dksX7_describe_3 21 rfl rfl)
theorem dX7_describe_92 : decode cX7_describe 92 = .ok (.aload_n 2, 1) := dk_44 (dk_at dksX7_describe_3 22 rfl rfl)
theorem dX7_describe_93 : decode cX7_describe 93 = .ok (.aload_n 0, 1) := dk_42 (dk_at dksX7_describe_3 23 rfl rfl)
theorem dX7_describe_94 : decode cX7_describe 94 = .ok (.getfield 15, 3) := dk_180 0 15 (dk_at dksX7_describe_4 0 rfl rfl)
theorem dX7_describe_97 : decode cX7_describe 97 = .ok (.invokevirtual 33, 3) := dk_182 0 33 (dk_at dksX7_describe_4 3 rfl rfl)
theorem dX7_describe_100 : decode cX7_describe 100 = .ok (.pop, 1) := dk_87 (dk_at dksX7_describe_4 6 rfl rfl)
theorem dX7_describe_101 : decode cX7_describe 101 = .ok (.iconst 0, 1) := dk_3 (dk_at dksX7_describe_4 7 rfl rfl)
theorem dX7_describe_102 : decode cX7_describe 102 = .ok (.istore_n 3, 1) := dk_62 (dk_at dksX7_describe_4 8 rfl rfl)
theorem dX7_describe_103 : decode cX7_describe 103 = .ok (.iload_n 3, 1) := dk_29 (dk_at dksX7_describe_4 9 rfl rfl)
theorem dX7_describe_104 : decode cX7_describe 104 = .ok (.aload_n 0, 1) := dk_42 (dk_at dksX7_describe_4 10 rfl rfl)
theorem dX7_describe_105 : decode cX7_describe 105 = .ok (.getfield 18, 3) := dk_180 0 18 (dk_at dksX7_describe_4 11 rfl rfl)
theorem dX7_describe_108 : decode cX7_describe 108 = .ok (.if_icmp .gt 16, 3) := dk_163 0 16 (dk_at dksX7_describe_4 14 rfl rfl)
theorem dX7_describe_111 : decode cX7_describe 111 = .ok (.aload_n 2, 1) := dk_44 (dk_at dksX7_describe_4 17 rfl rfl)
theorem dX7_describe_112 : decode cX7_describe 112 = .ok (.bipush 33, 2) := dk_16 33 (dk_at dksX7_describe_4 18 rfl rfl)
theorem dX7_describe_114 : decode cX7_describe 114 = .ok (.invokevirtual 42, 3) := dk_182 0 42 (dk_at dksX7_describe_4 20 rfl rfl)
theorem dX7_describe_117 : decode cX7_describe 117 = .ok (.pop, 1) := dk_87 (dk_at dksX7_describe_4 23 rfl rfl)
theorem dX7_describe_118 : decode cX7_describe 118 = .ok (.iinc 3 1, 3) := dk_132 3 1 (dk_at dksX7_describe_5 0 rfl rfl)
theorem dX7_describe_121 : decode cX7_describe 121 = .ok (.goto (-18), 3) := dk_167 255 238 (dk_at dksX7_describe_5 3 rfl rfl)
theorem dX7_describe_124 : decode cX7_describe 124 = .ok (.aload_n 2, 1) := dk_44 (dk_at dksX7_describe_5 6 rfl rfl)
theorem dX7_describe_125 : decode cX7_describe 125 = .ok (.invokevirtual 45, 3) := dk_182 0 45 (dk_at dksX7_describe_5 7 rfl rfl)
theorem dX7_describe_128 : decode cX7_describe 128 = .ok (.areturn, 1) := dk_176 (dk_at dksX7_describe_5 10 rfl rfl)
theorem q108 : (Jvm.Cond.initialized "GateGrammar$Token") ∈ lw_all := lw_g (lw_at lw_m1 33 rfl) rfl
theorem q605 : (Jvm.Cond.selects "GateGrammar$Token" ({ cls := "java/lang/Object", name := "getClass", desc := "()Ljava/lang/Class;" } : Jvm.MethodName) ({ cls := "java/lang/Object", name := "getClass", desc := "()Ljava/lang/Class;" } : Jvm.MethodName)) ∈ lw_all := lw_g (lw_at lw_m3 50 rfl) rfl
theorem q1718 : (Jvm.Cond.instantiable "GateGrammar$Token" (3 : Nat)) ∈ lw_all := lw_g (lw_at lw_m7 203 rfl) rfl
theorem q1720 : (Jvm.Cond.instanceMethod ({ cls := "GateGrammar$Token", name := "<init>", desc := "(III)V" } : Jvm.MethodName)) ∈ lw_all := lw_g (lw_at lw_m7 205 rfl) rfl
theorem q1721 : (Jvm.Cond.code ({ cls := "GateGrammar$Token", name := "<init>", desc := "(III)V" } : Jvm.MethodName) prog_21_method_1_code (4 : Nat) (Option.none : Option Jvm.ClassFile.FieldType)) ∈ lw_all := lw_g (lw_at lw_m7 206 rfl) rfl
theorem q1722 : (Jvm.Cond.methodLink "GateGrammar$Token" (3 : Nat) ({ cls := "java/lang/Object", name := "<init>", desc := "()V" } : Jvm.MethodName)) ∈ lw_all := lw_g (lw_at lw_m7 207 rfl) rfl
theorem q1723 : (Jvm.Cond.fieldLink "GateGrammar$Token" (9 : Nat) "GateGrammar$Token" "kind" "I") ∈ lw_all := lw_g (lw_at lw_m7 208 rfl) rfl
theorem q1728 : (Jvm.Cond.fieldLink "GateGrammar$Token" (15 : Nat) "GateGrammar$Token" "word" "I") ∈ lw_all := lw_g (lw_at lw_m7 213 rfl) rfl
theorem q1730 : (Jvm.Cond.fieldLink "GateGrammar$Token" (18 : Nat) "GateGrammar$Token" "detail" "I") ∈ lw_all := lw_g (lw_at lw_m7 215 rfl) rfl
theorem q1733 : (Jvm.Cond.laysFinal "GateGrammar$Token" "GateGrammar$Token" "kind" "I") ∈ lw_all := lw_g (lw_at lw_m7 218 rfl) rfl
theorem q1734 : (Jvm.Cond.soleField "GateGrammar$Token" "kind") ∈ lw_all := lw_g (lw_at lw_m7 219 rfl) rfl
theorem q1735 : (Jvm.Cond.laysFinal "GateGrammar$Token" "GateGrammar$Token" "word" "I") ∈ lw_all := lw_g (lw_at lw_m7 220 rfl) rfl
theorem q1736 : (Jvm.Cond.soleField "GateGrammar$Token" "word") ∈ lw_all := lw_g (lw_at lw_m7 221 rfl) rfl
theorem q1737 : (Jvm.Cond.laysFinal "GateGrammar$Token" "GateGrammar$Token" "detail" "I") ∈ lw_all := lw_g (lw_at lw_m7 222 rfl) rfl
theorem q1738 : (Jvm.Cond.soleField "GateGrammar$Token" "detail") ∈ lw_all := lw_g (lw_at lw_m7 223 rfl) rfl
theorem q1739 : (Jvm.Cond.superclass "GateGrammar$Token" "java/lang/Object") ∈ lw_all := lw_g (lw_at lw_m7 224 rfl) rfl
theorem q1773 : (Jvm.Cond.instanceMethod ({ cls := "GateGrammar$Token", name := "<init>", desc := "(I)V" } : Jvm.MethodName)) ∈ lw_all := lw_g (lw_at lw_m8 18 rfl) rfl
theorem q1774 : (Jvm.Cond.code ({ cls := "GateGrammar$Token", name := "<init>", desc := "(I)V" } : Jvm.MethodName) prog_21_method_2_code (2 : Nat) (Option.none : Option Jvm.ClassFile.FieldType)) ∈ lw_all := lw_g (lw_at lw_m8 19 rfl) rfl
theorem q1775 : (Jvm.Cond.methodLink "GateGrammar$Token" (21 : Nat) ({ cls := "GateGrammar$Token", name := "<init>", desc := "(III)V" } : Jvm.MethodName)) ∈ lw_all := lw_g (lw_at lw_m8 20 rfl) rfl
theorem q2426 : (Jvm.Cond.instanceMethod ({ cls := "GateGrammar$Token", name := "describe", desc := "(LGateGrammar$Lexicon;)Ljava/lang/String;" } : Jvm.MethodName)) ∈ lw_all := lw_g (lw_at lw_m10 191 rfl) rfl
theorem q2427 : (Jvm.Cond.selects "GateGrammar$Token" ({ cls := "GateGrammar$Token", name := "describe", desc := "(LGateGrammar$Lexicon;)Ljava/lang/String;" } : Jvm.MethodName) ({ cls := "GateGrammar$Token", name := "describe", desc := "(LGateGrammar$Lexicon;)Ljava/lang/String;" } : Jvm.MethodName)) ∈ lw_all := lw_g (lw_at lw_m10 192 rfl) rfl
theorem q2428 : (Jvm.Cond.code ({ cls := "GateGrammar$Token", name := "describe", desc := "(LGateGrammar$Lexicon;)Ljava/lang/String;" } : Jvm.MethodName) prog_21_method_3_code (4 : Nat) (Option.some (Jvm.ClassFile.FieldType.object "java/lang/String"))) ∈ lw_all := lw_g (lw_at lw_m10 193 rfl) rfl
theorem q2429 : (Jvm.Cond.classLink "GateGrammar$Token" (24 : Nat) "java/lang/StringBuilder") ∈ lw_all := lw_g (lw_at lw_m10 194 rfl) rfl
theorem q2430 : (Jvm.Cond.methodLink "GateGrammar$Token" (26 : Nat) ({ cls := "java/lang/StringBuilder", name := "<init>", desc := "()V" } : Jvm.MethodName)) ∈ lw_all := lw_g (lw_at lw_m10 195 rfl) rfl
theorem q2431 : (Jvm.Cond.stringRef "GateGrammar$Token" (27 : Nat) "") ∈ lw_tbl := lw_at lw_m10 196 rfl
theorem q2432 : (Jvm.Cond.methodLink "GateGrammar$Token" (29 : Nat) ({ cls := "java/lang/StringBuilder", name := "append", desc := "(Ljava/lang/String;)Ljava/lang/StringBuilder;" } : Jvm.MethodName)) ∈ lw_all := lw_g (lw_at lw_m10 197 rfl) rfl
theorem q2433 : (Jvm.Cond.methodLink "GateGrammar$Token" (33 : Nat) ({ cls := "java/lang/StringBuilder", name := "append", desc := "(I)Ljava/lang/StringBuilder;" } : Jvm.MethodName)) ∈ lw_all := lw_g (lw_at lw_m10 198 rfl) rfl
theorem q2434 : (Jvm.Cond.methodLink "GateGrammar$Token" (36 : Nat) ({ cls := "GateGrammar$Lexicon", name := "ending", desc := "(II)C" } : Jvm.MethodName)) ∈ lw_all := lw_g (lw_at lw_m10 199 rfl) rfl
theorem q2435 : (Jvm.Cond.methodLink "GateGrammar$Token" (42 : Nat) ({ cls := "java/lang/StringBuilder", name := "append", desc := "(C)Ljava/lang/StringBuilder;" } : Jvm.MethodName)) ∈ lw_all := lw_g (lw_at lw_m10 200 rfl) rfl
theorem q2436 : (Jvm.Cond.methodLink "GateGrammar$Token" (45 : Nat) ({ cls := "java/lang/StringBuilder", name := "toString", desc := "()Ljava/lang/String;" } : Jvm.MethodName)) ∈ lw_all := lw_g (lw_at lw_m10 201 rfl) rfl
theorem q2437 : (Jvm.Cond.stringRef "GateGrammar$Token" (49 : Nat) "(") ∈ lw_tbl := lw_at lw_m10 202 rfl
theorem q2438 : (Jvm.Cond.stringRef "GateGrammar$Token" (51 : Nat) ")") ∈ lw_tbl := lw_at lw_m10 203 rfl
theorem q2439 : (Jvm.Cond.stringRef "GateGrammar$Token" (53 : Nat) "+") ∈ lw_tbl := lw_at lw_m10 204 rfl
theorem q2440 : (Jvm.Cond.stringRef "GateGrammar$Token" (55 : Nat) "v") ∈ lw_tbl := lw_at lw_m10 205 rfl
theorem q2441 : (Jvm.Cond.methodLink "GateGrammar$Token" (57 : Nat) ({ cls := "java/lang/StringBuilder", name := "<init>", desc := "(Ljava/lang/String;)V" } : Jvm.MethodName)) ∈ lw_all := lw_g (lw_at lw_m10 206 rfl) rfl
theorem q3056 : (Jvm.Cond.castable "GateGrammar$Token" "java/lang/Object") ∈ lw_tbl := lw_at lw_m13 101 rfl
theorem in_X7 : ∀ w ∈ wsX70, w ∈ lw_all := lw_in wsX70 [1733, 1735, 1737] (by decide +kernel) (by decide +kernel)

/-! GateGrammar$Sentence -/
set_option maxRecDepth 100000
def RX8 : String := "GateGrammar$Sentence"
def TX8 : u_T := fun k => match k with
  | 0 => ("GateGrammar$Sentence", "tokens", "Ljava/util/List;", true)
  | 1 => ("GateGrammar$Sentence", "topLevel", "Ljava/util/ArrayList;", true)
  | 2 => ("GateGrammar$Sentence", "position", "I", false)
  | _ => ("GateGrammar$Sentence", "clauses", "I", false)
def tyX8 : Nat → FieldType := fun k => match k with
  | 0 => .object "java/util/List"
  | 1 => .object "java/util/ArrayList"
  | 2 => .int
  | _ => .int
abbrev wsX80 : List Cond := u_ws RX8 TX8 4
theorem nmX8 : ∀ a, a < 4 → ∀ b, b < 4 → a ≠ b → (TX8 a).2.1 ≠ (TX8 b).2.1 := by decide +kernel
theorem tyX8_ok : ∀ k, k < 4 → parseFieldDescriptor (TX8 k).2.2.1 = some (tyX8 k) := by decide +kernel
abbrev cX8_token : ByteArray := prog_16_method_2_code
def yX8_token : MethodName := ⟨RX8, "token", "(I)LGateGrammar$Token;"⟩
def dkwX8_token_0 : List UInt8 := [42, 180, 0, 18, 27, 185, 0, 40, 2, 0, 192, 0, 44, 176]
abbrev dktX8_token_0 : List UInt8 := dkwX8_token_0 ++ []
theorem dksX8_token_0 : cX8_token.data.toList.drop 0 = dktX8_token_0 := by decide +kernel
theorem dX8_token_0 : decode cX8_token 0 = .ok (.aload_n 0, 1) := dk_42 (dk_at dksX8_token_0 0 rfl rfl)
theorem dX8_token_1 : decode cX8_token 1 = .ok (.getfield 18, 3) := dk_180 0 18 (dk_at dksX8_token_0 1 rfl rfl)
theorem dX8_token_4 : decode cX8_token 4 = .ok (.iload_n 1, 1) := dk_27 (dk_at dksX8_token_0 4 rfl rfl)
theorem dX8_token_5 : decode cX8_token 5 = .ok (.invokeinterface 40 2, 5) := by decide +kernel
theorem dX8_token_10 : decode cX8_token 10 = .ok (.checkcast 44, 3) := dk_192 0 44 (dk_at dksX8_token_0 10 rfl rfl)
theorem dX8_token_13 : decode cX8_token 13 = .ok (.areturn, 1) := dk_176 (dk_at dksX8_token_0 13 rfl rfl)
abbrev cX8_isLaterThanParent : ByteArray := prog_16_method_5_code
def yX8_isLaterThanParent : MethodName := ⟨RX8, "isLaterThanParent", "(LGateGrammar$Clause;)Z"⟩
def dkwX8_isLaterThanParent_1 : List UInt8 := [167, 0, 4, 3, 172]
abbrev dktX8_isLaterThanParent_1 : List UInt8 := dkwX8_isLaterThanParent_1 ++ []
def dkwX8_isLaterThanParent_0 : List UInt8 := [43, 180, 0, 65, 198, 0, 23, 42, 43, 182, 0, 58, 42, 43, 180, 0, 65, 182, 0, 58, 164, 0, 7, 4]
abbrev dktX8_isLaterThanParent_0 : List UInt8 := dkwX8_isLaterThanParent_0 ++ dktX8_isLaterThanParent_1
theorem dksX8_isLaterThanParent_0 : cX8_isLaterThanParent.data.toList.drop 0 = dktX8_isLaterThanParent_0 := by decide +kernel
theorem dksX8_isLaterThanParent_1 : cX8_isLaterThanParent.data.toList.drop 24 = dktX8_isLaterThanParent_1 := dk_seg dksX8_isLaterThanParent_0 24 rfl rfl
theorem dX8_isLaterThanParent_0 : decode cX8_isLaterThanParent 0 = .ok (.aload_n 1, 1) := dk_43 (dk_at dksX8_isLaterThanParent_0 0 rfl rfl)
theorem dX8_isLaterThanParent_1 : decode cX8_isLaterThanParent 1 = .ok (.getfield 65, 3) := dk_180 0 65 (dk_at dksX8_isLaterThanParent_0 1 rfl rfl)
theorem dX8_isLaterThanParent_4 : decode cX8_isLaterThanParent 4 = .ok (.ifnull 23, 3) := dk_198 0 23 (dk_at dksX8_isLaterThanParent_0 4 rfl rfl)
theorem dX8_isLaterThanParent_7 : decode cX8_isLaterThanParent 7 = .ok (.aload_n 0, 1) := dk_42 (dk_at dksX8_isLaterThanParent_0 7 rfl rfl)
theorem dX8_isLaterThanParent_8 : decode cX8_isLaterThanParent 8 = .ok (.aload_n 1, 1) := dk_43 (dk_at dksX8_isLaterThanParent_0 8 rfl rfl)
theorem dX8_isLaterThanParent_9 : decode cX8_isLaterThanParent 9 = .ok (.invokevirtual 58, 3) := dk_182 0 58 (dk_at dksX8_isLaterThanParent_0 9 rfl rfl)
theorem dX8_isLaterThanParent_12 : decode cX8_isLaterThanParent 12 = .ok (.aload_n 0, 1) := dk_42 (dk_at dksX8_isLaterThanParent_0 12 rfl rfl)
theorem dX8_isLaterThanParent_13 : decode cX8_isLaterThanParent 13 = .ok (.aload_n 1, 1) := dk_43 (dk_at dksX8_isLaterThanParent_0 13 rfl rfl)
theorem dX8_isLaterThanParent_14 : decode cX8_isLaterThanParent 14 = .ok (.getfield 65, 3) := dk_180 0 65 (dk_at dksX8_isLaterThanParent_0 14 rfl rfl)
theorem dX8_isLaterThanParent_17 : decode cX8_isLaterThanParent 17 = .ok (.invokevirtual 58, 3) := dk_182 0 58 (dk_at dksX8_isLaterThanParent_0 17 rfl rfl)
theorem dX8_isLaterThanParent_20 : decode cX8_isLaterThanParent 20 = .ok (.if_icmp .le 7, 3) := dk_164 0 7 (dk_at dksX8_isLaterThanParent_0 20 rfl rfl)
theorem dX8_isLaterThanParent_23 : decode cX8_isLaterThanParent 23 = .ok (.iconst 1, 1) := dk_4 (dk_at dksX8_isLaterThanParent_0 23 rfl rfl)
theorem dX8_isLaterThanParent_24 : decode cX8_isLaterThanParent 24 = .ok (.goto 4, 3) := dk_167 0 4 (dk_at dksX8_isLaterThanParent_1 0 rfl rfl)
theorem dX8_isLaterThanParent_27 : decode cX8_isLaterThanParent 27 = .ok (.iconst 0, 1) := dk_3 (dk_at dksX8_isLaterThanParent_1 3 rfl rfl)
theorem dX8_isLaterThanParent_28 : decode cX8_isLaterThanParent 28 = .ok (.ireturn, 1) := dk_172 (dk_at dksX8_isLaterThanParent_1 4 rfl rfl)
abbrev cX8_tense : ByteArray := prog_16_method_3_code
def yX8_tense : MethodName := ⟨RX8, "tense", "(LGateGrammar$Clause;)I"⟩
def dkwX8_tense_0 : List UInt8 := [42, 43, 180, 0, 46, 182, 0, 51, 180, 0, 55, 172]
abbrev dktX8_tense_0 : List UInt8 := dkwX8_tense_0 ++ []
theorem dksX8_tense_0 : cX8_tense.data.toList.drop 0 = dktX8_tense_0 := by decide +kernel
theorem dX8_tense_0 : decode cX8_tense 0 = .ok (.aload_n 0, 1) := dk_42 (dk_at dksX8_tense_0 0 rfl rfl)
theorem dX8_tense_1 : decode cX8_tense 1 = .ok (.aload_n 1, 1) := dk_43 (dk_at dksX8_tense_0 1 rfl rfl)
theorem dX8_tense_2 : decode cX8_tense 2 = .ok (.getfield 46, 3) := dk_180 0 46 (dk_at dksX8_tense_0 2 rfl rfl)
theorem dX8_tense_5 : decode cX8_tense 5 = .ok (.invokevirtual 51, 3) := dk_182 0 51 (dk_at dksX8_tense_0 5 rfl rfl)
theorem dX8_tense_8 : decode cX8_tense 8 = .ok (.getfield 55, 3) := dk_180 0 55 (dk_at dksX8_tense_0 8 rfl rfl)
theorem dX8_tense_11 : decode cX8_tense 11 = .ok (.ireturn, 1) := dk_172 (dk_at dksX8_tense_0 11 rfl rfl)
abbrev cX8_differsFromFirst : ByteArray := prog_16_method_4_code
def yX8_differsFromFirst : MethodName := ⟨RX8, "differsFromFirst", "(LGateGrammar$Clause;)Z"⟩
def dkwX8_differsFromFirst_1 : List UInt8 := [159, 0, 7, 4, 167, 0, 4, 3, 172]
abbrev dktX8_differsFromFirst_1 : List UInt8 := dkwX8_differsFromFirst_1 ++ []
def dkwX8_differsFromFirst_0 : List UInt8 := [42, 43, 182, 0, 58, 42, 43, 180, 0, 62, 3, 185, 0, 40, 2, 0, 192, 0, 47, 182, 0, 58]
abbrev dktX8_differsFromFirst_0 : List UInt8 := dkwX8_differsFromFirst_0 ++ dktX8_differsFromFirst_1
theorem dksX8_differsFromFirst_0 : cX8_differsFromFirst.data.toList.drop 0 = dktX8_differsFromFirst_0 := by decide +kernel
theorem dksX8_differsFromFirst_1 : cX8_differsFromFirst.data.toList.drop 22 = dktX8_differsFromFirst_1 := dk_seg dksX8_differsFromFirst_0 22 rfl rfl
theorem dX8_differsFromFirst_0 : decode cX8_differsFromFirst 0 = .ok (.aload_n 0, 1) := dk_42 (dk_at dksX8_differsFromFirst_0 0 rfl rfl)
theorem dX8_differsFromFirst_1 : decode cX8_differsFromFirst 1 = .ok (.aload_n 1, 1) := dk_43 (dk_at dksX8_differsFromFirst_0 1 rfl rfl)
theorem dX8_differsFromFirst_2 : decode cX8_differsFromFirst 2 = .ok (.invokevirtual 58, 3) := dk_182 0 58 (dk_at dksX8_differsFromFirst_0 2 rfl rfl)
theorem dX8_differsFromFirst_5 : decode cX8_differsFromFirst 5 = .ok (.aload_n 0, 1) := dk_42 (dk_at dksX8_differsFromFirst_0 5 rfl rfl)
theorem dX8_differsFromFirst_6 : decode cX8_differsFromFirst 6 = .ok (.aload_n 1, 1) := dk_43 (dk_at dksX8_differsFromFirst_0 6 rfl rfl)
theorem dX8_differsFromFirst_7 : decode cX8_differsFromFirst 7 = .ok (.getfield 62, 3) := dk_180 0 62 (dk_at dksX8_differsFromFirst_0 7 rfl rfl)
theorem dX8_differsFromFirst_10 : decode cX8_differsFromFirst 10 = .ok (.iconst 0, 1) := dk_3 (dk_at dksX8_differsFromFirst_0 10 rfl rfl)
theorem dX8_differsFromFirst_11 : decode cX8_differsFromFirst 11 = .ok (.invokeinterface 40 2, 5) := by decide +kernel
theorem dX8_differsFromFirst_16 : decode cX8_differsFromFirst 16 = .ok (.checkcast 47, 3) := dk_192 0 47 (dk_at dksX8_differsFromFirst_0 16 rfl rfl)
theorem dX8_differsFromFirst_19 : decode cX8_differsFromFirst 19 = .ok (.invokevirtual 58, 3) := dk_182 0 58 (dk_at dksX8_differsFromFirst_0 19 rfl rfl)
theorem dX8_differsFromFirst_22 : decode cX8_differsFromFirst 22 = .ok (.if_icmp .eq 7, 3) := dk_159 0 7 (dk_at dksX8_differsFromFirst_1 0 rfl rfl)
theorem dX8_differsFromFirst_25 : decode cX8_differsFromFirst 25 = .ok (.iconst 1, 1) := dk_4 (dk_at dksX8_differsFromFirst_1 3 rfl rfl)
theorem dX8_differsFromFirst_26 : decode cX8_differsFromFirst 26 = .ok (.goto 4, 3) := dk_167 0 4 (dk_at dksX8_differsFromFirst_1 4 rfl rfl)
theorem dX8_differsFromFirst_29 : decode cX8_differsFromFirst 29 = .ok (.iconst 0, 1) := dk_3 (dk_at dksX8_differsFromFirst_1 7 rfl rfl)
theorem dX8_differsFromFirst_30 : decode cX8_differsFromFirst 30 = .ok (.ireturn, 1) := dk_172 (dk_at dksX8_differsFromFirst_1 8 rfl rfl)
abbrev cX8_init : ByteArray := prog_16_method_1_code
def yX8_init : MethodName := ⟨RX8, "<init>", "(Ljava/util/List;)V"⟩
def dkwX8_init_2 : List UInt8 := [167, 0, 4, 3, 182, 0, 36, 177]
abbrev dktX8_init_2 : List UInt8 := dkwX8_init_2 ++ []
def dkwX8_init_1 : List UInt8 := [180, 0, 12, 1, 182, 0, 22, 42, 42, 180, 0, 26, 43, 185, 0, 30, 1, 0, 160, 0, 7, 4]
abbrev dktX8_init_1 : List UInt8 := dkwX8_init_1 ++ dktX8_init_2
def dkwX8_init_0 : List UInt8 := [42, 183, 0, 3, 42, 187, 0, 9, 89, 183, 0, 11, 181, 0, 12, 42, 43, 181, 0, 18, 42, 42]
abbrev dktX8_init_0 : List UInt8 := dkwX8_init_0 ++ dktX8_init_1
theorem dksX8_init_0 : cX8_init.data.toList.drop 0 = dktX8_init_0 := by decide +kernel
theorem dksX8_init_1 : cX8_init.data.toList.drop 22 = dktX8_init_1 := dk_seg dksX8_init_0 22 rfl rfl
theorem dksX8_init_2 : cX8_init.data.toList.drop 44 = dktX8_init_2 := dk_seg dksX8_init_1 22 rfl rfl
theorem dX8_init_0 : decode cX8_init 0 = .ok (.aload_n 0, 1) := dk_42 (dk_at dksX8_init_0 0 rfl rfl)
theorem dX8_init_1 : decode cX8_init 1 = .ok (.invokespecial 3, 3) := dk_183 0 3 (dk_at dksX8_init_0 1 rfl rfl)
theorem dX8_init_4 : decode cX8_init 4 = .ok (.aload_n 0, 1) := dk_42 (dk_at dksX8_init_0 4 rfl rfl)
theorem dX8_init_5 : decode cX8_init 5 = .ok (.new 9, 3) := dk_187 0 9 (dk_at dksX8_init_0 5 rfl rfl)
theorem dX8_init_8 : decode cX8_init 8 = .ok (.dup, 1) := dk_89 (dk_at dksX8_init_0 8 rfl rfl)
theorem dX8_init_9 : decode cX8_init 9 = .ok (.invokespecial 11, 3) := dk_183 0 11 (dk_at dksX8_init_0 9 rfl rfl)
theorem dX8_init_12 : decode cX8_init 12 = .ok (.putfield 12, 3) := dk_181 0 12 (dk_at dksX8_init_0 12 rfl rfl)
theorem dX8_init_15 : decode cX8_init 15 = .ok (.aload_n 0, 1) := dk_42 (dk_at dksX8_init_0 15 rfl rfl)
theorem dX8_init_16 : decode cX8_init 16 = .ok (.aload_n 1, 1) := dk_43 (dk_at dksX8_init_0 16 rfl rfl)
theorem dX8_init_17 : decode cX8_init 17 = .ok (.putfield 18, 3) := dk_181 0 18 (dk_at dksX8_init_0 17 rfl rfl)
theorem dX8_init_20 : decode cX8_init 20 = .ok (.aload_n 0, 1) := dk_42 (dk_at dksX8_init_0 20 rfl rfl)
theorem dX8_init_21 : decode cX8_init 21 = .ok (.aload_n 0, 1) := dk_42 (dk_at dksX8_init_0 21 rfl rfl)
theorem dX8_init_22 : decode cX8_init 22 = .ok (.getfield 12, 3) := dk_180 0 12 (dk_at dksX8_init_1 0 rfl rfl)
theorem dX8_init_25 : decode cX8_init 25 = .ok (.aconst_null, 1) := dk_1 (dk_at dksX8_init_1 3 rfl rfl)
theorem dX8_init_26 : decode cX8_init 26 = .ok (.invokevirtual 22, 3) := dk_182 0 22 (dk_at dksX8_init_1 4 rfl rfl)
theorem dX8_init_29 : decode cX8_init 29 = .ok (.aload_n 0, 1) := dk_42 (dk_at dksX8_init_1 7 rfl rfl)
theorem dX8_init_30 : decode cX8_init 30 = .ok (.aload_n 0, 1) := dk_42 (dk_at dksX8_init_1 8 rfl rfl)
theorem dX8_init_31 : decode cX8_init 31 = .ok (.getfield 26, 3) := dk_180 0 26 (dk_at dksX8_init_1 9 rfl rfl)
theorem dX8_init_34 : decode cX8_init 34 = .ok (.aload_n 1, 1) := dk_43 (dk_at dksX8_init_1 12 rfl rfl)
theorem dX8_init_35 : decode cX8_init 35 = .ok (.invokeinterface 30 1, 5) := by decide +kernel
theorem dX8_init_40 : decode cX8_init 40 = .ok (.if_icmp .ne 7, 3) := dk_160 0 7 (dk_at dksX8_init_1 18 rfl rfl)
theorem dX8_init_43 : decode cX8_init 43 = .ok (.iconst 1, 1) := dk_4 (dk_at dksX8_init_1 21 rfl rfl)
theorem dX8_init_44 : decode cX8_init 44 = .ok (.goto 4, 3) := dk_167 0 4 (dk_at dksX8_init_2 0 rfl rfl)
theorem dX8_init_47 : decode cX8_init 47 = .ok (.iconst 0, 1) := dk_3 (dk_at dksX8_init_2 3 rfl rfl)
theorem dX8_init_48 : decode cX8_init 48 = .ok (.invokevirtual 36, 3) := dk_182 0 36 (dk_at dksX8_init_2 4 rfl rfl)
theorem dX8_init_51 : decode cX8_init 51 = .ok (.return_, 1) := dk_177 (dk_at dksX8_init_2 7 rfl rfl)
abbrev cX8_parse : ByteArray := prog_16_method_9_code
def yX8_parse : MethodName := ⟨RX8, "parse", "(Ljava/util/List;LGateGrammar$Clause;)V"⟩
def dkwX8_parse_1 : List UInt8 := [42, 43, 44, 182, 0, 81, 167, 255, 232, 177]
abbrev dktX8_parse_1 : List UInt8 := dkwX8_parse_1 ++ []
def dkwX8_parse_0 : List UInt8 := [42, 43, 44, 182, 0, 81, 42, 7, 182, 0, 77, 153, 0, 22, 42, 89, 180, 0, 26, 4, 96, 181, 0, 26]
abbrev dktX8_parse_0 : List UInt8 := dkwX8_parse_0 ++ dktX8_parse_1
theorem dksX8_parse_0 : cX8_parse.data.toList.drop 0 = dktX8_parse_0 := by decide +kernel
theorem dksX8_parse_1 : cX8_parse.data.toList.drop 24 = dktX8_parse_1 := dk_seg dksX8_parse_0 24 rfl rfl
theorem dX8_parse_0 : decode cX8_parse 0 = .ok (.aload_n 0, 1) := dk_42 (dk_at dksX8_parse_0 0 rfl rfl)
theorem dX8_parse_1 : decode cX8_parse 1 = .ok (.aload_n 1, 1) := dk_43 (dk_at dksX8_parse_0 1 rfl rfl)
theorem dX8_parse_2 : decode cX8_parse 2 = .ok (.aload_n 2, 1) := dk_44 (dk_at dksX8_parse_0 2 rfl rfl)
theorem dX8_parse_3 : decode cX8_parse 3 = .ok (.invokevirtual 81, 3) := dk_182 0 81 (dk_at dksX8_parse_0 3 rfl rfl)
theorem dX8_parse_6 : decode cX8_parse 6 = .ok (.aload_n 0, 1) := dk_42 (dk_at dksX8_parse_0 6 rfl rfl)
theorem dX8_parse_7 : decode cX8_parse 7 = .ok (.iconst 4, 1) := dk_7 (dk_at dksX8_parse_0 7 rfl rfl)
theorem dX8_parse_8 : decode cX8_parse 8 = .ok (.invokevirtual 77, 3) := dk_182 0 77 (dk_at dksX8_parse_0 8 rfl rfl)
theorem dX8_parse_11 : decode cX8_parse 11 = .ok (.ifCond .eq 22, 3) := dk_153 0 22 (dk_at dksX8_parse_0 11 rfl rfl)
theorem dX8_parse_14 : decode cX8_parse 14 = .ok (.aload_n 0, 1) := dk_42 (dk_at dksX8_parse_0 14 rfl rfl)
theorem dX8_parse_15 : decode cX8_parse 15 = .ok (.dup, 1) := dk_89 (dk_at dksX8_parse_0 15 rfl rfl)
theorem dX8_parse_16 : decode cX8_parse 16 = .ok (.getfield 26, 3) := dk_180 0 26 (dk_at dksX8_parse_0 16 rfl rfl)
theorem dX8_parse_19 : decode cX8_parse 19 = .ok (.iconst 1, 1) := dk_4 (dk_at dksX8_parse_0 19 rfl rfl)
theorem dX8_parse_20 : decode cX8_parse 20 = .ok (.iadd, 1) := dk_96 (dk_at dksX8_parse_0 20 rfl rfl)
theorem dX8_parse_21 : decode cX8_parse 21 = .ok (.putfield 26, 3) := dk_181 0 26 (dk_at dksX8_parse_0 21 rfl rfl)
theorem dX8_parse_24 : decode cX8_parse 24 = .ok (.aload_n 0, 1) := dk_42 (dk_at dksX8_parse_1 0 rfl rfl)
theorem dX8_parse_25 : decode cX8_parse 25 = .ok (.aload_n 1, 1) := dk_43 (dk_at dksX8_parse_1 1 rfl rfl)
theorem dX8_parse_26 : decode cX8_parse 26 = .ok (.aload_n 2, 1) := dk_44 (dk_at dksX8_parse_1 2 rfl rfl)
theorem dX8_parse_27 : decode cX8_parse 27 = .ok (.invokevirtual 81, 3) := dk_182 0 81 (dk_at dksX8_parse_1 3 rfl rfl)
theorem dX8_parse_30 : decode cX8_parse 30 = .ok (.goto (-24), 3) := dk_167 255 232 (dk_at dksX8_parse_1 6 rfl rfl)
theorem dX8_parse_33 : decode cX8_parse 33 = .ok (.return_, 1) := dk_177 (dk_at dksX8_parse_1 9 rfl rfl)
abbrev cX8_parseClause : ByteArray := prog_16_method_10_code
def yX8_parseClause : MethodName := ⟨RX8, "parseClause", "(Ljava/util/List;LGateGrammar$Clause;)V"⟩
def dkwX8_parseClause_5 : List UInt8 := [182, 0, 97, 54, 4, 177]
abbrev dktX8_parseClause_5 : List UInt8 := dkwX8_parseClause_5 ++ []
def dkwX8_parseClause_4 : List UInt8 := [153, 0, 29, 42, 89, 180, 0, 26, 4, 96, 181, 0, 26, 42, 45, 180, 0, 111, 45, 182, 0, 22, 42, 6]
abbrev dktX8_parseClause_4 : List UInt8 := dkwX8_parseClause_4 ++ dktX8_parseClause_5
def dkwX8_parseClause_3 : List UInt8 := [182, 0, 77, 153, 0, 15, 45, 42, 3, 182, 0, 97, 181, 0, 108, 167, 0, 37, 42, 5, 182, 0, 77]
abbrev dktX8_parseClause_3 : List UInt8 := dkwX8_parseClause_3 ++ dktX8_parseClause_4
def dkwX8_parseClause_2 : List UInt8 := [182, 0, 107, 87, 42, 3, 182, 0, 77, 154, 255, 235, 45, 42, 4, 182, 0, 97, 181, 0, 46, 42, 3]
abbrev dktX8_parseClause_2 : List UInt8 := dkwX8_parseClause_2 ++ dktX8_parseClause_3
def dkwX8_parseClause_1 : List UInt8 := [96, 181, 0, 84, 43, 45, 185, 0, 90, 2, 0, 87, 45, 180, 0, 94, 42, 3, 182, 0, 97, 184, 0, 101]
abbrev dktX8_parseClause_1 : List UInt8 := dkwX8_parseClause_1 ++ dktX8_parseClause_2
def dkwX8_parseClause_0 : List UInt8 := [187, 0, 47, 89, 42, 180, 0, 84, 44, 43, 42, 180, 0, 26, 183, 0, 87, 78, 42, 89, 180, 0, 84, 4]
abbrev dktX8_parseClause_0 : List UInt8 := dkwX8_parseClause_0 ++ dktX8_parseClause_1
theorem dksX8_parseClause_0 : cX8_parseClause.data.toList.drop 0 = dktX8_parseClause_0 := by decide +kernel
theorem dksX8_parseClause_1 : cX8_parseClause.data.toList.drop 24 = dktX8_parseClause_1 := dk_seg dksX8_parseClause_0 24 rfl rfl
theorem dksX8_parseClause_2 : cX8_parseClause.data.toList.drop 48 = dktX8_parseClause_2 := dk_seg dksX8_parseClause_1 24 rfl rfl
theorem dksX8_parseClause_3 : cX8_parseClause.data.toList.drop 71 = dktX8_parseClause_3 := dk_seg dksX8_parseClause_2 23 rfl rfl
theorem dksX8_parseClause_4 : cX8_parseClause.data.toList.drop 94 = dktX8_parseClause_4 := dk_seg dksX8_parseClause_3 23 rfl rfl
theorem dksX8_parseClause_5 : cX8_parseClause.data.toList.drop 118 = dktX8_parseClause_5 := dk_seg dksX8_parseClause_4 24 rfl rfl
theorem dX8_parseClause_0 : decode cX8_parseClause 0 = .ok (.new 47, 3) := dk_187 0 47 (dk_at dksX8_parseClause_0 0 rfl rfl)
theorem dX8_parseClause_3 : decode cX8_parseClause 3 = .ok (.dup, 1) := dk_89 (dk_at dksX8_parseClause_0 3 rfl rfl)
theorem dX8_parseClause_4 : decode cX8_parseClause 4 = .ok (.aload_n 0, 1) := dk_42 (dk_at dksX8_parseClause_0 4 rfl rfl)
theorem dX8_parseClause_5 : decode cX8_parseClause 5 = .ok (.getfield 84, 3) := dk_180 0 84 (dk_at dksX8_parseClause_0 5 rfl rfl)
theorem dX8_parseClause_8 : decode cX8_parseClause 8 = .ok (.aload_n 2, 1) := dk_44 (dk_at dksX8_parseClause_0 8 rfl rfl)
theorem dX8_parseClause_9 : decode cX8_parseClause 9 = .ok (.aload_n 1, 1) := dk_43 (dk_at dksX8_parseClause_0 9 rfl rfl)
theorem dX8_parseClause_10 : decode cX8_parseClause 10 = .ok (.aload_n 0, 1) := dk_42 (dk_at dksX8_parseClause_0 10 rfl rfl)
theorem dX8_parseClause_11 : decode cX8_parseClause 11 = .ok (.getfield 26, 3) := dk_180 0 26 (dk_at dksX8_parseClause_0 11 rfl rfl)
theorem dX8_parseClause_14 : decode cX8_parseClause 14 = .ok (.invokespecial 87, 3) := dk_183 0 87 (dk_at dksX8_parseClause_0 14 rfl rfl)
theorem dX8_parseClause_17 : decode cX8_parseClause 17 = .ok (.astore_n 3, 1) := dk_78 (dk_at dksX8_parseClause_0 17 rfl rfl)
theorem dX8_parseClause_18 : decode cX8_parseClause 18 = .ok (.aload_n 0, 1) := dk_42 (dk_at dksX8_parseClause_0 18 rfl rfl)
theorem dX8_parseClause_19 : decode cX8_parseClause 19 = .ok (.dup, 1) := dk_89 (dk_at dksX8_parseClause_0 19 rfl rfl)
theorem dX8_parseClause_20 : decode cX8_parseClause 20 = .ok (.getfield 84, 3) := dk_180 0 84 (dk_at dksX8_parseClause_0 20 rfl rfl)
theorem dX8_parseClause_23 : decode cX8_parseClause 23 = .ok (.iconst 1, 1) := dk_4 (dk_at dksX8_parseClause_0 23 rfl rfl)
theorem dX8_parseClause_24 : decode cX8_parseClause 24 = .ok (.iadd, 1) := dk_96 (dk_at dksX8_parseClause_1 0 rfl rfl)
theorem dX8_parseClause_25 : decode cX8_parseClause 25 = .ok (.putfield 84, 3) := dk_181 0 84 (dk_at dksX8_parseClause_1 1 rfl rfl)
theorem dX8_parseClause_28 : decode cX8_parseClause 28 = .ok (.aload_n 1, 1) := dk_43 (dk_at dksX8_parseClause_1 4 rfl rfl)
theorem dX8_parseClause_29 : decode cX8_parseClause 29 = .ok (.aload_n 3, 1) := dk_45 (dk_at dksX8_parseClause_1 5 rfl rfl)
theorem dX8_parseClause_30 : decode cX8_parseClause 30 = .ok (.invokeinterface 90 2, 5) := by decide +kernel
theorem dX8_parseClause_35 : decode cX8_parseClause 35 = .ok (.pop, 1) := dk_87 (dk_at dksX8_parseClause_1 11 rfl rfl)
theorem dX8_parseClause_36 : decode cX8_parseClause 36 = .ok (.aload_n 3, 1) := dk_45 (dk_at dksX8_parseClause_1 12 rfl rfl)
theorem dX8_parseClause_37 : decode cX8_parseClause 37 = .ok (.getfield 94, 3) := dk_180 0 94 (dk_at dksX8_parseClause_1 13 rfl rfl)
theorem dX8_parseClause_40 : decode cX8_parseClause 40 = .ok (.aload_n 0, 1) := dk_42 (dk_at dksX8_parseClause_1 16 rfl rfl)
theorem dX8_parseClause_41 : decode cX8_parseClause 41 = .ok (.iconst 0, 1) := dk_3 (dk_at dksX8_parseClause_1 17 rfl rfl)
theorem dX8_parseClause_42 : decode cX8_parseClause 42 = .ok (.invokevirtual 97, 3) := dk_182 0 97 (dk_at dksX8_parseClause_1 18 rfl rfl)
theorem dX8_parseClause_45 : decode cX8_parseClause 45 = .ok (.invokestatic 101, 3) := dk_184 0 101 (dk_at dksX8_parseClause_1 21 rfl rfl)
theorem dX8_parseClause_48 : decode cX8_parseClause 48 = .ok (.invokevirtual 107, 3) := dk_182 0 107 (dk_at dksX8_parseClause_2 0 rfl rfl)
theorem dX8_parseClause_51 : decode cX8_parseClause 51 = .ok (.pop, 1) := dk_87 (dk_at dksX8_parseClause_2 3 rfl rfl)
theorem dX8_parseClause_52 : decode cX8_parseClause 52 = .ok (.aload_n 0, 1) := dk_42 (dk_at dksX8_parseClause_2 4 rfl rfl)
theorem dX8_parseClause_53 : decode cX8_parseClause 53 = .ok (.iconst 0, 1) := dk_3 (dk_at dksX8_parseClause_2 5 rfl rfl)
theorem dX8_parseClause_54 : decode cX8_parseClause 54 = .ok (.invokevirtual 77, 3) := dk_182 0 77 (dk_at dksX8_parseClause_2 6 rfl rfl)
theorem dX8_parseClause_57 : decode cX8_parseClause 57 = .ok (.ifCond .ne (-21), 3) := dk_154 255 235 (dk_at dksX8_parseClause_2 9 rfl rfl)
theorem dX8_parseClause_60 : decode cX8_parseClause 60 = .ok (.aload_n 3, 1) := dk_45 (dk_at dksX8_parseClause_2 12 rfl rfl)
theorem dX8_parseClause_61 : decode cX8_parseClause 61 = .ok (.aload_n 0, 1) := dk_42 (dk_at dksX8_parseClause_2 13 rfl rfl)
theorem dX8_parseClause_62 : decode cX8_parseClause 62 = .ok (.iconst 1, 1) := dk_4 (dk_at dksX8_parseClause_2 14 rfl rfl)
theorem dX8_parseClause_63 : decode cX8_parseClause 63 = .ok (.invokevirtual 97, 3) := dk_182 0 97 (dk_at dksX8_parseClause_2 15 rfl rfl)
theorem dX8_parseClause_66 : decode cX8_parseClause 66 = .ok (.putfield 46, 3) := dk_181 0 46 (dk_at dksX8_parseClause_2 18 rfl rfl)
theorem dX8_parseClause_69 : decode cX8_parseClause 69 = .ok (.aload_n 0, 1) := dk_42 (dk_at dksX8_parseClause_2 21 rfl rfl)
theorem dX8_parseClause_70 : decode cX8_parseClause 70 = .ok (.iconst 0, 1) := dk_3 (dk_at dksX8_parseClause_2 22 rfl rfl)
theorem dX8_parseClause_71 : decode cX8_parseClause 71 = .ok (.invokevirtual 77, 3) := dk_182 0 77 (dk_at dksX8_parseClause_3 0 rfl rfl)
theorem dX8_parseClause_74 : decode cX8_parseClause 74 = .ok (.ifCond .eq 15, 3) := dk_153 0 15 (dk_at dksX8_parseClause_3 3 rfl rfl)
theorem dX8_parseClause_77 : decode cX8_parseClause 77 = .ok (.aload_n 3, 1) := dk_45 (dk_at dksX8_parseClause_3 6 rfl rfl)
theorem dX8_parseClause_78 : decode cX8_parseClause 78 = .ok (.aload_n 0, 1) := dk_42 (dk_at dksX8_parseClause_3 7 rfl rfl)
theorem dX8_parseClause_79 : decode cX8_parseClause 79 = .ok (.iconst 0, 1) := dk_3 (dk_at dksX8_parseClause_3 8 rfl rfl)
theorem dX8_parseClause_80 : decode cX8_parseClause 80 = .ok (.invokevirtual 97, 3) := dk_182 0 97 (dk_at dksX8_parseClause_3 9 rfl rfl)
theorem dX8_parseClause_83 : decode cX8_parseClause 83 = .ok (.putfield 108, 3) := dk_181 0 108 (dk_at dksX8_parseClause_3 12 rfl rfl)
theorem dX8_parseClause_86 : decode cX8_parseClause 86 = .ok (.goto 37, 3) := dk_167 0 37 (dk_at dksX8_parseClause_3 15 rfl rfl)
theorem dX8_parseClause_89 : decode cX8_parseClause 89 = .ok (.aload_n 0, 1) := dk_42 (dk_at dksX8_parseClause_3 18 rfl rfl)
theorem dX8_parseClause_90 : decode cX8_parseClause 90 = .ok (.iconst 2, 1) := dk_5 (dk_at dksX8_parseClause_3 19 rfl rfl)
theorem dX8_parseClause_91 : decode cX8_parseClause 91 = .ok (.invokevirtual 77, 3) := dk_182 0 77 (dk_at dksX8_parseClause_3 20 rfl rfl)
theorem dX8_parseClause_94 : decode cX8_parseClause 94 = .ok (.ifCond .eq 29, 3) := dk_153 0 29 (dk_at dksX8_parseClause_4 0 rfl rfl)
theorem dX8_parseClause_97 : decode cX8_parseClause 97 = .ok (.aload_n 0, 1) := dk_42 (dk_at dksX8_parseClause_4 3 rfl rfl)
theorem dX8_parseClause_98 : decode cX8_parseClause 98 = .ok (.dup, 1) := dk_89 (dk_at dksX8_parseClause_4 4 rfl rfl)
theorem dX8_parseClause_99 : decode cX8_parseClause 99 = .ok (.getfield 26, 3) := dk_180 0 26 (dk_at dksX8_parseClause_4 5 rfl rfl)
theorem dX8_parseClause_102 : decode cX8_parseClause 102 = .ok (.iconst 1, 1) := dk_4 (dk_at dksX8_parseClause_4 8 rfl rfl)
theorem dX8_parseClause_103 : decode cX8_parseClause 103 = .ok (.iadd, 1) := dk_96 (dk_at dksX8_parseClause_4 9 rfl rfl)
theorem dX8_parseClause_104 : decode cX8_parseClause 104 = .ok (.putfield 26, 3) := dk_181 0 26 (dk_at dksX8_parseClause_4 10 rfl rfl)
theorem dX8_parseClause_107 : decode cX8_parseClause 107 = .ok (.aload_n 0, 1) := dk_42 (dk_at dksX8_parseClause_4 13 rfl rfl)
theorem dX8_parseClause_108 : decode cX8_parseClause 108 = .ok (.aload_n 3, 1) := dk_45 (dk_at dksX8_parseClause_4 14 rfl rfl)
theorem dX8_parseClause_109 : decode cX8_parseClause 109 = .ok (.getfield 111, 3) := dk_180 0 111 (dk_at dksX8_parseClause_4 15 rfl rfl)
theorem dX8_parseClause_112 : decode cX8_parseClause 112 = .ok (.aload_n 3, 1) := dk_45 (dk_at dksX8_parseClause_4 18 rfl rfl)
theorem dX8_parseClause_113 : decode cX8_parseClause 113 = .ok (.invokevirtual 22, 3) := dk_182 0 22 (dk_at dksX8_parseClause_4 19 rfl rfl)
theorem dX8_parseClause_116 : decode cX8_parseClause 116 = .ok (.aload_n 0, 1) := dk_42 (dk_at dksX8_parseClause_4 22 rfl rfl)
theorem dX8_parseClause_117 : decode cX8_parseClause 117 = .ok (.iconst 3, 1) := dk_6 (dk_at dksX8_parseClause_4 23 rfl rfl)
theorem dX8_parseClause_118 : decode cX8_parseClause 118 = .ok (.invokevirtual 97, 3) := dk_182 0 97 (dk_at dksX8_parseClause_5 0 rfl rfl)
theorem dX8_parseClause_121 : decode cX8_parseClause 121 = .ok (.istore 4, 2) := dk_54 4 (dk_at dksX8_parseClause_5 3 rfl rfl)
theorem dX8_parseClause_123 : decode cX8_parseClause 123 = .ok (.return_, 1) := dk_177 (dk_at dksX8_parseClause_5 5 rfl rfl)
abbrev cX8_take : ByteArray := prog_16_method_8_code
def yX8_take : MethodName := ⟨RX8, "take", "(I)I"⟩
def dkwX8_take_1 : List UInt8 := [100, 172]
abbrev dktX8_take_1 : List UInt8 := dkwX8_take_1 ++ []
def dkwX8_take_0 : List UInt8 := [42, 42, 27, 182, 0, 77, 182, 0, 36, 42, 89, 180, 0, 26, 4, 96, 181, 0, 26, 42, 180, 0, 26, 4]
abbrev dktX8_take_0 : List UInt8 := dkwX8_take_0 ++ dktX8_take_1
theorem dksX8_take_0 : cX8_take.data.toList.drop 0 = dktX8_take_0 := by decide +kernel
theorem dksX8_take_1 : cX8_take.data.toList.drop 24 = dktX8_take_1 := dk_seg dksX8_take_0 24 rfl rfl
theorem dX8_take_0 : decode cX8_take 0 = .ok (.aload_n 0, 1) := dk_42 (dk_at dksX8_take_0 0 rfl rfl)
theorem dX8_take_1 : decode cX8_take 1 = .ok (.aload_n 0, 1) := dk_42 (dk_at dksX8_take_0 1 rfl rfl)
theorem dX8_take_2 : decode cX8_take 2 = .ok (.iload_n 1, 1) := dk_27 (dk_at dksX8_take_0 2 rfl rfl)
theorem dX8_take_3 : decode cX8_take 3 = .ok (.invokevirtual 77, 3) := dk_182 0 77 (dk_at dksX8_take_0 3 rfl rfl)
theorem dX8_take_6 : decode cX8_take 6 = .ok (.invokevirtual 36, 3) := dk_182 0 36 (dk_at dksX8_take_0 6 rfl rfl)
theorem dX8_take_9 : decode cX8_take 9 = .ok (.aload_n 0, 1) := dk_42 (dk_at dksX8_take_0 9 rfl rfl)
theorem dX8_take_10 : decode cX8_take 10 = .ok (.dup, 1) := dk_89 (dk_at dksX8_take_0 10 rfl rfl)
theorem dX8_take_11 : decode cX8_take 11 = .ok (.getfield 26, 3) := dk_180 0 26 (dk_at dksX8_take_0 11 rfl rfl)
theorem dX8_take_14 : decode cX8_take 14 = .ok (.iconst 1, 1) := dk_4 (dk_at dksX8_take_0 14 rfl rfl)
theorem dX8_take_15 : decode cX8_take 15 = .ok (.iadd, 1) := dk_96 (dk_at dksX8_take_0 15 rfl rfl)
theorem dX8_take_16 : decode cX8_take 16 = .ok (.putfield 26, 3) := dk_181 0 26 (dk_at dksX8_take_0 16 rfl rfl)
theorem dX8_take_19 : decode cX8_take 19 = .ok (.aload_n 0, 1) := dk_42 (dk_at dksX8_take_0 19 rfl rfl)
theorem dX8_take_20 : decode cX8_take 20 = .ok (.getfield 26, 3) := dk_180 0 26 (dk_at dksX8_take_0 20 rfl rfl)
theorem dX8_take_23 : decode cX8_take 23 = .ok (.iconst 1, 1) := dk_4 (dk_at dksX8_take_0 23 rfl rfl)
theorem dX8_take_24 : decode cX8_take 24 = .ok (.isub, 1) := dk_100 (dk_at dksX8_take_1 0 rfl rfl)
theorem dX8_take_25 : decode cX8_take 25 = .ok (.ireturn, 1) := dk_172 (dk_at dksX8_take_1 1 rfl rfl)
abbrev cX8_isAt : ByteArray := prog_16_method_7_code
def yX8_isAt : MethodName := ⟨RX8, "isAt", "(I)Z"⟩
def dkwX8_isAt_1 : List UInt8 := [185, 0, 40, 2, 0, 192, 0, 44, 180, 0, 74, 27, 160, 0, 7, 4, 167, 0, 4, 3, 172]
abbrev dktX8_isAt_1 : List UInt8 := dkwX8_isAt_1 ++ []
def dkwX8_isAt_0 : List UInt8 := [42, 180, 0, 26, 42, 180, 0, 18, 185, 0, 30, 1, 0, 162, 0, 30, 42, 180, 0, 18, 42, 180, 0, 26]
abbrev dktX8_isAt_0 : List UInt8 := dkwX8_isAt_0 ++ dktX8_isAt_1
theorem dksX8_isAt_0 : cX8_isAt.data.toList.drop 0 = dktX8_isAt_0 := by decide +kernel
theorem dksX8_isAt_1 : cX8_isAt.data.toList.drop 24 = dktX8_isAt_1 := dk_seg dksX8_isAt_0 24 rfl rfl
theorem dX8_isAt_0 : decode cX8_isAt 0 = .ok (.aload_n 0, 1) := dk_42 (dk_at dksX8_isAt_0 0 rfl rfl)
theorem dX8_isAt_1 : decode cX8_isAt 1 = .ok (.getfield 26, 3) := dk_180 0 26 (dk_at dksX8_isAt_0 1 rfl rfl)
theorem dX8_isAt_4 : decode cX8_isAt 4 = .ok (.aload_n 0, 1) := dk_42 (dk_at dksX8_isAt_0 4 rfl rfl)
theorem dX8_isAt_5 : decode cX8_isAt 5 = .ok (.getfield 18, 3) := dk_180 0 18 (dk_at dksX8_isAt_0 5 rfl rfl)
theorem dX8_isAt_8 : decode cX8_isAt 8 = .ok (.invokeinterface 30 1, 5) := by decide +kernel
theorem dX8_isAt_13 : decode cX8_isAt 13 = .ok (.if_icmp .ge 30, 3) := dk_162 0 30 (dk_at dksX8_isAt_0 13 rfl rfl)
theorem dX8_isAt_16 : decode cX8_isAt 16 = .ok (.aload_n 0, 1) := dk_42 (dk_at dksX8_isAt_0 16 rfl rfl)
theorem dX8_isAt_17 : decode cX8_isAt 17 = .ok (.getfield 18, 3) := dk_180 0 18 (dk_at dksX8_isAt_0 17 rfl rfl)
theorem dX8_isAt_20 : decode cX8_isAt 20 = .ok (.aload_n 0, 1) := dk_42 (dk_at dksX8_isAt_0 20 rfl rfl)
theorem dX8_isAt_21 : decode cX8_isAt 21 = .ok (.getfield 26, 3) := dk_180 0 26 (dk_at dksX8_isAt_0 21 rfl rfl)
theorem dX8_isAt_24 : decode cX8_isAt 24 = .ok (.invokeinterface 40 2, 5) := by decide +kernel
theorem dX8_isAt_29 : decode cX8_isAt 29 = .ok (.checkcast 44, 3) := dk_192 0 44 (dk_at dksX8_isAt_1 5 rfl rfl)
theorem dX8_isAt_32 : decode cX8_isAt 32 = .ok (.getfield 74, 3) := dk_180 0 74 (dk_at dksX8_isAt_1 8 rfl rfl)
theorem dX8_isAt_35 : decode cX8_isAt 35 = .ok (.iload_n 1, 1) := dk_27 (dk_at dksX8_isAt_1 11 rfl rfl)
theorem dX8_isAt_36 : decode cX8_isAt 36 = .ok (.if_icmp .ne 7, 3) := dk_160 0 7 (dk_at dksX8_isAt_1 12 rfl rfl)
theorem dX8_isAt_39 : decode cX8_isAt 39 = .ok (.iconst 1, 1) := dk_4 (dk_at dksX8_isAt_1 15 rfl rfl)
theorem dX8_isAt_40 : decode cX8_isAt 40 = .ok (.goto 4, 3) := dk_167 0 4 (dk_at dksX8_isAt_1 16 rfl rfl)
theorem dX8_isAt_43 : decode cX8_isAt 43 = .ok (.iconst 0, 1) := dk_3 (dk_at dksX8_isAt_1 19 rfl rfl)
theorem dX8_isAt_44 : decode cX8_isAt 44 = .ok (.ireturn, 1) := dk_172 (dk_at dksX8_isAt_1 20 rfl rfl)
abbrev cX8_require : ByteArray := prog_16_method_6_code
def yX8_require : MethodName := ⟨RX8, "require", "(Z)V"⟩
def dkwX8_require_0 : List UInt8 := [27, 154, 0, 15, 187, 0, 69, 89, 42, 180, 0, 26, 183, 0, 71, 191, 177]
abbrev dktX8_require_0 : List UInt8 := dkwX8_require_0 ++ []
theorem dksX8_require_0 : cX8_require.data.toList.drop 0 = dktX8_require_0 := by decide +kernel
theorem dX8_require_0 : decode cX8_require 0 = .ok (.iload_n 1, 1) := dk_27 (dk_at dksX8_require_0 0 rfl rfl)
theorem dX8_require_1 : decode cX8_require 1 = .ok (.ifCond .ne 15, 3) := dk_154 0 15 (dk_at dksX8_require_0 1 rfl rfl)
theorem dX8_require_4 : decode cX8_require 4 = .ok (.new 69, 3) := dk_187 0 69 (dk_at dksX8_require_0 4 rfl rfl)
theorem dX8_require_7 : decode cX8_require 7 = .ok (.dup, 1) := dk_89 (dk_at dksX8_require_0 7 rfl rfl)
theorem dX8_require_8 : decode cX8_require 8 = .ok (.aload_n 0, 1) := dk_42 (dk_at dksX8_require_0 8 rfl rfl)
theorem dX8_require_9 : decode cX8_require 9 = .ok (.getfield 26, 3) := dk_180 0 26 (dk_at dksX8_require_0 9 rfl rfl)
theorem dX8_require_12 : decode cX8_require 12 = .ok (.invokespecial 71, 3) := dk_183 0 71 (dk_at dksX8_require_0 12 rfl rfl)
theorem dX8_require_15 : decode cX8_require 15 = .ok (.athrow, 1) := dk_191 (dk_at dksX8_require_0 15 rfl rfl)
theorem dX8_require_16 : decode cX8_require 16 = .ok (.return_, 1) := dk_177 (dk_at dksX8_require_0 16 rfl rfl)
abbrev cX8_iterator : ByteArray := prog_16_method_11_code
def yX8_iterator : MethodName := ⟨RX8, "iterator", "()Ljava/util/Iterator;"⟩
def dkwX8_iterator_2 : List UInt8 := [43, 183, 0, 125, 176]
abbrev dktX8_iterator_2 : List UInt8 := dkwX8_iterator_2 ++ []
def dkwX8_iterator_1 : List UInt8 := [180, 0, 12, 28, 182, 0, 118, 192, 0, 47, 182, 0, 119, 132, 2, 255, 167, 255, 234, 187, 0, 123, 89, 42]
abbrev dktX8_iterator_1 : List UInt8 := dkwX8_iterator_1 ++ dktX8_iterator_2
def dkwX8_iterator_0 : List UInt8 := [187, 0, 114, 89, 183, 0, 116, 76, 42, 180, 0, 12, 182, 0, 117, 4, 100, 61, 28, 155, 0, 24, 43, 42]
abbrev dktX8_iterator_0 : List UInt8 := dkwX8_iterator_0 ++ dktX8_iterator_1
theorem dksX8_iterator_0 : cX8_iterator.data.toList.drop 0 = dktX8_iterator_0 := by decide +kernel
theorem dksX8_iterator_1 : cX8_iterator.data.toList.drop 24 = dktX8_iterator_1 := dk_seg dksX8_iterator_0 24 rfl rfl
theorem dksX8_iterator_2 : cX8_iterator.data.toList.drop 48 = dktX8_iterator_2 := dk_seg dksX8_iterator_1 24 rfl rfl
theorem dX8_iterator_0 : decode cX8_iterator 0 = .ok (.new 114, 3) := dk_187 0 114 (dk_at dksX8_iterator_0 0 rfl rfl)
theorem dX8_iterator_3 : decode cX8_iterator 3 = .ok (.dup, 1) := dk_89 (dk_at dksX8_iterator_0 3 rfl rfl)
theorem dX8_iterator_4 : decode cX8_iterator 4 = .ok (.invokespecial 116, 3) := dk_183 0 116 (dk_at dksX8_iterator_0 4 rfl rfl)
theorem dX8_iterator_7 : decode cX8_iterator 7 = .ok (.astore_n 1, 1) := dk_76 (dk_at dksX8_iterator_0 7 rfl rfl)
theorem dX8_iterator_8 : decode cX8_iterator 8 = .ok (.aload_n 0, 1) := dk_42 (dk_at dksX8_iterator_0 8 rfl rfl)
theorem dX8_iterator_9 : decode cX8_iterator 9 = .ok (.getfield 12, 3) := dk_180 0 12 (dk_at dksX8_iterator_0 9 rfl rfl)
theorem dX8_iterator_12 : decode cX8_iterator 12 = .ok (.invokevirtual 117, 3) := dk_182 0 117 (dk_at dksX8_iterator_0 12 rfl rfl)
theorem dX8_iterator_15 : decode cX8_iterator 15 = .ok (.iconst 1, 1) := dk_4 (dk_at dksX8_iterator_0 15 rfl rfl)
theorem dX8_iterator_16 : decode cX8_iterator 16 = .ok (.isub, 1) := dk_100 (dk_at dksX8_iterator_0 16 rfl rfl)
theorem dX8_iterator_17 : decode cX8_iterator 17 = .ok (.istore_n 2, 1) := dk_61 (dk_at dksX8_iterator_0 17 rfl rfl)
theorem dX8_iterator_18 : decode cX8_iterator 18 = .ok (.iload_n 2, 1) := dk_28 (dk_at dksX8_iterator_0 18 rfl rfl)
theorem dX8_iterator_19 : decode cX8_iterator 19 = .ok (.ifCond .lt 24, 3) := dk_155 0 24 (dk_at dksX8_iterator_0 19 rfl rfl)
theorem dX8_iterator_22 : decode cX8_iterator 22 = .ok (.aload_n 1, 1) := dk_43 (dk_at dksX8_iterator_0 22 rfl rfl)
theorem dX8_iterator_23 : decode cX8_iterator 23 = .ok (.aload_n 0, 1) := dk_42 (dk_at dksX8_iterator_0 23 rfl rfl)
theorem dX8_iterator_24 : decode cX8_iterator 24 = .ok (.getfield 12, 3) := dk_180 0 12 (dk_at dksX8_iterator_1 0 rfl rfl)
theorem dX8_iterator_27 : decode cX8_iterator 27 = .ok (.iload_n 2, 1) := dk_28 (dk_at dksX8_iterator_1 3 rfl rfl)
theorem dX8_iterator_28 : decode cX8_iterator 28 = .ok (.invokevirtual 118, 3) := dk_182 0 118 (dk_at dksX8_iterator_1 4 rfl rfl)
theorem dX8_iterator_31 : decode cX8_iterator 31 = .ok (.checkcast 47, 3) := dk_192 0 47 (dk_at dksX8_iterator_1 7 rfl rfl)
theorem dX8_iterator_34 : decode cX8_iterator 34 = .ok (.invokevirtual 119, 3) := dk_182 0 119 (dk_at dksX8_iterator_1 10 rfl rfl)
theorem dX8_iterator_37 : decode cX8_iterator 37 = .ok (.iinc 2 (-1), 3) := dk_132 2 255 (dk_at dksX8_iterator_1 13 rfl rfl)
theorem dX8_iterator_40 : decode cX8_iterator 40 = .ok (.goto (-22), 3) := dk_167 255 234 (dk_at dksX8_iterator_1 16 rfl rfl)
theorem dX8_iterator_43 : decode cX8_iterator 43 = .ok (.new 123, 3) := dk_187 0 123 (dk_at dksX8_iterator_1 19 rfl rfl)
theorem dX8_iterator_46 : decode cX8_iterator 46 = .ok (.dup, 1) := dk_89 (dk_at dksX8_iterator_1 22 rfl rfl)
theorem dX8_iterator_47 : decode cX8_iterator 47 = .ok (.aload_n 0, 1) := dk_42 (dk_at dksX8_iterator_1 23 rfl rfl)
theorem dX8_iterator_48 : decode cX8_iterator 48 = .ok (.aload_n 1, 1) := dk_43 (dk_at dksX8_iterator_2 0 rfl rfl)
theorem dX8_iterator_49 : decode cX8_iterator 49 = .ok (.invokespecial 125, 3) := dk_183 0 125 (dk_at dksX8_iterator_2 1 rfl rfl)
theorem dX8_iterator_52 : decode cX8_iterator 52 = .ok (.areturn, 1) := dk_176 (dk_at dksX8_iterator_2 4 rfl rfl)
abbrev cX8_depth : ByteArray := prog_16_method_13_code
def yX8_depth : MethodName := ⟨RX8, "depth", "()I"⟩
def dkwX8_depth_1 : List UInt8 := [192, 0, 47, 78, 27, 45, 182, 0, 148, 184, 0, 151, 60, 167, 255, 228, 27, 172]
abbrev dktX8_depth_1 : List UInt8 := dkwX8_depth_1 ++ []
def dkwX8_depth_0 : List UInt8 := [3, 60, 42, 182, 0, 128, 77, 44, 185, 0, 132, 1, 0, 153, 0, 25, 44, 185, 0, 138, 1, 0]
abbrev dktX8_depth_0 : List UInt8 := dkwX8_depth_0 ++ dktX8_depth_1
theorem dksX8_depth_0 : cX8_depth.data.toList.drop 0 = dktX8_depth_0 := by decide +kernel
theorem dksX8_depth_1 : cX8_depth.data.toList.drop 22 = dktX8_depth_1 := dk_seg dksX8_depth_0 22 rfl rfl
theorem dX8_depth_0 : decode cX8_depth 0 = .ok (.iconst 0, 1) := dk_3 (dk_at dksX8_depth_0 0 rfl rfl)
theorem dX8_depth_1 : decode cX8_depth 1 = .ok (.istore_n 1, 1) := dk_60 (dk_at dksX8_depth_0 1 rfl rfl)
theorem dX8_depth_2 : decode cX8_depth 2 = .ok (.aload_n 0, 1) := dk_42 (dk_at dksX8_depth_0 2 rfl rfl)
theorem dX8_depth_3 : decode cX8_depth 3 = .ok (.invokevirtual 128, 3) := dk_182 0 128 (dk_at dksX8_depth_0 3 rfl rfl)
theorem dX8_depth_6 : decode cX8_depth 6 = .ok (.astore_n 2, 1) := dk_77 (dk_at dksX8_depth_0 6 rfl rfl)
theorem dX8_depth_7 : decode cX8_depth 7 = .ok (.aload_n 2, 1) := dk_44 (dk_at dksX8_depth_0 7 rfl rfl)
theorem dX8_depth_8 : decode cX8_depth 8 = .ok (.invokeinterface 132 1, 5) := by decide +kernel
theorem dX8_depth_13 : decode cX8_depth 13 = .ok (.ifCond .eq 25, 3) := dk_153 0 25 (dk_at dksX8_depth_0 13 rfl rfl)
theorem dX8_depth_16 : decode cX8_depth 16 = .ok (.aload_n 2, 1) := dk_44 (dk_at dksX8_depth_0 16 rfl rfl)
theorem dX8_depth_17 : decode cX8_depth 17 = .ok (.invokeinterface 138 1, 5) := by decide +kernel
theorem dX8_depth_22 : decode cX8_depth 22 = .ok (.checkcast 47, 3) := dk_192 0 47 (dk_at dksX8_depth_1 0 rfl rfl)
theorem dX8_depth_25 : decode cX8_depth 25 = .ok (.astore_n 3, 1) := dk_78 (dk_at dksX8_depth_1 3 rfl rfl)
theorem dX8_depth_26 : decode cX8_depth 26 = .ok (.iload_n 1, 1) := dk_27 (dk_at dksX8_depth_1 4 rfl rfl)
theorem dX8_depth_27 : decode cX8_depth 27 = .ok (.aload_n 3, 1) := dk_45 (dk_at dksX8_depth_1 5 rfl rfl)
theorem dX8_depth_28 : decode cX8_depth 28 = .ok (.invokevirtual 148, 3) := dk_182 0 148 (dk_at dksX8_depth_1 6 rfl rfl)
theorem dX8_depth_31 : decode cX8_depth 31 = .ok (.invokestatic 151, 3) := dk_184 0 151 (dk_at dksX8_depth_1 9 rfl rfl)
theorem dX8_depth_34 : decode cX8_depth 34 = .ok (.istore_n 1, 1) := dk_60 (dk_at dksX8_depth_1 12 rfl rfl)
theorem dX8_depth_35 : decode cX8_depth 35 = .ok (.goto (-28), 3) := dk_167 255 228 (dk_at dksX8_depth_1 13 rfl rfl)
theorem dX8_depth_38 : decode cX8_depth 38 = .ok (.iload_n 1, 1) := dk_27 (dk_at dksX8_depth_1 16 rfl rfl)
theorem dX8_depth_39 : decode cX8_depth 39 = .ok (.ireturn, 1) := dk_172 (dk_at dksX8_depth_1 17 rfl rfl)
abbrev cX8_clause : ByteArray := prog_16_method_12_code
def yX8_clause : MethodName := ⟨RX8, "clause", "(I)LGateGrammar$Clause;"⟩
def dkwX8_clause_1 : List UInt8 := [45, 180, 0, 142, 27, 160, 0, 5, 45, 176, 167, 255, 227, 187, 0, 145, 89, 183, 0, 147, 191]
abbrev dktX8_clause_1 : List UInt8 := dkwX8_clause_1 ++ []
def dkwX8_clause_0 : List UInt8 := [42, 182, 0, 128, 77, 44, 185, 0, 132, 1, 0, 153, 0, 26, 44, 185, 0, 138, 1, 0, 192, 0, 47, 78]
abbrev dktX8_clause_0 : List UInt8 := dkwX8_clause_0 ++ dktX8_clause_1
theorem dksX8_clause_0 : cX8_clause.data.toList.drop 0 = dktX8_clause_0 := by decide +kernel
theorem dksX8_clause_1 : cX8_clause.data.toList.drop 24 = dktX8_clause_1 := dk_seg dksX8_clause_0 24 rfl rfl
theorem dX8_clause_0 : decode cX8_clause 0 = .ok (.aload_n 0, 1) := dk_42 (dk_at dksX8_clause_0 0 rfl rfl)
theorem dX8_clause_1 : decode cX8_clause 1 = .ok (.invokevirtual 128, 3) := dk_182 0 128 (dk_at dksX8_clause_0 1 rfl rfl)
theorem dX8_clause_4 : decode cX8_clause 4 = .ok (.astore_n 2, 1) := dk_77 (dk_at dksX8_clause_0 4 rfl rfl)
theorem dX8_clause_5 : decode cX8_clause 5 = .ok (.aload_n 2, 1) := dk_44 (dk_at dksX8_clause_0 5 rfl rfl)
theorem dX8_clause_6 : decode cX8_clause 6 = .ok (.invokeinterface 132 1, 5) := by decide +kernel
theorem dX8_clause_11 : decode cX8_clause 11 = .ok (.ifCond .eq 26, 3) := dk_153 0 26 (dk_at dksX8_clause_0 11 rfl rfl)
theorem dX8_clause_14 : decode cX8_clause 14 = .ok (.aload_n 2, 1) := dk_44 (dk_at dksX8_clause_0 14 rfl rfl)
theorem dX8_clause_15 : decode cX8_clause 15 = .ok (.invokeinterface 138 1, 5) := by decide +kernel
theorem dX8_clause_20 : decode cX8_clause 20 = .ok (.checkcast 47, 3) := dk_192 0 47 (dk_at dksX8_clause_0 20 rfl rfl)
theorem dX8_clause_23 : decode cX8_clause 23 = .ok (.astore_n 3, 1) := dk_78 (dk_at dksX8_clause_0 23 rfl rfl)
theorem dX8_clause_24 : decode cX8_clause 24 = .ok (.aload_n 3, 1) := dk_45 (dk_at dksX8_clause_1 0 rfl rfl)
theorem dX8_clause_25 : decode cX8_clause 25 = .ok (.getfield 142, 3) := dk_180 0 142 (dk_at dksX8_clause_1 1 rfl rfl)
theorem dX8_clause_28 : decode cX8_clause 28 = .ok (.iload_n 1, 1) := dk_27 (dk_at dksX8_clause_1 4 rfl rfl)
theorem dX8_clause_29 : decode cX8_clause 29 = .ok (.if_icmp .ne 5, 3) := dk_160 0 5 (dk_at dksX8_clause_1 5 rfl rfl)
theorem dX8_clause_32 : decode cX8_clause 32 = .ok (.aload_n 3, 1) := dk_45 (dk_at dksX8_clause_1 8 rfl rfl)
theorem dX8_clause_33 : decode cX8_clause 33 = .ok (.areturn, 1) := dk_176 (dk_at dksX8_clause_1 9 rfl rfl)
theorem dX8_clause_34 : decode cX8_clause 34 = .ok (.goto (-29), 3) := dk_167 255 227 (dk_at dksX8_clause_1 10 rfl rfl)
theorem dX8_clause_37 : decode cX8_clause 37 = .ok (.new 145, 3) := dk_187 0 145 (dk_at dksX8_clause_1 13 rfl rfl)
theorem dX8_clause_40 : decode cX8_clause 40 = .ok (.dup, 1) := dk_89 (dk_at dksX8_clause_1 16 rfl rfl)
theorem dX8_clause_41 : decode cX8_clause 41 = .ok (.invokespecial 147, 3) := dk_183 0 147 (dk_at dksX8_clause_1 17 rfl rfl)
theorem dX8_clause_44 : decode cX8_clause 44 = .ok (.athrow, 1) := dk_191 (dk_at dksX8_clause_1 20 rfl rfl)
theorem q109 : (Jvm.Cond.initialized "GateGrammar$Sentence") ∈ lw_all := lw_g (lw_at lw_m1 34 rfl) rfl
theorem q600 : (Jvm.Cond.selects "GateGrammar$Sentence" ({ cls := "java/lang/Object", name := "getClass", desc := "()Ljava/lang/Class;" } : Jvm.MethodName) ({ cls := "java/lang/Object", name := "getClass", desc := "()Ljava/lang/Class;" } : Jvm.MethodName)) ∈ lw_all := lw_g (lw_at lw_m3 45 rfl) rfl
theorem q983 : (Jvm.Cond.instanceMethod ({ cls := "GateGrammar$Sentence", name := "token", desc := "(I)LGateGrammar$Token;" } : Jvm.MethodName)) ∈ lw_all := lw_g (lw_at lw_m4 188 rfl) rfl
theorem q984 : (Jvm.Cond.selects "GateGrammar$Sentence" ({ cls := "GateGrammar$Sentence", name := "token", desc := "(I)LGateGrammar$Token;" } : Jvm.MethodName) ({ cls := "GateGrammar$Sentence", name := "token", desc := "(I)LGateGrammar$Token;" } : Jvm.MethodName)) ∈ lw_all := lw_g (lw_at lw_m4 189 rfl) rfl
theorem q985 : (Jvm.Cond.code ({ cls := "GateGrammar$Sentence", name := "token", desc := "(I)LGateGrammar$Token;" } : Jvm.MethodName) prog_16_method_2_code (2 : Nat) (Option.some (Jvm.ClassFile.FieldType.object "GateGrammar$Token"))) ∈ lw_all := lw_g (lw_at lw_m4 190 rfl) rfl
theorem q986 : (Jvm.Cond.interfaceEntry "GateGrammar$Sentence" (40 : Nat)) ∈ lw_tbl := lw_at lw_m4 191 rfl
theorem q987 : (Jvm.Cond.methodLink "GateGrammar$Sentence" (40 : Nat) ({ cls := "java/util/List", name := "get", desc := "(I)Ljava/lang/Object;" } : Jvm.MethodName)) ∈ lw_all := lw_g (lw_at lw_m4 192 rfl) rfl
theorem q998 : (Jvm.Cond.classLink "GateGrammar$Sentence" (44 : Nat) "GateGrammar$Token") ∈ lw_all := lw_g (lw_at lw_m4 203 rfl) rfl
theorem q1024 : (Jvm.Cond.instanceMethod ({ cls := "GateGrammar$Sentence", name := "isLaterThanParent", desc := "(LGateGrammar$Clause;)Z" } : Jvm.MethodName)) ∈ lw_all := lw_g (lw_at lw_m4 229 rfl) rfl
theorem q1025 : (Jvm.Cond.selects "GateGrammar$Sentence" ({ cls := "GateGrammar$Sentence", name := "isLaterThanParent", desc := "(LGateGrammar$Clause;)Z" } : Jvm.MethodName) ({ cls := "GateGrammar$Sentence", name := "isLaterThanParent", desc := "(LGateGrammar$Clause;)Z" } : Jvm.MethodName)) ∈ lw_all := lw_g (lw_at lw_m4 230 rfl) rfl
theorem q1026 : (Jvm.Cond.code ({ cls := "GateGrammar$Sentence", name := "isLaterThanParent", desc := "(LGateGrammar$Clause;)Z" } : Jvm.MethodName) prog_16_method_5_code (2 : Nat) (Option.some Jvm.ClassFile.FieldType.boolean)) ∈ lw_all := lw_g (lw_at lw_m4 231 rfl) rfl
theorem q1027 : (Jvm.Cond.methodLink "GateGrammar$Sentence" (58 : Nat) ({ cls := "GateGrammar$Sentence", name := "tense", desc := "(LGateGrammar$Clause;)I" } : Jvm.MethodName)) ∈ lw_all := lw_g (lw_at lw_m4 232 rfl) rfl
theorem q1028 : (Jvm.Cond.instanceMethod ({ cls := "GateGrammar$Sentence", name := "tense", desc := "(LGateGrammar$Clause;)I" } : Jvm.MethodName)) ∈ lw_all := lw_g (lw_at lw_m4 233 rfl) rfl
theorem q1029 : (Jvm.Cond.selects "GateGrammar$Sentence" ({ cls := "GateGrammar$Sentence", name := "tense", desc := "(LGateGrammar$Clause;)I" } : Jvm.MethodName) ({ cls := "GateGrammar$Sentence", name := "tense", desc := "(LGateGrammar$Clause;)I" } : Jvm.MethodName)) ∈ lw_all := lw_g (lw_at lw_m4 234 rfl) rfl
theorem q1030 : (Jvm.Cond.code ({ cls := "GateGrammar$Sentence", name := "tense", desc := "(LGateGrammar$Clause;)I" } : Jvm.MethodName) prog_16_method_3_code (2 : Nat) (Option.some Jvm.ClassFile.FieldType.int)) ∈ lw_all := lw_g (lw_at lw_m4 235 rfl) rfl
theorem q1031 : (Jvm.Cond.methodLink "GateGrammar$Sentence" (51 : Nat) ({ cls := "GateGrammar$Sentence", name := "token", desc := "(I)LGateGrammar$Token;" } : Jvm.MethodName)) ∈ lw_all := lw_g (lw_at lw_m4 236 rfl) rfl
theorem q1033 : (Jvm.Cond.instanceMethod ({ cls := "GateGrammar$Sentence", name := "differsFromFirst", desc := "(LGateGrammar$Clause;)Z" } : Jvm.MethodName)) ∈ lw_all := lw_g (lw_at lw_m4 238 rfl) rfl
theorem q1034 : (Jvm.Cond.selects "GateGrammar$Sentence" ({ cls := "GateGrammar$Sentence", name := "differsFromFirst", desc := "(LGateGrammar$Clause;)Z" } : Jvm.MethodName) ({ cls := "GateGrammar$Sentence", name := "differsFromFirst", desc := "(LGateGrammar$Clause;)Z" } : Jvm.MethodName)) ∈ lw_all := lw_g (lw_at lw_m4 239 rfl) rfl
theorem q1035 : (Jvm.Cond.code ({ cls := "GateGrammar$Sentence", name := "differsFromFirst", desc := "(LGateGrammar$Clause;)Z" } : Jvm.MethodName) prog_16_method_4_code (2 : Nat) (Option.some Jvm.ClassFile.FieldType.boolean)) ∈ lw_all := lw_g (lw_at lw_m5 0 rfl) rfl
theorem q1036 : (Jvm.Cond.classLink "GateGrammar$Sentence" (47 : Nat) "GateGrammar$Clause") ∈ lw_all := lw_g (lw_at lw_m5 1 rfl) rfl
theorem q1085 : (Jvm.Cond.instantiable "GateGrammar$Sentence" (4 : Nat)) ∈ lw_all := lw_g (lw_at lw_m5 50 rfl) rfl
theorem q1087 : (Jvm.Cond.instanceMethod ({ cls := "GateGrammar$Sentence", name := "<init>", desc := "(Ljava/util/List;)V" } : Jvm.MethodName)) ∈ lw_all := lw_g (lw_at lw_m5 52 rfl) rfl
theorem q1088 : (Jvm.Cond.code ({ cls := "GateGrammar$Sentence", name := "<init>", desc := "(Ljava/util/List;)V" } : Jvm.MethodName) prog_16_method_1_code (2 : Nat) (Option.none : Option Jvm.ClassFile.FieldType)) ∈ lw_all := lw_g (lw_at lw_m5 53 rfl) rfl
theorem q1089 : (Jvm.Cond.methodLink "GateGrammar$Sentence" (3 : Nat) ({ cls := "java/lang/Object", name := "<init>", desc := "()V" } : Jvm.MethodName)) ∈ lw_all := lw_g (lw_at lw_m5 54 rfl) rfl
theorem q1090 : (Jvm.Cond.classLink "GateGrammar$Sentence" (9 : Nat) "java/util/ArrayList") ∈ lw_all := lw_g (lw_at lw_m5 55 rfl) rfl
theorem q1091 : (Jvm.Cond.methodLink "GateGrammar$Sentence" (11 : Nat) ({ cls := "java/util/ArrayList", name := "<init>", desc := "()V" } : Jvm.MethodName)) ∈ lw_all := lw_g (lw_at lw_m5 56 rfl) rfl
theorem q1094 : (Jvm.Cond.methodLink "GateGrammar$Sentence" (22 : Nat) ({ cls := "GateGrammar$Sentence", name := "parse", desc := "(Ljava/util/List;LGateGrammar$Clause;)V" } : Jvm.MethodName)) ∈ lw_all := lw_g (lw_at lw_m5 59 rfl) rfl
theorem q1095 : (Jvm.Cond.privateMethod ({ cls := "GateGrammar$Sentence", name := "parse", desc := "(Ljava/util/List;LGateGrammar$Clause;)V" } : Jvm.MethodName)) ∈ lw_tbl := lw_at lw_m5 60 rfl
theorem q1096 : (Jvm.Cond.instanceMethod ({ cls := "GateGrammar$Sentence", name := "parse", desc := "(Ljava/util/List;LGateGrammar$Clause;)V" } : Jvm.MethodName)) ∈ lw_all := lw_g (lw_at lw_m5 61 rfl) rfl
theorem q1097 : (Jvm.Cond.code ({ cls := "GateGrammar$Sentence", name := "parse", desc := "(Ljava/util/List;LGateGrammar$Clause;)V" } : Jvm.MethodName) prog_16_method_9_code (3 : Nat) (Option.none : Option Jvm.ClassFile.FieldType)) ∈ lw_all := lw_g (lw_at lw_m5 62 rfl) rfl
theorem q1098 : (Jvm.Cond.methodLink "GateGrammar$Sentence" (81 : Nat) ({ cls := "GateGrammar$Sentence", name := "parseClause", desc := "(Ljava/util/List;LGateGrammar$Clause;)V" } : Jvm.MethodName)) ∈ lw_all := lw_g (lw_at lw_m5 63 rfl) rfl
theorem q1099 : (Jvm.Cond.privateMethod ({ cls := "GateGrammar$Sentence", name := "parseClause", desc := "(Ljava/util/List;LGateGrammar$Clause;)V" } : Jvm.MethodName)) ∈ lw_tbl := lw_at lw_m5 64 rfl
theorem q1100 : (Jvm.Cond.instanceMethod ({ cls := "GateGrammar$Sentence", name := "parseClause", desc := "(Ljava/util/List;LGateGrammar$Clause;)V" } : Jvm.MethodName)) ∈ lw_all := lw_g (lw_at lw_m5 65 rfl) rfl
theorem q1101 : (Jvm.Cond.code ({ cls := "GateGrammar$Sentence", name := "parseClause", desc := "(Ljava/util/List;LGateGrammar$Clause;)V" } : Jvm.MethodName) prog_16_method_10_code (5 : Nat) (Option.none : Option Jvm.ClassFile.FieldType)) ∈ lw_all := lw_g (lw_at lw_m5 66 rfl) rfl
theorem q1103 : (Jvm.Cond.methodLink "GateGrammar$Sentence" (87 : Nat) ({ cls := "GateGrammar$Clause", name := "<init>", desc := "(ILGateGrammar$Clause;Ljava/util/List;I)V" } : Jvm.MethodName)) ∈ lw_all := lw_g (lw_at lw_m5 68 rfl) rfl
theorem q1110 : (Jvm.Cond.fieldLinkNest "GateGrammar$Sentence" (142 : Nat) "GateGrammar$Clause" "number" "I" "GateGrammar") ∈ lw_tbl := lw_at lw_m5 75 rfl
theorem q1113 : (Jvm.Cond.fieldLinkNest "GateGrammar$Sentence" (65 : Nat) "GateGrammar$Clause" "parent" "LGateGrammar$Clause;" "GateGrammar") ∈ lw_tbl := lw_at lw_m5 78 rfl
theorem q1116 : (Jvm.Cond.fieldLinkNest "GateGrammar$Sentence" (62 : Nat) "GateGrammar$Clause" "siblings" "Ljava/util/List;" "GateGrammar") ∈ lw_tbl := lw_at lw_m5 81 rfl
theorem q1120 : (Jvm.Cond.fieldLinkNest "GateGrammar$Sentence" (94 : Nat) "GateGrammar$Clause" "subjects" "Ljava/util/ArrayList;" "GateGrammar") ∈ lw_tbl := lw_at lw_m5 85 rfl
theorem q1124 : (Jvm.Cond.fieldLinkNest "GateGrammar$Sentence" (111 : Nat) "GateGrammar$Clause" "nested" "Ljava/util/ArrayList;" "GateGrammar") ∈ lw_tbl := lw_at lw_m5 89 rfl
theorem q1127 : (Jvm.Cond.fieldLinkNest "GateGrammar$Sentence" (46 : Nat) "GateGrammar$Clause" "verb" "I" "GateGrammar") ∈ lw_tbl := lw_at lw_m5 92 rfl
theorem q1130 : (Jvm.Cond.fieldLinkNest "GateGrammar$Sentence" (108 : Nat) "GateGrammar$Clause" "object" "I" "GateGrammar") ∈ lw_tbl := lw_at lw_m5 95 rfl
theorem q1149 : (Jvm.Cond.interfaceEntry "GateGrammar$Sentence" (90 : Nat)) ∈ lw_tbl := lw_at lw_m5 114 rfl
theorem q1150 : (Jvm.Cond.methodLink "GateGrammar$Sentence" (90 : Nat) ({ cls := "java/util/List", name := "add", desc := "(Ljava/lang/Object;)Z" } : Jvm.MethodName)) ∈ lw_all := lw_g (lw_at lw_m5 115 rfl) rfl
theorem q1186 : (Jvm.Cond.methodLink "GateGrammar$Sentence" (97 : Nat) ({ cls := "GateGrammar$Sentence", name := "take", desc := "(I)I" } : Jvm.MethodName)) ∈ lw_all := lw_g (lw_at lw_m5 151 rfl) rfl
theorem q1187 : (Jvm.Cond.privateMethod ({ cls := "GateGrammar$Sentence", name := "take", desc := "(I)I" } : Jvm.MethodName)) ∈ lw_tbl := lw_at lw_m5 152 rfl
theorem q1188 : (Jvm.Cond.instanceMethod ({ cls := "GateGrammar$Sentence", name := "take", desc := "(I)I" } : Jvm.MethodName)) ∈ lw_all := lw_g (lw_at lw_m5 153 rfl) rfl
theorem q1189 : (Jvm.Cond.code ({ cls := "GateGrammar$Sentence", name := "take", desc := "(I)I" } : Jvm.MethodName) prog_16_method_8_code (2 : Nat) (Option.some Jvm.ClassFile.FieldType.int)) ∈ lw_all := lw_g (lw_at lw_m5 154 rfl) rfl
theorem q1190 : (Jvm.Cond.methodLink "GateGrammar$Sentence" (77 : Nat) ({ cls := "GateGrammar$Sentence", name := "isAt", desc := "(I)Z" } : Jvm.MethodName)) ∈ lw_all := lw_g (lw_at lw_m5 155 rfl) rfl
theorem q1191 : (Jvm.Cond.privateMethod ({ cls := "GateGrammar$Sentence", name := "isAt", desc := "(I)Z" } : Jvm.MethodName)) ∈ lw_tbl := lw_at lw_m5 156 rfl
theorem q1192 : (Jvm.Cond.instanceMethod ({ cls := "GateGrammar$Sentence", name := "isAt", desc := "(I)Z" } : Jvm.MethodName)) ∈ lw_all := lw_g (lw_at lw_m5 157 rfl) rfl
theorem q1193 : (Jvm.Cond.code ({ cls := "GateGrammar$Sentence", name := "isAt", desc := "(I)Z" } : Jvm.MethodName) prog_16_method_7_code (2 : Nat) (Option.some Jvm.ClassFile.FieldType.boolean)) ∈ lw_all := lw_g (lw_at lw_m5 158 rfl) rfl
theorem q1194 : (Jvm.Cond.interfaceEntry "GateGrammar$Sentence" (30 : Nat)) ∈ lw_tbl := lw_at lw_m5 159 rfl
theorem q1195 : (Jvm.Cond.methodLink "GateGrammar$Sentence" (30 : Nat) ({ cls := "java/util/List", name := "size", desc := "()I" } : Jvm.MethodName)) ∈ lw_all := lw_g (lw_at lw_m5 160 rfl) rfl
theorem q1204 : (Jvm.Cond.methodLink "GateGrammar$Sentence" (36 : Nat) ({ cls := "GateGrammar$Sentence", name := "require", desc := "(Z)V" } : Jvm.MethodName)) ∈ lw_all := lw_g (lw_at lw_m5 169 rfl) rfl
theorem q1205 : (Jvm.Cond.privateMethod ({ cls := "GateGrammar$Sentence", name := "require", desc := "(Z)V" } : Jvm.MethodName)) ∈ lw_tbl := lw_at lw_m5 170 rfl
theorem q1206 : (Jvm.Cond.instanceMethod ({ cls := "GateGrammar$Sentence", name := "require", desc := "(Z)V" } : Jvm.MethodName)) ∈ lw_all := lw_g (lw_at lw_m5 171 rfl) rfl
theorem q1207 : (Jvm.Cond.code ({ cls := "GateGrammar$Sentence", name := "require", desc := "(Z)V" } : Jvm.MethodName) prog_16_method_6_code (2 : Nat) (Option.none : Option Jvm.ClassFile.FieldType)) ∈ lw_all := lw_g (lw_at lw_m5 172 rfl) rfl
theorem q1208 : (Jvm.Cond.classLink "GateGrammar$Sentence" (69 : Nat) "GateGrammar$SyntaxStop") ∈ lw_all := lw_g (lw_at lw_m5 173 rfl) rfl
theorem q1217 : (Jvm.Cond.methodLink "GateGrammar$Sentence" (71 : Nat) ({ cls := "GateGrammar$SyntaxStop", name := "<init>", desc := "(I)V" } : Jvm.MethodName)) ∈ lw_all := lw_g (lw_at lw_m5 182 rfl) rfl
theorem q1232 : (Jvm.Cond.methodLink "GateGrammar$Sentence" (101 : Nat) ({ cls := "java/lang/Integer", name := "valueOf", desc := "(I)Ljava/lang/Integer;" } : Jvm.MethodName)) ∈ lw_all := lw_g (lw_at lw_m5 197 rfl) rfl
theorem q1252 : (Jvm.Cond.methodLink "GateGrammar$Sentence" (107 : Nat) ({ cls := "java/util/ArrayList", name := "add", desc := "(Ljava/lang/Object;)Z" } : Jvm.MethodName)) ∈ lw_all := lw_g (lw_at lw_m5 217 rfl) rfl
theorem q1253 : (Jvm.Cond.fieldLink "GateGrammar$Sentence" (18 : Nat) "GateGrammar$Sentence" "tokens" "Ljava/util/List;") ∈ lw_all := lw_g (lw_at lw_m5 218 rfl) rfl
theorem q1254 : (Jvm.Cond.fieldLink "GateGrammar$Sentence" (12 : Nat) "GateGrammar$Sentence" "topLevel" "Ljava/util/ArrayList;") ∈ lw_all := lw_g (lw_at lw_m5 219 rfl) rfl
theorem q1256 : (Jvm.Cond.fieldLink "GateGrammar$Sentence" (26 : Nat) "GateGrammar$Sentence" "position" "I") ∈ lw_all := lw_g (lw_at lw_m5 221 rfl) rfl
theorem q1257 : (Jvm.Cond.fieldLink "GateGrammar$Sentence" (84 : Nat) "GateGrammar$Sentence" "clauses" "I") ∈ lw_all := lw_g (lw_at lw_m5 222 rfl) rfl
theorem q1259 : (Jvm.Cond.laysFinal "GateGrammar$Sentence" "GateGrammar$Sentence" "tokens" "Ljava/util/List;") ∈ lw_all := lw_g (lw_at lw_m5 224 rfl) rfl
theorem q1260 : (Jvm.Cond.soleField "GateGrammar$Sentence" "tokens") ∈ lw_all := lw_g (lw_at lw_m5 225 rfl) rfl
theorem q1261 : (Jvm.Cond.laysFinal "GateGrammar$Sentence" "GateGrammar$Sentence" "topLevel" "Ljava/util/ArrayList;") ∈ lw_all := lw_g (lw_at lw_m5 226 rfl) rfl
theorem q1262 : (Jvm.Cond.soleField "GateGrammar$Sentence" "topLevel") ∈ lw_all := lw_g (lw_at lw_m5 227 rfl) rfl
theorem q1263 : (Jvm.Cond.lays "GateGrammar$Sentence" "GateGrammar$Sentence" "position" "I") ∈ lw_all := lw_g (lw_at lw_m5 228 rfl) rfl
theorem q1264 : (Jvm.Cond.soleField "GateGrammar$Sentence" "position") ∈ lw_all := lw_g (lw_at lw_m5 229 rfl) rfl
theorem q1265 : (Jvm.Cond.lays "GateGrammar$Sentence" "GateGrammar$Sentence" "clauses" "I") ∈ lw_all := lw_g (lw_at lw_m5 230 rfl) rfl
theorem q1266 : (Jvm.Cond.soleField "GateGrammar$Sentence" "clauses") ∈ lw_all := lw_g (lw_at lw_m5 231 rfl) rfl
theorem q1267 : (Jvm.Cond.superclass "GateGrammar$Sentence" "java/lang/Object") ∈ lw_all := lw_g (lw_at lw_m5 232 rfl) rfl
theorem q1289 : (Jvm.Cond.instanceMethod ({ cls := "GateGrammar$Sentence", name := "iterator", desc := "()Ljava/util/Iterator;" } : Jvm.MethodName)) ∈ lw_all := lw_g (lw_at lw_m6 14 rfl) rfl
theorem q1290 : (Jvm.Cond.selects "GateGrammar$Sentence" ({ cls := "GateGrammar$Sentence", name := "iterator", desc := "()Ljava/util/Iterator;" } : Jvm.MethodName) ({ cls := "GateGrammar$Sentence", name := "iterator", desc := "()Ljava/util/Iterator;" } : Jvm.MethodName)) ∈ lw_all := lw_g (lw_at lw_m6 15 rfl) rfl
theorem q1291 : (Jvm.Cond.code ({ cls := "GateGrammar$Sentence", name := "iterator", desc := "()Ljava/util/Iterator;" } : Jvm.MethodName) prog_16_method_11_code (3 : Nat) (Option.some (Jvm.ClassFile.FieldType.object "java/util/Iterator"))) ∈ lw_all := lw_g (lw_at lw_m6 16 rfl) rfl
theorem q1292 : (Jvm.Cond.classLink "GateGrammar$Sentence" (114 : Nat) "java/util/ArrayDeque") ∈ lw_all := lw_g (lw_at lw_m6 17 rfl) rfl
theorem q1293 : (Jvm.Cond.methodLink "GateGrammar$Sentence" (116 : Nat) ({ cls := "java/util/ArrayDeque", name := "<init>", desc := "()V" } : Jvm.MethodName)) ∈ lw_all := lw_g (lw_at lw_m6 18 rfl) rfl
theorem q1294 : (Jvm.Cond.methodLink "GateGrammar$Sentence" (117 : Nat) ({ cls := "java/util/ArrayList", name := "size", desc := "()I" } : Jvm.MethodName)) ∈ lw_all := lw_g (lw_at lw_m6 19 rfl) rfl
theorem q1295 : (Jvm.Cond.methodLink "GateGrammar$Sentence" (118 : Nat) ({ cls := "java/util/ArrayList", name := "get", desc := "(I)Ljava/lang/Object;" } : Jvm.MethodName)) ∈ lw_all := lw_g (lw_at lw_m6 20 rfl) rfl
theorem q1296 : (Jvm.Cond.methodLink "GateGrammar$Sentence" (119 : Nat) ({ cls := "java/util/ArrayDeque", name := "addFirst", desc := "(Ljava/lang/Object;)V" } : Jvm.MethodName)) ∈ lw_all := lw_g (lw_at lw_m6 21 rfl) rfl
theorem q1297 : (Jvm.Cond.classLink "GateGrammar$Sentence" (123 : Nat) "GateGrammar$Sentence$1") ∈ lw_all := lw_g (lw_at lw_m6 22 rfl) rfl
theorem q1299 : (Jvm.Cond.methodLink "GateGrammar$Sentence" (125 : Nat) ({ cls := "GateGrammar$Sentence$1", name := "<init>", desc := "(LGateGrammar$Sentence;Ljava/util/ArrayDeque;)V" } : Jvm.MethodName)) ∈ lw_all := lw_g (lw_at lw_m6 24 rfl) rfl
theorem q1726 : (Jvm.Cond.fieldLinkNest "GateGrammar$Sentence" (74 : Nat) "GateGrammar$Token" "kind" "I" "GateGrammar") ∈ lw_tbl := lw_at lw_m7 211 rfl
theorem q1731 : (Jvm.Cond.fieldLinkNest "GateGrammar$Sentence" (55 : Nat) "GateGrammar$Token" "detail" "I" "GateGrammar") ∈ lw_tbl := lw_at lw_m7 216 rfl
theorem q1902 : (Jvm.Cond.instanceMethod ({ cls := "GateGrammar$Sentence", name := "depth", desc := "()I" } : Jvm.MethodName)) ∈ lw_all := lw_g (lw_at lw_m8 147 rfl) rfl
theorem q1903 : (Jvm.Cond.selects "GateGrammar$Sentence" ({ cls := "GateGrammar$Sentence", name := "depth", desc := "()I" } : Jvm.MethodName) ({ cls := "GateGrammar$Sentence", name := "depth", desc := "()I" } : Jvm.MethodName)) ∈ lw_all := lw_g (lw_at lw_m8 148 rfl) rfl
theorem q1904 : (Jvm.Cond.code ({ cls := "GateGrammar$Sentence", name := "depth", desc := "()I" } : Jvm.MethodName) prog_16_method_13_code (4 : Nat) (Option.some Jvm.ClassFile.FieldType.int)) ∈ lw_all := lw_g (lw_at lw_m8 149 rfl) rfl
theorem q1905 : (Jvm.Cond.methodLink "GateGrammar$Sentence" (128 : Nat) ({ cls := "GateGrammar$Sentence", name := "iterator", desc := "()Ljava/util/Iterator;" } : Jvm.MethodName)) ∈ lw_all := lw_g (lw_at lw_m8 150 rfl) rfl
theorem q1906 : (Jvm.Cond.interfaceEntry "GateGrammar$Sentence" (132 : Nat)) ∈ lw_tbl := lw_at lw_m8 151 rfl
theorem q1907 : (Jvm.Cond.methodLink "GateGrammar$Sentence" (132 : Nat) ({ cls := "java/util/Iterator", name := "hasNext", desc := "()Z" } : Jvm.MethodName)) ∈ lw_all := lw_g (lw_at lw_m8 152 rfl) rfl
theorem q1908 : (Jvm.Cond.interfaceEntry "GateGrammar$Sentence" (138 : Nat)) ∈ lw_tbl := lw_at lw_m8 153 rfl
theorem q1909 : (Jvm.Cond.methodLink "GateGrammar$Sentence" (138 : Nat) ({ cls := "java/util/Iterator", name := "next", desc := "()Ljava/lang/Object;" } : Jvm.MethodName)) ∈ lw_all := lw_g (lw_at lw_m8 154 rfl) rfl
theorem q1910 : (Jvm.Cond.methodLink "GateGrammar$Sentence" (148 : Nat) ({ cls := "GateGrammar$Clause", name := "depth", desc := "()I" } : Jvm.MethodName)) ∈ lw_all := lw_g (lw_at lw_m8 155 rfl) rfl
theorem q1915 : (Jvm.Cond.methodLink "GateGrammar$Sentence" (151 : Nat) ({ cls := "java/lang/Math", name := "max", desc := "(II)I" } : Jvm.MethodName)) ∈ lw_all := lw_g (lw_at lw_m8 160 rfl) rfl
theorem q1924 : (Jvm.Cond.instanceMethod ({ cls := "GateGrammar$Sentence", name := "clause", desc := "(I)LGateGrammar$Clause;" } : Jvm.MethodName)) ∈ lw_all := lw_g (lw_at lw_m8 169 rfl) rfl
theorem q1925 : (Jvm.Cond.selects "GateGrammar$Sentence" ({ cls := "GateGrammar$Sentence", name := "clause", desc := "(I)LGateGrammar$Clause;" } : Jvm.MethodName) ({ cls := "GateGrammar$Sentence", name := "clause", desc := "(I)LGateGrammar$Clause;" } : Jvm.MethodName)) ∈ lw_all := lw_g (lw_at lw_m8 170 rfl) rfl
theorem q1926 : (Jvm.Cond.code ({ cls := "GateGrammar$Sentence", name := "clause", desc := "(I)LGateGrammar$Clause;" } : Jvm.MethodName) prog_16_method_12_code (4 : Nat) (Option.some (Jvm.ClassFile.FieldType.object "GateGrammar$Clause"))) ∈ lw_all := lw_g (lw_at lw_m8 171 rfl) rfl
theorem q1927 : (Jvm.Cond.classLink "GateGrammar$Sentence" (145 : Nat) "java/util/NoSuchElementException") ∈ lw_all := lw_g (lw_at lw_m8 172 rfl) rfl
theorem q1928 : (Jvm.Cond.methodLink "GateGrammar$Sentence" (147 : Nat) ({ cls := "java/util/NoSuchElementException", name := "<init>", desc := "()V" } : Jvm.MethodName)) ∈ lw_all := lw_g (lw_at lw_m8 173 rfl) rfl
theorem q3057 : (Jvm.Cond.castable "GateGrammar$Sentence" "java/lang/Object") ∈ lw_tbl := lw_at lw_m13 102 rfl
theorem in_X8 : ∀ w ∈ wsX80, w ∈ lw_all := lw_in wsX80 [1259, 1261, 1263, 1265] (by decide +kernel) (by decide +kernel)

/-! GateGrammar$Clause -/
set_option maxRecDepth 100000
def RX9 : String := "GateGrammar$Clause"
def TX9 : u_T := fun k => match k with
  | 0 => ("GateGrammar$Clause", "number", "I", true)
  | 1 => ("GateGrammar$Clause", "parent", "LGateGrammar$Clause;", true)
  | 2 => ("GateGrammar$Clause", "siblings", "Ljava/util/List;", true)
  | 3 => ("GateGrammar$Clause", "start", "I", true)
  | 4 => ("GateGrammar$Clause", "subjects", "Ljava/util/ArrayList;", true)
  | 5 => ("GateGrammar$Clause", "nested", "Ljava/util/ArrayList;", true)
  | 6 => ("GateGrammar$Clause", "verb", "I", false)
  | _ => ("GateGrammar$Clause", "object", "I", false)
def tyX9 : Nat → FieldType := fun k => match k with
  | 0 => .int
  | 1 => .object "GateGrammar$Clause"
  | 2 => .object "java/util/List"
  | 3 => .int
  | 4 => .object "java/util/ArrayList"
  | 5 => .object "java/util/ArrayList"
  | 6 => .int
  | _ => .int
abbrev wsX90 : List Cond := u_ws RX9 TX9 8
theorem nmX9 : ∀ a, a < 8 → ∀ b, b < 8 → a ≠ b → (TX9 a).2.1 ≠ (TX9 b).2.1 := by decide +kernel
theorem tyX9_ok : ∀ k, k < 8 → parseFieldDescriptor (TX9 k).2.2.1 = some (tyX9 k) := by decide +kernel
abbrev cX9_init : ByteArray := prog_4_method_1_code
def yX9_init : MethodName := ⟨RX9, "<init>", "(ILGateGrammar$Clause;Ljava/util/List;I)V"⟩
def dkwX9_init_2 : List UInt8 := [45, 181, 0, 33, 42, 21, 4, 181, 0, 37, 177]
abbrev dktX9_init_2 : List UInt8 := dkwX9_init_2 ++ []
def dkwX9_init_1 : List UInt8 := [181, 0, 16, 42, 2, 181, 0, 19, 42, 2, 181, 0, 23, 42, 27, 181, 0, 26, 42, 44, 181, 0, 29, 42]
abbrev dktX9_init_1 : List UInt8 := dkwX9_init_1 ++ dktX9_init_2
def dkwX9_init_0 : List UInt8 := [42, 183, 0, 1, 42, 187, 0, 7, 89, 183, 0, 9, 181, 0, 10, 42, 187, 0, 7, 89, 183, 0, 9]
abbrev dktX9_init_0 : List UInt8 := dkwX9_init_0 ++ dktX9_init_1
theorem dksX9_init_0 : cX9_init.data.toList.drop 0 = dktX9_init_0 := by decide +kernel
theorem dksX9_init_1 : cX9_init.data.toList.drop 23 = dktX9_init_1 := dk_seg dksX9_init_0 23 rfl rfl
theorem dksX9_init_2 : cX9_init.data.toList.drop 47 = dktX9_init_2 := dk_seg dksX9_init_1 24 rfl rfl
theorem dX9_init_0 : decode cX9_init 0 = .ok (.aload_n 0, 1) := dk_42 (dk_at dksX9_init_0 0 rfl rfl)
theorem dX9_init_1 : decode cX9_init 1 = .ok (.invokespecial 1, 3) := dk_183 0 1 (dk_at dksX9_init_0 1 rfl rfl)
theorem dX9_init_4 : decode cX9_init 4 = .ok (.aload_n 0, 1) := dk_42 (dk_at dksX9_init_0 4 rfl rfl)
theorem dX9_init_5 : decode cX9_init 5 = .ok (.new 7, 3) := dk_187 0 7 (dk_at dksX9_init_0 5 rfl rfl)
theorem dX9_init_8 : decode cX9_init 8 = .ok (.dup, 1) := dk_89 (dk_at dksX9_init_0 8 rfl rfl)
theorem dX9_init_9 : decode cX9_init 9 = .ok (.invokespecial 9, 3) := dk_183 0 9 (dk_at dksX9_init_0 9 rfl rfl)
theorem dX9_init_12 : decode cX9_init 12 = .ok (.putfield 10, 3) := dk_181 0 10 (dk_at dksX9_init_0 12 rfl rfl)
theorem dX9_init_15 : decode cX9_init 15 = .ok (.aload_n 0, 1) := dk_42 (dk_at dksX9_init_0 15 rfl rfl)
theorem dX9_init_16 : decode cX9_init 16 = .ok (.new 7, 3) := dk_187 0 7 (dk_at dksX9_init_0 16 rfl rfl)
theorem dX9_init_19 : decode cX9_init 19 = .ok (.dup, 1) := dk_89 (dk_at dksX9_init_0 19 rfl rfl)
theorem dX9_init_20 : decode cX9_init 20 = .ok (.invokespecial 9, 3) := dk_183 0 9 (dk_at dksX9_init_0 20 rfl rfl)
theorem dX9_init_23 : decode cX9_init 23 = .ok (.putfield 16, 3) := dk_181 0 16 (dk_at dksX9_init_1 0 rfl rfl)
theorem dX9_init_26 : decode cX9_init 26 = .ok (.aload_n 0, 1) := dk_42 (dk_at dksX9_init_1 3 rfl rfl)
theorem dX9_init_27 : decode cX9_init 27 = .ok (.iconst (-1), 1) := dk_2 (dk_at dksX9_init_1 4 rfl rfl)
theorem dX9_init_28 : decode cX9_init 28 = .ok (.putfield 19, 3) := dk_181 0 19 (dk_at dksX9_init_1 5 rfl rfl)
theorem dX9_init_31 : decode cX9_init 31 = .ok (.aload_n 0, 1) := dk_42 (dk_at dksX9_init_1 8 rfl rfl)
theorem dX9_init_32 : decode cX9_init 32 = .ok (.iconst (-1), 1) := dk_2 (dk_at dksX9_init_1 9 rfl rfl)
theorem dX9_init_33 : decode cX9_init 33 = .ok (.putfield 23, 3) := dk_181 0 23 (dk_at dksX9_init_1 10 rfl rfl)
theorem dX9_init_36 : decode cX9_init 36 = .ok (.aload_n 0, 1) := dk_42 (dk_at dksX9_init_1 13 rfl rfl)
theorem dX9_init_37 : decode cX9_init 37 = .ok (.iload_n 1, 1) := dk_27 (dk_at dksX9_init_1 14 rfl rfl)
theorem dX9_init_38 : decode cX9_init 38 = .ok (.putfield 26, 3) := dk_181 0 26 (dk_at dksX9_init_1 15 rfl rfl)
theorem dX9_init_41 : decode cX9_init 41 = .ok (.aload_n 0, 1) := dk_42 (dk_at dksX9_init_1 18 rfl rfl)
theorem dX9_init_42 : decode cX9_init 42 = .ok (.aload_n 2, 1) := dk_44 (dk_at dksX9_init_1 19 rfl rfl)
theorem dX9_init_43 : decode cX9_init 43 = .ok (.putfield 29, 3) := dk_181 0 29 (dk_at dksX9_init_1 20 rfl rfl)
theorem dX9_init_46 : decode cX9_init 46 = .ok (.aload_n 0, 1) := dk_42 (dk_at dksX9_init_1 23 rfl rfl)
theorem dX9_init_47 : decode cX9_init 47 = .ok (.aload_n 3, 1) := dk_45 (dk_at dksX9_init_2 0 rfl rfl)
theorem dX9_init_48 : decode cX9_init 48 = .ok (.putfield 33, 3) := dk_181 0 33 (dk_at dksX9_init_2 1 rfl rfl)
theorem dX9_init_51 : decode cX9_init 51 = .ok (.aload_n 0, 1) := dk_42 (dk_at dksX9_init_2 4 rfl rfl)
theorem dX9_init_52 : decode cX9_init 52 = .ok (.iload 4, 2) := dk_21 4 (dk_at dksX9_init_2 5 rfl rfl)
theorem dX9_init_54 : decode cX9_init 54 = .ok (.putfield 37, 3) := dk_181 0 37 (dk_at dksX9_init_2 7 rfl rfl)
theorem dX9_init_57 : decode cX9_init 57 = .ok (.return_, 1) := dk_177 (dk_at dksX9_init_2 10 rfl rfl)
abbrev cX9_depth : ByteArray := prog_4_method_2_code
def yX9_depth : MethodName := ⟨RX9, "depth", "()I"⟩
def dkwX9_depth_0 : List UInt8 := [42, 180, 0, 29, 199, 0, 7, 3, 167, 0, 12, 4, 42, 180, 0, 29, 182, 0, 40, 96, 172]
abbrev dktX9_depth_0 : List UInt8 := dkwX9_depth_0 ++ []
theorem dksX9_depth_0 : cX9_depth.data.toList.drop 0 = dktX9_depth_0 := by decide +kernel
theorem dX9_depth_0 : decode cX9_depth 0 = .ok (.aload_n 0, 1) := dk_42 (dk_at dksX9_depth_0 0 rfl rfl)
theorem dX9_depth_1 : decode cX9_depth 1 = .ok (.getfield 29, 3) := dk_180 0 29 (dk_at dksX9_depth_0 1 rfl rfl)
theorem dX9_depth_4 : decode cX9_depth 4 = .ok (.ifnonnull 7, 3) := dk_199 0 7 (dk_at dksX9_depth_0 4 rfl rfl)
theorem dX9_depth_7 : decode cX9_depth 7 = .ok (.iconst 0, 1) := dk_3 (dk_at dksX9_depth_0 7 rfl rfl)
theorem dX9_depth_8 : decode cX9_depth 8 = .ok (.goto 12, 3) := dk_167 0 12 (dk_at dksX9_depth_0 8 rfl rfl)
theorem dX9_depth_11 : decode cX9_depth 11 = .ok (.iconst 1, 1) := dk_4 (dk_at dksX9_depth_0 11 rfl rfl)
theorem dX9_depth_12 : decode cX9_depth 12 = .ok (.aload_n 0, 1) := dk_42 (dk_at dksX9_depth_0 12 rfl rfl)
theorem dX9_depth_13 : decode cX9_depth 13 = .ok (.getfield 29, 3) := dk_180 0 29 (dk_at dksX9_depth_0 13 rfl rfl)
theorem dX9_depth_16 : decode cX9_depth 16 = .ok (.invokevirtual 40, 3) := dk_182 0 40 (dk_at dksX9_depth_0 16 rfl rfl)
theorem dX9_depth_19 : decode cX9_depth 19 = .ok (.iadd, 1) := dk_96 (dk_at dksX9_depth_0 19 rfl rfl)
theorem dX9_depth_20 : decode cX9_depth 20 = .ok (.ireturn, 1) := dk_172 (dk_at dksX9_depth_0 20 rfl rfl)
theorem q110 : (Jvm.Cond.initialized "GateGrammar$Clause") ∈ lw_all := lw_g (lw_at lw_m1 35 rfl) rfl
theorem q591 : (Jvm.Cond.selects "GateGrammar$Clause" ({ cls := "java/lang/Object", name := "getClass", desc := "()Ljava/lang/Class;" } : Jvm.MethodName) ({ cls := "java/lang/Object", name := "getClass", desc := "()Ljava/lang/Class;" } : Jvm.MethodName)) ∈ lw_all := lw_g (lw_at lw_m3 36 rfl) rfl
theorem q1102 : (Jvm.Cond.instantiable "GateGrammar$Clause" (8 : Nat)) ∈ lw_all := lw_g (lw_at lw_m5 67 rfl) rfl
theorem q1104 : (Jvm.Cond.instanceMethod ({ cls := "GateGrammar$Clause", name := "<init>", desc := "(ILGateGrammar$Clause;Ljava/util/List;I)V" } : Jvm.MethodName)) ∈ lw_all := lw_g (lw_at lw_m5 69 rfl) rfl
theorem q1105 : (Jvm.Cond.code ({ cls := "GateGrammar$Clause", name := "<init>", desc := "(ILGateGrammar$Clause;Ljava/util/List;I)V" } : Jvm.MethodName) prog_4_method_1_code (5 : Nat) (Option.none : Option Jvm.ClassFile.FieldType)) ∈ lw_all := lw_g (lw_at lw_m5 70 rfl) rfl
theorem q1106 : (Jvm.Cond.methodLink "GateGrammar$Clause" (1 : Nat) ({ cls := "java/lang/Object", name := "<init>", desc := "()V" } : Jvm.MethodName)) ∈ lw_all := lw_g (lw_at lw_m5 71 rfl) rfl
theorem q1107 : (Jvm.Cond.classLink "GateGrammar$Clause" (7 : Nat) "java/util/ArrayList") ∈ lw_all := lw_g (lw_at lw_m5 72 rfl) rfl
theorem q1108 : (Jvm.Cond.methodLink "GateGrammar$Clause" (9 : Nat) ({ cls := "java/util/ArrayList", name := "<init>", desc := "()V" } : Jvm.MethodName)) ∈ lw_all := lw_g (lw_at lw_m5 73 rfl) rfl
theorem q1109 : (Jvm.Cond.fieldLink "GateGrammar$Clause" (26 : Nat) "GateGrammar$Clause" "number" "I") ∈ lw_all := lw_g (lw_at lw_m5 74 rfl) rfl
theorem q1112 : (Jvm.Cond.fieldLink "GateGrammar$Clause" (29 : Nat) "GateGrammar$Clause" "parent" "LGateGrammar$Clause;") ∈ lw_all := lw_g (lw_at lw_m5 77 rfl) rfl
theorem q1115 : (Jvm.Cond.fieldLink "GateGrammar$Clause" (33 : Nat) "GateGrammar$Clause" "siblings" "Ljava/util/List;") ∈ lw_all := lw_g (lw_at lw_m5 80 rfl) rfl
theorem q1117 : (Jvm.Cond.fieldLink "GateGrammar$Clause" (37 : Nat) "GateGrammar$Clause" "start" "I") ∈ lw_all := lw_g (lw_at lw_m5 82 rfl) rfl
theorem q1119 : (Jvm.Cond.fieldLink "GateGrammar$Clause" (10 : Nat) "GateGrammar$Clause" "subjects" "Ljava/util/ArrayList;") ∈ lw_all := lw_g (lw_at lw_m5 84 rfl) rfl
theorem q1122 : (Jvm.Cond.fieldLink "GateGrammar$Clause" (16 : Nat) "GateGrammar$Clause" "nested" "Ljava/util/ArrayList;") ∈ lw_all := lw_g (lw_at lw_m5 87 rfl) rfl
theorem q1126 : (Jvm.Cond.fieldLink "GateGrammar$Clause" (19 : Nat) "GateGrammar$Clause" "verb" "I") ∈ lw_all := lw_g (lw_at lw_m5 91 rfl) rfl
theorem q1129 : (Jvm.Cond.fieldLink "GateGrammar$Clause" (23 : Nat) "GateGrammar$Clause" "object" "I") ∈ lw_all := lw_g (lw_at lw_m5 94 rfl) rfl
theorem q1132 : (Jvm.Cond.laysFinal "GateGrammar$Clause" "GateGrammar$Clause" "number" "I") ∈ lw_all := lw_g (lw_at lw_m5 97 rfl) rfl
theorem q1133 : (Jvm.Cond.soleField "GateGrammar$Clause" "number") ∈ lw_all := lw_g (lw_at lw_m5 98 rfl) rfl
theorem q1134 : (Jvm.Cond.laysFinal "GateGrammar$Clause" "GateGrammar$Clause" "parent" "LGateGrammar$Clause;") ∈ lw_all := lw_g (lw_at lw_m5 99 rfl) rfl
theorem q1135 : (Jvm.Cond.soleField "GateGrammar$Clause" "parent") ∈ lw_all := lw_g (lw_at lw_m5 100 rfl) rfl
theorem q1136 : (Jvm.Cond.laysFinal "GateGrammar$Clause" "GateGrammar$Clause" "siblings" "Ljava/util/List;") ∈ lw_all := lw_g (lw_at lw_m5 101 rfl) rfl
theorem q1137 : (Jvm.Cond.soleField "GateGrammar$Clause" "siblings") ∈ lw_all := lw_g (lw_at lw_m5 102 rfl) rfl
theorem q1138 : (Jvm.Cond.laysFinal "GateGrammar$Clause" "GateGrammar$Clause" "start" "I") ∈ lw_all := lw_g (lw_at lw_m5 103 rfl) rfl
theorem q1139 : (Jvm.Cond.soleField "GateGrammar$Clause" "start") ∈ lw_all := lw_g (lw_at lw_m5 104 rfl) rfl
theorem q1140 : (Jvm.Cond.laysFinal "GateGrammar$Clause" "GateGrammar$Clause" "subjects" "Ljava/util/ArrayList;") ∈ lw_all := lw_g (lw_at lw_m5 105 rfl) rfl
theorem q1141 : (Jvm.Cond.soleField "GateGrammar$Clause" "subjects") ∈ lw_all := lw_g (lw_at lw_m5 106 rfl) rfl
theorem q1142 : (Jvm.Cond.laysFinal "GateGrammar$Clause" "GateGrammar$Clause" "nested" "Ljava/util/ArrayList;") ∈ lw_all := lw_g (lw_at lw_m5 107 rfl) rfl
theorem q1143 : (Jvm.Cond.soleField "GateGrammar$Clause" "nested") ∈ lw_all := lw_g (lw_at lw_m5 108 rfl) rfl
theorem q1144 : (Jvm.Cond.lays "GateGrammar$Clause" "GateGrammar$Clause" "verb" "I") ∈ lw_all := lw_g (lw_at lw_m5 109 rfl) rfl
theorem q1145 : (Jvm.Cond.soleField "GateGrammar$Clause" "verb") ∈ lw_all := lw_g (lw_at lw_m5 110 rfl) rfl
theorem q1146 : (Jvm.Cond.lays "GateGrammar$Clause" "GateGrammar$Clause" "object" "I") ∈ lw_all := lw_g (lw_at lw_m5 111 rfl) rfl
theorem q1147 : (Jvm.Cond.soleField "GateGrammar$Clause" "object") ∈ lw_all := lw_g (lw_at lw_m5 112 rfl) rfl
theorem q1148 : (Jvm.Cond.superclass "GateGrammar$Clause" "java/lang/Object") ∈ lw_all := lw_g (lw_at lw_m5 113 rfl) rfl
theorem q1911 : (Jvm.Cond.instanceMethod ({ cls := "GateGrammar$Clause", name := "depth", desc := "()I" } : Jvm.MethodName)) ∈ lw_all := lw_g (lw_at lw_m8 156 rfl) rfl
theorem q1912 : (Jvm.Cond.selects "GateGrammar$Clause" ({ cls := "GateGrammar$Clause", name := "depth", desc := "()I" } : Jvm.MethodName) ({ cls := "GateGrammar$Clause", name := "depth", desc := "()I" } : Jvm.MethodName)) ∈ lw_all := lw_g (lw_at lw_m8 157 rfl) rfl
theorem q1913 : (Jvm.Cond.code ({ cls := "GateGrammar$Clause", name := "depth", desc := "()I" } : Jvm.MethodName) prog_4_method_2_code (1 : Nat) (Option.some Jvm.ClassFile.FieldType.int)) ∈ lw_all := lw_g (lw_at lw_m8 158 rfl) rfl
theorem q1914 : (Jvm.Cond.methodLink "GateGrammar$Clause" (40 : Nat) ({ cls := "GateGrammar$Clause", name := "depth", desc := "()I" } : Jvm.MethodName)) ∈ lw_all := lw_g (lw_at lw_m8 159 rfl) rfl
theorem q3058 : (Jvm.Cond.castable "GateGrammar$Clause" "java/lang/Object") ∈ lw_tbl := lw_at lw_m13 103 rfl
theorem in_X9 : ∀ w ∈ wsX90, w ∈ lw_all := lw_in wsX90 [1132, 1134, 1136, 1138, 1140, 1142, 1144, 1146] (by decide +kernel) (by decide +kernel)

/-! GateGrammar$SyntaxStop -/
set_option maxRecDepth 100000
def RX10 : String := "GateGrammar$SyntaxStop"
def TX10 : u_T := fun k => match k with
  | 0 => ("java/lang/Throwable", "cause", "Ljava/lang/Throwable;", false)
  | 1 => ("java/lang/Throwable", "stackTrace", "[Ljava/lang/StackTraceElement;", false)
  | 2 => ("java/lang/Throwable", "suppressedExceptions", "Ljava/util/List;", false)
  | 3 => ("java/lang/Throwable", "detailMessage", "Ljava/lang/String;", false)
  | 4 => ("java/lang/Throwable", "backtrace", "Ljava/lang/Object;", false)
  | 5 => ("java/lang/Throwable", "depth", "I", false)
  | _ => ("GateGrammar$SyntaxStop", "index", "I", true)
def tyX10 : Nat → FieldType := fun k => match k with
  | 0 => .object "java/lang/Throwable"
  | 1 => .array (.object "java/lang/StackTraceElement")
  | 2 => .object "java/util/List"
  | 3 => .object "java/lang/String"
  | 4 => .object "java/lang/Object"
  | 5 => .int
  | _ => .int
abbrev wsX100 : List Cond := u_ws RX10 TX10 7
theorem nmX10 : ∀ a, a < 7 → ∀ b, b < 7 → a ≠ b → (TX10 a).2.1 ≠ (TX10 b).2.1 := by decide +kernel
theorem tyX10_ok : ∀ k, k < 7 → parseFieldDescriptor (TX10 k).2.2.1 = some (tyX10 k) := by decide +kernel
abbrev cX10_init : ByteArray := prog_20_method_1_code
def yX10_init : MethodName := ⟨RX10, "<init>", "(I)V"⟩
def dkwX10_init_0 : List UInt8 := [42, 1, 1, 3, 3, 183, 0, 1, 42, 27, 181, 0, 7, 177]
abbrev dktX10_init_0 : List UInt8 := dkwX10_init_0 ++ []
theorem dksX10_init_0 : cX10_init.data.toList.drop 0 = dktX10_init_0 := by decide +kernel
theorem dX10_init_0 : decode cX10_init 0 = .ok (.aload_n 0, 1) := dk_42 (dk_at dksX10_init_0 0 rfl rfl)
theorem dX10_init_1 : decode cX10_init 1 = .ok (.aconst_null, 1) := dk_1 (dk_at dksX10_init_0 1 rfl rfl)
theorem dX10_init_2 : decode cX10_init 2 = .ok (.aconst_null, 1) := dk_1 (dk_at dksX10_init_0 2 rfl rfl)
theorem dX10_init_3 : decode cX10_init 3 = .ok (.iconst 0, 1) := dk_3 (dk_at dksX10_init_0 3 rfl rfl)
theorem dX10_init_4 : decode cX10_init 4 = .ok (.iconst 0, 1) := dk_3 (dk_at dksX10_init_0 4 rfl rfl)
theorem dX10_init_5 : decode cX10_init 5 = .ok (.invokespecial 1, 3) := dk_183 0 1 (dk_at dksX10_init_0 5 rfl rfl)
theorem dX10_init_8 : decode cX10_init 8 = .ok (.aload_n 0, 1) := dk_42 (dk_at dksX10_init_0 8 rfl rfl)
theorem dX10_init_9 : decode cX10_init 9 = .ok (.iload_n 1, 1) := dk_27 (dk_at dksX10_init_0 9 rfl rfl)
theorem dX10_init_10 : decode cX10_init 10 = .ok (.putfield 7, 3) := dk_181 0 7 (dk_at dksX10_init_0 10 rfl rfl)
theorem dX10_init_13 : decode cX10_init 13 = .ok (.return_, 1) := dk_177 (dk_at dksX10_init_0 13 rfl rfl)
theorem q112 : (Jvm.Cond.initialized "GateGrammar$SyntaxStop") ∈ lw_all := lw_g (lw_at lw_m1 37 rfl) rfl
theorem q224 : (Jvm.Cond.selects "GateGrammar$SyntaxStop" ({ cls := "java/lang/Throwable", name := "fillInStackTrace", desc := "()Ljava/lang/Throwable;" } : Jvm.MethodName) ({ cls := "java/lang/Throwable", name := "fillInStackTrace", desc := "()Ljava/lang/Throwable;" } : Jvm.MethodName)) ∈ lw_all := lw_g (lw_at lw_m1 149 rfl) rfl
theorem q604 : (Jvm.Cond.selects "GateGrammar$SyntaxStop" ({ cls := "java/lang/Object", name := "getClass", desc := "()Ljava/lang/Class;" } : Jvm.MethodName) ({ cls := "java/lang/Object", name := "getClass", desc := "()Ljava/lang/Class;" } : Jvm.MethodName)) ∈ lw_all := lw_g (lw_at lw_m3 49 rfl) rfl
theorem q909 : (Jvm.Cond.selects "GateGrammar$SyntaxStop" ({ cls := "java/lang/Throwable", name := "toString", desc := "()Ljava/lang/String;" } : Jvm.MethodName) ({ cls := "java/lang/Throwable", name := "toString", desc := "()Ljava/lang/String;" } : Jvm.MethodName)) ∈ lw_all := lw_g (lw_at lw_m4 114 rfl) rfl
theorem q923 : (Jvm.Cond.selects "GateGrammar$SyntaxStop" ({ cls := "java/lang/Throwable", name := "getLocalizedMessage", desc := "()Ljava/lang/String;" } : Jvm.MethodName) ({ cls := "java/lang/Throwable", name := "getLocalizedMessage", desc := "()Ljava/lang/String;" } : Jvm.MethodName)) ∈ lw_all := lw_g (lw_at lw_m4 128 rfl) rfl
theorem q936 : (Jvm.Cond.selects "GateGrammar$SyntaxStop" ({ cls := "java/lang/Throwable", name := "getMessage", desc := "()Ljava/lang/String;" } : Jvm.MethodName) ({ cls := "java/lang/Throwable", name := "getMessage", desc := "()Ljava/lang/String;" } : Jvm.MethodName)) ∈ lw_all := lw_g (lw_at lw_m4 141 rfl) rfl
theorem q1209 : (Jvm.Cond.instantiable "GateGrammar$SyntaxStop" (7 : Nat)) ∈ lw_all := lw_g (lw_at lw_m5 174 rfl) rfl
theorem q1210 : (Jvm.Cond.castable "GateGrammar$SyntaxStop" "GateGrammar$SyntaxStop") ∈ lw_tbl := lw_at lw_m5 175 rfl
theorem q1211 : (Jvm.Cond.selects "GateGrammar$SyntaxStop" ({ cls := "java/lang/Throwable", name := "fillInStackTrace", desc := "(I)Ljava/lang/Throwable;" } : Jvm.MethodName) ({ cls := "java/lang/Throwable", name := "fillInStackTrace", desc := "(I)Ljava/lang/Throwable;" } : Jvm.MethodName)) ∈ lw_all := lw_g (lw_at lw_m5 176 rfl) rfl
theorem q1212 : (Jvm.Cond.lays "GateGrammar$SyntaxStop" "java/lang/Throwable" "cause" "Ljava/lang/Throwable;") ∈ lw_all := lw_g (lw_at lw_m5 177 rfl) rfl
theorem q1213 : (Jvm.Cond.lays "GateGrammar$SyntaxStop" "java/lang/Throwable" "stackTrace" "[Ljava/lang/StackTraceElement;") ∈ lw_all := lw_g (lw_at lw_m5 178 rfl) rfl
theorem q1214 : (Jvm.Cond.lays "GateGrammar$SyntaxStop" "java/lang/Throwable" "suppressedExceptions" "Ljava/util/List;") ∈ lw_all := lw_g (lw_at lw_m5 179 rfl) rfl
theorem q1215 : (Jvm.Cond.lays "GateGrammar$SyntaxStop" "java/lang/Throwable" "detailMessage" "Ljava/lang/String;") ∈ lw_all := lw_g (lw_at lw_m5 180 rfl) rfl
theorem q1216 : (Jvm.Cond.lays "GateGrammar$SyntaxStop" "java/lang/Throwable" "backtrace" "Ljava/lang/Object;") ∈ lw_all := lw_g (lw_at lw_m5 181 rfl) rfl
theorem q1218 : (Jvm.Cond.instanceMethod ({ cls := "GateGrammar$SyntaxStop", name := "<init>", desc := "(I)V" } : Jvm.MethodName)) ∈ lw_all := lw_g (lw_at lw_m5 183 rfl) rfl
theorem q1219 : (Jvm.Cond.code ({ cls := "GateGrammar$SyntaxStop", name := "<init>", desc := "(I)V" } : Jvm.MethodName) prog_20_method_1_code (2 : Nat) (Option.none : Option Jvm.ClassFile.FieldType)) ∈ lw_all := lw_g (lw_at lw_m5 184 rfl) rfl
theorem q1220 : (Jvm.Cond.methodLink "GateGrammar$SyntaxStop" (1 : Nat) ({ cls := "java/lang/Exception", name := "<init>", desc := "(Ljava/lang/String;Ljava/lang/Throwable;ZZ)V" } : Jvm.MethodName)) ∈ lw_all := lw_g (lw_at lw_m5 185 rfl) rfl
theorem q1226 : (Jvm.Cond.fieldLink "GateGrammar$SyntaxStop" (7 : Nat) "GateGrammar$SyntaxStop" "index" "I") ∈ lw_all := lw_g (lw_at lw_m5 191 rfl) rfl
theorem q1228 : (Jvm.Cond.laysFinal "GateGrammar$SyntaxStop" "GateGrammar$SyntaxStop" "index" "I") ∈ lw_all := lw_g (lw_at lw_m5 193 rfl) rfl
theorem q1229 : (Jvm.Cond.soleField "GateGrammar$SyntaxStop" "index") ∈ lw_all := lw_g (lw_at lw_m5 194 rfl) rfl
theorem q1230 : (Jvm.Cond.lays "GateGrammar$SyntaxStop" "java/lang/Throwable" "depth" "I") ∈ lw_all := lw_g (lw_at lw_m5 195 rfl) rfl
theorem q1231 : (Jvm.Cond.superclass "GateGrammar$SyntaxStop" "java/lang/Exception") ∈ lw_all := lw_g (lw_at lw_m5 196 rfl) rfl
theorem q3059 : (Jvm.Cond.castable "GateGrammar$SyntaxStop" "java/lang/Object") ∈ lw_tbl := lw_at lw_m13 104 rfl
theorem in_X10 : ∀ w ∈ wsX100, w ∈ lw_all := lw_in wsX100 [1212, 1213, 1214, 1215, 1216, 1230, 1228] (by decide +kernel) (by decide +kernel)

/-! GateGrammar$Scanner -/
set_option maxRecDepth 100000
def RX11 : String := "GateGrammar$Scanner"
def TX11 : u_T := fun k => match k with
  | 0 => ("GateGrammar$Scanner", "state", "I", false)
  | 1 => ("GateGrammar$Scanner", "depth", "I", false)
  | 2 => ("GateGrammar$Scanner", "error", "I", false)
  | _ => ("GateGrammar$Scanner", "index", "I", false)
def tyX11 : Nat → FieldType := fun k => match k with
  | 0 => .int
  | 1 => .int
  | 2 => .int
  | _ => .int
abbrev wsX110 : List Cond := u_ws RX11 TX11 4
theorem nmX11 : ∀ a, a < 4 → ∀ b, b < 4 → a ≠ b → (TX11 a).2.1 ≠ (TX11 b).2.1 := by decide +kernel
theorem tyX11_ok : ∀ k, k < 4 → parseFieldDescriptor (TX11 k).2.2.1 = some (tyX11 k) := by decide +kernel
abbrev cX11_init : ByteArray := prog_15_method_1_code
def yX11_init : MethodName := ⟨RX11, "<init>", "()V"⟩
def dkwX11_init_0 : List UInt8 := [42, 183, 0, 3, 42, 3, 181, 0, 9, 42, 2, 181, 0, 15, 177]
abbrev dktX11_init_0 : List UInt8 := dkwX11_init_0 ++ []
theorem dksX11_init_0 : cX11_init.data.toList.drop 0 = dktX11_init_0 := by decide +kernel
theorem dX11_init_0 : decode cX11_init 0 = .ok (.aload_n 0, 1) := dk_42 (dk_at dksX11_init_0 0 rfl rfl)
theorem dX11_init_1 : decode cX11_init 1 = .ok (.invokespecial 3, 3) := dk_183 0 3 (dk_at dksX11_init_0 1 rfl rfl)
theorem dX11_init_4 : decode cX11_init 4 = .ok (.aload_n 0, 1) := dk_42 (dk_at dksX11_init_0 4 rfl rfl)
theorem dX11_init_5 : decode cX11_init 5 = .ok (.iconst 0, 1) := dk_3 (dk_at dksX11_init_0 5 rfl rfl)
theorem dX11_init_6 : decode cX11_init 6 = .ok (.putfield 9, 3) := dk_181 0 9 (dk_at dksX11_init_0 6 rfl rfl)
theorem dX11_init_9 : decode cX11_init 9 = .ok (.aload_n 0, 1) := dk_42 (dk_at dksX11_init_0 9 rfl rfl)
theorem dX11_init_10 : decode cX11_init 10 = .ok (.iconst (-1), 1) := dk_2 (dk_at dksX11_init_0 10 rfl rfl)
theorem dX11_init_11 : decode cX11_init 11 = .ok (.putfield 15, 3) := dk_181 0 15 (dk_at dksX11_init_0 11 rfl rfl)
theorem dX11_init_14 : decode cX11_init 14 = .ok (.return_, 1) := dk_177 (dk_at dksX11_init_0 14 rfl rfl)
abbrev cX11_accepts : ByteArray := prog_15_method_4_code
def yX11_accepts : MethodName := ⟨RX11, "accepts", "(LGateGrammar$Token;)Z"⟩
def dkwX11_accepts_3 : List UInt8 := [180, 0, 25, 182, 0, 33, 181, 0, 9, 42, 89, 180, 0, 30, 4, 96, 181, 0, 30, 4, 172]
abbrev dktX11_accepts_3 : List UInt8 := dkwX11_accepts_3 ++ []
def dkwX11_accepts_2 : List UInt8 := [167, 0, 16, 43, 180, 0, 25, 6, 160, 0, 7, 2, 167, 0, 4, 3, 96, 181, 0, 18, 42, 42, 43]
abbrev dktX11_accepts_2 : List UInt8 := dkwX11_accepts_2 ++ dktX11_accepts_3
def dkwX11_accepts_1 : List UInt8 := [42, 180, 0, 30, 181, 0, 15, 3, 172, 42, 89, 180, 0, 18, 43, 180, 0, 25, 5, 160, 0, 7, 4]
abbrev dktX11_accepts_1 : List UInt8 := dkwX11_accepts_1 ++ dktX11_accepts_2
def dkwX11_accepts_0 : List UInt8 := [42, 180, 0, 15, 155, 0, 5, 3, 172, 42, 182, 0, 21, 43, 180, 0, 25, 122, 4, 126, 154, 0, 13, 42]
abbrev dktX11_accepts_0 : List UInt8 := dkwX11_accepts_0 ++ dktX11_accepts_1
theorem dksX11_accepts_0 : cX11_accepts.data.toList.drop 0 = dktX11_accepts_0 := by decide +kernel
theorem dksX11_accepts_1 : cX11_accepts.data.toList.drop 24 = dktX11_accepts_1 := dk_seg dksX11_accepts_0 24 rfl rfl
theorem dksX11_accepts_2 : cX11_accepts.data.toList.drop 47 = dktX11_accepts_2 := dk_seg dksX11_accepts_1 23 rfl rfl
theorem dksX11_accepts_3 : cX11_accepts.data.toList.drop 70 = dktX11_accepts_3 := dk_seg dksX11_accepts_2 23 rfl rfl
theorem dX11_accepts_0 : decode cX11_accepts 0 = .ok (.aload_n 0, 1) := dk_42 (dk_at dksX11_accepts_0 0 rfl rfl)
theorem dX11_accepts_1 : decode cX11_accepts 1 = .ok (.getfield 15, 3) := dk_180 0 15 (dk_at dksX11_accepts_0 1 rfl rfl)
theorem dX11_accepts_4 : decode cX11_accepts 4 = .ok (.ifCond .lt 5, 3) := dk_155 0 5 (dk_at dksX11_accepts_0 4 rfl rfl)
theorem dX11_accepts_7 : decode cX11_accepts 7 = .ok (.iconst 0, 1) := dk_3 (dk_at dksX11_accepts_0 7 rfl rfl)
theorem dX11_accepts_8 : decode cX11_accepts 8 = .ok (.ireturn, 1) := dk_172 (dk_at dksX11_accepts_0 8 rfl rfl)
theorem dX11_accepts_9 : decode cX11_accepts 9 = .ok (.aload_n 0, 1) := dk_42 (dk_at dksX11_accepts_0 9 rfl rfl)
theorem dX11_accepts_10 : decode cX11_accepts 10 = .ok (.invokevirtual 21, 3) := dk_182 0 21 (dk_at dksX11_accepts_0 10 rfl rfl)
theorem dX11_accepts_13 : decode cX11_accepts 13 = .ok (.aload_n 1, 1) := dk_43 (dk_at dksX11_accepts_0 13 rfl rfl)
theorem dX11_accepts_14 : decode cX11_accepts 14 = .ok (.getfield 25, 3) := dk_180 0 25 (dk_at dksX11_accepts_0 14 rfl rfl)
theorem dX11_accepts_17 : decode cX11_accepts 17 = .ok (.ishr, 1) := dk_122 (dk_at dksX11_accepts_0 17 rfl rfl)
theorem dX11_accepts_18 : decode cX11_accepts 18 = .ok (.iconst 1, 1) := dk_4 (dk_at dksX11_accepts_0 18 rfl rfl)
theorem dX11_accepts_19 : decode cX11_accepts 19 = .ok (.iand, 1) := dk_126 (dk_at dksX11_accepts_0 19 rfl rfl)
theorem dX11_accepts_20 : decode cX11_accepts 20 = .ok (.ifCond .ne 13, 3) := dk_154 0 13 (dk_at dksX11_accepts_0 20 rfl rfl)
theorem dX11_accepts_23 : decode cX11_accepts 23 = .ok (.aload_n 0, 1) := dk_42 (dk_at dksX11_accepts_0 23 rfl rfl)
theorem dX11_accepts_24 : decode cX11_accepts 24 = .ok (.aload_n 0, 1) := dk_42 (dk_at dksX11_accepts_1 0 rfl rfl)
theorem dX11_accepts_25 : decode cX11_accepts 25 = .ok (.getfield 30, 3) := dk_180 0 30 (dk_at dksX11_accepts_1 1 rfl rfl)
theorem dX11_accepts_28 : decode cX11_accepts 28 = .ok (.putfield 15, 3) := dk_181 0 15 (dk_at dksX11_accepts_1 4 rfl rfl)
theorem dX11_accepts_31 : decode cX11_accepts 31 = .ok (.iconst 0, 1) := dk_3 (dk_at dksX11_accepts_1 7 rfl rfl)
theorem dX11_accepts_32 : decode cX11_accepts 32 = .ok (.ireturn, 1) := dk_172 (dk_at dksX11_accepts_1 8 rfl rfl)
theorem dX11_accepts_33 : decode cX11_accepts 33 = .ok (.aload_n 0, 1) := dk_42 (dk_at dksX11_accepts_1 9 rfl rfl)
theorem dX11_accepts_34 : decode cX11_accepts 34 = .ok (.dup, 1) := dk_89 (dk_at dksX11_accepts_1 10 rfl rfl)
theorem dX11_accepts_35 : decode cX11_accepts 35 = .ok (.getfield 18, 3) := dk_180 0 18 (dk_at dksX11_accepts_1 11 rfl rfl)
theorem dX11_accepts_38 : decode cX11_accepts 38 = .ok (.aload_n 1, 1) := dk_43 (dk_at dksX11_accepts_1 14 rfl rfl)
theorem dX11_accepts_39 : decode cX11_accepts 39 = .ok (.getfield 25, 3) := dk_180 0 25 (dk_at dksX11_accepts_1 15 rfl rfl)
theorem dX11_accepts_42 : decode cX11_accepts 42 = .ok (.iconst 2, 1) := dk_5 (dk_at dksX11_accepts_1 18 rfl rfl)
theorem dX11_accepts_43 : decode cX11_accepts 43 = .ok (.if_icmp .ne 7, 3) := dk_160 0 7 (dk_at dksX11_accepts_1 19 rfl rfl)
theorem dX11_accepts_46 : decode cX11_accepts 46 = .ok (.iconst 1, 1) := dk_4 (dk_at dksX11_accepts_1 22 rfl rfl)
theorem dX11_accepts_47 : decode cX11_accepts 47 = .ok (.goto 16, 3) := dk_167 0 16 (dk_at dksX11_accepts_2 0 rfl rfl)
theorem dX11_accepts_50 : decode cX11_accepts 50 = .ok (.aload_n 1, 1) := dk_43 (dk_at dksX11_accepts_2 3 rfl rfl)
theorem dX11_accepts_51 : decode cX11_accepts 51 = .ok (.getfield 25, 3) := dk_180 0 25 (dk_at dksX11_accepts_2 4 rfl rfl)
theorem dX11_accepts_54 : decode cX11_accepts 54 = .ok (.iconst 3, 1) := dk_6 (dk_at dksX11_accepts_2 7 rfl rfl)
theorem dX11_accepts_55 : decode cX11_accepts 55 = .ok (.if_icmp .ne 7, 3) := dk_160 0 7 (dk_at dksX11_accepts_2 8 rfl rfl)
theorem dX11_accepts_58 : decode cX11_accepts 58 = .ok (.iconst (-1), 1) := dk_2 (dk_at dksX11_accepts_2 11 rfl rfl)
theorem dX11_accepts_59 : decode cX11_accepts 59 = .ok (.goto 4, 3) := dk_167 0 4 (dk_at dksX11_accepts_2 12 rfl rfl)
theorem dX11_accepts_62 : decode cX11_accepts 62 = .ok (.iconst 0, 1) := dk_3 (dk_at dksX11_accepts_2 15 rfl rfl)
theorem dX11_accepts_63 : decode cX11_accepts 63 = .ok (.iadd, 1) := dk_96 (dk_at dksX11_accepts_2 16 rfl rfl)
theorem dX11_accepts_64 : decode cX11_accepts 64 = .ok (.putfield 18, 3) := dk_181 0 18 (dk_at dksX11_accepts_2 17 rfl rfl)
theorem dX11_accepts_67 : decode cX11_accepts 67 = .ok (.aload_n 0, 1) := dk_42 (dk_at dksX11_accepts_2 20 rfl rfl)
theorem dX11_accepts_68 : decode cX11_accepts 68 = .ok (.aload_n 0, 1) := dk_42 (dk_at dksX11_accepts_2 21 rfl rfl)
theorem dX11_accepts_69 : decode cX11_accepts 69 = .ok (.aload_n 1, 1) := dk_43 (dk_at dksX11_accepts_2 22 rfl rfl)
theorem dX11_accepts_70 : decode cX11_accepts 70 = .ok (.getfield 25, 3) := dk_180 0 25 (dk_at dksX11_accepts_3 0 rfl rfl)
theorem dX11_accepts_73 : decode cX11_accepts 73 = .ok (.invokevirtual 33, 3) := dk_182 0 33 (dk_at dksX11_accepts_3 3 rfl rfl)
theorem dX11_accepts_76 : decode cX11_accepts 76 = .ok (.putfield 9, 3) := dk_181 0 9 (dk_at dksX11_accepts_3 6 rfl rfl)
theorem dX11_accepts_79 : decode cX11_accepts 79 = .ok (.aload_n 0, 1) := dk_42 (dk_at dksX11_accepts_3 9 rfl rfl)
theorem dX11_accepts_80 : decode cX11_accepts 80 = .ok (.dup, 1) := dk_89 (dk_at dksX11_accepts_3 10 rfl rfl)
theorem dX11_accepts_81 : decode cX11_accepts 81 = .ok (.getfield 30, 3) := dk_180 0 30 (dk_at dksX11_accepts_3 11 rfl rfl)
theorem dX11_accepts_84 : decode cX11_accepts 84 = .ok (.iconst 1, 1) := dk_4 (dk_at dksX11_accepts_3 14 rfl rfl)
theorem dX11_accepts_85 : decode cX11_accepts 85 = .ok (.iadd, 1) := dk_96 (dk_at dksX11_accepts_3 15 rfl rfl)
theorem dX11_accepts_86 : decode cX11_accepts 86 = .ok (.putfield 30, 3) := dk_181 0 30 (dk_at dksX11_accepts_3 16 rfl rfl)
theorem dX11_accepts_89 : decode cX11_accepts 89 = .ok (.iconst 1, 1) := dk_4 (dk_at dksX11_accepts_3 19 rfl rfl)
theorem dX11_accepts_90 : decode cX11_accepts 90 = .ok (.ireturn, 1) := dk_172 (dk_at dksX11_accepts_3 20 rfl rfl)
abbrev cX11_allowed : ByteArray := prog_15_method_2_code
def yX11_allowed : MethodName := ⟨RX11, "allowed", "()I"⟩
def dkwX11_allowed_2 : List UInt8 := [4, 167, 0, 18, 6, 167, 0, 14, 16, 21, 27, 128, 167, 0, 7, 16, 16, 27, 128, 172]
abbrev dktX11_allowed_2 : List UInt8 := dkwX11_allowed_2 ++ []
def dkwX11_allowed_1 : List UInt8 := [170, 0, 0, 0, 0, 41, 0, 0, 0, 0, 0, 0, 0, 2, 0, 0, 0, 26, 0, 0, 0, 30, 0, 0, 0, 34]
abbrev dktX11_allowed_1 : List UInt8 := dkwX11_allowed_1 ++ dktX11_allowed_2
def dkwX11_allowed_0 : List UInt8 := [42, 180, 0, 18, 158, 0, 8, 16, 8, 167, 0, 4, 3, 60, 42, 180, 0, 9]
abbrev dktX11_allowed_0 : List UInt8 := dkwX11_allowed_0 ++ dktX11_allowed_1
theorem dksX11_allowed_0 : cX11_allowed.data.toList.drop 0 = dktX11_allowed_0 := by decide +kernel
theorem dksX11_allowed_1 : cX11_allowed.data.toList.drop 18 = dktX11_allowed_1 := dk_seg dksX11_allowed_0 18 rfl rfl
theorem dksX11_allowed_2 : cX11_allowed.data.toList.drop 44 = dktX11_allowed_2 := dk_seg dksX11_allowed_1 26 rfl rfl
theorem dX11_allowed_0 : decode cX11_allowed 0 = .ok (.aload_n 0, 1) := dk_42 (dk_at dksX11_allowed_0 0 rfl rfl)
theorem dX11_allowed_1 : decode cX11_allowed 1 = .ok (.getfield 18, 3) := dk_180 0 18 (dk_at dksX11_allowed_0 1 rfl rfl)
theorem dX11_allowed_4 : decode cX11_allowed 4 = .ok (.ifCond .le 8, 3) := dk_158 0 8 (dk_at dksX11_allowed_0 4 rfl rfl)
theorem dX11_allowed_7 : decode cX11_allowed 7 = .ok (.bipush 8, 2) := dk_16 8 (dk_at dksX11_allowed_0 7 rfl rfl)
theorem dX11_allowed_9 : decode cX11_allowed 9 = .ok (.goto 4, 3) := dk_167 0 4 (dk_at dksX11_allowed_0 9 rfl rfl)
theorem dX11_allowed_12 : decode cX11_allowed 12 = .ok (.iconst 0, 1) := dk_3 (dk_at dksX11_allowed_0 12 rfl rfl)
theorem dX11_allowed_13 : decode cX11_allowed 13 = .ok (.istore_n 1, 1) := dk_60 (dk_at dksX11_allowed_0 13 rfl rfl)
theorem dX11_allowed_14 : decode cX11_allowed 14 = .ok (.aload_n 0, 1) := dk_42 (dk_at dksX11_allowed_0 14 rfl rfl)
theorem dX11_allowed_15 : decode cX11_allowed 15 = .ok (.getfield 9, 3) := dk_180 0 9 (dk_at dksX11_allowed_0 15 rfl rfl)
theorem dX11_allowed_18 : decode cX11_allowed 18 = .ok (.tableswitch 41 0 2 #[26, 30, 34], 26) := by decide +kernel
theorem dX11_allowed_44 : decode cX11_allowed 44 = .ok (.iconst 1, 1) := dk_4 (dk_at dksX11_allowed_2 0 rfl rfl)
theorem dX11_allowed_45 : decode cX11_allowed 45 = .ok (.goto 18, 3) := dk_167 0 18 (dk_at dksX11_allowed_2 1 rfl rfl)
theorem dX11_allowed_48 : decode cX11_allowed 48 = .ok (.iconst 3, 1) := dk_6 (dk_at dksX11_allowed_2 4 rfl rfl)
theorem dX11_allowed_49 : decode cX11_allowed 49 = .ok (.goto 14, 3) := dk_167 0 14 (dk_at dksX11_allowed_2 5 rfl rfl)
theorem dX11_allowed_52 : decode cX11_allowed 52 = .ok (.bipush 21, 2) := dk_16 21 (dk_at dksX11_allowed_2 8 rfl rfl)
theorem dX11_allowed_54 : decode cX11_allowed 54 = .ok (.iload_n 1, 1) := dk_27 (dk_at dksX11_allowed_2 10 rfl rfl)
theorem dX11_allowed_55 : decode cX11_allowed 55 = .ok (.ior, 1) := dk_128 (dk_at dksX11_allowed_2 11 rfl rfl)
theorem dX11_allowed_56 : decode cX11_allowed 56 = .ok (.goto 7, 3) := dk_167 0 7 (dk_at dksX11_allowed_2 12 rfl rfl)
theorem dX11_allowed_59 : decode cX11_allowed 59 = .ok (.bipush 16, 2) := dk_16 16 (dk_at dksX11_allowed_2 15 rfl rfl)
theorem dX11_allowed_61 : decode cX11_allowed 61 = .ok (.iload_n 1, 1) := dk_27 (dk_at dksX11_allowed_2 17 rfl rfl)
theorem dX11_allowed_62 : decode cX11_allowed 62 = .ok (.ior, 1) := dk_128 (dk_at dksX11_allowed_2 18 rfl rfl)
theorem dX11_allowed_63 : decode cX11_allowed 63 = .ok (.ireturn, 1) := dk_172 (dk_at dksX11_allowed_2 19 rfl rfl)
abbrev cX11_next : ByteArray := prog_15_method_5_code
def yX11_next : MethodName := ⟨RX11, "next", "(I)I"⟩
def dkwX11_next_3 : List UInt8 := [3, 172]
abbrev dktX11_next_3 : List UInt8 := dkwX11_next_3 ++ []
def dkwX11_next_2 : List UInt8 := [42, 180, 0, 9, 5, 160, 0, 7, 6, 167, 0, 16, 4, 167, 0, 12, 5, 167, 0, 8, 6, 167, 0, 4]
abbrev dktX11_next_2 : List UInt8 := dkwX11_next_2 ++ dktX11_next_3
def dkwX11_next_1 : List UInt8 := [170, 0, 0, 0, 0, 0, 55, 0, 0, 0, 0, 0, 0, 0, 3, 0, 0, 0, 31, 0, 0, 0, 47, 0, 0, 0, 55, 0, 0, 0, 51]
abbrev dktX11_next_1 : List UInt8 := dkwX11_next_1 ++ dktX11_next_2
def dkwX11_next_0 : List UInt8 := [27]
abbrev dktX11_next_0 : List UInt8 := dkwX11_next_0 ++ dktX11_next_1
theorem dksX11_next_0 : cX11_next.data.toList.drop 0 = dktX11_next_0 := by decide +kernel
theorem dksX11_next_1 : cX11_next.data.toList.drop 1 = dktX11_next_1 := dk_seg dksX11_next_0 1 rfl rfl
theorem dksX11_next_2 : cX11_next.data.toList.drop 32 = dktX11_next_2 := dk_seg dksX11_next_1 31 rfl rfl
theorem dksX11_next_3 : cX11_next.data.toList.drop 56 = dktX11_next_3 := dk_seg dksX11_next_2 24 rfl rfl
theorem dX11_next_0 : decode cX11_next 0 = .ok (.iload_n 1, 1) := dk_27 (dk_at dksX11_next_0 0 rfl rfl)
theorem dX11_next_1 : decode cX11_next 1 = .ok (.tableswitch 55 0 3 #[31, 47, 55, 51], 31) := by decide +kernel
theorem dX11_next_32 : decode cX11_next 32 = .ok (.aload_n 0, 1) := dk_42 (dk_at dksX11_next_2 0 rfl rfl)
theorem dX11_next_33 : decode cX11_next 33 = .ok (.getfield 9, 3) := dk_180 0 9 (dk_at dksX11_next_2 1 rfl rfl)
theorem dX11_next_36 : decode cX11_next 36 = .ok (.iconst 2, 1) := dk_5 (dk_at dksX11_next_2 4 rfl rfl)
theorem dX11_next_37 : decode cX11_next 37 = .ok (.if_icmp .ne 7, 3) := dk_160 0 7 (dk_at dksX11_next_2 5 rfl rfl)
theorem dX11_next_40 : decode cX11_next 40 = .ok (.iconst 3, 1) := dk_6 (dk_at dksX11_next_2 8 rfl rfl)
theorem dX11_next_41 : decode cX11_next 41 = .ok (.goto 16, 3) := dk_167 0 16 (dk_at dksX11_next_2 9 rfl rfl)
theorem dX11_next_44 : decode cX11_next 44 = .ok (.iconst 1, 1) := dk_4 (dk_at dksX11_next_2 12 rfl rfl)
theorem dX11_next_45 : decode cX11_next 45 = .ok (.goto 12, 3) := dk_167 0 12 (dk_at dksX11_next_2 13 rfl rfl)
theorem dX11_next_48 : decode cX11_next 48 = .ok (.iconst 2, 1) := dk_5 (dk_at dksX11_next_2 16 rfl rfl)
theorem dX11_next_49 : decode cX11_next 49 = .ok (.goto 8, 3) := dk_167 0 8 (dk_at dksX11_next_2 17 rfl rfl)
theorem dX11_next_52 : decode cX11_next 52 = .ok (.iconst 3, 1) := dk_6 (dk_at dksX11_next_2 20 rfl rfl)
theorem dX11_next_53 : decode cX11_next 53 = .ok (.goto 4, 3) := dk_167 0 4 (dk_at dksX11_next_2 21 rfl rfl)
theorem dX11_next_56 : decode cX11_next 56 = .ok (.iconst 0, 1) := dk_3 (dk_at dksX11_next_3 0 rfl rfl)
theorem dX11_next_57 : decode cX11_next 57 = .ok (.ireturn, 1) := dk_172 (dk_at dksX11_next_3 1 rfl rfl)
abbrev cX11_syntaxError : ByteArray := prog_15_method_6_code
def yX11_syntaxError : MethodName := ⟨RX11, "syntaxError", "()I"⟩
def dkwX11_syntaxError_1 : List UInt8 := [167, 0, 7, 42, 180, 0, 30, 172]
abbrev dktX11_syntaxError_1 : List UInt8 := dkwX11_syntaxError_1 ++ []
def dkwX11_syntaxError_0 : List UInt8 := [42, 180, 0, 15, 155, 0, 10, 42, 180, 0, 15, 167, 0, 18, 42, 182, 0, 37, 153, 0, 7, 2]
abbrev dktX11_syntaxError_0 : List UInt8 := dkwX11_syntaxError_0 ++ dktX11_syntaxError_1
theorem dksX11_syntaxError_0 : cX11_syntaxError.data.toList.drop 0 = dktX11_syntaxError_0 := by decide +kernel
theorem dksX11_syntaxError_1 : cX11_syntaxError.data.toList.drop 22 = dktX11_syntaxError_1 := dk_seg dksX11_syntaxError_0 22 rfl rfl
theorem dX11_syntaxError_0 : decode cX11_syntaxError 0 = .ok (.aload_n 0, 1) := dk_42 (dk_at dksX11_syntaxError_0 0 rfl rfl)
theorem dX11_syntaxError_1 : decode cX11_syntaxError 1 = .ok (.getfield 15, 3) := dk_180 0 15 (dk_at dksX11_syntaxError_0 1 rfl rfl)
theorem dX11_syntaxError_4 : decode cX11_syntaxError 4 = .ok (.ifCond .lt 10, 3) := dk_155 0 10 (dk_at dksX11_syntaxError_0 4 rfl rfl)
theorem dX11_syntaxError_7 : decode cX11_syntaxError 7 = .ok (.aload_n 0, 1) := dk_42 (dk_at dksX11_syntaxError_0 7 rfl rfl)
theorem dX11_syntaxError_8 : decode cX11_syntaxError 8 = .ok (.getfield 15, 3) := dk_180 0 15 (dk_at dksX11_syntaxError_0 8 rfl rfl)
theorem dX11_syntaxError_11 : decode cX11_syntaxError 11 = .ok (.goto 18, 3) := dk_167 0 18 (dk_at dksX11_syntaxError_0 11 rfl rfl)
theorem dX11_syntaxError_14 : decode cX11_syntaxError 14 = .ok (.aload_n 0, 1) := dk_42 (dk_at dksX11_syntaxError_0 14 rfl rfl)
theorem dX11_syntaxError_15 : decode cX11_syntaxError 15 = .ok (.invokevirtual 37, 3) := dk_182 0 37 (dk_at dksX11_syntaxError_0 15 rfl rfl)
theorem dX11_syntaxError_18 : decode cX11_syntaxError 18 = .ok (.ifCond .eq 7, 3) := dk_153 0 7 (dk_at dksX11_syntaxError_0 18 rfl rfl)
theorem dX11_syntaxError_21 : decode cX11_syntaxError 21 = .ok (.iconst (-1), 1) := dk_2 (dk_at dksX11_syntaxError_0 21 rfl rfl)
theorem dX11_syntaxError_22 : decode cX11_syntaxError 22 = .ok (.goto 7, 3) := dk_167 0 7 (dk_at dksX11_syntaxError_1 0 rfl rfl)
theorem dX11_syntaxError_25 : decode cX11_syntaxError 25 = .ok (.aload_n 0, 1) := dk_42 (dk_at dksX11_syntaxError_1 3 rfl rfl)
theorem dX11_syntaxError_26 : decode cX11_syntaxError 26 = .ok (.getfield 30, 3) := dk_180 0 30 (dk_at dksX11_syntaxError_1 4 rfl rfl)
theorem dX11_syntaxError_29 : decode cX11_syntaxError 29 = .ok (.ireturn, 1) := dk_172 (dk_at dksX11_syntaxError_1 7 rfl rfl)
abbrev cX11_isSentence : ByteArray := prog_15_method_3_code
def yX11_isSentence : MethodName := ⟨RX11, "isSentence", "()Z"⟩
def dkwX11_isSentence_1 : List UInt8 := [167, 0, 4, 3, 172]
abbrev dktX11_isSentence_1 : List UInt8 := dkwX11_isSentence_1 ++ []
def dkwX11_isSentence_0 : List UInt8 := [42, 180, 0, 15, 156, 0, 22, 42, 180, 0, 18, 154, 0, 15, 42, 180, 0, 9, 5, 161, 0, 7, 4]
abbrev dktX11_isSentence_0 : List UInt8 := dkwX11_isSentence_0 ++ dktX11_isSentence_1
theorem dksX11_isSentence_0 : cX11_isSentence.data.toList.drop 0 = dktX11_isSentence_0 := by decide +kernel
theorem dksX11_isSentence_1 : cX11_isSentence.data.toList.drop 23 = dktX11_isSentence_1 := dk_seg dksX11_isSentence_0 23 rfl rfl
theorem dX11_isSentence_0 : decode cX11_isSentence 0 = .ok (.aload_n 0, 1) := dk_42 (dk_at dksX11_isSentence_0 0 rfl rfl)
theorem dX11_isSentence_1 : decode cX11_isSentence 1 = .ok (.getfield 15, 3) := dk_180 0 15 (dk_at dksX11_isSentence_0 1 rfl rfl)
theorem dX11_isSentence_4 : decode cX11_isSentence 4 = .ok (.ifCond .ge 22, 3) := dk_156 0 22 (dk_at dksX11_isSentence_0 4 rfl rfl)
theorem dX11_isSentence_7 : decode cX11_isSentence 7 = .ok (.aload_n 0, 1) := dk_42 (dk_at dksX11_isSentence_0 7 rfl rfl)
theorem dX11_isSentence_8 : decode cX11_isSentence 8 = .ok (.getfield 18, 3) := dk_180 0 18 (dk_at dksX11_isSentence_0 8 rfl rfl)
theorem dX11_isSentence_11 : decode cX11_isSentence 11 = .ok (.ifCond .ne 15, 3) := dk_154 0 15 (dk_at dksX11_isSentence_0 11 rfl rfl)
theorem dX11_isSentence_14 : decode cX11_isSentence 14 = .ok (.aload_n 0, 1) := dk_42 (dk_at dksX11_isSentence_0 14 rfl rfl)
theorem dX11_isSentence_15 : decode cX11_isSentence 15 = .ok (.getfield 9, 3) := dk_180 0 9 (dk_at dksX11_isSentence_0 15 rfl rfl)
theorem dX11_isSentence_18 : decode cX11_isSentence 18 = .ok (.iconst 2, 1) := dk_5 (dk_at dksX11_isSentence_0 18 rfl rfl)
theorem dX11_isSentence_19 : decode cX11_isSentence 19 = .ok (.if_icmp .lt 7, 3) := dk_161 0 7 (dk_at dksX11_isSentence_0 19 rfl rfl)
theorem dX11_isSentence_22 : decode cX11_isSentence 22 = .ok (.iconst 1, 1) := dk_4 (dk_at dksX11_isSentence_0 22 rfl rfl)
theorem dX11_isSentence_23 : decode cX11_isSentence 23 = .ok (.goto 4, 3) := dk_167 0 4 (dk_at dksX11_isSentence_1 0 rfl rfl)
theorem dX11_isSentence_26 : decode cX11_isSentence 26 = .ok (.iconst 0, 1) := dk_3 (dk_at dksX11_isSentence_1 3 rfl rfl)
theorem dX11_isSentence_27 : decode cX11_isSentence 27 = .ok (.ireturn, 1) := dk_172 (dk_at dksX11_isSentence_1 4 rfl rfl)
theorem q114 : (Jvm.Cond.initialized "GateGrammar$Scanner") ∈ lw_all := lw_g (lw_at lw_m1 39 rfl) rfl
theorem q599 : (Jvm.Cond.selects "GateGrammar$Scanner" ({ cls := "java/lang/Object", name := "getClass", desc := "()Ljava/lang/Class;" } : Jvm.MethodName) ({ cls := "java/lang/Object", name := "getClass", desc := "()Ljava/lang/Class;" } : Jvm.MethodName)) ∈ lw_all := lw_g (lw_at lw_m3 44 rfl) rfl
theorem q1352 : (Jvm.Cond.instantiable "GateGrammar$Scanner" (4 : Nat)) ∈ lw_all := lw_g (lw_at lw_m6 77 rfl) rfl
theorem q1354 : (Jvm.Cond.instanceMethod ({ cls := "GateGrammar$Scanner", name := "<init>", desc := "()V" } : Jvm.MethodName)) ∈ lw_all := lw_g (lw_at lw_m6 79 rfl) rfl
theorem q1355 : (Jvm.Cond.code ({ cls := "GateGrammar$Scanner", name := "<init>", desc := "()V" } : Jvm.MethodName) prog_15_method_1_code (1 : Nat) (Option.none : Option Jvm.ClassFile.FieldType)) ∈ lw_all := lw_g (lw_at lw_m6 80 rfl) rfl
theorem q1356 : (Jvm.Cond.methodLink "GateGrammar$Scanner" (3 : Nat) ({ cls := "java/lang/Object", name := "<init>", desc := "()V" } : Jvm.MethodName)) ∈ lw_all := lw_g (lw_at lw_m6 81 rfl) rfl
theorem q1357 : (Jvm.Cond.fieldLink "GateGrammar$Scanner" (9 : Nat) "GateGrammar$Scanner" "state" "I") ∈ lw_all := lw_g (lw_at lw_m6 82 rfl) rfl
theorem q1359 : (Jvm.Cond.fieldLink "GateGrammar$Scanner" (18 : Nat) "GateGrammar$Scanner" "depth" "I") ∈ lw_all := lw_g (lw_at lw_m6 84 rfl) rfl
theorem q1360 : (Jvm.Cond.fieldLink "GateGrammar$Scanner" (15 : Nat) "GateGrammar$Scanner" "error" "I") ∈ lw_all := lw_g (lw_at lw_m6 85 rfl) rfl
theorem q1362 : (Jvm.Cond.fieldLink "GateGrammar$Scanner" (30 : Nat) "GateGrammar$Scanner" "index" "I") ∈ lw_all := lw_g (lw_at lw_m6 87 rfl) rfl
theorem q1364 : (Jvm.Cond.lays "GateGrammar$Scanner" "GateGrammar$Scanner" "state" "I") ∈ lw_all := lw_g (lw_at lw_m6 89 rfl) rfl
theorem q1365 : (Jvm.Cond.soleField "GateGrammar$Scanner" "state") ∈ lw_all := lw_g (lw_at lw_m6 90 rfl) rfl
theorem q1366 : (Jvm.Cond.lays "GateGrammar$Scanner" "GateGrammar$Scanner" "depth" "I") ∈ lw_all := lw_g (lw_at lw_m6 91 rfl) rfl
theorem q1367 : (Jvm.Cond.soleField "GateGrammar$Scanner" "depth") ∈ lw_all := lw_g (lw_at lw_m6 92 rfl) rfl
theorem q1368 : (Jvm.Cond.lays "GateGrammar$Scanner" "GateGrammar$Scanner" "error" "I") ∈ lw_all := lw_g (lw_at lw_m6 93 rfl) rfl
theorem q1369 : (Jvm.Cond.soleField "GateGrammar$Scanner" "error") ∈ lw_all := lw_g (lw_at lw_m6 94 rfl) rfl
theorem q1370 : (Jvm.Cond.lays "GateGrammar$Scanner" "GateGrammar$Scanner" "index" "I") ∈ lw_all := lw_g (lw_at lw_m6 95 rfl) rfl
theorem q1371 : (Jvm.Cond.soleField "GateGrammar$Scanner" "index") ∈ lw_all := lw_g (lw_at lw_m6 96 rfl) rfl
theorem q1372 : (Jvm.Cond.superclass "GateGrammar$Scanner" "java/lang/Object") ∈ lw_all := lw_g (lw_at lw_m6 97 rfl) rfl
theorem q1460 : (Jvm.Cond.instanceMethod ({ cls := "GateGrammar$Scanner", name := "accepts", desc := "(LGateGrammar$Token;)Z" } : Jvm.MethodName)) ∈ lw_all := lw_g (lw_at lw_m6 185 rfl) rfl
theorem q1461 : (Jvm.Cond.selects "GateGrammar$Scanner" ({ cls := "GateGrammar$Scanner", name := "accepts", desc := "(LGateGrammar$Token;)Z" } : Jvm.MethodName) ({ cls := "GateGrammar$Scanner", name := "accepts", desc := "(LGateGrammar$Token;)Z" } : Jvm.MethodName)) ∈ lw_all := lw_g (lw_at lw_m6 186 rfl) rfl
theorem q1462 : (Jvm.Cond.code ({ cls := "GateGrammar$Scanner", name := "accepts", desc := "(LGateGrammar$Token;)Z" } : Jvm.MethodName) prog_15_method_4_code (2 : Nat) (Option.some Jvm.ClassFile.FieldType.boolean)) ∈ lw_all := lw_g (lw_at lw_m6 187 rfl) rfl
theorem q1463 : (Jvm.Cond.methodLink "GateGrammar$Scanner" (21 : Nat) ({ cls := "GateGrammar$Scanner", name := "allowed", desc := "()I" } : Jvm.MethodName)) ∈ lw_all := lw_g (lw_at lw_m6 188 rfl) rfl
theorem q1464 : (Jvm.Cond.instanceMethod ({ cls := "GateGrammar$Scanner", name := "allowed", desc := "()I" } : Jvm.MethodName)) ∈ lw_all := lw_g (lw_at lw_m6 189 rfl) rfl
theorem q1465 : (Jvm.Cond.selects "GateGrammar$Scanner" ({ cls := "GateGrammar$Scanner", name := "allowed", desc := "()I" } : Jvm.MethodName) ({ cls := "GateGrammar$Scanner", name := "allowed", desc := "()I" } : Jvm.MethodName)) ∈ lw_all := lw_g (lw_at lw_m6 190 rfl) rfl
theorem q1466 : (Jvm.Cond.code ({ cls := "GateGrammar$Scanner", name := "allowed", desc := "()I" } : Jvm.MethodName) prog_15_method_2_code (2 : Nat) (Option.some Jvm.ClassFile.FieldType.int)) ∈ lw_all := lw_g (lw_at lw_m6 191 rfl) rfl
theorem q1467 : (Jvm.Cond.methodLink "GateGrammar$Scanner" (33 : Nat) ({ cls := "GateGrammar$Scanner", name := "next", desc := "(I)I" } : Jvm.MethodName)) ∈ lw_all := lw_g (lw_at lw_m6 192 rfl) rfl
theorem q1468 : (Jvm.Cond.privateMethod ({ cls := "GateGrammar$Scanner", name := "next", desc := "(I)I" } : Jvm.MethodName)) ∈ lw_tbl := lw_at lw_m6 193 rfl
theorem q1469 : (Jvm.Cond.instanceMethod ({ cls := "GateGrammar$Scanner", name := "next", desc := "(I)I" } : Jvm.MethodName)) ∈ lw_all := lw_g (lw_at lw_m6 194 rfl) rfl
theorem q1470 : (Jvm.Cond.code ({ cls := "GateGrammar$Scanner", name := "next", desc := "(I)I" } : Jvm.MethodName) prog_15_method_5_code (2 : Nat) (Option.some Jvm.ClassFile.FieldType.int)) ∈ lw_all := lw_g (lw_at lw_m6 195 rfl) rfl
theorem q1472 : (Jvm.Cond.instanceMethod ({ cls := "GateGrammar$Scanner", name := "syntaxError", desc := "()I" } : Jvm.MethodName)) ∈ lw_all := lw_g (lw_at lw_m6 197 rfl) rfl
theorem q1473 : (Jvm.Cond.selects "GateGrammar$Scanner" ({ cls := "GateGrammar$Scanner", name := "syntaxError", desc := "()I" } : Jvm.MethodName) ({ cls := "GateGrammar$Scanner", name := "syntaxError", desc := "()I" } : Jvm.MethodName)) ∈ lw_all := lw_g (lw_at lw_m6 198 rfl) rfl
theorem q1474 : (Jvm.Cond.code ({ cls := "GateGrammar$Scanner", name := "syntaxError", desc := "()I" } : Jvm.MethodName) prog_15_method_6_code (1 : Nat) (Option.some Jvm.ClassFile.FieldType.int)) ∈ lw_all := lw_g (lw_at lw_m6 199 rfl) rfl
theorem q1475 : (Jvm.Cond.methodLink "GateGrammar$Scanner" (37 : Nat) ({ cls := "GateGrammar$Scanner", name := "isSentence", desc := "()Z" } : Jvm.MethodName)) ∈ lw_all := lw_g (lw_at lw_m6 200 rfl) rfl
theorem q1476 : (Jvm.Cond.instanceMethod ({ cls := "GateGrammar$Scanner", name := "isSentence", desc := "()Z" } : Jvm.MethodName)) ∈ lw_all := lw_g (lw_at lw_m6 201 rfl) rfl
theorem q1477 : (Jvm.Cond.selects "GateGrammar$Scanner" ({ cls := "GateGrammar$Scanner", name := "isSentence", desc := "()Z" } : Jvm.MethodName) ({ cls := "GateGrammar$Scanner", name := "isSentence", desc := "()Z" } : Jvm.MethodName)) ∈ lw_all := lw_g (lw_at lw_m6 202 rfl) rfl
theorem q1478 : (Jvm.Cond.code ({ cls := "GateGrammar$Scanner", name := "isSentence", desc := "()Z" } : Jvm.MethodName) prog_15_method_3_code (1 : Nat) (Option.some Jvm.ClassFile.FieldType.boolean)) ∈ lw_all := lw_g (lw_at lw_m6 203 rfl) rfl
theorem q1724 : (Jvm.Cond.fieldLinkNest "GateGrammar$Scanner" (25 : Nat) "GateGrammar$Token" "kind" "I" "GateGrammar") ∈ lw_tbl := lw_at lw_m7 209 rfl
theorem q3061 : (Jvm.Cond.castable "GateGrammar$Scanner" "java/lang/Object") ∈ lw_tbl := lw_at lw_m13 106 rfl
theorem in_X11 : ∀ w ∈ wsX110, w ∈ lw_all := lw_in wsX110 [1364, 1366, 1368, 1370] (by decide +kernel) (by decide +kernel)

/-! GateGrammar$Sentence$1 -/
set_option maxRecDepth 100000
def RX12 : String := "GateGrammar$Sentence$1"
def TX12 : u_T := fun k => match k with
  | 0 => ("GateGrammar$Sentence$1", "val$pending", "Ljava/util/ArrayDeque;", true)
  | _ => ("GateGrammar$Sentence$1", "this$0", "LGateGrammar$Sentence;", true)
def tyX12 : Nat → FieldType := fun k => match k with
  | 0 => .object "java/util/ArrayDeque"
  | _ => .object "GateGrammar$Sentence"
abbrev wsX120 : List Cond := u_ws RX12 TX12 2
theorem nmX12 : ∀ a, a < 2 → ∀ b, b < 2 → a ≠ b → (TX12 a).2.1 ≠ (TX12 b).2.1 := by decide +kernel
theorem tyX12_ok : ∀ k, k < 2 → parseFieldDescriptor (TX12 k).2.2.1 = some (tyX12 k) := by decide +kernel
abbrev cX12_hasNext : ByteArray := prog_17_method_2_code
def yX12_hasNext : MethodName := ⟨RX12, "hasNext", "()Z"⟩
def dkwX12_hasNext_0 : List UInt8 := [42, 180, 0, 7, 182, 0, 17, 154, 0, 7, 4, 167, 0, 4, 3, 172]
abbrev dktX12_hasNext_0 : List UInt8 := dkwX12_hasNext_0 ++ []
theorem dksX12_hasNext_0 : cX12_hasNext.data.toList.drop 0 = dktX12_hasNext_0 := by decide +kernel
theorem dX12_hasNext_0 : decode cX12_hasNext 0 = .ok (.aload_n 0, 1) := dk_42 (dk_at dksX12_hasNext_0 0 rfl rfl)
theorem dX12_hasNext_1 : decode cX12_hasNext 1 = .ok (.getfield 7, 3) := dk_180 0 7 (dk_at dksX12_hasNext_0 1 rfl rfl)
theorem dX12_hasNext_4 : decode cX12_hasNext 4 = .ok (.invokevirtual 17, 3) := dk_182 0 17 (dk_at dksX12_hasNext_0 4 rfl rfl)
theorem dX12_hasNext_7 : decode cX12_hasNext 7 = .ok (.ifCond .ne 7, 3) := dk_154 0 7 (dk_at dksX12_hasNext_0 7 rfl rfl)
theorem dX12_hasNext_10 : decode cX12_hasNext 10 = .ok (.iconst 1, 1) := dk_4 (dk_at dksX12_hasNext_0 10 rfl rfl)
theorem dX12_hasNext_11 : decode cX12_hasNext 11 = .ok (.goto 4, 3) := dk_167 0 4 (dk_at dksX12_hasNext_0 11 rfl rfl)
theorem dX12_hasNext_14 : decode cX12_hasNext 14 = .ok (.iconst 0, 1) := dk_3 (dk_at dksX12_hasNext_0 14 rfl rfl)
theorem dX12_hasNext_15 : decode cX12_hasNext 15 = .ok (.ireturn, 1) := dk_172 (dk_at dksX12_hasNext_0 15 rfl rfl)
abbrev cX12_next : ByteArray := prog_17_method_4_code
def yX12_next : MethodName := ⟨RX12, "next", "()Ljava/lang/Object;"⟩
theorem dX12_next_0 : decode cX12_next 0 = .ok (.aload_n 0, 1) := by decide +kernel
theorem dX12_next_1 : decode cX12_next 1 = .ok (.invokevirtual 47, 3) := by decide +kernel
theorem dX12_next_4 : decode cX12_next 4 = .ok (.areturn, 1) := by decide +kernel
abbrev cX12_next_2 : ByteArray := prog_17_method_3_code
def yX12_next_2 : MethodName := ⟨RX12, "next", "()LGateGrammar$Clause;"⟩
def dkwX12_next_2_2 : List UInt8 := [167, 255, 231, 43, 176]
abbrev dktX12_next_2_2 : List UInt8 := dkwX12_next_2_2 ++ []
def dkwX12_next_2_1 : List UInt8 := [155, 0, 27, 42, 180, 0, 7, 43, 180, 0, 29, 28, 182, 0, 39, 192, 0, 27, 182, 0, 43, 132, 2, 255]
abbrev dktX12_next_2_1 : List UInt8 := dkwX12_next_2_1 ++ dktX12_next_2_2
def dkwX12_next_2_0 : List UInt8 := [42, 180, 0, 7, 182, 0, 23, 192, 0, 27, 76, 43, 180, 0, 29, 182, 0, 33, 4, 100, 61, 28]
abbrev dktX12_next_2_0 : List UInt8 := dkwX12_next_2_0 ++ dktX12_next_2_1
theorem dksX12_next_2_0 : cX12_next_2.data.toList.drop 0 = dktX12_next_2_0 := by decide +kernel
theorem dksX12_next_2_1 : cX12_next_2.data.toList.drop 22 = dktX12_next_2_1 := dk_seg dksX12_next_2_0 22 rfl rfl
theorem dksX12_next_2_2 : cX12_next_2.data.toList.drop 46 = dktX12_next_2_2 := dk_seg dksX12_next_2_1 24 rfl rfl
theorem dX12_next_2_0 : decode cX12_next_2 0 = .ok (.aload_n 0, 1) := dk_42 (dk_at dksX12_next_2_0 0 rfl rfl)
theorem dX12_next_2_1 : decode cX12_next_2 1 = .ok (.getfield 7, 3) := dk_180 0 7 (dk_at dksX12_next_2_0 1 rfl rfl)
theorem dX12_next_2_4 : decode cX12_next_2 4 = .ok (.invokevirtual 23, 3) := dk_182 0 23 (dk_at dksX12_next_2_0 4 rfl rfl)
theorem dX12_next_2_7 : decode cX12_next_2 7 = .ok (.checkcast 27, 3) := dk_192 0 27 (dk_at dksX12_next_2_0 7 rfl rfl)
theorem dX12_next_2_10 : decode cX12_next_2 10 = .ok (.astore_n 1, 1) := dk_76 (dk_at dksX12_next_2_0 10 rfl rfl)
theorem dX12_next_2_11 : decode cX12_next_2 11 = .ok (.aload_n 1, 1) := dk_43 (dk_at dksX12_next_2_0 11 rfl rfl)
theorem dX12_next_2_12 : decode cX12_next_2 12 = .ok (.getfield 29, 3) := dk_180 0 29 (dk_at dksX12_next_2_0 12 rfl rfl)
theorem dX12_next_2_15 : decode cX12_next_2 15 = .ok (.invokevirtual 33, 3) := dk_182 0 33 (dk_at dksX12_next_2_0 15 rfl rfl)
theorem dX12_next_2_18 : decode cX12_next_2 18 = .ok (.iconst 1, 1) := dk_4 (dk_at dksX12_next_2_0 18 rfl rfl)
theorem dX12_next_2_19 : decode cX12_next_2 19 = .ok (.isub, 1) := dk_100 (dk_at dksX12_next_2_0 19 rfl rfl)
theorem dX12_next_2_20 : decode cX12_next_2 20 = .ok (.istore_n 2, 1) := dk_61 (dk_at dksX12_next_2_0 20 rfl rfl)
theorem dX12_next_2_21 : decode cX12_next_2 21 = .ok (.iload_n 2, 1) := dk_28 (dk_at dksX12_next_2_0 21 rfl rfl)
theorem dX12_next_2_22 : decode cX12_next_2 22 = .ok (.ifCond .lt 27, 3) := dk_155 0 27 (dk_at dksX12_next_2_1 0 rfl rfl)
theorem dX12_next_2_25 : decode cX12_next_2 25 = .ok (.aload_n 0, 1) := dk_42 (dk_at dksX12_next_2_1 3 rfl rfl)
theorem dX12_next_2_26 : decode cX12_next_2 26 = .ok (.getfield 7, 3) := dk_180 0 7 (dk_at dksX12_next_2_1 4 rfl rfl)
theorem dX12_next_2_29 : decode cX12_next_2 29 = .ok (.aload_n 1, 1) := dk_43 (dk_at dksX12_next_2_1 7 rfl rfl)
theorem dX12_next_2_30 : decode cX12_next_2 30 = .ok (.getfield 29, 3) := dk_180 0 29 (dk_at dksX12_next_2_1 8 rfl rfl)
theorem dX12_next_2_33 : decode cX12_next_2 33 = .ok (.iload_n 2, 1) := dk_28 (dk_at dksX12_next_2_1 11 rfl rfl)
theorem dX12_next_2_34 : decode cX12_next_2 34 = .ok (.invokevirtual 39, 3) := dk_182 0 39 (dk_at dksX12_next_2_1 12 rfl rfl)
theorem dX12_next_2_37 : decode cX12_next_2 37 = .ok (.checkcast 27, 3) := dk_192 0 27 (dk_at dksX12_next_2_1 15 rfl rfl)
theorem dX12_next_2_40 : decode cX12_next_2 40 = .ok (.invokevirtual 43, 3) := dk_182 0 43 (dk_at dksX12_next_2_1 18 rfl rfl)
theorem dX12_next_2_43 : decode cX12_next_2 43 = .ok (.iinc 2 (-1), 3) := dk_132 2 255 (dk_at dksX12_next_2_1 21 rfl rfl)
theorem dX12_next_2_46 : decode cX12_next_2 46 = .ok (.goto (-25), 3) := dk_167 255 231 (dk_at dksX12_next_2_2 0 rfl rfl)
theorem dX12_next_2_49 : decode cX12_next_2 49 = .ok (.aload_n 1, 1) := dk_43 (dk_at dksX12_next_2_2 3 rfl rfl)
theorem dX12_next_2_50 : decode cX12_next_2 50 = .ok (.areturn, 1) := dk_176 (dk_at dksX12_next_2_2 4 rfl rfl)
abbrev cX12_init : ByteArray := prog_17_method_1_code
def yX12_init : MethodName := ⟨RX12, "<init>", "(LGateGrammar$Sentence;Ljava/util/ArrayDeque;)V"⟩
def dkwX12_init_0 : List UInt8 := [42, 43, 181, 0, 1, 42, 44, 181, 0, 7, 42, 183, 0, 11, 177]
abbrev dktX12_init_0 : List UInt8 := dkwX12_init_0 ++ []
theorem dksX12_init_0 : cX12_init.data.toList.drop 0 = dktX12_init_0 := by decide +kernel
theorem dX12_init_0 : decode cX12_init 0 = .ok (.aload_n 0, 1) := dk_42 (dk_at dksX12_init_0 0 rfl rfl)
theorem dX12_init_1 : decode cX12_init 1 = .ok (.aload_n 1, 1) := dk_43 (dk_at dksX12_init_0 1 rfl rfl)
theorem dX12_init_2 : decode cX12_init 2 = .ok (.putfield 1, 3) := dk_181 0 1 (dk_at dksX12_init_0 2 rfl rfl)
theorem dX12_init_5 : decode cX12_init 5 = .ok (.aload_n 0, 1) := dk_42 (dk_at dksX12_init_0 5 rfl rfl)
theorem dX12_init_6 : decode cX12_init 6 = .ok (.aload_n 2, 1) := dk_44 (dk_at dksX12_init_0 6 rfl rfl)
theorem dX12_init_7 : decode cX12_init 7 = .ok (.putfield 7, 3) := dk_181 0 7 (dk_at dksX12_init_0 7 rfl rfl)
theorem dX12_init_10 : decode cX12_init 10 = .ok (.aload_n 0, 1) := dk_42 (dk_at dksX12_init_0 10 rfl rfl)
theorem dX12_init_11 : decode cX12_init 11 = .ok (.invokespecial 11, 3) := dk_183 0 11 (dk_at dksX12_init_0 11 rfl rfl)
theorem dX12_init_14 : decode cX12_init 14 = .ok (.return_, 1) := dk_177 (dk_at dksX12_init_0 14 rfl rfl)
theorem q119 : (Jvm.Cond.initialized "GateGrammar$Sentence$1") ∈ lw_all := lw_g (lw_at lw_m1 44 rfl) rfl
theorem q601 : (Jvm.Cond.selects "GateGrammar$Sentence$1" ({ cls := "java/lang/Object", name := "getClass", desc := "()Ljava/lang/Class;" } : Jvm.MethodName) ({ cls := "java/lang/Object", name := "getClass", desc := "()Ljava/lang/Class;" } : Jvm.MethodName)) ∈ lw_all := lw_g (lw_at lw_m3 46 rfl) rfl
theorem q697 : (Jvm.Cond.castable "GateGrammar$Sentence$1" "java/util/Iterator") ∈ lw_tbl := lw_at lw_m3 142 rfl
theorem q698 : (Jvm.Cond.selects "GateGrammar$Sentence$1" ({ cls := "java/util/Iterator", name := "hasNext", desc := "()Z" } : Jvm.MethodName) ({ cls := "GateGrammar$Sentence$1", name := "hasNext", desc := "()Z" } : Jvm.MethodName)) ∈ lw_all := lw_g (lw_at lw_m3 143 rfl) rfl
theorem q699 : (Jvm.Cond.unhidden "GateGrammar$Sentence$1" "hasNext" "()Z") ∈ lw_tbl := lw_at lw_m3 144 rfl
theorem q700 : (Jvm.Cond.instanceMethod ({ cls := "GateGrammar$Sentence$1", name := "hasNext", desc := "()Z" } : Jvm.MethodName)) ∈ lw_all := lw_g (lw_at lw_m3 145 rfl) rfl
theorem q701 : (Jvm.Cond.publicMethod ({ cls := "GateGrammar$Sentence$1", name := "hasNext", desc := "()Z" } : Jvm.MethodName)) ∈ lw_tbl := lw_at lw_m3 146 rfl
theorem q702 : (Jvm.Cond.code ({ cls := "GateGrammar$Sentence$1", name := "hasNext", desc := "()Z" } : Jvm.MethodName) prog_17_method_2_code (1 : Nat) (Option.some Jvm.ClassFile.FieldType.boolean)) ∈ lw_all := lw_g (lw_at lw_m3 147 rfl) rfl
theorem q703 : (Jvm.Cond.methodLink "GateGrammar$Sentence$1" (17 : Nat) ({ cls := "java/util/ArrayDeque", name := "isEmpty", desc := "()Z" } : Jvm.MethodName)) ∈ lw_all := lw_g (lw_at lw_m3 148 rfl) rfl
theorem q741 : (Jvm.Cond.selects "GateGrammar$Sentence$1" ({ cls := "java/util/Iterator", name := "next", desc := "()Ljava/lang/Object;" } : Jvm.MethodName) ({ cls := "GateGrammar$Sentence$1", name := "next", desc := "()Ljava/lang/Object;" } : Jvm.MethodName)) ∈ lw_all := lw_g (lw_at lw_m3 186 rfl) rfl
theorem q742 : (Jvm.Cond.unhidden "GateGrammar$Sentence$1" "next" "()Ljava/lang/Object;") ∈ lw_tbl := lw_at lw_m3 187 rfl
theorem q743 : (Jvm.Cond.instanceMethod ({ cls := "GateGrammar$Sentence$1", name := "next", desc := "()Ljava/lang/Object;" } : Jvm.MethodName)) ∈ lw_all := lw_g (lw_at lw_m3 188 rfl) rfl
theorem q744 : (Jvm.Cond.publicMethod ({ cls := "GateGrammar$Sentence$1", name := "next", desc := "()Ljava/lang/Object;" } : Jvm.MethodName)) ∈ lw_tbl := lw_at lw_m3 189 rfl
theorem q745 : (Jvm.Cond.code ({ cls := "GateGrammar$Sentence$1", name := "next", desc := "()Ljava/lang/Object;" } : Jvm.MethodName) prog_17_method_4_code (1 : Nat) (Option.some (Jvm.ClassFile.FieldType.object "java/lang/Object"))) ∈ lw_all := lw_g (lw_at lw_m3 190 rfl) rfl
theorem q746 : (Jvm.Cond.methodLink "GateGrammar$Sentence$1" (47 : Nat) ({ cls := "GateGrammar$Sentence$1", name := "next", desc := "()LGateGrammar$Clause;" } : Jvm.MethodName)) ∈ lw_all := lw_g (lw_at lw_m3 191 rfl) rfl
theorem q747 : (Jvm.Cond.instanceMethod ({ cls := "GateGrammar$Sentence$1", name := "next", desc := "()LGateGrammar$Clause;" } : Jvm.MethodName)) ∈ lw_all := lw_g (lw_at lw_m3 192 rfl) rfl
theorem q748 : (Jvm.Cond.selects "GateGrammar$Sentence$1" ({ cls := "GateGrammar$Sentence$1", name := "next", desc := "()LGateGrammar$Clause;" } : Jvm.MethodName) ({ cls := "GateGrammar$Sentence$1", name := "next", desc := "()LGateGrammar$Clause;" } : Jvm.MethodName)) ∈ lw_all := lw_g (lw_at lw_m3 193 rfl) rfl
theorem q749 : (Jvm.Cond.code ({ cls := "GateGrammar$Sentence$1", name := "next", desc := "()LGateGrammar$Clause;" } : Jvm.MethodName) prog_17_method_3_code (3 : Nat) (Option.some (Jvm.ClassFile.FieldType.object "GateGrammar$Clause"))) ∈ lw_all := lw_g (lw_at lw_m3 194 rfl) rfl
theorem q750 : (Jvm.Cond.methodLink "GateGrammar$Sentence$1" (23 : Nat) ({ cls := "java/util/ArrayDeque", name := "removeFirst", desc := "()Ljava/lang/Object;" } : Jvm.MethodName)) ∈ lw_all := lw_g (lw_at lw_m3 195 rfl) rfl
theorem q785 : (Jvm.Cond.classLink "GateGrammar$Sentence$1" (27 : Nat) "GateGrammar$Clause") ∈ lw_all := lw_g (lw_at lw_m3 230 rfl) rfl
theorem q786 : (Jvm.Cond.methodLink "GateGrammar$Sentence$1" (33 : Nat) ({ cls := "java/util/ArrayList", name := "size", desc := "()I" } : Jvm.MethodName)) ∈ lw_all := lw_g (lw_at lw_m3 231 rfl) rfl
theorem q787 : (Jvm.Cond.methodLink "GateGrammar$Sentence$1" (39 : Nat) ({ cls := "java/util/ArrayList", name := "get", desc := "(I)Ljava/lang/Object;" } : Jvm.MethodName)) ∈ lw_all := lw_g (lw_at lw_m3 232 rfl) rfl
theorem q801 : (Jvm.Cond.methodLink "GateGrammar$Sentence$1" (43 : Nat) ({ cls := "java/util/ArrayDeque", name := "addFirst", desc := "(Ljava/lang/Object;)V" } : Jvm.MethodName)) ∈ lw_all := lw_g (lw_at lw_m4 6 rfl) rfl
theorem q1123 : (Jvm.Cond.fieldLinkNest "GateGrammar$Sentence$1" (29 : Nat) "GateGrammar$Clause" "nested" "Ljava/util/ArrayList;" "GateGrammar") ∈ lw_tbl := lw_at lw_m5 88 rfl
theorem q1298 : (Jvm.Cond.instantiable "GateGrammar$Sentence$1" (2 : Nat)) ∈ lw_all := lw_g (lw_at lw_m6 23 rfl) rfl
theorem q1300 : (Jvm.Cond.instanceMethod ({ cls := "GateGrammar$Sentence$1", name := "<init>", desc := "(LGateGrammar$Sentence;Ljava/util/ArrayDeque;)V" } : Jvm.MethodName)) ∈ lw_all := lw_g (lw_at lw_m6 25 rfl) rfl
theorem q1301 : (Jvm.Cond.code ({ cls := "GateGrammar$Sentence$1", name := "<init>", desc := "(LGateGrammar$Sentence;Ljava/util/ArrayDeque;)V" } : Jvm.MethodName) prog_17_method_1_code (3 : Nat) (Option.none : Option Jvm.ClassFile.FieldType)) ∈ lw_all := lw_g (lw_at lw_m6 26 rfl) rfl
theorem q1302 : (Jvm.Cond.methodLink "GateGrammar$Sentence$1" (11 : Nat) ({ cls := "java/lang/Object", name := "<init>", desc := "()V" } : Jvm.MethodName)) ∈ lw_all := lw_g (lw_at lw_m6 27 rfl) rfl
theorem q1303 : (Jvm.Cond.fieldLink "GateGrammar$Sentence$1" (7 : Nat) "GateGrammar$Sentence$1" "val$pending" "Ljava/util/ArrayDeque;") ∈ lw_all := lw_g (lw_at lw_m6 28 rfl) rfl
theorem q1304 : (Jvm.Cond.fieldLink "GateGrammar$Sentence$1" (1 : Nat) "GateGrammar$Sentence$1" "this$0" "LGateGrammar$Sentence;") ∈ lw_all := lw_g (lw_at lw_m6 29 rfl) rfl
theorem q1305 : (Jvm.Cond.laysFinal "GateGrammar$Sentence$1" "GateGrammar$Sentence$1" "val$pending" "Ljava/util/ArrayDeque;") ∈ lw_all := lw_g (lw_at lw_m6 30 rfl) rfl
theorem q1306 : (Jvm.Cond.soleField "GateGrammar$Sentence$1" "val$pending") ∈ lw_all := lw_g (lw_at lw_m6 31 rfl) rfl
theorem q1307 : (Jvm.Cond.laysFinal "GateGrammar$Sentence$1" "GateGrammar$Sentence$1" "this$0" "LGateGrammar$Sentence;") ∈ lw_all := lw_g (lw_at lw_m6 32 rfl) rfl
theorem q1308 : (Jvm.Cond.soleField "GateGrammar$Sentence$1" "this$0") ∈ lw_all := lw_g (lw_at lw_m6 33 rfl) rfl
theorem q1309 : (Jvm.Cond.superclass "GateGrammar$Sentence$1" "java/lang/Object") ∈ lw_all := lw_g (lw_at lw_m6 34 rfl) rfl
theorem q3062 : (Jvm.Cond.castable "GateGrammar$Sentence$1" "java/lang/Object") ∈ lw_tbl := lw_at lw_m13 107 rfl
theorem in_X12 : ∀ w ∈ wsX120, w ∈ lw_all := lw_in wsX120 [1305, 1307] (by decide +kernel) (by decide +kernel)

/-! GateGrammar$Report -/
set_option maxRecDepth 100000
def RX13 : String := "GateGrammar$Report"
def TX13 : u_T := fun k => match k with
  | 0 => ("GateGrammar$Report", "count", "I", false)
  | _ => ("GateGrammar$Report", "first", "I", false)
def tyX13 : Nat → FieldType := fun k => match k with
  | 0 => .int
  | _ => .int
abbrev wsX130 : List Cond := u_ws RX13 TX13 2
theorem nmX13 : ∀ a, a < 2 → ∀ b, b < 2 → a ≠ b → (TX13 a).2.1 ≠ (TX13 b).2.1 := by decide +kernel
theorem tyX13_ok : ∀ k, k < 2 → parseFieldDescriptor (TX13 k).2.2.1 = some (tyX13 k) := by decide +kernel
abbrev cX13_add : ByteArray := prog_13_method_2_code
def yX13_add : MethodName := ⟨RX13, "add", "(IZ)V"⟩
def dkwX13_add_1 : List UInt8 := [167, 0, 11, 42, 180, 0, 7, 27, 184, 0, 16, 181, 0, 7, 177]
abbrev dktX13_add_1 : List UInt8 := dkwX13_add_1 ++ []
def dkwX13_add_0 : List UInt8 := [28, 153, 0, 36, 42, 89, 180, 0, 13, 4, 96, 181, 0, 13, 42, 42, 180, 0, 7, 156, 0, 7, 27]
abbrev dktX13_add_0 : List UInt8 := dkwX13_add_0 ++ dktX13_add_1
theorem dksX13_add_0 : cX13_add.data.toList.drop 0 = dktX13_add_0 := by decide +kernel
theorem dksX13_add_1 : cX13_add.data.toList.drop 23 = dktX13_add_1 := dk_seg dksX13_add_0 23 rfl rfl
theorem dX13_add_0 : decode cX13_add 0 = .ok (.iload_n 2, 1) := dk_28 (dk_at dksX13_add_0 0 rfl rfl)
theorem dX13_add_1 : decode cX13_add 1 = .ok (.ifCond .eq 36, 3) := dk_153 0 36 (dk_at dksX13_add_0 1 rfl rfl)
theorem dX13_add_4 : decode cX13_add 4 = .ok (.aload_n 0, 1) := dk_42 (dk_at dksX13_add_0 4 rfl rfl)
theorem dX13_add_5 : decode cX13_add 5 = .ok (.dup, 1) := dk_89 (dk_at dksX13_add_0 5 rfl rfl)
theorem dX13_add_6 : decode cX13_add 6 = .ok (.getfield 13, 3) := dk_180 0 13 (dk_at dksX13_add_0 6 rfl rfl)
theorem dX13_add_9 : decode cX13_add 9 = .ok (.iconst 1, 1) := dk_4 (dk_at dksX13_add_0 9 rfl rfl)
theorem dX13_add_10 : decode cX13_add 10 = .ok (.iadd, 1) := dk_96 (dk_at dksX13_add_0 10 rfl rfl)
theorem dX13_add_11 : decode cX13_add 11 = .ok (.putfield 13, 3) := dk_181 0 13 (dk_at dksX13_add_0 11 rfl rfl)
theorem dX13_add_14 : decode cX13_add 14 = .ok (.aload_n 0, 1) := dk_42 (dk_at dksX13_add_0 14 rfl rfl)
theorem dX13_add_15 : decode cX13_add 15 = .ok (.aload_n 0, 1) := dk_42 (dk_at dksX13_add_0 15 rfl rfl)
theorem dX13_add_16 : decode cX13_add 16 = .ok (.getfield 7, 3) := dk_180 0 7 (dk_at dksX13_add_0 16 rfl rfl)
theorem dX13_add_19 : decode cX13_add 19 = .ok (.ifCond .ge 7, 3) := dk_156 0 7 (dk_at dksX13_add_0 19 rfl rfl)
theorem dX13_add_22 : decode cX13_add 22 = .ok (.iload_n 1, 1) := dk_27 (dk_at dksX13_add_0 22 rfl rfl)
theorem dX13_add_23 : decode cX13_add 23 = .ok (.goto 11, 3) := dk_167 0 11 (dk_at dksX13_add_1 0 rfl rfl)
theorem dX13_add_26 : decode cX13_add 26 = .ok (.aload_n 0, 1) := dk_42 (dk_at dksX13_add_1 3 rfl rfl)
theorem dX13_add_27 : decode cX13_add 27 = .ok (.getfield 7, 3) := dk_180 0 7 (dk_at dksX13_add_1 4 rfl rfl)
theorem dX13_add_30 : decode cX13_add 30 = .ok (.iload_n 1, 1) := dk_27 (dk_at dksX13_add_1 7 rfl rfl)
theorem dX13_add_31 : decode cX13_add 31 = .ok (.invokestatic 16, 3) := dk_184 0 16 (dk_at dksX13_add_1 8 rfl rfl)
theorem dX13_add_34 : decode cX13_add 34 = .ok (.putfield 7, 3) := dk_181 0 7 (dk_at dksX13_add_1 11 rfl rfl)
theorem dX13_add_37 : decode cX13_add 37 = .ok (.return_, 1) := dk_177 (dk_at dksX13_add_1 14 rfl rfl)
abbrev cX13_init : ByteArray := prog_13_method_1_code
def yX13_init : MethodName := ⟨RX13, "<init>", "()V"⟩
def dkwX13_init_0 : List UInt8 := [42, 183, 0, 1, 42, 2, 181, 0, 7, 177]
abbrev dktX13_init_0 : List UInt8 := dkwX13_init_0 ++ []
theorem dksX13_init_0 : cX13_init.data.toList.drop 0 = dktX13_init_0 := by decide +kernel
theorem dX13_init_0 : decode cX13_init 0 = .ok (.aload_n 0, 1) := dk_42 (dk_at dksX13_init_0 0 rfl rfl)
theorem dX13_init_1 : decode cX13_init 1 = .ok (.invokespecial 1, 3) := dk_183 0 1 (dk_at dksX13_init_0 1 rfl rfl)
theorem dX13_init_4 : decode cX13_init 4 = .ok (.aload_n 0, 1) := dk_42 (dk_at dksX13_init_0 4 rfl rfl)
theorem dX13_init_5 : decode cX13_init 5 = .ok (.iconst (-1), 1) := dk_2 (dk_at dksX13_init_0 5 rfl rfl)
theorem dX13_init_6 : decode cX13_init 6 = .ok (.putfield 7, 3) := dk_181 0 7 (dk_at dksX13_init_0 6 rfl rfl)
theorem dX13_init_9 : decode cX13_init 9 = .ok (.return_, 1) := dk_177 (dk_at dksX13_init_0 9 rfl rfl)
theorem q120 : (Jvm.Cond.initialized "GateGrammar$Report") ∈ lw_all := lw_g (lw_at lw_m1 45 rfl) rfl
theorem q598 : (Jvm.Cond.selects "GateGrammar$Report" ({ cls := "java/lang/Object", name := "getClass", desc := "()Ljava/lang/Class;" } : Jvm.MethodName) ({ cls := "java/lang/Object", name := "getClass", desc := "()Ljava/lang/Class;" } : Jvm.MethodName)) ∈ lw_all := lw_g (lw_at lw_m3 43 rfl) rfl
theorem q1000 : (Jvm.Cond.instanceMethod ({ cls := "GateGrammar$Report", name := "add", desc := "(IZ)V" } : Jvm.MethodName)) ∈ lw_all := lw_g (lw_at lw_m4 205 rfl) rfl
theorem q1001 : (Jvm.Cond.selects "GateGrammar$Report" ({ cls := "GateGrammar$Report", name := "add", desc := "(IZ)V" } : Jvm.MethodName) ({ cls := "GateGrammar$Report", name := "add", desc := "(IZ)V" } : Jvm.MethodName)) ∈ lw_all := lw_g (lw_at lw_m4 206 rfl) rfl
theorem q1002 : (Jvm.Cond.code ({ cls := "GateGrammar$Report", name := "add", desc := "(IZ)V" } : Jvm.MethodName) prog_13_method_2_code (3 : Nat) (Option.none : Option Jvm.ClassFile.FieldType)) ∈ lw_all := lw_g (lw_at lw_m4 207 rfl) rfl
theorem q1003 : (Jvm.Cond.methodLink "GateGrammar$Report" (16 : Nat) ({ cls := "java/lang/Math", name := "min", desc := "(II)I" } : Jvm.MethodName)) ∈ lw_all := lw_g (lw_at lw_m4 208 rfl) rfl
theorem q1273 : (Jvm.Cond.instantiable "GateGrammar$Report" (2 : Nat)) ∈ lw_all := lw_g (lw_at lw_m5 238 rfl) rfl
theorem q1275 : (Jvm.Cond.instanceMethod ({ cls := "GateGrammar$Report", name := "<init>", desc := "()V" } : Jvm.MethodName)) ∈ lw_all := lw_g (lw_at lw_m6 0 rfl) rfl
theorem q1276 : (Jvm.Cond.code ({ cls := "GateGrammar$Report", name := "<init>", desc := "()V" } : Jvm.MethodName) prog_13_method_1_code (1 : Nat) (Option.none : Option Jvm.ClassFile.FieldType)) ∈ lw_all := lw_g (lw_at lw_m6 1 rfl) rfl
theorem q1277 : (Jvm.Cond.methodLink "GateGrammar$Report" (1 : Nat) ({ cls := "java/lang/Object", name := "<init>", desc := "()V" } : Jvm.MethodName)) ∈ lw_all := lw_g (lw_at lw_m6 2 rfl) rfl
theorem q1278 : (Jvm.Cond.fieldLink "GateGrammar$Report" (13 : Nat) "GateGrammar$Report" "count" "I") ∈ lw_all := lw_g (lw_at lw_m6 3 rfl) rfl
theorem q1281 : (Jvm.Cond.fieldLink "GateGrammar$Report" (7 : Nat) "GateGrammar$Report" "first" "I") ∈ lw_all := lw_g (lw_at lw_m6 6 rfl) rfl
theorem q1283 : (Jvm.Cond.lays "GateGrammar$Report" "GateGrammar$Report" "count" "I") ∈ lw_all := lw_g (lw_at lw_m6 8 rfl) rfl
theorem q1284 : (Jvm.Cond.soleField "GateGrammar$Report" "count") ∈ lw_all := lw_g (lw_at lw_m6 9 rfl) rfl
theorem q1285 : (Jvm.Cond.lays "GateGrammar$Report" "GateGrammar$Report" "first" "I") ∈ lw_all := lw_g (lw_at lw_m6 10 rfl) rfl
theorem q1286 : (Jvm.Cond.soleField "GateGrammar$Report" "first") ∈ lw_all := lw_g (lw_at lw_m6 11 rfl) rfl
theorem q1287 : (Jvm.Cond.superclass "GateGrammar$Report" "java/lang/Object") ∈ lw_all := lw_g (lw_at lw_m6 12 rfl) rfl
theorem q3063 : (Jvm.Cond.castable "GateGrammar$Report" "java/lang/Object") ∈ lw_tbl := lw_at lw_m13 108 rfl
theorem in_X13 : ∀ w ∈ wsX130, w ∈ lw_all := lw_in wsX130 [1283, 1285] (by decide +kernel) (by decide +kernel)

/-! GateGrammar$Level -/
set_option maxRecDepth 100000
def RX14 : String := "GateGrammar$Level"
def TX14 : u_T := fun k => match k with
  | 0 => ("GateGrammar$Level", "bound", "I", true)
  | _ => ("GateGrammar$Level", "first", "I", false)
def tyX14 : Nat → FieldType := fun k => match k with
  | 0 => .int
  | _ => .int
abbrev wsX140 : List Cond := u_ws RX14 TX14 2
theorem nmX14 : ∀ a, a < 2 → ∀ b, b < 2 → a ≠ b → (TX14 a).2.1 ≠ (TX14 b).2.1 := by decide +kernel
theorem tyX14_ok : ∀ k, k < 2 → parseFieldDescriptor (TX14 k).2.2.1 = some (tyX14 k) := by decide +kernel
abbrev cX14_init : ByteArray := prog_9_method_1_code
def yX14_init : MethodName := ⟨RX14, "<init>", "(I)V"⟩
def dkwX14_init_0 : List UInt8 := [42, 183, 0, 1, 42, 2, 181, 0, 7, 42, 27, 181, 0, 13, 177]
abbrev dktX14_init_0 : List UInt8 := dkwX14_init_0 ++ []
theorem dksX14_init_0 : cX14_init.data.toList.drop 0 = dktX14_init_0 := by decide +kernel
theorem dX14_init_0 : decode cX14_init 0 = .ok (.aload_n 0, 1) := dk_42 (dk_at dksX14_init_0 0 rfl rfl)
theorem dX14_init_1 : decode cX14_init 1 = .ok (.invokespecial 1, 3) := dk_183 0 1 (dk_at dksX14_init_0 1 rfl rfl)
theorem dX14_init_4 : decode cX14_init 4 = .ok (.aload_n 0, 1) := dk_42 (dk_at dksX14_init_0 4 rfl rfl)
theorem dX14_init_5 : decode cX14_init 5 = .ok (.iconst (-1), 1) := dk_2 (dk_at dksX14_init_0 5 rfl rfl)
theorem dX14_init_6 : decode cX14_init 6 = .ok (.putfield 7, 3) := dk_181 0 7 (dk_at dksX14_init_0 6 rfl rfl)
theorem dX14_init_9 : decode cX14_init 9 = .ok (.aload_n 0, 1) := dk_42 (dk_at dksX14_init_0 9 rfl rfl)
theorem dX14_init_10 : decode cX14_init 10 = .ok (.iload_n 1, 1) := dk_27 (dk_at dksX14_init_0 10 rfl rfl)
theorem dX14_init_11 : decode cX14_init 11 = .ok (.putfield 13, 3) := dk_181 0 13 (dk_at dksX14_init_0 11 rfl rfl)
theorem dX14_init_14 : decode cX14_init 14 = .ok (.return_, 1) := dk_177 (dk_at dksX14_init_0 14 rfl rfl)
abbrev cX14_disagreements : ByteArray := prog_9_method_2_code
def yX14_disagreements : MethodName := ⟨RX14, "disagreements", "(I)I"⟩
def dkwX14_disagreements_2 : List UInt8 := [167, 0, 7, 42, 180, 0, 7, 181, 0, 7, 28, 172]
abbrev dktX14_disagreements_2 : List UInt8 := dkwX14_disagreements_2 ++ []
def dkwX14_disagreements_1 : List UInt8 := [180, 0, 13, 164, 0, 7, 4, 167, 0, 4, 3, 96, 61, 42, 42, 180, 0, 7, 156, 0, 7, 27]
abbrev dktX14_disagreements_1 : List UInt8 := dkwX14_disagreements_1 ++ dktX14_disagreements_2
def dkwX14_disagreements_0 : List UInt8 := [42, 180, 0, 7, 155, 0, 15, 27, 42, 180, 0, 7, 159, 0, 7, 4, 167, 0, 4, 3, 27, 42]
abbrev dktX14_disagreements_0 : List UInt8 := dkwX14_disagreements_0 ++ dktX14_disagreements_1
theorem dksX14_disagreements_0 : cX14_disagreements.data.toList.drop 0 = dktX14_disagreements_0 := by decide +kernel
theorem dksX14_disagreements_1 : cX14_disagreements.data.toList.drop 22 = dktX14_disagreements_1 := dk_seg dksX14_disagreements_0 22 rfl rfl
theorem dksX14_disagreements_2 : cX14_disagreements.data.toList.drop 44 = dktX14_disagreements_2 := dk_seg dksX14_disagreements_1 22 rfl rfl
theorem dX14_disagreements_0 : decode cX14_disagreements 0 = .ok (.aload_n 0, 1) := dk_42 (dk_at dksX14_disagreements_0 0 rfl rfl)
theorem dX14_disagreements_1 : decode cX14_disagreements 1 = .ok (.getfield 7, 3) := dk_180 0 7 (dk_at dksX14_disagreements_0 1 rfl rfl)
theorem dX14_disagreements_4 : decode cX14_disagreements 4 = .ok (.ifCond .lt 15, 3) := dk_155 0 15 (dk_at dksX14_disagreements_0 4 rfl rfl)
theorem dX14_disagreements_7 : decode cX14_disagreements 7 = .ok (.iload_n 1, 1) := dk_27 (dk_at dksX14_disagreements_0 7 rfl rfl)
theorem dX14_disagreements_8 : decode cX14_disagreements 8 = .ok (.aload_n 0, 1) := dk_42 (dk_at dksX14_disagreements_0 8 rfl rfl)
theorem dX14_disagreements_9 : decode cX14_disagreements 9 = .ok (.getfield 7, 3) := dk_180 0 7 (dk_at dksX14_disagreements_0 9 rfl rfl)
theorem dX14_disagreements_12 : decode cX14_disagreements 12 = .ok (.if_icmp .eq 7, 3) := dk_159 0 7 (dk_at dksX14_disagreements_0 12 rfl rfl)
theorem dX14_disagreements_15 : decode cX14_disagreements 15 = .ok (.iconst 1, 1) := dk_4 (dk_at dksX14_disagreements_0 15 rfl rfl)
theorem dX14_disagreements_16 : decode cX14_disagreements 16 = .ok (.goto 4, 3) := dk_167 0 4 (dk_at dksX14_disagreements_0 16 rfl rfl)
theorem dX14_disagreements_19 : decode cX14_disagreements 19 = .ok (.iconst 0, 1) := dk_3 (dk_at dksX14_disagreements_0 19 rfl rfl)
theorem dX14_disagreements_20 : decode cX14_disagreements 20 = .ok (.iload_n 1, 1) := dk_27 (dk_at dksX14_disagreements_0 20 rfl rfl)
theorem dX14_disagreements_21 : decode cX14_disagreements 21 = .ok (.aload_n 0, 1) := dk_42 (dk_at dksX14_disagreements_0 21 rfl rfl)
theorem dX14_disagreements_22 : decode cX14_disagreements 22 = .ok (.getfield 13, 3) := dk_180 0 13 (dk_at dksX14_disagreements_1 0 rfl rfl)
theorem dX14_disagreements_25 : decode cX14_disagreements 25 = .ok (.if_icmp .le 7, 3) := dk_164 0 7 (dk_at dksX14_disagreements_1 3 rfl rfl)
theorem dX14_disagreements_28 : decode cX14_disagreements 28 = .ok (.iconst 1, 1) := dk_4 (dk_at dksX14_disagreements_1 6 rfl rfl)
theorem dX14_disagreements_29 : decode cX14_disagreements 29 = .ok (.goto 4, 3) := dk_167 0 4 (dk_at dksX14_disagreements_1 7 rfl rfl)
theorem dX14_disagreements_32 : decode cX14_disagreements 32 = .ok (.iconst 0, 1) := dk_3 (dk_at dksX14_disagreements_1 10 rfl rfl)
theorem dX14_disagreements_33 : decode cX14_disagreements 33 = .ok (.iadd, 1) := dk_96 (dk_at dksX14_disagreements_1 11 rfl rfl)
theorem dX14_disagreements_34 : decode cX14_disagreements 34 = .ok (.istore_n 2, 1) := dk_61 (dk_at dksX14_disagreements_1 12 rfl rfl)
theorem dX14_disagreements_35 : decode cX14_disagreements 35 = .ok (.aload_n 0, 1) := dk_42 (dk_at dksX14_disagreements_1 13 rfl rfl)
theorem dX14_disagreements_36 : decode cX14_disagreements 36 = .ok (.aload_n 0, 1) := dk_42 (dk_at dksX14_disagreements_1 14 rfl rfl)
theorem dX14_disagreements_37 : decode cX14_disagreements 37 = .ok (.getfield 7, 3) := dk_180 0 7 (dk_at dksX14_disagreements_1 15 rfl rfl)
theorem dX14_disagreements_40 : decode cX14_disagreements 40 = .ok (.ifCond .ge 7, 3) := dk_156 0 7 (dk_at dksX14_disagreements_1 18 rfl rfl)
theorem dX14_disagreements_43 : decode cX14_disagreements 43 = .ok (.iload_n 1, 1) := dk_27 (dk_at dksX14_disagreements_1 21 rfl rfl)
theorem dX14_disagreements_44 : decode cX14_disagreements 44 = .ok (.goto 7, 3) := dk_167 0 7 (dk_at dksX14_disagreements_2 0 rfl rfl)
theorem dX14_disagreements_47 : decode cX14_disagreements 47 = .ok (.aload_n 0, 1) := dk_42 (dk_at dksX14_disagreements_2 3 rfl rfl)
theorem dX14_disagreements_48 : decode cX14_disagreements 48 = .ok (.getfield 7, 3) := dk_180 0 7 (dk_at dksX14_disagreements_2 4 rfl rfl)
theorem dX14_disagreements_51 : decode cX14_disagreements 51 = .ok (.putfield 7, 3) := dk_181 0 7 (dk_at dksX14_disagreements_2 7 rfl rfl)
theorem dX14_disagreements_54 : decode cX14_disagreements 54 = .ok (.iload_n 2, 1) := dk_28 (dk_at dksX14_disagreements_2 10 rfl rfl)
theorem dX14_disagreements_55 : decode cX14_disagreements 55 = .ok (.ireturn, 1) := dk_172 (dk_at dksX14_disagreements_2 11 rfl rfl)
theorem q121 : (Jvm.Cond.initialized "GateGrammar$Level") ∈ lw_all := lw_g (lw_at lw_m1 46 rfl) rfl
theorem q595 : (Jvm.Cond.selects "GateGrammar$Level" ({ cls := "java/lang/Object", name := "getClass", desc := "()Ljava/lang/Class;" } : Jvm.MethodName) ({ cls := "java/lang/Object", name := "getClass", desc := "()Ljava/lang/Class;" } : Jvm.MethodName)) ∈ lw_all := lw_g (lw_at lw_m3 40 rfl) rfl
theorem q1504 : (Jvm.Cond.instantiable "GateGrammar$Level" (2 : Nat)) ∈ lw_all := lw_g (lw_at lw_m6 229 rfl) rfl
theorem q1506 : (Jvm.Cond.instanceMethod ({ cls := "GateGrammar$Level", name := "<init>", desc := "(I)V" } : Jvm.MethodName)) ∈ lw_all := lw_g (lw_at lw_m6 231 rfl) rfl
theorem q1507 : (Jvm.Cond.code ({ cls := "GateGrammar$Level", name := "<init>", desc := "(I)V" } : Jvm.MethodName) prog_9_method_1_code (2 : Nat) (Option.none : Option Jvm.ClassFile.FieldType)) ∈ lw_all := lw_g (lw_at lw_m6 232 rfl) rfl
theorem q1508 : (Jvm.Cond.methodLink "GateGrammar$Level" (1 : Nat) ({ cls := "java/lang/Object", name := "<init>", desc := "()V" } : Jvm.MethodName)) ∈ lw_all := lw_g (lw_at lw_m6 233 rfl) rfl
theorem q1509 : (Jvm.Cond.fieldLink "GateGrammar$Level" (13 : Nat) "GateGrammar$Level" "bound" "I") ∈ lw_all := lw_g (lw_at lw_m6 234 rfl) rfl
theorem q1510 : (Jvm.Cond.fieldLink "GateGrammar$Level" (7 : Nat) "GateGrammar$Level" "first" "I") ∈ lw_all := lw_g (lw_at lw_m6 235 rfl) rfl
theorem q1511 : (Jvm.Cond.laysFinal "GateGrammar$Level" "GateGrammar$Level" "bound" "I") ∈ lw_all := lw_g (lw_at lw_m6 236 rfl) rfl
theorem q1512 : (Jvm.Cond.soleField "GateGrammar$Level" "bound") ∈ lw_all := lw_g (lw_at lw_m6 237 rfl) rfl
theorem q1513 : (Jvm.Cond.lays "GateGrammar$Level" "GateGrammar$Level" "first" "I") ∈ lw_all := lw_g (lw_at lw_m6 238 rfl) rfl
theorem q1514 : (Jvm.Cond.soleField "GateGrammar$Level" "first") ∈ lw_all := lw_g (lw_at lw_m6 239 rfl) rfl
theorem q1515 : (Jvm.Cond.superclass "GateGrammar$Level" "java/lang/Object") ∈ lw_all := lw_g (lw_at lw_m7 0 rfl) rfl
theorem q1525 : (Jvm.Cond.instanceMethod ({ cls := "GateGrammar$Level", name := "disagreements", desc := "(I)I" } : Jvm.MethodName)) ∈ lw_all := lw_g (lw_at lw_m7 10 rfl) rfl
theorem q1526 : (Jvm.Cond.selects "GateGrammar$Level" ({ cls := "GateGrammar$Level", name := "disagreements", desc := "(I)I" } : Jvm.MethodName) ({ cls := "GateGrammar$Level", name := "disagreements", desc := "(I)I" } : Jvm.MethodName)) ∈ lw_all := lw_g (lw_at lw_m7 11 rfl) rfl
theorem q1527 : (Jvm.Cond.code ({ cls := "GateGrammar$Level", name := "disagreements", desc := "(I)I" } : Jvm.MethodName) prog_9_method_2_code (3 : Nat) (Option.some Jvm.ClassFile.FieldType.int)) ∈ lw_all := lw_g (lw_at lw_m7 12 rfl) rfl
theorem q3064 : (Jvm.Cond.castable "GateGrammar$Level" "java/lang/Object") ∈ lw_tbl := lw_at lw_m13 109 rfl
theorem in_X14 : ∀ w ∈ wsX140, w ∈ lw_all := lw_in wsX140 [1511, 1513] (by decide +kernel) (by decide +kernel)

/-! GateGrammar$1MoreDisagreements -/
set_option maxRecDepth 100000
def RX15 : String := "GateGrammar$1MoreDisagreements"
def TX15 : u_T := fun k => match k with
  | _ => ("GateGrammar$1MoreDisagreements", "this$0", "LGateGrammar;", true)
def tyX15 : Nat → FieldType := fun k => match k with
  | _ => .object "GateGrammar"
abbrev wsX150 : List Cond := u_ws RX15 TX15 1
theorem nmX15 : ∀ a, a < 1 → ∀ b, b < 1 → a ≠ b → (TX15 a).2.1 ≠ (TX15 b).2.1 := by decide +kernel
theorem tyX15_ok : ∀ k, k < 1 → parseFieldDescriptor (TX15 k).2.2.1 = some (tyX15 k) := by decide +kernel
abbrev cX15_init : ByteArray := prog_3_method_1_code
def yX15_init : MethodName := ⟨RX15, "<init>", "(LGateGrammar;)V"⟩
def dkwX15_init_0 : List UInt8 := [42, 43, 181, 0, 1, 42, 183, 0, 7, 177]
abbrev dktX15_init_0 : List UInt8 := dkwX15_init_0 ++ []
theorem dksX15_init_0 : cX15_init.data.toList.drop 0 = dktX15_init_0 := by decide +kernel
theorem dX15_init_0 : decode cX15_init 0 = .ok (.aload_n 0, 1) := dk_42 (dk_at dksX15_init_0 0 rfl rfl)
theorem dX15_init_1 : decode cX15_init 1 = .ok (.aload_n 1, 1) := dk_43 (dk_at dksX15_init_0 1 rfl rfl)
theorem dX15_init_2 : decode cX15_init 2 = .ok (.putfield 1, 3) := dk_181 0 1 (dk_at dksX15_init_0 2 rfl rfl)
theorem dX15_init_5 : decode cX15_init 5 = .ok (.aload_n 0, 1) := dk_42 (dk_at dksX15_init_0 5 rfl rfl)
theorem dX15_init_6 : decode cX15_init 6 = .ok (.invokespecial 7, 3) := dk_183 0 7 (dk_at dksX15_init_0 6 rfl rfl)
theorem dX15_init_9 : decode cX15_init 9 = .ok (.return_, 1) := dk_177 (dk_at dksX15_init_0 9 rfl rfl)
abbrev cX15_compare : ByteArray := prog_3_method_3_code
def yX15_compare : MethodName := ⟨RX15, "compare", "(Ljava/lang/Object;Ljava/lang/Object;)I"⟩
def dkwX15_compare_0 : List UInt8 := [42, 43, 192, 0, 29, 44, 192, 0, 29, 182, 0, 31, 172]
abbrev dktX15_compare_0 : List UInt8 := dkwX15_compare_0 ++ []
theorem dksX15_compare_0 : cX15_compare.data.toList.drop 0 = dktX15_compare_0 := by decide +kernel
theorem dX15_compare_0 : decode cX15_compare 0 = .ok (.aload_n 0, 1) := dk_42 (dk_at dksX15_compare_0 0 rfl rfl)
theorem dX15_compare_1 : decode cX15_compare 1 = .ok (.aload_n 1, 1) := dk_43 (dk_at dksX15_compare_0 1 rfl rfl)
theorem dX15_compare_2 : decode cX15_compare 2 = .ok (.checkcast 29, 3) := dk_192 0 29 (dk_at dksX15_compare_0 2 rfl rfl)
theorem dX15_compare_5 : decode cX15_compare 5 = .ok (.aload_n 2, 1) := dk_44 (dk_at dksX15_compare_0 5 rfl rfl)
theorem dX15_compare_6 : decode cX15_compare 6 = .ok (.checkcast 29, 3) := dk_192 0 29 (dk_at dksX15_compare_0 6 rfl rfl)
theorem dX15_compare_9 : decode cX15_compare 9 = .ok (.invokevirtual 31, 3) := dk_182 0 31 (dk_at dksX15_compare_0 9 rfl rfl)
theorem dX15_compare_12 : decode cX15_compare 12 = .ok (.ireturn, 1) := dk_172 (dk_at dksX15_compare_0 12 rfl rfl)
abbrev cX15_compare_2 : ByteArray := prog_3_method_2_code
def yX15_compare_2 : MethodName := ⟨RX15, "compare", "(LGateGrammar$Gate;LGateGrammar$Gate;)I"⟩
def dkwX15_compare_2_1 : List UInt8 := [182, 0, 19, 180, 0, 23, 100, 172]
abbrev dktX15_compare_2_1 : List UInt8 := dkwX15_compare_2_1 ++ []
def dkwX15_compare_2_0 : List UInt8 := [42, 180, 0, 1, 43, 184, 0, 13, 182, 0, 19, 180, 0, 23, 42, 180, 0, 1, 44, 184, 0, 13]
abbrev dktX15_compare_2_0 : List UInt8 := dkwX15_compare_2_0 ++ dktX15_compare_2_1
theorem dksX15_compare_2_0 : cX15_compare_2.data.toList.drop 0 = dktX15_compare_2_0 := by decide +kernel
theorem dksX15_compare_2_1 : cX15_compare_2.data.toList.drop 22 = dktX15_compare_2_1 := dk_seg dksX15_compare_2_0 22 rfl rfl
theorem dX15_compare_2_0 : decode cX15_compare_2 0 = .ok (.aload_n 0, 1) := dk_42 (dk_at dksX15_compare_2_0 0 rfl rfl)
theorem dX15_compare_2_1 : decode cX15_compare_2 1 = .ok (.getfield 1, 3) := dk_180 0 1 (dk_at dksX15_compare_2_0 1 rfl rfl)
theorem dX15_compare_2_4 : decode cX15_compare_2 4 = .ok (.aload_n 1, 1) := dk_43 (dk_at dksX15_compare_2_0 4 rfl rfl)
theorem dX15_compare_2_5 : decode cX15_compare_2 5 = .ok (.invokestatic 13, 3) := dk_184 0 13 (dk_at dksX15_compare_2_0 5 rfl rfl)
theorem dX15_compare_2_8 : decode cX15_compare_2 8 = .ok (.invokevirtual 19, 3) := dk_182 0 19 (dk_at dksX15_compare_2_0 8 rfl rfl)
theorem dX15_compare_2_11 : decode cX15_compare_2 11 = .ok (.getfield 23, 3) := dk_180 0 23 (dk_at dksX15_compare_2_0 11 rfl rfl)
theorem dX15_compare_2_14 : decode cX15_compare_2 14 = .ok (.aload_n 0, 1) := dk_42 (dk_at dksX15_compare_2_0 14 rfl rfl)
theorem dX15_compare_2_15 : decode cX15_compare_2 15 = .ok (.getfield 1, 3) := dk_180 0 1 (dk_at dksX15_compare_2_0 15 rfl rfl)
theorem dX15_compare_2_18 : decode cX15_compare_2 18 = .ok (.aload_n 2, 1) := dk_44 (dk_at dksX15_compare_2_0 18 rfl rfl)
theorem dX15_compare_2_19 : decode cX15_compare_2 19 = .ok (.invokestatic 13, 3) := dk_184 0 13 (dk_at dksX15_compare_2_0 19 rfl rfl)
theorem dX15_compare_2_22 : decode cX15_compare_2 22 = .ok (.invokevirtual 19, 3) := dk_182 0 19 (dk_at dksX15_compare_2_1 0 rfl rfl)
theorem dX15_compare_2_25 : decode cX15_compare_2 25 = .ok (.getfield 23, 3) := dk_180 0 23 (dk_at dksX15_compare_2_1 3 rfl rfl)
theorem dX15_compare_2_28 : decode cX15_compare_2 28 = .ok (.isub, 1) := dk_100 (dk_at dksX15_compare_2_1 6 rfl rfl)
theorem dX15_compare_2_29 : decode cX15_compare_2 29 = .ok (.ireturn, 1) := dk_172 (dk_at dksX15_compare_2_1 7 rfl rfl)
theorem q122 : (Jvm.Cond.initialized "GateGrammar$1MoreDisagreements") ∈ lw_all := lw_g (lw_at lw_m1 47 rfl) rfl
theorem q590 : (Jvm.Cond.selects "GateGrammar$1MoreDisagreements" ({ cls := "java/lang/Object", name := "getClass", desc := "()Ljava/lang/Class;" } : Jvm.MethodName) ({ cls := "java/lang/Object", name := "getClass", desc := "()Ljava/lang/Class;" } : Jvm.MethodName)) ∈ lw_all := lw_g (lw_at lw_m3 35 rfl) rfl
theorem q1279 : (Jvm.Cond.fieldLinkNest "GateGrammar$1MoreDisagreements" (23 : Nat) "GateGrammar$Report" "count" "I" "GateGrammar") ∈ lw_tbl := lw_at lw_m6 4 rfl
theorem q1992 : (Jvm.Cond.instantiable "GateGrammar$1MoreDisagreements" (1 : Nat)) ∈ lw_all := lw_g (lw_at lw_m8 237 rfl) rfl
theorem q1994 : (Jvm.Cond.instanceMethod ({ cls := "GateGrammar$1MoreDisagreements", name := "<init>", desc := "(LGateGrammar;)V" } : Jvm.MethodName)) ∈ lw_all := lw_g (lw_at lw_m8 239 rfl) rfl
theorem q1995 : (Jvm.Cond.code ({ cls := "GateGrammar$1MoreDisagreements", name := "<init>", desc := "(LGateGrammar;)V" } : Jvm.MethodName) prog_3_method_1_code (2 : Nat) (Option.none : Option Jvm.ClassFile.FieldType)) ∈ lw_all := lw_g (lw_at lw_m9 0 rfl) rfl
theorem q1996 : (Jvm.Cond.methodLink "GateGrammar$1MoreDisagreements" (7 : Nat) ({ cls := "java/lang/Object", name := "<init>", desc := "()V" } : Jvm.MethodName)) ∈ lw_all := lw_g (lw_at lw_m9 1 rfl) rfl
theorem q1997 : (Jvm.Cond.fieldLink "GateGrammar$1MoreDisagreements" (1 : Nat) "GateGrammar$1MoreDisagreements" "this$0" "LGateGrammar;") ∈ lw_all := lw_g (lw_at lw_m9 2 rfl) rfl
theorem q1998 : (Jvm.Cond.laysFinal "GateGrammar$1MoreDisagreements" "GateGrammar$1MoreDisagreements" "this$0" "LGateGrammar;") ∈ lw_all := lw_g (lw_at lw_m9 3 rfl) rfl
theorem q1999 : (Jvm.Cond.soleField "GateGrammar$1MoreDisagreements" "this$0") ∈ lw_all := lw_g (lw_at lw_m9 4 rfl) rfl
theorem q2000 : (Jvm.Cond.superclass "GateGrammar$1MoreDisagreements" "java/lang/Object") ∈ lw_all := lw_g (lw_at lw_m9 5 rfl) rfl
theorem q2024 : (Jvm.Cond.castable "GateGrammar$1MoreDisagreements" "GateGrammar$Preference") ∈ lw_tbl := lw_at lw_m9 29 rfl
theorem q2025 : (Jvm.Cond.selects "GateGrammar$1MoreDisagreements" ({ cls := "GateGrammar$Preference", name := "compare", desc := "(Ljava/lang/Object;Ljava/lang/Object;)I" } : Jvm.MethodName) ({ cls := "GateGrammar$1MoreDisagreements", name := "compare", desc := "(Ljava/lang/Object;Ljava/lang/Object;)I" } : Jvm.MethodName)) ∈ lw_all := lw_g (lw_at lw_m9 30 rfl) rfl
theorem q2026 : (Jvm.Cond.unhidden "GateGrammar$1MoreDisagreements" "compare" "(Ljava/lang/Object;Ljava/lang/Object;)I") ∈ lw_tbl := lw_at lw_m9 31 rfl
theorem q2027 : (Jvm.Cond.instanceMethod ({ cls := "GateGrammar$1MoreDisagreements", name := "compare", desc := "(Ljava/lang/Object;Ljava/lang/Object;)I" } : Jvm.MethodName)) ∈ lw_all := lw_g (lw_at lw_m9 32 rfl) rfl
theorem q2028 : (Jvm.Cond.publicMethod ({ cls := "GateGrammar$1MoreDisagreements", name := "compare", desc := "(Ljava/lang/Object;Ljava/lang/Object;)I" } : Jvm.MethodName)) ∈ lw_tbl := lw_at lw_m9 33 rfl
theorem q2029 : (Jvm.Cond.code ({ cls := "GateGrammar$1MoreDisagreements", name := "compare", desc := "(Ljava/lang/Object;Ljava/lang/Object;)I" } : Jvm.MethodName) prog_3_method_3_code (3 : Nat) (Option.some Jvm.ClassFile.FieldType.int)) ∈ lw_all := lw_g (lw_at lw_m9 34 rfl) rfl
theorem q2030 : (Jvm.Cond.classLink "GateGrammar$1MoreDisagreements" (29 : Nat) "GateGrammar$Gate") ∈ lw_all := lw_g (lw_at lw_m9 35 rfl) rfl
theorem q2031 : (Jvm.Cond.methodLink "GateGrammar$1MoreDisagreements" (31 : Nat) ({ cls := "GateGrammar$1MoreDisagreements", name := "compare", desc := "(LGateGrammar$Gate;LGateGrammar$Gate;)I" } : Jvm.MethodName)) ∈ lw_all := lw_g (lw_at lw_m9 36 rfl) rfl
theorem q2032 : (Jvm.Cond.instanceMethod ({ cls := "GateGrammar$1MoreDisagreements", name := "compare", desc := "(LGateGrammar$Gate;LGateGrammar$Gate;)I" } : Jvm.MethodName)) ∈ lw_all := lw_g (lw_at lw_m9 37 rfl) rfl
theorem q2033 : (Jvm.Cond.selects "GateGrammar$1MoreDisagreements" ({ cls := "GateGrammar$1MoreDisagreements", name := "compare", desc := "(LGateGrammar$Gate;LGateGrammar$Gate;)I" } : Jvm.MethodName) ({ cls := "GateGrammar$1MoreDisagreements", name := "compare", desc := "(LGateGrammar$Gate;LGateGrammar$Gate;)I" } : Jvm.MethodName)) ∈ lw_all := lw_g (lw_at lw_m9 38 rfl) rfl
theorem q2034 : (Jvm.Cond.code ({ cls := "GateGrammar$1MoreDisagreements", name := "compare", desc := "(LGateGrammar$Gate;LGateGrammar$Gate;)I" } : Jvm.MethodName) prog_3_method_2_code (3 : Nat) (Option.some Jvm.ClassFile.FieldType.int)) ∈ lw_all := lw_g (lw_at lw_m9 39 rfl) rfl
theorem q2035 : (Jvm.Cond.methodLinkNest "GateGrammar$1MoreDisagreements" (13 : Nat) ({ cls := "GateGrammar", name := "parse", desc := "(LGateGrammar$Gate;)LGateGrammar$Sentence;" } : Jvm.MethodName) "GateGrammar") ∈ lw_tbl := lw_at lw_m9 40 rfl
theorem q2036 : (Jvm.Cond.methodLinkNest "GateGrammar$1MoreDisagreements" (19 : Nat) ({ cls := "GateGrammar", name := "report", desc := "(LGateGrammar$Sentence;)LGateGrammar$Report;" } : Jvm.MethodName) "GateGrammar") ∈ lw_tbl := lw_at lw_m9 41 rfl
theorem q3065 : (Jvm.Cond.castable "GateGrammar$1MoreDisagreements" "java/lang/Object") ∈ lw_tbl := lw_at lw_m13 110 rfl
theorem in_X15 : ∀ w ∈ wsX150, w ∈ lw_all := lw_in wsX150 [1998] (by decide +kernel) (by decide +kernel)

/-! GateGrammar$1 -/
set_option maxRecDepth 100000
def RX16 : String := "GateGrammar$1"
def TX16 : u_T := fun k => match k with
  | _ => ("GateGrammar$1", "this$0", "LGateGrammar;", true)
def tyX16 : Nat → FieldType := fun k => match k with
  | _ => .object "GateGrammar"
abbrev wsX160 : List Cond := u_ws RX16 TX16 1
theorem nmX16 : ∀ a, a < 1 → ∀ b, b < 1 → a ≠ b → (TX16 a).2.1 ≠ (TX16 b).2.1 := by decide +kernel
theorem tyX16_ok : ∀ k, k < 1 → parseFieldDescriptor (TX16 k).2.2.1 = some (tyX16 k) := by decide +kernel
abbrev cX16_compare : ByteArray := prog_2_method_3_code
def yX16_compare : MethodName := ⟨RX16, "compare", "(Ljava/lang/Object;Ljava/lang/Object;)I"⟩
def dkwX16_compare_0 : List UInt8 := [42, 43, 192, 0, 14, 44, 192, 0, 14, 182, 0, 29, 172]
abbrev dktX16_compare_0 : List UInt8 := dkwX16_compare_0 ++ []
theorem dksX16_compare_0 : cX16_compare.data.toList.drop 0 = dktX16_compare_0 := by decide +kernel
theorem dX16_compare_0 : decode cX16_compare 0 = .ok (.aload_n 0, 1) := dk_42 (dk_at dksX16_compare_0 0 rfl rfl)
theorem dX16_compare_1 : decode cX16_compare 1 = .ok (.aload_n 1, 1) := dk_43 (dk_at dksX16_compare_0 1 rfl rfl)
theorem dX16_compare_2 : decode cX16_compare 2 = .ok (.checkcast 14, 3) := dk_192 0 14 (dk_at dksX16_compare_0 2 rfl rfl)
theorem dX16_compare_5 : decode cX16_compare 5 = .ok (.aload_n 2, 1) := dk_44 (dk_at dksX16_compare_0 5 rfl rfl)
theorem dX16_compare_6 : decode cX16_compare 6 = .ok (.checkcast 14, 3) := dk_192 0 14 (dk_at dksX16_compare_0 6 rfl rfl)
theorem dX16_compare_9 : decode cX16_compare 9 = .ok (.invokevirtual 29, 3) := dk_182 0 29 (dk_at dksX16_compare_0 9 rfl rfl)
theorem dX16_compare_12 : decode cX16_compare 12 = .ok (.ireturn, 1) := dk_172 (dk_at dksX16_compare_0 12 rfl rfl)
abbrev cX16_compare_2 : ByteArray := prog_2_method_2_code
def yX16_compare_2 : MethodName := ⟨RX16, "compare", "(LGateGrammar$Gate;LGateGrammar$Gate;)I"⟩
def dkwX16_compare_2_1 : List UInt8 := [182, 0, 23, 43, 180, 0, 19, 182, 0, 23, 100, 172]
abbrev dktX16_compare_2_1 : List UInt8 := dkwX16_compare_2_1 ++ []
def dkwX16_compare_2_0 : List UInt8 := [43, 180, 0, 13, 44, 180, 0, 13, 100, 62, 29, 153, 0, 7, 29, 167, 0, 18, 44, 180, 0, 19]
abbrev dktX16_compare_2_0 : List UInt8 := dkwX16_compare_2_0 ++ dktX16_compare_2_1
theorem dksX16_compare_2_0 : cX16_compare_2.data.toList.drop 0 = dktX16_compare_2_0 := by decide +kernel
theorem dksX16_compare_2_1 : cX16_compare_2.data.toList.drop 22 = dktX16_compare_2_1 := dk_seg dksX16_compare_2_0 22 rfl rfl
theorem dX16_compare_2_0 : decode cX16_compare_2 0 = .ok (.aload_n 1, 1) := dk_43 (dk_at dksX16_compare_2_0 0 rfl rfl)
theorem dX16_compare_2_1 : decode cX16_compare_2 1 = .ok (.getfield 13, 3) := dk_180 0 13 (dk_at dksX16_compare_2_0 1 rfl rfl)
theorem dX16_compare_2_4 : decode cX16_compare_2 4 = .ok (.aload_n 2, 1) := dk_44 (dk_at dksX16_compare_2_0 4 rfl rfl)
theorem dX16_compare_2_5 : decode cX16_compare_2 5 = .ok (.getfield 13, 3) := dk_180 0 13 (dk_at dksX16_compare_2_0 5 rfl rfl)
theorem dX16_compare_2_8 : decode cX16_compare_2 8 = .ok (.isub, 1) := dk_100 (dk_at dksX16_compare_2_0 8 rfl rfl)
theorem dX16_compare_2_9 : decode cX16_compare_2 9 = .ok (.istore_n 3, 1) := dk_62 (dk_at dksX16_compare_2_0 9 rfl rfl)
theorem dX16_compare_2_10 : decode cX16_compare_2 10 = .ok (.iload_n 3, 1) := dk_29 (dk_at dksX16_compare_2_0 10 rfl rfl)
theorem dX16_compare_2_11 : decode cX16_compare_2 11 = .ok (.ifCond .eq 7, 3) := dk_153 0 7 (dk_at dksX16_compare_2_0 11 rfl rfl)
theorem dX16_compare_2_14 : decode cX16_compare_2 14 = .ok (.iload_n 3, 1) := dk_29 (dk_at dksX16_compare_2_0 14 rfl rfl)
theorem dX16_compare_2_15 : decode cX16_compare_2 15 = .ok (.goto 18, 3) := dk_167 0 18 (dk_at dksX16_compare_2_0 15 rfl rfl)
theorem dX16_compare_2_18 : decode cX16_compare_2 18 = .ok (.aload_n 2, 1) := dk_44 (dk_at dksX16_compare_2_0 18 rfl rfl)
theorem dX16_compare_2_19 : decode cX16_compare_2 19 = .ok (.getfield 19, 3) := dk_180 0 19 (dk_at dksX16_compare_2_0 19 rfl rfl)
theorem dX16_compare_2_22 : decode cX16_compare_2 22 = .ok (.invokevirtual 23, 3) := dk_182 0 23 (dk_at dksX16_compare_2_1 0 rfl rfl)
theorem dX16_compare_2_25 : decode cX16_compare_2 25 = .ok (.aload_n 1, 1) := dk_43 (dk_at dksX16_compare_2_1 3 rfl rfl)
theorem dX16_compare_2_26 : decode cX16_compare_2 26 = .ok (.getfield 19, 3) := dk_180 0 19 (dk_at dksX16_compare_2_1 4 rfl rfl)
theorem dX16_compare_2_29 : decode cX16_compare_2 29 = .ok (.invokevirtual 23, 3) := dk_182 0 23 (dk_at dksX16_compare_2_1 7 rfl rfl)
theorem dX16_compare_2_32 : decode cX16_compare_2 32 = .ok (.isub, 1) := dk_100 (dk_at dksX16_compare_2_1 10 rfl rfl)
theorem dX16_compare_2_33 : decode cX16_compare_2 33 = .ok (.ireturn, 1) := dk_172 (dk_at dksX16_compare_2_1 11 rfl rfl)
abbrev cX16_init : ByteArray := prog_2_method_1_code
def yX16_init : MethodName := ⟨RX16, "<init>", "(LGateGrammar;)V"⟩
def dkwX16_init_0 : List UInt8 := [42, 43, 181, 0, 1, 42, 183, 0, 7, 177]
abbrev dktX16_init_0 : List UInt8 := dkwX16_init_0 ++ []
theorem dksX16_init_0 : cX16_init.data.toList.drop 0 = dktX16_init_0 := by decide +kernel
theorem dX16_init_0 : decode cX16_init 0 = .ok (.aload_n 0, 1) := dk_42 (dk_at dksX16_init_0 0 rfl rfl)
theorem dX16_init_1 : decode cX16_init 1 = .ok (.aload_n 1, 1) := dk_43 (dk_at dksX16_init_0 1 rfl rfl)
theorem dX16_init_2 : decode cX16_init 2 = .ok (.putfield 1, 3) := dk_181 0 1 (dk_at dksX16_init_0 2 rfl rfl)
theorem dX16_init_5 : decode cX16_init 5 = .ok (.aload_n 0, 1) := dk_42 (dk_at dksX16_init_0 5 rfl rfl)
theorem dX16_init_6 : decode cX16_init 6 = .ok (.invokespecial 7, 3) := dk_183 0 7 (dk_at dksX16_init_0 6 rfl rfl)
theorem dX16_init_9 : decode cX16_init 9 = .ok (.return_, 1) := dk_177 (dk_at dksX16_init_0 9 rfl rfl)
theorem q123 : (Jvm.Cond.initialized "GateGrammar$1") ∈ lw_all := lw_g (lw_at lw_m1 48 rfl) rfl
theorem q550 : (Jvm.Cond.fieldLinkNest "GateGrammar$1" (19 : Nat) "GateGrammar$Gate" "tokens" "Ljava/util/ArrayList;" "GateGrammar") ∈ lw_tbl := lw_at lw_m2 235 rfl
theorem q553 : (Jvm.Cond.fieldLinkNest "GateGrammar$1" (13 : Nat) "GateGrammar$Gate" "walks" "I" "GateGrammar") ∈ lw_tbl := lw_at lw_m2 238 rfl
theorem q589 : (Jvm.Cond.selects "GateGrammar$1" ({ cls := "java/lang/Object", name := "getClass", desc := "()Ljava/lang/Class;" } : Jvm.MethodName) ({ cls := "java/lang/Object", name := "getClass", desc := "()Ljava/lang/Class;" } : Jvm.MethodName)) ∈ lw_all := lw_g (lw_at lw_m3 34 rfl) rfl
theorem q2012 : (Jvm.Cond.castable "GateGrammar$1" "GateGrammar$Preference") ∈ lw_tbl := lw_at lw_m9 17 rfl
theorem q2013 : (Jvm.Cond.selects "GateGrammar$1" ({ cls := "GateGrammar$Preference", name := "compare", desc := "(Ljava/lang/Object;Ljava/lang/Object;)I" } : Jvm.MethodName) ({ cls := "GateGrammar$1", name := "compare", desc := "(Ljava/lang/Object;Ljava/lang/Object;)I" } : Jvm.MethodName)) ∈ lw_all := lw_g (lw_at lw_m9 18 rfl) rfl
theorem q2014 : (Jvm.Cond.unhidden "GateGrammar$1" "compare" "(Ljava/lang/Object;Ljava/lang/Object;)I") ∈ lw_tbl := lw_at lw_m9 19 rfl
theorem q2015 : (Jvm.Cond.instanceMethod ({ cls := "GateGrammar$1", name := "compare", desc := "(Ljava/lang/Object;Ljava/lang/Object;)I" } : Jvm.MethodName)) ∈ lw_all := lw_g (lw_at lw_m9 20 rfl) rfl
theorem q2016 : (Jvm.Cond.publicMethod ({ cls := "GateGrammar$1", name := "compare", desc := "(Ljava/lang/Object;Ljava/lang/Object;)I" } : Jvm.MethodName)) ∈ lw_tbl := lw_at lw_m9 21 rfl
theorem q2017 : (Jvm.Cond.code ({ cls := "GateGrammar$1", name := "compare", desc := "(Ljava/lang/Object;Ljava/lang/Object;)I" } : Jvm.MethodName) prog_2_method_3_code (3 : Nat) (Option.some Jvm.ClassFile.FieldType.int)) ∈ lw_all := lw_g (lw_at lw_m9 22 rfl) rfl
theorem q2018 : (Jvm.Cond.classLink "GateGrammar$1" (14 : Nat) "GateGrammar$Gate") ∈ lw_all := lw_g (lw_at lw_m9 23 rfl) rfl
theorem q2019 : (Jvm.Cond.methodLink "GateGrammar$1" (29 : Nat) ({ cls := "GateGrammar$1", name := "compare", desc := "(LGateGrammar$Gate;LGateGrammar$Gate;)I" } : Jvm.MethodName)) ∈ lw_all := lw_g (lw_at lw_m9 24 rfl) rfl
theorem q2020 : (Jvm.Cond.instanceMethod ({ cls := "GateGrammar$1", name := "compare", desc := "(LGateGrammar$Gate;LGateGrammar$Gate;)I" } : Jvm.MethodName)) ∈ lw_all := lw_g (lw_at lw_m9 25 rfl) rfl
theorem q2021 : (Jvm.Cond.selects "GateGrammar$1" ({ cls := "GateGrammar$1", name := "compare", desc := "(LGateGrammar$Gate;LGateGrammar$Gate;)I" } : Jvm.MethodName) ({ cls := "GateGrammar$1", name := "compare", desc := "(LGateGrammar$Gate;LGateGrammar$Gate;)I" } : Jvm.MethodName)) ∈ lw_all := lw_g (lw_at lw_m9 26 rfl) rfl
theorem q2022 : (Jvm.Cond.code ({ cls := "GateGrammar$1", name := "compare", desc := "(LGateGrammar$Gate;LGateGrammar$Gate;)I" } : Jvm.MethodName) prog_2_method_2_code (4 : Nat) (Option.some Jvm.ClassFile.FieldType.int)) ∈ lw_all := lw_g (lw_at lw_m9 27 rfl) rfl
theorem q2023 : (Jvm.Cond.methodLink "GateGrammar$1" (23 : Nat) ({ cls := "java/util/ArrayList", name := "size", desc := "()I" } : Jvm.MethodName)) ∈ lw_all := lw_g (lw_at lw_m9 28 rfl) rfl
theorem q2063 : (Jvm.Cond.instantiable "GateGrammar$1" (1 : Nat)) ∈ lw_all := lw_g (lw_at lw_m9 68 rfl) rfl
theorem q2065 : (Jvm.Cond.instanceMethod ({ cls := "GateGrammar$1", name := "<init>", desc := "(LGateGrammar;)V" } : Jvm.MethodName)) ∈ lw_all := lw_g (lw_at lw_m9 70 rfl) rfl
theorem q2066 : (Jvm.Cond.code ({ cls := "GateGrammar$1", name := "<init>", desc := "(LGateGrammar;)V" } : Jvm.MethodName) prog_2_method_1_code (2 : Nat) (Option.none : Option Jvm.ClassFile.FieldType)) ∈ lw_all := lw_g (lw_at lw_m9 71 rfl) rfl
theorem q2067 : (Jvm.Cond.methodLink "GateGrammar$1" (7 : Nat) ({ cls := "java/lang/Object", name := "<init>", desc := "()V" } : Jvm.MethodName)) ∈ lw_all := lw_g (lw_at lw_m9 72 rfl) rfl
theorem q2068 : (Jvm.Cond.fieldLink "GateGrammar$1" (1 : Nat) "GateGrammar$1" "this$0" "LGateGrammar;") ∈ lw_all := lw_g (lw_at lw_m9 73 rfl) rfl
theorem q2069 : (Jvm.Cond.laysFinal "GateGrammar$1" "GateGrammar$1" "this$0" "LGateGrammar;") ∈ lw_all := lw_g (lw_at lw_m9 74 rfl) rfl
theorem q2070 : (Jvm.Cond.soleField "GateGrammar$1" "this$0") ∈ lw_all := lw_g (lw_at lw_m9 75 rfl) rfl
theorem q2071 : (Jvm.Cond.superclass "GateGrammar$1" "java/lang/Object") ∈ lw_all := lw_g (lw_at lw_m9 76 rfl) rfl
theorem q3066 : (Jvm.Cond.castable "GateGrammar$1" "java/lang/Object") ∈ lw_tbl := lw_at lw_m13 111 rfl
theorem in_X16 : ∀ w ∈ wsX160, w ∈ lw_all := lw_in wsX160 [2069] (by decide +kernel) (by decide +kernel)

/-! GateGrammar$Parser -/
set_option maxRecDepth 100000
def RX17 : String := "GateGrammar$Parser"
def TX17 : u_T := fun k => match k with
  | 0 => ("GateGrammar$Parser", "position", "I", false)
  | _ => ("GateGrammar$Parser", "this$0", "LGateGrammar;", true)
def tyX17 : Nat → FieldType := fun k => match k with
  | 0 => .int
  | _ => .object "GateGrammar"
abbrev wsX170 : List Cond := u_ws RX17 TX17 2
theorem nmX17 : ∀ a, a < 2 → ∀ b, b < 2 → a ≠ b → (TX17 a).2.1 ≠ (TX17 b).2.1 := by decide +kernel
theorem tyX17_ok : ∀ k, k < 2 → parseFieldDescriptor (TX17 k).2.2.1 = some (tyX17 k) := by decide +kernel
abbrev cX17_init : ByteArray := prog_11_method_1_code
def yX17_init : MethodName := ⟨RX17, "<init>", "(LGateGrammar;)V"⟩
def dkwX17_init_0 : List UInt8 := [42, 43, 181, 0, 1, 42, 183, 0, 7, 177]
abbrev dktX17_init_0 : List UInt8 := dkwX17_init_0 ++ []
theorem dksX17_init_0 : cX17_init.data.toList.drop 0 = dktX17_init_0 := by decide +kernel
theorem dX17_init_0 : decode cX17_init 0 = .ok (.aload_n 0, 1) := dk_42 (dk_at dksX17_init_0 0 rfl rfl)
theorem dX17_init_1 : decode cX17_init 1 = .ok (.aload_n 1, 1) := dk_43 (dk_at dksX17_init_0 1 rfl rfl)
theorem dX17_init_2 : decode cX17_init 2 = .ok (.putfield 1, 3) := dk_181 0 1 (dk_at dksX17_init_0 2 rfl rfl)
theorem dX17_init_5 : decode cX17_init 5 = .ok (.aload_n 0, 1) := dk_42 (dk_at dksX17_init_0 5 rfl rfl)
theorem dX17_init_6 : decode cX17_init 6 = .ok (.invokespecial 7, 3) := dk_183 0 7 (dk_at dksX17_init_0 6 rfl rfl)
theorem dX17_init_9 : decode cX17_init 9 = .ok (.return_, 1) := dk_177 (dk_at dksX17_init_0 9 rfl rfl)
abbrev cX17_commands : ByteArray := prog_11_method_9_code
def yX17_commands : MethodName := ⟨RX17, "commands", "()Ljava/util/LinkedList;"⟩
def dkwX17_commands_2 : List UInt8 := [180, 0, 17, 182, 0, 23, 160, 0, 7, 4, 167, 0, 4, 3, 182, 0, 59, 43, 176]
abbrev dktX17_commands_2 : List UInt8 := dkwX17_commands_2 ++ []
def dkwX17_commands_1 : List UInt8 := [153, 0, 14, 43, 42, 182, 0, 102, 182, 0, 106, 167, 255, 239, 42, 42, 180, 0, 13, 42, 180, 0, 1]
abbrev dktX17_commands_1 : List UInt8 := dkwX17_commands_1 ++ dktX17_commands_2
def dkwX17_commands_0 : List UInt8 := [187, 0, 99, 89, 183, 0, 101, 76, 43, 42, 182, 0, 102, 182, 0, 106, 42, 16, 59, 182, 0, 95]
abbrev dktX17_commands_0 : List UInt8 := dkwX17_commands_0 ++ dktX17_commands_1
theorem dksX17_commands_0 : cX17_commands.data.toList.drop 0 = dktX17_commands_0 := by decide +kernel
theorem dksX17_commands_1 : cX17_commands.data.toList.drop 22 = dktX17_commands_1 := dk_seg dksX17_commands_0 22 rfl rfl
theorem dksX17_commands_2 : cX17_commands.data.toList.drop 45 = dktX17_commands_2 := dk_seg dksX17_commands_1 23 rfl rfl
theorem dX17_commands_0 : decode cX17_commands 0 = .ok (.new 99, 3) := dk_187 0 99 (dk_at dksX17_commands_0 0 rfl rfl)
theorem dX17_commands_3 : decode cX17_commands 3 = .ok (.dup, 1) := dk_89 (dk_at dksX17_commands_0 3 rfl rfl)
theorem dX17_commands_4 : decode cX17_commands 4 = .ok (.invokespecial 101, 3) := dk_183 0 101 (dk_at dksX17_commands_0 4 rfl rfl)
theorem dX17_commands_7 : decode cX17_commands 7 = .ok (.astore_n 1, 1) := dk_76 (dk_at dksX17_commands_0 7 rfl rfl)
theorem dX17_commands_8 : decode cX17_commands 8 = .ok (.aload_n 1, 1) := dk_43 (dk_at dksX17_commands_0 8 rfl rfl)
theorem dX17_commands_9 : decode cX17_commands 9 = .ok (.aload_n 0, 1) := dk_42 (dk_at dksX17_commands_0 9 rfl rfl)
theorem dX17_commands_10 : decode cX17_commands 10 = .ok (.invokevirtual 102, 3) := dk_182 0 102 (dk_at dksX17_commands_0 10 rfl rfl)
theorem dX17_commands_13 : decode cX17_commands 13 = .ok (.invokevirtual 106, 3) := dk_182 0 106 (dk_at dksX17_commands_0 13 rfl rfl)
theorem dX17_commands_16 : decode cX17_commands 16 = .ok (.aload_n 0, 1) := dk_42 (dk_at dksX17_commands_0 16 rfl rfl)
theorem dX17_commands_17 : decode cX17_commands 17 = .ok (.bipush 59, 2) := dk_16 59 (dk_at dksX17_commands_0 17 rfl rfl)
theorem dX17_commands_19 : decode cX17_commands 19 = .ok (.invokevirtual 95, 3) := dk_182 0 95 (dk_at dksX17_commands_0 19 rfl rfl)
theorem dX17_commands_22 : decode cX17_commands 22 = .ok (.ifCond .eq 14, 3) := dk_153 0 14 (dk_at dksX17_commands_1 0 rfl rfl)
theorem dX17_commands_25 : decode cX17_commands 25 = .ok (.aload_n 1, 1) := dk_43 (dk_at dksX17_commands_1 3 rfl rfl)
theorem dX17_commands_26 : decode cX17_commands 26 = .ok (.aload_n 0, 1) := dk_42 (dk_at dksX17_commands_1 4 rfl rfl)
theorem dX17_commands_27 : decode cX17_commands 27 = .ok (.invokevirtual 102, 3) := dk_182 0 102 (dk_at dksX17_commands_1 5 rfl rfl)
theorem dX17_commands_30 : decode cX17_commands 30 = .ok (.invokevirtual 106, 3) := dk_182 0 106 (dk_at dksX17_commands_1 8 rfl rfl)
theorem dX17_commands_33 : decode cX17_commands 33 = .ok (.goto (-17), 3) := dk_167 255 239 (dk_at dksX17_commands_1 11 rfl rfl)
theorem dX17_commands_36 : decode cX17_commands 36 = .ok (.aload_n 0, 1) := dk_42 (dk_at dksX17_commands_1 14 rfl rfl)
theorem dX17_commands_37 : decode cX17_commands 37 = .ok (.aload_n 0, 1) := dk_42 (dk_at dksX17_commands_1 15 rfl rfl)
theorem dX17_commands_38 : decode cX17_commands 38 = .ok (.getfield 13, 3) := dk_180 0 13 (dk_at dksX17_commands_1 16 rfl rfl)
theorem dX17_commands_41 : decode cX17_commands 41 = .ok (.aload_n 0, 1) := dk_42 (dk_at dksX17_commands_1 19 rfl rfl)
theorem dX17_commands_42 : decode cX17_commands 42 = .ok (.getfield 1, 3) := dk_180 0 1 (dk_at dksX17_commands_1 20 rfl rfl)
theorem dX17_commands_45 : decode cX17_commands 45 = .ok (.getfield 17, 3) := dk_180 0 17 (dk_at dksX17_commands_2 0 rfl rfl)
theorem dX17_commands_48 : decode cX17_commands 48 = .ok (.invokevirtual 23, 3) := dk_182 0 23 (dk_at dksX17_commands_2 3 rfl rfl)
theorem dX17_commands_51 : decode cX17_commands 51 = .ok (.if_icmp .ne 7, 3) := dk_160 0 7 (dk_at dksX17_commands_2 6 rfl rfl)
theorem dX17_commands_54 : decode cX17_commands 54 = .ok (.iconst 1, 1) := dk_4 (dk_at dksX17_commands_2 9 rfl rfl)
theorem dX17_commands_55 : decode cX17_commands 55 = .ok (.goto 4, 3) := dk_167 0 4 (dk_at dksX17_commands_2 10 rfl rfl)
theorem dX17_commands_58 : decode cX17_commands 58 = .ok (.iconst 0, 1) := dk_3 (dk_at dksX17_commands_2 13 rfl rfl)
theorem dX17_commands_59 : decode cX17_commands 59 = .ok (.invokevirtual 59, 3) := dk_182 0 59 (dk_at dksX17_commands_2 14 rfl rfl)
theorem dX17_commands_62 : decode cX17_commands 62 = .ok (.aload_n 1, 1) := dk_43 (dk_at dksX17_commands_2 17 rfl rfl)
theorem dX17_commands_63 : decode cX17_commands 63 = .ok (.areturn, 1) := dk_176 (dk_at dksX17_commands_2 18 rfl rfl)
abbrev cX17_command : ByteArray := prog_11_method_8_code
def yX17_command : MethodName := ⟨RX17, "command", "()LGateGrammar$Command;"⟩
def dkwX17_command_5 : List UInt8 := [42, 182, 0, 83, 183, 0, 92, 176]
abbrev dktX17_command_5 : List UInt8 := dkwX17_command_5 ++ []
def dkwX17_command_4 : List UInt8 := [16, 32, 182, 0, 95, 182, 0, 59, 42, 182, 0, 83, 62, 187, 0, 90, 89, 42, 180, 0, 1, 43, 28, 29]
abbrev dktX17_command_4 : List UInt8 := dkwX17_command_4 ++ dktX17_command_5
def dkwX17_command_3 : List UInt8 := [182, 0, 86, 154, 0, 19, 187, 0, 90, 89, 42, 180, 0, 1, 43, 28, 3, 3, 183, 0, 92, 176, 42, 42]
abbrev dktX17_command_3 : List UInt8 := dkwX17_command_3 ++ dktX17_command_4
def dkwX17_command_2 : List UInt8 := [83, 182, 0, 79, 76, 42, 182, 0, 83, 61, 43, 18, 63, 182, 0, 86, 154, 0, 28, 43, 18, 65]
abbrev dktX17_command_2 : List UInt8 := dkwX17_command_2 ++ dktX17_command_3
def dkwX17_command_1 : List UInt8 := [18, 69, 83, 89, 7, 18, 71, 83, 89, 8, 18, 73, 83, 89, 16, 6, 18, 75, 83, 89, 16, 7, 18, 77]
abbrev dktX17_command_1 : List UInt8 := dkwX17_command_1 ++ dktX17_command_2
def dkwX17_command_0 : List UInt8 := [42, 16, 8, 189, 0, 42, 89, 3, 18, 63, 83, 89, 4, 18, 65, 83, 89, 5, 18, 67, 83, 89, 6]
abbrev dktX17_command_0 : List UInt8 := dkwX17_command_0 ++ dktX17_command_1
theorem dksX17_command_0 : cX17_command.data.toList.drop 0 = dktX17_command_0 := by decide +kernel
theorem dksX17_command_1 : cX17_command.data.toList.drop 23 = dktX17_command_1 := dk_seg dksX17_command_0 23 rfl rfl
theorem dksX17_command_2 : cX17_command.data.toList.drop 47 = dktX17_command_2 := dk_seg dksX17_command_1 24 rfl rfl
theorem dksX17_command_3 : cX17_command.data.toList.drop 69 = dktX17_command_3 := dk_seg dksX17_command_2 22 rfl rfl
theorem dksX17_command_4 : cX17_command.data.toList.drop 93 = dktX17_command_4 := dk_seg dksX17_command_3 24 rfl rfl
theorem dksX17_command_5 : cX17_command.data.toList.drop 117 = dktX17_command_5 := dk_seg dksX17_command_4 24 rfl rfl
theorem dX17_command_0 : decode cX17_command 0 = .ok (.aload_n 0, 1) := dk_42 (dk_at dksX17_command_0 0 rfl rfl)
theorem dX17_command_1 : decode cX17_command 1 = .ok (.bipush 8, 2) := dk_16 8 (dk_at dksX17_command_0 1 rfl rfl)
theorem dX17_command_3 : decode cX17_command 3 = .ok (.anewarray 42, 3) := dk_189 0 42 (dk_at dksX17_command_0 3 rfl rfl)
theorem dX17_command_6 : decode cX17_command 6 = .ok (.dup, 1) := dk_89 (dk_at dksX17_command_0 6 rfl rfl)
theorem dX17_command_7 : decode cX17_command 7 = .ok (.iconst 0, 1) := dk_3 (dk_at dksX17_command_0 7 rfl rfl)
theorem dX17_command_8 : decode cX17_command 8 = .ok (.ldc 63, 2) := dk_18 63 (dk_at dksX17_command_0 8 rfl rfl)
theorem dX17_command_10 : decode cX17_command 10 = .ok (.aastore, 1) := dk_83 (dk_at dksX17_command_0 10 rfl rfl)
theorem dX17_command_11 : decode cX17_command 11 = .ok (.dup, 1) := dk_89 (dk_at dksX17_command_0 11 rfl rfl)
theorem dX17_command_12 : decode cX17_command 12 = .ok (.iconst 1, 1) := dk_4 (dk_at dksX17_command_0 12 rfl rfl)
theorem dX17_command_13 : decode cX17_command 13 = .ok (.ldc 65, 2) := dk_18 65 (dk_at dksX17_command_0 13 rfl rfl)
theorem dX17_command_15 : decode cX17_command 15 = .ok (.aastore, 1) := dk_83 (dk_at dksX17_command_0 15 rfl rfl)
theorem dX17_command_16 : decode cX17_command 16 = .ok (.dup, 1) := dk_89 (dk_at dksX17_command_0 16 rfl rfl)
theorem dX17_command_17 : decode cX17_command 17 = .ok (.iconst 2, 1) := dk_5 (dk_at dksX17_command_0 17 rfl rfl)
theorem dX17_command_18 : decode cX17_command 18 = .ok (.ldc 67, 2) := dk_18 67 (dk_at dksX17_command_0 18 rfl rfl)
theorem dX17_command_20 : decode cX17_command 20 = .ok (.aastore, 1) := dk_83 (dk_at dksX17_command_0 20 rfl rfl)
theorem dX17_command_21 : decode cX17_command 21 = .ok (.dup, 1) := dk_89 (dk_at dksX17_command_0 21 rfl rfl)
theorem dX17_command_22 : decode cX17_command 22 = .ok (.iconst 3, 1) := dk_6 (dk_at dksX17_command_0 22 rfl rfl)
theorem dX17_command_23 : decode cX17_command 23 = .ok (.ldc 69, 2) := dk_18 69 (dk_at dksX17_command_1 0 rfl rfl)
theorem dX17_command_25 : decode cX17_command 25 = .ok (.aastore, 1) := dk_83 (dk_at dksX17_command_1 2 rfl rfl)
theorem dX17_command_26 : decode cX17_command 26 = .ok (.dup, 1) := dk_89 (dk_at dksX17_command_1 3 rfl rfl)
theorem dX17_command_27 : decode cX17_command 27 = .ok (.iconst 4, 1) := dk_7 (dk_at dksX17_command_1 4 rfl rfl)
theorem dX17_command_28 : decode cX17_command 28 = .ok (.ldc 71, 2) := dk_18 71 (dk_at dksX17_command_1 5 rfl rfl)
theorem dX17_command_30 : decode cX17_command 30 = .ok (.aastore, 1) := dk_83 (dk_at dksX17_command_1 7 rfl rfl)
theorem dX17_command_31 : decode cX17_command 31 = .ok (.dup, 1) := dk_89 (dk_at dksX17_command_1 8 rfl rfl)
theorem dX17_command_32 : decode cX17_command 32 = .ok (.iconst 5, 1) := dk_8 (dk_at dksX17_command_1 9 rfl rfl)
theorem dX17_command_33 : decode cX17_command 33 = .ok (.ldc 73, 2) := dk_18 73 (dk_at dksX17_command_1 10 rfl rfl)
theorem dX17_command_35 : decode cX17_command 35 = .ok (.aastore, 1) := dk_83 (dk_at dksX17_command_1 12 rfl rfl)
theorem dX17_command_36 : decode cX17_command 36 = .ok (.dup, 1) := dk_89 (dk_at dksX17_command_1 13 rfl rfl)
theorem dX17_command_37 : decode cX17_command 37 = .ok (.bipush 6, 2) := dk_16 6 (dk_at dksX17_command_1 14 rfl rfl)
theorem dX17_command_39 : decode cX17_command 39 = .ok (.ldc 75, 2) := dk_18 75 (dk_at dksX17_command_1 16 rfl rfl)
theorem dX17_command_41 : decode cX17_command 41 = .ok (.aastore, 1) := dk_83 (dk_at dksX17_command_1 18 rfl rfl)
theorem dX17_command_42 : decode cX17_command 42 = .ok (.dup, 1) := dk_89 (dk_at dksX17_command_1 19 rfl rfl)
theorem dX17_command_43 : decode cX17_command 43 = .ok (.bipush 7, 2) := dk_16 7 (dk_at dksX17_command_1 20 rfl rfl)
theorem dX17_command_45 : decode cX17_command 45 = .ok (.ldc 77, 2) := dk_18 77 (dk_at dksX17_command_1 22 rfl rfl)
theorem dX17_command_47 : decode cX17_command 47 = .ok (.aastore, 1) := dk_83 (dk_at dksX17_command_2 0 rfl rfl)
theorem dX17_command_48 : decode cX17_command 48 = .ok (.invokevirtual 79, 3) := dk_182 0 79 (dk_at dksX17_command_2 1 rfl rfl)
theorem dX17_command_51 : decode cX17_command 51 = .ok (.astore_n 1, 1) := dk_76 (dk_at dksX17_command_2 4 rfl rfl)
theorem dX17_command_52 : decode cX17_command 52 = .ok (.aload_n 0, 1) := dk_42 (dk_at dksX17_command_2 5 rfl rfl)
theorem dX17_command_53 : decode cX17_command 53 = .ok (.invokevirtual 83, 3) := dk_182 0 83 (dk_at dksX17_command_2 6 rfl rfl)
theorem dX17_command_56 : decode cX17_command 56 = .ok (.istore_n 2, 1) := dk_61 (dk_at dksX17_command_2 9 rfl rfl)
theorem dX17_command_57 : decode cX17_command 57 = .ok (.aload_n 1, 1) := dk_43 (dk_at dksX17_command_2 10 rfl rfl)
theorem dX17_command_58 : decode cX17_command 58 = .ok (.ldc 63, 2) := dk_18 63 (dk_at dksX17_command_2 11 rfl rfl)
theorem dX17_command_60 : decode cX17_command 60 = .ok (.invokevirtual 86, 3) := dk_182 0 86 (dk_at dksX17_command_2 13 rfl rfl)
theorem dX17_command_63 : decode cX17_command 63 = .ok (.ifCond .ne 28, 3) := dk_154 0 28 (dk_at dksX17_command_2 16 rfl rfl)
theorem dX17_command_66 : decode cX17_command 66 = .ok (.aload_n 1, 1) := dk_43 (dk_at dksX17_command_2 19 rfl rfl)
theorem dX17_command_67 : decode cX17_command 67 = .ok (.ldc 65, 2) := dk_18 65 (dk_at dksX17_command_2 20 rfl rfl)
theorem dX17_command_69 : decode cX17_command 69 = .ok (.invokevirtual 86, 3) := dk_182 0 86 (dk_at dksX17_command_3 0 rfl rfl)
theorem dX17_command_72 : decode cX17_command 72 = .ok (.ifCond .ne 19, 3) := dk_154 0 19 (dk_at dksX17_command_3 3 rfl rfl)
theorem dX17_command_75 : decode cX17_command 75 = .ok (.new 90, 3) := dk_187 0 90 (dk_at dksX17_command_3 6 rfl rfl)
theorem dX17_command_78 : decode cX17_command 78 = .ok (.dup, 1) := dk_89 (dk_at dksX17_command_3 9 rfl rfl)
theorem dX17_command_79 : decode cX17_command 79 = .ok (.aload_n 0, 1) := dk_42 (dk_at dksX17_command_3 10 rfl rfl)
theorem dX17_command_80 : decode cX17_command 80 = .ok (.getfield 1, 3) := dk_180 0 1 (dk_at dksX17_command_3 11 rfl rfl)
theorem dX17_command_83 : decode cX17_command 83 = .ok (.aload_n 1, 1) := dk_43 (dk_at dksX17_command_3 14 rfl rfl)
theorem dX17_command_84 : decode cX17_command 84 = .ok (.iload_n 2, 1) := dk_28 (dk_at dksX17_command_3 15 rfl rfl)
theorem dX17_command_85 : decode cX17_command 85 = .ok (.iconst 0, 1) := dk_3 (dk_at dksX17_command_3 16 rfl rfl)
theorem dX17_command_86 : decode cX17_command 86 = .ok (.iconst 0, 1) := dk_3 (dk_at dksX17_command_3 17 rfl rfl)
theorem dX17_command_87 : decode cX17_command 87 = .ok (.invokespecial 92, 3) := dk_183 0 92 (dk_at dksX17_command_3 18 rfl rfl)
theorem dX17_command_90 : decode cX17_command 90 = .ok (.areturn, 1) := dk_176 (dk_at dksX17_command_3 21 rfl rfl)
theorem dX17_command_91 : decode cX17_command 91 = .ok (.aload_n 0, 1) := dk_42 (dk_at dksX17_command_3 22 rfl rfl)
theorem dX17_command_92 : decode cX17_command 92 = .ok (.aload_n 0, 1) := dk_42 (dk_at dksX17_command_3 23 rfl rfl)
theorem dX17_command_93 : decode cX17_command 93 = .ok (.bipush 32, 2) := dk_16 32 (dk_at dksX17_command_4 0 rfl rfl)
theorem dX17_command_95 : decode cX17_command 95 = .ok (.invokevirtual 95, 3) := dk_182 0 95 (dk_at dksX17_command_4 2 rfl rfl)
theorem dX17_command_98 : decode cX17_command 98 = .ok (.invokevirtual 59, 3) := dk_182 0 59 (dk_at dksX17_command_4 5 rfl rfl)
theorem dX17_command_101 : decode cX17_command 101 = .ok (.aload_n 0, 1) := dk_42 (dk_at dksX17_command_4 8 rfl rfl)
theorem dX17_command_102 : decode cX17_command 102 = .ok (.invokevirtual 83, 3) := dk_182 0 83 (dk_at dksX17_command_4 9 rfl rfl)
theorem dX17_command_105 : decode cX17_command 105 = .ok (.istore_n 3, 1) := dk_62 (dk_at dksX17_command_4 12 rfl rfl)
theorem dX17_command_106 : decode cX17_command 106 = .ok (.new 90, 3) := dk_187 0 90 (dk_at dksX17_command_4 13 rfl rfl)
theorem dX17_command_109 : decode cX17_command 109 = .ok (.dup, 1) := dk_89 (dk_at dksX17_command_4 16 rfl rfl)
theorem dX17_command_110 : decode cX17_command 110 = .ok (.aload_n 0, 1) := dk_42 (dk_at dksX17_command_4 17 rfl rfl)
theorem dX17_command_111 : decode cX17_command 111 = .ok (.getfield 1, 3) := dk_180 0 1 (dk_at dksX17_command_4 18 rfl rfl)
theorem dX17_command_114 : decode cX17_command 114 = .ok (.aload_n 1, 1) := dk_43 (dk_at dksX17_command_4 21 rfl rfl)
theorem dX17_command_115 : decode cX17_command 115 = .ok (.iload_n 2, 1) := dk_28 (dk_at dksX17_command_4 22 rfl rfl)
theorem dX17_command_116 : decode cX17_command 116 = .ok (.iload_n 3, 1) := dk_29 (dk_at dksX17_command_4 23 rfl rfl)
theorem dX17_command_117 : decode cX17_command 117 = .ok (.aload_n 0, 1) := dk_42 (dk_at dksX17_command_5 0 rfl rfl)
theorem dX17_command_118 : decode cX17_command 118 = .ok (.invokevirtual 83, 3) := dk_182 0 83 (dk_at dksX17_command_5 1 rfl rfl)
theorem dX17_command_121 : decode cX17_command 121 = .ok (.invokespecial 92, 3) := dk_183 0 92 (dk_at dksX17_command_5 4 rfl rfl)
theorem dX17_command_124 : decode cX17_command 124 = .ok (.areturn, 1) := dk_176 (dk_at dksX17_command_5 7 rfl rfl)
abbrev cX17_keyword : ByteArray := prog_11_method_6_code
def yX17_keyword : MethodName := ⟨RX17, "keyword", "([Ljava/lang/String;)Ljava/lang/String;"⟩
def dkwX17_keyword_3 : List UInt8 := [187, 0, 33, 89, 42, 180, 0, 13, 28, 96, 183, 0, 35, 191]
abbrev dktX17_keyword_3 : List UInt8 := dkwX17_keyword_3 ++ []
def dkwX17_keyword_2 : List UInt8 := [21, 7, 96, 181, 0, 13, 25, 6, 176, 28, 21, 7, 184, 0, 49, 61, 132, 5, 1, 167, 255, 201]
abbrev dktX17_keyword_2 : List UInt8 := dkwX17_keyword_2 ++ dktX17_keyword_3
def dkwX17_keyword_1 : List UInt8 := [42, 25, 6, 182, 0, 45, 54, 7, 21, 7, 25, 6, 182, 0, 41, 160, 0, 17, 42, 89, 180, 0, 13]
abbrev dktX17_keyword_1 : List UInt8 := dkwX17_keyword_1 ++ dktX17_keyword_2
def dkwX17_keyword_0 : List UInt8 := [3, 61, 43, 78, 45, 190, 54, 4, 3, 54, 5, 21, 5, 21, 4, 162, 0, 54, 45, 21, 5, 50, 58, 6]
abbrev dktX17_keyword_0 : List UInt8 := dkwX17_keyword_0 ++ dktX17_keyword_1
theorem dksX17_keyword_0 : cX17_keyword.data.toList.drop 0 = dktX17_keyword_0 := by decide +kernel
theorem dksX17_keyword_1 : cX17_keyword.data.toList.drop 24 = dktX17_keyword_1 := dk_seg dksX17_keyword_0 24 rfl rfl
theorem dksX17_keyword_2 : cX17_keyword.data.toList.drop 47 = dktX17_keyword_2 := dk_seg dksX17_keyword_1 23 rfl rfl
theorem dksX17_keyword_3 : cX17_keyword.data.toList.drop 69 = dktX17_keyword_3 := dk_seg dksX17_keyword_2 22 rfl rfl
theorem dX17_keyword_0 : decode cX17_keyword 0 = .ok (.iconst 0, 1) := dk_3 (dk_at dksX17_keyword_0 0 rfl rfl)
theorem dX17_keyword_1 : decode cX17_keyword 1 = .ok (.istore_n 2, 1) := dk_61 (dk_at dksX17_keyword_0 1 rfl rfl)
theorem dX17_keyword_2 : decode cX17_keyword 2 = .ok (.aload_n 1, 1) := dk_43 (dk_at dksX17_keyword_0 2 rfl rfl)
theorem dX17_keyword_3 : decode cX17_keyword 3 = .ok (.astore_n 3, 1) := dk_78 (dk_at dksX17_keyword_0 3 rfl rfl)
theorem dX17_keyword_4 : decode cX17_keyword 4 = .ok (.aload_n 3, 1) := dk_45 (dk_at dksX17_keyword_0 4 rfl rfl)
theorem dX17_keyword_5 : decode cX17_keyword 5 = .ok (.arraylength, 1) := dk_190 (dk_at dksX17_keyword_0 5 rfl rfl)
theorem dX17_keyword_6 : decode cX17_keyword 6 = .ok (.istore 4, 2) := dk_54 4 (dk_at dksX17_keyword_0 6 rfl rfl)
theorem dX17_keyword_8 : decode cX17_keyword 8 = .ok (.iconst 0, 1) := dk_3 (dk_at dksX17_keyword_0 8 rfl rfl)
theorem dX17_keyword_9 : decode cX17_keyword 9 = .ok (.istore 5, 2) := dk_54 5 (dk_at dksX17_keyword_0 9 rfl rfl)
theorem dX17_keyword_11 : decode cX17_keyword 11 = .ok (.iload 5, 2) := dk_21 5 (dk_at dksX17_keyword_0 11 rfl rfl)
theorem dX17_keyword_13 : decode cX17_keyword 13 = .ok (.iload 4, 2) := dk_21 4 (dk_at dksX17_keyword_0 13 rfl rfl)
theorem dX17_keyword_15 : decode cX17_keyword 15 = .ok (.if_icmp .ge 54, 3) := dk_162 0 54 (dk_at dksX17_keyword_0 15 rfl rfl)
theorem dX17_keyword_18 : decode cX17_keyword 18 = .ok (.aload_n 3, 1) := dk_45 (dk_at dksX17_keyword_0 18 rfl rfl)
theorem dX17_keyword_19 : decode cX17_keyword 19 = .ok (.iload 5, 2) := dk_21 5 (dk_at dksX17_keyword_0 19 rfl rfl)
theorem dX17_keyword_21 : decode cX17_keyword 21 = .ok (.aaload, 1) := dk_50 (dk_at dksX17_keyword_0 21 rfl rfl)
theorem dX17_keyword_22 : decode cX17_keyword 22 = .ok (.astore 6, 2) := dk_58 6 (dk_at dksX17_keyword_0 22 rfl rfl)
theorem dX17_keyword_24 : decode cX17_keyword 24 = .ok (.aload_n 0, 1) := dk_42 (dk_at dksX17_keyword_1 0 rfl rfl)
theorem dX17_keyword_25 : decode cX17_keyword 25 = .ok (.aload 6, 2) := dk_25 6 (dk_at dksX17_keyword_1 1 rfl rfl)
theorem dX17_keyword_27 : decode cX17_keyword 27 = .ok (.invokevirtual 45, 3) := dk_182 0 45 (dk_at dksX17_keyword_1 3 rfl rfl)
theorem dX17_keyword_30 : decode cX17_keyword 30 = .ok (.istore 7, 2) := dk_54 7 (dk_at dksX17_keyword_1 6 rfl rfl)
theorem dX17_keyword_32 : decode cX17_keyword 32 = .ok (.iload 7, 2) := dk_21 7 (dk_at dksX17_keyword_1 8 rfl rfl)
theorem dX17_keyword_34 : decode cX17_keyword 34 = .ok (.aload 6, 2) := dk_25 6 (dk_at dksX17_keyword_1 10 rfl rfl)
theorem dX17_keyword_36 : decode cX17_keyword 36 = .ok (.invokevirtual 41, 3) := dk_182 0 41 (dk_at dksX17_keyword_1 12 rfl rfl)
theorem dX17_keyword_39 : decode cX17_keyword 39 = .ok (.if_icmp .ne 17, 3) := dk_160 0 17 (dk_at dksX17_keyword_1 15 rfl rfl)
theorem dX17_keyword_42 : decode cX17_keyword 42 = .ok (.aload_n 0, 1) := dk_42 (dk_at dksX17_keyword_1 18 rfl rfl)
theorem dX17_keyword_43 : decode cX17_keyword 43 = .ok (.dup, 1) := dk_89 (dk_at dksX17_keyword_1 19 rfl rfl)
theorem dX17_keyword_44 : decode cX17_keyword 44 = .ok (.getfield 13, 3) := dk_180 0 13 (dk_at dksX17_keyword_1 20 rfl rfl)
theorem dX17_keyword_47 : decode cX17_keyword 47 = .ok (.iload 7, 2) := dk_21 7 (dk_at dksX17_keyword_2 0 rfl rfl)
theorem dX17_keyword_49 : decode cX17_keyword 49 = .ok (.iadd, 1) := dk_96 (dk_at dksX17_keyword_2 2 rfl rfl)
theorem dX17_keyword_50 : decode cX17_keyword 50 = .ok (.putfield 13, 3) := dk_181 0 13 (dk_at dksX17_keyword_2 3 rfl rfl)
theorem dX17_keyword_53 : decode cX17_keyword 53 = .ok (.aload 6, 2) := dk_25 6 (dk_at dksX17_keyword_2 6 rfl rfl)
theorem dX17_keyword_55 : decode cX17_keyword 55 = .ok (.areturn, 1) := dk_176 (dk_at dksX17_keyword_2 8 rfl rfl)
theorem dX17_keyword_56 : decode cX17_keyword 56 = .ok (.iload_n 2, 1) := dk_28 (dk_at dksX17_keyword_2 9 rfl rfl)
theorem dX17_keyword_57 : decode cX17_keyword 57 = .ok (.iload 7, 2) := dk_21 7 (dk_at dksX17_keyword_2 10 rfl rfl)
theorem dX17_keyword_59 : decode cX17_keyword 59 = .ok (.invokestatic 49, 3) := dk_184 0 49 (dk_at dksX17_keyword_2 12 rfl rfl)
theorem dX17_keyword_62 : decode cX17_keyword 62 = .ok (.istore_n 2, 1) := dk_61 (dk_at dksX17_keyword_2 15 rfl rfl)
theorem dX17_keyword_63 : decode cX17_keyword 63 = .ok (.iinc 5 1, 3) := dk_132 5 1 (dk_at dksX17_keyword_2 16 rfl rfl)
theorem dX17_keyword_66 : decode cX17_keyword 66 = .ok (.goto (-55), 3) := dk_167 255 201 (dk_at dksX17_keyword_2 19 rfl rfl)
theorem dX17_keyword_69 : decode cX17_keyword 69 = .ok (.new 33, 3) := dk_187 0 33 (dk_at dksX17_keyword_3 0 rfl rfl)
theorem dX17_keyword_72 : decode cX17_keyword 72 = .ok (.dup, 1) := dk_89 (dk_at dksX17_keyword_3 3 rfl rfl)
theorem dX17_keyword_73 : decode cX17_keyword 73 = .ok (.aload_n 0, 1) := dk_42 (dk_at dksX17_keyword_3 4 rfl rfl)
theorem dX17_keyword_74 : decode cX17_keyword 74 = .ok (.getfield 13, 3) := dk_180 0 13 (dk_at dksX17_keyword_3 5 rfl rfl)
theorem dX17_keyword_77 : decode cX17_keyword 77 = .ok (.iload_n 2, 1) := dk_28 (dk_at dksX17_keyword_3 8 rfl rfl)
theorem dX17_keyword_78 : decode cX17_keyword 78 = .ok (.iadd, 1) := dk_96 (dk_at dksX17_keyword_3 9 rfl rfl)
theorem dX17_keyword_79 : decode cX17_keyword 79 = .ok (.invokespecial 35, 3) := dk_183 0 35 (dk_at dksX17_keyword_3 10 rfl rfl)
theorem dX17_keyword_82 : decode cX17_keyword 82 = .ok (.athrow, 1) := dk_191 (dk_at dksX17_keyword_3 13 rfl rfl)
abbrev cX17_commonPrefix : ByteArray := prog_11_method_5_code
def yX17_commonPrefix : MethodName := ⟨RX17, "commonPrefix", "(Ljava/lang/String;)I"⟩
def dkwX17_commonPrefix_2 : List UInt8 := [182, 0, 44, 160, 0, 9, 132, 2, 1, 167, 255, 202, 28, 172]
abbrev dktX17_commonPrefix_2 : List UInt8 := dkwX17_commonPrefix_2 ++ []
def dkwX17_commonPrefix_1 : List UInt8 := [182, 0, 23, 162, 0, 33, 42, 180, 0, 1, 180, 0, 17, 42, 180, 0, 13, 28, 96, 182, 0, 29, 43, 28]
abbrev dktX17_commonPrefix_1 : List UInt8 := dkwX17_commonPrefix_1 ++ dktX17_commonPrefix_2
def dkwX17_commonPrefix_0 : List UInt8 := [3, 61, 28, 43, 182, 0, 41, 162, 0, 52, 42, 180, 0, 13, 28, 96, 42, 180, 0, 1, 180, 0, 17]
abbrev dktX17_commonPrefix_0 : List UInt8 := dkwX17_commonPrefix_0 ++ dktX17_commonPrefix_1
theorem dksX17_commonPrefix_0 : cX17_commonPrefix.data.toList.drop 0 = dktX17_commonPrefix_0 := by decide +kernel
theorem dksX17_commonPrefix_1 : cX17_commonPrefix.data.toList.drop 23 = dktX17_commonPrefix_1 := dk_seg dksX17_commonPrefix_0 23 rfl rfl
theorem dksX17_commonPrefix_2 : cX17_commonPrefix.data.toList.drop 47 = dktX17_commonPrefix_2 := dk_seg dksX17_commonPrefix_1 24 rfl rfl
theorem dX17_commonPrefix_0 : decode cX17_commonPrefix 0 = .ok (.iconst 0, 1) := dk_3 (dk_at dksX17_commonPrefix_0 0 rfl rfl)
theorem dX17_commonPrefix_1 : decode cX17_commonPrefix 1 = .ok (.istore_n 2, 1) := dk_61 (dk_at dksX17_commonPrefix_0 1 rfl rfl)
theorem dX17_commonPrefix_2 : decode cX17_commonPrefix 2 = .ok (.iload_n 2, 1) := dk_28 (dk_at dksX17_commonPrefix_0 2 rfl rfl)
theorem dX17_commonPrefix_3 : decode cX17_commonPrefix 3 = .ok (.aload_n 1, 1) := dk_43 (dk_at dksX17_commonPrefix_0 3 rfl rfl)
theorem dX17_commonPrefix_4 : decode cX17_commonPrefix 4 = .ok (.invokevirtual 41, 3) := dk_182 0 41 (dk_at dksX17_commonPrefix_0 4 rfl rfl)
theorem dX17_commonPrefix_7 : decode cX17_commonPrefix 7 = .ok (.if_icmp .ge 52, 3) := dk_162 0 52 (dk_at dksX17_commonPrefix_0 7 rfl rfl)
theorem dX17_commonPrefix_10 : decode cX17_commonPrefix 10 = .ok (.aload_n 0, 1) := dk_42 (dk_at dksX17_commonPrefix_0 10 rfl rfl)
theorem dX17_commonPrefix_11 : decode cX17_commonPrefix 11 = .ok (.getfield 13, 3) := dk_180 0 13 (dk_at dksX17_commonPrefix_0 11 rfl rfl)
theorem dX17_commonPrefix_14 : decode cX17_commonPrefix 14 = .ok (.iload_n 2, 1) := dk_28 (dk_at dksX17_commonPrefix_0 14 rfl rfl)
theorem dX17_commonPrefix_15 : decode cX17_commonPrefix 15 = .ok (.iadd, 1) := dk_96 (dk_at dksX17_commonPrefix_0 15 rfl rfl)
theorem dX17_commonPrefix_16 : decode cX17_commonPrefix 16 = .ok (.aload_n 0, 1) := dk_42 (dk_at dksX17_commonPrefix_0 16 rfl rfl)
theorem dX17_commonPrefix_17 : decode cX17_commonPrefix 17 = .ok (.getfield 1, 3) := dk_180 0 1 (dk_at dksX17_commonPrefix_0 17 rfl rfl)
theorem dX17_commonPrefix_20 : decode cX17_commonPrefix 20 = .ok (.getfield 17, 3) := dk_180 0 17 (dk_at dksX17_commonPrefix_0 20 rfl rfl)
theorem dX17_commonPrefix_23 : decode cX17_commonPrefix 23 = .ok (.invokevirtual 23, 3) := dk_182 0 23 (dk_at dksX17_commonPrefix_1 0 rfl rfl)
theorem dX17_commonPrefix_26 : decode cX17_commonPrefix 26 = .ok (.if_icmp .ge 33, 3) := dk_162 0 33 (dk_at dksX17_commonPrefix_1 3 rfl rfl)
theorem dX17_commonPrefix_29 : decode cX17_commonPrefix 29 = .ok (.aload_n 0, 1) := dk_42 (dk_at dksX17_commonPrefix_1 6 rfl rfl)
theorem dX17_commonPrefix_30 : decode cX17_commonPrefix 30 = .ok (.getfield 1, 3) := dk_180 0 1 (dk_at dksX17_commonPrefix_1 7 rfl rfl)
theorem dX17_commonPrefix_33 : decode cX17_commonPrefix 33 = .ok (.getfield 17, 3) := dk_180 0 17 (dk_at dksX17_commonPrefix_1 10 rfl rfl)
theorem dX17_commonPrefix_36 : decode cX17_commonPrefix 36 = .ok (.aload_n 0, 1) := dk_42 (dk_at dksX17_commonPrefix_1 13 rfl rfl)
theorem dX17_commonPrefix_37 : decode cX17_commonPrefix 37 = .ok (.getfield 13, 3) := dk_180 0 13 (dk_at dksX17_commonPrefix_1 14 rfl rfl)
theorem dX17_commonPrefix_40 : decode cX17_commonPrefix 40 = .ok (.iload_n 2, 1) := dk_28 (dk_at dksX17_commonPrefix_1 17 rfl rfl)
theorem dX17_commonPrefix_41 : decode cX17_commonPrefix 41 = .ok (.iadd, 1) := dk_96 (dk_at dksX17_commonPrefix_1 18 rfl rfl)
theorem dX17_commonPrefix_42 : decode cX17_commonPrefix 42 = .ok (.invokevirtual 29, 3) := dk_182 0 29 (dk_at dksX17_commonPrefix_1 19 rfl rfl)
theorem dX17_commonPrefix_45 : decode cX17_commonPrefix 45 = .ok (.aload_n 1, 1) := dk_43 (dk_at dksX17_commonPrefix_1 22 rfl rfl)
theorem dX17_commonPrefix_46 : decode cX17_commonPrefix 46 = .ok (.iload_n 2, 1) := dk_28 (dk_at dksX17_commonPrefix_1 23 rfl rfl)
theorem dX17_commonPrefix_47 : decode cX17_commonPrefix 47 = .ok (.invokevirtual 44, 3) := dk_182 0 44 (dk_at dksX17_commonPrefix_2 0 rfl rfl)
theorem dX17_commonPrefix_50 : decode cX17_commonPrefix 50 = .ok (.if_icmp .ne 9, 3) := dk_160 0 9 (dk_at dksX17_commonPrefix_2 3 rfl rfl)
theorem dX17_commonPrefix_53 : decode cX17_commonPrefix 53 = .ok (.iinc 2 1, 3) := dk_132 2 1 (dk_at dksX17_commonPrefix_2 6 rfl rfl)
theorem dX17_commonPrefix_56 : decode cX17_commonPrefix 56 = .ok (.goto (-54), 3) := dk_167 255 202 (dk_at dksX17_commonPrefix_2 9 rfl rfl)
theorem dX17_commonPrefix_59 : decode cX17_commonPrefix 59 = .ok (.iload_n 2, 1) := dk_28 (dk_at dksX17_commonPrefix_2 12 rfl rfl)
theorem dX17_commonPrefix_60 : decode cX17_commonPrefix 60 = .ok (.ireturn, 1) := dk_172 (dk_at dksX17_commonPrefix_2 13 rfl rfl)
abbrev cX17_digit : ByteArray := prog_11_method_7_code
def yX17_digit : MethodName := ⟨RX17, "digit", "()I"⟩
def dkwX17_digit_1 : List UInt8 := [181, 0, 13, 42, 180, 0, 1, 180, 0, 17, 42, 180, 0, 13, 4, 100, 182, 0, 29, 16, 48, 100, 172]
abbrev dktX17_digit_1 : List UInt8 := dkwX17_digit_1 ++ []
def dkwX17_digit_0 : List UInt8 := [42, 42, 182, 0, 38, 16, 48, 16, 57, 184, 0, 55, 182, 0, 59, 42, 89, 180, 0, 13, 4, 96]
abbrev dktX17_digit_0 : List UInt8 := dkwX17_digit_0 ++ dktX17_digit_1
theorem dksX17_digit_0 : cX17_digit.data.toList.drop 0 = dktX17_digit_0 := by decide +kernel
theorem dksX17_digit_1 : cX17_digit.data.toList.drop 22 = dktX17_digit_1 := dk_seg dksX17_digit_0 22 rfl rfl
theorem dX17_digit_0 : decode cX17_digit 0 = .ok (.aload_n 0, 1) := dk_42 (dk_at dksX17_digit_0 0 rfl rfl)
theorem dX17_digit_1 : decode cX17_digit 1 = .ok (.aload_n 0, 1) := dk_42 (dk_at dksX17_digit_0 1 rfl rfl)
theorem dX17_digit_2 : decode cX17_digit 2 = .ok (.invokevirtual 38, 3) := dk_182 0 38 (dk_at dksX17_digit_0 2 rfl rfl)
theorem dX17_digit_5 : decode cX17_digit 5 = .ok (.bipush 48, 2) := dk_16 48 (dk_at dksX17_digit_0 5 rfl rfl)
theorem dX17_digit_7 : decode cX17_digit 7 = .ok (.bipush 57, 2) := dk_16 57 (dk_at dksX17_digit_0 7 rfl rfl)
theorem dX17_digit_9 : decode cX17_digit 9 = .ok (.invokestatic 55, 3) := dk_184 0 55 (dk_at dksX17_digit_0 9 rfl rfl)
theorem dX17_digit_12 : decode cX17_digit 12 = .ok (.invokevirtual 59, 3) := dk_182 0 59 (dk_at dksX17_digit_0 12 rfl rfl)
theorem dX17_digit_15 : decode cX17_digit 15 = .ok (.aload_n 0, 1) := dk_42 (dk_at dksX17_digit_0 15 rfl rfl)
theorem dX17_digit_16 : decode cX17_digit 16 = .ok (.dup, 1) := dk_89 (dk_at dksX17_digit_0 16 rfl rfl)
theorem dX17_digit_17 : decode cX17_digit 17 = .ok (.getfield 13, 3) := dk_180 0 13 (dk_at dksX17_digit_0 17 rfl rfl)
theorem dX17_digit_20 : decode cX17_digit 20 = .ok (.iconst 1, 1) := dk_4 (dk_at dksX17_digit_0 20 rfl rfl)
theorem dX17_digit_21 : decode cX17_digit 21 = .ok (.iadd, 1) := dk_96 (dk_at dksX17_digit_0 21 rfl rfl)
theorem dX17_digit_22 : decode cX17_digit 22 = .ok (.putfield 13, 3) := dk_181 0 13 (dk_at dksX17_digit_1 0 rfl rfl)
theorem dX17_digit_25 : decode cX17_digit 25 = .ok (.aload_n 0, 1) := dk_42 (dk_at dksX17_digit_1 3 rfl rfl)
theorem dX17_digit_26 : decode cX17_digit 26 = .ok (.getfield 1, 3) := dk_180 0 1 (dk_at dksX17_digit_1 4 rfl rfl)
theorem dX17_digit_29 : decode cX17_digit 29 = .ok (.getfield 17, 3) := dk_180 0 17 (dk_at dksX17_digit_1 7 rfl rfl)
theorem dX17_digit_32 : decode cX17_digit 32 = .ok (.aload_n 0, 1) := dk_42 (dk_at dksX17_digit_1 10 rfl rfl)
theorem dX17_digit_33 : decode cX17_digit 33 = .ok (.getfield 13, 3) := dk_180 0 13 (dk_at dksX17_digit_1 11 rfl rfl)
theorem dX17_digit_36 : decode cX17_digit 36 = .ok (.iconst 1, 1) := dk_4 (dk_at dksX17_digit_1 14 rfl rfl)
theorem dX17_digit_37 : decode cX17_digit 37 = .ok (.isub, 1) := dk_100 (dk_at dksX17_digit_1 15 rfl rfl)
theorem dX17_digit_38 : decode cX17_digit 38 = .ok (.invokevirtual 29, 3) := dk_182 0 29 (dk_at dksX17_digit_1 16 rfl rfl)
theorem dX17_digit_41 : decode cX17_digit 41 = .ok (.bipush 48, 2) := dk_16 48 (dk_at dksX17_digit_1 19 rfl rfl)
theorem dX17_digit_43 : decode cX17_digit 43 = .ok (.isub, 1) := dk_100 (dk_at dksX17_digit_1 21 rfl rfl)
theorem dX17_digit_44 : decode cX17_digit 44 = .ok (.ireturn, 1) := dk_172 (dk_at dksX17_digit_1 22 rfl rfl)
abbrev cX17_current : ByteArray := prog_11_method_2_code
def yX17_current : MethodName := ⟨RX17, "current", "()I"⟩
def dkwX17_current_1 : List UInt8 := [42, 180, 0, 13, 182, 0, 29, 167, 0, 4, 2, 172]
abbrev dktX17_current_1 : List UInt8 := dkwX17_current_1 ++ []
def dkwX17_current_0 : List UInt8 := [42, 180, 0, 13, 42, 180, 0, 1, 180, 0, 17, 182, 0, 23, 162, 0, 20, 42, 180, 0, 1, 180, 0, 17]
abbrev dktX17_current_0 : List UInt8 := dkwX17_current_0 ++ dktX17_current_1
theorem dksX17_current_0 : cX17_current.data.toList.drop 0 = dktX17_current_0 := by decide +kernel
theorem dksX17_current_1 : cX17_current.data.toList.drop 24 = dktX17_current_1 := dk_seg dksX17_current_0 24 rfl rfl
theorem dX17_current_0 : decode cX17_current 0 = .ok (.aload_n 0, 1) := dk_42 (dk_at dksX17_current_0 0 rfl rfl)
theorem dX17_current_1 : decode cX17_current 1 = .ok (.getfield 13, 3) := dk_180 0 13 (dk_at dksX17_current_0 1 rfl rfl)
theorem dX17_current_4 : decode cX17_current 4 = .ok (.aload_n 0, 1) := dk_42 (dk_at dksX17_current_0 4 rfl rfl)
theorem dX17_current_5 : decode cX17_current 5 = .ok (.getfield 1, 3) := dk_180 0 1 (dk_at dksX17_current_0 5 rfl rfl)
theorem dX17_current_8 : decode cX17_current 8 = .ok (.getfield 17, 3) := dk_180 0 17 (dk_at dksX17_current_0 8 rfl rfl)
theorem dX17_current_11 : decode cX17_current 11 = .ok (.invokevirtual 23, 3) := dk_182 0 23 (dk_at dksX17_current_0 11 rfl rfl)
theorem dX17_current_14 : decode cX17_current 14 = .ok (.if_icmp .ge 20, 3) := dk_162 0 20 (dk_at dksX17_current_0 14 rfl rfl)
theorem dX17_current_17 : decode cX17_current 17 = .ok (.aload_n 0, 1) := dk_42 (dk_at dksX17_current_0 17 rfl rfl)
theorem dX17_current_18 : decode cX17_current 18 = .ok (.getfield 1, 3) := dk_180 0 1 (dk_at dksX17_current_0 18 rfl rfl)
theorem dX17_current_21 : decode cX17_current 21 = .ok (.getfield 17, 3) := dk_180 0 17 (dk_at dksX17_current_0 21 rfl rfl)
theorem dX17_current_24 : decode cX17_current 24 = .ok (.aload_n 0, 1) := dk_42 (dk_at dksX17_current_1 0 rfl rfl)
theorem dX17_current_25 : decode cX17_current 25 = .ok (.getfield 13, 3) := dk_180 0 13 (dk_at dksX17_current_1 1 rfl rfl)
theorem dX17_current_28 : decode cX17_current 28 = .ok (.invokevirtual 29, 3) := dk_182 0 29 (dk_at dksX17_current_1 4 rfl rfl)
theorem dX17_current_31 : decode cX17_current 31 = .ok (.goto 4, 3) := dk_167 0 4 (dk_at dksX17_current_1 7 rfl rfl)
theorem dX17_current_34 : decode cX17_current 34 = .ok (.iconst (-1), 1) := dk_2 (dk_at dksX17_current_1 10 rfl rfl)
theorem dX17_current_35 : decode cX17_current 35 = .ok (.ireturn, 1) := dk_172 (dk_at dksX17_current_1 11 rfl rfl)
abbrev cX17_require : ByteArray := prog_11_method_3_code
def yX17_require : MethodName := ⟨RX17, "require", "(Z)V"⟩
def dkwX17_require_0 : List UInt8 := [27, 154, 0, 15, 187, 0, 33, 89, 42, 180, 0, 13, 183, 0, 35, 191, 177]
abbrev dktX17_require_0 : List UInt8 := dkwX17_require_0 ++ []
theorem dksX17_require_0 : cX17_require.data.toList.drop 0 = dktX17_require_0 := by decide +kernel
theorem dX17_require_0 : decode cX17_require 0 = .ok (.iload_n 1, 1) := dk_27 (dk_at dksX17_require_0 0 rfl rfl)
theorem dX17_require_1 : decode cX17_require 1 = .ok (.ifCond .ne 15, 3) := dk_154 0 15 (dk_at dksX17_require_0 1 rfl rfl)
theorem dX17_require_4 : decode cX17_require 4 = .ok (.new 33, 3) := dk_187 0 33 (dk_at dksX17_require_0 4 rfl rfl)
theorem dX17_require_7 : decode cX17_require 7 = .ok (.dup, 1) := dk_89 (dk_at dksX17_require_0 7 rfl rfl)
theorem dX17_require_8 : decode cX17_require 8 = .ok (.aload_n 0, 1) := dk_42 (dk_at dksX17_require_0 8 rfl rfl)
theorem dX17_require_9 : decode cX17_require 9 = .ok (.getfield 13, 3) := dk_180 0 13 (dk_at dksX17_require_0 9 rfl rfl)
theorem dX17_require_12 : decode cX17_require 12 = .ok (.invokespecial 35, 3) := dk_183 0 35 (dk_at dksX17_require_0 12 rfl rfl)
theorem dX17_require_15 : decode cX17_require 15 = .ok (.athrow, 1) := dk_191 (dk_at dksX17_require_0 15 rfl rfl)
theorem dX17_require_16 : decode cX17_require 16 = .ok (.return_, 1) := dk_177 (dk_at dksX17_require_0 16 rfl rfl)
abbrev cX17_accept : ByteArray := prog_11_method_4_code
def yX17_accept : MethodName := ⟨RX17, "accept", "(I)Z"⟩
def dkwX17_accept_1 : List UInt8 := [167, 0, 4, 3, 96, 181, 0, 13, 28, 172]
abbrev dktX17_accept_1 : List UInt8 := dkwX17_accept_1 ++ []
def dkwX17_accept_0 : List UInt8 := [42, 182, 0, 38, 27, 160, 0, 7, 4, 167, 0, 4, 3, 61, 42, 89, 180, 0, 13, 28, 153, 0, 7, 4]
abbrev dktX17_accept_0 : List UInt8 := dkwX17_accept_0 ++ dktX17_accept_1
theorem dksX17_accept_0 : cX17_accept.data.toList.drop 0 = dktX17_accept_0 := by decide +kernel
theorem dksX17_accept_1 : cX17_accept.data.toList.drop 24 = dktX17_accept_1 := dk_seg dksX17_accept_0 24 rfl rfl
theorem dX17_accept_0 : decode cX17_accept 0 = .ok (.aload_n 0, 1) := dk_42 (dk_at dksX17_accept_0 0 rfl rfl)
theorem dX17_accept_1 : decode cX17_accept 1 = .ok (.invokevirtual 38, 3) := dk_182 0 38 (dk_at dksX17_accept_0 1 rfl rfl)
theorem dX17_accept_4 : decode cX17_accept 4 = .ok (.iload_n 1, 1) := dk_27 (dk_at dksX17_accept_0 4 rfl rfl)
theorem dX17_accept_5 : decode cX17_accept 5 = .ok (.if_icmp .ne 7, 3) := dk_160 0 7 (dk_at dksX17_accept_0 5 rfl rfl)
theorem dX17_accept_8 : decode cX17_accept 8 = .ok (.iconst 1, 1) := dk_4 (dk_at dksX17_accept_0 8 rfl rfl)
theorem dX17_accept_9 : decode cX17_accept 9 = .ok (.goto 4, 3) := dk_167 0 4 (dk_at dksX17_accept_0 9 rfl rfl)
theorem dX17_accept_12 : decode cX17_accept 12 = .ok (.iconst 0, 1) := dk_3 (dk_at dksX17_accept_0 12 rfl rfl)
theorem dX17_accept_13 : decode cX17_accept 13 = .ok (.istore_n 2, 1) := dk_61 (dk_at dksX17_accept_0 13 rfl rfl)
theorem dX17_accept_14 : decode cX17_accept 14 = .ok (.aload_n 0, 1) := dk_42 (dk_at dksX17_accept_0 14 rfl rfl)
theorem dX17_accept_15 : decode cX17_accept 15 = .ok (.dup, 1) := dk_89 (dk_at dksX17_accept_0 15 rfl rfl)
theorem dX17_accept_16 : decode cX17_accept 16 = .ok (.getfield 13, 3) := dk_180 0 13 (dk_at dksX17_accept_0 16 rfl rfl)
theorem dX17_accept_19 : decode cX17_accept 19 = .ok (.iload_n 2, 1) := dk_28 (dk_at dksX17_accept_0 19 rfl rfl)
theorem dX17_accept_20 : decode cX17_accept 20 = .ok (.ifCond .eq 7, 3) := dk_153 0 7 (dk_at dksX17_accept_0 20 rfl rfl)
theorem dX17_accept_23 : decode cX17_accept 23 = .ok (.iconst 1, 1) := dk_4 (dk_at dksX17_accept_0 23 rfl rfl)
theorem dX17_accept_24 : decode cX17_accept 24 = .ok (.goto 4, 3) := dk_167 0 4 (dk_at dksX17_accept_1 0 rfl rfl)
theorem dX17_accept_27 : decode cX17_accept 27 = .ok (.iconst 0, 1) := dk_3 (dk_at dksX17_accept_1 3 rfl rfl)
theorem dX17_accept_28 : decode cX17_accept 28 = .ok (.iadd, 1) := dk_96 (dk_at dksX17_accept_1 4 rfl rfl)
theorem dX17_accept_29 : decode cX17_accept 29 = .ok (.putfield 13, 3) := dk_181 0 13 (dk_at dksX17_accept_1 5 rfl rfl)
theorem dX17_accept_32 : decode cX17_accept 32 = .ok (.iload_n 2, 1) := dk_28 (dk_at dksX17_accept_1 8 rfl rfl)
theorem dX17_accept_33 : decode cX17_accept 33 = .ok (.ireturn, 1) := dk_172 (dk_at dksX17_accept_1 9 rfl rfl)
theorem q124 : (Jvm.Cond.initialized "GateGrammar$Parser") ∈ lw_all := lw_g (lw_at lw_m1 49 rfl) rfl
theorem q597 : (Jvm.Cond.selects "GateGrammar$Parser" ({ cls := "java/lang/Object", name := "getClass", desc := "()Ljava/lang/Class;" } : Jvm.MethodName) ({ cls := "java/lang/Object", name := "getClass", desc := "()Ljava/lang/Class;" } : Jvm.MethodName)) ∈ lw_all := lw_g (lw_at lw_m3 42 rfl) rfl
theorem q1042 : (Jvm.Cond.fieldLinkNest "GateGrammar$Parser" (17 : Nat) "GateGrammar" "text" "Ljava/lang/StringBuilder;" "GateGrammar") ∈ lw_tbl := lw_at lw_m5 7 rfl
theorem q2103 : (Jvm.Cond.instantiable "GateGrammar$Parser" (2 : Nat)) ∈ lw_all := lw_g (lw_at lw_m9 108 rfl) rfl
theorem q2105 : (Jvm.Cond.instanceMethod ({ cls := "GateGrammar$Parser", name := "<init>", desc := "(LGateGrammar;)V" } : Jvm.MethodName)) ∈ lw_all := lw_g (lw_at lw_m9 110 rfl) rfl
theorem q2106 : (Jvm.Cond.code ({ cls := "GateGrammar$Parser", name := "<init>", desc := "(LGateGrammar;)V" } : Jvm.MethodName) prog_11_method_1_code (2 : Nat) (Option.none : Option Jvm.ClassFile.FieldType)) ∈ lw_all := lw_g (lw_at lw_m9 111 rfl) rfl
theorem q2107 : (Jvm.Cond.methodLink "GateGrammar$Parser" (7 : Nat) ({ cls := "java/lang/Object", name := "<init>", desc := "()V" } : Jvm.MethodName)) ∈ lw_all := lw_g (lw_at lw_m9 112 rfl) rfl
theorem q2108 : (Jvm.Cond.fieldLink "GateGrammar$Parser" (13 : Nat) "GateGrammar$Parser" "position" "I") ∈ lw_all := lw_g (lw_at lw_m9 113 rfl) rfl
theorem q2109 : (Jvm.Cond.fieldLink "GateGrammar$Parser" (1 : Nat) "GateGrammar$Parser" "this$0" "LGateGrammar;") ∈ lw_all := lw_g (lw_at lw_m9 114 rfl) rfl
theorem q2110 : (Jvm.Cond.lays "GateGrammar$Parser" "GateGrammar$Parser" "position" "I") ∈ lw_all := lw_g (lw_at lw_m9 115 rfl) rfl
theorem q2111 : (Jvm.Cond.soleField "GateGrammar$Parser" "position") ∈ lw_all := lw_g (lw_at lw_m9 116 rfl) rfl
theorem q2112 : (Jvm.Cond.laysFinal "GateGrammar$Parser" "GateGrammar$Parser" "this$0" "LGateGrammar;") ∈ lw_all := lw_g (lw_at lw_m9 117 rfl) rfl
theorem q2113 : (Jvm.Cond.soleField "GateGrammar$Parser" "this$0") ∈ lw_all := lw_g (lw_at lw_m9 118 rfl) rfl
theorem q2114 : (Jvm.Cond.superclass "GateGrammar$Parser" "java/lang/Object") ∈ lw_all := lw_g (lw_at lw_m9 119 rfl) rfl
theorem q2116 : (Jvm.Cond.instanceMethod ({ cls := "GateGrammar$Parser", name := "commands", desc := "()Ljava/util/LinkedList;" } : Jvm.MethodName)) ∈ lw_all := lw_g (lw_at lw_m9 121 rfl) rfl
theorem q2117 : (Jvm.Cond.selects "GateGrammar$Parser" ({ cls := "GateGrammar$Parser", name := "commands", desc := "()Ljava/util/LinkedList;" } : Jvm.MethodName) ({ cls := "GateGrammar$Parser", name := "commands", desc := "()Ljava/util/LinkedList;" } : Jvm.MethodName)) ∈ lw_all := lw_g (lw_at lw_m9 122 rfl) rfl
theorem q2118 : (Jvm.Cond.code ({ cls := "GateGrammar$Parser", name := "commands", desc := "()Ljava/util/LinkedList;" } : Jvm.MethodName) prog_11_method_9_code (2 : Nat) (Option.some (Jvm.ClassFile.FieldType.object "java/util/LinkedList"))) ∈ lw_all := lw_g (lw_at lw_m9 123 rfl) rfl
theorem q2119 : (Jvm.Cond.classLink "GateGrammar$Parser" (99 : Nat) "java/util/LinkedList") ∈ lw_all := lw_g (lw_at lw_m9 124 rfl) rfl
theorem q2120 : (Jvm.Cond.methodLink "GateGrammar$Parser" (101 : Nat) ({ cls := "java/util/LinkedList", name := "<init>", desc := "()V" } : Jvm.MethodName)) ∈ lw_all := lw_g (lw_at lw_m9 125 rfl) rfl
theorem q2139 : (Jvm.Cond.methodLink "GateGrammar$Parser" (102 : Nat) ({ cls := "GateGrammar$Parser", name := "command", desc := "()LGateGrammar$Command;" } : Jvm.MethodName)) ∈ lw_all := lw_g (lw_at lw_m9 144 rfl) rfl
theorem q2140 : (Jvm.Cond.privateMethod ({ cls := "GateGrammar$Parser", name := "command", desc := "()LGateGrammar$Command;" } : Jvm.MethodName)) ∈ lw_tbl := lw_at lw_m9 145 rfl
theorem q2141 : (Jvm.Cond.instanceMethod ({ cls := "GateGrammar$Parser", name := "command", desc := "()LGateGrammar$Command;" } : Jvm.MethodName)) ∈ lw_all := lw_g (lw_at lw_m9 146 rfl) rfl
theorem q2142 : (Jvm.Cond.code ({ cls := "GateGrammar$Parser", name := "command", desc := "()LGateGrammar$Command;" } : Jvm.MethodName) prog_11_method_8_code (4 : Nat) (Option.some (Jvm.ClassFile.FieldType.object "GateGrammar$Command"))) ∈ lw_all := lw_g (lw_at lw_m9 147 rfl) rfl
theorem q2143 : (Jvm.Cond.classLink "GateGrammar$Parser" (42 : Nat) "java/lang/String") ∈ lw_all := lw_g (lw_at lw_m9 148 rfl) rfl
theorem q2145 : (Jvm.Cond.stringRef "GateGrammar$Parser" (63 : Nat) "noun ") ∈ lw_tbl := lw_at lw_m9 150 rfl
theorem q2146 : (Jvm.Cond.stringRef "GateGrammar$Parser" (65 : Nat) "verb ") ∈ lw_tbl := lw_at lw_m9 151 rfl
theorem q2147 : (Jvm.Cond.stringRef "GateGrammar$Parser" (67 : Nat) "open ") ∈ lw_tbl := lw_at lw_m9 152 rfl
theorem q2148 : (Jvm.Cond.stringRef "GateGrammar$Parser" (69 : Nat) "close ") ∈ lw_tbl := lw_at lw_m9 153 rfl
theorem q2149 : (Jvm.Cond.stringRef "GateGrammar$Parser" (71 : Nat) "and ") ∈ lw_tbl := lw_at lw_m9 154 rfl
theorem q2150 : (Jvm.Cond.stringRef "GateGrammar$Parser" (73 : Nat) "drop ") ∈ lw_tbl := lw_at lw_m9 155 rfl
theorem q2151 : (Jvm.Cond.stringRef "GateGrammar$Parser" (75 : Nat) "swing ") ∈ lw_tbl := lw_at lw_m9 156 rfl
theorem q2152 : (Jvm.Cond.stringRef "GateGrammar$Parser" (77 : Nat) "walk ") ∈ lw_tbl := lw_at lw_m9 157 rfl
theorem q2153 : (Jvm.Cond.methodLink "GateGrammar$Parser" (79 : Nat) ({ cls := "GateGrammar$Parser", name := "keyword", desc := "([Ljava/lang/String;)Ljava/lang/String;" } : Jvm.MethodName)) ∈ lw_all := lw_g (lw_at lw_m9 158 rfl) rfl
theorem q2154 : (Jvm.Cond.privateMethod ({ cls := "GateGrammar$Parser", name := "keyword", desc := "([Ljava/lang/String;)Ljava/lang/String;" } : Jvm.MethodName)) ∈ lw_tbl := lw_at lw_m9 159 rfl
theorem q2155 : (Jvm.Cond.instanceMethod ({ cls := "GateGrammar$Parser", name := "keyword", desc := "([Ljava/lang/String;)Ljava/lang/String;" } : Jvm.MethodName)) ∈ lw_all := lw_g (lw_at lw_m9 160 rfl) rfl
theorem q2156 : (Jvm.Cond.code ({ cls := "GateGrammar$Parser", name := "keyword", desc := "([Ljava/lang/String;)Ljava/lang/String;" } : Jvm.MethodName) prog_11_method_6_code (8 : Nat) (Option.some (Jvm.ClassFile.FieldType.object "java/lang/String"))) ∈ lw_all := lw_g (lw_at lw_m9 161 rfl) rfl
theorem q2157 : (Jvm.Cond.methodLink "GateGrammar$Parser" (45 : Nat) ({ cls := "GateGrammar$Parser", name := "commonPrefix", desc := "(Ljava/lang/String;)I" } : Jvm.MethodName)) ∈ lw_all := lw_g (lw_at lw_m9 162 rfl) rfl
theorem q2158 : (Jvm.Cond.privateMethod ({ cls := "GateGrammar$Parser", name := "commonPrefix", desc := "(Ljava/lang/String;)I" } : Jvm.MethodName)) ∈ lw_tbl := lw_at lw_m9 163 rfl
theorem q2159 : (Jvm.Cond.instanceMethod ({ cls := "GateGrammar$Parser", name := "commonPrefix", desc := "(Ljava/lang/String;)I" } : Jvm.MethodName)) ∈ lw_all := lw_g (lw_at lw_m9 164 rfl) rfl
theorem q2160 : (Jvm.Cond.code ({ cls := "GateGrammar$Parser", name := "commonPrefix", desc := "(Ljava/lang/String;)I" } : Jvm.MethodName) prog_11_method_5_code (3 : Nat) (Option.some Jvm.ClassFile.FieldType.int)) ∈ lw_all := lw_g (lw_at lw_m9 165 rfl) rfl
theorem q2161 : (Jvm.Cond.methodLink "GateGrammar$Parser" (41 : Nat) ({ cls := "java/lang/String", name := "length", desc := "()I" } : Jvm.MethodName)) ∈ lw_all := lw_g (lw_at lw_m9 166 rfl) rfl
theorem q2162 : (Jvm.Cond.methodLink "GateGrammar$Parser" (23 : Nat) ({ cls := "java/lang/StringBuilder", name := "length", desc := "()I" } : Jvm.MethodName)) ∈ lw_all := lw_g (lw_at lw_m9 167 rfl) rfl
theorem q2163 : (Jvm.Cond.methodLink "GateGrammar$Parser" (29 : Nat) ({ cls := "java/lang/StringBuilder", name := "charAt", desc := "(I)C" } : Jvm.MethodName)) ∈ lw_all := lw_g (lw_at lw_m9 168 rfl) rfl
theorem q2173 : (Jvm.Cond.methodLink "GateGrammar$Parser" (44 : Nat) ({ cls := "java/lang/String", name := "charAt", desc := "(I)C" } : Jvm.MethodName)) ∈ lw_all := lw_g (lw_at lw_m9 178 rfl) rfl
theorem q2174 : (Jvm.Cond.methodLink "GateGrammar$Parser" (49 : Nat) ({ cls := "java/lang/Math", name := "max", desc := "(II)I" } : Jvm.MethodName)) ∈ lw_all := lw_g (lw_at lw_m9 179 rfl) rfl
theorem q2175 : (Jvm.Cond.classLink "GateGrammar$Parser" (33 : Nat) "GateGrammar$SyntaxError") ∈ lw_all := lw_g (lw_at lw_m9 180 rfl) rfl
theorem q2184 : (Jvm.Cond.methodLink "GateGrammar$Parser" (35 : Nat) ({ cls := "GateGrammar$SyntaxError", name := "<init>", desc := "(I)V" } : Jvm.MethodName)) ∈ lw_all := lw_g (lw_at lw_m9 189 rfl) rfl
theorem q2194 : (Jvm.Cond.methodLink "GateGrammar$Parser" (83 : Nat) ({ cls := "GateGrammar$Parser", name := "digit", desc := "()I" } : Jvm.MethodName)) ∈ lw_all := lw_g (lw_at lw_m9 199 rfl) rfl
theorem q2195 : (Jvm.Cond.privateMethod ({ cls := "GateGrammar$Parser", name := "digit", desc := "()I" } : Jvm.MethodName)) ∈ lw_tbl := lw_at lw_m9 200 rfl
theorem q2196 : (Jvm.Cond.instanceMethod ({ cls := "GateGrammar$Parser", name := "digit", desc := "()I" } : Jvm.MethodName)) ∈ lw_all := lw_g (lw_at lw_m9 201 rfl) rfl
theorem q2197 : (Jvm.Cond.code ({ cls := "GateGrammar$Parser", name := "digit", desc := "()I" } : Jvm.MethodName) prog_11_method_7_code (1 : Nat) (Option.some Jvm.ClassFile.FieldType.int)) ∈ lw_all := lw_g (lw_at lw_m9 202 rfl) rfl
theorem q2198 : (Jvm.Cond.methodLink "GateGrammar$Parser" (38 : Nat) ({ cls := "GateGrammar$Parser", name := "current", desc := "()I" } : Jvm.MethodName)) ∈ lw_all := lw_g (lw_at lw_m9 203 rfl) rfl
theorem q2199 : (Jvm.Cond.privateMethod ({ cls := "GateGrammar$Parser", name := "current", desc := "()I" } : Jvm.MethodName)) ∈ lw_tbl := lw_at lw_m9 204 rfl
theorem q2200 : (Jvm.Cond.instanceMethod ({ cls := "GateGrammar$Parser", name := "current", desc := "()I" } : Jvm.MethodName)) ∈ lw_all := lw_g (lw_at lw_m9 205 rfl) rfl
theorem q2201 : (Jvm.Cond.code ({ cls := "GateGrammar$Parser", name := "current", desc := "()I" } : Jvm.MethodName) prog_11_method_2_code (1 : Nat) (Option.some Jvm.ClassFile.FieldType.int)) ∈ lw_all := lw_g (lw_at lw_m9 206 rfl) rfl
theorem q2202 : (Jvm.Cond.methodLinkNest "GateGrammar$Parser" (55 : Nat) ({ cls := "GateGrammar", name := "isBetween", desc := "(III)Z" } : Jvm.MethodName) "GateGrammar") ∈ lw_tbl := lw_at lw_m9 207 rfl
theorem q2203 : (Jvm.Cond.methodLink "GateGrammar$Parser" (59 : Nat) ({ cls := "GateGrammar$Parser", name := "require", desc := "(Z)V" } : Jvm.MethodName)) ∈ lw_all := lw_g (lw_at lw_m9 208 rfl) rfl
theorem q2204 : (Jvm.Cond.privateMethod ({ cls := "GateGrammar$Parser", name := "require", desc := "(Z)V" } : Jvm.MethodName)) ∈ lw_tbl := lw_at lw_m9 209 rfl
theorem q2205 : (Jvm.Cond.instanceMethod ({ cls := "GateGrammar$Parser", name := "require", desc := "(Z)V" } : Jvm.MethodName)) ∈ lw_all := lw_g (lw_at lw_m9 210 rfl) rfl
theorem q2206 : (Jvm.Cond.code ({ cls := "GateGrammar$Parser", name := "require", desc := "(Z)V" } : Jvm.MethodName) prog_11_method_3_code (2 : Nat) (Option.none : Option Jvm.ClassFile.FieldType)) ∈ lw_all := lw_g (lw_at lw_m9 211 rfl) rfl
theorem q2207 : (Jvm.Cond.methodLink "GateGrammar$Parser" (86 : Nat) ({ cls := "java/lang/String", name := "equals", desc := "(Ljava/lang/Object;)Z" } : Jvm.MethodName)) ∈ lw_all := lw_g (lw_at lw_m9 212 rfl) rfl
theorem q2215 : (Jvm.Cond.classLink "GateGrammar$Parser" (90 : Nat) "GateGrammar$Command") ∈ lw_all := lw_g (lw_at lw_m9 220 rfl) rfl
theorem q2217 : (Jvm.Cond.methodLink "GateGrammar$Parser" (92 : Nat) ({ cls := "GateGrammar$Command", name := "<init>", desc := "(LGateGrammar;Ljava/lang/String;III)V" } : Jvm.MethodName)) ∈ lw_all := lw_g (lw_at lw_m9 222 rfl) rfl
theorem q2237 : (Jvm.Cond.methodLink "GateGrammar$Parser" (95 : Nat) ({ cls := "GateGrammar$Parser", name := "accept", desc := "(I)Z" } : Jvm.MethodName)) ∈ lw_all := lw_g (lw_at lw_m10 2 rfl) rfl
theorem q2238 : (Jvm.Cond.privateMethod ({ cls := "GateGrammar$Parser", name := "accept", desc := "(I)Z" } : Jvm.MethodName)) ∈ lw_tbl := lw_at lw_m10 3 rfl
theorem q2239 : (Jvm.Cond.instanceMethod ({ cls := "GateGrammar$Parser", name := "accept", desc := "(I)Z" } : Jvm.MethodName)) ∈ lw_all := lw_g (lw_at lw_m10 4 rfl) rfl
theorem q2240 : (Jvm.Cond.code ({ cls := "GateGrammar$Parser", name := "accept", desc := "(I)Z" } : Jvm.MethodName) prog_11_method_4_code (3 : Nat) (Option.some Jvm.ClassFile.FieldType.boolean)) ∈ lw_all := lw_g (lw_at lw_m10 5 rfl) rfl
theorem q2241 : (Jvm.Cond.methodLink "GateGrammar$Parser" (106 : Nat) ({ cls := "java/util/LinkedList", name := "addLast", desc := "(Ljava/lang/Object;)V" } : Jvm.MethodName)) ∈ lw_all := lw_g (lw_at lw_m10 6 rfl) rfl
theorem q3067 : (Jvm.Cond.castable "GateGrammar$Parser" "java/lang/Object") ∈ lw_tbl := lw_at lw_m13 112 rfl
theorem in_X17 : ∀ w ∈ wsX170, w ∈ lw_all := lw_in wsX170 [2110, 2112] (by decide +kernel) (by decide +kernel)

/-! GateGrammar$SyntaxError -/
set_option maxRecDepth 100000
def RX18 : String := "GateGrammar$SyntaxError"
def TX18 : u_T := fun k => match k with
  | 0 => ("java/lang/Throwable", "cause", "Ljava/lang/Throwable;", false)
  | 1 => ("java/lang/Throwable", "stackTrace", "[Ljava/lang/StackTraceElement;", false)
  | 2 => ("java/lang/Throwable", "suppressedExceptions", "Ljava/util/List;", false)
  | 3 => ("java/lang/Throwable", "detailMessage", "Ljava/lang/String;", false)
  | 4 => ("java/lang/Throwable", "backtrace", "Ljava/lang/Object;", false)
  | 5 => ("java/lang/Throwable", "depth", "I", false)
  | _ => ("GateGrammar$SyntaxError", "position", "I", true)
def tyX18 : Nat → FieldType := fun k => match k with
  | 0 => .object "java/lang/Throwable"
  | 1 => .array (.object "java/lang/StackTraceElement")
  | 2 => .object "java/util/List"
  | 3 => .object "java/lang/String"
  | 4 => .object "java/lang/Object"
  | 5 => .int
  | _ => .int
abbrev wsX180 : List Cond := u_ws RX18 TX18 7
theorem nmX18 : ∀ a, a < 7 → ∀ b, b < 7 → a ≠ b → (TX18 a).2.1 ≠ (TX18 b).2.1 := by decide +kernel
theorem tyX18_ok : ∀ k, k < 7 → parseFieldDescriptor (TX18 k).2.2.1 = some (tyX18 k) := by decide +kernel
abbrev cX18_init : ByteArray := prog_19_method_1_code
def yX18_init : MethodName := ⟨RX18, "<init>", "(I)V"⟩
def dkwX18_init_0 : List UInt8 := [42, 1, 1, 3, 3, 183, 0, 1, 42, 27, 181, 0, 7, 177]
abbrev dktX18_init_0 : List UInt8 := dkwX18_init_0 ++ []
theorem dksX18_init_0 : cX18_init.data.toList.drop 0 = dktX18_init_0 := by decide +kernel
theorem dX18_init_0 : decode cX18_init 0 = .ok (.aload_n 0, 1) := dk_42 (dk_at dksX18_init_0 0 rfl rfl)
theorem dX18_init_1 : decode cX18_init 1 = .ok (.aconst_null, 1) := dk_1 (dk_at dksX18_init_0 1 rfl rfl)
theorem dX18_init_2 : decode cX18_init 2 = .ok (.aconst_null, 1) := dk_1 (dk_at dksX18_init_0 2 rfl rfl)
theorem dX18_init_3 : decode cX18_init 3 = .ok (.iconst 0, 1) := dk_3 (dk_at dksX18_init_0 3 rfl rfl)
theorem dX18_init_4 : decode cX18_init 4 = .ok (.iconst 0, 1) := dk_3 (dk_at dksX18_init_0 4 rfl rfl)
theorem dX18_init_5 : decode cX18_init 5 = .ok (.invokespecial 1, 3) := dk_183 0 1 (dk_at dksX18_init_0 5 rfl rfl)
theorem dX18_init_8 : decode cX18_init 8 = .ok (.aload_n 0, 1) := dk_42 (dk_at dksX18_init_0 8 rfl rfl)
theorem dX18_init_9 : decode cX18_init 9 = .ok (.iload_n 1, 1) := dk_27 (dk_at dksX18_init_0 9 rfl rfl)
theorem dX18_init_10 : decode cX18_init 10 = .ok (.putfield 7, 3) := dk_181 0 7 (dk_at dksX18_init_0 10 rfl rfl)
theorem dX18_init_13 : decode cX18_init 13 = .ok (.return_, 1) := dk_177 (dk_at dksX18_init_0 13 rfl rfl)
theorem q127 : (Jvm.Cond.initialized "GateGrammar$SyntaxError") ∈ lw_all := lw_g (lw_at lw_m1 52 rfl) rfl
theorem q223 : (Jvm.Cond.selects "GateGrammar$SyntaxError" ({ cls := "java/lang/Throwable", name := "fillInStackTrace", desc := "()Ljava/lang/Throwable;" } : Jvm.MethodName) ({ cls := "java/lang/Throwable", name := "fillInStackTrace", desc := "()Ljava/lang/Throwable;" } : Jvm.MethodName)) ∈ lw_all := lw_g (lw_at lw_m1 148 rfl) rfl
theorem q603 : (Jvm.Cond.selects "GateGrammar$SyntaxError" ({ cls := "java/lang/Object", name := "getClass", desc := "()Ljava/lang/Class;" } : Jvm.MethodName) ({ cls := "java/lang/Object", name := "getClass", desc := "()Ljava/lang/Class;" } : Jvm.MethodName)) ∈ lw_all := lw_g (lw_at lw_m3 48 rfl) rfl
theorem q908 : (Jvm.Cond.selects "GateGrammar$SyntaxError" ({ cls := "java/lang/Throwable", name := "toString", desc := "()Ljava/lang/String;" } : Jvm.MethodName) ({ cls := "java/lang/Throwable", name := "toString", desc := "()Ljava/lang/String;" } : Jvm.MethodName)) ∈ lw_all := lw_g (lw_at lw_m4 113 rfl) rfl
theorem q922 : (Jvm.Cond.selects "GateGrammar$SyntaxError" ({ cls := "java/lang/Throwable", name := "getLocalizedMessage", desc := "()Ljava/lang/String;" } : Jvm.MethodName) ({ cls := "java/lang/Throwable", name := "getLocalizedMessage", desc := "()Ljava/lang/String;" } : Jvm.MethodName)) ∈ lw_all := lw_g (lw_at lw_m4 127 rfl) rfl
theorem q935 : (Jvm.Cond.selects "GateGrammar$SyntaxError" ({ cls := "java/lang/Throwable", name := "getMessage", desc := "()Ljava/lang/String;" } : Jvm.MethodName) ({ cls := "java/lang/Throwable", name := "getMessage", desc := "()Ljava/lang/String;" } : Jvm.MethodName)) ∈ lw_all := lw_g (lw_at lw_m4 140 rfl) rfl
theorem q2176 : (Jvm.Cond.instantiable "GateGrammar$SyntaxError" (7 : Nat)) ∈ lw_all := lw_g (lw_at lw_m9 181 rfl) rfl
theorem q2177 : (Jvm.Cond.castable "GateGrammar$SyntaxError" "GateGrammar$SyntaxError") ∈ lw_tbl := lw_at lw_m9 182 rfl
theorem q2178 : (Jvm.Cond.selects "GateGrammar$SyntaxError" ({ cls := "java/lang/Throwable", name := "fillInStackTrace", desc := "(I)Ljava/lang/Throwable;" } : Jvm.MethodName) ({ cls := "java/lang/Throwable", name := "fillInStackTrace", desc := "(I)Ljava/lang/Throwable;" } : Jvm.MethodName)) ∈ lw_all := lw_g (lw_at lw_m9 183 rfl) rfl
theorem q2179 : (Jvm.Cond.lays "GateGrammar$SyntaxError" "java/lang/Throwable" "cause" "Ljava/lang/Throwable;") ∈ lw_all := lw_g (lw_at lw_m9 184 rfl) rfl
theorem q2180 : (Jvm.Cond.lays "GateGrammar$SyntaxError" "java/lang/Throwable" "stackTrace" "[Ljava/lang/StackTraceElement;") ∈ lw_all := lw_g (lw_at lw_m9 185 rfl) rfl
theorem q2181 : (Jvm.Cond.lays "GateGrammar$SyntaxError" "java/lang/Throwable" "suppressedExceptions" "Ljava/util/List;") ∈ lw_all := lw_g (lw_at lw_m9 186 rfl) rfl
theorem q2182 : (Jvm.Cond.lays "GateGrammar$SyntaxError" "java/lang/Throwable" "detailMessage" "Ljava/lang/String;") ∈ lw_all := lw_g (lw_at lw_m9 187 rfl) rfl
theorem q2183 : (Jvm.Cond.lays "GateGrammar$SyntaxError" "java/lang/Throwable" "backtrace" "Ljava/lang/Object;") ∈ lw_all := lw_g (lw_at lw_m9 188 rfl) rfl
theorem q2185 : (Jvm.Cond.instanceMethod ({ cls := "GateGrammar$SyntaxError", name := "<init>", desc := "(I)V" } : Jvm.MethodName)) ∈ lw_all := lw_g (lw_at lw_m9 190 rfl) rfl
theorem q2186 : (Jvm.Cond.code ({ cls := "GateGrammar$SyntaxError", name := "<init>", desc := "(I)V" } : Jvm.MethodName) prog_19_method_1_code (2 : Nat) (Option.none : Option Jvm.ClassFile.FieldType)) ∈ lw_all := lw_g (lw_at lw_m9 191 rfl) rfl
theorem q2187 : (Jvm.Cond.methodLink "GateGrammar$SyntaxError" (1 : Nat) ({ cls := "java/lang/Exception", name := "<init>", desc := "(Ljava/lang/String;Ljava/lang/Throwable;ZZ)V" } : Jvm.MethodName)) ∈ lw_all := lw_g (lw_at lw_m9 192 rfl) rfl
theorem q2188 : (Jvm.Cond.fieldLink "GateGrammar$SyntaxError" (7 : Nat) "GateGrammar$SyntaxError" "position" "I") ∈ lw_all := lw_g (lw_at lw_m9 193 rfl) rfl
theorem q2190 : (Jvm.Cond.laysFinal "GateGrammar$SyntaxError" "GateGrammar$SyntaxError" "position" "I") ∈ lw_all := lw_g (lw_at lw_m9 195 rfl) rfl
theorem q2191 : (Jvm.Cond.soleField "GateGrammar$SyntaxError" "position") ∈ lw_all := lw_g (lw_at lw_m9 196 rfl) rfl
theorem q2192 : (Jvm.Cond.lays "GateGrammar$SyntaxError" "java/lang/Throwable" "depth" "I") ∈ lw_all := lw_g (lw_at lw_m9 197 rfl) rfl
theorem q2193 : (Jvm.Cond.superclass "GateGrammar$SyntaxError" "java/lang/Exception") ∈ lw_all := lw_g (lw_at lw_m9 198 rfl) rfl
theorem q3069 : (Jvm.Cond.castable "GateGrammar$SyntaxError" "java/lang/Object") ∈ lw_tbl := lw_at lw_m13 114 rfl
theorem in_X18 : ∀ w ∈ wsX180, w ∈ lw_all := lw_in wsX180 [2179, 2180, 2181, 2182, 2183, 2192, 2190] (by decide +kernel) (by decide +kernel)

/-! GateGrammar$Command -/
set_option maxRecDepth 100000
def RX19 : String := "GateGrammar$Command"
def TX19 : u_T := fun k => match k with
  | 0 => ("GateGrammar$Command", "keyword", "Ljava/lang/String;", true)
  | 1 => ("GateGrammar$Command", "gate", "I", true)
  | 2 => ("GateGrammar$Command", "word", "I", true)
  | 3 => ("GateGrammar$Command", "detail", "I", true)
  | _ => ("GateGrammar$Command", "this$0", "LGateGrammar;", true)
def tyX19 : Nat → FieldType := fun k => match k with
  | 0 => .object "java/lang/String"
  | 1 => .int
  | 2 => .int
  | 3 => .int
  | _ => .object "GateGrammar"
abbrev wsX190 : List Cond := u_ws RX19 TX19 5
theorem nmX19 : ∀ a, a < 5 → ∀ b, b < 5 → a ≠ b → (TX19 a).2.1 ≠ (TX19 b).2.1 := by decide +kernel
theorem tyX19_ok : ∀ k, k < 5 → parseFieldDescriptor (TX19 k).2.2.1 = some (tyX19 k) := by decide +kernel
abbrev cX19_init : ByteArray := prog_5_method_1_code
def yX19_init : MethodName := ⟨RX19, "<init>", "(LGateGrammar;Ljava/lang/String;III)V"⟩
def dkwX19_init_1 : List UInt8 := [181, 0, 23, 42, 21, 5, 181, 0, 26, 177]
abbrev dktX19_init_1 : List UInt8 := dkwX19_init_1 ++ []
def dkwX19_init_0 : List UInt8 := [42, 43, 181, 0, 3, 42, 183, 0, 9, 42, 44, 181, 0, 15, 42, 29, 181, 0, 19, 42, 21, 4]
abbrev dktX19_init_0 : List UInt8 := dkwX19_init_0 ++ dktX19_init_1
theorem dksX19_init_0 : cX19_init.data.toList.drop 0 = dktX19_init_0 := by decide +kernel
theorem dksX19_init_1 : cX19_init.data.toList.drop 22 = dktX19_init_1 := dk_seg dksX19_init_0 22 rfl rfl
theorem dX19_init_0 : decode cX19_init 0 = .ok (.aload_n 0, 1) := dk_42 (dk_at dksX19_init_0 0 rfl rfl)
theorem dX19_init_1 : decode cX19_init 1 = .ok (.aload_n 1, 1) := dk_43 (dk_at dksX19_init_0 1 rfl rfl)
theorem dX19_init_2 : decode cX19_init 2 = .ok (.putfield 3, 3) := dk_181 0 3 (dk_at dksX19_init_0 2 rfl rfl)
theorem dX19_init_5 : decode cX19_init 5 = .ok (.aload_n 0, 1) := dk_42 (dk_at dksX19_init_0 5 rfl rfl)
theorem dX19_init_6 : decode cX19_init 6 = .ok (.invokespecial 9, 3) := dk_183 0 9 (dk_at dksX19_init_0 6 rfl rfl)
theorem dX19_init_9 : decode cX19_init 9 = .ok (.aload_n 0, 1) := dk_42 (dk_at dksX19_init_0 9 rfl rfl)
theorem dX19_init_10 : decode cX19_init 10 = .ok (.aload_n 2, 1) := dk_44 (dk_at dksX19_init_0 10 rfl rfl)
theorem dX19_init_11 : decode cX19_init 11 = .ok (.putfield 15, 3) := dk_181 0 15 (dk_at dksX19_init_0 11 rfl rfl)
theorem dX19_init_14 : decode cX19_init 14 = .ok (.aload_n 0, 1) := dk_42 (dk_at dksX19_init_0 14 rfl rfl)
theorem dX19_init_15 : decode cX19_init 15 = .ok (.iload_n 3, 1) := dk_29 (dk_at dksX19_init_0 15 rfl rfl)
theorem dX19_init_16 : decode cX19_init 16 = .ok (.putfield 19, 3) := dk_181 0 19 (dk_at dksX19_init_0 16 rfl rfl)
theorem dX19_init_19 : decode cX19_init 19 = .ok (.aload_n 0, 1) := dk_42 (dk_at dksX19_init_0 19 rfl rfl)
theorem dX19_init_20 : decode cX19_init 20 = .ok (.iload 4, 2) := dk_21 4 (dk_at dksX19_init_0 20 rfl rfl)
theorem dX19_init_22 : decode cX19_init 22 = .ok (.putfield 23, 3) := dk_181 0 23 (dk_at dksX19_init_1 0 rfl rfl)
theorem dX19_init_25 : decode cX19_init 25 = .ok (.aload_n 0, 1) := dk_42 (dk_at dksX19_init_1 3 rfl rfl)
theorem dX19_init_26 : decode cX19_init 26 = .ok (.iload 5, 2) := dk_21 5 (dk_at dksX19_init_1 4 rfl rfl)
theorem dX19_init_28 : decode cX19_init 28 = .ok (.putfield 26, 3) := dk_181 0 26 (dk_at dksX19_init_1 6 rfl rfl)
theorem dX19_init_31 : decode cX19_init 31 = .ok (.return_, 1) := dk_177 (dk_at dksX19_init_1 9 rfl rfl)
abbrev cX19_execute : ByteArray := prog_5_method_3_code
def yX19_execute : MethodName := ⟨RX19, "execute", "(LGateGrammar$State;)Z"⟩
def dkwX19_execute_0 : List UInt8 := [42, 43, 182, 0, 81, 155, 0, 7, 4, 167, 0, 4, 3, 172, 77, 3, 172]
abbrev dktX19_execute_0 : List UInt8 := dkwX19_execute_0 ++ []
theorem dksX19_execute_0 : cX19_execute.data.toList.drop 0 = dktX19_execute_0 := by decide +kernel
theorem dX19_execute_0 : decode cX19_execute 0 = .ok (.aload_n 0, 1) := dk_42 (dk_at dksX19_execute_0 0 rfl rfl)
theorem dX19_execute_1 : decode cX19_execute 1 = .ok (.aload_n 1, 1) := dk_43 (dk_at dksX19_execute_0 1 rfl rfl)
theorem dX19_execute_2 : decode cX19_execute 2 = .ok (.invokevirtual 81, 3) := dk_182 0 81 (dk_at dksX19_execute_0 2 rfl rfl)
theorem dX19_execute_5 : decode cX19_execute 5 = .ok (.ifCond .lt 7, 3) := dk_155 0 7 (dk_at dksX19_execute_0 5 rfl rfl)
theorem dX19_execute_8 : decode cX19_execute 8 = .ok (.iconst 1, 1) := dk_4 (dk_at dksX19_execute_0 8 rfl rfl)
theorem dX19_execute_9 : decode cX19_execute 9 = .ok (.goto 4, 3) := dk_167 0 4 (dk_at dksX19_execute_0 9 rfl rfl)
theorem dX19_execute_12 : decode cX19_execute 12 = .ok (.iconst 0, 1) := dk_3 (dk_at dksX19_execute_0 12 rfl rfl)
theorem dX19_execute_13 : decode cX19_execute 13 = .ok (.ireturn, 1) := dk_172 (dk_at dksX19_execute_0 13 rfl rfl)
theorem dX19_execute_14 : decode cX19_execute 14 = .ok (.astore_n 2, 1) := dk_77 (dk_at dksX19_execute_0 14 rfl rfl)
theorem dX19_execute_15 : decode cX19_execute 15 = .ok (.iconst 0, 1) := dk_3 (dk_at dksX19_execute_0 15 rfl rfl)
theorem dX19_execute_16 : decode cX19_execute 16 = .ok (.ireturn, 1) := dk_172 (dk_at dksX19_execute_0 16 rfl rfl)
abbrev cX19_apply : ByteArray := prog_5_method_2_code
def yX19_apply : MethodName := ⟨RX19, "apply", "(LGateGrammar$State;)I"⟩
def dkwX19_apply_12 : List UInt8 := [184, 0, 74, 167, 0, 15, 42, 180, 0, 3, 43, 42, 180, 0, 19, 182, 0, 78, 172]
abbrev dktX19_apply_12 : List UInt8 := dkwX19_apply_12 ++ []
def dkwX19_apply_11 : List UInt8 := [167, 0, 40, 43, 42, 180, 0, 19, 182, 0, 66, 182, 0, 69, 167, 0, 26, 43, 42, 180, 0, 19]
abbrev dktX19_apply_11 : List UInt8 := dkwX19_apply_11 ++ dktX19_apply_12
def dkwX19_apply_10 : List UInt8 := [167, 0, 64, 43, 42, 180, 0, 19, 6, 182, 0, 62, 167, 0, 52, 43, 42, 180, 0, 19, 7, 182, 0, 62]
abbrev dktX19_apply_10 : List UInt8 := dkwX19_apply_10 ++ dktX19_apply_11
def dkwX19_apply_9 : List UInt8 := [42, 180, 0, 23, 42, 180, 0, 26, 182, 0, 59, 167, 0, 76, 43, 42, 180, 0, 19, 5, 182, 0, 62]
abbrev dktX19_apply_9 : List UInt8 := dkwX19_apply_9 ++ dktX19_apply_10
def dkwX19_apply_8 : List UInt8 := [43, 42, 180, 0, 19, 42, 180, 0, 23, 42, 180, 0, 26, 182, 0, 53, 167, 0, 95, 43, 42, 180, 0, 19]
abbrev dktX19_apply_8 : List UInt8 := dkwX19_apply_8 ++ dktX19_apply_9
def dkwX19_apply_7 : List UInt8 := [170, 0, 0, 0, 0, 0, 142, 0, 0, 0, 0, 0, 0, 0, 6, 0, 0, 0, 43, 0, 0, 0, 62, 0, 0, 0, 81, 0, 0, 0, 93, 0, 0, 0, 105, 0, 0, 0, 117, 0, 0, 0, 131]
abbrev dktX19_apply_7 : List UInt8 := dkwX19_apply_7 ++ dktX19_apply_8
def dkwX19_apply_6 : List UInt8 := [62, 29]
abbrev dktX19_apply_6 : List UInt8 := dkwX19_apply_6 ++ dktX19_apply_7
def dkwX19_apply_5 : List UInt8 := [18, 49, 182, 0, 37, 153, 0, 20, 8, 62, 167, 0, 15, 44, 18, 51, 182, 0, 37, 153, 0, 6, 16, 6]
abbrev dktX19_apply_5 : List UInt8 := dkwX19_apply_5 ++ dktX19_apply_6
def dkwX19_apply_4 : List UInt8 := [153, 0, 48, 6, 62, 167, 0, 43, 44, 18, 47, 182, 0, 37, 153, 0, 34, 7, 62, 167, 0, 29, 44]
abbrev dktX19_apply_4 : List UInt8 := dkwX19_apply_4 ++ dktX19_apply_5
def dkwX19_apply_3 : List UInt8 := [62, 167, 0, 71, 44, 18, 43, 182, 0, 37, 153, 0, 62, 5, 62, 167, 0, 57, 44, 18, 45, 182, 0, 37]
abbrev dktX19_apply_3 : List UInt8 := dkwX19_apply_3 ++ dktX19_apply_4
def dkwX19_apply_2 : List UInt8 := [44, 18, 35, 182, 0, 37, 153, 0, 90, 3, 62, 167, 0, 85, 44, 18, 41, 182, 0, 37, 153, 0, 76, 4]
abbrev dktX19_apply_2 : List UInt8 := dkwX19_apply_2 ++ dktX19_apply_3
def dkwX19_apply_1 : List UInt8 := [171, 0, 0, 0, 161, 0, 0, 0, 7, 175, 21, 225, 40, 0, 0, 0, 107, 202, 251, 160, 226, 0, 0, 0, 149, 0, 45, 193, 41, 0, 0, 0, 121, 5, 182, 175, 17, 0, 0, 0, 135, 6, 66, 83, 70, 0, 0, 0, 65, 6, 80, 163, 22, 0, 0, 0, 93, 6, 174, 118, 225, 0, 0, 0, 79]
abbrev dktX19_apply_1 : List UInt8 := dkwX19_apply_1 ++ dktX19_apply_2
def dkwX19_apply_0 : List UInt8 := [42, 180, 0, 15, 77, 2, 62, 44, 182, 0, 29]
abbrev dktX19_apply_0 : List UInt8 := dkwX19_apply_0 ++ dktX19_apply_1
theorem dksX19_apply_0 : cX19_apply.data.toList.drop 0 = dktX19_apply_0 := by decide +kernel
theorem dksX19_apply_1 : cX19_apply.data.toList.drop 11 = dktX19_apply_1 := dk_seg dksX19_apply_0 11 rfl rfl
theorem dksX19_apply_2 : cX19_apply.data.toList.drop 76 = dktX19_apply_2 := dk_seg dksX19_apply_1 65 rfl rfl
theorem dksX19_apply_3 : cX19_apply.data.toList.drop 100 = dktX19_apply_3 := dk_seg dksX19_apply_2 24 rfl rfl
theorem dksX19_apply_4 : cX19_apply.data.toList.drop 124 = dktX19_apply_4 := dk_seg dksX19_apply_3 24 rfl rfl
theorem dksX19_apply_5 : cX19_apply.data.toList.drop 147 = dktX19_apply_5 := dk_seg dksX19_apply_4 23 rfl rfl
theorem dksX19_apply_6 : cX19_apply.data.toList.drop 171 = dktX19_apply_6 := dk_seg dksX19_apply_5 24 rfl rfl
theorem dksX19_apply_7 : cX19_apply.data.toList.drop 173 = dktX19_apply_7 := dk_seg dksX19_apply_6 2 rfl rfl
theorem dksX19_apply_8 : cX19_apply.data.toList.drop 216 = dktX19_apply_8 := dk_seg dksX19_apply_7 43 rfl rfl
theorem dksX19_apply_9 : cX19_apply.data.toList.drop 240 = dktX19_apply_9 := dk_seg dksX19_apply_8 24 rfl rfl
theorem dksX19_apply_10 : cX19_apply.data.toList.drop 263 = dktX19_apply_10 := dk_seg dksX19_apply_9 23 rfl rfl
theorem dksX19_apply_11 : cX19_apply.data.toList.drop 287 = dktX19_apply_11 := dk_seg dksX19_apply_10 24 rfl rfl
theorem dksX19_apply_12 : cX19_apply.data.toList.drop 309 = dktX19_apply_12 := dk_seg dksX19_apply_11 22 rfl rfl
theorem dX19_apply_0 : decode cX19_apply 0 = .ok (.aload_n 0, 1) := dk_42 (dk_at dksX19_apply_0 0 rfl rfl)
theorem dX19_apply_1 : decode cX19_apply 1 = .ok (.getfield 15, 3) := dk_180 0 15 (dk_at dksX19_apply_0 1 rfl rfl)
theorem dX19_apply_4 : decode cX19_apply 4 = .ok (.astore_n 2, 1) := dk_77 (dk_at dksX19_apply_0 4 rfl rfl)
theorem dX19_apply_5 : decode cX19_apply 5 = .ok (.iconst (-1), 1) := dk_2 (dk_at dksX19_apply_0 5 rfl rfl)
theorem dX19_apply_6 : decode cX19_apply 6 = .ok (.istore_n 3, 1) := dk_62 (dk_at dksX19_apply_0 6 rfl rfl)
theorem dX19_apply_7 : decode cX19_apply 7 = .ok (.aload_n 2, 1) := dk_44 (dk_at dksX19_apply_0 7 rfl rfl)
theorem dX19_apply_8 : decode cX19_apply 8 = .ok (.invokevirtual 29, 3) := dk_182 0 29 (dk_at dksX19_apply_0 8 rfl rfl)
theorem dX19_apply_11 : decode cX19_apply 11 = .ok (.lookupswitch 161 #[(-1357520600, 107), (-889478942, 149), (2998569, 121), (95858449, 135), (105009990, 65), (105947926, 93), (112096993, 79)], 65) := by decide +kernel
theorem dX19_apply_76 : decode cX19_apply 76 = .ok (.aload_n 2, 1) := dk_44 (dk_at dksX19_apply_2 0 rfl rfl)
theorem dX19_apply_77 : decode cX19_apply 77 = .ok (.ldc 35, 2) := dk_18 35 (dk_at dksX19_apply_2 1 rfl rfl)
theorem dX19_apply_79 : decode cX19_apply 79 = .ok (.invokevirtual 37, 3) := dk_182 0 37 (dk_at dksX19_apply_2 3 rfl rfl)
theorem dX19_apply_82 : decode cX19_apply 82 = .ok (.ifCond .eq 90, 3) := dk_153 0 90 (dk_at dksX19_apply_2 6 rfl rfl)
theorem dX19_apply_85 : decode cX19_apply 85 = .ok (.iconst 0, 1) := dk_3 (dk_at dksX19_apply_2 9 rfl rfl)
theorem dX19_apply_86 : decode cX19_apply 86 = .ok (.istore_n 3, 1) := dk_62 (dk_at dksX19_apply_2 10 rfl rfl)
theorem dX19_apply_87 : decode cX19_apply 87 = .ok (.goto 85, 3) := dk_167 0 85 (dk_at dksX19_apply_2 11 rfl rfl)
theorem dX19_apply_90 : decode cX19_apply 90 = .ok (.aload_n 2, 1) := dk_44 (dk_at dksX19_apply_2 14 rfl rfl)
theorem dX19_apply_91 : decode cX19_apply 91 = .ok (.ldc 41, 2) := dk_18 41 (dk_at dksX19_apply_2 15 rfl rfl)
theorem dX19_apply_93 : decode cX19_apply 93 = .ok (.invokevirtual 37, 3) := dk_182 0 37 (dk_at dksX19_apply_2 17 rfl rfl)
theorem dX19_apply_96 : decode cX19_apply 96 = .ok (.ifCond .eq 76, 3) := dk_153 0 76 (dk_at dksX19_apply_2 20 rfl rfl)
theorem dX19_apply_99 : decode cX19_apply 99 = .ok (.iconst 1, 1) := dk_4 (dk_at dksX19_apply_2 23 rfl rfl)
theorem dX19_apply_100 : decode cX19_apply 100 = .ok (.istore_n 3, 1) := dk_62 (dk_at dksX19_apply_3 0 rfl rfl)
theorem dX19_apply_101 : decode cX19_apply 101 = .ok (.goto 71, 3) := dk_167 0 71 (dk_at dksX19_apply_3 1 rfl rfl)
theorem dX19_apply_104 : decode cX19_apply 104 = .ok (.aload_n 2, 1) := dk_44 (dk_at dksX19_apply_3 4 rfl rfl)
theorem dX19_apply_105 : decode cX19_apply 105 = .ok (.ldc 43, 2) := dk_18 43 (dk_at dksX19_apply_3 5 rfl rfl)
theorem dX19_apply_107 : decode cX19_apply 107 = .ok (.invokevirtual 37, 3) := dk_182 0 37 (dk_at dksX19_apply_3 7 rfl rfl)
theorem dX19_apply_110 : decode cX19_apply 110 = .ok (.ifCond .eq 62, 3) := dk_153 0 62 (dk_at dksX19_apply_3 10 rfl rfl)
theorem dX19_apply_113 : decode cX19_apply 113 = .ok (.iconst 2, 1) := dk_5 (dk_at dksX19_apply_3 13 rfl rfl)
theorem dX19_apply_114 : decode cX19_apply 114 = .ok (.istore_n 3, 1) := dk_62 (dk_at dksX19_apply_3 14 rfl rfl)
theorem dX19_apply_115 : decode cX19_apply 115 = .ok (.goto 57, 3) := dk_167 0 57 (dk_at dksX19_apply_3 15 rfl rfl)
theorem dX19_apply_118 : decode cX19_apply 118 = .ok (.aload_n 2, 1) := dk_44 (dk_at dksX19_apply_3 18 rfl rfl)
theorem dX19_apply_119 : decode cX19_apply 119 = .ok (.ldc 45, 2) := dk_18 45 (dk_at dksX19_apply_3 19 rfl rfl)
theorem dX19_apply_121 : decode cX19_apply 121 = .ok (.invokevirtual 37, 3) := dk_182 0 37 (dk_at dksX19_apply_3 21 rfl rfl)
theorem dX19_apply_124 : decode cX19_apply 124 = .ok (.ifCond .eq 48, 3) := dk_153 0 48 (dk_at dksX19_apply_4 0 rfl rfl)
theorem dX19_apply_127 : decode cX19_apply 127 = .ok (.iconst 3, 1) := dk_6 (dk_at dksX19_apply_4 3 rfl rfl)
theorem dX19_apply_128 : decode cX19_apply 128 = .ok (.istore_n 3, 1) := dk_62 (dk_at dksX19_apply_4 4 rfl rfl)
theorem dX19_apply_129 : decode cX19_apply 129 = .ok (.goto 43, 3) := dk_167 0 43 (dk_at dksX19_apply_4 5 rfl rfl)
theorem dX19_apply_132 : decode cX19_apply 132 = .ok (.aload_n 2, 1) := dk_44 (dk_at dksX19_apply_4 8 rfl rfl)
theorem dX19_apply_133 : decode cX19_apply 133 = .ok (.ldc 47, 2) := dk_18 47 (dk_at dksX19_apply_4 9 rfl rfl)
theorem dX19_apply_135 : decode cX19_apply 135 = .ok (.invokevirtual 37, 3) := dk_182 0 37 (dk_at dksX19_apply_4 11 rfl rfl)
theorem dX19_apply_138 : decode cX19_apply 138 = .ok (.ifCond .eq 34, 3) := dk_153 0 34 (dk_at dksX19_apply_4 14 rfl rfl)
theorem dX19_apply_141 : decode cX19_apply 141 = .ok (.iconst 4, 1) := dk_7 (dk_at dksX19_apply_4 17 rfl rfl)
theorem dX19_apply_142 : decode cX19_apply 142 = .ok (.istore_n 3, 1) := dk_62 (dk_at dksX19_apply_4 18 rfl rfl)
theorem dX19_apply_143 : decode cX19_apply 143 = .ok (.goto 29, 3) := dk_167 0 29 (dk_at dksX19_apply_4 19 rfl rfl)
theorem dX19_apply_146 : decode cX19_apply 146 = .ok (.aload_n 2, 1) := dk_44 (dk_at dksX19_apply_4 22 rfl rfl)
theorem dX19_apply_147 : decode cX19_apply 147 = .ok (.ldc 49, 2) := dk_18 49 (dk_at dksX19_apply_5 0 rfl rfl)
theorem dX19_apply_149 : decode cX19_apply 149 = .ok (.invokevirtual 37, 3) := dk_182 0 37 (dk_at dksX19_apply_5 2 rfl rfl)
theorem dX19_apply_152 : decode cX19_apply 152 = .ok (.ifCond .eq 20, 3) := dk_153 0 20 (dk_at dksX19_apply_5 5 rfl rfl)
theorem dX19_apply_155 : decode cX19_apply 155 = .ok (.iconst 5, 1) := dk_8 (dk_at dksX19_apply_5 8 rfl rfl)
theorem dX19_apply_156 : decode cX19_apply 156 = .ok (.istore_n 3, 1) := dk_62 (dk_at dksX19_apply_5 9 rfl rfl)
theorem dX19_apply_157 : decode cX19_apply 157 = .ok (.goto 15, 3) := dk_167 0 15 (dk_at dksX19_apply_5 10 rfl rfl)
theorem dX19_apply_160 : decode cX19_apply 160 = .ok (.aload_n 2, 1) := dk_44 (dk_at dksX19_apply_5 13 rfl rfl)
theorem dX19_apply_161 : decode cX19_apply 161 = .ok (.ldc 51, 2) := dk_18 51 (dk_at dksX19_apply_5 14 rfl rfl)
theorem dX19_apply_163 : decode cX19_apply 163 = .ok (.invokevirtual 37, 3) := dk_182 0 37 (dk_at dksX19_apply_5 16 rfl rfl)
theorem dX19_apply_166 : decode cX19_apply 166 = .ok (.ifCond .eq 6, 3) := dk_153 0 6 (dk_at dksX19_apply_5 19 rfl rfl)
theorem dX19_apply_169 : decode cX19_apply 169 = .ok (.bipush 6, 2) := dk_16 6 (dk_at dksX19_apply_5 22 rfl rfl)
theorem dX19_apply_171 : decode cX19_apply 171 = .ok (.istore_n 3, 1) := dk_62 (dk_at dksX19_apply_6 0 rfl rfl)
theorem dX19_apply_172 : decode cX19_apply 172 = .ok (.iload_n 3, 1) := dk_29 (dk_at dksX19_apply_6 1 rfl rfl)
theorem dX19_apply_173 : decode cX19_apply 173 = .ok (.tableswitch 142 0 6 #[43, 62, 81, 93, 105, 117, 131], 43) := by decide +kernel
theorem dX19_apply_216 : decode cX19_apply 216 = .ok (.aload_n 1, 1) := dk_43 (dk_at dksX19_apply_8 0 rfl rfl)
theorem dX19_apply_217 : decode cX19_apply 217 = .ok (.aload_n 0, 1) := dk_42 (dk_at dksX19_apply_8 1 rfl rfl)
theorem dX19_apply_218 : decode cX19_apply 218 = .ok (.getfield 19, 3) := dk_180 0 19 (dk_at dksX19_apply_8 2 rfl rfl)
theorem dX19_apply_221 : decode cX19_apply 221 = .ok (.aload_n 0, 1) := dk_42 (dk_at dksX19_apply_8 5 rfl rfl)
theorem dX19_apply_222 : decode cX19_apply 222 = .ok (.getfield 23, 3) := dk_180 0 23 (dk_at dksX19_apply_8 6 rfl rfl)
theorem dX19_apply_225 : decode cX19_apply 225 = .ok (.aload_n 0, 1) := dk_42 (dk_at dksX19_apply_8 9 rfl rfl)
theorem dX19_apply_226 : decode cX19_apply 226 = .ok (.getfield 26, 3) := dk_180 0 26 (dk_at dksX19_apply_8 10 rfl rfl)
theorem dX19_apply_229 : decode cX19_apply 229 = .ok (.invokevirtual 53, 3) := dk_182 0 53 (dk_at dksX19_apply_8 13 rfl rfl)
theorem dX19_apply_232 : decode cX19_apply 232 = .ok (.goto 95, 3) := dk_167 0 95 (dk_at dksX19_apply_8 16 rfl rfl)
theorem dX19_apply_235 : decode cX19_apply 235 = .ok (.aload_n 1, 1) := dk_43 (dk_at dksX19_apply_8 19 rfl rfl)
theorem dX19_apply_236 : decode cX19_apply 236 = .ok (.aload_n 0, 1) := dk_42 (dk_at dksX19_apply_8 20 rfl rfl)
theorem dX19_apply_237 : decode cX19_apply 237 = .ok (.getfield 19, 3) := dk_180 0 19 (dk_at dksX19_apply_8 21 rfl rfl)
theorem dX19_apply_240 : decode cX19_apply 240 = .ok (.aload_n 0, 1) := dk_42 (dk_at dksX19_apply_9 0 rfl rfl)
theorem dX19_apply_241 : decode cX19_apply 241 = .ok (.getfield 23, 3) := dk_180 0 23 (dk_at dksX19_apply_9 1 rfl rfl)
theorem dX19_apply_244 : decode cX19_apply 244 = .ok (.aload_n 0, 1) := dk_42 (dk_at dksX19_apply_9 4 rfl rfl)
theorem dX19_apply_245 : decode cX19_apply 245 = .ok (.getfield 26, 3) := dk_180 0 26 (dk_at dksX19_apply_9 5 rfl rfl)
theorem dX19_apply_248 : decode cX19_apply 248 = .ok (.invokevirtual 59, 3) := dk_182 0 59 (dk_at dksX19_apply_9 8 rfl rfl)
theorem dX19_apply_251 : decode cX19_apply 251 = .ok (.goto 76, 3) := dk_167 0 76 (dk_at dksX19_apply_9 11 rfl rfl)
theorem dX19_apply_254 : decode cX19_apply 254 = .ok (.aload_n 1, 1) := dk_43 (dk_at dksX19_apply_9 14 rfl rfl)
theorem dX19_apply_255 : decode cX19_apply 255 = .ok (.aload_n 0, 1) := dk_42 (dk_at dksX19_apply_9 15 rfl rfl)
theorem dX19_apply_256 : decode cX19_apply 256 = .ok (.getfield 19, 3) := dk_180 0 19 (dk_at dksX19_apply_9 16 rfl rfl)
theorem dX19_apply_259 : decode cX19_apply 259 = .ok (.iconst 2, 1) := dk_5 (dk_at dksX19_apply_9 19 rfl rfl)
theorem dX19_apply_260 : decode cX19_apply 260 = .ok (.invokevirtual 62, 3) := dk_182 0 62 (dk_at dksX19_apply_9 20 rfl rfl)
theorem dX19_apply_263 : decode cX19_apply 263 = .ok (.goto 64, 3) := dk_167 0 64 (dk_at dksX19_apply_10 0 rfl rfl)
theorem dX19_apply_266 : decode cX19_apply 266 = .ok (.aload_n 1, 1) := dk_43 (dk_at dksX19_apply_10 3 rfl rfl)
theorem dX19_apply_267 : decode cX19_apply 267 = .ok (.aload_n 0, 1) := dk_42 (dk_at dksX19_apply_10 4 rfl rfl)
theorem dX19_apply_268 : decode cX19_apply 268 = .ok (.getfield 19, 3) := dk_180 0 19 (dk_at dksX19_apply_10 5 rfl rfl)
theorem dX19_apply_271 : decode cX19_apply 271 = .ok (.iconst 3, 1) := dk_6 (dk_at dksX19_apply_10 8 rfl rfl)
theorem dX19_apply_272 : decode cX19_apply 272 = .ok (.invokevirtual 62, 3) := dk_182 0 62 (dk_at dksX19_apply_10 9 rfl rfl)
theorem dX19_apply_275 : decode cX19_apply 275 = .ok (.goto 52, 3) := dk_167 0 52 (dk_at dksX19_apply_10 12 rfl rfl)
theorem dX19_apply_278 : decode cX19_apply 278 = .ok (.aload_n 1, 1) := dk_43 (dk_at dksX19_apply_10 15 rfl rfl)
theorem dX19_apply_279 : decode cX19_apply 279 = .ok (.aload_n 0, 1) := dk_42 (dk_at dksX19_apply_10 16 rfl rfl)
theorem dX19_apply_280 : decode cX19_apply 280 = .ok (.getfield 19, 3) := dk_180 0 19 (dk_at dksX19_apply_10 17 rfl rfl)
theorem dX19_apply_283 : decode cX19_apply 283 = .ok (.iconst 4, 1) := dk_7 (dk_at dksX19_apply_10 20 rfl rfl)
theorem dX19_apply_284 : decode cX19_apply 284 = .ok (.invokevirtual 62, 3) := dk_182 0 62 (dk_at dksX19_apply_10 21 rfl rfl)
theorem dX19_apply_287 : decode cX19_apply 287 = .ok (.goto 40, 3) := dk_167 0 40 (dk_at dksX19_apply_11 0 rfl rfl)
theorem dX19_apply_290 : decode cX19_apply 290 = .ok (.aload_n 1, 1) := dk_43 (dk_at dksX19_apply_11 3 rfl rfl)
theorem dX19_apply_291 : decode cX19_apply 291 = .ok (.aload_n 0, 1) := dk_42 (dk_at dksX19_apply_11 4 rfl rfl)
theorem dX19_apply_292 : decode cX19_apply 292 = .ok (.getfield 19, 3) := dk_180 0 19 (dk_at dksX19_apply_11 5 rfl rfl)
theorem dX19_apply_295 : decode cX19_apply 295 = .ok (.invokevirtual 66, 3) := dk_182 0 66 (dk_at dksX19_apply_11 8 rfl rfl)
theorem dX19_apply_298 : decode cX19_apply 298 = .ok (.invokevirtual 69, 3) := dk_182 0 69 (dk_at dksX19_apply_11 11 rfl rfl)
theorem dX19_apply_301 : decode cX19_apply 301 = .ok (.goto 26, 3) := dk_167 0 26 (dk_at dksX19_apply_11 14 rfl rfl)
theorem dX19_apply_304 : decode cX19_apply 304 = .ok (.aload_n 1, 1) := dk_43 (dk_at dksX19_apply_11 17 rfl rfl)
theorem dX19_apply_305 : decode cX19_apply 305 = .ok (.aload_n 0, 1) := dk_42 (dk_at dksX19_apply_11 18 rfl rfl)
theorem dX19_apply_306 : decode cX19_apply 306 = .ok (.getfield 19, 3) := dk_180 0 19 (dk_at dksX19_apply_11 19 rfl rfl)
theorem dX19_apply_309 : decode cX19_apply 309 = .ok (.invokestatic 74, 3) := dk_184 0 74 (dk_at dksX19_apply_12 0 rfl rfl)
theorem dX19_apply_312 : decode cX19_apply 312 = .ok (.goto 15, 3) := dk_167 0 15 (dk_at dksX19_apply_12 3 rfl rfl)
theorem dX19_apply_315 : decode cX19_apply 315 = .ok (.aload_n 0, 1) := dk_42 (dk_at dksX19_apply_12 6 rfl rfl)
theorem dX19_apply_316 : decode cX19_apply 316 = .ok (.getfield 3, 3) := dk_180 0 3 (dk_at dksX19_apply_12 7 rfl rfl)
theorem dX19_apply_319 : decode cX19_apply 319 = .ok (.aload_n 1, 1) := dk_43 (dk_at dksX19_apply_12 10 rfl rfl)
theorem dX19_apply_320 : decode cX19_apply 320 = .ok (.aload_n 0, 1) := dk_42 (dk_at dksX19_apply_12 11 rfl rfl)
theorem dX19_apply_321 : decode cX19_apply 321 = .ok (.getfield 19, 3) := dk_180 0 19 (dk_at dksX19_apply_12 12 rfl rfl)
theorem dX19_apply_324 : decode cX19_apply 324 = .ok (.invokevirtual 78, 3) := dk_182 0 78 (dk_at dksX19_apply_12 15 rfl rfl)
theorem dX19_apply_327 : decode cX19_apply 327 = .ok (.ireturn, 1) := dk_172 (dk_at dksX19_apply_12 18 rfl rfl)
theorem q128 : (Jvm.Cond.initialized "GateGrammar$Command") ∈ lw_all := lw_g (lw_at lw_m1 53 rfl) rfl
theorem q592 : (Jvm.Cond.selects "GateGrammar$Command" ({ cls := "java/lang/Object", name := "getClass", desc := "()Ljava/lang/Class;" } : Jvm.MethodName) ({ cls := "java/lang/Object", name := "getClass", desc := "()Ljava/lang/Class;" } : Jvm.MethodName)) ∈ lw_all := lw_g (lw_at lw_m3 37 rfl) rfl
theorem q2216 : (Jvm.Cond.instantiable "GateGrammar$Command" (5 : Nat)) ∈ lw_all := lw_g (lw_at lw_m9 221 rfl) rfl
theorem q2218 : (Jvm.Cond.instanceMethod ({ cls := "GateGrammar$Command", name := "<init>", desc := "(LGateGrammar;Ljava/lang/String;III)V" } : Jvm.MethodName)) ∈ lw_all := lw_g (lw_at lw_m9 223 rfl) rfl
theorem q2219 : (Jvm.Cond.code ({ cls := "GateGrammar$Command", name := "<init>", desc := "(LGateGrammar;Ljava/lang/String;III)V" } : Jvm.MethodName) prog_5_method_1_code (6 : Nat) (Option.none : Option Jvm.ClassFile.FieldType)) ∈ lw_all := lw_g (lw_at lw_m9 224 rfl) rfl
theorem q2220 : (Jvm.Cond.methodLink "GateGrammar$Command" (9 : Nat) ({ cls := "java/lang/Object", name := "<init>", desc := "()V" } : Jvm.MethodName)) ∈ lw_all := lw_g (lw_at lw_m9 225 rfl) rfl
theorem q2221 : (Jvm.Cond.fieldLink "GateGrammar$Command" (15 : Nat) "GateGrammar$Command" "keyword" "Ljava/lang/String;") ∈ lw_all := lw_g (lw_at lw_m9 226 rfl) rfl
theorem q2222 : (Jvm.Cond.fieldLink "GateGrammar$Command" (19 : Nat) "GateGrammar$Command" "gate" "I") ∈ lw_all := lw_g (lw_at lw_m9 227 rfl) rfl
theorem q2223 : (Jvm.Cond.fieldLink "GateGrammar$Command" (23 : Nat) "GateGrammar$Command" "word" "I") ∈ lw_all := lw_g (lw_at lw_m9 228 rfl) rfl
theorem q2224 : (Jvm.Cond.fieldLink "GateGrammar$Command" (26 : Nat) "GateGrammar$Command" "detail" "I") ∈ lw_all := lw_g (lw_at lw_m9 229 rfl) rfl
theorem q2225 : (Jvm.Cond.fieldLink "GateGrammar$Command" (3 : Nat) "GateGrammar$Command" "this$0" "LGateGrammar;") ∈ lw_all := lw_g (lw_at lw_m9 230 rfl) rfl
theorem q2226 : (Jvm.Cond.laysFinal "GateGrammar$Command" "GateGrammar$Command" "keyword" "Ljava/lang/String;") ∈ lw_all := lw_g (lw_at lw_m9 231 rfl) rfl
theorem q2227 : (Jvm.Cond.soleField "GateGrammar$Command" "keyword") ∈ lw_all := lw_g (lw_at lw_m9 232 rfl) rfl
theorem q2228 : (Jvm.Cond.laysFinal "GateGrammar$Command" "GateGrammar$Command" "gate" "I") ∈ lw_all := lw_g (lw_at lw_m9 233 rfl) rfl
theorem q2229 : (Jvm.Cond.soleField "GateGrammar$Command" "gate") ∈ lw_all := lw_g (lw_at lw_m9 234 rfl) rfl
theorem q2230 : (Jvm.Cond.laysFinal "GateGrammar$Command" "GateGrammar$Command" "word" "I") ∈ lw_all := lw_g (lw_at lw_m9 235 rfl) rfl
theorem q2231 : (Jvm.Cond.soleField "GateGrammar$Command" "word") ∈ lw_all := lw_g (lw_at lw_m9 236 rfl) rfl
theorem q2232 : (Jvm.Cond.laysFinal "GateGrammar$Command" "GateGrammar$Command" "detail" "I") ∈ lw_all := lw_g (lw_at lw_m9 237 rfl) rfl
theorem q2233 : (Jvm.Cond.soleField "GateGrammar$Command" "detail") ∈ lw_all := lw_g (lw_at lw_m9 238 rfl) rfl
theorem q2234 : (Jvm.Cond.laysFinal "GateGrammar$Command" "GateGrammar$Command" "this$0" "LGateGrammar;") ∈ lw_all := lw_g (lw_at lw_m9 239 rfl) rfl
theorem q2235 : (Jvm.Cond.soleField "GateGrammar$Command" "this$0") ∈ lw_all := lw_g (lw_at lw_m10 0 rfl) rfl
theorem q2236 : (Jvm.Cond.superclass "GateGrammar$Command" "java/lang/Object") ∈ lw_all := lw_g (lw_at lw_m10 1 rfl) rfl
theorem q2268 : (Jvm.Cond.instanceMethod ({ cls := "GateGrammar$Command", name := "execute", desc := "(LGateGrammar$State;)Z" } : Jvm.MethodName)) ∈ lw_all := lw_g (lw_at lw_m10 33 rfl) rfl
theorem q2269 : (Jvm.Cond.selects "GateGrammar$Command" ({ cls := "GateGrammar$Command", name := "execute", desc := "(LGateGrammar$State;)Z" } : Jvm.MethodName) ({ cls := "GateGrammar$Command", name := "execute", desc := "(LGateGrammar$State;)Z" } : Jvm.MethodName)) ∈ lw_all := lw_g (lw_at lw_m10 34 rfl) rfl
theorem q2270 : (Jvm.Cond.codeWith ({ cls := "GateGrammar$Command", name := "execute", desc := "(LGateGrammar$State;)Z" } : Jvm.MethodName) prog_5_method_3_code (3 : Nat) (Option.some Jvm.ClassFile.FieldType.boolean) [((0 : Nat), (13 : Nat), (14 : Nat), (85 : Nat)), ((0 : Nat), (13 : Nat), (14 : Nat), (87 : Nat)), ((0 : Nat), (13 : Nat), (14 : Nat), (89 : Nat))]) ∈ lw_all := lw_g (lw_at lw_m10 35 rfl) rfl
theorem q2271 : (Jvm.Cond.classLink "GateGrammar$Command" (85 : Nat) "java/lang/IndexOutOfBoundsException") ∈ lw_all := lw_g (lw_at lw_m10 36 rfl) rfl
theorem q2272 : (Jvm.Cond.classLink "GateGrammar$Command" (87 : Nat) "java/lang/IllegalArgumentException") ∈ lw_all := lw_g (lw_at lw_m10 37 rfl) rfl
theorem q2273 : (Jvm.Cond.classLink "GateGrammar$Command" (89 : Nat) "java/lang/IllegalStateException") ∈ lw_all := lw_g (lw_at lw_m10 38 rfl) rfl
theorem q2274 : (Jvm.Cond.methodLink "GateGrammar$Command" (81 : Nat) ({ cls := "GateGrammar$Command", name := "apply", desc := "(LGateGrammar$State;)I" } : Jvm.MethodName)) ∈ lw_all := lw_g (lw_at lw_m10 39 rfl) rfl
theorem q2275 : (Jvm.Cond.privateMethod ({ cls := "GateGrammar$Command", name := "apply", desc := "(LGateGrammar$State;)I" } : Jvm.MethodName)) ∈ lw_tbl := lw_at lw_m10 40 rfl
theorem q2276 : (Jvm.Cond.instanceMethod ({ cls := "GateGrammar$Command", name := "apply", desc := "(LGateGrammar$State;)I" } : Jvm.MethodName)) ∈ lw_all := lw_g (lw_at lw_m10 41 rfl) rfl
theorem q2277 : (Jvm.Cond.code ({ cls := "GateGrammar$Command", name := "apply", desc := "(LGateGrammar$State;)I" } : Jvm.MethodName) prog_5_method_2_code (4 : Nat) (Option.some Jvm.ClassFile.FieldType.int)) ∈ lw_all := lw_g (lw_at lw_m10 42 rfl) rfl
theorem q2278 : (Jvm.Cond.methodLink "GateGrammar$Command" (29 : Nat) ({ cls := "java/lang/String", name := "hashCode", desc := "()I" } : Jvm.MethodName)) ∈ lw_all := lw_g (lw_at lw_m10 43 rfl) rfl
theorem q2335 : (Jvm.Cond.stringRef "GateGrammar$Command" (35 : Nat) "noun ") ∈ lw_tbl := lw_at lw_m10 100 rfl
theorem q2336 : (Jvm.Cond.methodLink "GateGrammar$Command" (37 : Nat) ({ cls := "java/lang/String", name := "equals", desc := "(Ljava/lang/Object;)Z" } : Jvm.MethodName)) ∈ lw_all := lw_g (lw_at lw_m10 101 rfl) rfl
theorem q2337 : (Jvm.Cond.stringRef "GateGrammar$Command" (41 : Nat) "verb ") ∈ lw_tbl := lw_at lw_m10 102 rfl
theorem q2338 : (Jvm.Cond.stringRef "GateGrammar$Command" (43 : Nat) "open ") ∈ lw_tbl := lw_at lw_m10 103 rfl
theorem q2339 : (Jvm.Cond.stringRef "GateGrammar$Command" (45 : Nat) "close ") ∈ lw_tbl := lw_at lw_m10 104 rfl
theorem q2340 : (Jvm.Cond.stringRef "GateGrammar$Command" (47 : Nat) "and ") ∈ lw_tbl := lw_at lw_m10 105 rfl
theorem q2341 : (Jvm.Cond.stringRef "GateGrammar$Command" (49 : Nat) "drop ") ∈ lw_tbl := lw_at lw_m10 106 rfl
theorem q2342 : (Jvm.Cond.stringRef "GateGrammar$Command" (51 : Nat) "swing ") ∈ lw_tbl := lw_at lw_m10 107 rfl
theorem q2343 : (Jvm.Cond.methodLink "GateGrammar$Command" (53 : Nat) ({ cls := "GateGrammar$State", name := "appendNoun", desc := "(III)I" } : Jvm.MethodName)) ∈ lw_all := lw_g (lw_at lw_m10 108 rfl) rfl
theorem q2344 : (Jvm.Cond.methodLink "GateGrammar$Command" (59 : Nat) ({ cls := "GateGrammar$State", name := "appendVerb", desc := "(III)I" } : Jvm.MethodName)) ∈ lw_all := lw_g (lw_at lw_m10 109 rfl) rfl
theorem q2345 : (Jvm.Cond.methodLink "GateGrammar$Command" (62 : Nat) ({ cls := "GateGrammar$State", name := "appendMark", desc := "(II)I" } : Jvm.MethodName)) ∈ lw_all := lw_g (lw_at lw_m10 110 rfl) rfl
theorem q2346 : (Jvm.Cond.methodLink "GateGrammar$Command" (66 : Nat) ({ cls := "GateGrammar$State", name := "gate", desc := "(I)LGateGrammar$Gate;" } : Jvm.MethodName)) ∈ lw_all := lw_g (lw_at lw_m10 111 rfl) rfl
theorem q2347 : (Jvm.Cond.methodLink "GateGrammar$Command" (69 : Nat) ({ cls := "GateGrammar$Gate", name := "removeLast", desc := "()I" } : Jvm.MethodName)) ∈ lw_all := lw_g (lw_at lw_m10 112 rfl) rfl
theorem q2348 : (Jvm.Cond.methodLinkNest "GateGrammar$Command" (74 : Nat) ({ cls := "GateGrammar", name := "swing", desc := "(LGateGrammar$State;I)I" } : Jvm.MethodName) "GateGrammar") ∈ lw_tbl := lw_at lw_m10 113 rfl
theorem q2349 : (Jvm.Cond.methodLinkNest "GateGrammar$Command" (78 : Nat) ({ cls := "GateGrammar", name := "walk", desc := "(LGateGrammar$State;I)I" } : Jvm.MethodName) "GateGrammar") ∈ lw_tbl := lw_at lw_m10 114 rfl
theorem q3070 : (Jvm.Cond.castable "GateGrammar$Command" "java/lang/Object") ∈ lw_tbl := lw_at lw_m13 115 rfl
theorem in_X19 : ∀ w ∈ wsX190, w ∈ lw_all := lw_in wsX190 [2226, 2228, 2230, 2232, 2234] (by decide +kernel) (by decide +kernel)

