/-! GateGrammarLaw -/
set_option maxRecDepth 100000
def RX0 : String := "GateGrammarLaw"
abbrev cX0_addNoun : ByteArray := method_3_code
def yX0_addNoun : MethodName := ⟨RX0, "addNoun", "(LGateGrammar;I[J)I"⟩
def dkwX0_addNoun_0 : List UInt8 := [44, 3, 42, 27, 182, 0, 7, 133, 80, 167, 0, 9, 78, 4, 172, 78, 5, 172, 3, 172]
abbrev dktX0_addNoun_0 : List UInt8 := dkwX0_addNoun_0 ++ []
theorem dksX0_addNoun_0 : cX0_addNoun.data.toList.drop 0 = dktX0_addNoun_0 := by decide +kernel
theorem dX0_addNoun_0 : decode cX0_addNoun 0 = .ok (.aload_n 2, 1) := dk_44 (dk_at dksX0_addNoun_0 0 rfl rfl)
theorem dX0_addNoun_1 : decode cX0_addNoun 1 = .ok (.iconst 0, 1) := dk_3 (dk_at dksX0_addNoun_0 1 rfl rfl)
theorem dX0_addNoun_2 : decode cX0_addNoun 2 = .ok (.aload_n 0, 1) := dk_42 (dk_at dksX0_addNoun_0 2 rfl rfl)
theorem dX0_addNoun_3 : decode cX0_addNoun 3 = .ok (.iload_n 1, 1) := dk_27 (dk_at dksX0_addNoun_0 3 rfl rfl)
theorem dX0_addNoun_4 : decode cX0_addNoun 4 = .ok (.invokevirtual 7, 3) := dk_182 0 7 (dk_at dksX0_addNoun_0 4 rfl rfl)
theorem dX0_addNoun_7 : decode cX0_addNoun 7 = .ok (.i2l, 1) := dk_133 (dk_at dksX0_addNoun_0 7 rfl rfl)
theorem dX0_addNoun_8 : decode cX0_addNoun 8 = .ok (.lastore, 1) := dk_80 (dk_at dksX0_addNoun_0 8 rfl rfl)
theorem dX0_addNoun_9 : decode cX0_addNoun 9 = .ok (.goto 9, 3) := dk_167 0 9 (dk_at dksX0_addNoun_0 9 rfl rfl)
theorem dX0_addNoun_12 : decode cX0_addNoun 12 = .ok (.astore_n 3, 1) := dk_78 (dk_at dksX0_addNoun_0 12 rfl rfl)
theorem dX0_addNoun_13 : decode cX0_addNoun 13 = .ok (.iconst 1, 1) := dk_4 (dk_at dksX0_addNoun_0 13 rfl rfl)
theorem dX0_addNoun_14 : decode cX0_addNoun 14 = .ok (.ireturn, 1) := dk_172 (dk_at dksX0_addNoun_0 14 rfl rfl)
theorem dX0_addNoun_15 : decode cX0_addNoun 15 = .ok (.astore_n 3, 1) := dk_78 (dk_at dksX0_addNoun_0 15 rfl rfl)
theorem dX0_addNoun_16 : decode cX0_addNoun 16 = .ok (.iconst 2, 1) := dk_5 (dk_at dksX0_addNoun_0 16 rfl rfl)
theorem dX0_addNoun_17 : decode cX0_addNoun 17 = .ok (.ireturn, 1) := dk_172 (dk_at dksX0_addNoun_0 17 rfl rfl)
theorem dX0_addNoun_18 : decode cX0_addNoun 18 = .ok (.iconst 0, 1) := dk_3 (dk_at dksX0_addNoun_0 18 rfl rfl)
theorem dX0_addNoun_19 : decode cX0_addNoun 19 = .ok (.ireturn, 1) := dk_172 (dk_at dksX0_addNoun_0 19 rfl rfl)
abbrev cX0_addVerb : ByteArray := method_4_code
def yX0_addVerb : MethodName := ⟨RX0, "addVerb", "(LGateGrammar;I[J)I"⟩
def dkwX0_addVerb_0 : List UInt8 := [44, 3, 42, 27, 182, 0, 17, 133, 80, 167, 0, 9, 78, 4, 172, 78, 5, 172, 3, 172]
abbrev dktX0_addVerb_0 : List UInt8 := dkwX0_addVerb_0 ++ []
theorem dksX0_addVerb_0 : cX0_addVerb.data.toList.drop 0 = dktX0_addVerb_0 := by decide +kernel
theorem dX0_addVerb_0 : decode cX0_addVerb 0 = .ok (.aload_n 2, 1) := dk_44 (dk_at dksX0_addVerb_0 0 rfl rfl)
theorem dX0_addVerb_1 : decode cX0_addVerb 1 = .ok (.iconst 0, 1) := dk_3 (dk_at dksX0_addVerb_0 1 rfl rfl)
theorem dX0_addVerb_2 : decode cX0_addVerb 2 = .ok (.aload_n 0, 1) := dk_42 (dk_at dksX0_addVerb_0 2 rfl rfl)
theorem dX0_addVerb_3 : decode cX0_addVerb 3 = .ok (.iload_n 1, 1) := dk_27 (dk_at dksX0_addVerb_0 3 rfl rfl)
theorem dX0_addVerb_4 : decode cX0_addVerb 4 = .ok (.invokevirtual 17, 3) := dk_182 0 17 (dk_at dksX0_addVerb_0 4 rfl rfl)
theorem dX0_addVerb_7 : decode cX0_addVerb 7 = .ok (.i2l, 1) := dk_133 (dk_at dksX0_addVerb_0 7 rfl rfl)
theorem dX0_addVerb_8 : decode cX0_addVerb 8 = .ok (.lastore, 1) := dk_80 (dk_at dksX0_addVerb_0 8 rfl rfl)
theorem dX0_addVerb_9 : decode cX0_addVerb 9 = .ok (.goto 9, 3) := dk_167 0 9 (dk_at dksX0_addVerb_0 9 rfl rfl)
theorem dX0_addVerb_12 : decode cX0_addVerb 12 = .ok (.astore_n 3, 1) := dk_78 (dk_at dksX0_addVerb_0 12 rfl rfl)
theorem dX0_addVerb_13 : decode cX0_addVerb 13 = .ok (.iconst 1, 1) := dk_4 (dk_at dksX0_addVerb_0 13 rfl rfl)
theorem dX0_addVerb_14 : decode cX0_addVerb 14 = .ok (.ireturn, 1) := dk_172 (dk_at dksX0_addVerb_0 14 rfl rfl)
theorem dX0_addVerb_15 : decode cX0_addVerb 15 = .ok (.astore_n 3, 1) := dk_78 (dk_at dksX0_addVerb_0 15 rfl rfl)
theorem dX0_addVerb_16 : decode cX0_addVerb 16 = .ok (.iconst 2, 1) := dk_5 (dk_at dksX0_addVerb_0 16 rfl rfl)
theorem dX0_addVerb_17 : decode cX0_addVerb 17 = .ok (.ireturn, 1) := dk_172 (dk_at dksX0_addVerb_0 17 rfl rfl)
theorem dX0_addVerb_18 : decode cX0_addVerb 18 = .ok (.iconst 0, 1) := dk_3 (dk_at dksX0_addVerb_0 18 rfl rfl)
theorem dX0_addVerb_19 : decode cX0_addVerb 19 = .ok (.ireturn, 1) := dk_172 (dk_at dksX0_addVerb_0 19 rfl rfl)
abbrev cX0_setObjectCase : ByteArray := method_5_code
def yX0_setObjectCase : MethodName := ⟨RX0, "setObjectCase", "(LGateGrammar;II[J)I"⟩
def dkwX0_setObjectCase_0 : List UInt8 := [45, 3, 42, 27, 28, 182, 0, 20, 133, 80, 167, 0, 11, 58, 4, 4, 172, 58, 4, 5, 172, 3, 172]
abbrev dktX0_setObjectCase_0 : List UInt8 := dkwX0_setObjectCase_0 ++ []
theorem dksX0_setObjectCase_0 : cX0_setObjectCase.data.toList.drop 0 = dktX0_setObjectCase_0 := by decide +kernel
theorem dX0_setObjectCase_0 : decode cX0_setObjectCase 0 = .ok (.aload_n 3, 1) := dk_45 (dk_at dksX0_setObjectCase_0 0 rfl rfl)
theorem dX0_setObjectCase_1 : decode cX0_setObjectCase 1 = .ok (.iconst 0, 1) := dk_3 (dk_at dksX0_setObjectCase_0 1 rfl rfl)
theorem dX0_setObjectCase_2 : decode cX0_setObjectCase 2 = .ok (.aload_n 0, 1) := dk_42 (dk_at dksX0_setObjectCase_0 2 rfl rfl)
theorem dX0_setObjectCase_3 : decode cX0_setObjectCase 3 = .ok (.iload_n 1, 1) := dk_27 (dk_at dksX0_setObjectCase_0 3 rfl rfl)
theorem dX0_setObjectCase_4 : decode cX0_setObjectCase 4 = .ok (.iload_n 2, 1) := dk_28 (dk_at dksX0_setObjectCase_0 4 rfl rfl)
theorem dX0_setObjectCase_5 : decode cX0_setObjectCase 5 = .ok (.invokevirtual 20, 3) := dk_182 0 20 (dk_at dksX0_setObjectCase_0 5 rfl rfl)
theorem dX0_setObjectCase_8 : decode cX0_setObjectCase 8 = .ok (.i2l, 1) := dk_133 (dk_at dksX0_setObjectCase_0 8 rfl rfl)
theorem dX0_setObjectCase_9 : decode cX0_setObjectCase 9 = .ok (.lastore, 1) := dk_80 (dk_at dksX0_setObjectCase_0 9 rfl rfl)
theorem dX0_setObjectCase_10 : decode cX0_setObjectCase 10 = .ok (.goto 11, 3) := dk_167 0 11 (dk_at dksX0_setObjectCase_0 10 rfl rfl)
theorem dX0_setObjectCase_13 : decode cX0_setObjectCase 13 = .ok (.astore 4, 2) := dk_58 4 (dk_at dksX0_setObjectCase_0 13 rfl rfl)
theorem dX0_setObjectCase_15 : decode cX0_setObjectCase 15 = .ok (.iconst 1, 1) := dk_4 (dk_at dksX0_setObjectCase_0 15 rfl rfl)
theorem dX0_setObjectCase_16 : decode cX0_setObjectCase 16 = .ok (.ireturn, 1) := dk_172 (dk_at dksX0_setObjectCase_0 16 rfl rfl)
theorem dX0_setObjectCase_17 : decode cX0_setObjectCase 17 = .ok (.astore 4, 2) := dk_58 4 (dk_at dksX0_setObjectCase_0 17 rfl rfl)
theorem dX0_setObjectCase_19 : decode cX0_setObjectCase 19 = .ok (.iconst 2, 1) := dk_5 (dk_at dksX0_setObjectCase_0 19 rfl rfl)
theorem dX0_setObjectCase_20 : decode cX0_setObjectCase 20 = .ok (.ireturn, 1) := dk_172 (dk_at dksX0_setObjectCase_0 20 rfl rfl)
theorem dX0_setObjectCase_21 : decode cX0_setObjectCase 21 = .ok (.iconst 0, 1) := dk_3 (dk_at dksX0_setObjectCase_0 21 rfl rfl)
theorem dX0_setObjectCase_22 : decode cX0_setObjectCase 22 = .ok (.ireturn, 1) := dk_172 (dk_at dksX0_setObjectCase_0 22 rfl rfl)
abbrev cX0_gender : ByteArray := method_6_code
def yX0_gender : MethodName := ⟨RX0, "gender", "(LGateGrammar;I[J)I"⟩
def dkwX0_gender_0 : List UInt8 := [44, 3, 42, 27, 182, 0, 26, 133, 80, 167, 0, 6, 78, 4, 172, 3, 172]
abbrev dktX0_gender_0 : List UInt8 := dkwX0_gender_0 ++ []
theorem dksX0_gender_0 : cX0_gender.data.toList.drop 0 = dktX0_gender_0 := by decide +kernel
theorem dX0_gender_0 : decode cX0_gender 0 = .ok (.aload_n 2, 1) := dk_44 (dk_at dksX0_gender_0 0 rfl rfl)
theorem dX0_gender_1 : decode cX0_gender 1 = .ok (.iconst 0, 1) := dk_3 (dk_at dksX0_gender_0 1 rfl rfl)
theorem dX0_gender_2 : decode cX0_gender 2 = .ok (.aload_n 0, 1) := dk_42 (dk_at dksX0_gender_0 2 rfl rfl)
theorem dX0_gender_3 : decode cX0_gender 3 = .ok (.iload_n 1, 1) := dk_27 (dk_at dksX0_gender_0 3 rfl rfl)
theorem dX0_gender_4 : decode cX0_gender 4 = .ok (.invokevirtual 26, 3) := dk_182 0 26 (dk_at dksX0_gender_0 4 rfl rfl)
theorem dX0_gender_7 : decode cX0_gender 7 = .ok (.i2l, 1) := dk_133 (dk_at dksX0_gender_0 7 rfl rfl)
theorem dX0_gender_8 : decode cX0_gender 8 = .ok (.lastore, 1) := dk_80 (dk_at dksX0_gender_0 8 rfl rfl)
theorem dX0_gender_9 : decode cX0_gender 9 = .ok (.goto 6, 3) := dk_167 0 6 (dk_at dksX0_gender_0 9 rfl rfl)
theorem dX0_gender_12 : decode cX0_gender 12 = .ok (.astore_n 3, 1) := dk_78 (dk_at dksX0_gender_0 12 rfl rfl)
theorem dX0_gender_13 : decode cX0_gender 13 = .ok (.iconst 1, 1) := dk_4 (dk_at dksX0_gender_0 13 rfl rfl)
theorem dX0_gender_14 : decode cX0_gender 14 = .ok (.ireturn, 1) := dk_172 (dk_at dksX0_gender_0 14 rfl rfl)
theorem dX0_gender_15 : decode cX0_gender 15 = .ok (.iconst 0, 1) := dk_3 (dk_at dksX0_gender_0 15 rfl rfl)
theorem dX0_gender_16 : decode cX0_gender 16 = .ok (.ireturn, 1) := dk_172 (dk_at dksX0_gender_0 16 rfl rfl)
abbrev cX0_objectCase : ByteArray := method_7_code
def yX0_objectCase : MethodName := ⟨RX0, "objectCase", "(LGateGrammar;I[J)I"⟩
def dkwX0_objectCase_0 : List UInt8 := [44, 3, 42, 27, 182, 0, 29, 133, 80, 167, 0, 6, 78, 4, 172, 3, 172]
abbrev dktX0_objectCase_0 : List UInt8 := dkwX0_objectCase_0 ++ []
theorem dksX0_objectCase_0 : cX0_objectCase.data.toList.drop 0 = dktX0_objectCase_0 := by decide +kernel
theorem dX0_objectCase_0 : decode cX0_objectCase 0 = .ok (.aload_n 2, 1) := dk_44 (dk_at dksX0_objectCase_0 0 rfl rfl)
theorem dX0_objectCase_1 : decode cX0_objectCase 1 = .ok (.iconst 0, 1) := dk_3 (dk_at dksX0_objectCase_0 1 rfl rfl)
theorem dX0_objectCase_2 : decode cX0_objectCase 2 = .ok (.aload_n 0, 1) := dk_42 (dk_at dksX0_objectCase_0 2 rfl rfl)
theorem dX0_objectCase_3 : decode cX0_objectCase 3 = .ok (.iload_n 1, 1) := dk_27 (dk_at dksX0_objectCase_0 3 rfl rfl)
theorem dX0_objectCase_4 : decode cX0_objectCase 4 = .ok (.invokevirtual 29, 3) := dk_182 0 29 (dk_at dksX0_objectCase_0 4 rfl rfl)
theorem dX0_objectCase_7 : decode cX0_objectCase 7 = .ok (.i2l, 1) := dk_133 (dk_at dksX0_objectCase_0 7 rfl rfl)
theorem dX0_objectCase_8 : decode cX0_objectCase 8 = .ok (.lastore, 1) := dk_80 (dk_at dksX0_objectCase_0 8 rfl rfl)
theorem dX0_objectCase_9 : decode cX0_objectCase 9 = .ok (.goto 6, 3) := dk_167 0 6 (dk_at dksX0_objectCase_0 9 rfl rfl)
theorem dX0_objectCase_12 : decode cX0_objectCase 12 = .ok (.astore_n 3, 1) := dk_78 (dk_at dksX0_objectCase_0 12 rfl rfl)
theorem dX0_objectCase_13 : decode cX0_objectCase 13 = .ok (.iconst 1, 1) := dk_4 (dk_at dksX0_objectCase_0 13 rfl rfl)
theorem dX0_objectCase_14 : decode cX0_objectCase 14 = .ok (.ireturn, 1) := dk_172 (dk_at dksX0_objectCase_0 14 rfl rfl)
theorem dX0_objectCase_15 : decode cX0_objectCase 15 = .ok (.iconst 0, 1) := dk_3 (dk_at dksX0_objectCase_0 15 rfl rfl)
theorem dX0_objectCase_16 : decode cX0_objectCase 16 = .ok (.ireturn, 1) := dk_172 (dk_at dksX0_objectCase_0 16 rfl rfl)
abbrev cX0_ending : ByteArray := method_8_code
def yX0_ending : MethodName := ⟨RX0, "ending", "(LGateGrammar;II[J)I"⟩
def dkwX0_ending_0 : List UInt8 := [45, 3, 42, 27, 28, 182, 0, 32, 133, 80, 167, 0, 11, 58, 4, 4, 172, 58, 4, 5, 172, 3, 172]
abbrev dktX0_ending_0 : List UInt8 := dkwX0_ending_0 ++ []
theorem dksX0_ending_0 : cX0_ending.data.toList.drop 0 = dktX0_ending_0 := by decide +kernel
theorem dX0_ending_0 : decode cX0_ending 0 = .ok (.aload_n 3, 1) := dk_45 (dk_at dksX0_ending_0 0 rfl rfl)
theorem dX0_ending_1 : decode cX0_ending 1 = .ok (.iconst 0, 1) := dk_3 (dk_at dksX0_ending_0 1 rfl rfl)
theorem dX0_ending_2 : decode cX0_ending 2 = .ok (.aload_n 0, 1) := dk_42 (dk_at dksX0_ending_0 2 rfl rfl)
theorem dX0_ending_3 : decode cX0_ending 3 = .ok (.iload_n 1, 1) := dk_27 (dk_at dksX0_ending_0 3 rfl rfl)
theorem dX0_ending_4 : decode cX0_ending 4 = .ok (.iload_n 2, 1) := dk_28 (dk_at dksX0_ending_0 4 rfl rfl)
theorem dX0_ending_5 : decode cX0_ending 5 = .ok (.invokevirtual 32, 3) := dk_182 0 32 (dk_at dksX0_ending_0 5 rfl rfl)
theorem dX0_ending_8 : decode cX0_ending 8 = .ok (.i2l, 1) := dk_133 (dk_at dksX0_ending_0 8 rfl rfl)
theorem dX0_ending_9 : decode cX0_ending 9 = .ok (.lastore, 1) := dk_80 (dk_at dksX0_ending_0 9 rfl rfl)
theorem dX0_ending_10 : decode cX0_ending 10 = .ok (.goto 11, 3) := dk_167 0 11 (dk_at dksX0_ending_0 10 rfl rfl)
theorem dX0_ending_13 : decode cX0_ending 13 = .ok (.astore 4, 2) := dk_58 4 (dk_at dksX0_ending_0 13 rfl rfl)
theorem dX0_ending_15 : decode cX0_ending 15 = .ok (.iconst 1, 1) := dk_4 (dk_at dksX0_ending_0 15 rfl rfl)
theorem dX0_ending_16 : decode cX0_ending 16 = .ok (.ireturn, 1) := dk_172 (dk_at dksX0_ending_0 16 rfl rfl)
theorem dX0_ending_17 : decode cX0_ending 17 = .ok (.astore 4, 2) := dk_58 4 (dk_at dksX0_ending_0 17 rfl rfl)
theorem dX0_ending_19 : decode cX0_ending 19 = .ok (.iconst 2, 1) := dk_5 (dk_at dksX0_ending_0 19 rfl rfl)
theorem dX0_ending_20 : decode cX0_ending 20 = .ok (.ireturn, 1) := dk_172 (dk_at dksX0_ending_0 20 rfl rfl)
theorem dX0_ending_21 : decode cX0_ending 21 = .ok (.iconst 0, 1) := dk_3 (dk_at dksX0_ending_0 21 rfl rfl)
theorem dX0_ending_22 : decode cX0_ending 22 = .ok (.ireturn, 1) := dk_172 (dk_at dksX0_ending_0 22 rfl rfl)
abbrev cX0_appendNoun : ByteArray := method_9_code
def yX0_appendNoun : MethodName := ⟨RX0, "appendNoun", "(LGateGrammar;III[J)I"⟩
def dkwX0_appendNoun_1 : List UInt8 := [58, 5, 6, 172, 3, 172]
abbrev dktX0_appendNoun_1 : List UInt8 := dkwX0_appendNoun_1 ++ []
def dkwX0_appendNoun_0 : List UInt8 := [25, 4, 3, 42, 27, 28, 29, 182, 0, 36, 133, 80, 167, 0, 15, 58, 5, 4, 172, 58, 5, 5, 172]
abbrev dktX0_appendNoun_0 : List UInt8 := dkwX0_appendNoun_0 ++ dktX0_appendNoun_1
theorem dksX0_appendNoun_0 : cX0_appendNoun.data.toList.drop 0 = dktX0_appendNoun_0 := by decide +kernel
theorem dksX0_appendNoun_1 : cX0_appendNoun.data.toList.drop 23 = dktX0_appendNoun_1 := dk_seg dksX0_appendNoun_0 23 rfl rfl
theorem dX0_appendNoun_0 : decode cX0_appendNoun 0 = .ok (.aload 4, 2) := dk_25 4 (dk_at dksX0_appendNoun_0 0 rfl rfl)
theorem dX0_appendNoun_2 : decode cX0_appendNoun 2 = .ok (.iconst 0, 1) := dk_3 (dk_at dksX0_appendNoun_0 2 rfl rfl)
theorem dX0_appendNoun_3 : decode cX0_appendNoun 3 = .ok (.aload_n 0, 1) := dk_42 (dk_at dksX0_appendNoun_0 3 rfl rfl)
theorem dX0_appendNoun_4 : decode cX0_appendNoun 4 = .ok (.iload_n 1, 1) := dk_27 (dk_at dksX0_appendNoun_0 4 rfl rfl)
theorem dX0_appendNoun_5 : decode cX0_appendNoun 5 = .ok (.iload_n 2, 1) := dk_28 (dk_at dksX0_appendNoun_0 5 rfl rfl)
theorem dX0_appendNoun_6 : decode cX0_appendNoun 6 = .ok (.iload_n 3, 1) := dk_29 (dk_at dksX0_appendNoun_0 6 rfl rfl)
theorem dX0_appendNoun_7 : decode cX0_appendNoun 7 = .ok (.invokevirtual 36, 3) := dk_182 0 36 (dk_at dksX0_appendNoun_0 7 rfl rfl)
theorem dX0_appendNoun_10 : decode cX0_appendNoun 10 = .ok (.i2l, 1) := dk_133 (dk_at dksX0_appendNoun_0 10 rfl rfl)
theorem dX0_appendNoun_11 : decode cX0_appendNoun 11 = .ok (.lastore, 1) := dk_80 (dk_at dksX0_appendNoun_0 11 rfl rfl)
theorem dX0_appendNoun_12 : decode cX0_appendNoun 12 = .ok (.goto 15, 3) := dk_167 0 15 (dk_at dksX0_appendNoun_0 12 rfl rfl)
theorem dX0_appendNoun_15 : decode cX0_appendNoun 15 = .ok (.astore 5, 2) := dk_58 5 (dk_at dksX0_appendNoun_0 15 rfl rfl)
theorem dX0_appendNoun_17 : decode cX0_appendNoun 17 = .ok (.iconst 1, 1) := dk_4 (dk_at dksX0_appendNoun_0 17 rfl rfl)
theorem dX0_appendNoun_18 : decode cX0_appendNoun 18 = .ok (.ireturn, 1) := dk_172 (dk_at dksX0_appendNoun_0 18 rfl rfl)
theorem dX0_appendNoun_19 : decode cX0_appendNoun 19 = .ok (.astore 5, 2) := dk_58 5 (dk_at dksX0_appendNoun_0 19 rfl rfl)
theorem dX0_appendNoun_21 : decode cX0_appendNoun 21 = .ok (.iconst 2, 1) := dk_5 (dk_at dksX0_appendNoun_0 21 rfl rfl)
theorem dX0_appendNoun_22 : decode cX0_appendNoun 22 = .ok (.ireturn, 1) := dk_172 (dk_at dksX0_appendNoun_0 22 rfl rfl)
theorem dX0_appendNoun_23 : decode cX0_appendNoun 23 = .ok (.astore 5, 2) := dk_58 5 (dk_at dksX0_appendNoun_1 0 rfl rfl)
theorem dX0_appendNoun_25 : decode cX0_appendNoun 25 = .ok (.iconst 3, 1) := dk_6 (dk_at dksX0_appendNoun_1 2 rfl rfl)
theorem dX0_appendNoun_26 : decode cX0_appendNoun 26 = .ok (.ireturn, 1) := dk_172 (dk_at dksX0_appendNoun_1 3 rfl rfl)
theorem dX0_appendNoun_27 : decode cX0_appendNoun 27 = .ok (.iconst 0, 1) := dk_3 (dk_at dksX0_appendNoun_1 4 rfl rfl)
theorem dX0_appendNoun_28 : decode cX0_appendNoun 28 = .ok (.ireturn, 1) := dk_172 (dk_at dksX0_appendNoun_1 5 rfl rfl)
abbrev cX0_appendVerb : ByteArray := method_10_code
def yX0_appendVerb : MethodName := ⟨RX0, "appendVerb", "(LGateGrammar;III[J)I"⟩
def dkwX0_appendVerb_1 : List UInt8 := [58, 5, 6, 172, 3, 172]
abbrev dktX0_appendVerb_1 : List UInt8 := dkwX0_appendVerb_1 ++ []
def dkwX0_appendVerb_0 : List UInt8 := [25, 4, 3, 42, 27, 28, 29, 182, 0, 40, 133, 80, 167, 0, 15, 58, 5, 4, 172, 58, 5, 5, 172]
abbrev dktX0_appendVerb_0 : List UInt8 := dkwX0_appendVerb_0 ++ dktX0_appendVerb_1
theorem dksX0_appendVerb_0 : cX0_appendVerb.data.toList.drop 0 = dktX0_appendVerb_0 := by decide +kernel
theorem dksX0_appendVerb_1 : cX0_appendVerb.data.toList.drop 23 = dktX0_appendVerb_1 := dk_seg dksX0_appendVerb_0 23 rfl rfl
theorem dX0_appendVerb_0 : decode cX0_appendVerb 0 = .ok (.aload 4, 2) := dk_25 4 (dk_at dksX0_appendVerb_0 0 rfl rfl)
theorem dX0_appendVerb_2 : decode cX0_appendVerb 2 = .ok (.iconst 0, 1) := dk_3 (dk_at dksX0_appendVerb_0 2 rfl rfl)
theorem dX0_appendVerb_3 : decode cX0_appendVerb 3 = .ok (.aload_n 0, 1) := dk_42 (dk_at dksX0_appendVerb_0 3 rfl rfl)
theorem dX0_appendVerb_4 : decode cX0_appendVerb 4 = .ok (.iload_n 1, 1) := dk_27 (dk_at dksX0_appendVerb_0 4 rfl rfl)
theorem dX0_appendVerb_5 : decode cX0_appendVerb 5 = .ok (.iload_n 2, 1) := dk_28 (dk_at dksX0_appendVerb_0 5 rfl rfl)
theorem dX0_appendVerb_6 : decode cX0_appendVerb 6 = .ok (.iload_n 3, 1) := dk_29 (dk_at dksX0_appendVerb_0 6 rfl rfl)
theorem dX0_appendVerb_7 : decode cX0_appendVerb 7 = .ok (.invokevirtual 40, 3) := dk_182 0 40 (dk_at dksX0_appendVerb_0 7 rfl rfl)
theorem dX0_appendVerb_10 : decode cX0_appendVerb 10 = .ok (.i2l, 1) := dk_133 (dk_at dksX0_appendVerb_0 10 rfl rfl)
theorem dX0_appendVerb_11 : decode cX0_appendVerb 11 = .ok (.lastore, 1) := dk_80 (dk_at dksX0_appendVerb_0 11 rfl rfl)
theorem dX0_appendVerb_12 : decode cX0_appendVerb 12 = .ok (.goto 15, 3) := dk_167 0 15 (dk_at dksX0_appendVerb_0 12 rfl rfl)
theorem dX0_appendVerb_15 : decode cX0_appendVerb 15 = .ok (.astore 5, 2) := dk_58 5 (dk_at dksX0_appendVerb_0 15 rfl rfl)
theorem dX0_appendVerb_17 : decode cX0_appendVerb 17 = .ok (.iconst 1, 1) := dk_4 (dk_at dksX0_appendVerb_0 17 rfl rfl)
theorem dX0_appendVerb_18 : decode cX0_appendVerb 18 = .ok (.ireturn, 1) := dk_172 (dk_at dksX0_appendVerb_0 18 rfl rfl)
theorem dX0_appendVerb_19 : decode cX0_appendVerb 19 = .ok (.astore 5, 2) := dk_58 5 (dk_at dksX0_appendVerb_0 19 rfl rfl)
theorem dX0_appendVerb_21 : decode cX0_appendVerb 21 = .ok (.iconst 2, 1) := dk_5 (dk_at dksX0_appendVerb_0 21 rfl rfl)
theorem dX0_appendVerb_22 : decode cX0_appendVerb 22 = .ok (.ireturn, 1) := dk_172 (dk_at dksX0_appendVerb_0 22 rfl rfl)
theorem dX0_appendVerb_23 : decode cX0_appendVerb 23 = .ok (.astore 5, 2) := dk_58 5 (dk_at dksX0_appendVerb_1 0 rfl rfl)
theorem dX0_appendVerb_25 : decode cX0_appendVerb 25 = .ok (.iconst 3, 1) := dk_6 (dk_at dksX0_appendVerb_1 2 rfl rfl)
theorem dX0_appendVerb_26 : decode cX0_appendVerb 26 = .ok (.ireturn, 1) := dk_172 (dk_at dksX0_appendVerb_1 3 rfl rfl)
theorem dX0_appendVerb_27 : decode cX0_appendVerb 27 = .ok (.iconst 0, 1) := dk_3 (dk_at dksX0_appendVerb_1 4 rfl rfl)
theorem dX0_appendVerb_28 : decode cX0_appendVerb 28 = .ok (.ireturn, 1) := dk_172 (dk_at dksX0_appendVerb_1 5 rfl rfl)
abbrev cX0_appendOpen : ByteArray := method_11_code
def yX0_appendOpen : MethodName := ⟨RX0, "appendOpen", "(LGateGrammar;I[J)I"⟩
def dkwX0_appendOpen_0 : List UInt8 := [44, 3, 42, 27, 182, 0, 43, 133, 80, 167, 0, 9, 78, 4, 172, 78, 5, 172, 3, 172]
abbrev dktX0_appendOpen_0 : List UInt8 := dkwX0_appendOpen_0 ++ []
theorem dksX0_appendOpen_0 : cX0_appendOpen.data.toList.drop 0 = dktX0_appendOpen_0 := by decide +kernel
theorem dX0_appendOpen_0 : decode cX0_appendOpen 0 = .ok (.aload_n 2, 1) := dk_44 (dk_at dksX0_appendOpen_0 0 rfl rfl)
theorem dX0_appendOpen_1 : decode cX0_appendOpen 1 = .ok (.iconst 0, 1) := dk_3 (dk_at dksX0_appendOpen_0 1 rfl rfl)
theorem dX0_appendOpen_2 : decode cX0_appendOpen 2 = .ok (.aload_n 0, 1) := dk_42 (dk_at dksX0_appendOpen_0 2 rfl rfl)
theorem dX0_appendOpen_3 : decode cX0_appendOpen 3 = .ok (.iload_n 1, 1) := dk_27 (dk_at dksX0_appendOpen_0 3 rfl rfl)
theorem dX0_appendOpen_4 : decode cX0_appendOpen 4 = .ok (.invokevirtual 43, 3) := dk_182 0 43 (dk_at dksX0_appendOpen_0 4 rfl rfl)
theorem dX0_appendOpen_7 : decode cX0_appendOpen 7 = .ok (.i2l, 1) := dk_133 (dk_at dksX0_appendOpen_0 7 rfl rfl)
theorem dX0_appendOpen_8 : decode cX0_appendOpen 8 = .ok (.lastore, 1) := dk_80 (dk_at dksX0_appendOpen_0 8 rfl rfl)
theorem dX0_appendOpen_9 : decode cX0_appendOpen 9 = .ok (.goto 9, 3) := dk_167 0 9 (dk_at dksX0_appendOpen_0 9 rfl rfl)
theorem dX0_appendOpen_12 : decode cX0_appendOpen 12 = .ok (.astore_n 3, 1) := dk_78 (dk_at dksX0_appendOpen_0 12 rfl rfl)
theorem dX0_appendOpen_13 : decode cX0_appendOpen 13 = .ok (.iconst 1, 1) := dk_4 (dk_at dksX0_appendOpen_0 13 rfl rfl)
theorem dX0_appendOpen_14 : decode cX0_appendOpen 14 = .ok (.ireturn, 1) := dk_172 (dk_at dksX0_appendOpen_0 14 rfl rfl)
theorem dX0_appendOpen_15 : decode cX0_appendOpen 15 = .ok (.astore_n 3, 1) := dk_78 (dk_at dksX0_appendOpen_0 15 rfl rfl)
theorem dX0_appendOpen_16 : decode cX0_appendOpen 16 = .ok (.iconst 2, 1) := dk_5 (dk_at dksX0_appendOpen_0 16 rfl rfl)
theorem dX0_appendOpen_17 : decode cX0_appendOpen 17 = .ok (.ireturn, 1) := dk_172 (dk_at dksX0_appendOpen_0 17 rfl rfl)
theorem dX0_appendOpen_18 : decode cX0_appendOpen 18 = .ok (.iconst 0, 1) := dk_3 (dk_at dksX0_appendOpen_0 18 rfl rfl)
theorem dX0_appendOpen_19 : decode cX0_appendOpen 19 = .ok (.ireturn, 1) := dk_172 (dk_at dksX0_appendOpen_0 19 rfl rfl)
abbrev cX0_appendClose : ByteArray := method_12_code
def yX0_appendClose : MethodName := ⟨RX0, "appendClose", "(LGateGrammar;I[J)I"⟩
def dkwX0_appendClose_0 : List UInt8 := [44, 3, 42, 27, 182, 0, 46, 133, 80, 167, 0, 9, 78, 4, 172, 78, 5, 172, 3, 172]
abbrev dktX0_appendClose_0 : List UInt8 := dkwX0_appendClose_0 ++ []
theorem dksX0_appendClose_0 : cX0_appendClose.data.toList.drop 0 = dktX0_appendClose_0 := by decide +kernel
theorem dX0_appendClose_0 : decode cX0_appendClose 0 = .ok (.aload_n 2, 1) := dk_44 (dk_at dksX0_appendClose_0 0 rfl rfl)
theorem dX0_appendClose_1 : decode cX0_appendClose 1 = .ok (.iconst 0, 1) := dk_3 (dk_at dksX0_appendClose_0 1 rfl rfl)
theorem dX0_appendClose_2 : decode cX0_appendClose 2 = .ok (.aload_n 0, 1) := dk_42 (dk_at dksX0_appendClose_0 2 rfl rfl)
theorem dX0_appendClose_3 : decode cX0_appendClose 3 = .ok (.iload_n 1, 1) := dk_27 (dk_at dksX0_appendClose_0 3 rfl rfl)
theorem dX0_appendClose_4 : decode cX0_appendClose 4 = .ok (.invokevirtual 46, 3) := dk_182 0 46 (dk_at dksX0_appendClose_0 4 rfl rfl)
theorem dX0_appendClose_7 : decode cX0_appendClose 7 = .ok (.i2l, 1) := dk_133 (dk_at dksX0_appendClose_0 7 rfl rfl)
theorem dX0_appendClose_8 : decode cX0_appendClose 8 = .ok (.lastore, 1) := dk_80 (dk_at dksX0_appendClose_0 8 rfl rfl)
theorem dX0_appendClose_9 : decode cX0_appendClose 9 = .ok (.goto 9, 3) := dk_167 0 9 (dk_at dksX0_appendClose_0 9 rfl rfl)
theorem dX0_appendClose_12 : decode cX0_appendClose 12 = .ok (.astore_n 3, 1) := dk_78 (dk_at dksX0_appendClose_0 12 rfl rfl)
theorem dX0_appendClose_13 : decode cX0_appendClose 13 = .ok (.iconst 1, 1) := dk_4 (dk_at dksX0_appendClose_0 13 rfl rfl)
theorem dX0_appendClose_14 : decode cX0_appendClose 14 = .ok (.ireturn, 1) := dk_172 (dk_at dksX0_appendClose_0 14 rfl rfl)
theorem dX0_appendClose_15 : decode cX0_appendClose 15 = .ok (.astore_n 3, 1) := dk_78 (dk_at dksX0_appendClose_0 15 rfl rfl)
theorem dX0_appendClose_16 : decode cX0_appendClose 16 = .ok (.iconst 2, 1) := dk_5 (dk_at dksX0_appendClose_0 16 rfl rfl)
theorem dX0_appendClose_17 : decode cX0_appendClose 17 = .ok (.ireturn, 1) := dk_172 (dk_at dksX0_appendClose_0 17 rfl rfl)
theorem dX0_appendClose_18 : decode cX0_appendClose 18 = .ok (.iconst 0, 1) := dk_3 (dk_at dksX0_appendClose_0 18 rfl rfl)
theorem dX0_appendClose_19 : decode cX0_appendClose 19 = .ok (.ireturn, 1) := dk_172 (dk_at dksX0_appendClose_0 19 rfl rfl)
abbrev cX0_appendAnd : ByteArray := method_13_code
def yX0_appendAnd : MethodName := ⟨RX0, "appendAnd", "(LGateGrammar;I[J)I"⟩
def dkwX0_appendAnd_0 : List UInt8 := [44, 3, 42, 27, 182, 0, 49, 133, 80, 167, 0, 9, 78, 4, 172, 78, 5, 172, 3, 172]
abbrev dktX0_appendAnd_0 : List UInt8 := dkwX0_appendAnd_0 ++ []
theorem dksX0_appendAnd_0 : cX0_appendAnd.data.toList.drop 0 = dktX0_appendAnd_0 := by decide +kernel
theorem dX0_appendAnd_0 : decode cX0_appendAnd 0 = .ok (.aload_n 2, 1) := dk_44 (dk_at dksX0_appendAnd_0 0 rfl rfl)
theorem dX0_appendAnd_1 : decode cX0_appendAnd 1 = .ok (.iconst 0, 1) := dk_3 (dk_at dksX0_appendAnd_0 1 rfl rfl)
theorem dX0_appendAnd_2 : decode cX0_appendAnd 2 = .ok (.aload_n 0, 1) := dk_42 (dk_at dksX0_appendAnd_0 2 rfl rfl)
theorem dX0_appendAnd_3 : decode cX0_appendAnd 3 = .ok (.iload_n 1, 1) := dk_27 (dk_at dksX0_appendAnd_0 3 rfl rfl)
theorem dX0_appendAnd_4 : decode cX0_appendAnd 4 = .ok (.invokevirtual 49, 3) := dk_182 0 49 (dk_at dksX0_appendAnd_0 4 rfl rfl)
theorem dX0_appendAnd_7 : decode cX0_appendAnd 7 = .ok (.i2l, 1) := dk_133 (dk_at dksX0_appendAnd_0 7 rfl rfl)
theorem dX0_appendAnd_8 : decode cX0_appendAnd 8 = .ok (.lastore, 1) := dk_80 (dk_at dksX0_appendAnd_0 8 rfl rfl)
theorem dX0_appendAnd_9 : decode cX0_appendAnd 9 = .ok (.goto 9, 3) := dk_167 0 9 (dk_at dksX0_appendAnd_0 9 rfl rfl)
theorem dX0_appendAnd_12 : decode cX0_appendAnd 12 = .ok (.astore_n 3, 1) := dk_78 (dk_at dksX0_appendAnd_0 12 rfl rfl)
theorem dX0_appendAnd_13 : decode cX0_appendAnd 13 = .ok (.iconst 1, 1) := dk_4 (dk_at dksX0_appendAnd_0 13 rfl rfl)
theorem dX0_appendAnd_14 : decode cX0_appendAnd 14 = .ok (.ireturn, 1) := dk_172 (dk_at dksX0_appendAnd_0 14 rfl rfl)
theorem dX0_appendAnd_15 : decode cX0_appendAnd 15 = .ok (.astore_n 3, 1) := dk_78 (dk_at dksX0_appendAnd_0 15 rfl rfl)
theorem dX0_appendAnd_16 : decode cX0_appendAnd 16 = .ok (.iconst 2, 1) := dk_5 (dk_at dksX0_appendAnd_0 16 rfl rfl)
theorem dX0_appendAnd_17 : decode cX0_appendAnd 17 = .ok (.ireturn, 1) := dk_172 (dk_at dksX0_appendAnd_0 17 rfl rfl)
theorem dX0_appendAnd_18 : decode cX0_appendAnd 18 = .ok (.iconst 0, 1) := dk_3 (dk_at dksX0_appendAnd_0 18 rfl rfl)
theorem dX0_appendAnd_19 : decode cX0_appendAnd 19 = .ok (.ireturn, 1) := dk_172 (dk_at dksX0_appendAnd_0 19 rfl rfl)
abbrev cX0_removeLast : ByteArray := method_14_code
def yX0_removeLast : MethodName := ⟨RX0, "removeLast", "(LGateGrammar;I[J)I"⟩
def dkwX0_removeLast_0 : List UInt8 := [44, 3, 42, 27, 182, 0, 52, 133, 80, 167, 0, 9, 78, 4, 172, 78, 5, 172, 3, 172]
abbrev dktX0_removeLast_0 : List UInt8 := dkwX0_removeLast_0 ++ []
theorem dksX0_removeLast_0 : cX0_removeLast.data.toList.drop 0 = dktX0_removeLast_0 := by decide +kernel
theorem dX0_removeLast_0 : decode cX0_removeLast 0 = .ok (.aload_n 2, 1) := dk_44 (dk_at dksX0_removeLast_0 0 rfl rfl)
theorem dX0_removeLast_1 : decode cX0_removeLast 1 = .ok (.iconst 0, 1) := dk_3 (dk_at dksX0_removeLast_0 1 rfl rfl)
theorem dX0_removeLast_2 : decode cX0_removeLast 2 = .ok (.aload_n 0, 1) := dk_42 (dk_at dksX0_removeLast_0 2 rfl rfl)
theorem dX0_removeLast_3 : decode cX0_removeLast 3 = .ok (.iload_n 1, 1) := dk_27 (dk_at dksX0_removeLast_0 3 rfl rfl)
theorem dX0_removeLast_4 : decode cX0_removeLast 4 = .ok (.invokevirtual 52, 3) := dk_182 0 52 (dk_at dksX0_removeLast_0 4 rfl rfl)
theorem dX0_removeLast_7 : decode cX0_removeLast 7 = .ok (.i2l, 1) := dk_133 (dk_at dksX0_removeLast_0 7 rfl rfl)
theorem dX0_removeLast_8 : decode cX0_removeLast 8 = .ok (.lastore, 1) := dk_80 (dk_at dksX0_removeLast_0 8 rfl rfl)
theorem dX0_removeLast_9 : decode cX0_removeLast 9 = .ok (.goto 9, 3) := dk_167 0 9 (dk_at dksX0_removeLast_0 9 rfl rfl)
theorem dX0_removeLast_12 : decode cX0_removeLast 12 = .ok (.astore_n 3, 1) := dk_78 (dk_at dksX0_removeLast_0 12 rfl rfl)
theorem dX0_removeLast_13 : decode cX0_removeLast 13 = .ok (.iconst 1, 1) := dk_4 (dk_at dksX0_removeLast_0 13 rfl rfl)
theorem dX0_removeLast_14 : decode cX0_removeLast 14 = .ok (.ireturn, 1) := dk_172 (dk_at dksX0_removeLast_0 14 rfl rfl)
theorem dX0_removeLast_15 : decode cX0_removeLast 15 = .ok (.astore_n 3, 1) := dk_78 (dk_at dksX0_removeLast_0 15 rfl rfl)
theorem dX0_removeLast_16 : decode cX0_removeLast 16 = .ok (.iconst 2, 1) := dk_5 (dk_at dksX0_removeLast_0 16 rfl rfl)
theorem dX0_removeLast_17 : decode cX0_removeLast 17 = .ok (.ireturn, 1) := dk_172 (dk_at dksX0_removeLast_0 17 rfl rfl)
theorem dX0_removeLast_18 : decode cX0_removeLast 18 = .ok (.iconst 0, 1) := dk_3 (dk_at dksX0_removeLast_0 18 rfl rfl)
theorem dX0_removeLast_19 : decode cX0_removeLast 19 = .ok (.ireturn, 1) := dk_172 (dk_at dksX0_removeLast_0 19 rfl rfl)
abbrev cX0_clear : ByteArray := method_15_code
def yX0_clear : MethodName := ⟨RX0, "clear", "(LGateGrammar;I[J)I"⟩
def dkwX0_clear_0 : List UInt8 := [44, 3, 42, 27, 182, 0, 55, 133, 80, 167, 0, 6, 78, 4, 172, 3, 172]
abbrev dktX0_clear_0 : List UInt8 := dkwX0_clear_0 ++ []
theorem dksX0_clear_0 : cX0_clear.data.toList.drop 0 = dktX0_clear_0 := by decide +kernel
theorem dX0_clear_0 : decode cX0_clear 0 = .ok (.aload_n 2, 1) := dk_44 (dk_at dksX0_clear_0 0 rfl rfl)
theorem dX0_clear_1 : decode cX0_clear 1 = .ok (.iconst 0, 1) := dk_3 (dk_at dksX0_clear_0 1 rfl rfl)
theorem dX0_clear_2 : decode cX0_clear 2 = .ok (.aload_n 0, 1) := dk_42 (dk_at dksX0_clear_0 2 rfl rfl)
theorem dX0_clear_3 : decode cX0_clear 3 = .ok (.iload_n 1, 1) := dk_27 (dk_at dksX0_clear_0 3 rfl rfl)
theorem dX0_clear_4 : decode cX0_clear 4 = .ok (.invokevirtual 55, 3) := dk_182 0 55 (dk_at dksX0_clear_0 4 rfl rfl)
theorem dX0_clear_7 : decode cX0_clear 7 = .ok (.i2l, 1) := dk_133 (dk_at dksX0_clear_0 7 rfl rfl)
theorem dX0_clear_8 : decode cX0_clear 8 = .ok (.lastore, 1) := dk_80 (dk_at dksX0_clear_0 8 rfl rfl)
theorem dX0_clear_9 : decode cX0_clear 9 = .ok (.goto 6, 3) := dk_167 0 6 (dk_at dksX0_clear_0 9 rfl rfl)
theorem dX0_clear_12 : decode cX0_clear 12 = .ok (.astore_n 3, 1) := dk_78 (dk_at dksX0_clear_0 12 rfl rfl)
theorem dX0_clear_13 : decode cX0_clear 13 = .ok (.iconst 1, 1) := dk_4 (dk_at dksX0_clear_0 13 rfl rfl)
theorem dX0_clear_14 : decode cX0_clear 14 = .ok (.ireturn, 1) := dk_172 (dk_at dksX0_clear_0 14 rfl rfl)
theorem dX0_clear_15 : decode cX0_clear 15 = .ok (.iconst 0, 1) := dk_3 (dk_at dksX0_clear_0 15 rfl rfl)
theorem dX0_clear_16 : decode cX0_clear 16 = .ok (.ireturn, 1) := dk_172 (dk_at dksX0_clear_0 16 rfl rfl)
abbrev cX0_swing : ByteArray := method_16_code
def yX0_swing : MethodName := ⟨RX0, "swing", "(LGateGrammar;I[J)I"⟩
def dkwX0_swing_0 : List UInt8 := [44, 3, 42, 27, 182, 0, 58, 133, 80, 167, 0, 9, 78, 4, 172, 78, 5, 172, 3, 172]
abbrev dktX0_swing_0 : List UInt8 := dkwX0_swing_0 ++ []
theorem dksX0_swing_0 : cX0_swing.data.toList.drop 0 = dktX0_swing_0 := by decide +kernel
theorem dX0_swing_0 : decode cX0_swing 0 = .ok (.aload_n 2, 1) := dk_44 (dk_at dksX0_swing_0 0 rfl rfl)
theorem dX0_swing_1 : decode cX0_swing 1 = .ok (.iconst 0, 1) := dk_3 (dk_at dksX0_swing_0 1 rfl rfl)
theorem dX0_swing_2 : decode cX0_swing 2 = .ok (.aload_n 0, 1) := dk_42 (dk_at dksX0_swing_0 2 rfl rfl)
theorem dX0_swing_3 : decode cX0_swing 3 = .ok (.iload_n 1, 1) := dk_27 (dk_at dksX0_swing_0 3 rfl rfl)
theorem dX0_swing_4 : decode cX0_swing 4 = .ok (.invokevirtual 58, 3) := dk_182 0 58 (dk_at dksX0_swing_0 4 rfl rfl)
theorem dX0_swing_7 : decode cX0_swing 7 = .ok (.i2l, 1) := dk_133 (dk_at dksX0_swing_0 7 rfl rfl)
theorem dX0_swing_8 : decode cX0_swing 8 = .ok (.lastore, 1) := dk_80 (dk_at dksX0_swing_0 8 rfl rfl)
theorem dX0_swing_9 : decode cX0_swing 9 = .ok (.goto 9, 3) := dk_167 0 9 (dk_at dksX0_swing_0 9 rfl rfl)
theorem dX0_swing_12 : decode cX0_swing 12 = .ok (.astore_n 3, 1) := dk_78 (dk_at dksX0_swing_0 12 rfl rfl)
theorem dX0_swing_13 : decode cX0_swing 13 = .ok (.iconst 1, 1) := dk_4 (dk_at dksX0_swing_0 13 rfl rfl)
theorem dX0_swing_14 : decode cX0_swing 14 = .ok (.ireturn, 1) := dk_172 (dk_at dksX0_swing_0 14 rfl rfl)
theorem dX0_swing_15 : decode cX0_swing 15 = .ok (.astore_n 3, 1) := dk_78 (dk_at dksX0_swing_0 15 rfl rfl)
theorem dX0_swing_16 : decode cX0_swing 16 = .ok (.iconst 2, 1) := dk_5 (dk_at dksX0_swing_0 16 rfl rfl)
theorem dX0_swing_17 : decode cX0_swing 17 = .ok (.ireturn, 1) := dk_172 (dk_at dksX0_swing_0 17 rfl rfl)
theorem dX0_swing_18 : decode cX0_swing 18 = .ok (.iconst 0, 1) := dk_3 (dk_at dksX0_swing_0 18 rfl rfl)
theorem dX0_swing_19 : decode cX0_swing 19 = .ok (.ireturn, 1) := dk_172 (dk_at dksX0_swing_0 19 rfl rfl)
abbrev cX0_tokenCount : ByteArray := method_17_code
def yX0_tokenCount : MethodName := ⟨RX0, "tokenCount", "(LGateGrammar;I[J)I"⟩
def dkwX0_tokenCount_0 : List UInt8 := [44, 3, 42, 27, 182, 0, 61, 133, 80, 167, 0, 6, 78, 4, 172, 3, 172]
abbrev dktX0_tokenCount_0 : List UInt8 := dkwX0_tokenCount_0 ++ []
theorem dksX0_tokenCount_0 : cX0_tokenCount.data.toList.drop 0 = dktX0_tokenCount_0 := by decide +kernel
theorem dX0_tokenCount_0 : decode cX0_tokenCount 0 = .ok (.aload_n 2, 1) := dk_44 (dk_at dksX0_tokenCount_0 0 rfl rfl)
theorem dX0_tokenCount_1 : decode cX0_tokenCount 1 = .ok (.iconst 0, 1) := dk_3 (dk_at dksX0_tokenCount_0 1 rfl rfl)
theorem dX0_tokenCount_2 : decode cX0_tokenCount 2 = .ok (.aload_n 0, 1) := dk_42 (dk_at dksX0_tokenCount_0 2 rfl rfl)
theorem dX0_tokenCount_3 : decode cX0_tokenCount 3 = .ok (.iload_n 1, 1) := dk_27 (dk_at dksX0_tokenCount_0 3 rfl rfl)
theorem dX0_tokenCount_4 : decode cX0_tokenCount 4 = .ok (.invokevirtual 61, 3) := dk_182 0 61 (dk_at dksX0_tokenCount_0 4 rfl rfl)
theorem dX0_tokenCount_7 : decode cX0_tokenCount 7 = .ok (.i2l, 1) := dk_133 (dk_at dksX0_tokenCount_0 7 rfl rfl)
theorem dX0_tokenCount_8 : decode cX0_tokenCount 8 = .ok (.lastore, 1) := dk_80 (dk_at dksX0_tokenCount_0 8 rfl rfl)
theorem dX0_tokenCount_9 : decode cX0_tokenCount 9 = .ok (.goto 6, 3) := dk_167 0 6 (dk_at dksX0_tokenCount_0 9 rfl rfl)
theorem dX0_tokenCount_12 : decode cX0_tokenCount 12 = .ok (.astore_n 3, 1) := dk_78 (dk_at dksX0_tokenCount_0 12 rfl rfl)
theorem dX0_tokenCount_13 : decode cX0_tokenCount 13 = .ok (.iconst 1, 1) := dk_4 (dk_at dksX0_tokenCount_0 13 rfl rfl)
theorem dX0_tokenCount_14 : decode cX0_tokenCount 14 = .ok (.ireturn, 1) := dk_172 (dk_at dksX0_tokenCount_0 14 rfl rfl)
theorem dX0_tokenCount_15 : decode cX0_tokenCount 15 = .ok (.iconst 0, 1) := dk_3 (dk_at dksX0_tokenCount_0 15 rfl rfl)
theorem dX0_tokenCount_16 : decode cX0_tokenCount 16 = .ok (.ireturn, 1) := dk_172 (dk_at dksX0_tokenCount_0 16 rfl rfl)
abbrev cX0_tokenKind : ByteArray := method_18_code
def yX0_tokenKind : MethodName := ⟨RX0, "tokenKind", "(LGateGrammar;II[J)I"⟩
def dkwX0_tokenKind_0 : List UInt8 := [45, 3, 42, 27, 28, 182, 0, 64, 133, 80, 167, 0, 7, 58, 4, 4, 172, 3, 172]
abbrev dktX0_tokenKind_0 : List UInt8 := dkwX0_tokenKind_0 ++ []
theorem dksX0_tokenKind_0 : cX0_tokenKind.data.toList.drop 0 = dktX0_tokenKind_0 := by decide +kernel
theorem dX0_tokenKind_0 : decode cX0_tokenKind 0 = .ok (.aload_n 3, 1) := dk_45 (dk_at dksX0_tokenKind_0 0 rfl rfl)
theorem dX0_tokenKind_1 : decode cX0_tokenKind 1 = .ok (.iconst 0, 1) := dk_3 (dk_at dksX0_tokenKind_0 1 rfl rfl)
theorem dX0_tokenKind_2 : decode cX0_tokenKind 2 = .ok (.aload_n 0, 1) := dk_42 (dk_at dksX0_tokenKind_0 2 rfl rfl)
theorem dX0_tokenKind_3 : decode cX0_tokenKind 3 = .ok (.iload_n 1, 1) := dk_27 (dk_at dksX0_tokenKind_0 3 rfl rfl)
theorem dX0_tokenKind_4 : decode cX0_tokenKind 4 = .ok (.iload_n 2, 1) := dk_28 (dk_at dksX0_tokenKind_0 4 rfl rfl)
theorem dX0_tokenKind_5 : decode cX0_tokenKind 5 = .ok (.invokevirtual 64, 3) := dk_182 0 64 (dk_at dksX0_tokenKind_0 5 rfl rfl)
theorem dX0_tokenKind_8 : decode cX0_tokenKind 8 = .ok (.i2l, 1) := dk_133 (dk_at dksX0_tokenKind_0 8 rfl rfl)
theorem dX0_tokenKind_9 : decode cX0_tokenKind 9 = .ok (.lastore, 1) := dk_80 (dk_at dksX0_tokenKind_0 9 rfl rfl)
theorem dX0_tokenKind_10 : decode cX0_tokenKind 10 = .ok (.goto 7, 3) := dk_167 0 7 (dk_at dksX0_tokenKind_0 10 rfl rfl)
theorem dX0_tokenKind_13 : decode cX0_tokenKind 13 = .ok (.astore 4, 2) := dk_58 4 (dk_at dksX0_tokenKind_0 13 rfl rfl)
theorem dX0_tokenKind_15 : decode cX0_tokenKind 15 = .ok (.iconst 1, 1) := dk_4 (dk_at dksX0_tokenKind_0 15 rfl rfl)
theorem dX0_tokenKind_16 : decode cX0_tokenKind 16 = .ok (.ireturn, 1) := dk_172 (dk_at dksX0_tokenKind_0 16 rfl rfl)
theorem dX0_tokenKind_17 : decode cX0_tokenKind 17 = .ok (.iconst 0, 1) := dk_3 (dk_at dksX0_tokenKind_0 17 rfl rfl)
theorem dX0_tokenKind_18 : decode cX0_tokenKind 18 = .ok (.ireturn, 1) := dk_172 (dk_at dksX0_tokenKind_0 18 rfl rfl)
abbrev cX0_syntaxError : ByteArray := method_19_code
def yX0_syntaxError : MethodName := ⟨RX0, "syntaxError", "(LGateGrammar;I[J)I"⟩
def dkwX0_syntaxError_0 : List UInt8 := [44, 3, 42, 27, 182, 0, 67, 133, 80, 167, 0, 6, 78, 4, 172, 3, 172]
abbrev dktX0_syntaxError_0 : List UInt8 := dkwX0_syntaxError_0 ++ []
theorem dksX0_syntaxError_0 : cX0_syntaxError.data.toList.drop 0 = dktX0_syntaxError_0 := by decide +kernel
theorem dX0_syntaxError_0 : decode cX0_syntaxError 0 = .ok (.aload_n 2, 1) := dk_44 (dk_at dksX0_syntaxError_0 0 rfl rfl)
theorem dX0_syntaxError_1 : decode cX0_syntaxError 1 = .ok (.iconst 0, 1) := dk_3 (dk_at dksX0_syntaxError_0 1 rfl rfl)
theorem dX0_syntaxError_2 : decode cX0_syntaxError 2 = .ok (.aload_n 0, 1) := dk_42 (dk_at dksX0_syntaxError_0 2 rfl rfl)
theorem dX0_syntaxError_3 : decode cX0_syntaxError 3 = .ok (.iload_n 1, 1) := dk_27 (dk_at dksX0_syntaxError_0 3 rfl rfl)
theorem dX0_syntaxError_4 : decode cX0_syntaxError 4 = .ok (.invokevirtual 67, 3) := dk_182 0 67 (dk_at dksX0_syntaxError_0 4 rfl rfl)
theorem dX0_syntaxError_7 : decode cX0_syntaxError 7 = .ok (.i2l, 1) := dk_133 (dk_at dksX0_syntaxError_0 7 rfl rfl)
theorem dX0_syntaxError_8 : decode cX0_syntaxError 8 = .ok (.lastore, 1) := dk_80 (dk_at dksX0_syntaxError_0 8 rfl rfl)
theorem dX0_syntaxError_9 : decode cX0_syntaxError 9 = .ok (.goto 6, 3) := dk_167 0 6 (dk_at dksX0_syntaxError_0 9 rfl rfl)
theorem dX0_syntaxError_12 : decode cX0_syntaxError 12 = .ok (.astore_n 3, 1) := dk_78 (dk_at dksX0_syntaxError_0 12 rfl rfl)
theorem dX0_syntaxError_13 : decode cX0_syntaxError 13 = .ok (.iconst 1, 1) := dk_4 (dk_at dksX0_syntaxError_0 13 rfl rfl)
theorem dX0_syntaxError_14 : decode cX0_syntaxError 14 = .ok (.ireturn, 1) := dk_172 (dk_at dksX0_syntaxError_0 14 rfl rfl)
theorem dX0_syntaxError_15 : decode cX0_syntaxError 15 = .ok (.iconst 0, 1) := dk_3 (dk_at dksX0_syntaxError_0 15 rfl rfl)
theorem dX0_syntaxError_16 : decode cX0_syntaxError 16 = .ok (.ireturn, 1) := dk_172 (dk_at dksX0_syntaxError_0 16 rfl rfl)
abbrev cX0_syntaxErrorByLoop : ByteArray := method_20_code
def yX0_syntaxErrorByLoop : MethodName := ⟨RX0, "syntaxErrorByLoop", "(LGateGrammar;I[J)I"⟩
def dkwX0_syntaxErrorByLoop_0 : List UInt8 := [44, 3, 42, 27, 182, 0, 70, 133, 80, 167, 0, 6, 78, 4, 172, 3, 172]
abbrev dktX0_syntaxErrorByLoop_0 : List UInt8 := dkwX0_syntaxErrorByLoop_0 ++ []
theorem dksX0_syntaxErrorByLoop_0 : cX0_syntaxErrorByLoop.data.toList.drop 0 = dktX0_syntaxErrorByLoop_0 := by decide +kernel
theorem dX0_syntaxErrorByLoop_0 : decode cX0_syntaxErrorByLoop 0 = .ok (.aload_n 2, 1) := dk_44 (dk_at dksX0_syntaxErrorByLoop_0 0 rfl rfl)
theorem dX0_syntaxErrorByLoop_1 : decode cX0_syntaxErrorByLoop 1 = .ok (.iconst 0, 1) := dk_3 (dk_at dksX0_syntaxErrorByLoop_0 1 rfl rfl)
theorem dX0_syntaxErrorByLoop_2 : decode cX0_syntaxErrorByLoop 2 = .ok (.aload_n 0, 1) := dk_42 (dk_at dksX0_syntaxErrorByLoop_0 2 rfl rfl)
theorem dX0_syntaxErrorByLoop_3 : decode cX0_syntaxErrorByLoop 3 = .ok (.iload_n 1, 1) := dk_27 (dk_at dksX0_syntaxErrorByLoop_0 3 rfl rfl)
theorem dX0_syntaxErrorByLoop_4 : decode cX0_syntaxErrorByLoop 4 = .ok (.invokevirtual 70, 3) := dk_182 0 70 (dk_at dksX0_syntaxErrorByLoop_0 4 rfl rfl)
theorem dX0_syntaxErrorByLoop_7 : decode cX0_syntaxErrorByLoop 7 = .ok (.i2l, 1) := dk_133 (dk_at dksX0_syntaxErrorByLoop_0 7 rfl rfl)
theorem dX0_syntaxErrorByLoop_8 : decode cX0_syntaxErrorByLoop 8 = .ok (.lastore, 1) := dk_80 (dk_at dksX0_syntaxErrorByLoop_0 8 rfl rfl)
theorem dX0_syntaxErrorByLoop_9 : decode cX0_syntaxErrorByLoop 9 = .ok (.goto 6, 3) := dk_167 0 6 (dk_at dksX0_syntaxErrorByLoop_0 9 rfl rfl)
theorem dX0_syntaxErrorByLoop_12 : decode cX0_syntaxErrorByLoop 12 = .ok (.astore_n 3, 1) := dk_78 (dk_at dksX0_syntaxErrorByLoop_0 12 rfl rfl)
theorem dX0_syntaxErrorByLoop_13 : decode cX0_syntaxErrorByLoop 13 = .ok (.iconst 1, 1) := dk_4 (dk_at dksX0_syntaxErrorByLoop_0 13 rfl rfl)
theorem dX0_syntaxErrorByLoop_14 : decode cX0_syntaxErrorByLoop 14 = .ok (.ireturn, 1) := dk_172 (dk_at dksX0_syntaxErrorByLoop_0 14 rfl rfl)
theorem dX0_syntaxErrorByLoop_15 : decode cX0_syntaxErrorByLoop 15 = .ok (.iconst 0, 1) := dk_3 (dk_at dksX0_syntaxErrorByLoop_0 15 rfl rfl)
theorem dX0_syntaxErrorByLoop_16 : decode cX0_syntaxErrorByLoop 16 = .ok (.ireturn, 1) := dk_172 (dk_at dksX0_syntaxErrorByLoop_0 16 rfl rfl)
abbrev cX0_allowedKinds : ByteArray := method_21_code
def yX0_allowedKinds : MethodName := ⟨RX0, "allowedKinds", "(LGateGrammar;I[J)I"⟩
def dkwX0_allowedKinds_0 : List UInt8 := [44, 3, 42, 27, 182, 0, 73, 133, 80, 167, 0, 6, 78, 4, 172, 3, 172]
abbrev dktX0_allowedKinds_0 : List UInt8 := dkwX0_allowedKinds_0 ++ []
theorem dksX0_allowedKinds_0 : cX0_allowedKinds.data.toList.drop 0 = dktX0_allowedKinds_0 := by decide +kernel
theorem dX0_allowedKinds_0 : decode cX0_allowedKinds 0 = .ok (.aload_n 2, 1) := dk_44 (dk_at dksX0_allowedKinds_0 0 rfl rfl)
theorem dX0_allowedKinds_1 : decode cX0_allowedKinds 1 = .ok (.iconst 0, 1) := dk_3 (dk_at dksX0_allowedKinds_0 1 rfl rfl)
theorem dX0_allowedKinds_2 : decode cX0_allowedKinds 2 = .ok (.aload_n 0, 1) := dk_42 (dk_at dksX0_allowedKinds_0 2 rfl rfl)
theorem dX0_allowedKinds_3 : decode cX0_allowedKinds 3 = .ok (.iload_n 1, 1) := dk_27 (dk_at dksX0_allowedKinds_0 3 rfl rfl)
theorem dX0_allowedKinds_4 : decode cX0_allowedKinds 4 = .ok (.invokevirtual 73, 3) := dk_182 0 73 (dk_at dksX0_allowedKinds_0 4 rfl rfl)
theorem dX0_allowedKinds_7 : decode cX0_allowedKinds 7 = .ok (.i2l, 1) := dk_133 (dk_at dksX0_allowedKinds_0 7 rfl rfl)
theorem dX0_allowedKinds_8 : decode cX0_allowedKinds 8 = .ok (.lastore, 1) := dk_80 (dk_at dksX0_allowedKinds_0 8 rfl rfl)
theorem dX0_allowedKinds_9 : decode cX0_allowedKinds 9 = .ok (.goto 6, 3) := dk_167 0 6 (dk_at dksX0_allowedKinds_0 9 rfl rfl)
theorem dX0_allowedKinds_12 : decode cX0_allowedKinds 12 = .ok (.astore_n 3, 1) := dk_78 (dk_at dksX0_allowedKinds_0 12 rfl rfl)
theorem dX0_allowedKinds_13 : decode cX0_allowedKinds 13 = .ok (.iconst 1, 1) := dk_4 (dk_at dksX0_allowedKinds_0 13 rfl rfl)
theorem dX0_allowedKinds_14 : decode cX0_allowedKinds 14 = .ok (.ireturn, 1) := dk_172 (dk_at dksX0_allowedKinds_0 14 rfl rfl)
theorem dX0_allowedKinds_15 : decode cX0_allowedKinds 15 = .ok (.iconst 0, 1) := dk_3 (dk_at dksX0_allowedKinds_0 15 rfl rfl)
theorem dX0_allowedKinds_16 : decode cX0_allowedKinds 16 = .ok (.ireturn, 1) := dk_172 (dk_at dksX0_allowedKinds_0 16 rfl rfl)
abbrev cX0_excessTokens : ByteArray := method_22_code
def yX0_excessTokens : MethodName := ⟨RX0, "excessTokens", "(LGateGrammar;I[J)I"⟩
def dkwX0_excessTokens_0 : List UInt8 := [44, 3, 42, 27, 182, 0, 76, 133, 80, 167, 0, 9, 78, 4, 172, 78, 5, 172, 3, 172]
abbrev dktX0_excessTokens_0 : List UInt8 := dkwX0_excessTokens_0 ++ []
theorem dksX0_excessTokens_0 : cX0_excessTokens.data.toList.drop 0 = dktX0_excessTokens_0 := by decide +kernel
theorem dX0_excessTokens_0 : decode cX0_excessTokens 0 = .ok (.aload_n 2, 1) := dk_44 (dk_at dksX0_excessTokens_0 0 rfl rfl)
theorem dX0_excessTokens_1 : decode cX0_excessTokens 1 = .ok (.iconst 0, 1) := dk_3 (dk_at dksX0_excessTokens_0 1 rfl rfl)
theorem dX0_excessTokens_2 : decode cX0_excessTokens 2 = .ok (.aload_n 0, 1) := dk_42 (dk_at dksX0_excessTokens_0 2 rfl rfl)
theorem dX0_excessTokens_3 : decode cX0_excessTokens 3 = .ok (.iload_n 1, 1) := dk_27 (dk_at dksX0_excessTokens_0 3 rfl rfl)
theorem dX0_excessTokens_4 : decode cX0_excessTokens 4 = .ok (.invokevirtual 76, 3) := dk_182 0 76 (dk_at dksX0_excessTokens_0 4 rfl rfl)
theorem dX0_excessTokens_7 : decode cX0_excessTokens 7 = .ok (.i2l, 1) := dk_133 (dk_at dksX0_excessTokens_0 7 rfl rfl)
theorem dX0_excessTokens_8 : decode cX0_excessTokens 8 = .ok (.lastore, 1) := dk_80 (dk_at dksX0_excessTokens_0 8 rfl rfl)
theorem dX0_excessTokens_9 : decode cX0_excessTokens 9 = .ok (.goto 9, 3) := dk_167 0 9 (dk_at dksX0_excessTokens_0 9 rfl rfl)
theorem dX0_excessTokens_12 : decode cX0_excessTokens 12 = .ok (.astore_n 3, 1) := dk_78 (dk_at dksX0_excessTokens_0 12 rfl rfl)
theorem dX0_excessTokens_13 : decode cX0_excessTokens 13 = .ok (.iconst 1, 1) := dk_4 (dk_at dksX0_excessTokens_0 13 rfl rfl)
theorem dX0_excessTokens_14 : decode cX0_excessTokens 14 = .ok (.ireturn, 1) := dk_172 (dk_at dksX0_excessTokens_0 14 rfl rfl)
theorem dX0_excessTokens_15 : decode cX0_excessTokens 15 = .ok (.astore_n 3, 1) := dk_78 (dk_at dksX0_excessTokens_0 15 rfl rfl)
theorem dX0_excessTokens_16 : decode cX0_excessTokens 16 = .ok (.iconst 2, 1) := dk_5 (dk_at dksX0_excessTokens_0 16 rfl rfl)
theorem dX0_excessTokens_17 : decode cX0_excessTokens 17 = .ok (.ireturn, 1) := dk_172 (dk_at dksX0_excessTokens_0 17 rfl rfl)
theorem dX0_excessTokens_18 : decode cX0_excessTokens 18 = .ok (.iconst 0, 1) := dk_3 (dk_at dksX0_excessTokens_0 18 rfl rfl)
theorem dX0_excessTokens_19 : decode cX0_excessTokens 19 = .ok (.ireturn, 1) := dk_172 (dk_at dksX0_excessTokens_0 19 rfl rfl)
abbrev cX0_clauseCount : ByteArray := method_23_code
def yX0_clauseCount : MethodName := ⟨RX0, "clauseCount", "(LGateGrammar;I[J)I"⟩
def dkwX0_clauseCount_0 : List UInt8 := [44, 3, 42, 27, 182, 0, 81, 133, 80, 167, 0, 6, 78, 4, 172, 3, 172]
abbrev dktX0_clauseCount_0 : List UInt8 := dkwX0_clauseCount_0 ++ []
theorem dksX0_clauseCount_0 : cX0_clauseCount.data.toList.drop 0 = dktX0_clauseCount_0 := by decide +kernel
theorem dX0_clauseCount_0 : decode cX0_clauseCount 0 = .ok (.aload_n 2, 1) := dk_44 (dk_at dksX0_clauseCount_0 0 rfl rfl)
theorem dX0_clauseCount_1 : decode cX0_clauseCount 1 = .ok (.iconst 0, 1) := dk_3 (dk_at dksX0_clauseCount_0 1 rfl rfl)
theorem dX0_clauseCount_2 : decode cX0_clauseCount 2 = .ok (.aload_n 0, 1) := dk_42 (dk_at dksX0_clauseCount_0 2 rfl rfl)
theorem dX0_clauseCount_3 : decode cX0_clauseCount 3 = .ok (.iload_n 1, 1) := dk_27 (dk_at dksX0_clauseCount_0 3 rfl rfl)
theorem dX0_clauseCount_4 : decode cX0_clauseCount 4 = .ok (.invokevirtual 81, 3) := dk_182 0 81 (dk_at dksX0_clauseCount_0 4 rfl rfl)
theorem dX0_clauseCount_7 : decode cX0_clauseCount 7 = .ok (.i2l, 1) := dk_133 (dk_at dksX0_clauseCount_0 7 rfl rfl)
theorem dX0_clauseCount_8 : decode cX0_clauseCount 8 = .ok (.lastore, 1) := dk_80 (dk_at dksX0_clauseCount_0 8 rfl rfl)
theorem dX0_clauseCount_9 : decode cX0_clauseCount 9 = .ok (.goto 6, 3) := dk_167 0 6 (dk_at dksX0_clauseCount_0 9 rfl rfl)
theorem dX0_clauseCount_12 : decode cX0_clauseCount 12 = .ok (.astore_n 3, 1) := dk_78 (dk_at dksX0_clauseCount_0 12 rfl rfl)
theorem dX0_clauseCount_13 : decode cX0_clauseCount 13 = .ok (.iconst 1, 1) := dk_4 (dk_at dksX0_clauseCount_0 13 rfl rfl)
theorem dX0_clauseCount_14 : decode cX0_clauseCount 14 = .ok (.ireturn, 1) := dk_172 (dk_at dksX0_clauseCount_0 14 rfl rfl)
theorem dX0_clauseCount_15 : decode cX0_clauseCount 15 = .ok (.iconst 0, 1) := dk_3 (dk_at dksX0_clauseCount_0 15 rfl rfl)
theorem dX0_clauseCount_16 : decode cX0_clauseCount 16 = .ok (.ireturn, 1) := dk_172 (dk_at dksX0_clauseCount_0 16 rfl rfl)
abbrev cX0_depth : ByteArray := method_24_code
def yX0_depth : MethodName := ⟨RX0, "depth", "(LGateGrammar;I[J)I"⟩
def dkwX0_depth_0 : List UInt8 := [44, 3, 42, 27, 182, 0, 84, 133, 80, 167, 0, 9, 78, 4, 172, 78, 5, 172, 3, 172]
abbrev dktX0_depth_0 : List UInt8 := dkwX0_depth_0 ++ []
theorem dksX0_depth_0 : cX0_depth.data.toList.drop 0 = dktX0_depth_0 := by decide +kernel
theorem dX0_depth_0 : decode cX0_depth 0 = .ok (.aload_n 2, 1) := dk_44 (dk_at dksX0_depth_0 0 rfl rfl)
theorem dX0_depth_1 : decode cX0_depth 1 = .ok (.iconst 0, 1) := dk_3 (dk_at dksX0_depth_0 1 rfl rfl)
theorem dX0_depth_2 : decode cX0_depth 2 = .ok (.aload_n 0, 1) := dk_42 (dk_at dksX0_depth_0 2 rfl rfl)
theorem dX0_depth_3 : decode cX0_depth 3 = .ok (.iload_n 1, 1) := dk_27 (dk_at dksX0_depth_0 3 rfl rfl)
theorem dX0_depth_4 : decode cX0_depth 4 = .ok (.invokevirtual 84, 3) := dk_182 0 84 (dk_at dksX0_depth_0 4 rfl rfl)
theorem dX0_depth_7 : decode cX0_depth 7 = .ok (.i2l, 1) := dk_133 (dk_at dksX0_depth_0 7 rfl rfl)
theorem dX0_depth_8 : decode cX0_depth 8 = .ok (.lastore, 1) := dk_80 (dk_at dksX0_depth_0 8 rfl rfl)
theorem dX0_depth_9 : decode cX0_depth 9 = .ok (.goto 9, 3) := dk_167 0 9 (dk_at dksX0_depth_0 9 rfl rfl)
theorem dX0_depth_12 : decode cX0_depth 12 = .ok (.astore_n 3, 1) := dk_78 (dk_at dksX0_depth_0 12 rfl rfl)
theorem dX0_depth_13 : decode cX0_depth 13 = .ok (.iconst 1, 1) := dk_4 (dk_at dksX0_depth_0 13 rfl rfl)
theorem dX0_depth_14 : decode cX0_depth 14 = .ok (.ireturn, 1) := dk_172 (dk_at dksX0_depth_0 14 rfl rfl)
theorem dX0_depth_15 : decode cX0_depth 15 = .ok (.astore_n 3, 1) := dk_78 (dk_at dksX0_depth_0 15 rfl rfl)
theorem dX0_depth_16 : decode cX0_depth 16 = .ok (.iconst 2, 1) := dk_5 (dk_at dksX0_depth_0 16 rfl rfl)
theorem dX0_depth_17 : decode cX0_depth 17 = .ok (.ireturn, 1) := dk_172 (dk_at dksX0_depth_0 17 rfl rfl)
theorem dX0_depth_18 : decode cX0_depth 18 = .ok (.iconst 0, 1) := dk_3 (dk_at dksX0_depth_0 18 rfl rfl)
theorem dX0_depth_19 : decode cX0_depth 19 = .ok (.ireturn, 1) := dk_172 (dk_at dksX0_depth_0 19 rfl rfl)
abbrev cX0_subjectCount : ByteArray := method_25_code
def yX0_subjectCount : MethodName := ⟨RX0, "subjectCount", "(LGateGrammar;II[J)I"⟩
def dkwX0_subjectCount_0 : List UInt8 := [45, 3, 42, 27, 28, 182, 0, 87, 133, 80, 167, 0, 11, 58, 4, 4, 172, 58, 4, 5, 172, 3, 172]
abbrev dktX0_subjectCount_0 : List UInt8 := dkwX0_subjectCount_0 ++ []
theorem dksX0_subjectCount_0 : cX0_subjectCount.data.toList.drop 0 = dktX0_subjectCount_0 := by decide +kernel
theorem dX0_subjectCount_0 : decode cX0_subjectCount 0 = .ok (.aload_n 3, 1) := dk_45 (dk_at dksX0_subjectCount_0 0 rfl rfl)
theorem dX0_subjectCount_1 : decode cX0_subjectCount 1 = .ok (.iconst 0, 1) := dk_3 (dk_at dksX0_subjectCount_0 1 rfl rfl)
theorem dX0_subjectCount_2 : decode cX0_subjectCount 2 = .ok (.aload_n 0, 1) := dk_42 (dk_at dksX0_subjectCount_0 2 rfl rfl)
theorem dX0_subjectCount_3 : decode cX0_subjectCount 3 = .ok (.iload_n 1, 1) := dk_27 (dk_at dksX0_subjectCount_0 3 rfl rfl)
theorem dX0_subjectCount_4 : decode cX0_subjectCount 4 = .ok (.iload_n 2, 1) := dk_28 (dk_at dksX0_subjectCount_0 4 rfl rfl)
theorem dX0_subjectCount_5 : decode cX0_subjectCount 5 = .ok (.invokevirtual 87, 3) := dk_182 0 87 (dk_at dksX0_subjectCount_0 5 rfl rfl)
theorem dX0_subjectCount_8 : decode cX0_subjectCount 8 = .ok (.i2l, 1) := dk_133 (dk_at dksX0_subjectCount_0 8 rfl rfl)
theorem dX0_subjectCount_9 : decode cX0_subjectCount 9 = .ok (.lastore, 1) := dk_80 (dk_at dksX0_subjectCount_0 9 rfl rfl)
theorem dX0_subjectCount_10 : decode cX0_subjectCount 10 = .ok (.goto 11, 3) := dk_167 0 11 (dk_at dksX0_subjectCount_0 10 rfl rfl)
theorem dX0_subjectCount_13 : decode cX0_subjectCount 13 = .ok (.astore 4, 2) := dk_58 4 (dk_at dksX0_subjectCount_0 13 rfl rfl)
theorem dX0_subjectCount_15 : decode cX0_subjectCount 15 = .ok (.iconst 1, 1) := dk_4 (dk_at dksX0_subjectCount_0 15 rfl rfl)
theorem dX0_subjectCount_16 : decode cX0_subjectCount 16 = .ok (.ireturn, 1) := dk_172 (dk_at dksX0_subjectCount_0 16 rfl rfl)
theorem dX0_subjectCount_17 : decode cX0_subjectCount 17 = .ok (.astore 4, 2) := dk_58 4 (dk_at dksX0_subjectCount_0 17 rfl rfl)
theorem dX0_subjectCount_19 : decode cX0_subjectCount 19 = .ok (.iconst 2, 1) := dk_5 (dk_at dksX0_subjectCount_0 19 rfl rfl)
theorem dX0_subjectCount_20 : decode cX0_subjectCount 20 = .ok (.ireturn, 1) := dk_172 (dk_at dksX0_subjectCount_0 20 rfl rfl)
theorem dX0_subjectCount_21 : decode cX0_subjectCount 21 = .ok (.iconst 0, 1) := dk_3 (dk_at dksX0_subjectCount_0 21 rfl rfl)
theorem dX0_subjectCount_22 : decode cX0_subjectCount 22 = .ok (.ireturn, 1) := dk_172 (dk_at dksX0_subjectCount_0 22 rfl rfl)
abbrev cX0_verbOf : ByteArray := method_26_code
def yX0_verbOf : MethodName := ⟨RX0, "verbOf", "(LGateGrammar;II[J)I"⟩
def dkwX0_verbOf_0 : List UInt8 := [45, 3, 42, 27, 28, 182, 0, 90, 133, 80, 167, 0, 11, 58, 4, 4, 172, 58, 4, 5, 172, 3, 172]
abbrev dktX0_verbOf_0 : List UInt8 := dkwX0_verbOf_0 ++ []
theorem dksX0_verbOf_0 : cX0_verbOf.data.toList.drop 0 = dktX0_verbOf_0 := by decide +kernel
theorem dX0_verbOf_0 : decode cX0_verbOf 0 = .ok (.aload_n 3, 1) := dk_45 (dk_at dksX0_verbOf_0 0 rfl rfl)
theorem dX0_verbOf_1 : decode cX0_verbOf 1 = .ok (.iconst 0, 1) := dk_3 (dk_at dksX0_verbOf_0 1 rfl rfl)
theorem dX0_verbOf_2 : decode cX0_verbOf 2 = .ok (.aload_n 0, 1) := dk_42 (dk_at dksX0_verbOf_0 2 rfl rfl)
theorem dX0_verbOf_3 : decode cX0_verbOf 3 = .ok (.iload_n 1, 1) := dk_27 (dk_at dksX0_verbOf_0 3 rfl rfl)
theorem dX0_verbOf_4 : decode cX0_verbOf 4 = .ok (.iload_n 2, 1) := dk_28 (dk_at dksX0_verbOf_0 4 rfl rfl)
theorem dX0_verbOf_5 : decode cX0_verbOf 5 = .ok (.invokevirtual 90, 3) := dk_182 0 90 (dk_at dksX0_verbOf_0 5 rfl rfl)
theorem dX0_verbOf_8 : decode cX0_verbOf 8 = .ok (.i2l, 1) := dk_133 (dk_at dksX0_verbOf_0 8 rfl rfl)
theorem dX0_verbOf_9 : decode cX0_verbOf 9 = .ok (.lastore, 1) := dk_80 (dk_at dksX0_verbOf_0 9 rfl rfl)
theorem dX0_verbOf_10 : decode cX0_verbOf 10 = .ok (.goto 11, 3) := dk_167 0 11 (dk_at dksX0_verbOf_0 10 rfl rfl)
theorem dX0_verbOf_13 : decode cX0_verbOf 13 = .ok (.astore 4, 2) := dk_58 4 (dk_at dksX0_verbOf_0 13 rfl rfl)
theorem dX0_verbOf_15 : decode cX0_verbOf 15 = .ok (.iconst 1, 1) := dk_4 (dk_at dksX0_verbOf_0 15 rfl rfl)
theorem dX0_verbOf_16 : decode cX0_verbOf 16 = .ok (.ireturn, 1) := dk_172 (dk_at dksX0_verbOf_0 16 rfl rfl)
theorem dX0_verbOf_17 : decode cX0_verbOf 17 = .ok (.astore 4, 2) := dk_58 4 (dk_at dksX0_verbOf_0 17 rfl rfl)
theorem dX0_verbOf_19 : decode cX0_verbOf 19 = .ok (.iconst 2, 1) := dk_5 (dk_at dksX0_verbOf_0 19 rfl rfl)
theorem dX0_verbOf_20 : decode cX0_verbOf 20 = .ok (.ireturn, 1) := dk_172 (dk_at dksX0_verbOf_0 20 rfl rfl)
theorem dX0_verbOf_21 : decode cX0_verbOf 21 = .ok (.iconst 0, 1) := dk_3 (dk_at dksX0_verbOf_0 21 rfl rfl)
theorem dX0_verbOf_22 : decode cX0_verbOf 22 = .ok (.ireturn, 1) := dk_172 (dk_at dksX0_verbOf_0 22 rfl rfl)
abbrev cX0_tenseOf : ByteArray := method_27_code
def yX0_tenseOf : MethodName := ⟨RX0, "tenseOf", "(LGateGrammar;II[J)I"⟩
def dkwX0_tenseOf_0 : List UInt8 := [45, 3, 42, 27, 28, 182, 0, 93, 133, 80, 167, 0, 11, 58, 4, 4, 172, 58, 4, 5, 172, 3, 172]
abbrev dktX0_tenseOf_0 : List UInt8 := dkwX0_tenseOf_0 ++ []
theorem dksX0_tenseOf_0 : cX0_tenseOf.data.toList.drop 0 = dktX0_tenseOf_0 := by decide +kernel
theorem dX0_tenseOf_0 : decode cX0_tenseOf 0 = .ok (.aload_n 3, 1) := dk_45 (dk_at dksX0_tenseOf_0 0 rfl rfl)
theorem dX0_tenseOf_1 : decode cX0_tenseOf 1 = .ok (.iconst 0, 1) := dk_3 (dk_at dksX0_tenseOf_0 1 rfl rfl)
theorem dX0_tenseOf_2 : decode cX0_tenseOf 2 = .ok (.aload_n 0, 1) := dk_42 (dk_at dksX0_tenseOf_0 2 rfl rfl)
theorem dX0_tenseOf_3 : decode cX0_tenseOf 3 = .ok (.iload_n 1, 1) := dk_27 (dk_at dksX0_tenseOf_0 3 rfl rfl)
theorem dX0_tenseOf_4 : decode cX0_tenseOf 4 = .ok (.iload_n 2, 1) := dk_28 (dk_at dksX0_tenseOf_0 4 rfl rfl)
theorem dX0_tenseOf_5 : decode cX0_tenseOf 5 = .ok (.invokevirtual 93, 3) := dk_182 0 93 (dk_at dksX0_tenseOf_0 5 rfl rfl)
theorem dX0_tenseOf_8 : decode cX0_tenseOf 8 = .ok (.i2l, 1) := dk_133 (dk_at dksX0_tenseOf_0 8 rfl rfl)
theorem dX0_tenseOf_9 : decode cX0_tenseOf 9 = .ok (.lastore, 1) := dk_80 (dk_at dksX0_tenseOf_0 9 rfl rfl)
theorem dX0_tenseOf_10 : decode cX0_tenseOf 10 = .ok (.goto 11, 3) := dk_167 0 11 (dk_at dksX0_tenseOf_0 10 rfl rfl)
theorem dX0_tenseOf_13 : decode cX0_tenseOf 13 = .ok (.astore 4, 2) := dk_58 4 (dk_at dksX0_tenseOf_0 13 rfl rfl)
theorem dX0_tenseOf_15 : decode cX0_tenseOf 15 = .ok (.iconst 1, 1) := dk_4 (dk_at dksX0_tenseOf_0 15 rfl rfl)
theorem dX0_tenseOf_16 : decode cX0_tenseOf 16 = .ok (.ireturn, 1) := dk_172 (dk_at dksX0_tenseOf_0 16 rfl rfl)
theorem dX0_tenseOf_17 : decode cX0_tenseOf 17 = .ok (.astore 4, 2) := dk_58 4 (dk_at dksX0_tenseOf_0 17 rfl rfl)
theorem dX0_tenseOf_19 : decode cX0_tenseOf 19 = .ok (.iconst 2, 1) := dk_5 (dk_at dksX0_tenseOf_0 19 rfl rfl)
theorem dX0_tenseOf_20 : decode cX0_tenseOf 20 = .ok (.ireturn, 1) := dk_172 (dk_at dksX0_tenseOf_0 20 rfl rfl)
theorem dX0_tenseOf_21 : decode cX0_tenseOf 21 = .ok (.iconst 0, 1) := dk_3 (dk_at dksX0_tenseOf_0 21 rfl rfl)
theorem dX0_tenseOf_22 : decode cX0_tenseOf 22 = .ok (.ireturn, 1) := dk_172 (dk_at dksX0_tenseOf_0 22 rfl rfl)
abbrev cX0_hasObject : ByteArray := method_28_code
def yX0_hasObject : MethodName := ⟨RX0, "hasObject", "(LGateGrammar;II[J)I"⟩
def dkwX0_hasObject_1 : List UInt8 := [58, 4, 5, 172, 3, 172]
abbrev dktX0_hasObject_1 : List UInt8 := dkwX0_hasObject_1 ++ []
def dkwX0_hasObject_0 : List UInt8 := [45, 3, 42, 27, 28, 182, 0, 96, 153, 0, 7, 10, 167, 0, 4, 9, 80, 167, 0, 11, 58, 4, 4, 172]
abbrev dktX0_hasObject_0 : List UInt8 := dkwX0_hasObject_0 ++ dktX0_hasObject_1
theorem dksX0_hasObject_0 : cX0_hasObject.data.toList.drop 0 = dktX0_hasObject_0 := by decide +kernel
theorem dksX0_hasObject_1 : cX0_hasObject.data.toList.drop 24 = dktX0_hasObject_1 := dk_seg dksX0_hasObject_0 24 rfl rfl
theorem dX0_hasObject_0 : decode cX0_hasObject 0 = .ok (.aload_n 3, 1) := dk_45 (dk_at dksX0_hasObject_0 0 rfl rfl)
theorem dX0_hasObject_1 : decode cX0_hasObject 1 = .ok (.iconst 0, 1) := dk_3 (dk_at dksX0_hasObject_0 1 rfl rfl)
theorem dX0_hasObject_2 : decode cX0_hasObject 2 = .ok (.aload_n 0, 1) := dk_42 (dk_at dksX0_hasObject_0 2 rfl rfl)
theorem dX0_hasObject_3 : decode cX0_hasObject 3 = .ok (.iload_n 1, 1) := dk_27 (dk_at dksX0_hasObject_0 3 rfl rfl)
theorem dX0_hasObject_4 : decode cX0_hasObject 4 = .ok (.iload_n 2, 1) := dk_28 (dk_at dksX0_hasObject_0 4 rfl rfl)
theorem dX0_hasObject_5 : decode cX0_hasObject 5 = .ok (.invokevirtual 96, 3) := dk_182 0 96 (dk_at dksX0_hasObject_0 5 rfl rfl)
theorem dX0_hasObject_8 : decode cX0_hasObject 8 = .ok (.ifCond .eq 7, 3) := dk_153 0 7 (dk_at dksX0_hasObject_0 8 rfl rfl)
theorem dX0_hasObject_11 : decode cX0_hasObject 11 = .ok (.lconst 1, 1) := dk_10 (dk_at dksX0_hasObject_0 11 rfl rfl)
theorem dX0_hasObject_12 : decode cX0_hasObject 12 = .ok (.goto 4, 3) := dk_167 0 4 (dk_at dksX0_hasObject_0 12 rfl rfl)
theorem dX0_hasObject_15 : decode cX0_hasObject 15 = .ok (.lconst 0, 1) := dk_9 (dk_at dksX0_hasObject_0 15 rfl rfl)
theorem dX0_hasObject_16 : decode cX0_hasObject 16 = .ok (.lastore, 1) := dk_80 (dk_at dksX0_hasObject_0 16 rfl rfl)
theorem dX0_hasObject_17 : decode cX0_hasObject 17 = .ok (.goto 11, 3) := dk_167 0 11 (dk_at dksX0_hasObject_0 17 rfl rfl)
theorem dX0_hasObject_20 : decode cX0_hasObject 20 = .ok (.astore 4, 2) := dk_58 4 (dk_at dksX0_hasObject_0 20 rfl rfl)
theorem dX0_hasObject_22 : decode cX0_hasObject 22 = .ok (.iconst 1, 1) := dk_4 (dk_at dksX0_hasObject_0 22 rfl rfl)
theorem dX0_hasObject_23 : decode cX0_hasObject 23 = .ok (.ireturn, 1) := dk_172 (dk_at dksX0_hasObject_0 23 rfl rfl)
theorem dX0_hasObject_24 : decode cX0_hasObject 24 = .ok (.astore 4, 2) := dk_58 4 (dk_at dksX0_hasObject_1 0 rfl rfl)
theorem dX0_hasObject_26 : decode cX0_hasObject 26 = .ok (.iconst 2, 1) := dk_5 (dk_at dksX0_hasObject_1 2 rfl rfl)
theorem dX0_hasObject_27 : decode cX0_hasObject 27 = .ok (.ireturn, 1) := dk_172 (dk_at dksX0_hasObject_1 3 rfl rfl)
theorem dX0_hasObject_28 : decode cX0_hasObject 28 = .ok (.iconst 0, 1) := dk_3 (dk_at dksX0_hasObject_1 4 rfl rfl)
theorem dX0_hasObject_29 : decode cX0_hasObject 29 = .ok (.ireturn, 1) := dk_172 (dk_at dksX0_hasObject_1 5 rfl rfl)
abbrev cX0_parentOf : ByteArray := method_29_code
def yX0_parentOf : MethodName := ⟨RX0, "parentOf", "(LGateGrammar;II[J)I"⟩
def dkwX0_parentOf_0 : List UInt8 := [45, 3, 42, 27, 28, 182, 0, 100, 133, 80, 167, 0, 11, 58, 4, 4, 172, 58, 4, 5, 172, 3, 172]
abbrev dktX0_parentOf_0 : List UInt8 := dkwX0_parentOf_0 ++ []
theorem dksX0_parentOf_0 : cX0_parentOf.data.toList.drop 0 = dktX0_parentOf_0 := by decide +kernel
theorem dX0_parentOf_0 : decode cX0_parentOf 0 = .ok (.aload_n 3, 1) := dk_45 (dk_at dksX0_parentOf_0 0 rfl rfl)
theorem dX0_parentOf_1 : decode cX0_parentOf 1 = .ok (.iconst 0, 1) := dk_3 (dk_at dksX0_parentOf_0 1 rfl rfl)
theorem dX0_parentOf_2 : decode cX0_parentOf 2 = .ok (.aload_n 0, 1) := dk_42 (dk_at dksX0_parentOf_0 2 rfl rfl)
theorem dX0_parentOf_3 : decode cX0_parentOf 3 = .ok (.iload_n 1, 1) := dk_27 (dk_at dksX0_parentOf_0 3 rfl rfl)
theorem dX0_parentOf_4 : decode cX0_parentOf 4 = .ok (.iload_n 2, 1) := dk_28 (dk_at dksX0_parentOf_0 4 rfl rfl)
theorem dX0_parentOf_5 : decode cX0_parentOf 5 = .ok (.invokevirtual 100, 3) := dk_182 0 100 (dk_at dksX0_parentOf_0 5 rfl rfl)
theorem dX0_parentOf_8 : decode cX0_parentOf 8 = .ok (.i2l, 1) := dk_133 (dk_at dksX0_parentOf_0 8 rfl rfl)
theorem dX0_parentOf_9 : decode cX0_parentOf 9 = .ok (.lastore, 1) := dk_80 (dk_at dksX0_parentOf_0 9 rfl rfl)
theorem dX0_parentOf_10 : decode cX0_parentOf 10 = .ok (.goto 11, 3) := dk_167 0 11 (dk_at dksX0_parentOf_0 10 rfl rfl)
theorem dX0_parentOf_13 : decode cX0_parentOf 13 = .ok (.astore 4, 2) := dk_58 4 (dk_at dksX0_parentOf_0 13 rfl rfl)
theorem dX0_parentOf_15 : decode cX0_parentOf 15 = .ok (.iconst 1, 1) := dk_4 (dk_at dksX0_parentOf_0 15 rfl rfl)
theorem dX0_parentOf_16 : decode cX0_parentOf 16 = .ok (.ireturn, 1) := dk_172 (dk_at dksX0_parentOf_0 16 rfl rfl)
theorem dX0_parentOf_17 : decode cX0_parentOf 17 = .ok (.astore 4, 2) := dk_58 4 (dk_at dksX0_parentOf_0 17 rfl rfl)
theorem dX0_parentOf_19 : decode cX0_parentOf 19 = .ok (.iconst 2, 1) := dk_5 (dk_at dksX0_parentOf_0 19 rfl rfl)
theorem dX0_parentOf_20 : decode cX0_parentOf 20 = .ok (.ireturn, 1) := dk_172 (dk_at dksX0_parentOf_0 20 rfl rfl)
theorem dX0_parentOf_21 : decode cX0_parentOf 21 = .ok (.iconst 0, 1) := dk_3 (dk_at dksX0_parentOf_0 21 rfl rfl)
theorem dX0_parentOf_22 : decode cX0_parentOf 22 = .ok (.ireturn, 1) := dk_172 (dk_at dksX0_parentOf_0 22 rfl rfl)
abbrev cX0_disagreementCount : ByteArray := method_30_code
def yX0_disagreementCount : MethodName := ⟨RX0, "disagreementCount", "(LGateGrammar;I[J)I"⟩
def dkwX0_disagreementCount_0 : List UInt8 := [44, 3, 42, 27, 182, 0, 103, 133, 80, 167, 0, 9, 78, 4, 172, 78, 5, 172, 3, 172]
abbrev dktX0_disagreementCount_0 : List UInt8 := dkwX0_disagreementCount_0 ++ []
theorem dksX0_disagreementCount_0 : cX0_disagreementCount.data.toList.drop 0 = dktX0_disagreementCount_0 := by decide +kernel
theorem dX0_disagreementCount_0 : decode cX0_disagreementCount 0 = .ok (.aload_n 2, 1) := dk_44 (dk_at dksX0_disagreementCount_0 0 rfl rfl)
theorem dX0_disagreementCount_1 : decode cX0_disagreementCount 1 = .ok (.iconst 0, 1) := dk_3 (dk_at dksX0_disagreementCount_0 1 rfl rfl)
theorem dX0_disagreementCount_2 : decode cX0_disagreementCount 2 = .ok (.aload_n 0, 1) := dk_42 (dk_at dksX0_disagreementCount_0 2 rfl rfl)
theorem dX0_disagreementCount_3 : decode cX0_disagreementCount 3 = .ok (.iload_n 1, 1) := dk_27 (dk_at dksX0_disagreementCount_0 3 rfl rfl)
theorem dX0_disagreementCount_4 : decode cX0_disagreementCount 4 = .ok (.invokevirtual 103, 3) := dk_182 0 103 (dk_at dksX0_disagreementCount_0 4 rfl rfl)
theorem dX0_disagreementCount_7 : decode cX0_disagreementCount 7 = .ok (.i2l, 1) := dk_133 (dk_at dksX0_disagreementCount_0 7 rfl rfl)
theorem dX0_disagreementCount_8 : decode cX0_disagreementCount 8 = .ok (.lastore, 1) := dk_80 (dk_at dksX0_disagreementCount_0 8 rfl rfl)
theorem dX0_disagreementCount_9 : decode cX0_disagreementCount 9 = .ok (.goto 9, 3) := dk_167 0 9 (dk_at dksX0_disagreementCount_0 9 rfl rfl)
theorem dX0_disagreementCount_12 : decode cX0_disagreementCount 12 = .ok (.astore_n 3, 1) := dk_78 (dk_at dksX0_disagreementCount_0 12 rfl rfl)
theorem dX0_disagreementCount_13 : decode cX0_disagreementCount 13 = .ok (.iconst 1, 1) := dk_4 (dk_at dksX0_disagreementCount_0 13 rfl rfl)
theorem dX0_disagreementCount_14 : decode cX0_disagreementCount 14 = .ok (.ireturn, 1) := dk_172 (dk_at dksX0_disagreementCount_0 14 rfl rfl)
theorem dX0_disagreementCount_15 : decode cX0_disagreementCount 15 = .ok (.astore_n 3, 1) := dk_78 (dk_at dksX0_disagreementCount_0 15 rfl rfl)
theorem dX0_disagreementCount_16 : decode cX0_disagreementCount 16 = .ok (.iconst 2, 1) := dk_5 (dk_at dksX0_disagreementCount_0 16 rfl rfl)
theorem dX0_disagreementCount_17 : decode cX0_disagreementCount 17 = .ok (.ireturn, 1) := dk_172 (dk_at dksX0_disagreementCount_0 17 rfl rfl)
theorem dX0_disagreementCount_18 : decode cX0_disagreementCount 18 = .ok (.iconst 0, 1) := dk_3 (dk_at dksX0_disagreementCount_0 18 rfl rfl)
theorem dX0_disagreementCount_19 : decode cX0_disagreementCount 19 = .ok (.ireturn, 1) := dk_172 (dk_at dksX0_disagreementCount_0 19 rfl rfl)
abbrev cX0_disagreementCountByLoop : ByteArray := method_31_code
def yX0_disagreementCountByLoop : MethodName := ⟨RX0, "disagreementCountByLoop", "(LGateGrammar;I[J)I"⟩
def dkwX0_disagreementCountByLoop_0 : List UInt8 := [44, 3, 42, 27, 182, 0, 106, 133, 80, 167, 0, 9, 78, 4, 172, 78, 5, 172, 3, 172]
abbrev dktX0_disagreementCountByLoop_0 : List UInt8 := dkwX0_disagreementCountByLoop_0 ++ []
theorem dksX0_disagreementCountByLoop_0 : cX0_disagreementCountByLoop.data.toList.drop 0 = dktX0_disagreementCountByLoop_0 := by decide +kernel
theorem dX0_disagreementCountByLoop_0 : decode cX0_disagreementCountByLoop 0 = .ok (.aload_n 2, 1) := dk_44 (dk_at dksX0_disagreementCountByLoop_0 0 rfl rfl)
theorem dX0_disagreementCountByLoop_1 : decode cX0_disagreementCountByLoop 1 = .ok (.iconst 0, 1) := dk_3 (dk_at dksX0_disagreementCountByLoop_0 1 rfl rfl)
theorem dX0_disagreementCountByLoop_2 : decode cX0_disagreementCountByLoop 2 = .ok (.aload_n 0, 1) := dk_42 (dk_at dksX0_disagreementCountByLoop_0 2 rfl rfl)
theorem dX0_disagreementCountByLoop_3 : decode cX0_disagreementCountByLoop 3 = .ok (.iload_n 1, 1) := dk_27 (dk_at dksX0_disagreementCountByLoop_0 3 rfl rfl)
theorem dX0_disagreementCountByLoop_4 : decode cX0_disagreementCountByLoop 4 = .ok (.invokevirtual 106, 3) := dk_182 0 106 (dk_at dksX0_disagreementCountByLoop_0 4 rfl rfl)
theorem dX0_disagreementCountByLoop_7 : decode cX0_disagreementCountByLoop 7 = .ok (.i2l, 1) := dk_133 (dk_at dksX0_disagreementCountByLoop_0 7 rfl rfl)
theorem dX0_disagreementCountByLoop_8 : decode cX0_disagreementCountByLoop 8 = .ok (.lastore, 1) := dk_80 (dk_at dksX0_disagreementCountByLoop_0 8 rfl rfl)
theorem dX0_disagreementCountByLoop_9 : decode cX0_disagreementCountByLoop 9 = .ok (.goto 9, 3) := dk_167 0 9 (dk_at dksX0_disagreementCountByLoop_0 9 rfl rfl)
theorem dX0_disagreementCountByLoop_12 : decode cX0_disagreementCountByLoop 12 = .ok (.astore_n 3, 1) := dk_78 (dk_at dksX0_disagreementCountByLoop_0 12 rfl rfl)
theorem dX0_disagreementCountByLoop_13 : decode cX0_disagreementCountByLoop 13 = .ok (.iconst 1, 1) := dk_4 (dk_at dksX0_disagreementCountByLoop_0 13 rfl rfl)
theorem dX0_disagreementCountByLoop_14 : decode cX0_disagreementCountByLoop 14 = .ok (.ireturn, 1) := dk_172 (dk_at dksX0_disagreementCountByLoop_0 14 rfl rfl)
theorem dX0_disagreementCountByLoop_15 : decode cX0_disagreementCountByLoop 15 = .ok (.astore_n 3, 1) := dk_78 (dk_at dksX0_disagreementCountByLoop_0 15 rfl rfl)
theorem dX0_disagreementCountByLoop_16 : decode cX0_disagreementCountByLoop 16 = .ok (.iconst 2, 1) := dk_5 (dk_at dksX0_disagreementCountByLoop_0 16 rfl rfl)
theorem dX0_disagreementCountByLoop_17 : decode cX0_disagreementCountByLoop 17 = .ok (.ireturn, 1) := dk_172 (dk_at dksX0_disagreementCountByLoop_0 17 rfl rfl)
theorem dX0_disagreementCountByLoop_18 : decode cX0_disagreementCountByLoop 18 = .ok (.iconst 0, 1) := dk_3 (dk_at dksX0_disagreementCountByLoop_0 18 rfl rfl)
theorem dX0_disagreementCountByLoop_19 : decode cX0_disagreementCountByLoop 19 = .ok (.ireturn, 1) := dk_172 (dk_at dksX0_disagreementCountByLoop_0 19 rfl rfl)
abbrev cX0_firstDisagreement : ByteArray := method_32_code
def yX0_firstDisagreement : MethodName := ⟨RX0, "firstDisagreement", "(LGateGrammar;I[J)I"⟩
def dkwX0_firstDisagreement_0 : List UInt8 := [44, 3, 42, 27, 182, 0, 109, 133, 80, 167, 0, 9, 78, 4, 172, 78, 5, 172, 3, 172]
abbrev dktX0_firstDisagreement_0 : List UInt8 := dkwX0_firstDisagreement_0 ++ []
theorem dksX0_firstDisagreement_0 : cX0_firstDisagreement.data.toList.drop 0 = dktX0_firstDisagreement_0 := by decide +kernel
theorem dX0_firstDisagreement_0 : decode cX0_firstDisagreement 0 = .ok (.aload_n 2, 1) := dk_44 (dk_at dksX0_firstDisagreement_0 0 rfl rfl)
theorem dX0_firstDisagreement_1 : decode cX0_firstDisagreement 1 = .ok (.iconst 0, 1) := dk_3 (dk_at dksX0_firstDisagreement_0 1 rfl rfl)
theorem dX0_firstDisagreement_2 : decode cX0_firstDisagreement 2 = .ok (.aload_n 0, 1) := dk_42 (dk_at dksX0_firstDisagreement_0 2 rfl rfl)
theorem dX0_firstDisagreement_3 : decode cX0_firstDisagreement 3 = .ok (.iload_n 1, 1) := dk_27 (dk_at dksX0_firstDisagreement_0 3 rfl rfl)
theorem dX0_firstDisagreement_4 : decode cX0_firstDisagreement 4 = .ok (.invokevirtual 109, 3) := dk_182 0 109 (dk_at dksX0_firstDisagreement_0 4 rfl rfl)
theorem dX0_firstDisagreement_7 : decode cX0_firstDisagreement 7 = .ok (.i2l, 1) := dk_133 (dk_at dksX0_firstDisagreement_0 7 rfl rfl)
theorem dX0_firstDisagreement_8 : decode cX0_firstDisagreement 8 = .ok (.lastore, 1) := dk_80 (dk_at dksX0_firstDisagreement_0 8 rfl rfl)
theorem dX0_firstDisagreement_9 : decode cX0_firstDisagreement 9 = .ok (.goto 9, 3) := dk_167 0 9 (dk_at dksX0_firstDisagreement_0 9 rfl rfl)
theorem dX0_firstDisagreement_12 : decode cX0_firstDisagreement 12 = .ok (.astore_n 3, 1) := dk_78 (dk_at dksX0_firstDisagreement_0 12 rfl rfl)
theorem dX0_firstDisagreement_13 : decode cX0_firstDisagreement 13 = .ok (.iconst 1, 1) := dk_4 (dk_at dksX0_firstDisagreement_0 13 rfl rfl)
theorem dX0_firstDisagreement_14 : decode cX0_firstDisagreement 14 = .ok (.ireturn, 1) := dk_172 (dk_at dksX0_firstDisagreement_0 14 rfl rfl)
theorem dX0_firstDisagreement_15 : decode cX0_firstDisagreement 15 = .ok (.astore_n 3, 1) := dk_78 (dk_at dksX0_firstDisagreement_0 15 rfl rfl)
theorem dX0_firstDisagreement_16 : decode cX0_firstDisagreement 16 = .ok (.iconst 2, 1) := dk_5 (dk_at dksX0_firstDisagreement_0 16 rfl rfl)
theorem dX0_firstDisagreement_17 : decode cX0_firstDisagreement 17 = .ok (.ireturn, 1) := dk_172 (dk_at dksX0_firstDisagreement_0 17 rfl rfl)
theorem dX0_firstDisagreement_18 : decode cX0_firstDisagreement 18 = .ok (.iconst 0, 1) := dk_3 (dk_at dksX0_firstDisagreement_0 18 rfl rfl)
theorem dX0_firstDisagreement_19 : decode cX0_firstDisagreement 19 = .ok (.ireturn, 1) := dk_172 (dk_at dksX0_firstDisagreement_0 19 rfl rfl)
abbrev cX0_isShut : ByteArray := method_33_code
def yX0_isShut : MethodName := ⟨RX0, "isShut", "(LGateGrammar;I[J)I"⟩
def dkwX0_isShut_0 : List UInt8 := [44, 3, 42, 27, 182, 0, 112, 153, 0, 7, 10, 167, 0, 4, 9, 80, 167, 0, 6, 78, 4, 172, 3, 172]
abbrev dktX0_isShut_0 : List UInt8 := dkwX0_isShut_0 ++ []
theorem dksX0_isShut_0 : cX0_isShut.data.toList.drop 0 = dktX0_isShut_0 := by decide +kernel
theorem dX0_isShut_0 : decode cX0_isShut 0 = .ok (.aload_n 2, 1) := dk_44 (dk_at dksX0_isShut_0 0 rfl rfl)
theorem dX0_isShut_1 : decode cX0_isShut 1 = .ok (.iconst 0, 1) := dk_3 (dk_at dksX0_isShut_0 1 rfl rfl)
theorem dX0_isShut_2 : decode cX0_isShut 2 = .ok (.aload_n 0, 1) := dk_42 (dk_at dksX0_isShut_0 2 rfl rfl)
theorem dX0_isShut_3 : decode cX0_isShut 3 = .ok (.iload_n 1, 1) := dk_27 (dk_at dksX0_isShut_0 3 rfl rfl)
theorem dX0_isShut_4 : decode cX0_isShut 4 = .ok (.invokevirtual 112, 3) := dk_182 0 112 (dk_at dksX0_isShut_0 4 rfl rfl)
theorem dX0_isShut_7 : decode cX0_isShut 7 = .ok (.ifCond .eq 7, 3) := dk_153 0 7 (dk_at dksX0_isShut_0 7 rfl rfl)
theorem dX0_isShut_10 : decode cX0_isShut 10 = .ok (.lconst 1, 1) := dk_10 (dk_at dksX0_isShut_0 10 rfl rfl)
theorem dX0_isShut_11 : decode cX0_isShut 11 = .ok (.goto 4, 3) := dk_167 0 4 (dk_at dksX0_isShut_0 11 rfl rfl)
theorem dX0_isShut_14 : decode cX0_isShut 14 = .ok (.lconst 0, 1) := dk_9 (dk_at dksX0_isShut_0 14 rfl rfl)
theorem dX0_isShut_15 : decode cX0_isShut 15 = .ok (.lastore, 1) := dk_80 (dk_at dksX0_isShut_0 15 rfl rfl)
theorem dX0_isShut_16 : decode cX0_isShut 16 = .ok (.goto 6, 3) := dk_167 0 6 (dk_at dksX0_isShut_0 16 rfl rfl)
theorem dX0_isShut_19 : decode cX0_isShut 19 = .ok (.astore_n 3, 1) := dk_78 (dk_at dksX0_isShut_0 19 rfl rfl)
theorem dX0_isShut_20 : decode cX0_isShut 20 = .ok (.iconst 1, 1) := dk_4 (dk_at dksX0_isShut_0 20 rfl rfl)
theorem dX0_isShut_21 : decode cX0_isShut 21 = .ok (.ireturn, 1) := dk_172 (dk_at dksX0_isShut_0 21 rfl rfl)
theorem dX0_isShut_22 : decode cX0_isShut 22 = .ok (.iconst 0, 1) := dk_3 (dk_at dksX0_isShut_0 22 rfl rfl)
theorem dX0_isShut_23 : decode cX0_isShut 23 = .ok (.ireturn, 1) := dk_172 (dk_at dksX0_isShut_0 23 rfl rfl)
abbrev cX0_worstGate : ByteArray := method_34_code
def yX0_worstGate : MethodName := ⟨RX0, "worstGate", "(LGateGrammar;[J)I"⟩
def dkwX0_worstGate_0 : List UInt8 := [43, 3, 42, 182, 0, 116, 133, 80, 167, 0, 6, 77, 4, 172, 3, 172]
abbrev dktX0_worstGate_0 : List UInt8 := dkwX0_worstGate_0 ++ []
theorem dksX0_worstGate_0 : cX0_worstGate.data.toList.drop 0 = dktX0_worstGate_0 := by decide +kernel
theorem dX0_worstGate_0 : decode cX0_worstGate 0 = .ok (.aload_n 1, 1) := dk_43 (dk_at dksX0_worstGate_0 0 rfl rfl)
theorem dX0_worstGate_1 : decode cX0_worstGate 1 = .ok (.iconst 0, 1) := dk_3 (dk_at dksX0_worstGate_0 1 rfl rfl)
theorem dX0_worstGate_2 : decode cX0_worstGate 2 = .ok (.aload_n 0, 1) := dk_42 (dk_at dksX0_worstGate_0 2 rfl rfl)
theorem dX0_worstGate_3 : decode cX0_worstGate 3 = .ok (.invokevirtual 116, 3) := dk_182 0 116 (dk_at dksX0_worstGate_0 3 rfl rfl)
theorem dX0_worstGate_6 : decode cX0_worstGate 6 = .ok (.i2l, 1) := dk_133 (dk_at dksX0_worstGate_0 6 rfl rfl)
theorem dX0_worstGate_7 : decode cX0_worstGate 7 = .ok (.lastore, 1) := dk_80 (dk_at dksX0_worstGate_0 7 rfl rfl)
theorem dX0_worstGate_8 : decode cX0_worstGate 8 = .ok (.goto 6, 3) := dk_167 0 6 (dk_at dksX0_worstGate_0 8 rfl rfl)
theorem dX0_worstGate_11 : decode cX0_worstGate 11 = .ok (.astore_n 2, 1) := dk_77 (dk_at dksX0_worstGate_0 11 rfl rfl)
theorem dX0_worstGate_12 : decode cX0_worstGate 12 = .ok (.iconst 1, 1) := dk_4 (dk_at dksX0_worstGate_0 12 rfl rfl)
theorem dX0_worstGate_13 : decode cX0_worstGate 13 = .ok (.ireturn, 1) := dk_172 (dk_at dksX0_worstGate_0 13 rfl rfl)
theorem dX0_worstGate_14 : decode cX0_worstGate 14 = .ok (.iconst 0, 1) := dk_3 (dk_at dksX0_worstGate_0 14 rfl rfl)
theorem dX0_worstGate_15 : decode cX0_worstGate 15 = .ok (.ireturn, 1) := dk_172 (dk_at dksX0_worstGate_0 15 rfl rfl)
abbrev cX0_walk : ByteArray := method_35_code
def yX0_walk : MethodName := ⟨RX0, "walk", "(LGateGrammar;I[J)I"⟩
def dkwX0_walk_0 : List UInt8 := [44, 3, 42, 27, 182, 0, 120, 133, 80, 167, 0, 9, 78, 4, 172, 78, 5, 172, 3, 172]
abbrev dktX0_walk_0 : List UInt8 := dkwX0_walk_0 ++ []
theorem dksX0_walk_0 : cX0_walk.data.toList.drop 0 = dktX0_walk_0 := by decide +kernel
theorem dX0_walk_0 : decode cX0_walk 0 = .ok (.aload_n 2, 1) := dk_44 (dk_at dksX0_walk_0 0 rfl rfl)
theorem dX0_walk_1 : decode cX0_walk 1 = .ok (.iconst 0, 1) := dk_3 (dk_at dksX0_walk_0 1 rfl rfl)
theorem dX0_walk_2 : decode cX0_walk 2 = .ok (.aload_n 0, 1) := dk_42 (dk_at dksX0_walk_0 2 rfl rfl)
theorem dX0_walk_3 : decode cX0_walk 3 = .ok (.iload_n 1, 1) := dk_27 (dk_at dksX0_walk_0 3 rfl rfl)
theorem dX0_walk_4 : decode cX0_walk 4 = .ok (.invokevirtual 120, 3) := dk_182 0 120 (dk_at dksX0_walk_0 4 rfl rfl)
theorem dX0_walk_7 : decode cX0_walk 7 = .ok (.i2l, 1) := dk_133 (dk_at dksX0_walk_0 7 rfl rfl)
theorem dX0_walk_8 : decode cX0_walk 8 = .ok (.lastore, 1) := dk_80 (dk_at dksX0_walk_0 8 rfl rfl)
theorem dX0_walk_9 : decode cX0_walk 9 = .ok (.goto 9, 3) := dk_167 0 9 (dk_at dksX0_walk_0 9 rfl rfl)
theorem dX0_walk_12 : decode cX0_walk 12 = .ok (.astore_n 3, 1) := dk_78 (dk_at dksX0_walk_0 12 rfl rfl)
theorem dX0_walk_13 : decode cX0_walk 13 = .ok (.iconst 1, 1) := dk_4 (dk_at dksX0_walk_0 13 rfl rfl)
theorem dX0_walk_14 : decode cX0_walk 14 = .ok (.ireturn, 1) := dk_172 (dk_at dksX0_walk_0 14 rfl rfl)
theorem dX0_walk_15 : decode cX0_walk 15 = .ok (.astore_n 3, 1) := dk_78 (dk_at dksX0_walk_0 15 rfl rfl)
theorem dX0_walk_16 : decode cX0_walk 16 = .ok (.iconst 2, 1) := dk_5 (dk_at dksX0_walk_0 16 rfl rfl)
theorem dX0_walk_17 : decode cX0_walk 17 = .ok (.ireturn, 1) := dk_172 (dk_at dksX0_walk_0 17 rfl rfl)
theorem dX0_walk_18 : decode cX0_walk 18 = .ok (.iconst 0, 1) := dk_3 (dk_at dksX0_walk_0 18 rfl rfl)
theorem dX0_walk_19 : decode cX0_walk 19 = .ok (.ireturn, 1) := dk_172 (dk_at dksX0_walk_0 19 rfl rfl)
abbrev cX0_walkCount : ByteArray := method_36_code
def yX0_walkCount : MethodName := ⟨RX0, "walkCount", "(LGateGrammar;I[J)I"⟩
def dkwX0_walkCount_0 : List UInt8 := [44, 3, 42, 27, 182, 0, 123, 133, 80, 167, 0, 6, 78, 4, 172, 3, 172]
abbrev dktX0_walkCount_0 : List UInt8 := dkwX0_walkCount_0 ++ []
theorem dksX0_walkCount_0 : cX0_walkCount.data.toList.drop 0 = dktX0_walkCount_0 := by decide +kernel
theorem dX0_walkCount_0 : decode cX0_walkCount 0 = .ok (.aload_n 2, 1) := dk_44 (dk_at dksX0_walkCount_0 0 rfl rfl)
theorem dX0_walkCount_1 : decode cX0_walkCount 1 = .ok (.iconst 0, 1) := dk_3 (dk_at dksX0_walkCount_0 1 rfl rfl)
theorem dX0_walkCount_2 : decode cX0_walkCount 2 = .ok (.aload_n 0, 1) := dk_42 (dk_at dksX0_walkCount_0 2 rfl rfl)
theorem dX0_walkCount_3 : decode cX0_walkCount 3 = .ok (.iload_n 1, 1) := dk_27 (dk_at dksX0_walkCount_0 3 rfl rfl)
theorem dX0_walkCount_4 : decode cX0_walkCount 4 = .ok (.invokevirtual 123, 3) := dk_182 0 123 (dk_at dksX0_walkCount_0 4 rfl rfl)
theorem dX0_walkCount_7 : decode cX0_walkCount 7 = .ok (.i2l, 1) := dk_133 (dk_at dksX0_walkCount_0 7 rfl rfl)
theorem dX0_walkCount_8 : decode cX0_walkCount 8 = .ok (.lastore, 1) := dk_80 (dk_at dksX0_walkCount_0 8 rfl rfl)
theorem dX0_walkCount_9 : decode cX0_walkCount 9 = .ok (.goto 6, 3) := dk_167 0 6 (dk_at dksX0_walkCount_0 9 rfl rfl)
theorem dX0_walkCount_12 : decode cX0_walkCount 12 = .ok (.astore_n 3, 1) := dk_78 (dk_at dksX0_walkCount_0 12 rfl rfl)
theorem dX0_walkCount_13 : decode cX0_walkCount 13 = .ok (.iconst 1, 1) := dk_4 (dk_at dksX0_walkCount_0 13 rfl rfl)
theorem dX0_walkCount_14 : decode cX0_walkCount 14 = .ok (.ireturn, 1) := dk_172 (dk_at dksX0_walkCount_0 14 rfl rfl)
theorem dX0_walkCount_15 : decode cX0_walkCount 15 = .ok (.iconst 0, 1) := dk_3 (dk_at dksX0_walkCount_0 15 rfl rfl)
theorem dX0_walkCount_16 : decode cX0_walkCount 16 = .ok (.ireturn, 1) := dk_172 (dk_at dksX0_walkCount_0 16 rfl rfl)
abbrev cX0_gateAtRank : ByteArray := method_37_code
def yX0_gateAtRank : MethodName := ⟨RX0, "gateAtRank", "(LGateGrammar;I[J)I"⟩
def dkwX0_gateAtRank_0 : List UInt8 := [44, 3, 42, 27, 182, 0, 126, 133, 80, 167, 0, 6, 78, 4, 172, 3, 172]
abbrev dktX0_gateAtRank_0 : List UInt8 := dkwX0_gateAtRank_0 ++ []
theorem dksX0_gateAtRank_0 : cX0_gateAtRank.data.toList.drop 0 = dktX0_gateAtRank_0 := by decide +kernel
theorem dX0_gateAtRank_0 : decode cX0_gateAtRank 0 = .ok (.aload_n 2, 1) := dk_44 (dk_at dksX0_gateAtRank_0 0 rfl rfl)
theorem dX0_gateAtRank_1 : decode cX0_gateAtRank 1 = .ok (.iconst 0, 1) := dk_3 (dk_at dksX0_gateAtRank_0 1 rfl rfl)
theorem dX0_gateAtRank_2 : decode cX0_gateAtRank 2 = .ok (.aload_n 0, 1) := dk_42 (dk_at dksX0_gateAtRank_0 2 rfl rfl)
theorem dX0_gateAtRank_3 : decode cX0_gateAtRank 3 = .ok (.iload_n 1, 1) := dk_27 (dk_at dksX0_gateAtRank_0 3 rfl rfl)
theorem dX0_gateAtRank_4 : decode cX0_gateAtRank 4 = .ok (.invokevirtual 126, 3) := dk_182 0 126 (dk_at dksX0_gateAtRank_0 4 rfl rfl)
theorem dX0_gateAtRank_7 : decode cX0_gateAtRank 7 = .ok (.i2l, 1) := dk_133 (dk_at dksX0_gateAtRank_0 7 rfl rfl)
theorem dX0_gateAtRank_8 : decode cX0_gateAtRank 8 = .ok (.lastore, 1) := dk_80 (dk_at dksX0_gateAtRank_0 8 rfl rfl)
theorem dX0_gateAtRank_9 : decode cX0_gateAtRank 9 = .ok (.goto 6, 3) := dk_167 0 6 (dk_at dksX0_gateAtRank_0 9 rfl rfl)
theorem dX0_gateAtRank_12 : decode cX0_gateAtRank 12 = .ok (.astore_n 3, 1) := dk_78 (dk_at dksX0_gateAtRank_0 12 rfl rfl)
theorem dX0_gateAtRank_13 : decode cX0_gateAtRank 13 = .ok (.iconst 1, 1) := dk_4 (dk_at dksX0_gateAtRank_0 13 rfl rfl)
theorem dX0_gateAtRank_14 : decode cX0_gateAtRank 14 = .ok (.ireturn, 1) := dk_172 (dk_at dksX0_gateAtRank_0 14 rfl rfl)
theorem dX0_gateAtRank_15 : decode cX0_gateAtRank 15 = .ok (.iconst 0, 1) := dk_3 (dk_at dksX0_gateAtRank_0 15 rfl rfl)
theorem dX0_gateAtRank_16 : decode cX0_gateAtRank 16 = .ok (.ireturn, 1) := dk_172 (dk_at dksX0_gateAtRank_0 16 rfl rfl)
abbrev cX0_append : ByteArray := method_38_code
def yX0_append : MethodName := ⟨RX0, "append", "(LGateGrammar;C[J)I"⟩
def dkwX0_append_0 : List UInt8 := [44, 3, 42, 27, 182, 0, 129, 133, 80, 167, 0, 9, 78, 4, 172, 78, 5, 172, 3, 172]
abbrev dktX0_append_0 : List UInt8 := dkwX0_append_0 ++ []
theorem dksX0_append_0 : cX0_append.data.toList.drop 0 = dktX0_append_0 := by decide +kernel
theorem dX0_append_0 : decode cX0_append 0 = .ok (.aload_n 2, 1) := dk_44 (dk_at dksX0_append_0 0 rfl rfl)
theorem dX0_append_1 : decode cX0_append 1 = .ok (.iconst 0, 1) := dk_3 (dk_at dksX0_append_0 1 rfl rfl)
theorem dX0_append_2 : decode cX0_append 2 = .ok (.aload_n 0, 1) := dk_42 (dk_at dksX0_append_0 2 rfl rfl)
theorem dX0_append_3 : decode cX0_append 3 = .ok (.iload_n 1, 1) := dk_27 (dk_at dksX0_append_0 3 rfl rfl)
theorem dX0_append_4 : decode cX0_append 4 = .ok (.invokevirtual 129, 3) := dk_182 0 129 (dk_at dksX0_append_0 4 rfl rfl)
theorem dX0_append_7 : decode cX0_append 7 = .ok (.i2l, 1) := dk_133 (dk_at dksX0_append_0 7 rfl rfl)
theorem dX0_append_8 : decode cX0_append 8 = .ok (.lastore, 1) := dk_80 (dk_at dksX0_append_0 8 rfl rfl)
theorem dX0_append_9 : decode cX0_append 9 = .ok (.goto 9, 3) := dk_167 0 9 (dk_at dksX0_append_0 9 rfl rfl)
theorem dX0_append_12 : decode cX0_append 12 = .ok (.astore_n 3, 1) := dk_78 (dk_at dksX0_append_0 12 rfl rfl)
theorem dX0_append_13 : decode cX0_append 13 = .ok (.iconst 1, 1) := dk_4 (dk_at dksX0_append_0 13 rfl rfl)
theorem dX0_append_14 : decode cX0_append 14 = .ok (.ireturn, 1) := dk_172 (dk_at dksX0_append_0 14 rfl rfl)
theorem dX0_append_15 : decode cX0_append 15 = .ok (.astore_n 3, 1) := dk_78 (dk_at dksX0_append_0 15 rfl rfl)
theorem dX0_append_16 : decode cX0_append 16 = .ok (.iconst 2, 1) := dk_5 (dk_at dksX0_append_0 16 rfl rfl)
theorem dX0_append_17 : decode cX0_append 17 = .ok (.ireturn, 1) := dk_172 (dk_at dksX0_append_0 17 rfl rfl)
theorem dX0_append_18 : decode cX0_append 18 = .ok (.iconst 0, 1) := dk_3 (dk_at dksX0_append_0 18 rfl rfl)
theorem dX0_append_19 : decode cX0_append 19 = .ok (.ireturn, 1) := dk_172 (dk_at dksX0_append_0 19 rfl rfl)
abbrev cX0_run : ByteArray := method_39_code
def yX0_run : MethodName := ⟨RX0, "run", "(LGateGrammar;[J)I"⟩
def dkwX0_run_0 : List UInt8 := [43, 3, 42, 182, 0, 133, 133, 80, 167, 0, 9, 77, 4, 172, 77, 5, 172, 3, 172]
abbrev dktX0_run_0 : List UInt8 := dkwX0_run_0 ++ []
theorem dksX0_run_0 : cX0_run.data.toList.drop 0 = dktX0_run_0 := by decide +kernel
theorem dX0_run_0 : decode cX0_run 0 = .ok (.aload_n 1, 1) := dk_43 (dk_at dksX0_run_0 0 rfl rfl)
theorem dX0_run_1 : decode cX0_run 1 = .ok (.iconst 0, 1) := dk_3 (dk_at dksX0_run_0 1 rfl rfl)
theorem dX0_run_2 : decode cX0_run 2 = .ok (.aload_n 0, 1) := dk_42 (dk_at dksX0_run_0 2 rfl rfl)
theorem dX0_run_3 : decode cX0_run 3 = .ok (.invokevirtual 133, 3) := dk_182 0 133 (dk_at dksX0_run_0 3 rfl rfl)
theorem dX0_run_6 : decode cX0_run 6 = .ok (.i2l, 1) := dk_133 (dk_at dksX0_run_0 6 rfl rfl)
theorem dX0_run_7 : decode cX0_run 7 = .ok (.lastore, 1) := dk_80 (dk_at dksX0_run_0 7 rfl rfl)
theorem dX0_run_8 : decode cX0_run 8 = .ok (.goto 9, 3) := dk_167 0 9 (dk_at dksX0_run_0 8 rfl rfl)
theorem dX0_run_11 : decode cX0_run 11 = .ok (.astore_n 2, 1) := dk_77 (dk_at dksX0_run_0 11 rfl rfl)
theorem dX0_run_12 : decode cX0_run 12 = .ok (.iconst 1, 1) := dk_4 (dk_at dksX0_run_0 12 rfl rfl)
theorem dX0_run_13 : decode cX0_run 13 = .ok (.ireturn, 1) := dk_172 (dk_at dksX0_run_0 13 rfl rfl)
theorem dX0_run_14 : decode cX0_run 14 = .ok (.astore_n 2, 1) := dk_77 (dk_at dksX0_run_0 14 rfl rfl)
theorem dX0_run_15 : decode cX0_run 15 = .ok (.iconst 2, 1) := dk_5 (dk_at dksX0_run_0 15 rfl rfl)
theorem dX0_run_16 : decode cX0_run 16 = .ok (.ireturn, 1) := dk_172 (dk_at dksX0_run_0 16 rfl rfl)
theorem dX0_run_17 : decode cX0_run 17 = .ok (.iconst 0, 1) := dk_3 (dk_at dksX0_run_0 17 rfl rfl)
theorem dX0_run_18 : decode cX0_run 18 = .ok (.ireturn, 1) := dk_172 (dk_at dksX0_run_0 18 rfl rfl)
abbrev cX0_errorPosition : ByteArray := method_40_code
def yX0_errorPosition : MethodName := ⟨RX0, "errorPosition", "(LGateGrammar;[J)I"⟩
def dkwX0_errorPosition_0 : List UInt8 := [43, 3, 42, 182, 0, 136, 133, 80, 167, 0, 6, 77, 4, 172, 3, 172]
abbrev dktX0_errorPosition_0 : List UInt8 := dkwX0_errorPosition_0 ++ []
theorem dksX0_errorPosition_0 : cX0_errorPosition.data.toList.drop 0 = dktX0_errorPosition_0 := by decide +kernel
theorem dX0_errorPosition_0 : decode cX0_errorPosition 0 = .ok (.aload_n 1, 1) := dk_43 (dk_at dksX0_errorPosition_0 0 rfl rfl)
theorem dX0_errorPosition_1 : decode cX0_errorPosition 1 = .ok (.iconst 0, 1) := dk_3 (dk_at dksX0_errorPosition_0 1 rfl rfl)
theorem dX0_errorPosition_2 : decode cX0_errorPosition 2 = .ok (.aload_n 0, 1) := dk_42 (dk_at dksX0_errorPosition_0 2 rfl rfl)
theorem dX0_errorPosition_3 : decode cX0_errorPosition 3 = .ok (.invokevirtual 136, 3) := dk_182 0 136 (dk_at dksX0_errorPosition_0 3 rfl rfl)
theorem dX0_errorPosition_6 : decode cX0_errorPosition 6 = .ok (.i2l, 1) := dk_133 (dk_at dksX0_errorPosition_0 6 rfl rfl)
theorem dX0_errorPosition_7 : decode cX0_errorPosition 7 = .ok (.lastore, 1) := dk_80 (dk_at dksX0_errorPosition_0 7 rfl rfl)
theorem dX0_errorPosition_8 : decode cX0_errorPosition 8 = .ok (.goto 6, 3) := dk_167 0 6 (dk_at dksX0_errorPosition_0 8 rfl rfl)
theorem dX0_errorPosition_11 : decode cX0_errorPosition 11 = .ok (.astore_n 2, 1) := dk_77 (dk_at dksX0_errorPosition_0 11 rfl rfl)
theorem dX0_errorPosition_12 : decode cX0_errorPosition 12 = .ok (.iconst 1, 1) := dk_4 (dk_at dksX0_errorPosition_0 12 rfl rfl)
theorem dX0_errorPosition_13 : decode cX0_errorPosition 13 = .ok (.ireturn, 1) := dk_172 (dk_at dksX0_errorPosition_0 13 rfl rfl)
theorem dX0_errorPosition_14 : decode cX0_errorPosition 14 = .ok (.iconst 0, 1) := dk_3 (dk_at dksX0_errorPosition_0 14 rfl rfl)
theorem dX0_errorPosition_15 : decode cX0_errorPosition 15 = .ok (.ireturn, 1) := dk_172 (dk_at dksX0_errorPosition_0 15 rfl rfl)
abbrev cX0_failedCommand : ByteArray := method_41_code
def yX0_failedCommand : MethodName := ⟨RX0, "failedCommand", "(LGateGrammar;[J)I"⟩
def dkwX0_failedCommand_0 : List UInt8 := [43, 3, 42, 182, 0, 139, 133, 80, 167, 0, 6, 77, 4, 172, 3, 172]
abbrev dktX0_failedCommand_0 : List UInt8 := dkwX0_failedCommand_0 ++ []
theorem dksX0_failedCommand_0 : cX0_failedCommand.data.toList.drop 0 = dktX0_failedCommand_0 := by decide +kernel
theorem dX0_failedCommand_0 : decode cX0_failedCommand 0 = .ok (.aload_n 1, 1) := dk_43 (dk_at dksX0_failedCommand_0 0 rfl rfl)
theorem dX0_failedCommand_1 : decode cX0_failedCommand 1 = .ok (.iconst 0, 1) := dk_3 (dk_at dksX0_failedCommand_0 1 rfl rfl)
theorem dX0_failedCommand_2 : decode cX0_failedCommand 2 = .ok (.aload_n 0, 1) := dk_42 (dk_at dksX0_failedCommand_0 2 rfl rfl)
theorem dX0_failedCommand_3 : decode cX0_failedCommand 3 = .ok (.invokevirtual 139, 3) := dk_182 0 139 (dk_at dksX0_failedCommand_0 3 rfl rfl)
theorem dX0_failedCommand_6 : decode cX0_failedCommand 6 = .ok (.i2l, 1) := dk_133 (dk_at dksX0_failedCommand_0 6 rfl rfl)
theorem dX0_failedCommand_7 : decode cX0_failedCommand 7 = .ok (.lastore, 1) := dk_80 (dk_at dksX0_failedCommand_0 7 rfl rfl)
theorem dX0_failedCommand_8 : decode cX0_failedCommand 8 = .ok (.goto 6, 3) := dk_167 0 6 (dk_at dksX0_failedCommand_0 8 rfl rfl)
theorem dX0_failedCommand_11 : decode cX0_failedCommand 11 = .ok (.astore_n 2, 1) := dk_77 (dk_at dksX0_failedCommand_0 11 rfl rfl)
theorem dX0_failedCommand_12 : decode cX0_failedCommand 12 = .ok (.iconst 1, 1) := dk_4 (dk_at dksX0_failedCommand_0 12 rfl rfl)
theorem dX0_failedCommand_13 : decode cX0_failedCommand 13 = .ok (.ireturn, 1) := dk_172 (dk_at dksX0_failedCommand_0 13 rfl rfl)
theorem dX0_failedCommand_14 : decode cX0_failedCommand 14 = .ok (.iconst 0, 1) := dk_3 (dk_at dksX0_failedCommand_0 14 rfl rfl)
theorem dX0_failedCommand_15 : decode cX0_failedCommand 15 = .ok (.ireturn, 1) := dk_172 (dk_at dksX0_failedCommand_0 15 rfl rfl)
abbrev cX0_describe : ByteArray := method_42_code
def yX0_describe : MethodName := ⟨RX0, "describe", "(LGateGrammar;I[J)I"⟩
def dkwX0_describe_0 : List UInt8 := [44, 3, 42, 27, 182, 0, 142, 133, 80, 167, 0, 6, 78, 4, 172, 3, 172]
abbrev dktX0_describe_0 : List UInt8 := dkwX0_describe_0 ++ []
theorem dksX0_describe_0 : cX0_describe.data.toList.drop 0 = dktX0_describe_0 := by decide +kernel
theorem dX0_describe_0 : decode cX0_describe 0 = .ok (.aload_n 2, 1) := dk_44 (dk_at dksX0_describe_0 0 rfl rfl)
theorem dX0_describe_1 : decode cX0_describe 1 = .ok (.iconst 0, 1) := dk_3 (dk_at dksX0_describe_0 1 rfl rfl)
theorem dX0_describe_2 : decode cX0_describe 2 = .ok (.aload_n 0, 1) := dk_42 (dk_at dksX0_describe_0 2 rfl rfl)
theorem dX0_describe_3 : decode cX0_describe 3 = .ok (.iload_n 1, 1) := dk_27 (dk_at dksX0_describe_0 3 rfl rfl)
theorem dX0_describe_4 : decode cX0_describe 4 = .ok (.invokevirtual 142, 3) := dk_182 0 142 (dk_at dksX0_describe_0 4 rfl rfl)
theorem dX0_describe_7 : decode cX0_describe 7 = .ok (.i2l, 1) := dk_133 (dk_at dksX0_describe_0 7 rfl rfl)
theorem dX0_describe_8 : decode cX0_describe 8 = .ok (.lastore, 1) := dk_80 (dk_at dksX0_describe_0 8 rfl rfl)
theorem dX0_describe_9 : decode cX0_describe 9 = .ok (.goto 6, 3) := dk_167 0 6 (dk_at dksX0_describe_0 9 rfl rfl)
theorem dX0_describe_12 : decode cX0_describe 12 = .ok (.astore_n 3, 1) := dk_78 (dk_at dksX0_describe_0 12 rfl rfl)
theorem dX0_describe_13 : decode cX0_describe 13 = .ok (.iconst 1, 1) := dk_4 (dk_at dksX0_describe_0 13 rfl rfl)
theorem dX0_describe_14 : decode cX0_describe 14 = .ok (.ireturn, 1) := dk_172 (dk_at dksX0_describe_0 14 rfl rfl)
theorem dX0_describe_15 : decode cX0_describe 15 = .ok (.iconst 0, 1) := dk_3 (dk_at dksX0_describe_0 15 rfl rfl)
theorem dX0_describe_16 : decode cX0_describe 16 = .ok (.ireturn, 1) := dk_172 (dk_at dksX0_describe_0 16 rfl rfl)
abbrev cX0_lineAt : ByteArray := method_43_code
def yX0_lineAt : MethodName := ⟨RX0, "lineAt", "(LGateGrammar;I[J)I"⟩
def dkwX0_lineAt_0 : List UInt8 := [44, 3, 42, 27, 182, 0, 145, 133, 80, 167, 0, 6, 78, 4, 172, 3, 172]
abbrev dktX0_lineAt_0 : List UInt8 := dkwX0_lineAt_0 ++ []
theorem dksX0_lineAt_0 : cX0_lineAt.data.toList.drop 0 = dktX0_lineAt_0 := by decide +kernel
theorem dX0_lineAt_0 : decode cX0_lineAt 0 = .ok (.aload_n 2, 1) := dk_44 (dk_at dksX0_lineAt_0 0 rfl rfl)
theorem dX0_lineAt_1 : decode cX0_lineAt 1 = .ok (.iconst 0, 1) := dk_3 (dk_at dksX0_lineAt_0 1 rfl rfl)
theorem dX0_lineAt_2 : decode cX0_lineAt 2 = .ok (.aload_n 0, 1) := dk_42 (dk_at dksX0_lineAt_0 2 rfl rfl)
theorem dX0_lineAt_3 : decode cX0_lineAt 3 = .ok (.iload_n 1, 1) := dk_27 (dk_at dksX0_lineAt_0 3 rfl rfl)
theorem dX0_lineAt_4 : decode cX0_lineAt 4 = .ok (.invokevirtual 145, 3) := dk_182 0 145 (dk_at dksX0_lineAt_0 4 rfl rfl)
theorem dX0_lineAt_7 : decode cX0_lineAt 7 = .ok (.i2l, 1) := dk_133 (dk_at dksX0_lineAt_0 7 rfl rfl)
theorem dX0_lineAt_8 : decode cX0_lineAt 8 = .ok (.lastore, 1) := dk_80 (dk_at dksX0_lineAt_0 8 rfl rfl)
theorem dX0_lineAt_9 : decode cX0_lineAt 9 = .ok (.goto 6, 3) := dk_167 0 6 (dk_at dksX0_lineAt_0 9 rfl rfl)
theorem dX0_lineAt_12 : decode cX0_lineAt 12 = .ok (.astore_n 3, 1) := dk_78 (dk_at dksX0_lineAt_0 12 rfl rfl)
theorem dX0_lineAt_13 : decode cX0_lineAt 13 = .ok (.iconst 1, 1) := dk_4 (dk_at dksX0_lineAt_0 13 rfl rfl)
theorem dX0_lineAt_14 : decode cX0_lineAt 14 = .ok (.ireturn, 1) := dk_172 (dk_at dksX0_lineAt_0 14 rfl rfl)
theorem dX0_lineAt_15 : decode cX0_lineAt 15 = .ok (.iconst 0, 1) := dk_3 (dk_at dksX0_lineAt_0 15 rfl rfl)
theorem dX0_lineAt_16 : decode cX0_lineAt 16 = .ok (.ireturn, 1) := dk_172 (dk_at dksX0_lineAt_0 16 rfl rfl)
abbrev cX0_nounShare : ByteArray := method_44_code
def yX0_nounShare : MethodName := ⟨RX0, "nounShare", "(LGateGrammar;I[D)I"⟩
def dkwX0_nounShare_0 : List UInt8 := [44, 3, 42, 27, 182, 0, 149, 141, 82, 167, 0, 9, 78, 4, 172, 78, 5, 172, 3, 172]
abbrev dktX0_nounShare_0 : List UInt8 := dkwX0_nounShare_0 ++ []
theorem dksX0_nounShare_0 : cX0_nounShare.data.toList.drop 0 = dktX0_nounShare_0 := by decide +kernel
theorem dX0_nounShare_0 : decode cX0_nounShare 0 = .ok (.aload_n 2, 1) := dk_44 (dk_at dksX0_nounShare_0 0 rfl rfl)
theorem dX0_nounShare_1 : decode cX0_nounShare 1 = .ok (.iconst 0, 1) := dk_3 (dk_at dksX0_nounShare_0 1 rfl rfl)
theorem dX0_nounShare_2 : decode cX0_nounShare 2 = .ok (.aload_n 0, 1) := dk_42 (dk_at dksX0_nounShare_0 2 rfl rfl)
theorem dX0_nounShare_3 : decode cX0_nounShare 3 = .ok (.iload_n 1, 1) := dk_27 (dk_at dksX0_nounShare_0 3 rfl rfl)
theorem dX0_nounShare_4 : decode cX0_nounShare 4 = .ok (.invokevirtual 149, 3) := dk_182 0 149 (dk_at dksX0_nounShare_0 4 rfl rfl)
theorem dX0_nounShare_7 : decode cX0_nounShare 7 = .ok (.f2d, 1) := dk_141 (dk_at dksX0_nounShare_0 7 rfl rfl)
theorem dX0_nounShare_8 : decode cX0_nounShare 8 = .ok (.dastore, 1) := dk_82 (dk_at dksX0_nounShare_0 8 rfl rfl)
theorem dX0_nounShare_9 : decode cX0_nounShare 9 = .ok (.goto 9, 3) := dk_167 0 9 (dk_at dksX0_nounShare_0 9 rfl rfl)
theorem dX0_nounShare_12 : decode cX0_nounShare 12 = .ok (.astore_n 3, 1) := dk_78 (dk_at dksX0_nounShare_0 12 rfl rfl)
theorem dX0_nounShare_13 : decode cX0_nounShare 13 = .ok (.iconst 1, 1) := dk_4 (dk_at dksX0_nounShare_0 13 rfl rfl)
theorem dX0_nounShare_14 : decode cX0_nounShare 14 = .ok (.ireturn, 1) := dk_172 (dk_at dksX0_nounShare_0 14 rfl rfl)
theorem dX0_nounShare_15 : decode cX0_nounShare 15 = .ok (.astore_n 3, 1) := dk_78 (dk_at dksX0_nounShare_0 15 rfl rfl)
theorem dX0_nounShare_16 : decode cX0_nounShare 16 = .ok (.iconst 2, 1) := dk_5 (dk_at dksX0_nounShare_0 16 rfl rfl)
theorem dX0_nounShare_17 : decode cX0_nounShare 17 = .ok (.ireturn, 1) := dk_172 (dk_at dksX0_nounShare_0 17 rfl rfl)
theorem dX0_nounShare_18 : decode cX0_nounShare 18 = .ok (.iconst 0, 1) := dk_3 (dk_at dksX0_nounShare_0 18 rfl rfl)
theorem dX0_nounShare_19 : decode cX0_nounShare 19 = .ok (.ireturn, 1) := dk_172 (dk_at dksX0_nounShare_0 19 rfl rfl)
abbrev cX0_undo : ByteArray := method_45_code
def yX0_undo : MethodName := ⟨RX0, "undo", "(LGateGrammar;[J)I"⟩
def dkwX0_undo_0 : List UInt8 := [43, 3, 42, 182, 0, 155, 133, 80, 167, 0, 6, 77, 4, 172, 3, 172]
abbrev dktX0_undo_0 : List UInt8 := dkwX0_undo_0 ++ []
theorem dksX0_undo_0 : cX0_undo.data.toList.drop 0 = dktX0_undo_0 := by decide +kernel
theorem dX0_undo_0 : decode cX0_undo 0 = .ok (.aload_n 1, 1) := dk_43 (dk_at dksX0_undo_0 0 rfl rfl)
theorem dX0_undo_1 : decode cX0_undo 1 = .ok (.iconst 0, 1) := dk_3 (dk_at dksX0_undo_0 1 rfl rfl)
theorem dX0_undo_2 : decode cX0_undo 2 = .ok (.aload_n 0, 1) := dk_42 (dk_at dksX0_undo_0 2 rfl rfl)
theorem dX0_undo_3 : decode cX0_undo 3 = .ok (.invokevirtual 155, 3) := dk_182 0 155 (dk_at dksX0_undo_0 3 rfl rfl)
theorem dX0_undo_6 : decode cX0_undo 6 = .ok (.i2l, 1) := dk_133 (dk_at dksX0_undo_0 6 rfl rfl)
theorem dX0_undo_7 : decode cX0_undo 7 = .ok (.lastore, 1) := dk_80 (dk_at dksX0_undo_0 7 rfl rfl)
theorem dX0_undo_8 : decode cX0_undo 8 = .ok (.goto 6, 3) := dk_167 0 6 (dk_at dksX0_undo_0 8 rfl rfl)
theorem dX0_undo_11 : decode cX0_undo 11 = .ok (.astore_n 2, 1) := dk_77 (dk_at dksX0_undo_0 11 rfl rfl)
theorem dX0_undo_12 : decode cX0_undo 12 = .ok (.iconst 1, 1) := dk_4 (dk_at dksX0_undo_0 12 rfl rfl)
theorem dX0_undo_13 : decode cX0_undo 13 = .ok (.ireturn, 1) := dk_172 (dk_at dksX0_undo_0 13 rfl rfl)
theorem dX0_undo_14 : decode cX0_undo 14 = .ok (.iconst 0, 1) := dk_3 (dk_at dksX0_undo_0 14 rfl rfl)
theorem dX0_undo_15 : decode cX0_undo 15 = .ok (.ireturn, 1) := dk_172 (dk_at dksX0_undo_0 15 rfl rfl)
abbrev cX0_restore : ByteArray := method_46_code
def yX0_restore : MethodName := ⟨RX0, "restore", "(LGateGrammar;[J)I"⟩
def dkwX0_restore_0 : List UInt8 := [43, 3, 42, 182, 0, 158, 133, 80, 167, 0, 6, 77, 4, 172, 3, 172]
abbrev dktX0_restore_0 : List UInt8 := dkwX0_restore_0 ++ []
theorem dksX0_restore_0 : cX0_restore.data.toList.drop 0 = dktX0_restore_0 := by decide +kernel
theorem dX0_restore_0 : decode cX0_restore 0 = .ok (.aload_n 1, 1) := dk_43 (dk_at dksX0_restore_0 0 rfl rfl)
theorem dX0_restore_1 : decode cX0_restore 1 = .ok (.iconst 0, 1) := dk_3 (dk_at dksX0_restore_0 1 rfl rfl)
theorem dX0_restore_2 : decode cX0_restore 2 = .ok (.aload_n 0, 1) := dk_42 (dk_at dksX0_restore_0 2 rfl rfl)
theorem dX0_restore_3 : decode cX0_restore 3 = .ok (.invokevirtual 158, 3) := dk_182 0 158 (dk_at dksX0_restore_0 3 rfl rfl)
theorem dX0_restore_6 : decode cX0_restore 6 = .ok (.i2l, 1) := dk_133 (dk_at dksX0_restore_0 6 rfl rfl)
theorem dX0_restore_7 : decode cX0_restore 7 = .ok (.lastore, 1) := dk_80 (dk_at dksX0_restore_0 7 rfl rfl)
theorem dX0_restore_8 : decode cX0_restore 8 = .ok (.goto 6, 3) := dk_167 0 6 (dk_at dksX0_restore_0 8 rfl rfl)
theorem dX0_restore_11 : decode cX0_restore 11 = .ok (.astore_n 2, 1) := dk_77 (dk_at dksX0_restore_0 11 rfl rfl)
theorem dX0_restore_12 : decode cX0_restore 12 = .ok (.iconst 1, 1) := dk_4 (dk_at dksX0_restore_0 12 rfl rfl)
theorem dX0_restore_13 : decode cX0_restore 13 = .ok (.ireturn, 1) := dk_172 (dk_at dksX0_restore_0 13 rfl rfl)
theorem dX0_restore_14 : decode cX0_restore 14 = .ok (.iconst 0, 1) := dk_3 (dk_at dksX0_restore_0 14 rfl rfl)
theorem dX0_restore_15 : decode cX0_restore 15 = .ok (.ireturn, 1) := dk_172 (dk_at dksX0_restore_0 15 rfl rfl)
theorem q75 : (Jvm.Cond.initialized "GateGrammarLaw") ∈ lw_all := lw_g (lw_at lw_m1 0 rfl) rfl
theorem q131 : (Jvm.Cond.classLink "GateGrammarLaw" (8 : Nat) "GateGrammar") ∈ lw_all := lw_g (lw_at lw_m1 56 rfl) rfl
theorem q133 : (Jvm.Cond.methodLink "GateGrammarLaw" (161 : Nat) ({ cls := "GateGrammar", name := "<init>", desc := "()V" } : Jvm.MethodName)) ∈ lw_all := lw_g (lw_at lw_m1 58 rfl) rfl
theorem q1063 : (Jvm.Cond.methodLink "GateGrammarLaw" (181 : Nat) ({ cls := "GateGrammar", name := "nounCount", desc := "()I" } : Jvm.MethodName)) ∈ lw_all := lw_g (lw_at lw_m5 28 rfl) rfl
theorem q1067 : (Jvm.Cond.methodLink "GateGrammarLaw" (185 : Nat) ({ cls := "GateGrammar", name := "verbCount", desc := "()I" } : Jvm.MethodName)) ∈ lw_all := lw_g (lw_at lw_m5 32 rfl) rfl
theorem q1071 : (Jvm.Cond.methodLink "GateGrammarLaw" (274 : Nat) ({ cls := "GateGrammar", name := "shutCount", desc := "()I" } : Jvm.MethodName)) ∈ lw_all := lw_g (lw_at lw_m5 36 rfl) rfl
theorem q1315 : (Jvm.Cond.methodLink "GateGrammarLaw" (310 : Nat) ({ cls := "GateGrammar", name := "meanTokens", desc := "()D" } : Jvm.MethodName)) ∈ lw_all := lw_g (lw_at lw_m6 40 rfl) rfl
theorem q1330 : (Jvm.Cond.methodLink "GateGrammarLaw" (319 : Nat) ({ cls := "GateGrammar", name := "isConsistent", desc := "()Z" } : Jvm.MethodName)) ∈ lw_all := lw_g (lw_at lw_m6 55 rfl) rfl
theorem q1536 : (Jvm.Cond.methodLink "GateGrammarLaw" (327 : Nat) ({ cls := "GateGrammar", name := "save", desc := "()I" } : Jvm.MethodName)) ∈ lw_all := lw_g (lw_at lw_m7 21 rfl) rfl
theorem q1564 : (Jvm.Cond.methodLink "GateGrammarLaw" (165 : Nat) ({ cls := "GateGrammarLaw", name := "addNoun", desc := "(LGateGrammar;I[J)I" } : Jvm.MethodName)) ∈ lw_all := lw_g (lw_at lw_m7 49 rfl) rfl
theorem q1565 : (Jvm.Cond.static ({ cls := "GateGrammarLaw", name := "addNoun", desc := "(LGateGrammar;I[J)I" } : Jvm.MethodName)) ∈ lw_all := lw_g (lw_at lw_m7 50 rfl) rfl
theorem q1566 : (Jvm.Cond.codeWith ({ cls := "GateGrammarLaw", name := "addNoun", desc := "(LGateGrammar;I[J)I" } : Jvm.MethodName) method_3_code (4 : Nat) (Option.some Jvm.ClassFile.FieldType.int) [((0 : Nat), (9 : Nat), (12 : Nat), (13 : Nat)), ((0 : Nat), (9 : Nat), (15 : Nat), (15 : Nat))]) ∈ lw_all := lw_g (lw_at lw_m7 51 rfl) rfl
theorem q1567 : (Jvm.Cond.classLink "GateGrammarLaw" (13 : Nat) "java/lang/IllegalArgumentException") ∈ lw_all := lw_g (lw_at lw_m7 52 rfl) rfl
theorem q1568 : (Jvm.Cond.classLink "GateGrammarLaw" (15 : Nat) "java/lang/IllegalStateException") ∈ lw_all := lw_g (lw_at lw_m7 53 rfl) rfl
theorem q1569 : (Jvm.Cond.methodLink "GateGrammarLaw" (7 : Nat) ({ cls := "GateGrammar", name := "addNoun", desc := "(I)I" } : Jvm.MethodName)) ∈ lw_all := lw_g (lw_at lw_m7 54 rfl) rfl
theorem q1612 : (Jvm.Cond.methodLink "GateGrammarLaw" (174 : Nat) ({ cls := "GateGrammarLaw", name := "addVerb", desc := "(LGateGrammar;I[J)I" } : Jvm.MethodName)) ∈ lw_all := lw_g (lw_at lw_m7 97 rfl) rfl
theorem q1613 : (Jvm.Cond.static ({ cls := "GateGrammarLaw", name := "addVerb", desc := "(LGateGrammar;I[J)I" } : Jvm.MethodName)) ∈ lw_all := lw_g (lw_at lw_m7 98 rfl) rfl
theorem q1614 : (Jvm.Cond.codeWith ({ cls := "GateGrammarLaw", name := "addVerb", desc := "(LGateGrammar;I[J)I" } : Jvm.MethodName) method_4_code (4 : Nat) (Option.some Jvm.ClassFile.FieldType.int) [((0 : Nat), (9 : Nat), (12 : Nat), (13 : Nat)), ((0 : Nat), (9 : Nat), (15 : Nat), (15 : Nat))]) ∈ lw_all := lw_g (lw_at lw_m7 99 rfl) rfl
theorem q1615 : (Jvm.Cond.methodLink "GateGrammarLaw" (17 : Nat) ({ cls := "GateGrammar", name := "addVerb", desc := "(I)I" } : Jvm.MethodName)) ∈ lw_all := lw_g (lw_at lw_m7 100 rfl) rfl
theorem q1623 : (Jvm.Cond.methodLink "GateGrammarLaw" (177 : Nat) ({ cls := "GateGrammarLaw", name := "setObjectCase", desc := "(LGateGrammar;II[J)I" } : Jvm.MethodName)) ∈ lw_all := lw_g (lw_at lw_m7 108 rfl) rfl
theorem q1624 : (Jvm.Cond.static ({ cls := "GateGrammarLaw", name := "setObjectCase", desc := "(LGateGrammar;II[J)I" } : Jvm.MethodName)) ∈ lw_all := lw_g (lw_at lw_m7 109 rfl) rfl
theorem q1625 : (Jvm.Cond.codeWith ({ cls := "GateGrammarLaw", name := "setObjectCase", desc := "(LGateGrammar;II[J)I" } : Jvm.MethodName) method_5_code (5 : Nat) (Option.some Jvm.ClassFile.FieldType.int) [((0 : Nat), (10 : Nat), (13 : Nat), (24 : Nat)), ((0 : Nat), (10 : Nat), (17 : Nat), (13 : Nat))]) ∈ lw_all := lw_g (lw_at lw_m7 110 rfl) rfl
theorem q1626 : (Jvm.Cond.classLink "GateGrammarLaw" (24 : Nat) "java/lang/IndexOutOfBoundsException") ∈ lw_all := lw_g (lw_at lw_m7 111 rfl) rfl
theorem q1642 : (Jvm.Cond.methodLink "GateGrammarLaw" (20 : Nat) ({ cls := "GateGrammar", name := "setObjectCase", desc := "(II)I" } : Jvm.MethodName)) ∈ lw_all := lw_g (lw_at lw_m7 127 rfl) rfl
theorem q1650 : (Jvm.Cond.methodLink "GateGrammarLaw" (189 : Nat) ({ cls := "GateGrammarLaw", name := "gender", desc := "(LGateGrammar;I[J)I" } : Jvm.MethodName)) ∈ lw_all := lw_g (lw_at lw_m7 135 rfl) rfl
theorem q1651 : (Jvm.Cond.static ({ cls := "GateGrammarLaw", name := "gender", desc := "(LGateGrammar;I[J)I" } : Jvm.MethodName)) ∈ lw_all := lw_g (lw_at lw_m7 136 rfl) rfl
theorem q1652 : (Jvm.Cond.codeWith ({ cls := "GateGrammarLaw", name := "gender", desc := "(LGateGrammar;I[J)I" } : Jvm.MethodName) method_6_code (4 : Nat) (Option.some Jvm.ClassFile.FieldType.int) [((0 : Nat), (9 : Nat), (12 : Nat), (24 : Nat))]) ∈ lw_all := lw_g (lw_at lw_m7 137 rfl) rfl
theorem q1653 : (Jvm.Cond.methodLink "GateGrammarLaw" (26 : Nat) ({ cls := "GateGrammar", name := "gender", desc := "(I)I" } : Jvm.MethodName)) ∈ lw_all := lw_g (lw_at lw_m7 138 rfl) rfl
theorem q1661 : (Jvm.Cond.methodLink "GateGrammarLaw" (192 : Nat) ({ cls := "GateGrammarLaw", name := "objectCase", desc := "(LGateGrammar;I[J)I" } : Jvm.MethodName)) ∈ lw_all := lw_g (lw_at lw_m7 146 rfl) rfl
theorem q1662 : (Jvm.Cond.static ({ cls := "GateGrammarLaw", name := "objectCase", desc := "(LGateGrammar;I[J)I" } : Jvm.MethodName)) ∈ lw_all := lw_g (lw_at lw_m7 147 rfl) rfl
theorem q1663 : (Jvm.Cond.codeWith ({ cls := "GateGrammarLaw", name := "objectCase", desc := "(LGateGrammar;I[J)I" } : Jvm.MethodName) method_7_code (4 : Nat) (Option.some Jvm.ClassFile.FieldType.int) [((0 : Nat), (9 : Nat), (12 : Nat), (24 : Nat))]) ∈ lw_all := lw_g (lw_at lw_m7 148 rfl) rfl
theorem q1664 : (Jvm.Cond.methodLink "GateGrammarLaw" (29 : Nat) ({ cls := "GateGrammar", name := "objectCase", desc := "(I)I" } : Jvm.MethodName)) ∈ lw_all := lw_g (lw_at lw_m7 149 rfl) rfl
theorem q1668 : (Jvm.Cond.methodLink "GateGrammarLaw" (195 : Nat) ({ cls := "GateGrammarLaw", name := "ending", desc := "(LGateGrammar;II[J)I" } : Jvm.MethodName)) ∈ lw_all := lw_g (lw_at lw_m7 153 rfl) rfl
theorem q1669 : (Jvm.Cond.static ({ cls := "GateGrammarLaw", name := "ending", desc := "(LGateGrammar;II[J)I" } : Jvm.MethodName)) ∈ lw_all := lw_g (lw_at lw_m7 154 rfl) rfl
theorem q1670 : (Jvm.Cond.codeWith ({ cls := "GateGrammarLaw", name := "ending", desc := "(LGateGrammar;II[J)I" } : Jvm.MethodName) method_8_code (5 : Nat) (Option.some Jvm.ClassFile.FieldType.int) [((0 : Nat), (10 : Nat), (13 : Nat), (24 : Nat)), ((0 : Nat), (10 : Nat), (17 : Nat), (13 : Nat))]) ∈ lw_all := lw_g (lw_at lw_m7 155 rfl) rfl
theorem q1671 : (Jvm.Cond.methodLink "GateGrammarLaw" (32 : Nat) ({ cls := "GateGrammar", name := "ending", desc := "(II)C" } : Jvm.MethodName)) ∈ lw_all := lw_g (lw_at lw_m7 156 rfl) rfl
theorem q1703 : (Jvm.Cond.methodLink "GateGrammarLaw" (198 : Nat) ({ cls := "GateGrammarLaw", name := "appendNoun", desc := "(LGateGrammar;III[J)I" } : Jvm.MethodName)) ∈ lw_all := lw_g (lw_at lw_m7 188 rfl) rfl
theorem q1704 : (Jvm.Cond.static ({ cls := "GateGrammarLaw", name := "appendNoun", desc := "(LGateGrammar;III[J)I" } : Jvm.MethodName)) ∈ lw_all := lw_g (lw_at lw_m7 189 rfl) rfl
theorem q1705 : (Jvm.Cond.codeWith ({ cls := "GateGrammarLaw", name := "appendNoun", desc := "(LGateGrammar;III[J)I" } : Jvm.MethodName) method_9_code (6 : Nat) (Option.some Jvm.ClassFile.FieldType.int) [((0 : Nat), (12 : Nat), (15 : Nat), (24 : Nat)), ((0 : Nat), (12 : Nat), (19 : Nat), (13 : Nat)), ((0 : Nat), (12 : Nat), (23 : Nat), (15 : Nat))]) ∈ lw_all := lw_g (lw_at lw_m7 190 rfl) rfl
theorem q1706 : (Jvm.Cond.methodLink "GateGrammarLaw" (36 : Nat) ({ cls := "GateGrammar", name := "appendNoun", desc := "(III)I" } : Jvm.MethodName)) ∈ lw_all := lw_g (lw_at lw_m7 191 rfl) rfl
theorem q1750 : (Jvm.Cond.methodLink "GateGrammarLaw" (202 : Nat) ({ cls := "GateGrammarLaw", name := "appendVerb", desc := "(LGateGrammar;III[J)I" } : Jvm.MethodName)) ∈ lw_all := lw_g (lw_at lw_m7 235 rfl) rfl
theorem q1751 : (Jvm.Cond.static ({ cls := "GateGrammarLaw", name := "appendVerb", desc := "(LGateGrammar;III[J)I" } : Jvm.MethodName)) ∈ lw_all := lw_g (lw_at lw_m7 236 rfl) rfl
theorem q1752 : (Jvm.Cond.codeWith ({ cls := "GateGrammarLaw", name := "appendVerb", desc := "(LGateGrammar;III[J)I" } : Jvm.MethodName) method_10_code (6 : Nat) (Option.some Jvm.ClassFile.FieldType.int) [((0 : Nat), (12 : Nat), (15 : Nat), (24 : Nat)), ((0 : Nat), (12 : Nat), (19 : Nat), (13 : Nat)), ((0 : Nat), (12 : Nat), (23 : Nat), (15 : Nat))]) ∈ lw_all := lw_g (lw_at lw_m7 237 rfl) rfl
theorem q1753 : (Jvm.Cond.methodLink "GateGrammarLaw" (40 : Nat) ({ cls := "GateGrammar", name := "appendVerb", desc := "(III)I" } : Jvm.MethodName)) ∈ lw_all := lw_g (lw_at lw_m7 238 rfl) rfl
theorem q1761 : (Jvm.Cond.methodLink "GateGrammarLaw" (205 : Nat) ({ cls := "GateGrammarLaw", name := "appendOpen", desc := "(LGateGrammar;I[J)I" } : Jvm.MethodName)) ∈ lw_all := lw_g (lw_at lw_m8 6 rfl) rfl
theorem q1762 : (Jvm.Cond.static ({ cls := "GateGrammarLaw", name := "appendOpen", desc := "(LGateGrammar;I[J)I" } : Jvm.MethodName)) ∈ lw_all := lw_g (lw_at lw_m8 7 rfl) rfl
theorem q1763 : (Jvm.Cond.codeWith ({ cls := "GateGrammarLaw", name := "appendOpen", desc := "(LGateGrammar;I[J)I" } : Jvm.MethodName) method_11_code (4 : Nat) (Option.some Jvm.ClassFile.FieldType.int) [((0 : Nat), (9 : Nat), (12 : Nat), (24 : Nat)), ((0 : Nat), (9 : Nat), (15 : Nat), (15 : Nat))]) ∈ lw_all := lw_g (lw_at lw_m8 8 rfl) rfl
theorem q1764 : (Jvm.Cond.methodLink "GateGrammarLaw" (43 : Nat) ({ cls := "GateGrammar", name := "appendOpen", desc := "(I)I" } : Jvm.MethodName)) ∈ lw_all := lw_g (lw_at lw_m8 9 rfl) rfl
theorem q1776 : (Jvm.Cond.methodLink "GateGrammarLaw" (208 : Nat) ({ cls := "GateGrammarLaw", name := "appendClose", desc := "(LGateGrammar;I[J)I" } : Jvm.MethodName)) ∈ lw_all := lw_g (lw_at lw_m8 21 rfl) rfl
theorem q1777 : (Jvm.Cond.static ({ cls := "GateGrammarLaw", name := "appendClose", desc := "(LGateGrammar;I[J)I" } : Jvm.MethodName)) ∈ lw_all := lw_g (lw_at lw_m8 22 rfl) rfl
theorem q1778 : (Jvm.Cond.codeWith ({ cls := "GateGrammarLaw", name := "appendClose", desc := "(LGateGrammar;I[J)I" } : Jvm.MethodName) method_12_code (4 : Nat) (Option.some Jvm.ClassFile.FieldType.int) [((0 : Nat), (9 : Nat), (12 : Nat), (24 : Nat)), ((0 : Nat), (9 : Nat), (15 : Nat), (15 : Nat))]) ∈ lw_all := lw_g (lw_at lw_m8 23 rfl) rfl
theorem q1779 : (Jvm.Cond.methodLink "GateGrammarLaw" (46 : Nat) ({ cls := "GateGrammar", name := "appendClose", desc := "(I)I" } : Jvm.MethodName)) ∈ lw_all := lw_g (lw_at lw_m8 24 rfl) rfl
theorem q1783 : (Jvm.Cond.methodLink "GateGrammarLaw" (211 : Nat) ({ cls := "GateGrammarLaw", name := "appendAnd", desc := "(LGateGrammar;I[J)I" } : Jvm.MethodName)) ∈ lw_all := lw_g (lw_at lw_m8 28 rfl) rfl
theorem q1784 : (Jvm.Cond.static ({ cls := "GateGrammarLaw", name := "appendAnd", desc := "(LGateGrammar;I[J)I" } : Jvm.MethodName)) ∈ lw_all := lw_g (lw_at lw_m8 29 rfl) rfl
theorem q1785 : (Jvm.Cond.codeWith ({ cls := "GateGrammarLaw", name := "appendAnd", desc := "(LGateGrammar;I[J)I" } : Jvm.MethodName) method_13_code (4 : Nat) (Option.some Jvm.ClassFile.FieldType.int) [((0 : Nat), (9 : Nat), (12 : Nat), (24 : Nat)), ((0 : Nat), (9 : Nat), (15 : Nat), (15 : Nat))]) ∈ lw_all := lw_g (lw_at lw_m8 30 rfl) rfl
theorem q1786 : (Jvm.Cond.methodLink "GateGrammarLaw" (49 : Nat) ({ cls := "GateGrammar", name := "appendAnd", desc := "(I)I" } : Jvm.MethodName)) ∈ lw_all := lw_g (lw_at lw_m8 31 rfl) rfl
theorem q1790 : (Jvm.Cond.methodLink "GateGrammarLaw" (214 : Nat) ({ cls := "GateGrammarLaw", name := "removeLast", desc := "(LGateGrammar;I[J)I" } : Jvm.MethodName)) ∈ lw_all := lw_g (lw_at lw_m8 35 rfl) rfl
theorem q1791 : (Jvm.Cond.static ({ cls := "GateGrammarLaw", name := "removeLast", desc := "(LGateGrammar;I[J)I" } : Jvm.MethodName)) ∈ lw_all := lw_g (lw_at lw_m8 36 rfl) rfl
theorem q1792 : (Jvm.Cond.codeWith ({ cls := "GateGrammarLaw", name := "removeLast", desc := "(LGateGrammar;I[J)I" } : Jvm.MethodName) method_14_code (4 : Nat) (Option.some Jvm.ClassFile.FieldType.int) [((0 : Nat), (9 : Nat), (12 : Nat), (24 : Nat)), ((0 : Nat), (9 : Nat), (15 : Nat), (15 : Nat))]) ∈ lw_all := lw_g (lw_at lw_m8 37 rfl) rfl
theorem q1793 : (Jvm.Cond.methodLink "GateGrammarLaw" (52 : Nat) ({ cls := "GateGrammar", name := "removeLast", desc := "(I)I" } : Jvm.MethodName)) ∈ lw_all := lw_g (lw_at lw_m8 38 rfl) rfl
theorem q1814 : (Jvm.Cond.methodLink "GateGrammarLaw" (217 : Nat) ({ cls := "GateGrammarLaw", name := "clear", desc := "(LGateGrammar;I[J)I" } : Jvm.MethodName)) ∈ lw_all := lw_g (lw_at lw_m8 59 rfl) rfl
theorem q1815 : (Jvm.Cond.static ({ cls := "GateGrammarLaw", name := "clear", desc := "(LGateGrammar;I[J)I" } : Jvm.MethodName)) ∈ lw_all := lw_g (lw_at lw_m8 60 rfl) rfl
theorem q1816 : (Jvm.Cond.codeWith ({ cls := "GateGrammarLaw", name := "clear", desc := "(LGateGrammar;I[J)I" } : Jvm.MethodName) method_15_code (4 : Nat) (Option.some Jvm.ClassFile.FieldType.int) [((0 : Nat), (9 : Nat), (12 : Nat), (24 : Nat))]) ∈ lw_all := lw_g (lw_at lw_m8 61 rfl) rfl
theorem q1817 : (Jvm.Cond.methodLink "GateGrammarLaw" (55 : Nat) ({ cls := "GateGrammar", name := "clear", desc := "(I)I" } : Jvm.MethodName)) ∈ lw_all := lw_g (lw_at lw_m8 62 rfl) rfl
theorem q1829 : (Jvm.Cond.methodLink "GateGrammarLaw" (220 : Nat) ({ cls := "GateGrammarLaw", name := "swing", desc := "(LGateGrammar;I[J)I" } : Jvm.MethodName)) ∈ lw_all := lw_g (lw_at lw_m8 74 rfl) rfl
theorem q1830 : (Jvm.Cond.static ({ cls := "GateGrammarLaw", name := "swing", desc := "(LGateGrammar;I[J)I" } : Jvm.MethodName)) ∈ lw_all := lw_g (lw_at lw_m8 75 rfl) rfl
theorem q1831 : (Jvm.Cond.codeWith ({ cls := "GateGrammarLaw", name := "swing", desc := "(LGateGrammar;I[J)I" } : Jvm.MethodName) method_16_code (4 : Nat) (Option.some Jvm.ClassFile.FieldType.int) [((0 : Nat), (9 : Nat), (12 : Nat), (24 : Nat)), ((0 : Nat), (9 : Nat), (15 : Nat), (15 : Nat))]) ∈ lw_all := lw_g (lw_at lw_m8 76 rfl) rfl
theorem q1832 : (Jvm.Cond.methodLink "GateGrammarLaw" (58 : Nat) ({ cls := "GateGrammar", name := "swing", desc := "(I)I" } : Jvm.MethodName)) ∈ lw_all := lw_g (lw_at lw_m8 77 rfl) rfl
theorem q1848 : (Jvm.Cond.methodLink "GateGrammarLaw" (223 : Nat) ({ cls := "GateGrammarLaw", name := "tokenCount", desc := "(LGateGrammar;I[J)I" } : Jvm.MethodName)) ∈ lw_all := lw_g (lw_at lw_m8 93 rfl) rfl
theorem q1849 : (Jvm.Cond.static ({ cls := "GateGrammarLaw", name := "tokenCount", desc := "(LGateGrammar;I[J)I" } : Jvm.MethodName)) ∈ lw_all := lw_g (lw_at lw_m8 94 rfl) rfl
theorem q1850 : (Jvm.Cond.codeWith ({ cls := "GateGrammarLaw", name := "tokenCount", desc := "(LGateGrammar;I[J)I" } : Jvm.MethodName) method_17_code (4 : Nat) (Option.some Jvm.ClassFile.FieldType.int) [((0 : Nat), (9 : Nat), (12 : Nat), (24 : Nat))]) ∈ lw_all := lw_g (lw_at lw_m8 95 rfl) rfl
theorem q1851 : (Jvm.Cond.methodLink "GateGrammarLaw" (61 : Nat) ({ cls := "GateGrammar", name := "tokenCount", desc := "(I)I" } : Jvm.MethodName)) ∈ lw_all := lw_g (lw_at lw_m8 96 rfl) rfl
theorem q1855 : (Jvm.Cond.methodLink "GateGrammarLaw" (226 : Nat) ({ cls := "GateGrammarLaw", name := "tokenKind", desc := "(LGateGrammar;II[J)I" } : Jvm.MethodName)) ∈ lw_all := lw_g (lw_at lw_m8 100 rfl) rfl
theorem q1856 : (Jvm.Cond.static ({ cls := "GateGrammarLaw", name := "tokenKind", desc := "(LGateGrammar;II[J)I" } : Jvm.MethodName)) ∈ lw_all := lw_g (lw_at lw_m8 101 rfl) rfl
theorem q1857 : (Jvm.Cond.codeWith ({ cls := "GateGrammarLaw", name := "tokenKind", desc := "(LGateGrammar;II[J)I" } : Jvm.MethodName) method_18_code (5 : Nat) (Option.some Jvm.ClassFile.FieldType.int) [((0 : Nat), (10 : Nat), (13 : Nat), (24 : Nat))]) ∈ lw_all := lw_g (lw_at lw_m8 102 rfl) rfl
theorem q1858 : (Jvm.Cond.methodLink "GateGrammarLaw" (64 : Nat) ({ cls := "GateGrammar", name := "tokenKind", desc := "(II)I" } : Jvm.MethodName)) ∈ lw_all := lw_g (lw_at lw_m8 103 rfl) rfl
theorem q1863 : (Jvm.Cond.methodLink "GateGrammarLaw" (229 : Nat) ({ cls := "GateGrammarLaw", name := "syntaxError", desc := "(LGateGrammar;I[J)I" } : Jvm.MethodName)) ∈ lw_all := lw_g (lw_at lw_m8 108 rfl) rfl
theorem q1864 : (Jvm.Cond.static ({ cls := "GateGrammarLaw", name := "syntaxError", desc := "(LGateGrammar;I[J)I" } : Jvm.MethodName)) ∈ lw_all := lw_g (lw_at lw_m8 109 rfl) rfl
theorem q1865 : (Jvm.Cond.codeWith ({ cls := "GateGrammarLaw", name := "syntaxError", desc := "(LGateGrammar;I[J)I" } : Jvm.MethodName) method_19_code (4 : Nat) (Option.some Jvm.ClassFile.FieldType.int) [((0 : Nat), (9 : Nat), (12 : Nat), (24 : Nat))]) ∈ lw_all := lw_g (lw_at lw_m8 110 rfl) rfl
theorem q1866 : (Jvm.Cond.methodLink "GateGrammarLaw" (67 : Nat) ({ cls := "GateGrammar", name := "syntaxError", desc := "(I)I" } : Jvm.MethodName)) ∈ lw_all := lw_g (lw_at lw_m8 111 rfl) rfl
theorem q1867 : (Jvm.Cond.methodLink "GateGrammarLaw" (232 : Nat) ({ cls := "GateGrammarLaw", name := "syntaxErrorByLoop", desc := "(LGateGrammar;I[J)I" } : Jvm.MethodName)) ∈ lw_all := lw_g (lw_at lw_m8 112 rfl) rfl
theorem q1868 : (Jvm.Cond.static ({ cls := "GateGrammarLaw", name := "syntaxErrorByLoop", desc := "(LGateGrammar;I[J)I" } : Jvm.MethodName)) ∈ lw_all := lw_g (lw_at lw_m8 113 rfl) rfl
theorem q1869 : (Jvm.Cond.codeWith ({ cls := "GateGrammarLaw", name := "syntaxErrorByLoop", desc := "(LGateGrammar;I[J)I" } : Jvm.MethodName) method_20_code (4 : Nat) (Option.some Jvm.ClassFile.FieldType.int) [((0 : Nat), (9 : Nat), (12 : Nat), (24 : Nat))]) ∈ lw_all := lw_g (lw_at lw_m8 114 rfl) rfl
theorem q1870 : (Jvm.Cond.methodLink "GateGrammarLaw" (70 : Nat) ({ cls := "GateGrammar", name := "syntaxErrorByLoop", desc := "(I)I" } : Jvm.MethodName)) ∈ lw_all := lw_g (lw_at lw_m8 115 rfl) rfl
theorem q1871 : (Jvm.Cond.methodLink "GateGrammarLaw" (235 : Nat) ({ cls := "GateGrammarLaw", name := "allowedKinds", desc := "(LGateGrammar;I[J)I" } : Jvm.MethodName)) ∈ lw_all := lw_g (lw_at lw_m8 116 rfl) rfl
theorem q1872 : (Jvm.Cond.static ({ cls := "GateGrammarLaw", name := "allowedKinds", desc := "(LGateGrammar;I[J)I" } : Jvm.MethodName)) ∈ lw_all := lw_g (lw_at lw_m8 117 rfl) rfl
theorem q1873 : (Jvm.Cond.codeWith ({ cls := "GateGrammarLaw", name := "allowedKinds", desc := "(LGateGrammar;I[J)I" } : Jvm.MethodName) method_21_code (4 : Nat) (Option.some Jvm.ClassFile.FieldType.int) [((0 : Nat), (9 : Nat), (12 : Nat), (24 : Nat))]) ∈ lw_all := lw_g (lw_at lw_m8 118 rfl) rfl
theorem q1874 : (Jvm.Cond.methodLink "GateGrammarLaw" (73 : Nat) ({ cls := "GateGrammar", name := "allowedKinds", desc := "(I)I" } : Jvm.MethodName)) ∈ lw_all := lw_g (lw_at lw_m8 119 rfl) rfl
theorem q1879 : (Jvm.Cond.methodLink "GateGrammarLaw" (238 : Nat) ({ cls := "GateGrammarLaw", name := "excessTokens", desc := "(LGateGrammar;I[J)I" } : Jvm.MethodName)) ∈ lw_all := lw_g (lw_at lw_m8 124 rfl) rfl
theorem q1880 : (Jvm.Cond.static ({ cls := "GateGrammarLaw", name := "excessTokens", desc := "(LGateGrammar;I[J)I" } : Jvm.MethodName)) ∈ lw_all := lw_g (lw_at lw_m8 125 rfl) rfl
theorem q1881 : (Jvm.Cond.codeWith ({ cls := "GateGrammarLaw", name := "excessTokens", desc := "(LGateGrammar;I[J)I" } : Jvm.MethodName) method_22_code (4 : Nat) (Option.some Jvm.ClassFile.FieldType.int) [((0 : Nat), (9 : Nat), (12 : Nat), (24 : Nat)), ((0 : Nat), (9 : Nat), (15 : Nat), (79 : Nat))]) ∈ lw_all := lw_g (lw_at lw_m8 126 rfl) rfl
theorem q1882 : (Jvm.Cond.classLink "GateGrammarLaw" (79 : Nat) "java/util/NoSuchElementException") ∈ lw_all := lw_g (lw_at lw_m8 127 rfl) rfl
theorem q1883 : (Jvm.Cond.methodLink "GateGrammarLaw" (76 : Nat) ({ cls := "GateGrammar", name := "excessTokens", desc := "(I)I" } : Jvm.MethodName)) ∈ lw_all := lw_g (lw_at lw_m8 128 rfl) rfl
theorem q1887 : (Jvm.Cond.methodLink "GateGrammarLaw" (241 : Nat) ({ cls := "GateGrammarLaw", name := "clauseCount", desc := "(LGateGrammar;I[J)I" } : Jvm.MethodName)) ∈ lw_all := lw_g (lw_at lw_m8 132 rfl) rfl
theorem q1888 : (Jvm.Cond.static ({ cls := "GateGrammarLaw", name := "clauseCount", desc := "(LGateGrammar;I[J)I" } : Jvm.MethodName)) ∈ lw_all := lw_g (lw_at lw_m8 133 rfl) rfl
theorem q1889 : (Jvm.Cond.codeWith ({ cls := "GateGrammarLaw", name := "clauseCount", desc := "(LGateGrammar;I[J)I" } : Jvm.MethodName) method_23_code (4 : Nat) (Option.some Jvm.ClassFile.FieldType.int) [((0 : Nat), (9 : Nat), (12 : Nat), (24 : Nat))]) ∈ lw_all := lw_g (lw_at lw_m8 134 rfl) rfl
theorem q1890 : (Jvm.Cond.methodLink "GateGrammarLaw" (81 : Nat) ({ cls := "GateGrammar", name := "clauseCount", desc := "(I)I" } : Jvm.MethodName)) ∈ lw_all := lw_g (lw_at lw_m8 135 rfl) rfl
theorem q1894 : (Jvm.Cond.methodLink "GateGrammarLaw" (244 : Nat) ({ cls := "GateGrammarLaw", name := "depth", desc := "(LGateGrammar;I[J)I" } : Jvm.MethodName)) ∈ lw_all := lw_g (lw_at lw_m8 139 rfl) rfl
theorem q1895 : (Jvm.Cond.static ({ cls := "GateGrammarLaw", name := "depth", desc := "(LGateGrammar;I[J)I" } : Jvm.MethodName)) ∈ lw_all := lw_g (lw_at lw_m8 140 rfl) rfl
theorem q1896 : (Jvm.Cond.codeWith ({ cls := "GateGrammarLaw", name := "depth", desc := "(LGateGrammar;I[J)I" } : Jvm.MethodName) method_24_code (4 : Nat) (Option.some Jvm.ClassFile.FieldType.int) [((0 : Nat), (9 : Nat), (12 : Nat), (24 : Nat)), ((0 : Nat), (9 : Nat), (15 : Nat), (79 : Nat))]) ∈ lw_all := lw_g (lw_at lw_m8 141 rfl) rfl
theorem q1897 : (Jvm.Cond.methodLink "GateGrammarLaw" (84 : Nat) ({ cls := "GateGrammar", name := "depth", desc := "(I)I" } : Jvm.MethodName)) ∈ lw_all := lw_g (lw_at lw_m8 142 rfl) rfl
theorem q1916 : (Jvm.Cond.methodLink "GateGrammarLaw" (247 : Nat) ({ cls := "GateGrammarLaw", name := "subjectCount", desc := "(LGateGrammar;II[J)I" } : Jvm.MethodName)) ∈ lw_all := lw_g (lw_at lw_m8 161 rfl) rfl
theorem q1917 : (Jvm.Cond.static ({ cls := "GateGrammarLaw", name := "subjectCount", desc := "(LGateGrammar;II[J)I" } : Jvm.MethodName)) ∈ lw_all := lw_g (lw_at lw_m8 162 rfl) rfl
theorem q1918 : (Jvm.Cond.codeWith ({ cls := "GateGrammarLaw", name := "subjectCount", desc := "(LGateGrammar;II[J)I" } : Jvm.MethodName) method_25_code (5 : Nat) (Option.some Jvm.ClassFile.FieldType.int) [((0 : Nat), (10 : Nat), (13 : Nat), (24 : Nat)), ((0 : Nat), (10 : Nat), (17 : Nat), (79 : Nat))]) ∈ lw_all := lw_g (lw_at lw_m8 163 rfl) rfl
theorem q1919 : (Jvm.Cond.methodLink "GateGrammarLaw" (87 : Nat) ({ cls := "GateGrammar", name := "subjectCount", desc := "(II)I" } : Jvm.MethodName)) ∈ lw_all := lw_g (lw_at lw_m8 164 rfl) rfl
theorem q1929 : (Jvm.Cond.methodLink "GateGrammarLaw" (250 : Nat) ({ cls := "GateGrammarLaw", name := "verbOf", desc := "(LGateGrammar;II[J)I" } : Jvm.MethodName)) ∈ lw_all := lw_g (lw_at lw_m8 174 rfl) rfl
theorem q1930 : (Jvm.Cond.static ({ cls := "GateGrammarLaw", name := "verbOf", desc := "(LGateGrammar;II[J)I" } : Jvm.MethodName)) ∈ lw_all := lw_g (lw_at lw_m8 175 rfl) rfl
theorem q1931 : (Jvm.Cond.codeWith ({ cls := "GateGrammarLaw", name := "verbOf", desc := "(LGateGrammar;II[J)I" } : Jvm.MethodName) method_26_code (5 : Nat) (Option.some Jvm.ClassFile.FieldType.int) [((0 : Nat), (10 : Nat), (13 : Nat), (24 : Nat)), ((0 : Nat), (10 : Nat), (17 : Nat), (79 : Nat))]) ∈ lw_all := lw_g (lw_at lw_m8 176 rfl) rfl
theorem q1932 : (Jvm.Cond.methodLink "GateGrammarLaw" (90 : Nat) ({ cls := "GateGrammar", name := "verbOf", desc := "(II)I" } : Jvm.MethodName)) ∈ lw_all := lw_g (lw_at lw_m8 177 rfl) rfl
theorem q1936 : (Jvm.Cond.methodLink "GateGrammarLaw" (253 : Nat) ({ cls := "GateGrammarLaw", name := "tenseOf", desc := "(LGateGrammar;II[J)I" } : Jvm.MethodName)) ∈ lw_all := lw_g (lw_at lw_m8 181 rfl) rfl
theorem q1937 : (Jvm.Cond.static ({ cls := "GateGrammarLaw", name := "tenseOf", desc := "(LGateGrammar;II[J)I" } : Jvm.MethodName)) ∈ lw_all := lw_g (lw_at lw_m8 182 rfl) rfl
theorem q1938 : (Jvm.Cond.codeWith ({ cls := "GateGrammarLaw", name := "tenseOf", desc := "(LGateGrammar;II[J)I" } : Jvm.MethodName) method_27_code (5 : Nat) (Option.some Jvm.ClassFile.FieldType.int) [((0 : Nat), (10 : Nat), (13 : Nat), (24 : Nat)), ((0 : Nat), (10 : Nat), (17 : Nat), (79 : Nat))]) ∈ lw_all := lw_g (lw_at lw_m8 183 rfl) rfl
theorem q1939 : (Jvm.Cond.methodLink "GateGrammarLaw" (93 : Nat) ({ cls := "GateGrammar", name := "tenseOf", desc := "(II)I" } : Jvm.MethodName)) ∈ lw_all := lw_g (lw_at lw_m8 184 rfl) rfl
theorem q1944 : (Jvm.Cond.methodLink "GateGrammarLaw" (256 : Nat) ({ cls := "GateGrammarLaw", name := "hasObject", desc := "(LGateGrammar;II[J)I" } : Jvm.MethodName)) ∈ lw_all := lw_g (lw_at lw_m8 189 rfl) rfl
theorem q1945 : (Jvm.Cond.static ({ cls := "GateGrammarLaw", name := "hasObject", desc := "(LGateGrammar;II[J)I" } : Jvm.MethodName)) ∈ lw_all := lw_g (lw_at lw_m8 190 rfl) rfl
theorem q1946 : (Jvm.Cond.codeWith ({ cls := "GateGrammarLaw", name := "hasObject", desc := "(LGateGrammar;II[J)I" } : Jvm.MethodName) method_28_code (5 : Nat) (Option.some Jvm.ClassFile.FieldType.int) [((0 : Nat), (17 : Nat), (20 : Nat), (24 : Nat)), ((0 : Nat), (17 : Nat), (24 : Nat), (79 : Nat))]) ∈ lw_all := lw_g (lw_at lw_m8 191 rfl) rfl
theorem q1947 : (Jvm.Cond.methodLink "GateGrammarLaw" (96 : Nat) ({ cls := "GateGrammar", name := "hasObject", desc := "(II)Z" } : Jvm.MethodName)) ∈ lw_all := lw_g (lw_at lw_m8 192 rfl) rfl
theorem q1952 : (Jvm.Cond.methodLink "GateGrammarLaw" (259 : Nat) ({ cls := "GateGrammarLaw", name := "parentOf", desc := "(LGateGrammar;II[J)I" } : Jvm.MethodName)) ∈ lw_all := lw_g (lw_at lw_m8 197 rfl) rfl
theorem q1953 : (Jvm.Cond.static ({ cls := "GateGrammarLaw", name := "parentOf", desc := "(LGateGrammar;II[J)I" } : Jvm.MethodName)) ∈ lw_all := lw_g (lw_at lw_m8 198 rfl) rfl
theorem q1954 : (Jvm.Cond.codeWith ({ cls := "GateGrammarLaw", name := "parentOf", desc := "(LGateGrammar;II[J)I" } : Jvm.MethodName) method_29_code (5 : Nat) (Option.some Jvm.ClassFile.FieldType.int) [((0 : Nat), (10 : Nat), (13 : Nat), (24 : Nat)), ((0 : Nat), (10 : Nat), (17 : Nat), (79 : Nat))]) ∈ lw_all := lw_g (lw_at lw_m8 199 rfl) rfl
theorem q1955 : (Jvm.Cond.methodLink "GateGrammarLaw" (100 : Nat) ({ cls := "GateGrammar", name := "parentOf", desc := "(II)I" } : Jvm.MethodName)) ∈ lw_all := lw_g (lw_at lw_m8 200 rfl) rfl
theorem q1959 : (Jvm.Cond.methodLink "GateGrammarLaw" (262 : Nat) ({ cls := "GateGrammarLaw", name := "disagreementCount", desc := "(LGateGrammar;I[J)I" } : Jvm.MethodName)) ∈ lw_all := lw_g (lw_at lw_m8 204 rfl) rfl
theorem q1960 : (Jvm.Cond.static ({ cls := "GateGrammarLaw", name := "disagreementCount", desc := "(LGateGrammar;I[J)I" } : Jvm.MethodName)) ∈ lw_all := lw_g (lw_at lw_m8 205 rfl) rfl
theorem q1961 : (Jvm.Cond.codeWith ({ cls := "GateGrammarLaw", name := "disagreementCount", desc := "(LGateGrammar;I[J)I" } : Jvm.MethodName) method_30_code (4 : Nat) (Option.some Jvm.ClassFile.FieldType.int) [((0 : Nat), (9 : Nat), (12 : Nat), (24 : Nat)), ((0 : Nat), (9 : Nat), (15 : Nat), (79 : Nat))]) ∈ lw_all := lw_g (lw_at lw_m8 206 rfl) rfl
theorem q1962 : (Jvm.Cond.methodLink "GateGrammarLaw" (103 : Nat) ({ cls := "GateGrammar", name := "disagreementCount", desc := "(I)I" } : Jvm.MethodName)) ∈ lw_all := lw_g (lw_at lw_m8 207 rfl) rfl
theorem q1963 : (Jvm.Cond.methodLink "GateGrammarLaw" (265 : Nat) ({ cls := "GateGrammarLaw", name := "disagreementCountByLoop", desc := "(LGateGrammar;I[J)I" } : Jvm.MethodName)) ∈ lw_all := lw_g (lw_at lw_m8 208 rfl) rfl
theorem q1964 : (Jvm.Cond.static ({ cls := "GateGrammarLaw", name := "disagreementCountByLoop", desc := "(LGateGrammar;I[J)I" } : Jvm.MethodName)) ∈ lw_all := lw_g (lw_at lw_m8 209 rfl) rfl
theorem q1965 : (Jvm.Cond.codeWith ({ cls := "GateGrammarLaw", name := "disagreementCountByLoop", desc := "(LGateGrammar;I[J)I" } : Jvm.MethodName) method_31_code (4 : Nat) (Option.some Jvm.ClassFile.FieldType.int) [((0 : Nat), (9 : Nat), (12 : Nat), (24 : Nat)), ((0 : Nat), (9 : Nat), (15 : Nat), (79 : Nat))]) ∈ lw_all := lw_g (lw_at lw_m8 210 rfl) rfl
theorem q1966 : (Jvm.Cond.methodLink "GateGrammarLaw" (106 : Nat) ({ cls := "GateGrammar", name := "disagreementCountByLoop", desc := "(I)I" } : Jvm.MethodName)) ∈ lw_all := lw_g (lw_at lw_m8 211 rfl) rfl
theorem q1967 : (Jvm.Cond.methodLink "GateGrammarLaw" (268 : Nat) ({ cls := "GateGrammarLaw", name := "firstDisagreement", desc := "(LGateGrammar;I[J)I" } : Jvm.MethodName)) ∈ lw_all := lw_g (lw_at lw_m8 212 rfl) rfl
theorem q1968 : (Jvm.Cond.static ({ cls := "GateGrammarLaw", name := "firstDisagreement", desc := "(LGateGrammar;I[J)I" } : Jvm.MethodName)) ∈ lw_all := lw_g (lw_at lw_m8 213 rfl) rfl
theorem q1969 : (Jvm.Cond.codeWith ({ cls := "GateGrammarLaw", name := "firstDisagreement", desc := "(LGateGrammar;I[J)I" } : Jvm.MethodName) method_32_code (4 : Nat) (Option.some Jvm.ClassFile.FieldType.int) [((0 : Nat), (9 : Nat), (12 : Nat), (24 : Nat)), ((0 : Nat), (9 : Nat), (15 : Nat), (79 : Nat))]) ∈ lw_all := lw_g (lw_at lw_m8 214 rfl) rfl
theorem q1970 : (Jvm.Cond.methodLink "GateGrammarLaw" (109 : Nat) ({ cls := "GateGrammar", name := "firstDisagreement", desc := "(I)I" } : Jvm.MethodName)) ∈ lw_all := lw_g (lw_at lw_m8 215 rfl) rfl
theorem q1974 : (Jvm.Cond.methodLink "GateGrammarLaw" (271 : Nat) ({ cls := "GateGrammarLaw", name := "isShut", desc := "(LGateGrammar;I[J)I" } : Jvm.MethodName)) ∈ lw_all := lw_g (lw_at lw_m8 219 rfl) rfl
theorem q1975 : (Jvm.Cond.static ({ cls := "GateGrammarLaw", name := "isShut", desc := "(LGateGrammar;I[J)I" } : Jvm.MethodName)) ∈ lw_all := lw_g (lw_at lw_m8 220 rfl) rfl
theorem q1976 : (Jvm.Cond.codeWith ({ cls := "GateGrammarLaw", name := "isShut", desc := "(LGateGrammar;I[J)I" } : Jvm.MethodName) method_33_code (4 : Nat) (Option.some Jvm.ClassFile.FieldType.int) [((0 : Nat), (16 : Nat), (19 : Nat), (24 : Nat))]) ∈ lw_all := lw_g (lw_at lw_m8 221 rfl) rfl
theorem q1977 : (Jvm.Cond.methodLink "GateGrammarLaw" (112 : Nat) ({ cls := "GateGrammar", name := "isShut", desc := "(I)Z" } : Jvm.MethodName)) ∈ lw_all := lw_g (lw_at lw_m8 222 rfl) rfl
theorem q1981 : (Jvm.Cond.methodLink "GateGrammarLaw" (278 : Nat) ({ cls := "GateGrammarLaw", name := "worstGate", desc := "(LGateGrammar;[J)I" } : Jvm.MethodName)) ∈ lw_all := lw_g (lw_at lw_m8 226 rfl) rfl
theorem q1982 : (Jvm.Cond.static ({ cls := "GateGrammarLaw", name := "worstGate", desc := "(LGateGrammar;[J)I" } : Jvm.MethodName)) ∈ lw_all := lw_g (lw_at lw_m8 227 rfl) rfl
theorem q1983 : (Jvm.Cond.codeWith ({ cls := "GateGrammarLaw", name := "worstGate", desc := "(LGateGrammar;[J)I" } : Jvm.MethodName) method_34_code (3 : Nat) (Option.some Jvm.ClassFile.FieldType.int) [((0 : Nat), (8 : Nat), (11 : Nat), (79 : Nat))]) ∈ lw_all := lw_g (lw_at lw_m8 228 rfl) rfl
theorem q1984 : (Jvm.Cond.methodLink "GateGrammarLaw" (116 : Nat) ({ cls := "GateGrammar", name := "worstGate", desc := "()I" } : Jvm.MethodName)) ∈ lw_all := lw_g (lw_at lw_m8 229 rfl) rfl
theorem q2037 : (Jvm.Cond.methodLink "GateGrammarLaw" (282 : Nat) ({ cls := "GateGrammarLaw", name := "walk", desc := "(LGateGrammar;I[J)I" } : Jvm.MethodName)) ∈ lw_all := lw_g (lw_at lw_m9 42 rfl) rfl
theorem q2038 : (Jvm.Cond.static ({ cls := "GateGrammarLaw", name := "walk", desc := "(LGateGrammar;I[J)I" } : Jvm.MethodName)) ∈ lw_all := lw_g (lw_at lw_m9 43 rfl) rfl
theorem q2039 : (Jvm.Cond.codeWith ({ cls := "GateGrammarLaw", name := "walk", desc := "(LGateGrammar;I[J)I" } : Jvm.MethodName) method_35_code (4 : Nat) (Option.some Jvm.ClassFile.FieldType.int) [((0 : Nat), (9 : Nat), (12 : Nat), (24 : Nat)), ((0 : Nat), (9 : Nat), (15 : Nat), (15 : Nat))]) ∈ lw_all := lw_g (lw_at lw_m9 44 rfl) rfl
theorem q2040 : (Jvm.Cond.methodLink "GateGrammarLaw" (120 : Nat) ({ cls := "GateGrammar", name := "walk", desc := "(I)I" } : Jvm.MethodName)) ∈ lw_all := lw_g (lw_at lw_m9 45 rfl) rfl
theorem q2048 : (Jvm.Cond.methodLink "GateGrammarLaw" (285 : Nat) ({ cls := "GateGrammarLaw", name := "walkCount", desc := "(LGateGrammar;I[J)I" } : Jvm.MethodName)) ∈ lw_all := lw_g (lw_at lw_m9 53 rfl) rfl
theorem q2049 : (Jvm.Cond.static ({ cls := "GateGrammarLaw", name := "walkCount", desc := "(LGateGrammar;I[J)I" } : Jvm.MethodName)) ∈ lw_all := lw_g (lw_at lw_m9 54 rfl) rfl
theorem q2050 : (Jvm.Cond.codeWith ({ cls := "GateGrammarLaw", name := "walkCount", desc := "(LGateGrammar;I[J)I" } : Jvm.MethodName) method_36_code (4 : Nat) (Option.some Jvm.ClassFile.FieldType.int) [((0 : Nat), (9 : Nat), (12 : Nat), (24 : Nat))]) ∈ lw_all := lw_g (lw_at lw_m9 55 rfl) rfl
theorem q2051 : (Jvm.Cond.methodLink "GateGrammarLaw" (123 : Nat) ({ cls := "GateGrammar", name := "walkCount", desc := "(I)I" } : Jvm.MethodName)) ∈ lw_all := lw_g (lw_at lw_m9 56 rfl) rfl
theorem q2055 : (Jvm.Cond.methodLink "GateGrammarLaw" (288 : Nat) ({ cls := "GateGrammarLaw", name := "gateAtRank", desc := "(LGateGrammar;I[J)I" } : Jvm.MethodName)) ∈ lw_all := lw_g (lw_at lw_m9 60 rfl) rfl
theorem q2056 : (Jvm.Cond.static ({ cls := "GateGrammarLaw", name := "gateAtRank", desc := "(LGateGrammar;I[J)I" } : Jvm.MethodName)) ∈ lw_all := lw_g (lw_at lw_m9 61 rfl) rfl
theorem q2057 : (Jvm.Cond.codeWith ({ cls := "GateGrammarLaw", name := "gateAtRank", desc := "(LGateGrammar;I[J)I" } : Jvm.MethodName) method_37_code (4 : Nat) (Option.some Jvm.ClassFile.FieldType.int) [((0 : Nat), (9 : Nat), (12 : Nat), (24 : Nat))]) ∈ lw_all := lw_g (lw_at lw_m9 62 rfl) rfl
theorem q2058 : (Jvm.Cond.methodLink "GateGrammarLaw" (126 : Nat) ({ cls := "GateGrammar", name := "gateAtRank", desc := "(I)I" } : Jvm.MethodName)) ∈ lw_all := lw_g (lw_at lw_m9 63 rfl) rfl
theorem q2072 : (Jvm.Cond.methodLink "GateGrammarLaw" (291 : Nat) ({ cls := "GateGrammarLaw", name := "append", desc := "(LGateGrammar;C[J)I" } : Jvm.MethodName)) ∈ lw_all := lw_g (lw_at lw_m9 77 rfl) rfl
theorem q2073 : (Jvm.Cond.static ({ cls := "GateGrammarLaw", name := "append", desc := "(LGateGrammar;C[J)I" } : Jvm.MethodName)) ∈ lw_all := lw_g (lw_at lw_m9 78 rfl) rfl
theorem q2074 : (Jvm.Cond.codeWith ({ cls := "GateGrammarLaw", name := "append", desc := "(LGateGrammar;C[J)I" } : Jvm.MethodName) method_38_code (4 : Nat) (Option.some Jvm.ClassFile.FieldType.int) [((0 : Nat), (9 : Nat), (12 : Nat), (13 : Nat)), ((0 : Nat), (9 : Nat), (15 : Nat), (15 : Nat))]) ∈ lw_all := lw_g (lw_at lw_m9 79 rfl) rfl
theorem q2075 : (Jvm.Cond.methodLink "GateGrammarLaw" (129 : Nat) ({ cls := "GateGrammar", name := "append", desc := "(C)I" } : Jvm.MethodName)) ∈ lw_all := lw_g (lw_at lw_m9 80 rfl) rfl
theorem q2094 : (Jvm.Cond.methodLink "GateGrammarLaw" (295 : Nat) ({ cls := "GateGrammarLaw", name := "run", desc := "(LGateGrammar;[J)I" } : Jvm.MethodName)) ∈ lw_all := lw_g (lw_at lw_m9 99 rfl) rfl
theorem q2095 : (Jvm.Cond.static ({ cls := "GateGrammarLaw", name := "run", desc := "(LGateGrammar;[J)I" } : Jvm.MethodName)) ∈ lw_all := lw_g (lw_at lw_m9 100 rfl) rfl
theorem q2096 : (Jvm.Cond.codeWith ({ cls := "GateGrammarLaw", name := "run", desc := "(LGateGrammar;[J)I" } : Jvm.MethodName) method_39_code (3 : Nat) (Option.some Jvm.ClassFile.FieldType.int) [((0 : Nat), (8 : Nat), (11 : Nat), (13 : Nat)), ((0 : Nat), (8 : Nat), (14 : Nat), (15 : Nat))]) ∈ lw_all := lw_g (lw_at lw_m9 101 rfl) rfl
theorem q2097 : (Jvm.Cond.methodLink "GateGrammarLaw" (133 : Nat) ({ cls := "GateGrammar", name := "run", desc := "()I" } : Jvm.MethodName)) ∈ lw_all := lw_g (lw_at lw_m9 102 rfl) rfl
theorem q2402 : (Jvm.Cond.methodLink "GateGrammarLaw" (298 : Nat) ({ cls := "GateGrammarLaw", name := "errorPosition", desc := "(LGateGrammar;[J)I" } : Jvm.MethodName)) ∈ lw_all := lw_g (lw_at lw_m10 167 rfl) rfl
theorem q2403 : (Jvm.Cond.static ({ cls := "GateGrammarLaw", name := "errorPosition", desc := "(LGateGrammar;[J)I" } : Jvm.MethodName)) ∈ lw_all := lw_g (lw_at lw_m10 168 rfl) rfl
theorem q2404 : (Jvm.Cond.codeWith ({ cls := "GateGrammarLaw", name := "errorPosition", desc := "(LGateGrammar;[J)I" } : Jvm.MethodName) method_40_code (3 : Nat) (Option.some Jvm.ClassFile.FieldType.int) [((0 : Nat), (8 : Nat), (11 : Nat), (79 : Nat))]) ∈ lw_all := lw_g (lw_at lw_m10 169 rfl) rfl
theorem q2405 : (Jvm.Cond.methodLink "GateGrammarLaw" (136 : Nat) ({ cls := "GateGrammar", name := "errorPosition", desc := "()I" } : Jvm.MethodName)) ∈ lw_all := lw_g (lw_at lw_m10 170 rfl) rfl
theorem q2409 : (Jvm.Cond.methodLink "GateGrammarLaw" (301 : Nat) ({ cls := "GateGrammarLaw", name := "failedCommand", desc := "(LGateGrammar;[J)I" } : Jvm.MethodName)) ∈ lw_all := lw_g (lw_at lw_m10 174 rfl) rfl
theorem q2410 : (Jvm.Cond.static ({ cls := "GateGrammarLaw", name := "failedCommand", desc := "(LGateGrammar;[J)I" } : Jvm.MethodName)) ∈ lw_all := lw_g (lw_at lw_m10 175 rfl) rfl
theorem q2411 : (Jvm.Cond.codeWith ({ cls := "GateGrammarLaw", name := "failedCommand", desc := "(LGateGrammar;[J)I" } : Jvm.MethodName) method_41_code (3 : Nat) (Option.some Jvm.ClassFile.FieldType.int) [((0 : Nat), (8 : Nat), (11 : Nat), (79 : Nat))]) ∈ lw_all := lw_g (lw_at lw_m10 176 rfl) rfl
theorem q2412 : (Jvm.Cond.methodLink "GateGrammarLaw" (139 : Nat) ({ cls := "GateGrammar", name := "failedCommand", desc := "()I" } : Jvm.MethodName)) ∈ lw_all := lw_g (lw_at lw_m10 177 rfl) rfl
theorem q2416 : (Jvm.Cond.methodLink "GateGrammarLaw" (304 : Nat) ({ cls := "GateGrammarLaw", name := "describe", desc := "(LGateGrammar;I[J)I" } : Jvm.MethodName)) ∈ lw_all := lw_g (lw_at lw_m10 181 rfl) rfl
theorem q2417 : (Jvm.Cond.static ({ cls := "GateGrammarLaw", name := "describe", desc := "(LGateGrammar;I[J)I" } : Jvm.MethodName)) ∈ lw_all := lw_g (lw_at lw_m10 182 rfl) rfl
theorem q2418 : (Jvm.Cond.codeWith ({ cls := "GateGrammarLaw", name := "describe", desc := "(LGateGrammar;I[J)I" } : Jvm.MethodName) method_42_code (4 : Nat) (Option.some Jvm.ClassFile.FieldType.int) [((0 : Nat), (9 : Nat), (12 : Nat), (24 : Nat))]) ∈ lw_all := lw_g (lw_at lw_m10 183 rfl) rfl
theorem q2419 : (Jvm.Cond.methodLink "GateGrammarLaw" (142 : Nat) ({ cls := "GateGrammar", name := "describe", desc := "(I)I" } : Jvm.MethodName)) ∈ lw_all := lw_g (lw_at lw_m10 184 rfl) rfl
theorem q2454 : (Jvm.Cond.methodLink "GateGrammarLaw" (307 : Nat) ({ cls := "GateGrammarLaw", name := "lineAt", desc := "(LGateGrammar;I[J)I" } : Jvm.MethodName)) ∈ lw_all := lw_g (lw_at lw_m10 219 rfl) rfl
theorem q2455 : (Jvm.Cond.static ({ cls := "GateGrammarLaw", name := "lineAt", desc := "(LGateGrammar;I[J)I" } : Jvm.MethodName)) ∈ lw_all := lw_g (lw_at lw_m10 220 rfl) rfl
theorem q2456 : (Jvm.Cond.codeWith ({ cls := "GateGrammarLaw", name := "lineAt", desc := "(LGateGrammar;I[J)I" } : Jvm.MethodName) method_43_code (4 : Nat) (Option.some Jvm.ClassFile.FieldType.int) [((0 : Nat), (9 : Nat), (12 : Nat), (24 : Nat))]) ∈ lw_all := lw_g (lw_at lw_m10 221 rfl) rfl
theorem q2457 : (Jvm.Cond.methodLink "GateGrammarLaw" (145 : Nat) ({ cls := "GateGrammar", name := "lineAt", desc := "(I)C" } : Jvm.MethodName)) ∈ lw_all := lw_g (lw_at lw_m10 222 rfl) rfl
theorem q2462 : (Jvm.Cond.methodLink "GateGrammarLaw" (315 : Nat) ({ cls := "GateGrammarLaw", name := "nounShare", desc := "(LGateGrammar;I[D)I" } : Jvm.MethodName)) ∈ lw_all := lw_g (lw_at lw_m10 227 rfl) rfl
theorem q2463 : (Jvm.Cond.static ({ cls := "GateGrammarLaw", name := "nounShare", desc := "(LGateGrammar;I[D)I" } : Jvm.MethodName)) ∈ lw_all := lw_g (lw_at lw_m10 228 rfl) rfl
theorem q2464 : (Jvm.Cond.codeWith ({ cls := "GateGrammarLaw", name := "nounShare", desc := "(LGateGrammar;I[D)I" } : Jvm.MethodName) method_44_code (4 : Nat) (Option.some Jvm.ClassFile.FieldType.int) [((0 : Nat), (9 : Nat), (12 : Nat), (24 : Nat)), ((0 : Nat), (9 : Nat), (15 : Nat), (153 : Nat))]) ∈ lw_all := lw_g (lw_at lw_m10 229 rfl) rfl
theorem q2465 : (Jvm.Cond.classLink "GateGrammarLaw" (153 : Nat) "java/lang/ArithmeticException") ∈ lw_all := lw_g (lw_at lw_m10 230 rfl) rfl
theorem q2479 : (Jvm.Cond.methodLink "GateGrammarLaw" (149 : Nat) ({ cls := "GateGrammar", name := "nounShare", desc := "(I)F" } : Jvm.MethodName)) ∈ lw_all := lw_g (lw_at lw_m11 4 rfl) rfl
theorem q2488 : (Jvm.Cond.methodLink "GateGrammarLaw" (324 : Nat) ({ cls := "GateGrammarLaw", name := "undo", desc := "(LGateGrammar;[J)I" } : Jvm.MethodName)) ∈ lw_all := lw_g (lw_at lw_m11 13 rfl) rfl
theorem q2489 : (Jvm.Cond.static ({ cls := "GateGrammarLaw", name := "undo", desc := "(LGateGrammar;[J)I" } : Jvm.MethodName)) ∈ lw_all := lw_g (lw_at lw_m11 14 rfl) rfl
theorem q2490 : (Jvm.Cond.codeWith ({ cls := "GateGrammarLaw", name := "undo", desc := "(LGateGrammar;[J)I" } : Jvm.MethodName) method_45_code (3 : Nat) (Option.some Jvm.ClassFile.FieldType.int) [((0 : Nat), (8 : Nat), (11 : Nat), (15 : Nat))]) ∈ lw_all := lw_g (lw_at lw_m11 15 rfl) rfl
theorem q2491 : (Jvm.Cond.methodLink "GateGrammarLaw" (155 : Nat) ({ cls := "GateGrammar", name := "undo", desc := "()I" } : Jvm.MethodName)) ∈ lw_all := lw_g (lw_at lw_m11 16 rfl) rfl
theorem q2506 : (Jvm.Cond.methodLink "GateGrammarLaw" (331 : Nat) ({ cls := "GateGrammarLaw", name := "restore", desc := "(LGateGrammar;[J)I" } : Jvm.MethodName)) ∈ lw_all := lw_g (lw_at lw_m11 31 rfl) rfl
theorem q2507 : (Jvm.Cond.static ({ cls := "GateGrammarLaw", name := "restore", desc := "(LGateGrammar;[J)I" } : Jvm.MethodName)) ∈ lw_all := lw_g (lw_at lw_m11 32 rfl) rfl
theorem q2508 : (Jvm.Cond.codeWith ({ cls := "GateGrammarLaw", name := "restore", desc := "(LGateGrammar;[J)I" } : Jvm.MethodName) method_46_code (3 : Nat) (Option.some Jvm.ClassFile.FieldType.int) [((0 : Nat), (8 : Nat), (11 : Nat), (15 : Nat))]) ∈ lw_all := lw_g (lw_at lw_m11 33 rfl) rfl
theorem q2509 : (Jvm.Cond.methodLink "GateGrammarLaw" (158 : Nat) ({ cls := "GateGrammar", name := "restore", desc := "()I" } : Jvm.MethodName)) ∈ lw_all := lw_g (lw_at lw_m11 34 rfl) rfl
theorem q2524 : (Jvm.Cond.classLink "GateGrammarLaw" (162 : Nat) "GateGrammarModel") ∈ lw_all := lw_g (lw_at lw_m11 49 rfl) rfl
theorem q2526 : (Jvm.Cond.methodLink "GateGrammarLaw" (164 : Nat) ({ cls := "GateGrammarModel", name := "<init>", desc := "()V" } : Jvm.MethodName)) ∈ lw_all := lw_g (lw_at lw_m11 51 rfl) rfl
theorem q2630 : (Jvm.Cond.methodLink "GateGrammarLaw" (171 : Nat) ({ cls := "GateGrammarModel", name := "thrown", desc := "()I" } : Jvm.MethodName)) ∈ lw_all := lw_g (lw_at lw_m11 155 rfl) rfl
theorem q2634 : (Jvm.Cond.methodLink "GateGrammarLaw" (170 : Nat) ({ cls := "GateGrammarModel", name := "addNoun", desc := "(I)I" } : Jvm.MethodName)) ∈ lw_all := lw_g (lw_at lw_m11 159 rfl) rfl
theorem q2665 : (Jvm.Cond.methodLink "GateGrammarLaw" (176 : Nat) ({ cls := "GateGrammarModel", name := "addVerb", desc := "(I)I" } : Jvm.MethodName)) ∈ lw_all := lw_g (lw_at lw_m11 190 rfl) rfl
theorem q2673 : (Jvm.Cond.methodLink "GateGrammarLaw" (180 : Nat) ({ cls := "GateGrammarModel", name := "setObjectCase", desc := "(II)I" } : Jvm.MethodName)) ∈ lw_all := lw_g (lw_at lw_m11 198 rfl) rfl
theorem q2681 : (Jvm.Cond.methodLink "GateGrammarLaw" (184 : Nat) ({ cls := "GateGrammarModel", name := "nounCount", desc := "()I" } : Jvm.MethodName)) ∈ lw_all := lw_g (lw_at lw_m11 206 rfl) rfl
theorem q2685 : (Jvm.Cond.methodLink "GateGrammarLaw" (188 : Nat) ({ cls := "GateGrammarModel", name := "verbCount", desc := "()I" } : Jvm.MethodName)) ∈ lw_all := lw_g (lw_at lw_m11 210 rfl) rfl
theorem q2689 : (Jvm.Cond.methodLink "GateGrammarLaw" (191 : Nat) ({ cls := "GateGrammarModel", name := "gender", desc := "(I)I" } : Jvm.MethodName)) ∈ lw_all := lw_g (lw_at lw_m11 214 rfl) rfl
theorem q2693 : (Jvm.Cond.methodLink "GateGrammarLaw" (194 : Nat) ({ cls := "GateGrammarModel", name := "objectCase", desc := "(I)I" } : Jvm.MethodName)) ∈ lw_all := lw_g (lw_at lw_m11 218 rfl) rfl
theorem q2697 : (Jvm.Cond.methodLink "GateGrammarLaw" (197 : Nat) ({ cls := "GateGrammarModel", name := "ending", desc := "(II)C" } : Jvm.MethodName)) ∈ lw_all := lw_g (lw_at lw_m11 222 rfl) rfl
theorem q2707 : (Jvm.Cond.methodLink "GateGrammarLaw" (201 : Nat) ({ cls := "GateGrammarModel", name := "appendNoun", desc := "(III)I" } : Jvm.MethodName)) ∈ lw_all := lw_g (lw_at lw_m11 232 rfl) rfl
theorem q2726 : (Jvm.Cond.methodLink "GateGrammarLaw" (204 : Nat) ({ cls := "GateGrammarModel", name := "appendVerb", desc := "(III)I" } : Jvm.MethodName)) ∈ lw_all := lw_g (lw_at lw_m12 11 rfl) rfl
theorem q2734 : (Jvm.Cond.methodLink "GateGrammarLaw" (207 : Nat) ({ cls := "GateGrammarModel", name := "appendOpen", desc := "(I)I" } : Jvm.MethodName)) ∈ lw_all := lw_g (lw_at lw_m12 19 rfl) rfl
theorem q2742 : (Jvm.Cond.methodLink "GateGrammarLaw" (210 : Nat) ({ cls := "GateGrammarModel", name := "appendClose", desc := "(I)I" } : Jvm.MethodName)) ∈ lw_all := lw_g (lw_at lw_m12 27 rfl) rfl
theorem q2746 : (Jvm.Cond.methodLink "GateGrammarLaw" (213 : Nat) ({ cls := "GateGrammarModel", name := "appendAnd", desc := "(I)I" } : Jvm.MethodName)) ∈ lw_all := lw_g (lw_at lw_m12 31 rfl) rfl
theorem q2750 : (Jvm.Cond.methodLink "GateGrammarLaw" (216 : Nat) ({ cls := "GateGrammarModel", name := "removeLast", desc := "(I)I" } : Jvm.MethodName)) ∈ lw_all := lw_g (lw_at lw_m12 35 rfl) rfl
theorem q2770 : (Jvm.Cond.methodLink "GateGrammarLaw" (219 : Nat) ({ cls := "GateGrammarModel", name := "clear", desc := "(I)I" } : Jvm.MethodName)) ∈ lw_all := lw_g (lw_at lw_m12 55 rfl) rfl
theorem q2778 : (Jvm.Cond.methodLink "GateGrammarLaw" (222 : Nat) ({ cls := "GateGrammarModel", name := "swing", desc := "(I)I" } : Jvm.MethodName)) ∈ lw_all := lw_g (lw_at lw_m12 63 rfl) rfl
theorem q2798 : (Jvm.Cond.methodLink "GateGrammarLaw" (225 : Nat) ({ cls := "GateGrammarModel", name := "tokenCount", desc := "(I)I" } : Jvm.MethodName)) ∈ lw_all := lw_g (lw_at lw_m12 83 rfl) rfl
theorem q2802 : (Jvm.Cond.methodLink "GateGrammarLaw" (228 : Nat) ({ cls := "GateGrammarModel", name := "tokenKind", desc := "(II)I" } : Jvm.MethodName)) ∈ lw_all := lw_g (lw_at lw_m12 87 rfl) rfl
theorem q2806 : (Jvm.Cond.methodLink "GateGrammarLaw" (231 : Nat) ({ cls := "GateGrammarModel", name := "syntaxError", desc := "(I)I" } : Jvm.MethodName)) ∈ lw_all := lw_g (lw_at lw_m12 91 rfl) rfl
theorem q2810 : (Jvm.Cond.methodLink "GateGrammarLaw" (234 : Nat) ({ cls := "GateGrammarModel", name := "syntaxErrorByLoop", desc := "(I)I" } : Jvm.MethodName)) ∈ lw_all := lw_g (lw_at lw_m12 95 rfl) rfl
theorem q2815 : (Jvm.Cond.methodLink "GateGrammarLaw" (237 : Nat) ({ cls := "GateGrammarModel", name := "allowedKinds", desc := "(I)I" } : Jvm.MethodName)) ∈ lw_all := lw_g (lw_at lw_m12 100 rfl) rfl
theorem q2819 : (Jvm.Cond.methodLink "GateGrammarLaw" (240 : Nat) ({ cls := "GateGrammarModel", name := "excessTokens", desc := "(I)I" } : Jvm.MethodName)) ∈ lw_all := lw_g (lw_at lw_m12 104 rfl) rfl
theorem q2823 : (Jvm.Cond.methodLink "GateGrammarLaw" (243 : Nat) ({ cls := "GateGrammarModel", name := "clauseCount", desc := "(I)I" } : Jvm.MethodName)) ∈ lw_all := lw_g (lw_at lw_m12 108 rfl) rfl
theorem q2827 : (Jvm.Cond.methodLink "GateGrammarLaw" (246 : Nat) ({ cls := "GateGrammarModel", name := "depth", desc := "(I)I" } : Jvm.MethodName)) ∈ lw_all := lw_g (lw_at lw_m12 112 rfl) rfl
theorem q2831 : (Jvm.Cond.methodLink "GateGrammarLaw" (249 : Nat) ({ cls := "GateGrammarModel", name := "subjectCount", desc := "(II)I" } : Jvm.MethodName)) ∈ lw_all := lw_g (lw_at lw_m12 116 rfl) rfl
theorem q2839 : (Jvm.Cond.methodLink "GateGrammarLaw" (252 : Nat) ({ cls := "GateGrammarModel", name := "verbOf", desc := "(II)I" } : Jvm.MethodName)) ∈ lw_all := lw_g (lw_at lw_m12 124 rfl) rfl
theorem q2843 : (Jvm.Cond.methodLink "GateGrammarLaw" (255 : Nat) ({ cls := "GateGrammarModel", name := "tenseOf", desc := "(II)I" } : Jvm.MethodName)) ∈ lw_all := lw_g (lw_at lw_m12 128 rfl) rfl
theorem q2851 : (Jvm.Cond.methodLink "GateGrammarLaw" (258 : Nat) ({ cls := "GateGrammarModel", name := "hasObject", desc := "(II)Z" } : Jvm.MethodName)) ∈ lw_all := lw_g (lw_at lw_m12 136 rfl) rfl
theorem q2855 : (Jvm.Cond.methodLink "GateGrammarLaw" (261 : Nat) ({ cls := "GateGrammarModel", name := "parentOf", desc := "(II)I" } : Jvm.MethodName)) ∈ lw_all := lw_g (lw_at lw_m12 140 rfl) rfl
theorem q2859 : (Jvm.Cond.methodLink "GateGrammarLaw" (264 : Nat) ({ cls := "GateGrammarModel", name := "disagreementCount", desc := "(I)I" } : Jvm.MethodName)) ∈ lw_all := lw_g (lw_at lw_m12 144 rfl) rfl
theorem q2875 : (Jvm.Cond.methodLink "GateGrammarLaw" (267 : Nat) ({ cls := "GateGrammarModel", name := "disagreementCountByLoop", desc := "(I)I" } : Jvm.MethodName)) ∈ lw_all := lw_g (lw_at lw_m12 160 rfl) rfl
theorem q2880 : (Jvm.Cond.methodLink "GateGrammarLaw" (270 : Nat) ({ cls := "GateGrammarModel", name := "firstDisagreement", desc := "(I)I" } : Jvm.MethodName)) ∈ lw_all := lw_g (lw_at lw_m12 165 rfl) rfl
theorem q2884 : (Jvm.Cond.methodLink "GateGrammarLaw" (273 : Nat) ({ cls := "GateGrammarModel", name := "isShut", desc := "(I)Z" } : Jvm.MethodName)) ∈ lw_all := lw_g (lw_at lw_m12 169 rfl) rfl
theorem q2892 : (Jvm.Cond.methodLink "GateGrammarLaw" (277 : Nat) ({ cls := "GateGrammarModel", name := "shutCount", desc := "()I" } : Jvm.MethodName)) ∈ lw_all := lw_g (lw_at lw_m12 177 rfl) rfl
theorem q2896 : (Jvm.Cond.methodLink "GateGrammarLaw" (281 : Nat) ({ cls := "GateGrammarModel", name := "worstGate", desc := "()I" } : Jvm.MethodName)) ∈ lw_all := lw_g (lw_at lw_m12 181 rfl) rfl
theorem q2900 : (Jvm.Cond.methodLink "GateGrammarLaw" (284 : Nat) ({ cls := "GateGrammarModel", name := "walk", desc := "(I)I" } : Jvm.MethodName)) ∈ lw_all := lw_g (lw_at lw_m12 185 rfl) rfl
theorem q2908 : (Jvm.Cond.methodLink "GateGrammarLaw" (287 : Nat) ({ cls := "GateGrammarModel", name := "walkCount", desc := "(I)I" } : Jvm.MethodName)) ∈ lw_all := lw_g (lw_at lw_m12 193 rfl) rfl
theorem q2916 : (Jvm.Cond.methodLink "GateGrammarLaw" (290 : Nat) ({ cls := "GateGrammarModel", name := "gateAtRank", desc := "(I)I" } : Jvm.MethodName)) ∈ lw_all := lw_g (lw_at lw_m12 201 rfl) rfl
theorem q2924 : (Jvm.Cond.methodLink "GateGrammarLaw" (294 : Nat) ({ cls := "GateGrammarModel", name := "append", desc := "(C)I" } : Jvm.MethodName)) ∈ lw_all := lw_g (lw_at lw_m12 209 rfl) rfl
theorem q2928 : (Jvm.Cond.methodLink "GateGrammarLaw" (297 : Nat) ({ cls := "GateGrammarModel", name := "run", desc := "()I" } : Jvm.MethodName)) ∈ lw_all := lw_g (lw_at lw_m12 213 rfl) rfl
theorem q2962 : (Jvm.Cond.methodLink "GateGrammarLaw" (300 : Nat) ({ cls := "GateGrammarModel", name := "errorPosition", desc := "()I" } : Jvm.MethodName)) ∈ lw_all := lw_g (lw_at lw_m13 7 rfl) rfl
theorem q2966 : (Jvm.Cond.methodLink "GateGrammarLaw" (303 : Nat) ({ cls := "GateGrammarModel", name := "failedCommand", desc := "()I" } : Jvm.MethodName)) ∈ lw_all := lw_g (lw_at lw_m13 11 rfl) rfl
theorem q2970 : (Jvm.Cond.methodLink "GateGrammarLaw" (306 : Nat) ({ cls := "GateGrammarModel", name := "describe", desc := "(I)I" } : Jvm.MethodName)) ∈ lw_all := lw_g (lw_at lw_m13 15 rfl) rfl
theorem q2978 : (Jvm.Cond.methodLink "GateGrammarLaw" (309 : Nat) ({ cls := "GateGrammarModel", name := "lineAt", desc := "(I)C" } : Jvm.MethodName)) ∈ lw_all := lw_g (lw_at lw_m13 23 rfl) rfl
theorem q2982 : (Jvm.Cond.methodLink "GateGrammarLaw" (314 : Nat) ({ cls := "GateGrammarModel", name := "meanTokens", desc := "()D" } : Jvm.MethodName)) ∈ lw_all := lw_g (lw_at lw_m13 27 rfl) rfl
theorem q2991 : (Jvm.Cond.methodLink "GateGrammarLaw" (318 : Nat) ({ cls := "GateGrammarModel", name := "nounShare", desc := "(I)F" } : Jvm.MethodName)) ∈ lw_all := lw_g (lw_at lw_m13 36 rfl) rfl
theorem q2995 : (Jvm.Cond.methodLink "GateGrammarLaw" (323 : Nat) ({ cls := "GateGrammarModel", name := "isConsistent", desc := "()Z" } : Jvm.MethodName)) ∈ lw_all := lw_g (lw_at lw_m13 40 rfl) rfl
theorem q2999 : (Jvm.Cond.methodLink "GateGrammarLaw" (326 : Nat) ({ cls := "GateGrammarModel", name := "undo", desc := "()I" } : Jvm.MethodName)) ∈ lw_all := lw_g (lw_at lw_m13 44 rfl) rfl
theorem q3003 : (Jvm.Cond.methodLink "GateGrammarLaw" (330 : Nat) ({ cls := "GateGrammarModel", name := "save", desc := "()I" } : Jvm.MethodName)) ∈ lw_all := lw_g (lw_at lw_m13 48 rfl) rfl
theorem q3007 : (Jvm.Cond.methodLink "GateGrammarLaw" (333 : Nat) ({ cls := "GateGrammarModel", name := "restore", desc := "()I" } : Jvm.MethodName)) ∈ lw_all := lw_g (lw_at lw_m13 52 rfl) rfl

/-! the law's own entry -/
set_option maxRecDepth 100000
abbrev cL_law : ByteArray := code
def dkwL_law_118 : List UInt8 := [132, 5, 4, 167, 244, 157, 4, 172]
abbrev dktL_law_118 : List UInt8 := dkwL_law_118 ++ []
def dkwL_law_117 : List UInt8 := [3, 172, 21, 6, 154, 0, 15, 45, 3, 47, 21, 7, 133, 148, 153, 0, 5, 3, 172, 167, 0, 3]
abbrev dktL_law_117 : List UInt8 := dkwL_law_117 ++ dktL_law_118
def dkwL_law_116 : List UInt8 := [3, 172, 43, 45, 184, 1, 75, 54, 6, 44, 182, 1, 77, 54, 7, 44, 182, 0, 171, 21, 6, 159, 0, 5]
abbrev dktL_law_116 : List UInt8 := dkwL_law_116 ++ dktL_law_117
def dkwL_law_115 : List UInt8 := [47, 21, 7, 133, 148, 153, 0, 5, 3, 172, 167, 0, 60, 43, 182, 1, 71, 44, 182, 1, 74, 159, 0, 49]
abbrev dktL_law_115 : List UInt8 := dkwL_law_115 ++ dktL_law_116
def dkwL_law_114 : List UInt8 := [44, 182, 1, 70, 54, 7, 44, 182, 0, 171, 21, 6, 159, 0, 5, 3, 172, 21, 6, 154, 0, 15, 45, 3]
abbrev dktL_law_114 : List UInt8 := dkwL_law_114 ++ dktL_law_115
def dkwL_law_113 : List UInt8 := [172, 167, 0, 117, 43, 182, 1, 63, 44, 182, 1, 67, 159, 0, 106, 3, 172, 43, 45, 184, 1, 68, 54, 6]
abbrev dktL_law_113 : List UInt8 := dkwL_law_113 ++ dktL_law_114
def dkwL_law_112 : List UInt8 := [153, 0, 25, 25, 4, 3, 49, 25, 4, 3, 49, 151, 153, 0, 11, 23, 7, 23, 7, 149, 154, 0, 5, 3]
abbrev dktL_law_112 : List UInt8 := dkwL_law_112 ++ dktL_law_113
def dkwL_law_111 : List UInt8 := [44, 182, 0, 171, 21, 6, 159, 0, 5, 3, 172, 21, 6, 154, 0, 36, 25, 4, 3, 49, 23, 7, 141, 151]
abbrev dktL_law_111 : List UInt8 := dkwL_law_111 ++ dktL_law_112
def dkwL_law_110 : List UInt8 := [21, 5, 4, 96, 46, 25, 4, 184, 1, 59, 54, 6, 44, 42, 21, 5, 4, 96, 46, 182, 1, 62, 56, 7]
abbrev dktL_law_110 : List UInt8 := dkwL_law_110 ++ dktL_law_111
def dkwL_law_109 : List UInt8 := [24, 6, 24, 6, 151, 153, 0, 11, 24, 8, 24, 8, 151, 154, 0, 5, 3, 172, 167, 0, 195, 43, 42]
abbrev dktL_law_109 : List UInt8 := dkwL_law_109 ++ dktL_law_110
def dkwL_law_108 : List UInt8 := [167, 0, 236, 43, 182, 1, 54, 57, 6, 44, 182, 1, 58, 57, 8, 24, 6, 24, 8, 151, 153, 0, 21]
abbrev dktL_law_108 : List UInt8 := dkwL_law_108 ++ dktL_law_109
def dkwL_law_107 : List UInt8 := [21, 6, 159, 0, 5, 3, 172, 21, 6, 154, 0, 15, 45, 3, 47, 21, 7, 133, 148, 153, 0, 5, 3, 172]
abbrev dktL_law_107 : List UInt8 := dkwL_law_107 ++ dktL_law_108
def dkwL_law_106 : List UInt8 := [46, 45, 184, 1, 51, 54, 6, 44, 42, 21, 5, 4, 96, 46, 182, 1, 53, 54, 7, 44, 182, 0, 171]
abbrev dktL_law_106 : List UInt8 := dkwL_law_106 ++ dktL_law_107
def dkwL_law_105 : List UInt8 := [154, 0, 15, 45, 3, 47, 21, 7, 133, 148, 153, 0, 5, 3, 172, 167, 1, 36, 43, 42, 21, 5, 4, 96]
abbrev dktL_law_105 : List UInt8 := dkwL_law_105 ++ dktL_law_106
def dkwL_law_104 : List UInt8 := [21, 5, 4, 96, 46, 182, 1, 50, 54, 7, 44, 182, 0, 171, 21, 6, 159, 0, 5, 3, 172, 21, 6]
abbrev dktL_law_104 : List UInt8 := dkwL_law_104 ++ dktL_law_105
def dkwL_law_103 : List UInt8 := [153, 0, 5, 3, 172, 167, 1, 92, 43, 42, 21, 5, 4, 96, 46, 45, 184, 1, 48, 54, 6, 44, 42]
abbrev dktL_law_103 : List UInt8 := dkwL_law_103 ++ dktL_law_104
def dkwL_law_102 : List UInt8 := [182, 0, 171, 21, 6, 159, 0, 5, 3, 172, 21, 6, 154, 0, 15, 45, 3, 47, 21, 7, 133, 148]
abbrev dktL_law_102 : List UInt8 := dkwL_law_102 ++ dktL_law_103
def dkwL_law_101 : List UInt8 := [153, 0, 5, 3, 172, 167, 1, 136, 43, 45, 184, 1, 45, 54, 6, 44, 182, 1, 47, 54, 7, 44]
abbrev dktL_law_101 : List UInt8 := dkwL_law_101 ++ dktL_law_102
def dkwL_law_100 : List UInt8 := [182, 0, 171, 21, 6, 159, 0, 5, 3, 172, 21, 6, 154, 0, 15, 45, 3, 47, 21, 7, 133, 148]
abbrev dktL_law_100 : List UInt8 := dkwL_law_100 ++ dktL_law_101
def dkwL_law_99 : List UInt8 := [153, 0, 5, 3, 172, 167, 1, 180, 43, 45, 184, 1, 42, 54, 6, 44, 182, 1, 44, 54, 7, 44]
abbrev dktL_law_99 : List UInt8 := dkwL_law_99 ++ dktL_law_100
def dkwL_law_98 : List UInt8 := [182, 0, 171, 21, 6, 159, 0, 5, 3, 172, 21, 6, 154, 0, 15, 45, 3, 47, 21, 7, 133, 148]
abbrev dktL_law_98 : List UInt8 := dkwL_law_98 ++ dktL_law_99
def dkwL_law_97 : List UInt8 := [153, 0, 5, 3, 172, 167, 1, 224, 43, 45, 184, 1, 39, 54, 6, 44, 182, 1, 41, 54, 7, 44]
abbrev dktL_law_97 : List UInt8 := dkwL_law_97 ++ dktL_law_98
def dkwL_law_96 : List UInt8 := [182, 0, 171, 21, 6, 159, 0, 5, 3, 172, 21, 6, 154, 0, 15, 45, 3, 47, 21, 7, 133, 148]
abbrev dktL_law_96 : List UInt8 := dkwL_law_96 ++ dktL_law_97
def dkwL_law_95 : List UInt8 := [46, 146, 45, 184, 1, 35, 54, 6, 44, 42, 21, 5, 4, 96, 46, 146, 182, 1, 38, 54, 7, 44]
abbrev dktL_law_95 : List UInt8 := dkwL_law_95 ++ dktL_law_96
def dkwL_law_94 : List UInt8 := [154, 0, 15, 45, 3, 47, 21, 7, 133, 148, 153, 0, 5, 3, 172, 167, 2, 26, 43, 42, 21, 5, 4, 96]
abbrev dktL_law_94 : List UInt8 := dkwL_law_94 ++ dktL_law_95
def dkwL_law_93 : List UInt8 := [21, 5, 4, 96, 46, 182, 1, 34, 54, 7, 44, 182, 0, 171, 21, 6, 159, 0, 5, 3, 172, 21, 6]
abbrev dktL_law_93 : List UInt8 := dkwL_law_93 ++ dktL_law_94
def dkwL_law_92 : List UInt8 := [153, 0, 5, 3, 172, 167, 2, 82, 43, 42, 21, 5, 4, 96, 46, 45, 184, 1, 32, 54, 6, 44, 42]
abbrev dktL_law_92 : List UInt8 := dkwL_law_92 ++ dktL_law_93
def dkwL_law_91 : List UInt8 := [182, 0, 171, 21, 6, 159, 0, 5, 3, 172, 21, 6, 154, 0, 15, 45, 3, 47, 21, 7, 133, 148]
abbrev dktL_law_91 : List UInt8 := dkwL_law_91 ++ dktL_law_92
def dkwL_law_90 : List UInt8 := [21, 5, 4, 96, 46, 45, 184, 1, 29, 54, 6, 44, 42, 21, 5, 4, 96, 46, 182, 1, 31, 54, 7, 44]
abbrev dktL_law_90 : List UInt8 := dkwL_law_90 ++ dktL_law_91
def dkwL_law_89 : List UInt8 := [172, 21, 6, 154, 0, 15, 45, 3, 47, 21, 7, 133, 148, 153, 0, 5, 3, 172, 167, 2, 138, 43, 42]
abbrev dktL_law_89 : List UInt8 := dkwL_law_89 ++ dktL_law_90
def dkwL_law_88 : List UInt8 := [54, 6, 44, 42, 21, 5, 4, 96, 46, 182, 1, 28, 54, 7, 44, 182, 0, 171, 21, 6, 159, 0, 5, 3]
abbrev dktL_law_88 : List UInt8 := dkwL_law_88 ++ dktL_law_89
def dkwL_law_87 : List UInt8 := [47, 21, 7, 133, 148, 153, 0, 5, 3, 172, 167, 2, 194, 43, 42, 21, 5, 4, 96, 46, 45, 184, 1, 26]
abbrev dktL_law_87 : List UInt8 := dkwL_law_87 ++ dktL_law_88
def dkwL_law_86 : List UInt8 := [44, 182, 1, 25, 54, 7, 44, 182, 0, 171, 21, 6, 159, 0, 5, 3, 172, 21, 6, 154, 0, 15, 45, 3]
abbrev dktL_law_86 : List UInt8 := dkwL_law_86 ++ dktL_law_87
def dkwL_law_85 : List UInt8 := [172, 167, 2, 251, 43, 182, 1, 18, 44, 182, 1, 21, 159, 2, 240, 3, 172, 43, 45, 184, 1, 22, 54, 6]
abbrev dktL_law_85 : List UInt8 := dkwL_law_85 ++ dktL_law_86
def dkwL_law_84 : List UInt8 := [172, 21, 6, 154, 0, 22, 45, 3, 47, 21, 7, 153, 0, 7, 10, 167, 0, 4, 9, 148, 153, 0, 5, 3]
abbrev dktL_law_84 : List UInt8 := dkwL_law_84 ++ dktL_law_85
def dkwL_law_83 : List UInt8 := [54, 6, 44, 42, 21, 5, 4, 96, 46, 182, 1, 17, 54, 7, 44, 182, 0, 171, 21, 6, 159, 0, 5, 3]
abbrev dktL_law_83 : List UInt8 := dkwL_law_83 ++ dktL_law_84
def dkwL_law_82 : List UInt8 := [21, 7, 133, 148, 153, 0, 5, 3, 172, 167, 3, 58, 43, 42, 21, 5, 4, 96, 46, 45, 184, 1, 15]
abbrev dktL_law_82 : List UInt8 := dkwL_law_82 ++ dktL_law_83
def dkwL_law_81 : List UInt8 := [182, 1, 14, 54, 7, 44, 182, 0, 171, 21, 6, 159, 0, 5, 3, 172, 21, 6, 154, 0, 15, 45, 3, 47]
abbrev dktL_law_81 : List UInt8 := dkwL_law_81 ++ dktL_law_82
def dkwL_law_80 : List UInt8 := [167, 3, 114, 43, 42, 21, 5, 4, 96, 46, 45, 184, 1, 12, 54, 6, 44, 42, 21, 5, 4, 96, 46]
abbrev dktL_law_80 : List UInt8 := dkwL_law_80 ++ dktL_law_81
def dkwL_law_79 : List UInt8 := [21, 6, 159, 0, 5, 3, 172, 21, 6, 154, 0, 15, 45, 3, 47, 21, 7, 133, 148, 153, 0, 5, 3, 172]
abbrev dktL_law_79 : List UInt8 := dkwL_law_79 ++ dktL_law_80
def dkwL_law_78 : List UInt8 := [46, 45, 184, 1, 9, 54, 6, 44, 42, 21, 5, 4, 96, 46, 182, 1, 11, 54, 7, 44, 182, 0, 171]
abbrev dktL_law_78 : List UInt8 := dkwL_law_78 ++ dktL_law_79
def dkwL_law_77 : List UInt8 := [154, 0, 15, 45, 3, 47, 21, 7, 133, 148, 153, 0, 5, 3, 172, 167, 3, 170, 43, 42, 21, 5, 4, 96]
abbrev dktL_law_77 : List UInt8 := dkwL_law_77 ++ dktL_law_78
def dkwL_law_76 : List UInt8 := [21, 5, 4, 96, 46, 182, 1, 8, 54, 7, 44, 182, 0, 171, 21, 6, 159, 0, 5, 3, 172, 21, 6]
abbrev dktL_law_76 : List UInt8 := dkwL_law_76 ++ dktL_law_77
def dkwL_law_75 : List UInt8 := [153, 0, 5, 3, 172, 167, 3, 226, 43, 42, 21, 5, 4, 96, 46, 45, 184, 1, 6, 54, 6, 44, 42]
abbrev dktL_law_75 : List UInt8 := dkwL_law_75 ++ dktL_law_76
def dkwL_law_74 : List UInt8 := [182, 0, 171, 21, 6, 159, 0, 5, 3, 172, 21, 6, 154, 0, 15, 45, 3, 47, 21, 7, 133, 148]
abbrev dktL_law_74 : List UInt8 := dkwL_law_74 ++ dktL_law_75
def dkwL_law_73 : List UInt8 := [184, 1, 3, 54, 6, 44, 42, 21, 5, 4, 96, 46, 42, 21, 5, 5, 96, 46, 182, 1, 5, 54, 7, 44]
abbrev dktL_law_73 : List UInt8 := dkwL_law_73 ++ dktL_law_74
def dkwL_law_72 : List UInt8 := [153, 0, 5, 3, 172, 167, 4, 38, 43, 42, 21, 5, 4, 96, 46, 42, 21, 5, 5, 96, 46, 45]
abbrev dktL_law_72 : List UInt8 := dkwL_law_72 ++ dktL_law_73
def dkwL_law_71 : List UInt8 := [159, 0, 5, 3, 172, 21, 6, 154, 0, 22, 45, 3, 47, 21, 7, 153, 0, 7, 10, 167, 0, 4, 9, 148]
abbrev dktL_law_71 : List UInt8 := dkwL_law_71 ++ dktL_law_72
def dkwL_law_70 : List UInt8 := [21, 5, 4, 96, 46, 42, 21, 5, 5, 96, 46, 182, 1, 2, 54, 7, 44, 182, 0, 171, 21, 6]
abbrev dktL_law_70 : List UInt8 := dkwL_law_70 ++ dktL_law_71
def dkwL_law_69 : List UInt8 := [167, 4, 113, 43, 42, 21, 5, 4, 96, 46, 42, 21, 5, 5, 96, 46, 45, 184, 1, 0, 54, 6, 44, 42]
abbrev dktL_law_69 : List UInt8 := dkwL_law_69 ++ dktL_law_70
def dkwL_law_68 : List UInt8 := [159, 0, 5, 3, 172, 21, 6, 154, 0, 15, 45, 3, 47, 21, 7, 133, 148, 153, 0, 5, 3, 172]
abbrev dktL_law_68 : List UInt8 := dkwL_law_68 ++ dktL_law_69
def dkwL_law_67 : List UInt8 := [21, 5, 4, 96, 46, 42, 21, 5, 5, 96, 46, 182, 0, 255, 54, 7, 44, 182, 0, 171, 21, 6]
abbrev dktL_law_67 : List UInt8 := dkwL_law_67 ++ dktL_law_68
def dkwL_law_66 : List UInt8 := [167, 4, 181, 43, 42, 21, 5, 4, 96, 46, 42, 21, 5, 5, 96, 46, 45, 184, 0, 253, 54, 6, 44, 42]
abbrev dktL_law_66 : List UInt8 := dkwL_law_66 ++ dktL_law_67
def dkwL_law_65 : List UInt8 := [159, 0, 5, 3, 172, 21, 6, 154, 0, 15, 45, 3, 47, 21, 7, 133, 148, 153, 0, 5, 3, 172]
abbrev dktL_law_65 : List UInt8 := dkwL_law_65 ++ dktL_law_66
def dkwL_law_64 : List UInt8 := [21, 5, 4, 96, 46, 42, 21, 5, 5, 96, 46, 182, 0, 252, 54, 7, 44, 182, 0, 171, 21, 6]
abbrev dktL_law_64 : List UInt8 := dkwL_law_64 ++ dktL_law_65
def dkwL_law_63 : List UInt8 := [167, 4, 249, 43, 42, 21, 5, 4, 96, 46, 42, 21, 5, 5, 96, 46, 45, 184, 0, 250, 54, 6, 44, 42]
abbrev dktL_law_63 : List UInt8 := dkwL_law_63 ++ dktL_law_64
def dkwL_law_62 : List UInt8 := [159, 0, 5, 3, 172, 21, 6, 154, 0, 15, 45, 3, 47, 21, 7, 133, 148, 153, 0, 5, 3, 172]
abbrev dktL_law_62 : List UInt8 := dkwL_law_62 ++ dktL_law_63
def dkwL_law_61 : List UInt8 := [21, 5, 4, 96, 46, 42, 21, 5, 5, 96, 46, 182, 0, 249, 54, 7, 44, 182, 0, 171, 21, 6]
abbrev dktL_law_61 : List UInt8 := dkwL_law_61 ++ dktL_law_62
def dkwL_law_60 : List UInt8 := [167, 5, 61, 43, 42, 21, 5, 4, 96, 46, 42, 21, 5, 5, 96, 46, 45, 184, 0, 247, 54, 6, 44, 42]
abbrev dktL_law_60 : List UInt8 := dkwL_law_60 ++ dktL_law_61
def dkwL_law_59 : List UInt8 := [21, 6, 159, 0, 5, 3, 172, 21, 6, 154, 0, 15, 45, 3, 47, 21, 7, 133, 148, 153, 0, 5, 3, 172]
abbrev dktL_law_59 : List UInt8 := dkwL_law_59 ++ dktL_law_60
def dkwL_law_58 : List UInt8 := [46, 45, 184, 0, 244, 54, 6, 44, 42, 21, 5, 4, 96, 46, 182, 0, 246, 54, 7, 44, 182, 0, 171]
abbrev dktL_law_58 : List UInt8 := dkwL_law_58 ++ dktL_law_59
def dkwL_law_57 : List UInt8 := [154, 0, 15, 45, 3, 47, 21, 7, 133, 148, 153, 0, 5, 3, 172, 167, 5, 117, 43, 42, 21, 5, 4, 96]
abbrev dktL_law_57 : List UInt8 := dkwL_law_57 ++ dktL_law_58
def dkwL_law_56 : List UInt8 := [21, 5, 4, 96, 46, 182, 0, 243, 54, 7, 44, 182, 0, 171, 21, 6, 159, 0, 5, 3, 172, 21, 6]
abbrev dktL_law_56 : List UInt8 := dkwL_law_56 ++ dktL_law_57
def dkwL_law_55 : List UInt8 := [153, 0, 5, 3, 172, 167, 5, 173, 43, 42, 21, 5, 4, 96, 46, 45, 184, 0, 241, 54, 6, 44, 42]
abbrev dktL_law_55 : List UInt8 := dkwL_law_55 ++ dktL_law_56
def dkwL_law_54 : List UInt8 := [182, 0, 171, 21, 6, 159, 0, 5, 3, 172, 21, 6, 154, 0, 15, 45, 3, 47, 21, 7, 133, 148]
abbrev dktL_law_54 : List UInt8 := dkwL_law_54 ++ dktL_law_55
def dkwL_law_53 : List UInt8 := [21, 5, 4, 96, 46, 45, 184, 0, 238, 54, 6, 44, 42, 21, 5, 4, 96, 46, 182, 0, 240, 54, 7, 44]
abbrev dktL_law_53 : List UInt8 := dkwL_law_53 ++ dktL_law_54
def dkwL_law_52 : List UInt8 := [172, 21, 6, 154, 0, 15, 45, 3, 47, 21, 7, 133, 148, 153, 0, 5, 3, 172, 167, 5, 229, 43, 42]
abbrev dktL_law_52 : List UInt8 := dkwL_law_52 ++ dktL_law_53
def dkwL_law_51 : List UInt8 := [54, 6, 44, 42, 21, 5, 4, 96, 46, 182, 0, 237, 54, 7, 44, 182, 0, 171, 21, 6, 159, 0, 5, 3]
abbrev dktL_law_51 : List UInt8 := dkwL_law_51 ++ dktL_law_52
def dkwL_law_50 : List UInt8 := [21, 7, 133, 148, 153, 0, 5, 3, 172, 167, 6, 29, 43, 42, 21, 5, 4, 96, 46, 45, 184, 0, 235]
abbrev dktL_law_50 : List UInt8 := dkwL_law_50 ++ dktL_law_51
def dkwL_law_49 : List UInt8 := [182, 0, 234, 54, 7, 44, 182, 0, 171, 21, 6, 159, 0, 5, 3, 172, 21, 6, 154, 0, 15, 45, 3, 47]
abbrev dktL_law_49 : List UInt8 := dkwL_law_49 ++ dktL_law_50
def dkwL_law_48 : List UInt8 := [167, 6, 85, 43, 42, 21, 5, 4, 96, 46, 45, 184, 0, 232, 54, 6, 44, 42, 21, 5, 4, 96, 46]
abbrev dktL_law_48 : List UInt8 := dkwL_law_48 ++ dktL_law_49
def dkwL_law_47 : List UInt8 := [21, 6, 159, 0, 5, 3, 172, 21, 6, 154, 0, 15, 45, 3, 47, 21, 7, 133, 148, 153, 0, 5, 3, 172]
abbrev dktL_law_47 : List UInt8 := dkwL_law_47 ++ dktL_law_48
def dkwL_law_46 : List UInt8 := [46, 45, 184, 0, 229, 54, 6, 44, 42, 21, 5, 4, 96, 46, 182, 0, 231, 54, 7, 44, 182, 0, 171]
abbrev dktL_law_46 : List UInt8 := dkwL_law_46 ++ dktL_law_47
def dkwL_law_45 : List UInt8 := [154, 0, 15, 45, 3, 47, 21, 7, 133, 148, 153, 0, 5, 3, 172, 167, 6, 141, 43, 42, 21, 5, 4, 96]
abbrev dktL_law_45 : List UInt8 := dkwL_law_45 ++ dktL_law_46
def dkwL_law_44 : List UInt8 := [42, 21, 5, 5, 96, 46, 182, 0, 228, 54, 7, 44, 182, 0, 171, 21, 6, 159, 0, 5, 3, 172, 21, 6]
abbrev dktL_law_44 : List UInt8 := dkwL_law_44 ++ dktL_law_45
def dkwL_law_43 : List UInt8 := [21, 5, 4, 96, 46, 42, 21, 5, 5, 96, 46, 45, 184, 0, 226, 54, 6, 44, 42, 21, 5, 4, 96, 46]
abbrev dktL_law_43 : List UInt8 := dkwL_law_43 ++ dktL_law_44
def dkwL_law_42 : List UInt8 := [172, 21, 6, 154, 0, 15, 45, 3, 47, 21, 7, 133, 148, 153, 0, 5, 3, 172, 167, 6, 209, 43, 42]
abbrev dktL_law_42 : List UInt8 := dkwL_law_42 ++ dktL_law_43
def dkwL_law_41 : List UInt8 := [54, 6, 44, 42, 21, 5, 4, 96, 46, 182, 0, 225, 54, 7, 44, 182, 0, 171, 21, 6, 159, 0, 5, 3]
abbrev dktL_law_41 : List UInt8 := dkwL_law_41 ++ dktL_law_42
def dkwL_law_40 : List UInt8 := [21, 7, 133, 148, 153, 0, 5, 3, 172, 167, 7, 9, 43, 42, 21, 5, 4, 96, 46, 45, 184, 0, 223]
abbrev dktL_law_40 : List UInt8 := dkwL_law_40 ++ dktL_law_41
def dkwL_law_39 : List UInt8 := [182, 0, 222, 54, 7, 44, 182, 0, 171, 21, 6, 159, 0, 5, 3, 172, 21, 6, 154, 0, 15, 45, 3, 47]
abbrev dktL_law_39 : List UInt8 := dkwL_law_39 ++ dktL_law_40
def dkwL_law_38 : List UInt8 := [167, 7, 65, 43, 42, 21, 5, 4, 96, 46, 45, 184, 0, 220, 54, 6, 44, 42, 21, 5, 4, 96, 46]
abbrev dktL_law_38 : List UInt8 := dkwL_law_38 ++ dktL_law_39
def dkwL_law_37 : List UInt8 := [21, 6, 159, 0, 5, 3, 172, 21, 6, 154, 0, 15, 45, 3, 47, 21, 7, 133, 148, 153, 0, 5, 3, 172]
abbrev dktL_law_37 : List UInt8 := dkwL_law_37 ++ dktL_law_38
def dkwL_law_36 : List UInt8 := [46, 45, 184, 0, 217, 54, 6, 44, 42, 21, 5, 4, 96, 46, 182, 0, 219, 54, 7, 44, 182, 0, 171]
abbrev dktL_law_36 : List UInt8 := dkwL_law_36 ++ dktL_law_37
def dkwL_law_35 : List UInt8 := [154, 0, 15, 45, 3, 47, 21, 7, 133, 148, 153, 0, 5, 3, 172, 167, 7, 121, 43, 42, 21, 5, 4, 96]
abbrev dktL_law_35 : List UInt8 := dkwL_law_35 ++ dktL_law_36
def dkwL_law_34 : List UInt8 := [21, 5, 4, 96, 46, 182, 0, 216, 54, 7, 44, 182, 0, 171, 21, 6, 159, 0, 5, 3, 172, 21, 6]
abbrev dktL_law_34 : List UInt8 := dkwL_law_34 ++ dktL_law_35
def dkwL_law_33 : List UInt8 := [153, 0, 5, 3, 172, 167, 7, 177, 43, 42, 21, 5, 4, 96, 46, 45, 184, 0, 214, 54, 6, 44, 42]
abbrev dktL_law_33 : List UInt8 := dkwL_law_33 ++ dktL_law_34
def dkwL_law_32 : List UInt8 := [182, 0, 171, 21, 6, 159, 0, 5, 3, 172, 21, 6, 154, 0, 15, 45, 3, 47, 21, 7, 133, 148]
abbrev dktL_law_32 : List UInt8 := dkwL_law_32 ++ dktL_law_33
def dkwL_law_31 : List UInt8 := [21, 5, 4, 96, 46, 45, 184, 0, 211, 54, 6, 44, 42, 21, 5, 4, 96, 46, 182, 0, 213, 54, 7, 44]
abbrev dktL_law_31 : List UInt8 := dkwL_law_31 ++ dktL_law_32
def dkwL_law_30 : List UInt8 := [172, 21, 6, 154, 0, 15, 45, 3, 47, 21, 7, 133, 148, 153, 0, 5, 3, 172, 167, 7, 233, 43, 42]
abbrev dktL_law_30 : List UInt8 := dkwL_law_30 ++ dktL_law_31
def dkwL_law_29 : List UInt8 := [54, 6, 44, 42, 21, 5, 4, 96, 46, 182, 0, 210, 54, 7, 44, 182, 0, 171, 21, 6, 159, 0, 5, 3]
abbrev dktL_law_29 : List UInt8 := dkwL_law_29 ++ dktL_law_30
def dkwL_law_28 : List UInt8 := [21, 7, 133, 148, 153, 0, 5, 3, 172, 167, 8, 33, 43, 42, 21, 5, 4, 96, 46, 45, 184, 0, 208]
abbrev dktL_law_28 : List UInt8 := dkwL_law_28 ++ dktL_law_29
def dkwL_law_27 : List UInt8 := [182, 0, 207, 54, 7, 44, 182, 0, 171, 21, 6, 159, 0, 5, 3, 172, 21, 6, 154, 0, 15, 45, 3, 47]
abbrev dktL_law_27 : List UInt8 := dkwL_law_27 ++ dktL_law_28
def dkwL_law_26 : List UInt8 := [167, 8, 89, 43, 42, 21, 5, 4, 96, 46, 45, 184, 0, 205, 54, 6, 44, 42, 21, 5, 4, 96, 46]
abbrev dktL_law_26 : List UInt8 := dkwL_law_26 ++ dktL_law_27
def dkwL_law_25 : List UInt8 := [21, 6, 159, 0, 5, 3, 172, 21, 6, 154, 0, 15, 45, 3, 47, 21, 7, 133, 148, 153, 0, 5, 3, 172]
abbrev dktL_law_25 : List UInt8 := dkwL_law_25 ++ dktL_law_26
def dkwL_law_24 : List UInt8 := [96, 46, 42, 21, 5, 5, 96, 46, 42, 21, 5, 6, 96, 46, 182, 0, 204, 54, 7, 44, 182, 0, 171]
abbrev dktL_law_24 : List UInt8 := dkwL_law_24 ++ dktL_law_25
def dkwL_law_23 : List UInt8 := [46, 42, 21, 5, 5, 96, 46, 42, 21, 5, 6, 96, 46, 45, 184, 0, 202, 54, 6, 44, 42, 21, 5, 4]
abbrev dktL_law_23 : List UInt8 := dkwL_law_23 ++ dktL_law_24
def dkwL_law_22 : List UInt8 := [154, 0, 15, 45, 3, 47, 21, 7, 133, 148, 153, 0, 5, 3, 172, 167, 8, 169, 43, 42, 21, 5, 4, 96]
abbrev dktL_law_22 : List UInt8 := dkwL_law_22 ++ dktL_law_23
def dkwL_law_21 : List UInt8 := [42, 21, 5, 6, 96, 46, 182, 0, 201, 54, 7, 44, 182, 0, 171, 21, 6, 159, 0, 5, 3, 172, 21, 6]
abbrev dktL_law_21 : List UInt8 := dkwL_law_21 ++ dktL_law_22
def dkwL_law_20 : List UInt8 := [21, 5, 6, 96, 46, 45, 184, 0, 198, 54, 6, 44, 42, 21, 5, 4, 96, 46, 42, 21, 5, 5, 96, 46]
abbrev dktL_law_20 : List UInt8 := dkwL_law_20 ++ dktL_law_21
def dkwL_law_19 : List UInt8 := [148, 153, 0, 5, 3, 172, 167, 8, 249, 43, 42, 21, 5, 4, 96, 46, 42, 21, 5, 5, 96, 46, 42]
abbrev dktL_law_19 : List UInt8 := dkwL_law_19 ++ dktL_law_20
def dkwL_law_18 : List UInt8 := [54, 7, 44, 182, 0, 171, 21, 6, 159, 0, 5, 3, 172, 21, 6, 154, 0, 15, 45, 3, 47, 21, 7, 133]
abbrev dktL_law_18 : List UInt8 := dkwL_law_18 ++ dktL_law_19
def dkwL_law_17 : List UInt8 := [46, 45, 184, 0, 195, 54, 6, 44, 42, 21, 5, 4, 96, 46, 42, 21, 5, 5, 96, 46, 182, 0, 197]
abbrev dktL_law_17 : List UInt8 := dkwL_law_17 ++ dktL_law_18
def dkwL_law_16 : List UInt8 := [21, 7, 133, 148, 153, 0, 5, 3, 172, 167, 9, 61, 43, 42, 21, 5, 4, 96, 46, 42, 21, 5, 5, 96]
abbrev dktL_law_16 : List UInt8 := dkwL_law_16 ++ dktL_law_17
def dkwL_law_15 : List UInt8 := [182, 0, 194, 54, 7, 44, 182, 0, 171, 21, 6, 159, 0, 5, 3, 172, 21, 6, 154, 0, 15, 45, 3, 47]
abbrev dktL_law_15 : List UInt8 := dkwL_law_15 ++ dktL_law_16
def dkwL_law_14 : List UInt8 := [167, 9, 117, 43, 42, 21, 5, 4, 96, 46, 45, 184, 0, 192, 54, 6, 44, 42, 21, 5, 4, 96, 46]
abbrev dktL_law_14 : List UInt8 := dkwL_law_14 ++ dktL_law_15
def dkwL_law_13 : List UInt8 := [21, 6, 159, 0, 5, 3, 172, 21, 6, 154, 0, 15, 45, 3, 47, 21, 7, 133, 148, 153, 0, 5, 3, 172]
abbrev dktL_law_13 : List UInt8 := dkwL_law_13 ++ dktL_law_14
def dkwL_law_12 : List UInt8 := [46, 45, 184, 0, 189, 54, 6, 44, 42, 21, 5, 4, 96, 46, 182, 0, 191, 54, 7, 44, 182, 0, 171]
abbrev dktL_law_12 : List UInt8 := dkwL_law_12 ++ dktL_law_13
def dkwL_law_11 : List UInt8 := [159, 9, 188, 3, 172, 43, 182, 0, 185, 44, 182, 0, 188, 159, 9, 175, 3, 172, 43, 42, 21, 5, 4, 96]
abbrev dktL_law_11 : List UInt8 := dkwL_law_11 ++ dktL_law_12
def dkwL_law_10 : List UInt8 := [3, 47, 21, 7, 133, 148, 153, 0, 5, 3, 172, 167, 9, 199, 43, 182, 0, 181, 44, 182, 0, 184]
abbrev dktL_law_10 : List UInt8 := dkwL_law_10 ++ dktL_law_11
def dkwL_law_9 : List UInt8 := [96, 46, 182, 0, 180, 54, 7, 44, 182, 0, 171, 21, 6, 159, 0, 5, 3, 172, 21, 6, 154, 0, 15, 45]
abbrev dktL_law_9 : List UInt8 := dkwL_law_9 ++ dktL_law_10
def dkwL_law_8 : List UInt8 := [46, 42, 21, 5, 5, 96, 46, 45, 184, 0, 177, 54, 6, 44, 42, 21, 5, 4, 96, 46, 42, 21, 5, 5]
abbrev dktL_law_8 : List UInt8 := dkwL_law_8 ++ dktL_law_9
def dkwL_law_7 : List UInt8 := [154, 0, 15, 45, 3, 47, 21, 7, 133, 148, 153, 0, 5, 3, 172, 167, 10, 11, 43, 42, 21, 5, 4, 96]
abbrev dktL_law_7 : List UInt8 := dkwL_law_7 ++ dktL_law_8
def dkwL_law_6 : List UInt8 := [21, 5, 4, 96, 46, 182, 0, 176, 54, 7, 44, 182, 0, 171, 21, 6, 159, 0, 5, 3, 172, 21, 6]
abbrev dktL_law_6 : List UInt8 := dkwL_law_6 ++ dktL_law_7
def dkwL_law_5 : List UInt8 := [148, 153, 0, 5, 3, 172, 167, 10, 67, 43, 42, 21, 5, 4, 96, 46, 45, 184, 0, 174, 54, 6, 44, 42]
abbrev dktL_law_5 : List UInt8 := dkwL_law_5 ++ dktL_law_6
def dkwL_law_4 : List UInt8 := [54, 7, 44, 182, 0, 171, 21, 6, 159, 0, 5, 3, 172, 21, 6, 154, 0, 15, 45, 3, 47, 21, 7, 133]
abbrev dktL_law_4 : List UInt8 := dkwL_law_4 ++ dktL_law_5
def dkwL_law_3 : List UInt8 := [43, 42, 21, 5, 4, 96, 46, 45, 184, 0, 165, 54, 6, 44, 42, 21, 5, 4, 96, 46, 182, 0, 170]
abbrev dktL_law_3 : List UInt8 := dkwL_law_3 ++ dktL_law_4
def dkwL_law_2 : List UInt8 := [170, 0, 0, 0, 0, 0, 11, 80, 0, 0, 0, 0, 0, 0, 0, 49, 0, 0, 0, 216, 0, 0, 1, 16, 0, 0, 1, 72, 0, 0, 1, 140, 0, 0, 1, 153, 0, 0, 1, 166, 0, 0, 1, 222, 0, 0, 2, 22, 0, 0, 2, 90, 0, 0, 2, 170, 0, 0, 2, 250, 0, 0, 3, 50, 0, 0, 3, 106, 0, 0, 3, 162, 0, 0, 3, 218, 0, 0, 4, 18, 0, 0, 4, 74, 0, 0, 4, 130, 0, 0, 4, 198, 0, 0, 4, 254, 0, 0, 5, 54, 0, 0, 5, 110, 0, 0, 5, 166, 0, 0, 5, 222, 0, 0, 6, 22, 0, 0, 6, 90, 0, 0, 6, 158, 0, 0, 6, 226, 0, 0, 7, 45, 0, 0, 7, 113, 0, 0, 7, 169, 0, 0, 7, 225, 0, 0, 8, 25, 0, 0, 8, 88, 0, 0, 8, 101, 0, 0, 8, 145, 0, 0, 8, 201, 0, 0, 9, 1, 0, 0, 9, 57, 0, 0, 9, 115, 0, 0, 9, 159, 0, 0, 9, 203, 0, 0, 9, 247, 0, 0, 10, 47, 0, 0, 10, 103, 0, 0, 10, 144, 0, 0, 10, 222, 0, 0, 10, 235, 0, 0, 11, 23, 0, 0, 11, 36]
abbrev dktL_law_2 : List UInt8 := dkwL_law_2 ++ dktL_law_3
def dkwL_law_1 : List UInt8 := [58, 4, 3, 54, 5, 21, 5, 42, 190, 7, 100, 163, 11, 96, 42, 21, 5, 46, 16, 63, 126]
abbrev dktL_law_1 : List UInt8 := dkwL_law_1 ++ dktL_law_2
def dkwL_law_0 : List UInt8 := [187, 0, 8, 89, 183, 0, 161, 76, 187, 0, 162, 89, 183, 0, 164, 77, 4, 188, 11, 78, 4, 188, 7]
abbrev dktL_law_0 : List UInt8 := dkwL_law_0 ++ dktL_law_1
theorem dksL_law_0 : cL_law.data.toList.drop 0 = dktL_law_0 := by decide +kernel
theorem dksL_law_1 : cL_law.data.toList.drop 23 = dktL_law_1 := dk_seg dksL_law_0 23 rfl rfl
theorem dksL_law_2 : cL_law.data.toList.drop 44 = dktL_law_2 := dk_seg dksL_law_1 21 rfl rfl
theorem dksL_law_3 : cL_law.data.toList.drop 260 = dktL_law_3 := dk_seg dksL_law_2 216 rfl rfl
theorem dksL_law_4 : cL_law.data.toList.drop 283 = dktL_law_4 := dk_seg dksL_law_3 23 rfl rfl
theorem dksL_law_5 : cL_law.data.toList.drop 307 = dktL_law_5 := dk_seg dksL_law_4 24 rfl rfl
theorem dksL_law_6 : cL_law.data.toList.drop 331 = dktL_law_6 := dk_seg dksL_law_5 24 rfl rfl
theorem dksL_law_7 : cL_law.data.toList.drop 354 = dktL_law_7 := dk_seg dksL_law_6 23 rfl rfl
theorem dksL_law_8 : cL_law.data.toList.drop 378 = dktL_law_8 := dk_seg dksL_law_7 24 rfl rfl
theorem dksL_law_9 : cL_law.data.toList.drop 402 = dktL_law_9 := dk_seg dksL_law_8 24 rfl rfl
theorem dksL_law_10 : cL_law.data.toList.drop 426 = dktL_law_10 := dk_seg dksL_law_9 24 rfl rfl
theorem dksL_law_11 : cL_law.data.toList.drop 448 = dktL_law_11 := dk_seg dksL_law_10 22 rfl rfl
theorem dksL_law_12 : cL_law.data.toList.drop 472 = dktL_law_12 := dk_seg dksL_law_11 24 rfl rfl
theorem dksL_law_13 : cL_law.data.toList.drop 495 = dktL_law_13 := dk_seg dksL_law_12 23 rfl rfl
theorem dksL_law_14 : cL_law.data.toList.drop 519 = dktL_law_14 := dk_seg dksL_law_13 24 rfl rfl
theorem dksL_law_15 : cL_law.data.toList.drop 542 = dktL_law_15 := dk_seg dksL_law_14 23 rfl rfl
theorem dksL_law_16 : cL_law.data.toList.drop 566 = dktL_law_16 := dk_seg dksL_law_15 24 rfl rfl
theorem dksL_law_17 : cL_law.data.toList.drop 590 = dktL_law_17 := dk_seg dksL_law_16 24 rfl rfl
theorem dksL_law_18 : cL_law.data.toList.drop 613 = dktL_law_18 := dk_seg dksL_law_17 23 rfl rfl
theorem dksL_law_19 : cL_law.data.toList.drop 637 = dktL_law_19 := dk_seg dksL_law_18 24 rfl rfl
theorem dksL_law_20 : cL_law.data.toList.drop 660 = dktL_law_20 := dk_seg dksL_law_19 23 rfl rfl
theorem dksL_law_21 : cL_law.data.toList.drop 684 = dktL_law_21 := dk_seg dksL_law_20 24 rfl rfl
theorem dksL_law_22 : cL_law.data.toList.drop 708 = dktL_law_22 := dk_seg dksL_law_21 24 rfl rfl
theorem dksL_law_23 : cL_law.data.toList.drop 732 = dktL_law_23 := dk_seg dksL_law_22 24 rfl rfl
theorem dksL_law_24 : cL_law.data.toList.drop 756 = dktL_law_24 := dk_seg dksL_law_23 24 rfl rfl
theorem dksL_law_25 : cL_law.data.toList.drop 779 = dktL_law_25 := dk_seg dksL_law_24 23 rfl rfl
theorem dksL_law_26 : cL_law.data.toList.drop 803 = dktL_law_26 := dk_seg dksL_law_25 24 rfl rfl
theorem dksL_law_27 : cL_law.data.toList.drop 826 = dktL_law_27 := dk_seg dksL_law_26 23 rfl rfl
theorem dksL_law_28 : cL_law.data.toList.drop 850 = dktL_law_28 := dk_seg dksL_law_27 24 rfl rfl
theorem dksL_law_29 : cL_law.data.toList.drop 873 = dktL_law_29 := dk_seg dksL_law_28 23 rfl rfl
theorem dksL_law_30 : cL_law.data.toList.drop 897 = dktL_law_30 := dk_seg dksL_law_29 24 rfl rfl
theorem dksL_law_31 : cL_law.data.toList.drop 920 = dktL_law_31 := dk_seg dksL_law_30 23 rfl rfl
theorem dksL_law_32 : cL_law.data.toList.drop 944 = dktL_law_32 := dk_seg dksL_law_31 24 rfl rfl
theorem dksL_law_33 : cL_law.data.toList.drop 966 = dktL_law_33 := dk_seg dksL_law_32 22 rfl rfl
theorem dksL_law_34 : cL_law.data.toList.drop 989 = dktL_law_34 := dk_seg dksL_law_33 23 rfl rfl
theorem dksL_law_35 : cL_law.data.toList.drop 1012 = dktL_law_35 := dk_seg dksL_law_34 23 rfl rfl
theorem dksL_law_36 : cL_law.data.toList.drop 1036 = dktL_law_36 := dk_seg dksL_law_35 24 rfl rfl
theorem dksL_law_37 : cL_law.data.toList.drop 1059 = dktL_law_37 := dk_seg dksL_law_36 23 rfl rfl
theorem dksL_law_38 : cL_law.data.toList.drop 1083 = dktL_law_38 := dk_seg dksL_law_37 24 rfl rfl
theorem dksL_law_39 : cL_law.data.toList.drop 1106 = dktL_law_39 := dk_seg dksL_law_38 23 rfl rfl
theorem dksL_law_40 : cL_law.data.toList.drop 1130 = dktL_law_40 := dk_seg dksL_law_39 24 rfl rfl
theorem dksL_law_41 : cL_law.data.toList.drop 1153 = dktL_law_41 := dk_seg dksL_law_40 23 rfl rfl
theorem dksL_law_42 : cL_law.data.toList.drop 1177 = dktL_law_42 := dk_seg dksL_law_41 24 rfl rfl
theorem dksL_law_43 : cL_law.data.toList.drop 1200 = dktL_law_43 := dk_seg dksL_law_42 23 rfl rfl
theorem dksL_law_44 : cL_law.data.toList.drop 1224 = dktL_law_44 := dk_seg dksL_law_43 24 rfl rfl
theorem dksL_law_45 : cL_law.data.toList.drop 1248 = dktL_law_45 := dk_seg dksL_law_44 24 rfl rfl
theorem dksL_law_46 : cL_law.data.toList.drop 1272 = dktL_law_46 := dk_seg dksL_law_45 24 rfl rfl
theorem dksL_law_47 : cL_law.data.toList.drop 1295 = dktL_law_47 := dk_seg dksL_law_46 23 rfl rfl
theorem dksL_law_48 : cL_law.data.toList.drop 1319 = dktL_law_48 := dk_seg dksL_law_47 24 rfl rfl
theorem dksL_law_49 : cL_law.data.toList.drop 1342 = dktL_law_49 := dk_seg dksL_law_48 23 rfl rfl
theorem dksL_law_50 : cL_law.data.toList.drop 1366 = dktL_law_50 := dk_seg dksL_law_49 24 rfl rfl
theorem dksL_law_51 : cL_law.data.toList.drop 1389 = dktL_law_51 := dk_seg dksL_law_50 23 rfl rfl
theorem dksL_law_52 : cL_law.data.toList.drop 1413 = dktL_law_52 := dk_seg dksL_law_51 24 rfl rfl
theorem dksL_law_53 : cL_law.data.toList.drop 1436 = dktL_law_53 := dk_seg dksL_law_52 23 rfl rfl
theorem dksL_law_54 : cL_law.data.toList.drop 1460 = dktL_law_54 := dk_seg dksL_law_53 24 rfl rfl
theorem dksL_law_55 : cL_law.data.toList.drop 1482 = dktL_law_55 := dk_seg dksL_law_54 22 rfl rfl
theorem dksL_law_56 : cL_law.data.toList.drop 1505 = dktL_law_56 := dk_seg dksL_law_55 23 rfl rfl
theorem dksL_law_57 : cL_law.data.toList.drop 1528 = dktL_law_57 := dk_seg dksL_law_56 23 rfl rfl
theorem dksL_law_58 : cL_law.data.toList.drop 1552 = dktL_law_58 := dk_seg dksL_law_57 24 rfl rfl
theorem dksL_law_59 : cL_law.data.toList.drop 1575 = dktL_law_59 := dk_seg dksL_law_58 23 rfl rfl
theorem dksL_law_60 : cL_law.data.toList.drop 1599 = dktL_law_60 := dk_seg dksL_law_59 24 rfl rfl
theorem dksL_law_61 : cL_law.data.toList.drop 1623 = dktL_law_61 := dk_seg dksL_law_60 24 rfl rfl
theorem dksL_law_62 : cL_law.data.toList.drop 1645 = dktL_law_62 := dk_seg dksL_law_61 22 rfl rfl
theorem dksL_law_63 : cL_law.data.toList.drop 1667 = dktL_law_63 := dk_seg dksL_law_62 22 rfl rfl
theorem dksL_law_64 : cL_law.data.toList.drop 1691 = dktL_law_64 := dk_seg dksL_law_63 24 rfl rfl
theorem dksL_law_65 : cL_law.data.toList.drop 1713 = dktL_law_65 := dk_seg dksL_law_64 22 rfl rfl
theorem dksL_law_66 : cL_law.data.toList.drop 1735 = dktL_law_66 := dk_seg dksL_law_65 22 rfl rfl
theorem dksL_law_67 : cL_law.data.toList.drop 1759 = dktL_law_67 := dk_seg dksL_law_66 24 rfl rfl
theorem dksL_law_68 : cL_law.data.toList.drop 1781 = dktL_law_68 := dk_seg dksL_law_67 22 rfl rfl
theorem dksL_law_69 : cL_law.data.toList.drop 1803 = dktL_law_69 := dk_seg dksL_law_68 22 rfl rfl
theorem dksL_law_70 : cL_law.data.toList.drop 1827 = dktL_law_70 := dk_seg dksL_law_69 24 rfl rfl
theorem dksL_law_71 : cL_law.data.toList.drop 1849 = dktL_law_71 := dk_seg dksL_law_70 22 rfl rfl
theorem dksL_law_72 : cL_law.data.toList.drop 1873 = dktL_law_72 := dk_seg dksL_law_71 24 rfl rfl
theorem dksL_law_73 : cL_law.data.toList.drop 1895 = dktL_law_73 := dk_seg dksL_law_72 22 rfl rfl
theorem dksL_law_74 : cL_law.data.toList.drop 1919 = dktL_law_74 := dk_seg dksL_law_73 24 rfl rfl
theorem dksL_law_75 : cL_law.data.toList.drop 1941 = dktL_law_75 := dk_seg dksL_law_74 22 rfl rfl
theorem dksL_law_76 : cL_law.data.toList.drop 1964 = dktL_law_76 := dk_seg dksL_law_75 23 rfl rfl
theorem dksL_law_77 : cL_law.data.toList.drop 1987 = dktL_law_77 := dk_seg dksL_law_76 23 rfl rfl
theorem dksL_law_78 : cL_law.data.toList.drop 2011 = dktL_law_78 := dk_seg dksL_law_77 24 rfl rfl
theorem dksL_law_79 : cL_law.data.toList.drop 2034 = dktL_law_79 := dk_seg dksL_law_78 23 rfl rfl
theorem dksL_law_80 : cL_law.data.toList.drop 2058 = dktL_law_80 := dk_seg dksL_law_79 24 rfl rfl
theorem dksL_law_81 : cL_law.data.toList.drop 2081 = dktL_law_81 := dk_seg dksL_law_80 23 rfl rfl
theorem dksL_law_82 : cL_law.data.toList.drop 2105 = dktL_law_82 := dk_seg dksL_law_81 24 rfl rfl
theorem dksL_law_83 : cL_law.data.toList.drop 2128 = dktL_law_83 := dk_seg dksL_law_82 23 rfl rfl
theorem dksL_law_84 : cL_law.data.toList.drop 2152 = dktL_law_84 := dk_seg dksL_law_83 24 rfl rfl
theorem dksL_law_85 : cL_law.data.toList.drop 2176 = dktL_law_85 := dk_seg dksL_law_84 24 rfl rfl
theorem dksL_law_86 : cL_law.data.toList.drop 2200 = dktL_law_86 := dk_seg dksL_law_85 24 rfl rfl
theorem dksL_law_87 : cL_law.data.toList.drop 2224 = dktL_law_87 := dk_seg dksL_law_86 24 rfl rfl
theorem dksL_law_88 : cL_law.data.toList.drop 2248 = dktL_law_88 := dk_seg dksL_law_87 24 rfl rfl
theorem dksL_law_89 : cL_law.data.toList.drop 2272 = dktL_law_89 := dk_seg dksL_law_88 24 rfl rfl
theorem dksL_law_90 : cL_law.data.toList.drop 2295 = dktL_law_90 := dk_seg dksL_law_89 23 rfl rfl
theorem dksL_law_91 : cL_law.data.toList.drop 2319 = dktL_law_91 := dk_seg dksL_law_90 24 rfl rfl
theorem dksL_law_92 : cL_law.data.toList.drop 2341 = dktL_law_92 := dk_seg dksL_law_91 22 rfl rfl
theorem dksL_law_93 : cL_law.data.toList.drop 2364 = dktL_law_93 := dk_seg dksL_law_92 23 rfl rfl
theorem dksL_law_94 : cL_law.data.toList.drop 2387 = dktL_law_94 := dk_seg dksL_law_93 23 rfl rfl
theorem dksL_law_95 : cL_law.data.toList.drop 2411 = dktL_law_95 := dk_seg dksL_law_94 24 rfl rfl
theorem dksL_law_96 : cL_law.data.toList.drop 2433 = dktL_law_96 := dk_seg dksL_law_95 22 rfl rfl
theorem dksL_law_97 : cL_law.data.toList.drop 2455 = dktL_law_97 := dk_seg dksL_law_96 22 rfl rfl
theorem dksL_law_98 : cL_law.data.toList.drop 2477 = dktL_law_98 := dk_seg dksL_law_97 22 rfl rfl
theorem dksL_law_99 : cL_law.data.toList.drop 2499 = dktL_law_99 := dk_seg dksL_law_98 22 rfl rfl
theorem dksL_law_100 : cL_law.data.toList.drop 2521 = dktL_law_100 := dk_seg dksL_law_99 22 rfl rfl
theorem dksL_law_101 : cL_law.data.toList.drop 2543 = dktL_law_101 := dk_seg dksL_law_100 22 rfl rfl
theorem dksL_law_102 : cL_law.data.toList.drop 2565 = dktL_law_102 := dk_seg dksL_law_101 22 rfl rfl
theorem dksL_law_103 : cL_law.data.toList.drop 2587 = dktL_law_103 := dk_seg dksL_law_102 22 rfl rfl
theorem dksL_law_104 : cL_law.data.toList.drop 2610 = dktL_law_104 := dk_seg dksL_law_103 23 rfl rfl
theorem dksL_law_105 : cL_law.data.toList.drop 2633 = dktL_law_105 := dk_seg dksL_law_104 23 rfl rfl
theorem dksL_law_106 : cL_law.data.toList.drop 2657 = dktL_law_106 := dk_seg dksL_law_105 24 rfl rfl
theorem dksL_law_107 : cL_law.data.toList.drop 2680 = dktL_law_107 := dk_seg dksL_law_106 23 rfl rfl
theorem dksL_law_108 : cL_law.data.toList.drop 2704 = dktL_law_108 := dk_seg dksL_law_107 24 rfl rfl
theorem dksL_law_109 : cL_law.data.toList.drop 2727 = dktL_law_109 := dk_seg dksL_law_108 23 rfl rfl
theorem dksL_law_110 : cL_law.data.toList.drop 2750 = dktL_law_110 := dk_seg dksL_law_109 23 rfl rfl
theorem dksL_law_111 : cL_law.data.toList.drop 2774 = dktL_law_111 := dk_seg dksL_law_110 24 rfl rfl
theorem dksL_law_112 : cL_law.data.toList.drop 2798 = dktL_law_112 := dk_seg dksL_law_111 24 rfl rfl
theorem dksL_law_113 : cL_law.data.toList.drop 2822 = dktL_law_113 := dk_seg dksL_law_112 24 rfl rfl
theorem dksL_law_114 : cL_law.data.toList.drop 2846 = dktL_law_114 := dk_seg dksL_law_113 24 rfl rfl
theorem dksL_law_115 : cL_law.data.toList.drop 2870 = dktL_law_115 := dk_seg dksL_law_114 24 rfl rfl
theorem dksL_law_116 : cL_law.data.toList.drop 2894 = dktL_law_116 := dk_seg dksL_law_115 24 rfl rfl
theorem dksL_law_117 : cL_law.data.toList.drop 2918 = dktL_law_117 := dk_seg dksL_law_116 24 rfl rfl
theorem dksL_law_118 : cL_law.data.toList.drop 2940 = dktL_law_118 := dk_seg dksL_law_117 22 rfl rfl
theorem dL_law_0 : decode cL_law 0 = .ok (.new 8, 3) := dk_187 0 8 (dk_at dksL_law_0 0 rfl rfl)
theorem dL_law_3 : decode cL_law 3 = .ok (.dup, 1) := dk_89 (dk_at dksL_law_0 3 rfl rfl)
theorem dL_law_4 : decode cL_law 4 = .ok (.invokespecial 161, 3) := dk_183 0 161 (dk_at dksL_law_0 4 rfl rfl)
theorem dL_law_7 : decode cL_law 7 = .ok (.astore_n 1, 1) := dk_76 (dk_at dksL_law_0 7 rfl rfl)
theorem dL_law_8 : decode cL_law 8 = .ok (.new 162, 3) := dk_187 0 162 (dk_at dksL_law_0 8 rfl rfl)
theorem dL_law_11 : decode cL_law 11 = .ok (.dup, 1) := dk_89 (dk_at dksL_law_0 11 rfl rfl)
theorem dL_law_12 : decode cL_law 12 = .ok (.invokespecial 164, 3) := dk_183 0 164 (dk_at dksL_law_0 12 rfl rfl)
theorem dL_law_15 : decode cL_law 15 = .ok (.astore_n 2, 1) := dk_77 (dk_at dksL_law_0 15 rfl rfl)
theorem dL_law_16 : decode cL_law 16 = .ok (.iconst 1, 1) := dk_4 (dk_at dksL_law_0 16 rfl rfl)
theorem dL_law_17 : decode cL_law 17 = .ok (.newarray .long, 2) := dk_188_11 (dk_at dksL_law_0 17 rfl rfl)
theorem dL_law_19 : decode cL_law 19 = .ok (.astore_n 3, 1) := dk_78 (dk_at dksL_law_0 19 rfl rfl)
theorem dL_law_20 : decode cL_law 20 = .ok (.iconst 1, 1) := dk_4 (dk_at dksL_law_0 20 rfl rfl)
theorem dL_law_21 : decode cL_law 21 = .ok (.newarray .double, 2) := dk_188_7 (dk_at dksL_law_0 21 rfl rfl)
theorem dL_law_23 : decode cL_law 23 = .ok (.astore 4, 2) := dk_58 4 (dk_at dksL_law_1 0 rfl rfl)
theorem dL_law_25 : decode cL_law 25 = .ok (.iconst 0, 1) := dk_3 (dk_at dksL_law_1 2 rfl rfl)
theorem dL_law_26 : decode cL_law 26 = .ok (.istore 5, 2) := dk_54 5 (dk_at dksL_law_1 3 rfl rfl)
theorem dL_law_28 : decode cL_law 28 = .ok (.iload 5, 2) := dk_21 5 (dk_at dksL_law_1 5 rfl rfl)
theorem dL_law_30 : decode cL_law 30 = .ok (.aload_n 0, 1) := dk_42 (dk_at dksL_law_1 7 rfl rfl)
theorem dL_law_31 : decode cL_law 31 = .ok (.arraylength, 1) := dk_190 (dk_at dksL_law_1 8 rfl rfl)
theorem dL_law_32 : decode cL_law 32 = .ok (.iconst 4, 1) := dk_7 (dk_at dksL_law_1 9 rfl rfl)
theorem dL_law_33 : decode cL_law 33 = .ok (.isub, 1) := dk_100 (dk_at dksL_law_1 10 rfl rfl)
theorem dL_law_34 : decode cL_law 34 = .ok (.if_icmp .gt 2912, 3) := dk_163 11 96 (dk_at dksL_law_1 11 rfl rfl)
theorem dL_law_37 : decode cL_law 37 = .ok (.aload_n 0, 1) := dk_42 (dk_at dksL_law_1 14 rfl rfl)
theorem dL_law_38 : decode cL_law 38 = .ok (.iload 5, 2) := dk_21 5 (dk_at dksL_law_1 15 rfl rfl)
theorem dL_law_40 : decode cL_law 40 = .ok (.iaload, 1) := dk_46 (dk_at dksL_law_1 17 rfl rfl)
theorem dL_law_41 : decode cL_law 41 = .ok (.bipush 63, 2) := dk_16 63 (dk_at dksL_law_1 18 rfl rfl)
theorem dL_law_43 : decode cL_law 43 = .ok (.iand, 1) := dk_126 (dk_at dksL_law_1 20 rfl rfl)
theorem dL_law_44 : decode cL_law 44 = .ok (.tableswitch 2896 0 49 #[216, 272, 328, 396, 409, 422, 478, 534, 602, 682, 762, 818, 874, 930, 986, 1042, 1098, 1154, 1222, 1278, 1334, 1390, 1446, 1502, 1558, 1626, 1694, 1762, 1837, 1905, 1961, 2017, 2073, 2136, 2149, 2193, 2249, 2305, 2361, 2419, 2463, 2507, 2551, 2607, 2663, 2704, 2782, 2795, 2839, 2852], 216) := by decide +kernel
theorem dL_law_260 : decode cL_law 260 = .ok (.aload_n 1, 1) := dk_43 (dk_at dksL_law_3 0 rfl rfl)
theorem dL_law_261 : decode cL_law 261 = .ok (.aload_n 0, 1) := dk_42 (dk_at dksL_law_3 1 rfl rfl)
theorem dL_law_262 : decode cL_law 262 = .ok (.iload 5, 2) := dk_21 5 (dk_at dksL_law_3 2 rfl rfl)
theorem dL_law_264 : decode cL_law 264 = .ok (.iconst 1, 1) := dk_4 (dk_at dksL_law_3 4 rfl rfl)
theorem dL_law_265 : decode cL_law 265 = .ok (.iadd, 1) := dk_96 (dk_at dksL_law_3 5 rfl rfl)
theorem dL_law_266 : decode cL_law 266 = .ok (.iaload, 1) := dk_46 (dk_at dksL_law_3 6 rfl rfl)
theorem dL_law_267 : decode cL_law 267 = .ok (.aload_n 3, 1) := dk_45 (dk_at dksL_law_3 7 rfl rfl)
theorem dL_law_268 : decode cL_law 268 = .ok (.invokestatic 165, 3) := dk_184 0 165 (dk_at dksL_law_3 8 rfl rfl)
theorem dL_law_271 : decode cL_law 271 = .ok (.istore 6, 2) := dk_54 6 (dk_at dksL_law_3 11 rfl rfl)
theorem dL_law_273 : decode cL_law 273 = .ok (.aload_n 2, 1) := dk_44 (dk_at dksL_law_3 13 rfl rfl)
theorem dL_law_274 : decode cL_law 274 = .ok (.aload_n 0, 1) := dk_42 (dk_at dksL_law_3 14 rfl rfl)
theorem dL_law_275 : decode cL_law 275 = .ok (.iload 5, 2) := dk_21 5 (dk_at dksL_law_3 15 rfl rfl)
theorem dL_law_277 : decode cL_law 277 = .ok (.iconst 1, 1) := dk_4 (dk_at dksL_law_3 17 rfl rfl)
theorem dL_law_278 : decode cL_law 278 = .ok (.iadd, 1) := dk_96 (dk_at dksL_law_3 18 rfl rfl)
theorem dL_law_279 : decode cL_law 279 = .ok (.iaload, 1) := dk_46 (dk_at dksL_law_3 19 rfl rfl)
theorem dL_law_280 : decode cL_law 280 = .ok (.invokevirtual 170, 3) := dk_182 0 170 (dk_at dksL_law_3 20 rfl rfl)
theorem dL_law_283 : decode cL_law 283 = .ok (.istore 7, 2) := dk_54 7 (dk_at dksL_law_4 0 rfl rfl)
theorem dL_law_285 : decode cL_law 285 = .ok (.aload_n 2, 1) := dk_44 (dk_at dksL_law_4 2 rfl rfl)
theorem dL_law_286 : decode cL_law 286 = .ok (.invokevirtual 171, 3) := dk_182 0 171 (dk_at dksL_law_4 3 rfl rfl)
theorem dL_law_289 : decode cL_law 289 = .ok (.iload 6, 2) := dk_21 6 (dk_at dksL_law_4 6 rfl rfl)
theorem dL_law_291 : decode cL_law 291 = .ok (.if_icmp .eq 5, 3) := dk_159 0 5 (dk_at dksL_law_4 8 rfl rfl)
theorem dL_law_294 : decode cL_law 294 = .ok (.iconst 0, 1) := dk_3 (dk_at dksL_law_4 11 rfl rfl)
theorem dL_law_295 : decode cL_law 295 = .ok (.ireturn, 1) := dk_172 (dk_at dksL_law_4 12 rfl rfl)
theorem dL_law_296 : decode cL_law 296 = .ok (.iload 6, 2) := dk_21 6 (dk_at dksL_law_4 13 rfl rfl)
theorem dL_law_298 : decode cL_law 298 = .ok (.ifCond .ne 15, 3) := dk_154 0 15 (dk_at dksL_law_4 15 rfl rfl)
theorem dL_law_301 : decode cL_law 301 = .ok (.aload_n 3, 1) := dk_45 (dk_at dksL_law_4 18 rfl rfl)
theorem dL_law_302 : decode cL_law 302 = .ok (.iconst 0, 1) := dk_3 (dk_at dksL_law_4 19 rfl rfl)
theorem dL_law_303 : decode cL_law 303 = .ok (.laload, 1) := dk_47 (dk_at dksL_law_4 20 rfl rfl)
theorem dL_law_304 : decode cL_law 304 = .ok (.iload 7, 2) := dk_21 7 (dk_at dksL_law_4 21 rfl rfl)
theorem dL_law_306 : decode cL_law 306 = .ok (.i2l, 1) := dk_133 (dk_at dksL_law_4 23 rfl rfl)
theorem dL_law_307 : decode cL_law 307 = .ok (.lcmp, 1) := dk_148 (dk_at dksL_law_5 0 rfl rfl)
theorem dL_law_308 : decode cL_law 308 = .ok (.ifCond .eq 5, 3) := dk_153 0 5 (dk_at dksL_law_5 1 rfl rfl)
theorem dL_law_311 : decode cL_law 311 = .ok (.iconst 0, 1) := dk_3 (dk_at dksL_law_5 4 rfl rfl)
theorem dL_law_312 : decode cL_law 312 = .ok (.ireturn, 1) := dk_172 (dk_at dksL_law_5 5 rfl rfl)
theorem dL_law_313 : decode cL_law 313 = .ok (.goto 2627, 3) := dk_167 10 67 (dk_at dksL_law_5 6 rfl rfl)
theorem dL_law_316 : decode cL_law 316 = .ok (.aload_n 1, 1) := dk_43 (dk_at dksL_law_5 9 rfl rfl)
theorem dL_law_317 : decode cL_law 317 = .ok (.aload_n 0, 1) := dk_42 (dk_at dksL_law_5 10 rfl rfl)
theorem dL_law_318 : decode cL_law 318 = .ok (.iload 5, 2) := dk_21 5 (dk_at dksL_law_5 11 rfl rfl)
theorem dL_law_320 : decode cL_law 320 = .ok (.iconst 1, 1) := dk_4 (dk_at dksL_law_5 13 rfl rfl)
theorem dL_law_321 : decode cL_law 321 = .ok (.iadd, 1) := dk_96 (dk_at dksL_law_5 14 rfl rfl)
theorem dL_law_322 : decode cL_law 322 = .ok (.iaload, 1) := dk_46 (dk_at dksL_law_5 15 rfl rfl)
theorem dL_law_323 : decode cL_law 323 = .ok (.aload_n 3, 1) := dk_45 (dk_at dksL_law_5 16 rfl rfl)
theorem dL_law_324 : decode cL_law 324 = .ok (.invokestatic 174, 3) := dk_184 0 174 (dk_at dksL_law_5 17 rfl rfl)
theorem dL_law_327 : decode cL_law 327 = .ok (.istore 6, 2) := dk_54 6 (dk_at dksL_law_5 20 rfl rfl)
theorem dL_law_329 : decode cL_law 329 = .ok (.aload_n 2, 1) := dk_44 (dk_at dksL_law_5 22 rfl rfl)
theorem dL_law_330 : decode cL_law 330 = .ok (.aload_n 0, 1) := dk_42 (dk_at dksL_law_5 23 rfl rfl)
theorem dL_law_331 : decode cL_law 331 = .ok (.iload 5, 2) := dk_21 5 (dk_at dksL_law_6 0 rfl rfl)
theorem dL_law_333 : decode cL_law 333 = .ok (.iconst 1, 1) := dk_4 (dk_at dksL_law_6 2 rfl rfl)
theorem dL_law_334 : decode cL_law 334 = .ok (.iadd, 1) := dk_96 (dk_at dksL_law_6 3 rfl rfl)
theorem dL_law_335 : decode cL_law 335 = .ok (.iaload, 1) := dk_46 (dk_at dksL_law_6 4 rfl rfl)
theorem dL_law_336 : decode cL_law 336 = .ok (.invokevirtual 176, 3) := dk_182 0 176 (dk_at dksL_law_6 5 rfl rfl)
theorem dL_law_339 : decode cL_law 339 = .ok (.istore 7, 2) := dk_54 7 (dk_at dksL_law_6 8 rfl rfl)
theorem dL_law_341 : decode cL_law 341 = .ok (.aload_n 2, 1) := dk_44 (dk_at dksL_law_6 10 rfl rfl)
theorem dL_law_342 : decode cL_law 342 = .ok (.invokevirtual 171, 3) := dk_182 0 171 (dk_at dksL_law_6 11 rfl rfl)
theorem dL_law_345 : decode cL_law 345 = .ok (.iload 6, 2) := dk_21 6 (dk_at dksL_law_6 14 rfl rfl)
theorem dL_law_347 : decode cL_law 347 = .ok (.if_icmp .eq 5, 3) := dk_159 0 5 (dk_at dksL_law_6 16 rfl rfl)
theorem dL_law_350 : decode cL_law 350 = .ok (.iconst 0, 1) := dk_3 (dk_at dksL_law_6 19 rfl rfl)
theorem dL_law_351 : decode cL_law 351 = .ok (.ireturn, 1) := dk_172 (dk_at dksL_law_6 20 rfl rfl)
theorem dL_law_352 : decode cL_law 352 = .ok (.iload 6, 2) := dk_21 6 (dk_at dksL_law_6 21 rfl rfl)
theorem dL_law_354 : decode cL_law 354 = .ok (.ifCond .ne 15, 3) := dk_154 0 15 (dk_at dksL_law_7 0 rfl rfl)
theorem dL_law_357 : decode cL_law 357 = .ok (.aload_n 3, 1) := dk_45 (dk_at dksL_law_7 3 rfl rfl)
theorem dL_law_358 : decode cL_law 358 = .ok (.iconst 0, 1) := dk_3 (dk_at dksL_law_7 4 rfl rfl)
theorem dL_law_359 : decode cL_law 359 = .ok (.laload, 1) := dk_47 (dk_at dksL_law_7 5 rfl rfl)
theorem dL_law_360 : decode cL_law 360 = .ok (.iload 7, 2) := dk_21 7 (dk_at dksL_law_7 6 rfl rfl)
theorem dL_law_362 : decode cL_law 362 = .ok (.i2l, 1) := dk_133 (dk_at dksL_law_7 8 rfl rfl)
theorem dL_law_363 : decode cL_law 363 = .ok (.lcmp, 1) := dk_148 (dk_at dksL_law_7 9 rfl rfl)
theorem dL_law_364 : decode cL_law 364 = .ok (.ifCond .eq 5, 3) := dk_153 0 5 (dk_at dksL_law_7 10 rfl rfl)
theorem dL_law_367 : decode cL_law 367 = .ok (.iconst 0, 1) := dk_3 (dk_at dksL_law_7 13 rfl rfl)
theorem dL_law_368 : decode cL_law 368 = .ok (.ireturn, 1) := dk_172 (dk_at dksL_law_7 14 rfl rfl)
theorem dL_law_369 : decode cL_law 369 = .ok (.goto 2571, 3) := dk_167 10 11 (dk_at dksL_law_7 15 rfl rfl)
theorem dL_law_372 : decode cL_law 372 = .ok (.aload_n 1, 1) := dk_43 (dk_at dksL_law_7 18 rfl rfl)
theorem dL_law_373 : decode cL_law 373 = .ok (.aload_n 0, 1) := dk_42 (dk_at dksL_law_7 19 rfl rfl)
theorem dL_law_374 : decode cL_law 374 = .ok (.iload 5, 2) := dk_21 5 (dk_at dksL_law_7 20 rfl rfl)
theorem dL_law_376 : decode cL_law 376 = .ok (.iconst 1, 1) := dk_4 (dk_at dksL_law_7 22 rfl rfl)
theorem dL_law_377 : decode cL_law 377 = .ok (.iadd, 1) := dk_96 (dk_at dksL_law_7 23 rfl rfl)
theorem dL_law_378 : decode cL_law 378 = .ok (.iaload, 1) := dk_46 (dk_at dksL_law_8 0 rfl rfl)
theorem dL_law_379 : decode cL_law 379 = .ok (.aload_n 0, 1) := dk_42 (dk_at dksL_law_8 1 rfl rfl)
theorem dL_law_380 : decode cL_law 380 = .ok (.iload 5, 2) := dk_21 5 (dk_at dksL_law_8 2 rfl rfl)
theorem dL_law_382 : decode cL_law 382 = .ok (.iconst 2, 1) := dk_5 (dk_at dksL_law_8 4 rfl rfl)
theorem dL_law_383 : decode cL_law 383 = .ok (.iadd, 1) := dk_96 (dk_at dksL_law_8 5 rfl rfl)
theorem dL_law_384 : decode cL_law 384 = .ok (.iaload, 1) := dk_46 (dk_at dksL_law_8 6 rfl rfl)
theorem dL_law_385 : decode cL_law 385 = .ok (.aload_n 3, 1) := dk_45 (dk_at dksL_law_8 7 rfl rfl)
theorem dL_law_386 : decode cL_law 386 = .ok (.invokestatic 177, 3) := dk_184 0 177 (dk_at dksL_law_8 8 rfl rfl)
theorem dL_law_389 : decode cL_law 389 = .ok (.istore 6, 2) := dk_54 6 (dk_at dksL_law_8 11 rfl rfl)
theorem dL_law_391 : decode cL_law 391 = .ok (.aload_n 2, 1) := dk_44 (dk_at dksL_law_8 13 rfl rfl)
theorem dL_law_392 : decode cL_law 392 = .ok (.aload_n 0, 1) := dk_42 (dk_at dksL_law_8 14 rfl rfl)
theorem dL_law_393 : decode cL_law 393 = .ok (.iload 5, 2) := dk_21 5 (dk_at dksL_law_8 15 rfl rfl)
theorem dL_law_395 : decode cL_law 395 = .ok (.iconst 1, 1) := dk_4 (dk_at dksL_law_8 17 rfl rfl)
theorem dL_law_396 : decode cL_law 396 = .ok (.iadd, 1) := dk_96 (dk_at dksL_law_8 18 rfl rfl)
theorem dL_law_397 : decode cL_law 397 = .ok (.iaload, 1) := dk_46 (dk_at dksL_law_8 19 rfl rfl)
theorem dL_law_398 : decode cL_law 398 = .ok (.aload_n 0, 1) := dk_42 (dk_at dksL_law_8 20 rfl rfl)
theorem dL_law_399 : decode cL_law 399 = .ok (.iload 5, 2) := dk_21 5 (dk_at dksL_law_8 21 rfl rfl)
theorem dL_law_401 : decode cL_law 401 = .ok (.iconst 2, 1) := dk_5 (dk_at dksL_law_8 23 rfl rfl)
theorem dL_law_402 : decode cL_law 402 = .ok (.iadd, 1) := dk_96 (dk_at dksL_law_9 0 rfl rfl)
theorem dL_law_403 : decode cL_law 403 = .ok (.iaload, 1) := dk_46 (dk_at dksL_law_9 1 rfl rfl)
theorem dL_law_404 : decode cL_law 404 = .ok (.invokevirtual 180, 3) := dk_182 0 180 (dk_at dksL_law_9 2 rfl rfl)
theorem dL_law_407 : decode cL_law 407 = .ok (.istore 7, 2) := dk_54 7 (dk_at dksL_law_9 5 rfl rfl)
theorem dL_law_409 : decode cL_law 409 = .ok (.aload_n 2, 1) := dk_44 (dk_at dksL_law_9 7 rfl rfl)
theorem dL_law_410 : decode cL_law 410 = .ok (.invokevirtual 171, 3) := dk_182 0 171 (dk_at dksL_law_9 8 rfl rfl)
theorem dL_law_413 : decode cL_law 413 = .ok (.iload 6, 2) := dk_21 6 (dk_at dksL_law_9 11 rfl rfl)
theorem dL_law_415 : decode cL_law 415 = .ok (.if_icmp .eq 5, 3) := dk_159 0 5 (dk_at dksL_law_9 13 rfl rfl)
theorem dL_law_418 : decode cL_law 418 = .ok (.iconst 0, 1) := dk_3 (dk_at dksL_law_9 16 rfl rfl)
theorem dL_law_419 : decode cL_law 419 = .ok (.ireturn, 1) := dk_172 (dk_at dksL_law_9 17 rfl rfl)
theorem dL_law_420 : decode cL_law 420 = .ok (.iload 6, 2) := dk_21 6 (dk_at dksL_law_9 18 rfl rfl)
theorem dL_law_422 : decode cL_law 422 = .ok (.ifCond .ne 15, 3) := dk_154 0 15 (dk_at dksL_law_9 20 rfl rfl)
theorem dL_law_425 : decode cL_law 425 = .ok (.aload_n 3, 1) := dk_45 (dk_at dksL_law_9 23 rfl rfl)
theorem dL_law_426 : decode cL_law 426 = .ok (.iconst 0, 1) := dk_3 (dk_at dksL_law_10 0 rfl rfl)
theorem dL_law_427 : decode cL_law 427 = .ok (.laload, 1) := dk_47 (dk_at dksL_law_10 1 rfl rfl)
theorem dL_law_428 : decode cL_law 428 = .ok (.iload 7, 2) := dk_21 7 (dk_at dksL_law_10 2 rfl rfl)
theorem dL_law_430 : decode cL_law 430 = .ok (.i2l, 1) := dk_133 (dk_at dksL_law_10 4 rfl rfl)
theorem dL_law_431 : decode cL_law 431 = .ok (.lcmp, 1) := dk_148 (dk_at dksL_law_10 5 rfl rfl)
theorem dL_law_432 : decode cL_law 432 = .ok (.ifCond .eq 5, 3) := dk_153 0 5 (dk_at dksL_law_10 6 rfl rfl)
theorem dL_law_435 : decode cL_law 435 = .ok (.iconst 0, 1) := dk_3 (dk_at dksL_law_10 9 rfl rfl)
theorem dL_law_436 : decode cL_law 436 = .ok (.ireturn, 1) := dk_172 (dk_at dksL_law_10 10 rfl rfl)
theorem dL_law_437 : decode cL_law 437 = .ok (.goto 2503, 3) := dk_167 9 199 (dk_at dksL_law_10 11 rfl rfl)
theorem dL_law_440 : decode cL_law 440 = .ok (.aload_n 1, 1) := dk_43 (dk_at dksL_law_10 14 rfl rfl)
theorem dL_law_441 : decode cL_law 441 = .ok (.invokevirtual 181, 3) := dk_182 0 181 (dk_at dksL_law_10 15 rfl rfl)
theorem dL_law_444 : decode cL_law 444 = .ok (.aload_n 2, 1) := dk_44 (dk_at dksL_law_10 18 rfl rfl)
theorem dL_law_445 : decode cL_law 445 = .ok (.invokevirtual 184, 3) := dk_182 0 184 (dk_at dksL_law_10 19 rfl rfl)
theorem dL_law_448 : decode cL_law 448 = .ok (.if_icmp .eq 2492, 3) := dk_159 9 188 (dk_at dksL_law_11 0 rfl rfl)
theorem dL_law_451 : decode cL_law 451 = .ok (.iconst 0, 1) := dk_3 (dk_at dksL_law_11 3 rfl rfl)
theorem dL_law_452 : decode cL_law 452 = .ok (.ireturn, 1) := dk_172 (dk_at dksL_law_11 4 rfl rfl)
theorem dL_law_453 : decode cL_law 453 = .ok (.aload_n 1, 1) := dk_43 (dk_at dksL_law_11 5 rfl rfl)
theorem dL_law_454 : decode cL_law 454 = .ok (.invokevirtual 185, 3) := dk_182 0 185 (dk_at dksL_law_11 6 rfl rfl)
theorem dL_law_457 : decode cL_law 457 = .ok (.aload_n 2, 1) := dk_44 (dk_at dksL_law_11 9 rfl rfl)
theorem dL_law_458 : decode cL_law 458 = .ok (.invokevirtual 188, 3) := dk_182 0 188 (dk_at dksL_law_11 10 rfl rfl)
theorem dL_law_461 : decode cL_law 461 = .ok (.if_icmp .eq 2479, 3) := dk_159 9 175 (dk_at dksL_law_11 13 rfl rfl)
theorem dL_law_464 : decode cL_law 464 = .ok (.iconst 0, 1) := dk_3 (dk_at dksL_law_11 16 rfl rfl)
theorem dL_law_465 : decode cL_law 465 = .ok (.ireturn, 1) := dk_172 (dk_at dksL_law_11 17 rfl rfl)
theorem dL_law_466 : decode cL_law 466 = .ok (.aload_n 1, 1) := dk_43 (dk_at dksL_law_11 18 rfl rfl)
theorem dL_law_467 : decode cL_law 467 = .ok (.aload_n 0, 1) := dk_42 (dk_at dksL_law_11 19 rfl rfl)
theorem dL_law_468 : decode cL_law 468 = .ok (.iload 5, 2) := dk_21 5 (dk_at dksL_law_11 20 rfl rfl)
theorem dL_law_470 : decode cL_law 470 = .ok (.iconst 1, 1) := dk_4 (dk_at dksL_law_11 22 rfl rfl)
theorem dL_law_471 : decode cL_law 471 = .ok (.iadd, 1) := dk_96 (dk_at dksL_law_11 23 rfl rfl)
theorem dL_law_472 : decode cL_law 472 = .ok (.iaload, 1) := dk_46 (dk_at dksL_law_12 0 rfl rfl)
theorem dL_law_473 : decode cL_law 473 = .ok (.aload_n 3, 1) := dk_45 (dk_at dksL_law_12 1 rfl rfl)
theorem dL_law_474 : decode cL_law 474 = .ok (.invokestatic 189, 3) := dk_184 0 189 (dk_at dksL_law_12 2 rfl rfl)
theorem dL_law_477 : decode cL_law 477 = .ok (.istore 6, 2) := dk_54 6 (dk_at dksL_law_12 5 rfl rfl)
theorem dL_law_479 : decode cL_law 479 = .ok (.aload_n 2, 1) := dk_44 (dk_at dksL_law_12 7 rfl rfl)
theorem dL_law_480 : decode cL_law 480 = .ok (.aload_n 0, 1) := dk_42 (dk_at dksL_law_12 8 rfl rfl)
theorem dL_law_481 : decode cL_law 481 = .ok (.iload 5, 2) := dk_21 5 (dk_at dksL_law_12 9 rfl rfl)
theorem dL_law_483 : decode cL_law 483 = .ok (.iconst 1, 1) := dk_4 (dk_at dksL_law_12 11 rfl rfl)
theorem dL_law_484 : decode cL_law 484 = .ok (.iadd, 1) := dk_96 (dk_at dksL_law_12 12 rfl rfl)
theorem dL_law_485 : decode cL_law 485 = .ok (.iaload, 1) := dk_46 (dk_at dksL_law_12 13 rfl rfl)
theorem dL_law_486 : decode cL_law 486 = .ok (.invokevirtual 191, 3) := dk_182 0 191 (dk_at dksL_law_12 14 rfl rfl)
theorem dL_law_489 : decode cL_law 489 = .ok (.istore 7, 2) := dk_54 7 (dk_at dksL_law_12 17 rfl rfl)
theorem dL_law_491 : decode cL_law 491 = .ok (.aload_n 2, 1) := dk_44 (dk_at dksL_law_12 19 rfl rfl)
theorem dL_law_492 : decode cL_law 492 = .ok (.invokevirtual 171, 3) := dk_182 0 171 (dk_at dksL_law_12 20 rfl rfl)
theorem dL_law_495 : decode cL_law 495 = .ok (.iload 6, 2) := dk_21 6 (dk_at dksL_law_13 0 rfl rfl)
theorem dL_law_497 : decode cL_law 497 = .ok (.if_icmp .eq 5, 3) := dk_159 0 5 (dk_at dksL_law_13 2 rfl rfl)
theorem dL_law_500 : decode cL_law 500 = .ok (.iconst 0, 1) := dk_3 (dk_at dksL_law_13 5 rfl rfl)
theorem dL_law_501 : decode cL_law 501 = .ok (.ireturn, 1) := dk_172 (dk_at dksL_law_13 6 rfl rfl)
theorem dL_law_502 : decode cL_law 502 = .ok (.iload 6, 2) := dk_21 6 (dk_at dksL_law_13 7 rfl rfl)
theorem dL_law_504 : decode cL_law 504 = .ok (.ifCond .ne 15, 3) := dk_154 0 15 (dk_at dksL_law_13 9 rfl rfl)
theorem dL_law_507 : decode cL_law 507 = .ok (.aload_n 3, 1) := dk_45 (dk_at dksL_law_13 12 rfl rfl)
theorem dL_law_508 : decode cL_law 508 = .ok (.iconst 0, 1) := dk_3 (dk_at dksL_law_13 13 rfl rfl)
theorem dL_law_509 : decode cL_law 509 = .ok (.laload, 1) := dk_47 (dk_at dksL_law_13 14 rfl rfl)
theorem dL_law_510 : decode cL_law 510 = .ok (.iload 7, 2) := dk_21 7 (dk_at dksL_law_13 15 rfl rfl)
theorem dL_law_512 : decode cL_law 512 = .ok (.i2l, 1) := dk_133 (dk_at dksL_law_13 17 rfl rfl)
theorem dL_law_513 : decode cL_law 513 = .ok (.lcmp, 1) := dk_148 (dk_at dksL_law_13 18 rfl rfl)
theorem dL_law_514 : decode cL_law 514 = .ok (.ifCond .eq 5, 3) := dk_153 0 5 (dk_at dksL_law_13 19 rfl rfl)
theorem dL_law_517 : decode cL_law 517 = .ok (.iconst 0, 1) := dk_3 (dk_at dksL_law_13 22 rfl rfl)
theorem dL_law_518 : decode cL_law 518 = .ok (.ireturn, 1) := dk_172 (dk_at dksL_law_13 23 rfl rfl)
theorem dL_law_519 : decode cL_law 519 = .ok (.goto 2421, 3) := dk_167 9 117 (dk_at dksL_law_14 0 rfl rfl)
theorem dL_law_522 : decode cL_law 522 = .ok (.aload_n 1, 1) := dk_43 (dk_at dksL_law_14 3 rfl rfl)
theorem dL_law_523 : decode cL_law 523 = .ok (.aload_n 0, 1) := dk_42 (dk_at dksL_law_14 4 rfl rfl)
theorem dL_law_524 : decode cL_law 524 = .ok (.iload 5, 2) := dk_21 5 (dk_at dksL_law_14 5 rfl rfl)
theorem dL_law_526 : decode cL_law 526 = .ok (.iconst 1, 1) := dk_4 (dk_at dksL_law_14 7 rfl rfl)
theorem dL_law_527 : decode cL_law 527 = .ok (.iadd, 1) := dk_96 (dk_at dksL_law_14 8 rfl rfl)
theorem dL_law_528 : decode cL_law 528 = .ok (.iaload, 1) := dk_46 (dk_at dksL_law_14 9 rfl rfl)
theorem dL_law_529 : decode cL_law 529 = .ok (.aload_n 3, 1) := dk_45 (dk_at dksL_law_14 10 rfl rfl)
theorem dL_law_530 : decode cL_law 530 = .ok (.invokestatic 192, 3) := dk_184 0 192 (dk_at dksL_law_14 11 rfl rfl)
theorem dL_law_533 : decode cL_law 533 = .ok (.istore 6, 2) := dk_54 6 (dk_at dksL_law_14 14 rfl rfl)
theorem dL_law_535 : decode cL_law 535 = .ok (.aload_n 2, 1) := dk_44 (dk_at dksL_law_14 16 rfl rfl)
theorem dL_law_536 : decode cL_law 536 = .ok (.aload_n 0, 1) := dk_42 (dk_at dksL_law_14 17 rfl rfl)
theorem dL_law_537 : decode cL_law 537 = .ok (.iload 5, 2) := dk_21 5 (dk_at dksL_law_14 18 rfl rfl)
theorem dL_law_539 : decode cL_law 539 = .ok (.iconst 1, 1) := dk_4 (dk_at dksL_law_14 20 rfl rfl)
theorem dL_law_540 : decode cL_law 540 = .ok (.iadd, 1) := dk_96 (dk_at dksL_law_14 21 rfl rfl)
theorem dL_law_541 : decode cL_law 541 = .ok (.iaload, 1) := dk_46 (dk_at dksL_law_14 22 rfl rfl)
theorem dL_law_542 : decode cL_law 542 = .ok (.invokevirtual 194, 3) := dk_182 0 194 (dk_at dksL_law_15 0 rfl rfl)
theorem dL_law_545 : decode cL_law 545 = .ok (.istore 7, 2) := dk_54 7 (dk_at dksL_law_15 3 rfl rfl)
theorem dL_law_547 : decode cL_law 547 = .ok (.aload_n 2, 1) := dk_44 (dk_at dksL_law_15 5 rfl rfl)
theorem dL_law_548 : decode cL_law 548 = .ok (.invokevirtual 171, 3) := dk_182 0 171 (dk_at dksL_law_15 6 rfl rfl)
theorem dL_law_551 : decode cL_law 551 = .ok (.iload 6, 2) := dk_21 6 (dk_at dksL_law_15 9 rfl rfl)
theorem dL_law_553 : decode cL_law 553 = .ok (.if_icmp .eq 5, 3) := dk_159 0 5 (dk_at dksL_law_15 11 rfl rfl)
theorem dL_law_556 : decode cL_law 556 = .ok (.iconst 0, 1) := dk_3 (dk_at dksL_law_15 14 rfl rfl)
theorem dL_law_557 : decode cL_law 557 = .ok (.ireturn, 1) := dk_172 (dk_at dksL_law_15 15 rfl rfl)
theorem dL_law_558 : decode cL_law 558 = .ok (.iload 6, 2) := dk_21 6 (dk_at dksL_law_15 16 rfl rfl)
theorem dL_law_560 : decode cL_law 560 = .ok (.ifCond .ne 15, 3) := dk_154 0 15 (dk_at dksL_law_15 18 rfl rfl)
theorem dL_law_563 : decode cL_law 563 = .ok (.aload_n 3, 1) := dk_45 (dk_at dksL_law_15 21 rfl rfl)
theorem dL_law_564 : decode cL_law 564 = .ok (.iconst 0, 1) := dk_3 (dk_at dksL_law_15 22 rfl rfl)
theorem dL_law_565 : decode cL_law 565 = .ok (.laload, 1) := dk_47 (dk_at dksL_law_15 23 rfl rfl)
theorem dL_law_566 : decode cL_law 566 = .ok (.iload 7, 2) := dk_21 7 (dk_at dksL_law_16 0 rfl rfl)
theorem dL_law_568 : decode cL_law 568 = .ok (.i2l, 1) := dk_133 (dk_at dksL_law_16 2 rfl rfl)
theorem dL_law_569 : decode cL_law 569 = .ok (.lcmp, 1) := dk_148 (dk_at dksL_law_16 3 rfl rfl)
theorem dL_law_570 : decode cL_law 570 = .ok (.ifCond .eq 5, 3) := dk_153 0 5 (dk_at dksL_law_16 4 rfl rfl)
theorem dL_law_573 : decode cL_law 573 = .ok (.iconst 0, 1) := dk_3 (dk_at dksL_law_16 7 rfl rfl)
theorem dL_law_574 : decode cL_law 574 = .ok (.ireturn, 1) := dk_172 (dk_at dksL_law_16 8 rfl rfl)
theorem dL_law_575 : decode cL_law 575 = .ok (.goto 2365, 3) := dk_167 9 61 (dk_at dksL_law_16 9 rfl rfl)
theorem dL_law_578 : decode cL_law 578 = .ok (.aload_n 1, 1) := dk_43 (dk_at dksL_law_16 12 rfl rfl)
theorem dL_law_579 : decode cL_law 579 = .ok (.aload_n 0, 1) := dk_42 (dk_at dksL_law_16 13 rfl rfl)
theorem dL_law_580 : decode cL_law 580 = .ok (.iload 5, 2) := dk_21 5 (dk_at dksL_law_16 14 rfl rfl)
theorem dL_law_582 : decode cL_law 582 = .ok (.iconst 1, 1) := dk_4 (dk_at dksL_law_16 16 rfl rfl)
theorem dL_law_583 : decode cL_law 583 = .ok (.iadd, 1) := dk_96 (dk_at dksL_law_16 17 rfl rfl)
theorem dL_law_584 : decode cL_law 584 = .ok (.iaload, 1) := dk_46 (dk_at dksL_law_16 18 rfl rfl)
theorem dL_law_585 : decode cL_law 585 = .ok (.aload_n 0, 1) := dk_42 (dk_at dksL_law_16 19 rfl rfl)
theorem dL_law_586 : decode cL_law 586 = .ok (.iload 5, 2) := dk_21 5 (dk_at dksL_law_16 20 rfl rfl)
theorem dL_law_588 : decode cL_law 588 = .ok (.iconst 2, 1) := dk_5 (dk_at dksL_law_16 22 rfl rfl)
theorem dL_law_589 : decode cL_law 589 = .ok (.iadd, 1) := dk_96 (dk_at dksL_law_16 23 rfl rfl)
theorem dL_law_590 : decode cL_law 590 = .ok (.iaload, 1) := dk_46 (dk_at dksL_law_17 0 rfl rfl)
theorem dL_law_591 : decode cL_law 591 = .ok (.aload_n 3, 1) := dk_45 (dk_at dksL_law_17 1 rfl rfl)
theorem dL_law_592 : decode cL_law 592 = .ok (.invokestatic 195, 3) := dk_184 0 195 (dk_at dksL_law_17 2 rfl rfl)
theorem dL_law_595 : decode cL_law 595 = .ok (.istore 6, 2) := dk_54 6 (dk_at dksL_law_17 5 rfl rfl)
theorem dL_law_597 : decode cL_law 597 = .ok (.aload_n 2, 1) := dk_44 (dk_at dksL_law_17 7 rfl rfl)
theorem dL_law_598 : decode cL_law 598 = .ok (.aload_n 0, 1) := dk_42 (dk_at dksL_law_17 8 rfl rfl)
theorem dL_law_599 : decode cL_law 599 = .ok (.iload 5, 2) := dk_21 5 (dk_at dksL_law_17 9 rfl rfl)
theorem dL_law_601 : decode cL_law 601 = .ok (.iconst 1, 1) := dk_4 (dk_at dksL_law_17 11 rfl rfl)
theorem dL_law_602 : decode cL_law 602 = .ok (.iadd, 1) := dk_96 (dk_at dksL_law_17 12 rfl rfl)
theorem dL_law_603 : decode cL_law 603 = .ok (.iaload, 1) := dk_46 (dk_at dksL_law_17 13 rfl rfl)
theorem dL_law_604 : decode cL_law 604 = .ok (.aload_n 0, 1) := dk_42 (dk_at dksL_law_17 14 rfl rfl)
theorem dL_law_605 : decode cL_law 605 = .ok (.iload 5, 2) := dk_21 5 (dk_at dksL_law_17 15 rfl rfl)
theorem dL_law_607 : decode cL_law 607 = .ok (.iconst 2, 1) := dk_5 (dk_at dksL_law_17 17 rfl rfl)
theorem dL_law_608 : decode cL_law 608 = .ok (.iadd, 1) := dk_96 (dk_at dksL_law_17 18 rfl rfl)
theorem dL_law_609 : decode cL_law 609 = .ok (.iaload, 1) := dk_46 (dk_at dksL_law_17 19 rfl rfl)
theorem dL_law_610 : decode cL_law 610 = .ok (.invokevirtual 197, 3) := dk_182 0 197 (dk_at dksL_law_17 20 rfl rfl)
theorem dL_law_613 : decode cL_law 613 = .ok (.istore 7, 2) := dk_54 7 (dk_at dksL_law_18 0 rfl rfl)
theorem dL_law_615 : decode cL_law 615 = .ok (.aload_n 2, 1) := dk_44 (dk_at dksL_law_18 2 rfl rfl)
theorem dL_law_616 : decode cL_law 616 = .ok (.invokevirtual 171, 3) := dk_182 0 171 (dk_at dksL_law_18 3 rfl rfl)
theorem dL_law_619 : decode cL_law 619 = .ok (.iload 6, 2) := dk_21 6 (dk_at dksL_law_18 6 rfl rfl)
theorem dL_law_621 : decode cL_law 621 = .ok (.if_icmp .eq 5, 3) := dk_159 0 5 (dk_at dksL_law_18 8 rfl rfl)
theorem dL_law_624 : decode cL_law 624 = .ok (.iconst 0, 1) := dk_3 (dk_at dksL_law_18 11 rfl rfl)
theorem dL_law_625 : decode cL_law 625 = .ok (.ireturn, 1) := dk_172 (dk_at dksL_law_18 12 rfl rfl)
theorem dL_law_626 : decode cL_law 626 = .ok (.iload 6, 2) := dk_21 6 (dk_at dksL_law_18 13 rfl rfl)
theorem dL_law_628 : decode cL_law 628 = .ok (.ifCond .ne 15, 3) := dk_154 0 15 (dk_at dksL_law_18 15 rfl rfl)
theorem dL_law_631 : decode cL_law 631 = .ok (.aload_n 3, 1) := dk_45 (dk_at dksL_law_18 18 rfl rfl)
theorem dL_law_632 : decode cL_law 632 = .ok (.iconst 0, 1) := dk_3 (dk_at dksL_law_18 19 rfl rfl)
theorem dL_law_633 : decode cL_law 633 = .ok (.laload, 1) := dk_47 (dk_at dksL_law_18 20 rfl rfl)
theorem dL_law_634 : decode cL_law 634 = .ok (.iload 7, 2) := dk_21 7 (dk_at dksL_law_18 21 rfl rfl)
theorem dL_law_636 : decode cL_law 636 = .ok (.i2l, 1) := dk_133 (dk_at dksL_law_18 23 rfl rfl)
theorem dL_law_637 : decode cL_law 637 = .ok (.lcmp, 1) := dk_148 (dk_at dksL_law_19 0 rfl rfl)
theorem dL_law_638 : decode cL_law 638 = .ok (.ifCond .eq 5, 3) := dk_153 0 5 (dk_at dksL_law_19 1 rfl rfl)
theorem dL_law_641 : decode cL_law 641 = .ok (.iconst 0, 1) := dk_3 (dk_at dksL_law_19 4 rfl rfl)
theorem dL_law_642 : decode cL_law 642 = .ok (.ireturn, 1) := dk_172 (dk_at dksL_law_19 5 rfl rfl)
theorem dL_law_643 : decode cL_law 643 = .ok (.goto 2297, 3) := dk_167 8 249 (dk_at dksL_law_19 6 rfl rfl)
theorem dL_law_646 : decode cL_law 646 = .ok (.aload_n 1, 1) := dk_43 (dk_at dksL_law_19 9 rfl rfl)
theorem dL_law_647 : decode cL_law 647 = .ok (.aload_n 0, 1) := dk_42 (dk_at dksL_law_19 10 rfl rfl)
theorem dL_law_648 : decode cL_law 648 = .ok (.iload 5, 2) := dk_21 5 (dk_at dksL_law_19 11 rfl rfl)
theorem dL_law_650 : decode cL_law 650 = .ok (.iconst 1, 1) := dk_4 (dk_at dksL_law_19 13 rfl rfl)
theorem dL_law_651 : decode cL_law 651 = .ok (.iadd, 1) := dk_96 (dk_at dksL_law_19 14 rfl rfl)
theorem dL_law_652 : decode cL_law 652 = .ok (.iaload, 1) := dk_46 (dk_at dksL_law_19 15 rfl rfl)
theorem dL_law_653 : decode cL_law 653 = .ok (.aload_n 0, 1) := dk_42 (dk_at dksL_law_19 16 rfl rfl)
theorem dL_law_654 : decode cL_law 654 = .ok (.iload 5, 2) := dk_21 5 (dk_at dksL_law_19 17 rfl rfl)
theorem dL_law_656 : decode cL_law 656 = .ok (.iconst 2, 1) := dk_5 (dk_at dksL_law_19 19 rfl rfl)
theorem dL_law_657 : decode cL_law 657 = .ok (.iadd, 1) := dk_96 (dk_at dksL_law_19 20 rfl rfl)
theorem dL_law_658 : decode cL_law 658 = .ok (.iaload, 1) := dk_46 (dk_at dksL_law_19 21 rfl rfl)
theorem dL_law_659 : decode cL_law 659 = .ok (.aload_n 0, 1) := dk_42 (dk_at dksL_law_19 22 rfl rfl)
theorem dL_law_660 : decode cL_law 660 = .ok (.iload 5, 2) := dk_21 5 (dk_at dksL_law_20 0 rfl rfl)
theorem dL_law_662 : decode cL_law 662 = .ok (.iconst 3, 1) := dk_6 (dk_at dksL_law_20 2 rfl rfl)
theorem dL_law_663 : decode cL_law 663 = .ok (.iadd, 1) := dk_96 (dk_at dksL_law_20 3 rfl rfl)
theorem dL_law_664 : decode cL_law 664 = .ok (.iaload, 1) := dk_46 (dk_at dksL_law_20 4 rfl rfl)
theorem dL_law_665 : decode cL_law 665 = .ok (.aload_n 3, 1) := dk_45 (dk_at dksL_law_20 5 rfl rfl)
theorem dL_law_666 : decode cL_law 666 = .ok (.invokestatic 198, 3) := dk_184 0 198 (dk_at dksL_law_20 6 rfl rfl)
theorem dL_law_669 : decode cL_law 669 = .ok (.istore 6, 2) := dk_54 6 (dk_at dksL_law_20 9 rfl rfl)
theorem dL_law_671 : decode cL_law 671 = .ok (.aload_n 2, 1) := dk_44 (dk_at dksL_law_20 11 rfl rfl)
theorem dL_law_672 : decode cL_law 672 = .ok (.aload_n 0, 1) := dk_42 (dk_at dksL_law_20 12 rfl rfl)
theorem dL_law_673 : decode cL_law 673 = .ok (.iload 5, 2) := dk_21 5 (dk_at dksL_law_20 13 rfl rfl)
theorem dL_law_675 : decode cL_law 675 = .ok (.iconst 1, 1) := dk_4 (dk_at dksL_law_20 15 rfl rfl)
theorem dL_law_676 : decode cL_law 676 = .ok (.iadd, 1) := dk_96 (dk_at dksL_law_20 16 rfl rfl)
theorem dL_law_677 : decode cL_law 677 = .ok (.iaload, 1) := dk_46 (dk_at dksL_law_20 17 rfl rfl)
theorem dL_law_678 : decode cL_law 678 = .ok (.aload_n 0, 1) := dk_42 (dk_at dksL_law_20 18 rfl rfl)
theorem dL_law_679 : decode cL_law 679 = .ok (.iload 5, 2) := dk_21 5 (dk_at dksL_law_20 19 rfl rfl)
theorem dL_law_681 : decode cL_law 681 = .ok (.iconst 2, 1) := dk_5 (dk_at dksL_law_20 21 rfl rfl)
theorem dL_law_682 : decode cL_law 682 = .ok (.iadd, 1) := dk_96 (dk_at dksL_law_20 22 rfl rfl)
theorem dL_law_683 : decode cL_law 683 = .ok (.iaload, 1) := dk_46 (dk_at dksL_law_20 23 rfl rfl)
theorem dL_law_684 : decode cL_law 684 = .ok (.aload_n 0, 1) := dk_42 (dk_at dksL_law_21 0 rfl rfl)
theorem dL_law_685 : decode cL_law 685 = .ok (.iload 5, 2) := dk_21 5 (dk_at dksL_law_21 1 rfl rfl)
theorem dL_law_687 : decode cL_law 687 = .ok (.iconst 3, 1) := dk_6 (dk_at dksL_law_21 3 rfl rfl)
theorem dL_law_688 : decode cL_law 688 = .ok (.iadd, 1) := dk_96 (dk_at dksL_law_21 4 rfl rfl)
theorem dL_law_689 : decode cL_law 689 = .ok (.iaload, 1) := dk_46 (dk_at dksL_law_21 5 rfl rfl)
theorem dL_law_690 : decode cL_law 690 = .ok (.invokevirtual 201, 3) := dk_182 0 201 (dk_at dksL_law_21 6 rfl rfl)
theorem dL_law_693 : decode cL_law 693 = .ok (.istore 7, 2) := dk_54 7 (dk_at dksL_law_21 9 rfl rfl)
theorem dL_law_695 : decode cL_law 695 = .ok (.aload_n 2, 1) := dk_44 (dk_at dksL_law_21 11 rfl rfl)
theorem dL_law_696 : decode cL_law 696 = .ok (.invokevirtual 171, 3) := dk_182 0 171 (dk_at dksL_law_21 12 rfl rfl)
theorem dL_law_699 : decode cL_law 699 = .ok (.iload 6, 2) := dk_21 6 (dk_at dksL_law_21 15 rfl rfl)
theorem dL_law_701 : decode cL_law 701 = .ok (.if_icmp .eq 5, 3) := dk_159 0 5 (dk_at dksL_law_21 17 rfl rfl)
theorem dL_law_704 : decode cL_law 704 = .ok (.iconst 0, 1) := dk_3 (dk_at dksL_law_21 20 rfl rfl)
theorem dL_law_705 : decode cL_law 705 = .ok (.ireturn, 1) := dk_172 (dk_at dksL_law_21 21 rfl rfl)
theorem dL_law_706 : decode cL_law 706 = .ok (.iload 6, 2) := dk_21 6 (dk_at dksL_law_21 22 rfl rfl)
theorem dL_law_708 : decode cL_law 708 = .ok (.ifCond .ne 15, 3) := dk_154 0 15 (dk_at dksL_law_22 0 rfl rfl)
theorem dL_law_711 : decode cL_law 711 = .ok (.aload_n 3, 1) := dk_45 (dk_at dksL_law_22 3 rfl rfl)
theorem dL_law_712 : decode cL_law 712 = .ok (.iconst 0, 1) := dk_3 (dk_at dksL_law_22 4 rfl rfl)
theorem dL_law_713 : decode cL_law 713 = .ok (.laload, 1) := dk_47 (dk_at dksL_law_22 5 rfl rfl)
theorem dL_law_714 : decode cL_law 714 = .ok (.iload 7, 2) := dk_21 7 (dk_at dksL_law_22 6 rfl rfl)
theorem dL_law_716 : decode cL_law 716 = .ok (.i2l, 1) := dk_133 (dk_at dksL_law_22 8 rfl rfl)
theorem dL_law_717 : decode cL_law 717 = .ok (.lcmp, 1) := dk_148 (dk_at dksL_law_22 9 rfl rfl)
theorem dL_law_718 : decode cL_law 718 = .ok (.ifCond .eq 5, 3) := dk_153 0 5 (dk_at dksL_law_22 10 rfl rfl)
theorem dL_law_721 : decode cL_law 721 = .ok (.iconst 0, 1) := dk_3 (dk_at dksL_law_22 13 rfl rfl)
theorem dL_law_722 : decode cL_law 722 = .ok (.ireturn, 1) := dk_172 (dk_at dksL_law_22 14 rfl rfl)
theorem dL_law_723 : decode cL_law 723 = .ok (.goto 2217, 3) := dk_167 8 169 (dk_at dksL_law_22 15 rfl rfl)
theorem dL_law_726 : decode cL_law 726 = .ok (.aload_n 1, 1) := dk_43 (dk_at dksL_law_22 18 rfl rfl)
theorem dL_law_727 : decode cL_law 727 = .ok (.aload_n 0, 1) := dk_42 (dk_at dksL_law_22 19 rfl rfl)
theorem dL_law_728 : decode cL_law 728 = .ok (.iload 5, 2) := dk_21 5 (dk_at dksL_law_22 20 rfl rfl)
theorem dL_law_730 : decode cL_law 730 = .ok (.iconst 1, 1) := dk_4 (dk_at dksL_law_22 22 rfl rfl)
theorem dL_law_731 : decode cL_law 731 = .ok (.iadd, 1) := dk_96 (dk_at dksL_law_22 23 rfl rfl)
theorem dL_law_732 : decode cL_law 732 = .ok (.iaload, 1) := dk_46 (dk_at dksL_law_23 0 rfl rfl)
theorem dL_law_733 : decode cL_law 733 = .ok (.aload_n 0, 1) := dk_42 (dk_at dksL_law_23 1 rfl rfl)
theorem dL_law_734 : decode cL_law 734 = .ok (.iload 5, 2) := dk_21 5 (dk_at dksL_law_23 2 rfl rfl)
theorem dL_law_736 : decode cL_law 736 = .ok (.iconst 2, 1) := dk_5 (dk_at dksL_law_23 4 rfl rfl)
theorem dL_law_737 : decode cL_law 737 = .ok (.iadd, 1) := dk_96 (dk_at dksL_law_23 5 rfl rfl)
theorem dL_law_738 : decode cL_law 738 = .ok (.iaload, 1) := dk_46 (dk_at dksL_law_23 6 rfl rfl)
theorem dL_law_739 : decode cL_law 739 = .ok (.aload_n 0, 1) := dk_42 (dk_at dksL_law_23 7 rfl rfl)
theorem dL_law_740 : decode cL_law 740 = .ok (.iload 5, 2) := dk_21 5 (dk_at dksL_law_23 8 rfl rfl)
theorem dL_law_742 : decode cL_law 742 = .ok (.iconst 3, 1) := dk_6 (dk_at dksL_law_23 10 rfl rfl)
theorem dL_law_743 : decode cL_law 743 = .ok (.iadd, 1) := dk_96 (dk_at dksL_law_23 11 rfl rfl)
theorem dL_law_744 : decode cL_law 744 = .ok (.iaload, 1) := dk_46 (dk_at dksL_law_23 12 rfl rfl)
theorem dL_law_745 : decode cL_law 745 = .ok (.aload_n 3, 1) := dk_45 (dk_at dksL_law_23 13 rfl rfl)
theorem dL_law_746 : decode cL_law 746 = .ok (.invokestatic 202, 3) := dk_184 0 202 (dk_at dksL_law_23 14 rfl rfl)
theorem dL_law_749 : decode cL_law 749 = .ok (.istore 6, 2) := dk_54 6 (dk_at dksL_law_23 17 rfl rfl)
theorem dL_law_751 : decode cL_law 751 = .ok (.aload_n 2, 1) := dk_44 (dk_at dksL_law_23 19 rfl rfl)
theorem dL_law_752 : decode cL_law 752 = .ok (.aload_n 0, 1) := dk_42 (dk_at dksL_law_23 20 rfl rfl)
theorem dL_law_753 : decode cL_law 753 = .ok (.iload 5, 2) := dk_21 5 (dk_at dksL_law_23 21 rfl rfl)
theorem dL_law_755 : decode cL_law 755 = .ok (.iconst 1, 1) := dk_4 (dk_at dksL_law_23 23 rfl rfl)
theorem dL_law_756 : decode cL_law 756 = .ok (.iadd, 1) := dk_96 (dk_at dksL_law_24 0 rfl rfl)
theorem dL_law_757 : decode cL_law 757 = .ok (.iaload, 1) := dk_46 (dk_at dksL_law_24 1 rfl rfl)
theorem dL_law_758 : decode cL_law 758 = .ok (.aload_n 0, 1) := dk_42 (dk_at dksL_law_24 2 rfl rfl)
theorem dL_law_759 : decode cL_law 759 = .ok (.iload 5, 2) := dk_21 5 (dk_at dksL_law_24 3 rfl rfl)
theorem dL_law_761 : decode cL_law 761 = .ok (.iconst 2, 1) := dk_5 (dk_at dksL_law_24 5 rfl rfl)
theorem dL_law_762 : decode cL_law 762 = .ok (.iadd, 1) := dk_96 (dk_at dksL_law_24 6 rfl rfl)
theorem dL_law_763 : decode cL_law 763 = .ok (.iaload, 1) := dk_46 (dk_at dksL_law_24 7 rfl rfl)
theorem dL_law_764 : decode cL_law 764 = .ok (.aload_n 0, 1) := dk_42 (dk_at dksL_law_24 8 rfl rfl)
theorem dL_law_765 : decode cL_law 765 = .ok (.iload 5, 2) := dk_21 5 (dk_at dksL_law_24 9 rfl rfl)
theorem dL_law_767 : decode cL_law 767 = .ok (.iconst 3, 1) := dk_6 (dk_at dksL_law_24 11 rfl rfl)
theorem dL_law_768 : decode cL_law 768 = .ok (.iadd, 1) := dk_96 (dk_at dksL_law_24 12 rfl rfl)
theorem dL_law_769 : decode cL_law 769 = .ok (.iaload, 1) := dk_46 (dk_at dksL_law_24 13 rfl rfl)
theorem dL_law_770 : decode cL_law 770 = .ok (.invokevirtual 204, 3) := dk_182 0 204 (dk_at dksL_law_24 14 rfl rfl)
theorem dL_law_773 : decode cL_law 773 = .ok (.istore 7, 2) := dk_54 7 (dk_at dksL_law_24 17 rfl rfl)
theorem dL_law_775 : decode cL_law 775 = .ok (.aload_n 2, 1) := dk_44 (dk_at dksL_law_24 19 rfl rfl)
theorem dL_law_776 : decode cL_law 776 = .ok (.invokevirtual 171, 3) := dk_182 0 171 (dk_at dksL_law_24 20 rfl rfl)
theorem dL_law_779 : decode cL_law 779 = .ok (.iload 6, 2) := dk_21 6 (dk_at dksL_law_25 0 rfl rfl)
theorem dL_law_781 : decode cL_law 781 = .ok (.if_icmp .eq 5, 3) := dk_159 0 5 (dk_at dksL_law_25 2 rfl rfl)
theorem dL_law_784 : decode cL_law 784 = .ok (.iconst 0, 1) := dk_3 (dk_at dksL_law_25 5 rfl rfl)
theorem dL_law_785 : decode cL_law 785 = .ok (.ireturn, 1) := dk_172 (dk_at dksL_law_25 6 rfl rfl)
theorem dL_law_786 : decode cL_law 786 = .ok (.iload 6, 2) := dk_21 6 (dk_at dksL_law_25 7 rfl rfl)
theorem dL_law_788 : decode cL_law 788 = .ok (.ifCond .ne 15, 3) := dk_154 0 15 (dk_at dksL_law_25 9 rfl rfl)
theorem dL_law_791 : decode cL_law 791 = .ok (.aload_n 3, 1) := dk_45 (dk_at dksL_law_25 12 rfl rfl)
theorem dL_law_792 : decode cL_law 792 = .ok (.iconst 0, 1) := dk_3 (dk_at dksL_law_25 13 rfl rfl)
theorem dL_law_793 : decode cL_law 793 = .ok (.laload, 1) := dk_47 (dk_at dksL_law_25 14 rfl rfl)
theorem dL_law_794 : decode cL_law 794 = .ok (.iload 7, 2) := dk_21 7 (dk_at dksL_law_25 15 rfl rfl)
theorem dL_law_796 : decode cL_law 796 = .ok (.i2l, 1) := dk_133 (dk_at dksL_law_25 17 rfl rfl)
theorem dL_law_797 : decode cL_law 797 = .ok (.lcmp, 1) := dk_148 (dk_at dksL_law_25 18 rfl rfl)
theorem dL_law_798 : decode cL_law 798 = .ok (.ifCond .eq 5, 3) := dk_153 0 5 (dk_at dksL_law_25 19 rfl rfl)
theorem dL_law_801 : decode cL_law 801 = .ok (.iconst 0, 1) := dk_3 (dk_at dksL_law_25 22 rfl rfl)
theorem dL_law_802 : decode cL_law 802 = .ok (.ireturn, 1) := dk_172 (dk_at dksL_law_25 23 rfl rfl)
theorem dL_law_803 : decode cL_law 803 = .ok (.goto 2137, 3) := dk_167 8 89 (dk_at dksL_law_26 0 rfl rfl)
theorem dL_law_806 : decode cL_law 806 = .ok (.aload_n 1, 1) := dk_43 (dk_at dksL_law_26 3 rfl rfl)
theorem dL_law_807 : decode cL_law 807 = .ok (.aload_n 0, 1) := dk_42 (dk_at dksL_law_26 4 rfl rfl)
theorem dL_law_808 : decode cL_law 808 = .ok (.iload 5, 2) := dk_21 5 (dk_at dksL_law_26 5 rfl rfl)
theorem dL_law_810 : decode cL_law 810 = .ok (.iconst 1, 1) := dk_4 (dk_at dksL_law_26 7 rfl rfl)
theorem dL_law_811 : decode cL_law 811 = .ok (.iadd, 1) := dk_96 (dk_at dksL_law_26 8 rfl rfl)
theorem dL_law_812 : decode cL_law 812 = .ok (.iaload, 1) := dk_46 (dk_at dksL_law_26 9 rfl rfl)
theorem dL_law_813 : decode cL_law 813 = .ok (.aload_n 3, 1) := dk_45 (dk_at dksL_law_26 10 rfl rfl)
theorem dL_law_814 : decode cL_law 814 = .ok (.invokestatic 205, 3) := dk_184 0 205 (dk_at dksL_law_26 11 rfl rfl)
theorem dL_law_817 : decode cL_law 817 = .ok (.istore 6, 2) := dk_54 6 (dk_at dksL_law_26 14 rfl rfl)
theorem dL_law_819 : decode cL_law 819 = .ok (.aload_n 2, 1) := dk_44 (dk_at dksL_law_26 16 rfl rfl)
theorem dL_law_820 : decode cL_law 820 = .ok (.aload_n 0, 1) := dk_42 (dk_at dksL_law_26 17 rfl rfl)
theorem dL_law_821 : decode cL_law 821 = .ok (.iload 5, 2) := dk_21 5 (dk_at dksL_law_26 18 rfl rfl)
theorem dL_law_823 : decode cL_law 823 = .ok (.iconst 1, 1) := dk_4 (dk_at dksL_law_26 20 rfl rfl)
theorem dL_law_824 : decode cL_law 824 = .ok (.iadd, 1) := dk_96 (dk_at dksL_law_26 21 rfl rfl)
theorem dL_law_825 : decode cL_law 825 = .ok (.iaload, 1) := dk_46 (dk_at dksL_law_26 22 rfl rfl)
theorem dL_law_826 : decode cL_law 826 = .ok (.invokevirtual 207, 3) := dk_182 0 207 (dk_at dksL_law_27 0 rfl rfl)
theorem dL_law_829 : decode cL_law 829 = .ok (.istore 7, 2) := dk_54 7 (dk_at dksL_law_27 3 rfl rfl)
theorem dL_law_831 : decode cL_law 831 = .ok (.aload_n 2, 1) := dk_44 (dk_at dksL_law_27 5 rfl rfl)
theorem dL_law_832 : decode cL_law 832 = .ok (.invokevirtual 171, 3) := dk_182 0 171 (dk_at dksL_law_27 6 rfl rfl)
theorem dL_law_835 : decode cL_law 835 = .ok (.iload 6, 2) := dk_21 6 (dk_at dksL_law_27 9 rfl rfl)
theorem dL_law_837 : decode cL_law 837 = .ok (.if_icmp .eq 5, 3) := dk_159 0 5 (dk_at dksL_law_27 11 rfl rfl)
theorem dL_law_840 : decode cL_law 840 = .ok (.iconst 0, 1) := dk_3 (dk_at dksL_law_27 14 rfl rfl)
theorem dL_law_841 : decode cL_law 841 = .ok (.ireturn, 1) := dk_172 (dk_at dksL_law_27 15 rfl rfl)
theorem dL_law_842 : decode cL_law 842 = .ok (.iload 6, 2) := dk_21 6 (dk_at dksL_law_27 16 rfl rfl)
theorem dL_law_844 : decode cL_law 844 = .ok (.ifCond .ne 15, 3) := dk_154 0 15 (dk_at dksL_law_27 18 rfl rfl)
theorem dL_law_847 : decode cL_law 847 = .ok (.aload_n 3, 1) := dk_45 (dk_at dksL_law_27 21 rfl rfl)
theorem dL_law_848 : decode cL_law 848 = .ok (.iconst 0, 1) := dk_3 (dk_at dksL_law_27 22 rfl rfl)
theorem dL_law_849 : decode cL_law 849 = .ok (.laload, 1) := dk_47 (dk_at dksL_law_27 23 rfl rfl)
theorem dL_law_850 : decode cL_law 850 = .ok (.iload 7, 2) := dk_21 7 (dk_at dksL_law_28 0 rfl rfl)
theorem dL_law_852 : decode cL_law 852 = .ok (.i2l, 1) := dk_133 (dk_at dksL_law_28 2 rfl rfl)
theorem dL_law_853 : decode cL_law 853 = .ok (.lcmp, 1) := dk_148 (dk_at dksL_law_28 3 rfl rfl)
theorem dL_law_854 : decode cL_law 854 = .ok (.ifCond .eq 5, 3) := dk_153 0 5 (dk_at dksL_law_28 4 rfl rfl)
theorem dL_law_857 : decode cL_law 857 = .ok (.iconst 0, 1) := dk_3 (dk_at dksL_law_28 7 rfl rfl)
theorem dL_law_858 : decode cL_law 858 = .ok (.ireturn, 1) := dk_172 (dk_at dksL_law_28 8 rfl rfl)
theorem dL_law_859 : decode cL_law 859 = .ok (.goto 2081, 3) := dk_167 8 33 (dk_at dksL_law_28 9 rfl rfl)
theorem dL_law_862 : decode cL_law 862 = .ok (.aload_n 1, 1) := dk_43 (dk_at dksL_law_28 12 rfl rfl)
theorem dL_law_863 : decode cL_law 863 = .ok (.aload_n 0, 1) := dk_42 (dk_at dksL_law_28 13 rfl rfl)
theorem dL_law_864 : decode cL_law 864 = .ok (.iload 5, 2) := dk_21 5 (dk_at dksL_law_28 14 rfl rfl)
theorem dL_law_866 : decode cL_law 866 = .ok (.iconst 1, 1) := dk_4 (dk_at dksL_law_28 16 rfl rfl)
theorem dL_law_867 : decode cL_law 867 = .ok (.iadd, 1) := dk_96 (dk_at dksL_law_28 17 rfl rfl)
theorem dL_law_868 : decode cL_law 868 = .ok (.iaload, 1) := dk_46 (dk_at dksL_law_28 18 rfl rfl)
theorem dL_law_869 : decode cL_law 869 = .ok (.aload_n 3, 1) := dk_45 (dk_at dksL_law_28 19 rfl rfl)
theorem dL_law_870 : decode cL_law 870 = .ok (.invokestatic 208, 3) := dk_184 0 208 (dk_at dksL_law_28 20 rfl rfl)
theorem dL_law_873 : decode cL_law 873 = .ok (.istore 6, 2) := dk_54 6 (dk_at dksL_law_29 0 rfl rfl)
theorem dL_law_875 : decode cL_law 875 = .ok (.aload_n 2, 1) := dk_44 (dk_at dksL_law_29 2 rfl rfl)
theorem dL_law_876 : decode cL_law 876 = .ok (.aload_n 0, 1) := dk_42 (dk_at dksL_law_29 3 rfl rfl)
theorem dL_law_877 : decode cL_law 877 = .ok (.iload 5, 2) := dk_21 5 (dk_at dksL_law_29 4 rfl rfl)
theorem dL_law_879 : decode cL_law 879 = .ok (.iconst 1, 1) := dk_4 (dk_at dksL_law_29 6 rfl rfl)
theorem dL_law_880 : decode cL_law 880 = .ok (.iadd, 1) := dk_96 (dk_at dksL_law_29 7 rfl rfl)
theorem dL_law_881 : decode cL_law 881 = .ok (.iaload, 1) := dk_46 (dk_at dksL_law_29 8 rfl rfl)
theorem dL_law_882 : decode cL_law 882 = .ok (.invokevirtual 210, 3) := dk_182 0 210 (dk_at dksL_law_29 9 rfl rfl)
theorem dL_law_885 : decode cL_law 885 = .ok (.istore 7, 2) := dk_54 7 (dk_at dksL_law_29 12 rfl rfl)
theorem dL_law_887 : decode cL_law 887 = .ok (.aload_n 2, 1) := dk_44 (dk_at dksL_law_29 14 rfl rfl)
theorem dL_law_888 : decode cL_law 888 = .ok (.invokevirtual 171, 3) := dk_182 0 171 (dk_at dksL_law_29 15 rfl rfl)
theorem dL_law_891 : decode cL_law 891 = .ok (.iload 6, 2) := dk_21 6 (dk_at dksL_law_29 18 rfl rfl)
theorem dL_law_893 : decode cL_law 893 = .ok (.if_icmp .eq 5, 3) := dk_159 0 5 (dk_at dksL_law_29 20 rfl rfl)
theorem dL_law_896 : decode cL_law 896 = .ok (.iconst 0, 1) := dk_3 (dk_at dksL_law_29 23 rfl rfl)
theorem dL_law_897 : decode cL_law 897 = .ok (.ireturn, 1) := dk_172 (dk_at dksL_law_30 0 rfl rfl)
theorem dL_law_898 : decode cL_law 898 = .ok (.iload 6, 2) := dk_21 6 (dk_at dksL_law_30 1 rfl rfl)
theorem dL_law_900 : decode cL_law 900 = .ok (.ifCond .ne 15, 3) := dk_154 0 15 (dk_at dksL_law_30 3 rfl rfl)
theorem dL_law_903 : decode cL_law 903 = .ok (.aload_n 3, 1) := dk_45 (dk_at dksL_law_30 6 rfl rfl)
theorem dL_law_904 : decode cL_law 904 = .ok (.iconst 0, 1) := dk_3 (dk_at dksL_law_30 7 rfl rfl)
theorem dL_law_905 : decode cL_law 905 = .ok (.laload, 1) := dk_47 (dk_at dksL_law_30 8 rfl rfl)
theorem dL_law_906 : decode cL_law 906 = .ok (.iload 7, 2) := dk_21 7 (dk_at dksL_law_30 9 rfl rfl)
theorem dL_law_908 : decode cL_law 908 = .ok (.i2l, 1) := dk_133 (dk_at dksL_law_30 11 rfl rfl)
theorem dL_law_909 : decode cL_law 909 = .ok (.lcmp, 1) := dk_148 (dk_at dksL_law_30 12 rfl rfl)
theorem dL_law_910 : decode cL_law 910 = .ok (.ifCond .eq 5, 3) := dk_153 0 5 (dk_at dksL_law_30 13 rfl rfl)
theorem dL_law_913 : decode cL_law 913 = .ok (.iconst 0, 1) := dk_3 (dk_at dksL_law_30 16 rfl rfl)
theorem dL_law_914 : decode cL_law 914 = .ok (.ireturn, 1) := dk_172 (dk_at dksL_law_30 17 rfl rfl)
theorem dL_law_915 : decode cL_law 915 = .ok (.goto 2025, 3) := dk_167 7 233 (dk_at dksL_law_30 18 rfl rfl)
theorem dL_law_918 : decode cL_law 918 = .ok (.aload_n 1, 1) := dk_43 (dk_at dksL_law_30 21 rfl rfl)
theorem dL_law_919 : decode cL_law 919 = .ok (.aload_n 0, 1) := dk_42 (dk_at dksL_law_30 22 rfl rfl)
theorem dL_law_920 : decode cL_law 920 = .ok (.iload 5, 2) := dk_21 5 (dk_at dksL_law_31 0 rfl rfl)
theorem dL_law_922 : decode cL_law 922 = .ok (.iconst 1, 1) := dk_4 (dk_at dksL_law_31 2 rfl rfl)
theorem dL_law_923 : decode cL_law 923 = .ok (.iadd, 1) := dk_96 (dk_at dksL_law_31 3 rfl rfl)
theorem dL_law_924 : decode cL_law 924 = .ok (.iaload, 1) := dk_46 (dk_at dksL_law_31 4 rfl rfl)
theorem dL_law_925 : decode cL_law 925 = .ok (.aload_n 3, 1) := dk_45 (dk_at dksL_law_31 5 rfl rfl)
theorem dL_law_926 : decode cL_law 926 = .ok (.invokestatic 211, 3) := dk_184 0 211 (dk_at dksL_law_31 6 rfl rfl)
theorem dL_law_929 : decode cL_law 929 = .ok (.istore 6, 2) := dk_54 6 (dk_at dksL_law_31 9 rfl rfl)
theorem dL_law_931 : decode cL_law 931 = .ok (.aload_n 2, 1) := dk_44 (dk_at dksL_law_31 11 rfl rfl)
theorem dL_law_932 : decode cL_law 932 = .ok (.aload_n 0, 1) := dk_42 (dk_at dksL_law_31 12 rfl rfl)
theorem dL_law_933 : decode cL_law 933 = .ok (.iload 5, 2) := dk_21 5 (dk_at dksL_law_31 13 rfl rfl)
theorem dL_law_935 : decode cL_law 935 = .ok (.iconst 1, 1) := dk_4 (dk_at dksL_law_31 15 rfl rfl)
theorem dL_law_936 : decode cL_law 936 = .ok (.iadd, 1) := dk_96 (dk_at dksL_law_31 16 rfl rfl)
theorem dL_law_937 : decode cL_law 937 = .ok (.iaload, 1) := dk_46 (dk_at dksL_law_31 17 rfl rfl)
theorem dL_law_938 : decode cL_law 938 = .ok (.invokevirtual 213, 3) := dk_182 0 213 (dk_at dksL_law_31 18 rfl rfl)
theorem dL_law_941 : decode cL_law 941 = .ok (.istore 7, 2) := dk_54 7 (dk_at dksL_law_31 21 rfl rfl)
theorem dL_law_943 : decode cL_law 943 = .ok (.aload_n 2, 1) := dk_44 (dk_at dksL_law_31 23 rfl rfl)
theorem dL_law_944 : decode cL_law 944 = .ok (.invokevirtual 171, 3) := dk_182 0 171 (dk_at dksL_law_32 0 rfl rfl)
theorem dL_law_947 : decode cL_law 947 = .ok (.iload 6, 2) := dk_21 6 (dk_at dksL_law_32 3 rfl rfl)
theorem dL_law_949 : decode cL_law 949 = .ok (.if_icmp .eq 5, 3) := dk_159 0 5 (dk_at dksL_law_32 5 rfl rfl)
theorem dL_law_952 : decode cL_law 952 = .ok (.iconst 0, 1) := dk_3 (dk_at dksL_law_32 8 rfl rfl)
theorem dL_law_953 : decode cL_law 953 = .ok (.ireturn, 1) := dk_172 (dk_at dksL_law_32 9 rfl rfl)
theorem dL_law_954 : decode cL_law 954 = .ok (.iload 6, 2) := dk_21 6 (dk_at dksL_law_32 10 rfl rfl)
theorem dL_law_956 : decode cL_law 956 = .ok (.ifCond .ne 15, 3) := dk_154 0 15 (dk_at dksL_law_32 12 rfl rfl)
theorem dL_law_959 : decode cL_law 959 = .ok (.aload_n 3, 1) := dk_45 (dk_at dksL_law_32 15 rfl rfl)
theorem dL_law_960 : decode cL_law 960 = .ok (.iconst 0, 1) := dk_3 (dk_at dksL_law_32 16 rfl rfl)
theorem dL_law_961 : decode cL_law 961 = .ok (.laload, 1) := dk_47 (dk_at dksL_law_32 17 rfl rfl)
theorem dL_law_962 : decode cL_law 962 = .ok (.iload 7, 2) := dk_21 7 (dk_at dksL_law_32 18 rfl rfl)
theorem dL_law_964 : decode cL_law 964 = .ok (.i2l, 1) := dk_133 (dk_at dksL_law_32 20 rfl rfl)
theorem dL_law_965 : decode cL_law 965 = .ok (.lcmp, 1) := dk_148 (dk_at dksL_law_32 21 rfl rfl)
theorem dL_law_966 : decode cL_law 966 = .ok (.ifCond .eq 5, 3) := dk_153 0 5 (dk_at dksL_law_33 0 rfl rfl)
theorem dL_law_969 : decode cL_law 969 = .ok (.iconst 0, 1) := dk_3 (dk_at dksL_law_33 3 rfl rfl)
theorem dL_law_970 : decode cL_law 970 = .ok (.ireturn, 1) := dk_172 (dk_at dksL_law_33 4 rfl rfl)
theorem dL_law_971 : decode cL_law 971 = .ok (.goto 1969, 3) := dk_167 7 177 (dk_at dksL_law_33 5 rfl rfl)
theorem dL_law_974 : decode cL_law 974 = .ok (.aload_n 1, 1) := dk_43 (dk_at dksL_law_33 8 rfl rfl)
theorem dL_law_975 : decode cL_law 975 = .ok (.aload_n 0, 1) := dk_42 (dk_at dksL_law_33 9 rfl rfl)
theorem dL_law_976 : decode cL_law 976 = .ok (.iload 5, 2) := dk_21 5 (dk_at dksL_law_33 10 rfl rfl)
theorem dL_law_978 : decode cL_law 978 = .ok (.iconst 1, 1) := dk_4 (dk_at dksL_law_33 12 rfl rfl)
theorem dL_law_979 : decode cL_law 979 = .ok (.iadd, 1) := dk_96 (dk_at dksL_law_33 13 rfl rfl)
theorem dL_law_980 : decode cL_law 980 = .ok (.iaload, 1) := dk_46 (dk_at dksL_law_33 14 rfl rfl)
theorem dL_law_981 : decode cL_law 981 = .ok (.aload_n 3, 1) := dk_45 (dk_at dksL_law_33 15 rfl rfl)
theorem dL_law_982 : decode cL_law 982 = .ok (.invokestatic 214, 3) := dk_184 0 214 (dk_at dksL_law_33 16 rfl rfl)
theorem dL_law_985 : decode cL_law 985 = .ok (.istore 6, 2) := dk_54 6 (dk_at dksL_law_33 19 rfl rfl)
theorem dL_law_987 : decode cL_law 987 = .ok (.aload_n 2, 1) := dk_44 (dk_at dksL_law_33 21 rfl rfl)
theorem dL_law_988 : decode cL_law 988 = .ok (.aload_n 0, 1) := dk_42 (dk_at dksL_law_33 22 rfl rfl)
theorem dL_law_989 : decode cL_law 989 = .ok (.iload 5, 2) := dk_21 5 (dk_at dksL_law_34 0 rfl rfl)
theorem dL_law_991 : decode cL_law 991 = .ok (.iconst 1, 1) := dk_4 (dk_at dksL_law_34 2 rfl rfl)
theorem dL_law_992 : decode cL_law 992 = .ok (.iadd, 1) := dk_96 (dk_at dksL_law_34 3 rfl rfl)
theorem dL_law_993 : decode cL_law 993 = .ok (.iaload, 1) := dk_46 (dk_at dksL_law_34 4 rfl rfl)
theorem dL_law_994 : decode cL_law 994 = .ok (.invokevirtual 216, 3) := dk_182 0 216 (dk_at dksL_law_34 5 rfl rfl)
theorem dL_law_997 : decode cL_law 997 = .ok (.istore 7, 2) := dk_54 7 (dk_at dksL_law_34 8 rfl rfl)
theorem dL_law_999 : decode cL_law 999 = .ok (.aload_n 2, 1) := dk_44 (dk_at dksL_law_34 10 rfl rfl)
theorem dL_law_1000 : decode cL_law 1000 = .ok (.invokevirtual 171, 3) := dk_182 0 171 (dk_at dksL_law_34 11 rfl rfl)
theorem dL_law_1003 : decode cL_law 1003 = .ok (.iload 6, 2) := dk_21 6 (dk_at dksL_law_34 14 rfl rfl)
theorem dL_law_1005 : decode cL_law 1005 = .ok (.if_icmp .eq 5, 3) := dk_159 0 5 (dk_at dksL_law_34 16 rfl rfl)
theorem dL_law_1008 : decode cL_law 1008 = .ok (.iconst 0, 1) := dk_3 (dk_at dksL_law_34 19 rfl rfl)
theorem dL_law_1009 : decode cL_law 1009 = .ok (.ireturn, 1) := dk_172 (dk_at dksL_law_34 20 rfl rfl)
theorem dL_law_1010 : decode cL_law 1010 = .ok (.iload 6, 2) := dk_21 6 (dk_at dksL_law_34 21 rfl rfl)
theorem dL_law_1012 : decode cL_law 1012 = .ok (.ifCond .ne 15, 3) := dk_154 0 15 (dk_at dksL_law_35 0 rfl rfl)
theorem dL_law_1015 : decode cL_law 1015 = .ok (.aload_n 3, 1) := dk_45 (dk_at dksL_law_35 3 rfl rfl)
theorem dL_law_1016 : decode cL_law 1016 = .ok (.iconst 0, 1) := dk_3 (dk_at dksL_law_35 4 rfl rfl)
theorem dL_law_1017 : decode cL_law 1017 = .ok (.laload, 1) := dk_47 (dk_at dksL_law_35 5 rfl rfl)
theorem dL_law_1018 : decode cL_law 1018 = .ok (.iload 7, 2) := dk_21 7 (dk_at dksL_law_35 6 rfl rfl)
theorem dL_law_1020 : decode cL_law 1020 = .ok (.i2l, 1) := dk_133 (dk_at dksL_law_35 8 rfl rfl)
theorem dL_law_1021 : decode cL_law 1021 = .ok (.lcmp, 1) := dk_148 (dk_at dksL_law_35 9 rfl rfl)
theorem dL_law_1022 : decode cL_law 1022 = .ok (.ifCond .eq 5, 3) := dk_153 0 5 (dk_at dksL_law_35 10 rfl rfl)
theorem dL_law_1025 : decode cL_law 1025 = .ok (.iconst 0, 1) := dk_3 (dk_at dksL_law_35 13 rfl rfl)
theorem dL_law_1026 : decode cL_law 1026 = .ok (.ireturn, 1) := dk_172 (dk_at dksL_law_35 14 rfl rfl)
theorem dL_law_1027 : decode cL_law 1027 = .ok (.goto 1913, 3) := dk_167 7 121 (dk_at dksL_law_35 15 rfl rfl)
theorem dL_law_1030 : decode cL_law 1030 = .ok (.aload_n 1, 1) := dk_43 (dk_at dksL_law_35 18 rfl rfl)
theorem dL_law_1031 : decode cL_law 1031 = .ok (.aload_n 0, 1) := dk_42 (dk_at dksL_law_35 19 rfl rfl)
theorem dL_law_1032 : decode cL_law 1032 = .ok (.iload 5, 2) := dk_21 5 (dk_at dksL_law_35 20 rfl rfl)
theorem dL_law_1034 : decode cL_law 1034 = .ok (.iconst 1, 1) := dk_4 (dk_at dksL_law_35 22 rfl rfl)
theorem dL_law_1035 : decode cL_law 1035 = .ok (.iadd, 1) := dk_96 (dk_at dksL_law_35 23 rfl rfl)
theorem dL_law_1036 : decode cL_law 1036 = .ok (.iaload, 1) := dk_46 (dk_at dksL_law_36 0 rfl rfl)
theorem dL_law_1037 : decode cL_law 1037 = .ok (.aload_n 3, 1) := dk_45 (dk_at dksL_law_36 1 rfl rfl)
theorem dL_law_1038 : decode cL_law 1038 = .ok (.invokestatic 217, 3) := dk_184 0 217 (dk_at dksL_law_36 2 rfl rfl)
theorem dL_law_1041 : decode cL_law 1041 = .ok (.istore 6, 2) := dk_54 6 (dk_at dksL_law_36 5 rfl rfl)
theorem dL_law_1043 : decode cL_law 1043 = .ok (.aload_n 2, 1) := dk_44 (dk_at dksL_law_36 7 rfl rfl)
theorem dL_law_1044 : decode cL_law 1044 = .ok (.aload_n 0, 1) := dk_42 (dk_at dksL_law_36 8 rfl rfl)
theorem dL_law_1045 : decode cL_law 1045 = .ok (.iload 5, 2) := dk_21 5 (dk_at dksL_law_36 9 rfl rfl)
theorem dL_law_1047 : decode cL_law 1047 = .ok (.iconst 1, 1) := dk_4 (dk_at dksL_law_36 11 rfl rfl)
theorem dL_law_1048 : decode cL_law 1048 = .ok (.iadd, 1) := dk_96 (dk_at dksL_law_36 12 rfl rfl)
theorem dL_law_1049 : decode cL_law 1049 = .ok (.iaload, 1) := dk_46 (dk_at dksL_law_36 13 rfl rfl)
theorem dL_law_1050 : decode cL_law 1050 = .ok (.invokevirtual 219, 3) := dk_182 0 219 (dk_at dksL_law_36 14 rfl rfl)
theorem dL_law_1053 : decode cL_law 1053 = .ok (.istore 7, 2) := dk_54 7 (dk_at dksL_law_36 17 rfl rfl)
theorem dL_law_1055 : decode cL_law 1055 = .ok (.aload_n 2, 1) := dk_44 (dk_at dksL_law_36 19 rfl rfl)
theorem dL_law_1056 : decode cL_law 1056 = .ok (.invokevirtual 171, 3) := dk_182 0 171 (dk_at dksL_law_36 20 rfl rfl)
theorem dL_law_1059 : decode cL_law 1059 = .ok (.iload 6, 2) := dk_21 6 (dk_at dksL_law_37 0 rfl rfl)
theorem dL_law_1061 : decode cL_law 1061 = .ok (.if_icmp .eq 5, 3) := dk_159 0 5 (dk_at dksL_law_37 2 rfl rfl)
theorem dL_law_1064 : decode cL_law 1064 = .ok (.iconst 0, 1) := dk_3 (dk_at dksL_law_37 5 rfl rfl)
theorem dL_law_1065 : decode cL_law 1065 = .ok (.ireturn, 1) := dk_172 (dk_at dksL_law_37 6 rfl rfl)
theorem dL_law_1066 : decode cL_law 1066 = .ok (.iload 6, 2) := dk_21 6 (dk_at dksL_law_37 7 rfl rfl)
theorem dL_law_1068 : decode cL_law 1068 = .ok (.ifCond .ne 15, 3) := dk_154 0 15 (dk_at dksL_law_37 9 rfl rfl)
theorem dL_law_1071 : decode cL_law 1071 = .ok (.aload_n 3, 1) := dk_45 (dk_at dksL_law_37 12 rfl rfl)
theorem dL_law_1072 : decode cL_law 1072 = .ok (.iconst 0, 1) := dk_3 (dk_at dksL_law_37 13 rfl rfl)
theorem dL_law_1073 : decode cL_law 1073 = .ok (.laload, 1) := dk_47 (dk_at dksL_law_37 14 rfl rfl)
theorem dL_law_1074 : decode cL_law 1074 = .ok (.iload 7, 2) := dk_21 7 (dk_at dksL_law_37 15 rfl rfl)
theorem dL_law_1076 : decode cL_law 1076 = .ok (.i2l, 1) := dk_133 (dk_at dksL_law_37 17 rfl rfl)
theorem dL_law_1077 : decode cL_law 1077 = .ok (.lcmp, 1) := dk_148 (dk_at dksL_law_37 18 rfl rfl)
theorem dL_law_1078 : decode cL_law 1078 = .ok (.ifCond .eq 5, 3) := dk_153 0 5 (dk_at dksL_law_37 19 rfl rfl)
theorem dL_law_1081 : decode cL_law 1081 = .ok (.iconst 0, 1) := dk_3 (dk_at dksL_law_37 22 rfl rfl)
theorem dL_law_1082 : decode cL_law 1082 = .ok (.ireturn, 1) := dk_172 (dk_at dksL_law_37 23 rfl rfl)
theorem dL_law_1083 : decode cL_law 1083 = .ok (.goto 1857, 3) := dk_167 7 65 (dk_at dksL_law_38 0 rfl rfl)
theorem dL_law_1086 : decode cL_law 1086 = .ok (.aload_n 1, 1) := dk_43 (dk_at dksL_law_38 3 rfl rfl)
theorem dL_law_1087 : decode cL_law 1087 = .ok (.aload_n 0, 1) := dk_42 (dk_at dksL_law_38 4 rfl rfl)
theorem dL_law_1088 : decode cL_law 1088 = .ok (.iload 5, 2) := dk_21 5 (dk_at dksL_law_38 5 rfl rfl)
theorem dL_law_1090 : decode cL_law 1090 = .ok (.iconst 1, 1) := dk_4 (dk_at dksL_law_38 7 rfl rfl)
theorem dL_law_1091 : decode cL_law 1091 = .ok (.iadd, 1) := dk_96 (dk_at dksL_law_38 8 rfl rfl)
theorem dL_law_1092 : decode cL_law 1092 = .ok (.iaload, 1) := dk_46 (dk_at dksL_law_38 9 rfl rfl)
theorem dL_law_1093 : decode cL_law 1093 = .ok (.aload_n 3, 1) := dk_45 (dk_at dksL_law_38 10 rfl rfl)
theorem dL_law_1094 : decode cL_law 1094 = .ok (.invokestatic 220, 3) := dk_184 0 220 (dk_at dksL_law_38 11 rfl rfl)
theorem dL_law_1097 : decode cL_law 1097 = .ok (.istore 6, 2) := dk_54 6 (dk_at dksL_law_38 14 rfl rfl)
theorem dL_law_1099 : decode cL_law 1099 = .ok (.aload_n 2, 1) := dk_44 (dk_at dksL_law_38 16 rfl rfl)
theorem dL_law_1100 : decode cL_law 1100 = .ok (.aload_n 0, 1) := dk_42 (dk_at dksL_law_38 17 rfl rfl)
theorem dL_law_1101 : decode cL_law 1101 = .ok (.iload 5, 2) := dk_21 5 (dk_at dksL_law_38 18 rfl rfl)
theorem dL_law_1103 : decode cL_law 1103 = .ok (.iconst 1, 1) := dk_4 (dk_at dksL_law_38 20 rfl rfl)
theorem dL_law_1104 : decode cL_law 1104 = .ok (.iadd, 1) := dk_96 (dk_at dksL_law_38 21 rfl rfl)
theorem dL_law_1105 : decode cL_law 1105 = .ok (.iaload, 1) := dk_46 (dk_at dksL_law_38 22 rfl rfl)
theorem dL_law_1106 : decode cL_law 1106 = .ok (.invokevirtual 222, 3) := dk_182 0 222 (dk_at dksL_law_39 0 rfl rfl)
theorem dL_law_1109 : decode cL_law 1109 = .ok (.istore 7, 2) := dk_54 7 (dk_at dksL_law_39 3 rfl rfl)
theorem dL_law_1111 : decode cL_law 1111 = .ok (.aload_n 2, 1) := dk_44 (dk_at dksL_law_39 5 rfl rfl)
theorem dL_law_1112 : decode cL_law 1112 = .ok (.invokevirtual 171, 3) := dk_182 0 171 (dk_at dksL_law_39 6 rfl rfl)
theorem dL_law_1115 : decode cL_law 1115 = .ok (.iload 6, 2) := dk_21 6 (dk_at dksL_law_39 9 rfl rfl)
theorem dL_law_1117 : decode cL_law 1117 = .ok (.if_icmp .eq 5, 3) := dk_159 0 5 (dk_at dksL_law_39 11 rfl rfl)
theorem dL_law_1120 : decode cL_law 1120 = .ok (.iconst 0, 1) := dk_3 (dk_at dksL_law_39 14 rfl rfl)
theorem dL_law_1121 : decode cL_law 1121 = .ok (.ireturn, 1) := dk_172 (dk_at dksL_law_39 15 rfl rfl)
theorem dL_law_1122 : decode cL_law 1122 = .ok (.iload 6, 2) := dk_21 6 (dk_at dksL_law_39 16 rfl rfl)
theorem dL_law_1124 : decode cL_law 1124 = .ok (.ifCond .ne 15, 3) := dk_154 0 15 (dk_at dksL_law_39 18 rfl rfl)
theorem dL_law_1127 : decode cL_law 1127 = .ok (.aload_n 3, 1) := dk_45 (dk_at dksL_law_39 21 rfl rfl)
theorem dL_law_1128 : decode cL_law 1128 = .ok (.iconst 0, 1) := dk_3 (dk_at dksL_law_39 22 rfl rfl)
theorem dL_law_1129 : decode cL_law 1129 = .ok (.laload, 1) := dk_47 (dk_at dksL_law_39 23 rfl rfl)
theorem dL_law_1130 : decode cL_law 1130 = .ok (.iload 7, 2) := dk_21 7 (dk_at dksL_law_40 0 rfl rfl)
theorem dL_law_1132 : decode cL_law 1132 = .ok (.i2l, 1) := dk_133 (dk_at dksL_law_40 2 rfl rfl)
theorem dL_law_1133 : decode cL_law 1133 = .ok (.lcmp, 1) := dk_148 (dk_at dksL_law_40 3 rfl rfl)
theorem dL_law_1134 : decode cL_law 1134 = .ok (.ifCond .eq 5, 3) := dk_153 0 5 (dk_at dksL_law_40 4 rfl rfl)
theorem dL_law_1137 : decode cL_law 1137 = .ok (.iconst 0, 1) := dk_3 (dk_at dksL_law_40 7 rfl rfl)
theorem dL_law_1138 : decode cL_law 1138 = .ok (.ireturn, 1) := dk_172 (dk_at dksL_law_40 8 rfl rfl)
theorem dL_law_1139 : decode cL_law 1139 = .ok (.goto 1801, 3) := dk_167 7 9 (dk_at dksL_law_40 9 rfl rfl)
theorem dL_law_1142 : decode cL_law 1142 = .ok (.aload_n 1, 1) := dk_43 (dk_at dksL_law_40 12 rfl rfl)
theorem dL_law_1143 : decode cL_law 1143 = .ok (.aload_n 0, 1) := dk_42 (dk_at dksL_law_40 13 rfl rfl)
theorem dL_law_1144 : decode cL_law 1144 = .ok (.iload 5, 2) := dk_21 5 (dk_at dksL_law_40 14 rfl rfl)
theorem dL_law_1146 : decode cL_law 1146 = .ok (.iconst 1, 1) := dk_4 (dk_at dksL_law_40 16 rfl rfl)
theorem dL_law_1147 : decode cL_law 1147 = .ok (.iadd, 1) := dk_96 (dk_at dksL_law_40 17 rfl rfl)
theorem dL_law_1148 : decode cL_law 1148 = .ok (.iaload, 1) := dk_46 (dk_at dksL_law_40 18 rfl rfl)
theorem dL_law_1149 : decode cL_law 1149 = .ok (.aload_n 3, 1) := dk_45 (dk_at dksL_law_40 19 rfl rfl)
theorem dL_law_1150 : decode cL_law 1150 = .ok (.invokestatic 223, 3) := dk_184 0 223 (dk_at dksL_law_40 20 rfl rfl)
theorem dL_law_1153 : decode cL_law 1153 = .ok (.istore 6, 2) := dk_54 6 (dk_at dksL_law_41 0 rfl rfl)
theorem dL_law_1155 : decode cL_law 1155 = .ok (.aload_n 2, 1) := dk_44 (dk_at dksL_law_41 2 rfl rfl)
theorem dL_law_1156 : decode cL_law 1156 = .ok (.aload_n 0, 1) := dk_42 (dk_at dksL_law_41 3 rfl rfl)
theorem dL_law_1157 : decode cL_law 1157 = .ok (.iload 5, 2) := dk_21 5 (dk_at dksL_law_41 4 rfl rfl)
theorem dL_law_1159 : decode cL_law 1159 = .ok (.iconst 1, 1) := dk_4 (dk_at dksL_law_41 6 rfl rfl)
theorem dL_law_1160 : decode cL_law 1160 = .ok (.iadd, 1) := dk_96 (dk_at dksL_law_41 7 rfl rfl)
theorem dL_law_1161 : decode cL_law 1161 = .ok (.iaload, 1) := dk_46 (dk_at dksL_law_41 8 rfl rfl)
theorem dL_law_1162 : decode cL_law 1162 = .ok (.invokevirtual 225, 3) := dk_182 0 225 (dk_at dksL_law_41 9 rfl rfl)
theorem dL_law_1165 : decode cL_law 1165 = .ok (.istore 7, 2) := dk_54 7 (dk_at dksL_law_41 12 rfl rfl)
theorem dL_law_1167 : decode cL_law 1167 = .ok (.aload_n 2, 1) := dk_44 (dk_at dksL_law_41 14 rfl rfl)
theorem dL_law_1168 : decode cL_law 1168 = .ok (.invokevirtual 171, 3) := dk_182 0 171 (dk_at dksL_law_41 15 rfl rfl)
theorem dL_law_1171 : decode cL_law 1171 = .ok (.iload 6, 2) := dk_21 6 (dk_at dksL_law_41 18 rfl rfl)
theorem dL_law_1173 : decode cL_law 1173 = .ok (.if_icmp .eq 5, 3) := dk_159 0 5 (dk_at dksL_law_41 20 rfl rfl)
theorem dL_law_1176 : decode cL_law 1176 = .ok (.iconst 0, 1) := dk_3 (dk_at dksL_law_41 23 rfl rfl)
theorem dL_law_1177 : decode cL_law 1177 = .ok (.ireturn, 1) := dk_172 (dk_at dksL_law_42 0 rfl rfl)
theorem dL_law_1178 : decode cL_law 1178 = .ok (.iload 6, 2) := dk_21 6 (dk_at dksL_law_42 1 rfl rfl)
theorem dL_law_1180 : decode cL_law 1180 = .ok (.ifCond .ne 15, 3) := dk_154 0 15 (dk_at dksL_law_42 3 rfl rfl)
theorem dL_law_1183 : decode cL_law 1183 = .ok (.aload_n 3, 1) := dk_45 (dk_at dksL_law_42 6 rfl rfl)
theorem dL_law_1184 : decode cL_law 1184 = .ok (.iconst 0, 1) := dk_3 (dk_at dksL_law_42 7 rfl rfl)
theorem dL_law_1185 : decode cL_law 1185 = .ok (.laload, 1) := dk_47 (dk_at dksL_law_42 8 rfl rfl)
theorem dL_law_1186 : decode cL_law 1186 = .ok (.iload 7, 2) := dk_21 7 (dk_at dksL_law_42 9 rfl rfl)
theorem dL_law_1188 : decode cL_law 1188 = .ok (.i2l, 1) := dk_133 (dk_at dksL_law_42 11 rfl rfl)
theorem dL_law_1189 : decode cL_law 1189 = .ok (.lcmp, 1) := dk_148 (dk_at dksL_law_42 12 rfl rfl)
theorem dL_law_1190 : decode cL_law 1190 = .ok (.ifCond .eq 5, 3) := dk_153 0 5 (dk_at dksL_law_42 13 rfl rfl)
theorem dL_law_1193 : decode cL_law 1193 = .ok (.iconst 0, 1) := dk_3 (dk_at dksL_law_42 16 rfl rfl)
theorem dL_law_1194 : decode cL_law 1194 = .ok (.ireturn, 1) := dk_172 (dk_at dksL_law_42 17 rfl rfl)
theorem dL_law_1195 : decode cL_law 1195 = .ok (.goto 1745, 3) := dk_167 6 209 (dk_at dksL_law_42 18 rfl rfl)
theorem dL_law_1198 : decode cL_law 1198 = .ok (.aload_n 1, 1) := dk_43 (dk_at dksL_law_42 21 rfl rfl)
theorem dL_law_1199 : decode cL_law 1199 = .ok (.aload_n 0, 1) := dk_42 (dk_at dksL_law_42 22 rfl rfl)
theorem dL_law_1200 : decode cL_law 1200 = .ok (.iload 5, 2) := dk_21 5 (dk_at dksL_law_43 0 rfl rfl)
theorem dL_law_1202 : decode cL_law 1202 = .ok (.iconst 1, 1) := dk_4 (dk_at dksL_law_43 2 rfl rfl)
theorem dL_law_1203 : decode cL_law 1203 = .ok (.iadd, 1) := dk_96 (dk_at dksL_law_43 3 rfl rfl)
theorem dL_law_1204 : decode cL_law 1204 = .ok (.iaload, 1) := dk_46 (dk_at dksL_law_43 4 rfl rfl)
theorem dL_law_1205 : decode cL_law 1205 = .ok (.aload_n 0, 1) := dk_42 (dk_at dksL_law_43 5 rfl rfl)
theorem dL_law_1206 : decode cL_law 1206 = .ok (.iload 5, 2) := dk_21 5 (dk_at dksL_law_43 6 rfl rfl)
theorem dL_law_1208 : decode cL_law 1208 = .ok (.iconst 2, 1) := dk_5 (dk_at dksL_law_43 8 rfl rfl)
theorem dL_law_1209 : decode cL_law 1209 = .ok (.iadd, 1) := dk_96 (dk_at dksL_law_43 9 rfl rfl)
theorem dL_law_1210 : decode cL_law 1210 = .ok (.iaload, 1) := dk_46 (dk_at dksL_law_43 10 rfl rfl)
theorem dL_law_1211 : decode cL_law 1211 = .ok (.aload_n 3, 1) := dk_45 (dk_at dksL_law_43 11 rfl rfl)
theorem dL_law_1212 : decode cL_law 1212 = .ok (.invokestatic 226, 3) := dk_184 0 226 (dk_at dksL_law_43 12 rfl rfl)
theorem dL_law_1215 : decode cL_law 1215 = .ok (.istore 6, 2) := dk_54 6 (dk_at dksL_law_43 15 rfl rfl)
theorem dL_law_1217 : decode cL_law 1217 = .ok (.aload_n 2, 1) := dk_44 (dk_at dksL_law_43 17 rfl rfl)
theorem dL_law_1218 : decode cL_law 1218 = .ok (.aload_n 0, 1) := dk_42 (dk_at dksL_law_43 18 rfl rfl)
theorem dL_law_1219 : decode cL_law 1219 = .ok (.iload 5, 2) := dk_21 5 (dk_at dksL_law_43 19 rfl rfl)
theorem dL_law_1221 : decode cL_law 1221 = .ok (.iconst 1, 1) := dk_4 (dk_at dksL_law_43 21 rfl rfl)
theorem dL_law_1222 : decode cL_law 1222 = .ok (.iadd, 1) := dk_96 (dk_at dksL_law_43 22 rfl rfl)
theorem dL_law_1223 : decode cL_law 1223 = .ok (.iaload, 1) := dk_46 (dk_at dksL_law_43 23 rfl rfl)
theorem dL_law_1224 : decode cL_law 1224 = .ok (.aload_n 0, 1) := dk_42 (dk_at dksL_law_44 0 rfl rfl)
theorem dL_law_1225 : decode cL_law 1225 = .ok (.iload 5, 2) := dk_21 5 (dk_at dksL_law_44 1 rfl rfl)
theorem dL_law_1227 : decode cL_law 1227 = .ok (.iconst 2, 1) := dk_5 (dk_at dksL_law_44 3 rfl rfl)
theorem dL_law_1228 : decode cL_law 1228 = .ok (.iadd, 1) := dk_96 (dk_at dksL_law_44 4 rfl rfl)
theorem dL_law_1229 : decode cL_law 1229 = .ok (.iaload, 1) := dk_46 (dk_at dksL_law_44 5 rfl rfl)
theorem dL_law_1230 : decode cL_law 1230 = .ok (.invokevirtual 228, 3) := dk_182 0 228 (dk_at dksL_law_44 6 rfl rfl)
theorem dL_law_1233 : decode cL_law 1233 = .ok (.istore 7, 2) := dk_54 7 (dk_at dksL_law_44 9 rfl rfl)
theorem dL_law_1235 : decode cL_law 1235 = .ok (.aload_n 2, 1) := dk_44 (dk_at dksL_law_44 11 rfl rfl)
theorem dL_law_1236 : decode cL_law 1236 = .ok (.invokevirtual 171, 3) := dk_182 0 171 (dk_at dksL_law_44 12 rfl rfl)
theorem dL_law_1239 : decode cL_law 1239 = .ok (.iload 6, 2) := dk_21 6 (dk_at dksL_law_44 15 rfl rfl)
theorem dL_law_1241 : decode cL_law 1241 = .ok (.if_icmp .eq 5, 3) := dk_159 0 5 (dk_at dksL_law_44 17 rfl rfl)
theorem dL_law_1244 : decode cL_law 1244 = .ok (.iconst 0, 1) := dk_3 (dk_at dksL_law_44 20 rfl rfl)
theorem dL_law_1245 : decode cL_law 1245 = .ok (.ireturn, 1) := dk_172 (dk_at dksL_law_44 21 rfl rfl)
theorem dL_law_1246 : decode cL_law 1246 = .ok (.iload 6, 2) := dk_21 6 (dk_at dksL_law_44 22 rfl rfl)
theorem dL_law_1248 : decode cL_law 1248 = .ok (.ifCond .ne 15, 3) := dk_154 0 15 (dk_at dksL_law_45 0 rfl rfl)
theorem dL_law_1251 : decode cL_law 1251 = .ok (.aload_n 3, 1) := dk_45 (dk_at dksL_law_45 3 rfl rfl)
theorem dL_law_1252 : decode cL_law 1252 = .ok (.iconst 0, 1) := dk_3 (dk_at dksL_law_45 4 rfl rfl)
theorem dL_law_1253 : decode cL_law 1253 = .ok (.laload, 1) := dk_47 (dk_at dksL_law_45 5 rfl rfl)
theorem dL_law_1254 : decode cL_law 1254 = .ok (.iload 7, 2) := dk_21 7 (dk_at dksL_law_45 6 rfl rfl)
theorem dL_law_1256 : decode cL_law 1256 = .ok (.i2l, 1) := dk_133 (dk_at dksL_law_45 8 rfl rfl)
theorem dL_law_1257 : decode cL_law 1257 = .ok (.lcmp, 1) := dk_148 (dk_at dksL_law_45 9 rfl rfl)
theorem dL_law_1258 : decode cL_law 1258 = .ok (.ifCond .eq 5, 3) := dk_153 0 5 (dk_at dksL_law_45 10 rfl rfl)
theorem dL_law_1261 : decode cL_law 1261 = .ok (.iconst 0, 1) := dk_3 (dk_at dksL_law_45 13 rfl rfl)
theorem dL_law_1262 : decode cL_law 1262 = .ok (.ireturn, 1) := dk_172 (dk_at dksL_law_45 14 rfl rfl)
theorem dL_law_1263 : decode cL_law 1263 = .ok (.goto 1677, 3) := dk_167 6 141 (dk_at dksL_law_45 15 rfl rfl)
theorem dL_law_1266 : decode cL_law 1266 = .ok (.aload_n 1, 1) := dk_43 (dk_at dksL_law_45 18 rfl rfl)
theorem dL_law_1267 : decode cL_law 1267 = .ok (.aload_n 0, 1) := dk_42 (dk_at dksL_law_45 19 rfl rfl)
theorem dL_law_1268 : decode cL_law 1268 = .ok (.iload 5, 2) := dk_21 5 (dk_at dksL_law_45 20 rfl rfl)
theorem dL_law_1270 : decode cL_law 1270 = .ok (.iconst 1, 1) := dk_4 (dk_at dksL_law_45 22 rfl rfl)
theorem dL_law_1271 : decode cL_law 1271 = .ok (.iadd, 1) := dk_96 (dk_at dksL_law_45 23 rfl rfl)
theorem dL_law_1272 : decode cL_law 1272 = .ok (.iaload, 1) := dk_46 (dk_at dksL_law_46 0 rfl rfl)
theorem dL_law_1273 : decode cL_law 1273 = .ok (.aload_n 3, 1) := dk_45 (dk_at dksL_law_46 1 rfl rfl)
theorem dL_law_1274 : decode cL_law 1274 = .ok (.invokestatic 229, 3) := dk_184 0 229 (dk_at dksL_law_46 2 rfl rfl)
theorem dL_law_1277 : decode cL_law 1277 = .ok (.istore 6, 2) := dk_54 6 (dk_at dksL_law_46 5 rfl rfl)
theorem dL_law_1279 : decode cL_law 1279 = .ok (.aload_n 2, 1) := dk_44 (dk_at dksL_law_46 7 rfl rfl)
theorem dL_law_1280 : decode cL_law 1280 = .ok (.aload_n 0, 1) := dk_42 (dk_at dksL_law_46 8 rfl rfl)
theorem dL_law_1281 : decode cL_law 1281 = .ok (.iload 5, 2) := dk_21 5 (dk_at dksL_law_46 9 rfl rfl)
theorem dL_law_1283 : decode cL_law 1283 = .ok (.iconst 1, 1) := dk_4 (dk_at dksL_law_46 11 rfl rfl)
theorem dL_law_1284 : decode cL_law 1284 = .ok (.iadd, 1) := dk_96 (dk_at dksL_law_46 12 rfl rfl)
theorem dL_law_1285 : decode cL_law 1285 = .ok (.iaload, 1) := dk_46 (dk_at dksL_law_46 13 rfl rfl)
theorem dL_law_1286 : decode cL_law 1286 = .ok (.invokevirtual 231, 3) := dk_182 0 231 (dk_at dksL_law_46 14 rfl rfl)
theorem dL_law_1289 : decode cL_law 1289 = .ok (.istore 7, 2) := dk_54 7 (dk_at dksL_law_46 17 rfl rfl)
theorem dL_law_1291 : decode cL_law 1291 = .ok (.aload_n 2, 1) := dk_44 (dk_at dksL_law_46 19 rfl rfl)
theorem dL_law_1292 : decode cL_law 1292 = .ok (.invokevirtual 171, 3) := dk_182 0 171 (dk_at dksL_law_46 20 rfl rfl)
theorem dL_law_1295 : decode cL_law 1295 = .ok (.iload 6, 2) := dk_21 6 (dk_at dksL_law_47 0 rfl rfl)
theorem dL_law_1297 : decode cL_law 1297 = .ok (.if_icmp .eq 5, 3) := dk_159 0 5 (dk_at dksL_law_47 2 rfl rfl)
theorem dL_law_1300 : decode cL_law 1300 = .ok (.iconst 0, 1) := dk_3 (dk_at dksL_law_47 5 rfl rfl)
theorem dL_law_1301 : decode cL_law 1301 = .ok (.ireturn, 1) := dk_172 (dk_at dksL_law_47 6 rfl rfl)
theorem dL_law_1302 : decode cL_law 1302 = .ok (.iload 6, 2) := dk_21 6 (dk_at dksL_law_47 7 rfl rfl)
theorem dL_law_1304 : decode cL_law 1304 = .ok (.ifCond .ne 15, 3) := dk_154 0 15 (dk_at dksL_law_47 9 rfl rfl)
theorem dL_law_1307 : decode cL_law 1307 = .ok (.aload_n 3, 1) := dk_45 (dk_at dksL_law_47 12 rfl rfl)
theorem dL_law_1308 : decode cL_law 1308 = .ok (.iconst 0, 1) := dk_3 (dk_at dksL_law_47 13 rfl rfl)
theorem dL_law_1309 : decode cL_law 1309 = .ok (.laload, 1) := dk_47 (dk_at dksL_law_47 14 rfl rfl)
theorem dL_law_1310 : decode cL_law 1310 = .ok (.iload 7, 2) := dk_21 7 (dk_at dksL_law_47 15 rfl rfl)
theorem dL_law_1312 : decode cL_law 1312 = .ok (.i2l, 1) := dk_133 (dk_at dksL_law_47 17 rfl rfl)
theorem dL_law_1313 : decode cL_law 1313 = .ok (.lcmp, 1) := dk_148 (dk_at dksL_law_47 18 rfl rfl)
theorem dL_law_1314 : decode cL_law 1314 = .ok (.ifCond .eq 5, 3) := dk_153 0 5 (dk_at dksL_law_47 19 rfl rfl)
theorem dL_law_1317 : decode cL_law 1317 = .ok (.iconst 0, 1) := dk_3 (dk_at dksL_law_47 22 rfl rfl)
theorem dL_law_1318 : decode cL_law 1318 = .ok (.ireturn, 1) := dk_172 (dk_at dksL_law_47 23 rfl rfl)
theorem dL_law_1319 : decode cL_law 1319 = .ok (.goto 1621, 3) := dk_167 6 85 (dk_at dksL_law_48 0 rfl rfl)
theorem dL_law_1322 : decode cL_law 1322 = .ok (.aload_n 1, 1) := dk_43 (dk_at dksL_law_48 3 rfl rfl)
theorem dL_law_1323 : decode cL_law 1323 = .ok (.aload_n 0, 1) := dk_42 (dk_at dksL_law_48 4 rfl rfl)
theorem dL_law_1324 : decode cL_law 1324 = .ok (.iload 5, 2) := dk_21 5 (dk_at dksL_law_48 5 rfl rfl)
theorem dL_law_1326 : decode cL_law 1326 = .ok (.iconst 1, 1) := dk_4 (dk_at dksL_law_48 7 rfl rfl)
theorem dL_law_1327 : decode cL_law 1327 = .ok (.iadd, 1) := dk_96 (dk_at dksL_law_48 8 rfl rfl)
theorem dL_law_1328 : decode cL_law 1328 = .ok (.iaload, 1) := dk_46 (dk_at dksL_law_48 9 rfl rfl)
theorem dL_law_1329 : decode cL_law 1329 = .ok (.aload_n 3, 1) := dk_45 (dk_at dksL_law_48 10 rfl rfl)
theorem dL_law_1330 : decode cL_law 1330 = .ok (.invokestatic 232, 3) := dk_184 0 232 (dk_at dksL_law_48 11 rfl rfl)
theorem dL_law_1333 : decode cL_law 1333 = .ok (.istore 6, 2) := dk_54 6 (dk_at dksL_law_48 14 rfl rfl)
theorem dL_law_1335 : decode cL_law 1335 = .ok (.aload_n 2, 1) := dk_44 (dk_at dksL_law_48 16 rfl rfl)
theorem dL_law_1336 : decode cL_law 1336 = .ok (.aload_n 0, 1) := dk_42 (dk_at dksL_law_48 17 rfl rfl)
theorem dL_law_1337 : decode cL_law 1337 = .ok (.iload 5, 2) := dk_21 5 (dk_at dksL_law_48 18 rfl rfl)
theorem dL_law_1339 : decode cL_law 1339 = .ok (.iconst 1, 1) := dk_4 (dk_at dksL_law_48 20 rfl rfl)
theorem dL_law_1340 : decode cL_law 1340 = .ok (.iadd, 1) := dk_96 (dk_at dksL_law_48 21 rfl rfl)
theorem dL_law_1341 : decode cL_law 1341 = .ok (.iaload, 1) := dk_46 (dk_at dksL_law_48 22 rfl rfl)
theorem dL_law_1342 : decode cL_law 1342 = .ok (.invokevirtual 234, 3) := dk_182 0 234 (dk_at dksL_law_49 0 rfl rfl)
theorem dL_law_1345 : decode cL_law 1345 = .ok (.istore 7, 2) := dk_54 7 (dk_at dksL_law_49 3 rfl rfl)
theorem dL_law_1347 : decode cL_law 1347 = .ok (.aload_n 2, 1) := dk_44 (dk_at dksL_law_49 5 rfl rfl)
theorem dL_law_1348 : decode cL_law 1348 = .ok (.invokevirtual 171, 3) := dk_182 0 171 (dk_at dksL_law_49 6 rfl rfl)
theorem dL_law_1351 : decode cL_law 1351 = .ok (.iload 6, 2) := dk_21 6 (dk_at dksL_law_49 9 rfl rfl)
theorem dL_law_1353 : decode cL_law 1353 = .ok (.if_icmp .eq 5, 3) := dk_159 0 5 (dk_at dksL_law_49 11 rfl rfl)
theorem dL_law_1356 : decode cL_law 1356 = .ok (.iconst 0, 1) := dk_3 (dk_at dksL_law_49 14 rfl rfl)
theorem dL_law_1357 : decode cL_law 1357 = .ok (.ireturn, 1) := dk_172 (dk_at dksL_law_49 15 rfl rfl)
theorem dL_law_1358 : decode cL_law 1358 = .ok (.iload 6, 2) := dk_21 6 (dk_at dksL_law_49 16 rfl rfl)
theorem dL_law_1360 : decode cL_law 1360 = .ok (.ifCond .ne 15, 3) := dk_154 0 15 (dk_at dksL_law_49 18 rfl rfl)
theorem dL_law_1363 : decode cL_law 1363 = .ok (.aload_n 3, 1) := dk_45 (dk_at dksL_law_49 21 rfl rfl)
theorem dL_law_1364 : decode cL_law 1364 = .ok (.iconst 0, 1) := dk_3 (dk_at dksL_law_49 22 rfl rfl)
theorem dL_law_1365 : decode cL_law 1365 = .ok (.laload, 1) := dk_47 (dk_at dksL_law_49 23 rfl rfl)
theorem dL_law_1366 : decode cL_law 1366 = .ok (.iload 7, 2) := dk_21 7 (dk_at dksL_law_50 0 rfl rfl)
theorem dL_law_1368 : decode cL_law 1368 = .ok (.i2l, 1) := dk_133 (dk_at dksL_law_50 2 rfl rfl)
theorem dL_law_1369 : decode cL_law 1369 = .ok (.lcmp, 1) := dk_148 (dk_at dksL_law_50 3 rfl rfl)
theorem dL_law_1370 : decode cL_law 1370 = .ok (.ifCond .eq 5, 3) := dk_153 0 5 (dk_at dksL_law_50 4 rfl rfl)
theorem dL_law_1373 : decode cL_law 1373 = .ok (.iconst 0, 1) := dk_3 (dk_at dksL_law_50 7 rfl rfl)
theorem dL_law_1374 : decode cL_law 1374 = .ok (.ireturn, 1) := dk_172 (dk_at dksL_law_50 8 rfl rfl)
theorem dL_law_1375 : decode cL_law 1375 = .ok (.goto 1565, 3) := dk_167 6 29 (dk_at dksL_law_50 9 rfl rfl)
theorem dL_law_1378 : decode cL_law 1378 = .ok (.aload_n 1, 1) := dk_43 (dk_at dksL_law_50 12 rfl rfl)
theorem dL_law_1379 : decode cL_law 1379 = .ok (.aload_n 0, 1) := dk_42 (dk_at dksL_law_50 13 rfl rfl)
theorem dL_law_1380 : decode cL_law 1380 = .ok (.iload 5, 2) := dk_21 5 (dk_at dksL_law_50 14 rfl rfl)
theorem dL_law_1382 : decode cL_law 1382 = .ok (.iconst 1, 1) := dk_4 (dk_at dksL_law_50 16 rfl rfl)
theorem dL_law_1383 : decode cL_law 1383 = .ok (.iadd, 1) := dk_96 (dk_at dksL_law_50 17 rfl rfl)
theorem dL_law_1384 : decode cL_law 1384 = .ok (.iaload, 1) := dk_46 (dk_at dksL_law_50 18 rfl rfl)
theorem dL_law_1385 : decode cL_law 1385 = .ok (.aload_n 3, 1) := dk_45 (dk_at dksL_law_50 19 rfl rfl)
theorem dL_law_1386 : decode cL_law 1386 = .ok (.invokestatic 235, 3) := dk_184 0 235 (dk_at dksL_law_50 20 rfl rfl)
theorem dL_law_1389 : decode cL_law 1389 = .ok (.istore 6, 2) := dk_54 6 (dk_at dksL_law_51 0 rfl rfl)
theorem dL_law_1391 : decode cL_law 1391 = .ok (.aload_n 2, 1) := dk_44 (dk_at dksL_law_51 2 rfl rfl)
theorem dL_law_1392 : decode cL_law 1392 = .ok (.aload_n 0, 1) := dk_42 (dk_at dksL_law_51 3 rfl rfl)
theorem dL_law_1393 : decode cL_law 1393 = .ok (.iload 5, 2) := dk_21 5 (dk_at dksL_law_51 4 rfl rfl)
theorem dL_law_1395 : decode cL_law 1395 = .ok (.iconst 1, 1) := dk_4 (dk_at dksL_law_51 6 rfl rfl)
theorem dL_law_1396 : decode cL_law 1396 = .ok (.iadd, 1) := dk_96 (dk_at dksL_law_51 7 rfl rfl)
theorem dL_law_1397 : decode cL_law 1397 = .ok (.iaload, 1) := dk_46 (dk_at dksL_law_51 8 rfl rfl)
theorem dL_law_1398 : decode cL_law 1398 = .ok (.invokevirtual 237, 3) := dk_182 0 237 (dk_at dksL_law_51 9 rfl rfl)
theorem dL_law_1401 : decode cL_law 1401 = .ok (.istore 7, 2) := dk_54 7 (dk_at dksL_law_51 12 rfl rfl)
theorem dL_law_1403 : decode cL_law 1403 = .ok (.aload_n 2, 1) := dk_44 (dk_at dksL_law_51 14 rfl rfl)
theorem dL_law_1404 : decode cL_law 1404 = .ok (.invokevirtual 171, 3) := dk_182 0 171 (dk_at dksL_law_51 15 rfl rfl)
theorem dL_law_1407 : decode cL_law 1407 = .ok (.iload 6, 2) := dk_21 6 (dk_at dksL_law_51 18 rfl rfl)
theorem dL_law_1409 : decode cL_law 1409 = .ok (.if_icmp .eq 5, 3) := dk_159 0 5 (dk_at dksL_law_51 20 rfl rfl)
theorem dL_law_1412 : decode cL_law 1412 = .ok (.iconst 0, 1) := dk_3 (dk_at dksL_law_51 23 rfl rfl)
theorem dL_law_1413 : decode cL_law 1413 = .ok (.ireturn, 1) := dk_172 (dk_at dksL_law_52 0 rfl rfl)
theorem dL_law_1414 : decode cL_law 1414 = .ok (.iload 6, 2) := dk_21 6 (dk_at dksL_law_52 1 rfl rfl)
theorem dL_law_1416 : decode cL_law 1416 = .ok (.ifCond .ne 15, 3) := dk_154 0 15 (dk_at dksL_law_52 3 rfl rfl)
theorem dL_law_1419 : decode cL_law 1419 = .ok (.aload_n 3, 1) := dk_45 (dk_at dksL_law_52 6 rfl rfl)
theorem dL_law_1420 : decode cL_law 1420 = .ok (.iconst 0, 1) := dk_3 (dk_at dksL_law_52 7 rfl rfl)
theorem dL_law_1421 : decode cL_law 1421 = .ok (.laload, 1) := dk_47 (dk_at dksL_law_52 8 rfl rfl)
theorem dL_law_1422 : decode cL_law 1422 = .ok (.iload 7, 2) := dk_21 7 (dk_at dksL_law_52 9 rfl rfl)
theorem dL_law_1424 : decode cL_law 1424 = .ok (.i2l, 1) := dk_133 (dk_at dksL_law_52 11 rfl rfl)
theorem dL_law_1425 : decode cL_law 1425 = .ok (.lcmp, 1) := dk_148 (dk_at dksL_law_52 12 rfl rfl)
theorem dL_law_1426 : decode cL_law 1426 = .ok (.ifCond .eq 5, 3) := dk_153 0 5 (dk_at dksL_law_52 13 rfl rfl)
theorem dL_law_1429 : decode cL_law 1429 = .ok (.iconst 0, 1) := dk_3 (dk_at dksL_law_52 16 rfl rfl)
theorem dL_law_1430 : decode cL_law 1430 = .ok (.ireturn, 1) := dk_172 (dk_at dksL_law_52 17 rfl rfl)
theorem dL_law_1431 : decode cL_law 1431 = .ok (.goto 1509, 3) := dk_167 5 229 (dk_at dksL_law_52 18 rfl rfl)
theorem dL_law_1434 : decode cL_law 1434 = .ok (.aload_n 1, 1) := dk_43 (dk_at dksL_law_52 21 rfl rfl)
theorem dL_law_1435 : decode cL_law 1435 = .ok (.aload_n 0, 1) := dk_42 (dk_at dksL_law_52 22 rfl rfl)
theorem dL_law_1436 : decode cL_law 1436 = .ok (.iload 5, 2) := dk_21 5 (dk_at dksL_law_53 0 rfl rfl)
theorem dL_law_1438 : decode cL_law 1438 = .ok (.iconst 1, 1) := dk_4 (dk_at dksL_law_53 2 rfl rfl)
theorem dL_law_1439 : decode cL_law 1439 = .ok (.iadd, 1) := dk_96 (dk_at dksL_law_53 3 rfl rfl)
theorem dL_law_1440 : decode cL_law 1440 = .ok (.iaload, 1) := dk_46 (dk_at dksL_law_53 4 rfl rfl)
theorem dL_law_1441 : decode cL_law 1441 = .ok (.aload_n 3, 1) := dk_45 (dk_at dksL_law_53 5 rfl rfl)
theorem dL_law_1442 : decode cL_law 1442 = .ok (.invokestatic 238, 3) := dk_184 0 238 (dk_at dksL_law_53 6 rfl rfl)
theorem dL_law_1445 : decode cL_law 1445 = .ok (.istore 6, 2) := dk_54 6 (dk_at dksL_law_53 9 rfl rfl)
theorem dL_law_1447 : decode cL_law 1447 = .ok (.aload_n 2, 1) := dk_44 (dk_at dksL_law_53 11 rfl rfl)
theorem dL_law_1448 : decode cL_law 1448 = .ok (.aload_n 0, 1) := dk_42 (dk_at dksL_law_53 12 rfl rfl)
theorem dL_law_1449 : decode cL_law 1449 = .ok (.iload 5, 2) := dk_21 5 (dk_at dksL_law_53 13 rfl rfl)
theorem dL_law_1451 : decode cL_law 1451 = .ok (.iconst 1, 1) := dk_4 (dk_at dksL_law_53 15 rfl rfl)
theorem dL_law_1452 : decode cL_law 1452 = .ok (.iadd, 1) := dk_96 (dk_at dksL_law_53 16 rfl rfl)
theorem dL_law_1453 : decode cL_law 1453 = .ok (.iaload, 1) := dk_46 (dk_at dksL_law_53 17 rfl rfl)
theorem dL_law_1454 : decode cL_law 1454 = .ok (.invokevirtual 240, 3) := dk_182 0 240 (dk_at dksL_law_53 18 rfl rfl)
theorem dL_law_1457 : decode cL_law 1457 = .ok (.istore 7, 2) := dk_54 7 (dk_at dksL_law_53 21 rfl rfl)
theorem dL_law_1459 : decode cL_law 1459 = .ok (.aload_n 2, 1) := dk_44 (dk_at dksL_law_53 23 rfl rfl)
theorem dL_law_1460 : decode cL_law 1460 = .ok (.invokevirtual 171, 3) := dk_182 0 171 (dk_at dksL_law_54 0 rfl rfl)
theorem dL_law_1463 : decode cL_law 1463 = .ok (.iload 6, 2) := dk_21 6 (dk_at dksL_law_54 3 rfl rfl)
theorem dL_law_1465 : decode cL_law 1465 = .ok (.if_icmp .eq 5, 3) := dk_159 0 5 (dk_at dksL_law_54 5 rfl rfl)
theorem dL_law_1468 : decode cL_law 1468 = .ok (.iconst 0, 1) := dk_3 (dk_at dksL_law_54 8 rfl rfl)
theorem dL_law_1469 : decode cL_law 1469 = .ok (.ireturn, 1) := dk_172 (dk_at dksL_law_54 9 rfl rfl)
theorem dL_law_1470 : decode cL_law 1470 = .ok (.iload 6, 2) := dk_21 6 (dk_at dksL_law_54 10 rfl rfl)
theorem dL_law_1472 : decode cL_law 1472 = .ok (.ifCond .ne 15, 3) := dk_154 0 15 (dk_at dksL_law_54 12 rfl rfl)
theorem dL_law_1475 : decode cL_law 1475 = .ok (.aload_n 3, 1) := dk_45 (dk_at dksL_law_54 15 rfl rfl)
theorem dL_law_1476 : decode cL_law 1476 = .ok (.iconst 0, 1) := dk_3 (dk_at dksL_law_54 16 rfl rfl)
theorem dL_law_1477 : decode cL_law 1477 = .ok (.laload, 1) := dk_47 (dk_at dksL_law_54 17 rfl rfl)
theorem dL_law_1478 : decode cL_law 1478 = .ok (.iload 7, 2) := dk_21 7 (dk_at dksL_law_54 18 rfl rfl)
theorem dL_law_1480 : decode cL_law 1480 = .ok (.i2l, 1) := dk_133 (dk_at dksL_law_54 20 rfl rfl)
theorem dL_law_1481 : decode cL_law 1481 = .ok (.lcmp, 1) := dk_148 (dk_at dksL_law_54 21 rfl rfl)
theorem dL_law_1482 : decode cL_law 1482 = .ok (.ifCond .eq 5, 3) := dk_153 0 5 (dk_at dksL_law_55 0 rfl rfl)
theorem dL_law_1485 : decode cL_law 1485 = .ok (.iconst 0, 1) := dk_3 (dk_at dksL_law_55 3 rfl rfl)
theorem dL_law_1486 : decode cL_law 1486 = .ok (.ireturn, 1) := dk_172 (dk_at dksL_law_55 4 rfl rfl)
theorem dL_law_1487 : decode cL_law 1487 = .ok (.goto 1453, 3) := dk_167 5 173 (dk_at dksL_law_55 5 rfl rfl)
theorem dL_law_1490 : decode cL_law 1490 = .ok (.aload_n 1, 1) := dk_43 (dk_at dksL_law_55 8 rfl rfl)
theorem dL_law_1491 : decode cL_law 1491 = .ok (.aload_n 0, 1) := dk_42 (dk_at dksL_law_55 9 rfl rfl)
theorem dL_law_1492 : decode cL_law 1492 = .ok (.iload 5, 2) := dk_21 5 (dk_at dksL_law_55 10 rfl rfl)
theorem dL_law_1494 : decode cL_law 1494 = .ok (.iconst 1, 1) := dk_4 (dk_at dksL_law_55 12 rfl rfl)
theorem dL_law_1495 : decode cL_law 1495 = .ok (.iadd, 1) := dk_96 (dk_at dksL_law_55 13 rfl rfl)
theorem dL_law_1496 : decode cL_law 1496 = .ok (.iaload, 1) := dk_46 (dk_at dksL_law_55 14 rfl rfl)
theorem dL_law_1497 : decode cL_law 1497 = .ok (.aload_n 3, 1) := dk_45 (dk_at dksL_law_55 15 rfl rfl)
theorem dL_law_1498 : decode cL_law 1498 = .ok (.invokestatic 241, 3) := dk_184 0 241 (dk_at dksL_law_55 16 rfl rfl)
theorem dL_law_1501 : decode cL_law 1501 = .ok (.istore 6, 2) := dk_54 6 (dk_at dksL_law_55 19 rfl rfl)
theorem dL_law_1503 : decode cL_law 1503 = .ok (.aload_n 2, 1) := dk_44 (dk_at dksL_law_55 21 rfl rfl)
theorem dL_law_1504 : decode cL_law 1504 = .ok (.aload_n 0, 1) := dk_42 (dk_at dksL_law_55 22 rfl rfl)
theorem dL_law_1505 : decode cL_law 1505 = .ok (.iload 5, 2) := dk_21 5 (dk_at dksL_law_56 0 rfl rfl)
theorem dL_law_1507 : decode cL_law 1507 = .ok (.iconst 1, 1) := dk_4 (dk_at dksL_law_56 2 rfl rfl)
theorem dL_law_1508 : decode cL_law 1508 = .ok (.iadd, 1) := dk_96 (dk_at dksL_law_56 3 rfl rfl)
theorem dL_law_1509 : decode cL_law 1509 = .ok (.iaload, 1) := dk_46 (dk_at dksL_law_56 4 rfl rfl)
theorem dL_law_1510 : decode cL_law 1510 = .ok (.invokevirtual 243, 3) := dk_182 0 243 (dk_at dksL_law_56 5 rfl rfl)
theorem dL_law_1513 : decode cL_law 1513 = .ok (.istore 7, 2) := dk_54 7 (dk_at dksL_law_56 8 rfl rfl)
theorem dL_law_1515 : decode cL_law 1515 = .ok (.aload_n 2, 1) := dk_44 (dk_at dksL_law_56 10 rfl rfl)
theorem dL_law_1516 : decode cL_law 1516 = .ok (.invokevirtual 171, 3) := dk_182 0 171 (dk_at dksL_law_56 11 rfl rfl)
theorem dL_law_1519 : decode cL_law 1519 = .ok (.iload 6, 2) := dk_21 6 (dk_at dksL_law_56 14 rfl rfl)
theorem dL_law_1521 : decode cL_law 1521 = .ok (.if_icmp .eq 5, 3) := dk_159 0 5 (dk_at dksL_law_56 16 rfl rfl)
theorem dL_law_1524 : decode cL_law 1524 = .ok (.iconst 0, 1) := dk_3 (dk_at dksL_law_56 19 rfl rfl)
theorem dL_law_1525 : decode cL_law 1525 = .ok (.ireturn, 1) := dk_172 (dk_at dksL_law_56 20 rfl rfl)
theorem dL_law_1526 : decode cL_law 1526 = .ok (.iload 6, 2) := dk_21 6 (dk_at dksL_law_56 21 rfl rfl)
theorem dL_law_1528 : decode cL_law 1528 = .ok (.ifCond .ne 15, 3) := dk_154 0 15 (dk_at dksL_law_57 0 rfl rfl)
theorem dL_law_1531 : decode cL_law 1531 = .ok (.aload_n 3, 1) := dk_45 (dk_at dksL_law_57 3 rfl rfl)
theorem dL_law_1532 : decode cL_law 1532 = .ok (.iconst 0, 1) := dk_3 (dk_at dksL_law_57 4 rfl rfl)
theorem dL_law_1533 : decode cL_law 1533 = .ok (.laload, 1) := dk_47 (dk_at dksL_law_57 5 rfl rfl)
theorem dL_law_1534 : decode cL_law 1534 = .ok (.iload 7, 2) := dk_21 7 (dk_at dksL_law_57 6 rfl rfl)
theorem dL_law_1536 : decode cL_law 1536 = .ok (.i2l, 1) := dk_133 (dk_at dksL_law_57 8 rfl rfl)
theorem dL_law_1537 : decode cL_law 1537 = .ok (.lcmp, 1) := dk_148 (dk_at dksL_law_57 9 rfl rfl)
theorem dL_law_1538 : decode cL_law 1538 = .ok (.ifCond .eq 5, 3) := dk_153 0 5 (dk_at dksL_law_57 10 rfl rfl)
theorem dL_law_1541 : decode cL_law 1541 = .ok (.iconst 0, 1) := dk_3 (dk_at dksL_law_57 13 rfl rfl)
theorem dL_law_1542 : decode cL_law 1542 = .ok (.ireturn, 1) := dk_172 (dk_at dksL_law_57 14 rfl rfl)
theorem dL_law_1543 : decode cL_law 1543 = .ok (.goto 1397, 3) := dk_167 5 117 (dk_at dksL_law_57 15 rfl rfl)
theorem dL_law_1546 : decode cL_law 1546 = .ok (.aload_n 1, 1) := dk_43 (dk_at dksL_law_57 18 rfl rfl)
theorem dL_law_1547 : decode cL_law 1547 = .ok (.aload_n 0, 1) := dk_42 (dk_at dksL_law_57 19 rfl rfl)
theorem dL_law_1548 : decode cL_law 1548 = .ok (.iload 5, 2) := dk_21 5 (dk_at dksL_law_57 20 rfl rfl)
theorem dL_law_1550 : decode cL_law 1550 = .ok (.iconst 1, 1) := dk_4 (dk_at dksL_law_57 22 rfl rfl)
theorem dL_law_1551 : decode cL_law 1551 = .ok (.iadd, 1) := dk_96 (dk_at dksL_law_57 23 rfl rfl)
theorem dL_law_1552 : decode cL_law 1552 = .ok (.iaload, 1) := dk_46 (dk_at dksL_law_58 0 rfl rfl)
theorem dL_law_1553 : decode cL_law 1553 = .ok (.aload_n 3, 1) := dk_45 (dk_at dksL_law_58 1 rfl rfl)
theorem dL_law_1554 : decode cL_law 1554 = .ok (.invokestatic 244, 3) := dk_184 0 244 (dk_at dksL_law_58 2 rfl rfl)
theorem dL_law_1557 : decode cL_law 1557 = .ok (.istore 6, 2) := dk_54 6 (dk_at dksL_law_58 5 rfl rfl)
theorem dL_law_1559 : decode cL_law 1559 = .ok (.aload_n 2, 1) := dk_44 (dk_at dksL_law_58 7 rfl rfl)
theorem dL_law_1560 : decode cL_law 1560 = .ok (.aload_n 0, 1) := dk_42 (dk_at dksL_law_58 8 rfl rfl)
theorem dL_law_1561 : decode cL_law 1561 = .ok (.iload 5, 2) := dk_21 5 (dk_at dksL_law_58 9 rfl rfl)
theorem dL_law_1563 : decode cL_law 1563 = .ok (.iconst 1, 1) := dk_4 (dk_at dksL_law_58 11 rfl rfl)
theorem dL_law_1564 : decode cL_law 1564 = .ok (.iadd, 1) := dk_96 (dk_at dksL_law_58 12 rfl rfl)
theorem dL_law_1565 : decode cL_law 1565 = .ok (.iaload, 1) := dk_46 (dk_at dksL_law_58 13 rfl rfl)
theorem dL_law_1566 : decode cL_law 1566 = .ok (.invokevirtual 246, 3) := dk_182 0 246 (dk_at dksL_law_58 14 rfl rfl)
theorem dL_law_1569 : decode cL_law 1569 = .ok (.istore 7, 2) := dk_54 7 (dk_at dksL_law_58 17 rfl rfl)
theorem dL_law_1571 : decode cL_law 1571 = .ok (.aload_n 2, 1) := dk_44 (dk_at dksL_law_58 19 rfl rfl)
theorem dL_law_1572 : decode cL_law 1572 = .ok (.invokevirtual 171, 3) := dk_182 0 171 (dk_at dksL_law_58 20 rfl rfl)
theorem dL_law_1575 : decode cL_law 1575 = .ok (.iload 6, 2) := dk_21 6 (dk_at dksL_law_59 0 rfl rfl)
theorem dL_law_1577 : decode cL_law 1577 = .ok (.if_icmp .eq 5, 3) := dk_159 0 5 (dk_at dksL_law_59 2 rfl rfl)
theorem dL_law_1580 : decode cL_law 1580 = .ok (.iconst 0, 1) := dk_3 (dk_at dksL_law_59 5 rfl rfl)
theorem dL_law_1581 : decode cL_law 1581 = .ok (.ireturn, 1) := dk_172 (dk_at dksL_law_59 6 rfl rfl)
theorem dL_law_1582 : decode cL_law 1582 = .ok (.iload 6, 2) := dk_21 6 (dk_at dksL_law_59 7 rfl rfl)
theorem dL_law_1584 : decode cL_law 1584 = .ok (.ifCond .ne 15, 3) := dk_154 0 15 (dk_at dksL_law_59 9 rfl rfl)
theorem dL_law_1587 : decode cL_law 1587 = .ok (.aload_n 3, 1) := dk_45 (dk_at dksL_law_59 12 rfl rfl)
theorem dL_law_1588 : decode cL_law 1588 = .ok (.iconst 0, 1) := dk_3 (dk_at dksL_law_59 13 rfl rfl)
theorem dL_law_1589 : decode cL_law 1589 = .ok (.laload, 1) := dk_47 (dk_at dksL_law_59 14 rfl rfl)
theorem dL_law_1590 : decode cL_law 1590 = .ok (.iload 7, 2) := dk_21 7 (dk_at dksL_law_59 15 rfl rfl)
theorem dL_law_1592 : decode cL_law 1592 = .ok (.i2l, 1) := dk_133 (dk_at dksL_law_59 17 rfl rfl)
theorem dL_law_1593 : decode cL_law 1593 = .ok (.lcmp, 1) := dk_148 (dk_at dksL_law_59 18 rfl rfl)
theorem dL_law_1594 : decode cL_law 1594 = .ok (.ifCond .eq 5, 3) := dk_153 0 5 (dk_at dksL_law_59 19 rfl rfl)
theorem dL_law_1597 : decode cL_law 1597 = .ok (.iconst 0, 1) := dk_3 (dk_at dksL_law_59 22 rfl rfl)
theorem dL_law_1598 : decode cL_law 1598 = .ok (.ireturn, 1) := dk_172 (dk_at dksL_law_59 23 rfl rfl)
theorem dL_law_1599 : decode cL_law 1599 = .ok (.goto 1341, 3) := dk_167 5 61 (dk_at dksL_law_60 0 rfl rfl)
theorem dL_law_1602 : decode cL_law 1602 = .ok (.aload_n 1, 1) := dk_43 (dk_at dksL_law_60 3 rfl rfl)
theorem dL_law_1603 : decode cL_law 1603 = .ok (.aload_n 0, 1) := dk_42 (dk_at dksL_law_60 4 rfl rfl)
theorem dL_law_1604 : decode cL_law 1604 = .ok (.iload 5, 2) := dk_21 5 (dk_at dksL_law_60 5 rfl rfl)
theorem dL_law_1606 : decode cL_law 1606 = .ok (.iconst 1, 1) := dk_4 (dk_at dksL_law_60 7 rfl rfl)
theorem dL_law_1607 : decode cL_law 1607 = .ok (.iadd, 1) := dk_96 (dk_at dksL_law_60 8 rfl rfl)
theorem dL_law_1608 : decode cL_law 1608 = .ok (.iaload, 1) := dk_46 (dk_at dksL_law_60 9 rfl rfl)
theorem dL_law_1609 : decode cL_law 1609 = .ok (.aload_n 0, 1) := dk_42 (dk_at dksL_law_60 10 rfl rfl)
theorem dL_law_1610 : decode cL_law 1610 = .ok (.iload 5, 2) := dk_21 5 (dk_at dksL_law_60 11 rfl rfl)
theorem dL_law_1612 : decode cL_law 1612 = .ok (.iconst 2, 1) := dk_5 (dk_at dksL_law_60 13 rfl rfl)
theorem dL_law_1613 : decode cL_law 1613 = .ok (.iadd, 1) := dk_96 (dk_at dksL_law_60 14 rfl rfl)
theorem dL_law_1614 : decode cL_law 1614 = .ok (.iaload, 1) := dk_46 (dk_at dksL_law_60 15 rfl rfl)
theorem dL_law_1615 : decode cL_law 1615 = .ok (.aload_n 3, 1) := dk_45 (dk_at dksL_law_60 16 rfl rfl)
theorem dL_law_1616 : decode cL_law 1616 = .ok (.invokestatic 247, 3) := dk_184 0 247 (dk_at dksL_law_60 17 rfl rfl)
theorem dL_law_1619 : decode cL_law 1619 = .ok (.istore 6, 2) := dk_54 6 (dk_at dksL_law_60 20 rfl rfl)
theorem dL_law_1621 : decode cL_law 1621 = .ok (.aload_n 2, 1) := dk_44 (dk_at dksL_law_60 22 rfl rfl)
theorem dL_law_1622 : decode cL_law 1622 = .ok (.aload_n 0, 1) := dk_42 (dk_at dksL_law_60 23 rfl rfl)
theorem dL_law_1623 : decode cL_law 1623 = .ok (.iload 5, 2) := dk_21 5 (dk_at dksL_law_61 0 rfl rfl)
theorem dL_law_1625 : decode cL_law 1625 = .ok (.iconst 1, 1) := dk_4 (dk_at dksL_law_61 2 rfl rfl)
theorem dL_law_1626 : decode cL_law 1626 = .ok (.iadd, 1) := dk_96 (dk_at dksL_law_61 3 rfl rfl)
theorem dL_law_1627 : decode cL_law 1627 = .ok (.iaload, 1) := dk_46 (dk_at dksL_law_61 4 rfl rfl)
theorem dL_law_1628 : decode cL_law 1628 = .ok (.aload_n 0, 1) := dk_42 (dk_at dksL_law_61 5 rfl rfl)
theorem dL_law_1629 : decode cL_law 1629 = .ok (.iload 5, 2) := dk_21 5 (dk_at dksL_law_61 6 rfl rfl)
theorem dL_law_1631 : decode cL_law 1631 = .ok (.iconst 2, 1) := dk_5 (dk_at dksL_law_61 8 rfl rfl)
theorem dL_law_1632 : decode cL_law 1632 = .ok (.iadd, 1) := dk_96 (dk_at dksL_law_61 9 rfl rfl)
theorem dL_law_1633 : decode cL_law 1633 = .ok (.iaload, 1) := dk_46 (dk_at dksL_law_61 10 rfl rfl)
theorem dL_law_1634 : decode cL_law 1634 = .ok (.invokevirtual 249, 3) := dk_182 0 249 (dk_at dksL_law_61 11 rfl rfl)
theorem dL_law_1637 : decode cL_law 1637 = .ok (.istore 7, 2) := dk_54 7 (dk_at dksL_law_61 14 rfl rfl)
theorem dL_law_1639 : decode cL_law 1639 = .ok (.aload_n 2, 1) := dk_44 (dk_at dksL_law_61 16 rfl rfl)
theorem dL_law_1640 : decode cL_law 1640 = .ok (.invokevirtual 171, 3) := dk_182 0 171 (dk_at dksL_law_61 17 rfl rfl)
theorem dL_law_1643 : decode cL_law 1643 = .ok (.iload 6, 2) := dk_21 6 (dk_at dksL_law_61 20 rfl rfl)
theorem dL_law_1645 : decode cL_law 1645 = .ok (.if_icmp .eq 5, 3) := dk_159 0 5 (dk_at dksL_law_62 0 rfl rfl)
theorem dL_law_1648 : decode cL_law 1648 = .ok (.iconst 0, 1) := dk_3 (dk_at dksL_law_62 3 rfl rfl)
theorem dL_law_1649 : decode cL_law 1649 = .ok (.ireturn, 1) := dk_172 (dk_at dksL_law_62 4 rfl rfl)
theorem dL_law_1650 : decode cL_law 1650 = .ok (.iload 6, 2) := dk_21 6 (dk_at dksL_law_62 5 rfl rfl)
theorem dL_law_1652 : decode cL_law 1652 = .ok (.ifCond .ne 15, 3) := dk_154 0 15 (dk_at dksL_law_62 7 rfl rfl)
theorem dL_law_1655 : decode cL_law 1655 = .ok (.aload_n 3, 1) := dk_45 (dk_at dksL_law_62 10 rfl rfl)
theorem dL_law_1656 : decode cL_law 1656 = .ok (.iconst 0, 1) := dk_3 (dk_at dksL_law_62 11 rfl rfl)
theorem dL_law_1657 : decode cL_law 1657 = .ok (.laload, 1) := dk_47 (dk_at dksL_law_62 12 rfl rfl)
theorem dL_law_1658 : decode cL_law 1658 = .ok (.iload 7, 2) := dk_21 7 (dk_at dksL_law_62 13 rfl rfl)
theorem dL_law_1660 : decode cL_law 1660 = .ok (.i2l, 1) := dk_133 (dk_at dksL_law_62 15 rfl rfl)
theorem dL_law_1661 : decode cL_law 1661 = .ok (.lcmp, 1) := dk_148 (dk_at dksL_law_62 16 rfl rfl)
theorem dL_law_1662 : decode cL_law 1662 = .ok (.ifCond .eq 5, 3) := dk_153 0 5 (dk_at dksL_law_62 17 rfl rfl)
theorem dL_law_1665 : decode cL_law 1665 = .ok (.iconst 0, 1) := dk_3 (dk_at dksL_law_62 20 rfl rfl)
theorem dL_law_1666 : decode cL_law 1666 = .ok (.ireturn, 1) := dk_172 (dk_at dksL_law_62 21 rfl rfl)
theorem dL_law_1667 : decode cL_law 1667 = .ok (.goto 1273, 3) := dk_167 4 249 (dk_at dksL_law_63 0 rfl rfl)
theorem dL_law_1670 : decode cL_law 1670 = .ok (.aload_n 1, 1) := dk_43 (dk_at dksL_law_63 3 rfl rfl)
theorem dL_law_1671 : decode cL_law 1671 = .ok (.aload_n 0, 1) := dk_42 (dk_at dksL_law_63 4 rfl rfl)
theorem dL_law_1672 : decode cL_law 1672 = .ok (.iload 5, 2) := dk_21 5 (dk_at dksL_law_63 5 rfl rfl)
theorem dL_law_1674 : decode cL_law 1674 = .ok (.iconst 1, 1) := dk_4 (dk_at dksL_law_63 7 rfl rfl)
theorem dL_law_1675 : decode cL_law 1675 = .ok (.iadd, 1) := dk_96 (dk_at dksL_law_63 8 rfl rfl)
theorem dL_law_1676 : decode cL_law 1676 = .ok (.iaload, 1) := dk_46 (dk_at dksL_law_63 9 rfl rfl)
theorem dL_law_1677 : decode cL_law 1677 = .ok (.aload_n 0, 1) := dk_42 (dk_at dksL_law_63 10 rfl rfl)
theorem dL_law_1678 : decode cL_law 1678 = .ok (.iload 5, 2) := dk_21 5 (dk_at dksL_law_63 11 rfl rfl)
theorem dL_law_1680 : decode cL_law 1680 = .ok (.iconst 2, 1) := dk_5 (dk_at dksL_law_63 13 rfl rfl)
theorem dL_law_1681 : decode cL_law 1681 = .ok (.iadd, 1) := dk_96 (dk_at dksL_law_63 14 rfl rfl)
theorem dL_law_1682 : decode cL_law 1682 = .ok (.iaload, 1) := dk_46 (dk_at dksL_law_63 15 rfl rfl)
theorem dL_law_1683 : decode cL_law 1683 = .ok (.aload_n 3, 1) := dk_45 (dk_at dksL_law_63 16 rfl rfl)
theorem dL_law_1684 : decode cL_law 1684 = .ok (.invokestatic 250, 3) := dk_184 0 250 (dk_at dksL_law_63 17 rfl rfl)
theorem dL_law_1687 : decode cL_law 1687 = .ok (.istore 6, 2) := dk_54 6 (dk_at dksL_law_63 20 rfl rfl)
theorem dL_law_1689 : decode cL_law 1689 = .ok (.aload_n 2, 1) := dk_44 (dk_at dksL_law_63 22 rfl rfl)
theorem dL_law_1690 : decode cL_law 1690 = .ok (.aload_n 0, 1) := dk_42 (dk_at dksL_law_63 23 rfl rfl)
theorem dL_law_1691 : decode cL_law 1691 = .ok (.iload 5, 2) := dk_21 5 (dk_at dksL_law_64 0 rfl rfl)
theorem dL_law_1693 : decode cL_law 1693 = .ok (.iconst 1, 1) := dk_4 (dk_at dksL_law_64 2 rfl rfl)
theorem dL_law_1694 : decode cL_law 1694 = .ok (.iadd, 1) := dk_96 (dk_at dksL_law_64 3 rfl rfl)
theorem dL_law_1695 : decode cL_law 1695 = .ok (.iaload, 1) := dk_46 (dk_at dksL_law_64 4 rfl rfl)
theorem dL_law_1696 : decode cL_law 1696 = .ok (.aload_n 0, 1) := dk_42 (dk_at dksL_law_64 5 rfl rfl)
theorem dL_law_1697 : decode cL_law 1697 = .ok (.iload 5, 2) := dk_21 5 (dk_at dksL_law_64 6 rfl rfl)
theorem dL_law_1699 : decode cL_law 1699 = .ok (.iconst 2, 1) := dk_5 (dk_at dksL_law_64 8 rfl rfl)
theorem dL_law_1700 : decode cL_law 1700 = .ok (.iadd, 1) := dk_96 (dk_at dksL_law_64 9 rfl rfl)
theorem dL_law_1701 : decode cL_law 1701 = .ok (.iaload, 1) := dk_46 (dk_at dksL_law_64 10 rfl rfl)
theorem dL_law_1702 : decode cL_law 1702 = .ok (.invokevirtual 252, 3) := dk_182 0 252 (dk_at dksL_law_64 11 rfl rfl)
theorem dL_law_1705 : decode cL_law 1705 = .ok (.istore 7, 2) := dk_54 7 (dk_at dksL_law_64 14 rfl rfl)
theorem dL_law_1707 : decode cL_law 1707 = .ok (.aload_n 2, 1) := dk_44 (dk_at dksL_law_64 16 rfl rfl)
theorem dL_law_1708 : decode cL_law 1708 = .ok (.invokevirtual 171, 3) := dk_182 0 171 (dk_at dksL_law_64 17 rfl rfl)
theorem dL_law_1711 : decode cL_law 1711 = .ok (.iload 6, 2) := dk_21 6 (dk_at dksL_law_64 20 rfl rfl)
theorem dL_law_1713 : decode cL_law 1713 = .ok (.if_icmp .eq 5, 3) := dk_159 0 5 (dk_at dksL_law_65 0 rfl rfl)
theorem dL_law_1716 : decode cL_law 1716 = .ok (.iconst 0, 1) := dk_3 (dk_at dksL_law_65 3 rfl rfl)
theorem dL_law_1717 : decode cL_law 1717 = .ok (.ireturn, 1) := dk_172 (dk_at dksL_law_65 4 rfl rfl)
theorem dL_law_1718 : decode cL_law 1718 = .ok (.iload 6, 2) := dk_21 6 (dk_at dksL_law_65 5 rfl rfl)
theorem dL_law_1720 : decode cL_law 1720 = .ok (.ifCond .ne 15, 3) := dk_154 0 15 (dk_at dksL_law_65 7 rfl rfl)
theorem dL_law_1723 : decode cL_law 1723 = .ok (.aload_n 3, 1) := dk_45 (dk_at dksL_law_65 10 rfl rfl)
theorem dL_law_1724 : decode cL_law 1724 = .ok (.iconst 0, 1) := dk_3 (dk_at dksL_law_65 11 rfl rfl)
theorem dL_law_1725 : decode cL_law 1725 = .ok (.laload, 1) := dk_47 (dk_at dksL_law_65 12 rfl rfl)
theorem dL_law_1726 : decode cL_law 1726 = .ok (.iload 7, 2) := dk_21 7 (dk_at dksL_law_65 13 rfl rfl)
theorem dL_law_1728 : decode cL_law 1728 = .ok (.i2l, 1) := dk_133 (dk_at dksL_law_65 15 rfl rfl)
theorem dL_law_1729 : decode cL_law 1729 = .ok (.lcmp, 1) := dk_148 (dk_at dksL_law_65 16 rfl rfl)
theorem dL_law_1730 : decode cL_law 1730 = .ok (.ifCond .eq 5, 3) := dk_153 0 5 (dk_at dksL_law_65 17 rfl rfl)
theorem dL_law_1733 : decode cL_law 1733 = .ok (.iconst 0, 1) := dk_3 (dk_at dksL_law_65 20 rfl rfl)
theorem dL_law_1734 : decode cL_law 1734 = .ok (.ireturn, 1) := dk_172 (dk_at dksL_law_65 21 rfl rfl)
theorem dL_law_1735 : decode cL_law 1735 = .ok (.goto 1205, 3) := dk_167 4 181 (dk_at dksL_law_66 0 rfl rfl)
theorem dL_law_1738 : decode cL_law 1738 = .ok (.aload_n 1, 1) := dk_43 (dk_at dksL_law_66 3 rfl rfl)
theorem dL_law_1739 : decode cL_law 1739 = .ok (.aload_n 0, 1) := dk_42 (dk_at dksL_law_66 4 rfl rfl)
theorem dL_law_1740 : decode cL_law 1740 = .ok (.iload 5, 2) := dk_21 5 (dk_at dksL_law_66 5 rfl rfl)
theorem dL_law_1742 : decode cL_law 1742 = .ok (.iconst 1, 1) := dk_4 (dk_at dksL_law_66 7 rfl rfl)
theorem dL_law_1743 : decode cL_law 1743 = .ok (.iadd, 1) := dk_96 (dk_at dksL_law_66 8 rfl rfl)
theorem dL_law_1744 : decode cL_law 1744 = .ok (.iaload, 1) := dk_46 (dk_at dksL_law_66 9 rfl rfl)
theorem dL_law_1745 : decode cL_law 1745 = .ok (.aload_n 0, 1) := dk_42 (dk_at dksL_law_66 10 rfl rfl)
theorem dL_law_1746 : decode cL_law 1746 = .ok (.iload 5, 2) := dk_21 5 (dk_at dksL_law_66 11 rfl rfl)
theorem dL_law_1748 : decode cL_law 1748 = .ok (.iconst 2, 1) := dk_5 (dk_at dksL_law_66 13 rfl rfl)
theorem dL_law_1749 : decode cL_law 1749 = .ok (.iadd, 1) := dk_96 (dk_at dksL_law_66 14 rfl rfl)
theorem dL_law_1750 : decode cL_law 1750 = .ok (.iaload, 1) := dk_46 (dk_at dksL_law_66 15 rfl rfl)
theorem dL_law_1751 : decode cL_law 1751 = .ok (.aload_n 3, 1) := dk_45 (dk_at dksL_law_66 16 rfl rfl)
theorem dL_law_1752 : decode cL_law 1752 = .ok (.invokestatic 253, 3) := dk_184 0 253 (dk_at dksL_law_66 17 rfl rfl)
theorem dL_law_1755 : decode cL_law 1755 = .ok (.istore 6, 2) := dk_54 6 (dk_at dksL_law_66 20 rfl rfl)
theorem dL_law_1757 : decode cL_law 1757 = .ok (.aload_n 2, 1) := dk_44 (dk_at dksL_law_66 22 rfl rfl)
theorem dL_law_1758 : decode cL_law 1758 = .ok (.aload_n 0, 1) := dk_42 (dk_at dksL_law_66 23 rfl rfl)
theorem dL_law_1759 : decode cL_law 1759 = .ok (.iload 5, 2) := dk_21 5 (dk_at dksL_law_67 0 rfl rfl)
theorem dL_law_1761 : decode cL_law 1761 = .ok (.iconst 1, 1) := dk_4 (dk_at dksL_law_67 2 rfl rfl)
theorem dL_law_1762 : decode cL_law 1762 = .ok (.iadd, 1) := dk_96 (dk_at dksL_law_67 3 rfl rfl)
theorem dL_law_1763 : decode cL_law 1763 = .ok (.iaload, 1) := dk_46 (dk_at dksL_law_67 4 rfl rfl)
theorem dL_law_1764 : decode cL_law 1764 = .ok (.aload_n 0, 1) := dk_42 (dk_at dksL_law_67 5 rfl rfl)
theorem dL_law_1765 : decode cL_law 1765 = .ok (.iload 5, 2) := dk_21 5 (dk_at dksL_law_67 6 rfl rfl)
theorem dL_law_1767 : decode cL_law 1767 = .ok (.iconst 2, 1) := dk_5 (dk_at dksL_law_67 8 rfl rfl)
theorem dL_law_1768 : decode cL_law 1768 = .ok (.iadd, 1) := dk_96 (dk_at dksL_law_67 9 rfl rfl)
theorem dL_law_1769 : decode cL_law 1769 = .ok (.iaload, 1) := dk_46 (dk_at dksL_law_67 10 rfl rfl)
theorem dL_law_1770 : decode cL_law 1770 = .ok (.invokevirtual 255, 3) := dk_182 0 255 (dk_at dksL_law_67 11 rfl rfl)
theorem dL_law_1773 : decode cL_law 1773 = .ok (.istore 7, 2) := dk_54 7 (dk_at dksL_law_67 14 rfl rfl)
theorem dL_law_1775 : decode cL_law 1775 = .ok (.aload_n 2, 1) := dk_44 (dk_at dksL_law_67 16 rfl rfl)
theorem dL_law_1776 : decode cL_law 1776 = .ok (.invokevirtual 171, 3) := dk_182 0 171 (dk_at dksL_law_67 17 rfl rfl)
theorem dL_law_1779 : decode cL_law 1779 = .ok (.iload 6, 2) := dk_21 6 (dk_at dksL_law_67 20 rfl rfl)
theorem dL_law_1781 : decode cL_law 1781 = .ok (.if_icmp .eq 5, 3) := dk_159 0 5 (dk_at dksL_law_68 0 rfl rfl)
theorem dL_law_1784 : decode cL_law 1784 = .ok (.iconst 0, 1) := dk_3 (dk_at dksL_law_68 3 rfl rfl)
theorem dL_law_1785 : decode cL_law 1785 = .ok (.ireturn, 1) := dk_172 (dk_at dksL_law_68 4 rfl rfl)
theorem dL_law_1786 : decode cL_law 1786 = .ok (.iload 6, 2) := dk_21 6 (dk_at dksL_law_68 5 rfl rfl)
theorem dL_law_1788 : decode cL_law 1788 = .ok (.ifCond .ne 15, 3) := dk_154 0 15 (dk_at dksL_law_68 7 rfl rfl)
theorem dL_law_1791 : decode cL_law 1791 = .ok (.aload_n 3, 1) := dk_45 (dk_at dksL_law_68 10 rfl rfl)
theorem dL_law_1792 : decode cL_law 1792 = .ok (.iconst 0, 1) := dk_3 (dk_at dksL_law_68 11 rfl rfl)
theorem dL_law_1793 : decode cL_law 1793 = .ok (.laload, 1) := dk_47 (dk_at dksL_law_68 12 rfl rfl)
theorem dL_law_1794 : decode cL_law 1794 = .ok (.iload 7, 2) := dk_21 7 (dk_at dksL_law_68 13 rfl rfl)
theorem dL_law_1796 : decode cL_law 1796 = .ok (.i2l, 1) := dk_133 (dk_at dksL_law_68 15 rfl rfl)
theorem dL_law_1797 : decode cL_law 1797 = .ok (.lcmp, 1) := dk_148 (dk_at dksL_law_68 16 rfl rfl)
theorem dL_law_1798 : decode cL_law 1798 = .ok (.ifCond .eq 5, 3) := dk_153 0 5 (dk_at dksL_law_68 17 rfl rfl)
theorem dL_law_1801 : decode cL_law 1801 = .ok (.iconst 0, 1) := dk_3 (dk_at dksL_law_68 20 rfl rfl)
theorem dL_law_1802 : decode cL_law 1802 = .ok (.ireturn, 1) := dk_172 (dk_at dksL_law_68 21 rfl rfl)
theorem dL_law_1803 : decode cL_law 1803 = .ok (.goto 1137, 3) := dk_167 4 113 (dk_at dksL_law_69 0 rfl rfl)
theorem dL_law_1806 : decode cL_law 1806 = .ok (.aload_n 1, 1) := dk_43 (dk_at dksL_law_69 3 rfl rfl)
theorem dL_law_1807 : decode cL_law 1807 = .ok (.aload_n 0, 1) := dk_42 (dk_at dksL_law_69 4 rfl rfl)
theorem dL_law_1808 : decode cL_law 1808 = .ok (.iload 5, 2) := dk_21 5 (dk_at dksL_law_69 5 rfl rfl)
theorem dL_law_1810 : decode cL_law 1810 = .ok (.iconst 1, 1) := dk_4 (dk_at dksL_law_69 7 rfl rfl)
theorem dL_law_1811 : decode cL_law 1811 = .ok (.iadd, 1) := dk_96 (dk_at dksL_law_69 8 rfl rfl)
theorem dL_law_1812 : decode cL_law 1812 = .ok (.iaload, 1) := dk_46 (dk_at dksL_law_69 9 rfl rfl)
theorem dL_law_1813 : decode cL_law 1813 = .ok (.aload_n 0, 1) := dk_42 (dk_at dksL_law_69 10 rfl rfl)
theorem dL_law_1814 : decode cL_law 1814 = .ok (.iload 5, 2) := dk_21 5 (dk_at dksL_law_69 11 rfl rfl)
theorem dL_law_1816 : decode cL_law 1816 = .ok (.iconst 2, 1) := dk_5 (dk_at dksL_law_69 13 rfl rfl)
theorem dL_law_1817 : decode cL_law 1817 = .ok (.iadd, 1) := dk_96 (dk_at dksL_law_69 14 rfl rfl)
theorem dL_law_1818 : decode cL_law 1818 = .ok (.iaload, 1) := dk_46 (dk_at dksL_law_69 15 rfl rfl)
theorem dL_law_1819 : decode cL_law 1819 = .ok (.aload_n 3, 1) := dk_45 (dk_at dksL_law_69 16 rfl rfl)
theorem dL_law_1820 : decode cL_law 1820 = .ok (.invokestatic 256, 3) := dk_184 1 0 (dk_at dksL_law_69 17 rfl rfl)
theorem dL_law_1823 : decode cL_law 1823 = .ok (.istore 6, 2) := dk_54 6 (dk_at dksL_law_69 20 rfl rfl)
theorem dL_law_1825 : decode cL_law 1825 = .ok (.aload_n 2, 1) := dk_44 (dk_at dksL_law_69 22 rfl rfl)
theorem dL_law_1826 : decode cL_law 1826 = .ok (.aload_n 0, 1) := dk_42 (dk_at dksL_law_69 23 rfl rfl)
theorem dL_law_1827 : decode cL_law 1827 = .ok (.iload 5, 2) := dk_21 5 (dk_at dksL_law_70 0 rfl rfl)
theorem dL_law_1829 : decode cL_law 1829 = .ok (.iconst 1, 1) := dk_4 (dk_at dksL_law_70 2 rfl rfl)
theorem dL_law_1830 : decode cL_law 1830 = .ok (.iadd, 1) := dk_96 (dk_at dksL_law_70 3 rfl rfl)
theorem dL_law_1831 : decode cL_law 1831 = .ok (.iaload, 1) := dk_46 (dk_at dksL_law_70 4 rfl rfl)
theorem dL_law_1832 : decode cL_law 1832 = .ok (.aload_n 0, 1) := dk_42 (dk_at dksL_law_70 5 rfl rfl)
theorem dL_law_1833 : decode cL_law 1833 = .ok (.iload 5, 2) := dk_21 5 (dk_at dksL_law_70 6 rfl rfl)
theorem dL_law_1835 : decode cL_law 1835 = .ok (.iconst 2, 1) := dk_5 (dk_at dksL_law_70 8 rfl rfl)
theorem dL_law_1836 : decode cL_law 1836 = .ok (.iadd, 1) := dk_96 (dk_at dksL_law_70 9 rfl rfl)
theorem dL_law_1837 : decode cL_law 1837 = .ok (.iaload, 1) := dk_46 (dk_at dksL_law_70 10 rfl rfl)
theorem dL_law_1838 : decode cL_law 1838 = .ok (.invokevirtual 258, 3) := dk_182 1 2 (dk_at dksL_law_70 11 rfl rfl)
theorem dL_law_1841 : decode cL_law 1841 = .ok (.istore 7, 2) := dk_54 7 (dk_at dksL_law_70 14 rfl rfl)
theorem dL_law_1843 : decode cL_law 1843 = .ok (.aload_n 2, 1) := dk_44 (dk_at dksL_law_70 16 rfl rfl)
theorem dL_law_1844 : decode cL_law 1844 = .ok (.invokevirtual 171, 3) := dk_182 0 171 (dk_at dksL_law_70 17 rfl rfl)
theorem dL_law_1847 : decode cL_law 1847 = .ok (.iload 6, 2) := dk_21 6 (dk_at dksL_law_70 20 rfl rfl)
theorem dL_law_1849 : decode cL_law 1849 = .ok (.if_icmp .eq 5, 3) := dk_159 0 5 (dk_at dksL_law_71 0 rfl rfl)
theorem dL_law_1852 : decode cL_law 1852 = .ok (.iconst 0, 1) := dk_3 (dk_at dksL_law_71 3 rfl rfl)
theorem dL_law_1853 : decode cL_law 1853 = .ok (.ireturn, 1) := dk_172 (dk_at dksL_law_71 4 rfl rfl)
theorem dL_law_1854 : decode cL_law 1854 = .ok (.iload 6, 2) := dk_21 6 (dk_at dksL_law_71 5 rfl rfl)
theorem dL_law_1856 : decode cL_law 1856 = .ok (.ifCond .ne 22, 3) := dk_154 0 22 (dk_at dksL_law_71 7 rfl rfl)
theorem dL_law_1859 : decode cL_law 1859 = .ok (.aload_n 3, 1) := dk_45 (dk_at dksL_law_71 10 rfl rfl)
theorem dL_law_1860 : decode cL_law 1860 = .ok (.iconst 0, 1) := dk_3 (dk_at dksL_law_71 11 rfl rfl)
theorem dL_law_1861 : decode cL_law 1861 = .ok (.laload, 1) := dk_47 (dk_at dksL_law_71 12 rfl rfl)
theorem dL_law_1862 : decode cL_law 1862 = .ok (.iload 7, 2) := dk_21 7 (dk_at dksL_law_71 13 rfl rfl)
theorem dL_law_1864 : decode cL_law 1864 = .ok (.ifCond .eq 7, 3) := dk_153 0 7 (dk_at dksL_law_71 15 rfl rfl)
theorem dL_law_1867 : decode cL_law 1867 = .ok (.lconst 1, 1) := dk_10 (dk_at dksL_law_71 18 rfl rfl)
theorem dL_law_1868 : decode cL_law 1868 = .ok (.goto 4, 3) := dk_167 0 4 (dk_at dksL_law_71 19 rfl rfl)
theorem dL_law_1871 : decode cL_law 1871 = .ok (.lconst 0, 1) := dk_9 (dk_at dksL_law_71 22 rfl rfl)
theorem dL_law_1872 : decode cL_law 1872 = .ok (.lcmp, 1) := dk_148 (dk_at dksL_law_71 23 rfl rfl)
theorem dL_law_1873 : decode cL_law 1873 = .ok (.ifCond .eq 5, 3) := dk_153 0 5 (dk_at dksL_law_72 0 rfl rfl)
theorem dL_law_1876 : decode cL_law 1876 = .ok (.iconst 0, 1) := dk_3 (dk_at dksL_law_72 3 rfl rfl)
theorem dL_law_1877 : decode cL_law 1877 = .ok (.ireturn, 1) := dk_172 (dk_at dksL_law_72 4 rfl rfl)
theorem dL_law_1878 : decode cL_law 1878 = .ok (.goto 1062, 3) := dk_167 4 38 (dk_at dksL_law_72 5 rfl rfl)
theorem dL_law_1881 : decode cL_law 1881 = .ok (.aload_n 1, 1) := dk_43 (dk_at dksL_law_72 8 rfl rfl)
theorem dL_law_1882 : decode cL_law 1882 = .ok (.aload_n 0, 1) := dk_42 (dk_at dksL_law_72 9 rfl rfl)
theorem dL_law_1883 : decode cL_law 1883 = .ok (.iload 5, 2) := dk_21 5 (dk_at dksL_law_72 10 rfl rfl)
theorem dL_law_1885 : decode cL_law 1885 = .ok (.iconst 1, 1) := dk_4 (dk_at dksL_law_72 12 rfl rfl)
theorem dL_law_1886 : decode cL_law 1886 = .ok (.iadd, 1) := dk_96 (dk_at dksL_law_72 13 rfl rfl)
theorem dL_law_1887 : decode cL_law 1887 = .ok (.iaload, 1) := dk_46 (dk_at dksL_law_72 14 rfl rfl)
theorem dL_law_1888 : decode cL_law 1888 = .ok (.aload_n 0, 1) := dk_42 (dk_at dksL_law_72 15 rfl rfl)
theorem dL_law_1889 : decode cL_law 1889 = .ok (.iload 5, 2) := dk_21 5 (dk_at dksL_law_72 16 rfl rfl)
theorem dL_law_1891 : decode cL_law 1891 = .ok (.iconst 2, 1) := dk_5 (dk_at dksL_law_72 18 rfl rfl)
theorem dL_law_1892 : decode cL_law 1892 = .ok (.iadd, 1) := dk_96 (dk_at dksL_law_72 19 rfl rfl)
theorem dL_law_1893 : decode cL_law 1893 = .ok (.iaload, 1) := dk_46 (dk_at dksL_law_72 20 rfl rfl)
theorem dL_law_1894 : decode cL_law 1894 = .ok (.aload_n 3, 1) := dk_45 (dk_at dksL_law_72 21 rfl rfl)
theorem dL_law_1895 : decode cL_law 1895 = .ok (.invokestatic 259, 3) := dk_184 1 3 (dk_at dksL_law_73 0 rfl rfl)
theorem dL_law_1898 : decode cL_law 1898 = .ok (.istore 6, 2) := dk_54 6 (dk_at dksL_law_73 3 rfl rfl)
theorem dL_law_1900 : decode cL_law 1900 = .ok (.aload_n 2, 1) := dk_44 (dk_at dksL_law_73 5 rfl rfl)
theorem dL_law_1901 : decode cL_law 1901 = .ok (.aload_n 0, 1) := dk_42 (dk_at dksL_law_73 6 rfl rfl)
theorem dL_law_1902 : decode cL_law 1902 = .ok (.iload 5, 2) := dk_21 5 (dk_at dksL_law_73 7 rfl rfl)
theorem dL_law_1904 : decode cL_law 1904 = .ok (.iconst 1, 1) := dk_4 (dk_at dksL_law_73 9 rfl rfl)
theorem dL_law_1905 : decode cL_law 1905 = .ok (.iadd, 1) := dk_96 (dk_at dksL_law_73 10 rfl rfl)
theorem dL_law_1906 : decode cL_law 1906 = .ok (.iaload, 1) := dk_46 (dk_at dksL_law_73 11 rfl rfl)
theorem dL_law_1907 : decode cL_law 1907 = .ok (.aload_n 0, 1) := dk_42 (dk_at dksL_law_73 12 rfl rfl)
theorem dL_law_1908 : decode cL_law 1908 = .ok (.iload 5, 2) := dk_21 5 (dk_at dksL_law_73 13 rfl rfl)
theorem dL_law_1910 : decode cL_law 1910 = .ok (.iconst 2, 1) := dk_5 (dk_at dksL_law_73 15 rfl rfl)
theorem dL_law_1911 : decode cL_law 1911 = .ok (.iadd, 1) := dk_96 (dk_at dksL_law_73 16 rfl rfl)
theorem dL_law_1912 : decode cL_law 1912 = .ok (.iaload, 1) := dk_46 (dk_at dksL_law_73 17 rfl rfl)
theorem dL_law_1913 : decode cL_law 1913 = .ok (.invokevirtual 261, 3) := dk_182 1 5 (dk_at dksL_law_73 18 rfl rfl)
theorem dL_law_1916 : decode cL_law 1916 = .ok (.istore 7, 2) := dk_54 7 (dk_at dksL_law_73 21 rfl rfl)
theorem dL_law_1918 : decode cL_law 1918 = .ok (.aload_n 2, 1) := dk_44 (dk_at dksL_law_73 23 rfl rfl)
theorem dL_law_1919 : decode cL_law 1919 = .ok (.invokevirtual 171, 3) := dk_182 0 171 (dk_at dksL_law_74 0 rfl rfl)
theorem dL_law_1922 : decode cL_law 1922 = .ok (.iload 6, 2) := dk_21 6 (dk_at dksL_law_74 3 rfl rfl)
theorem dL_law_1924 : decode cL_law 1924 = .ok (.if_icmp .eq 5, 3) := dk_159 0 5 (dk_at dksL_law_74 5 rfl rfl)
theorem dL_law_1927 : decode cL_law 1927 = .ok (.iconst 0, 1) := dk_3 (dk_at dksL_law_74 8 rfl rfl)
theorem dL_law_1928 : decode cL_law 1928 = .ok (.ireturn, 1) := dk_172 (dk_at dksL_law_74 9 rfl rfl)
theorem dL_law_1929 : decode cL_law 1929 = .ok (.iload 6, 2) := dk_21 6 (dk_at dksL_law_74 10 rfl rfl)
theorem dL_law_1931 : decode cL_law 1931 = .ok (.ifCond .ne 15, 3) := dk_154 0 15 (dk_at dksL_law_74 12 rfl rfl)
theorem dL_law_1934 : decode cL_law 1934 = .ok (.aload_n 3, 1) := dk_45 (dk_at dksL_law_74 15 rfl rfl)
theorem dL_law_1935 : decode cL_law 1935 = .ok (.iconst 0, 1) := dk_3 (dk_at dksL_law_74 16 rfl rfl)
theorem dL_law_1936 : decode cL_law 1936 = .ok (.laload, 1) := dk_47 (dk_at dksL_law_74 17 rfl rfl)
theorem dL_law_1937 : decode cL_law 1937 = .ok (.iload 7, 2) := dk_21 7 (dk_at dksL_law_74 18 rfl rfl)
theorem dL_law_1939 : decode cL_law 1939 = .ok (.i2l, 1) := dk_133 (dk_at dksL_law_74 20 rfl rfl)
theorem dL_law_1940 : decode cL_law 1940 = .ok (.lcmp, 1) := dk_148 (dk_at dksL_law_74 21 rfl rfl)
theorem dL_law_1941 : decode cL_law 1941 = .ok (.ifCond .eq 5, 3) := dk_153 0 5 (dk_at dksL_law_75 0 rfl rfl)
theorem dL_law_1944 : decode cL_law 1944 = .ok (.iconst 0, 1) := dk_3 (dk_at dksL_law_75 3 rfl rfl)
theorem dL_law_1945 : decode cL_law 1945 = .ok (.ireturn, 1) := dk_172 (dk_at dksL_law_75 4 rfl rfl)
theorem dL_law_1946 : decode cL_law 1946 = .ok (.goto 994, 3) := dk_167 3 226 (dk_at dksL_law_75 5 rfl rfl)
theorem dL_law_1949 : decode cL_law 1949 = .ok (.aload_n 1, 1) := dk_43 (dk_at dksL_law_75 8 rfl rfl)
theorem dL_law_1950 : decode cL_law 1950 = .ok (.aload_n 0, 1) := dk_42 (dk_at dksL_law_75 9 rfl rfl)
theorem dL_law_1951 : decode cL_law 1951 = .ok (.iload 5, 2) := dk_21 5 (dk_at dksL_law_75 10 rfl rfl)
theorem dL_law_1953 : decode cL_law 1953 = .ok (.iconst 1, 1) := dk_4 (dk_at dksL_law_75 12 rfl rfl)
theorem dL_law_1954 : decode cL_law 1954 = .ok (.iadd, 1) := dk_96 (dk_at dksL_law_75 13 rfl rfl)
theorem dL_law_1955 : decode cL_law 1955 = .ok (.iaload, 1) := dk_46 (dk_at dksL_law_75 14 rfl rfl)
theorem dL_law_1956 : decode cL_law 1956 = .ok (.aload_n 3, 1) := dk_45 (dk_at dksL_law_75 15 rfl rfl)
theorem dL_law_1957 : decode cL_law 1957 = .ok (.invokestatic 262, 3) := dk_184 1 6 (dk_at dksL_law_75 16 rfl rfl)
theorem dL_law_1960 : decode cL_law 1960 = .ok (.istore 6, 2) := dk_54 6 (dk_at dksL_law_75 19 rfl rfl)
theorem dL_law_1962 : decode cL_law 1962 = .ok (.aload_n 2, 1) := dk_44 (dk_at dksL_law_75 21 rfl rfl)
theorem dL_law_1963 : decode cL_law 1963 = .ok (.aload_n 0, 1) := dk_42 (dk_at dksL_law_75 22 rfl rfl)
theorem dL_law_1964 : decode cL_law 1964 = .ok (.iload 5, 2) := dk_21 5 (dk_at dksL_law_76 0 rfl rfl)
theorem dL_law_1966 : decode cL_law 1966 = .ok (.iconst 1, 1) := dk_4 (dk_at dksL_law_76 2 rfl rfl)
theorem dL_law_1967 : decode cL_law 1967 = .ok (.iadd, 1) := dk_96 (dk_at dksL_law_76 3 rfl rfl)
theorem dL_law_1968 : decode cL_law 1968 = .ok (.iaload, 1) := dk_46 (dk_at dksL_law_76 4 rfl rfl)
theorem dL_law_1969 : decode cL_law 1969 = .ok (.invokevirtual 264, 3) := dk_182 1 8 (dk_at dksL_law_76 5 rfl rfl)
theorem dL_law_1972 : decode cL_law 1972 = .ok (.istore 7, 2) := dk_54 7 (dk_at dksL_law_76 8 rfl rfl)
theorem dL_law_1974 : decode cL_law 1974 = .ok (.aload_n 2, 1) := dk_44 (dk_at dksL_law_76 10 rfl rfl)
theorem dL_law_1975 : decode cL_law 1975 = .ok (.invokevirtual 171, 3) := dk_182 0 171 (dk_at dksL_law_76 11 rfl rfl)
theorem dL_law_1978 : decode cL_law 1978 = .ok (.iload 6, 2) := dk_21 6 (dk_at dksL_law_76 14 rfl rfl)
theorem dL_law_1980 : decode cL_law 1980 = .ok (.if_icmp .eq 5, 3) := dk_159 0 5 (dk_at dksL_law_76 16 rfl rfl)
theorem dL_law_1983 : decode cL_law 1983 = .ok (.iconst 0, 1) := dk_3 (dk_at dksL_law_76 19 rfl rfl)
theorem dL_law_1984 : decode cL_law 1984 = .ok (.ireturn, 1) := dk_172 (dk_at dksL_law_76 20 rfl rfl)
theorem dL_law_1985 : decode cL_law 1985 = .ok (.iload 6, 2) := dk_21 6 (dk_at dksL_law_76 21 rfl rfl)
theorem dL_law_1987 : decode cL_law 1987 = .ok (.ifCond .ne 15, 3) := dk_154 0 15 (dk_at dksL_law_77 0 rfl rfl)
theorem dL_law_1990 : decode cL_law 1990 = .ok (.aload_n 3, 1) := dk_45 (dk_at dksL_law_77 3 rfl rfl)
theorem dL_law_1991 : decode cL_law 1991 = .ok (.iconst 0, 1) := dk_3 (dk_at dksL_law_77 4 rfl rfl)
theorem dL_law_1992 : decode cL_law 1992 = .ok (.laload, 1) := dk_47 (dk_at dksL_law_77 5 rfl rfl)
theorem dL_law_1993 : decode cL_law 1993 = .ok (.iload 7, 2) := dk_21 7 (dk_at dksL_law_77 6 rfl rfl)
theorem dL_law_1995 : decode cL_law 1995 = .ok (.i2l, 1) := dk_133 (dk_at dksL_law_77 8 rfl rfl)
theorem dL_law_1996 : decode cL_law 1996 = .ok (.lcmp, 1) := dk_148 (dk_at dksL_law_77 9 rfl rfl)
theorem dL_law_1997 : decode cL_law 1997 = .ok (.ifCond .eq 5, 3) := dk_153 0 5 (dk_at dksL_law_77 10 rfl rfl)
theorem dL_law_2000 : decode cL_law 2000 = .ok (.iconst 0, 1) := dk_3 (dk_at dksL_law_77 13 rfl rfl)
theorem dL_law_2001 : decode cL_law 2001 = .ok (.ireturn, 1) := dk_172 (dk_at dksL_law_77 14 rfl rfl)
theorem dL_law_2002 : decode cL_law 2002 = .ok (.goto 938, 3) := dk_167 3 170 (dk_at dksL_law_77 15 rfl rfl)
theorem dL_law_2005 : decode cL_law 2005 = .ok (.aload_n 1, 1) := dk_43 (dk_at dksL_law_77 18 rfl rfl)
theorem dL_law_2006 : decode cL_law 2006 = .ok (.aload_n 0, 1) := dk_42 (dk_at dksL_law_77 19 rfl rfl)
theorem dL_law_2007 : decode cL_law 2007 = .ok (.iload 5, 2) := dk_21 5 (dk_at dksL_law_77 20 rfl rfl)
theorem dL_law_2009 : decode cL_law 2009 = .ok (.iconst 1, 1) := dk_4 (dk_at dksL_law_77 22 rfl rfl)
theorem dL_law_2010 : decode cL_law 2010 = .ok (.iadd, 1) := dk_96 (dk_at dksL_law_77 23 rfl rfl)
theorem dL_law_2011 : decode cL_law 2011 = .ok (.iaload, 1) := dk_46 (dk_at dksL_law_78 0 rfl rfl)
theorem dL_law_2012 : decode cL_law 2012 = .ok (.aload_n 3, 1) := dk_45 (dk_at dksL_law_78 1 rfl rfl)
theorem dL_law_2013 : decode cL_law 2013 = .ok (.invokestatic 265, 3) := dk_184 1 9 (dk_at dksL_law_78 2 rfl rfl)
theorem dL_law_2016 : decode cL_law 2016 = .ok (.istore 6, 2) := dk_54 6 (dk_at dksL_law_78 5 rfl rfl)
theorem dL_law_2018 : decode cL_law 2018 = .ok (.aload_n 2, 1) := dk_44 (dk_at dksL_law_78 7 rfl rfl)
theorem dL_law_2019 : decode cL_law 2019 = .ok (.aload_n 0, 1) := dk_42 (dk_at dksL_law_78 8 rfl rfl)
theorem dL_law_2020 : decode cL_law 2020 = .ok (.iload 5, 2) := dk_21 5 (dk_at dksL_law_78 9 rfl rfl)
theorem dL_law_2022 : decode cL_law 2022 = .ok (.iconst 1, 1) := dk_4 (dk_at dksL_law_78 11 rfl rfl)
theorem dL_law_2023 : decode cL_law 2023 = .ok (.iadd, 1) := dk_96 (dk_at dksL_law_78 12 rfl rfl)
theorem dL_law_2024 : decode cL_law 2024 = .ok (.iaload, 1) := dk_46 (dk_at dksL_law_78 13 rfl rfl)
theorem dL_law_2025 : decode cL_law 2025 = .ok (.invokevirtual 267, 3) := dk_182 1 11 (dk_at dksL_law_78 14 rfl rfl)
theorem dL_law_2028 : decode cL_law 2028 = .ok (.istore 7, 2) := dk_54 7 (dk_at dksL_law_78 17 rfl rfl)
theorem dL_law_2030 : decode cL_law 2030 = .ok (.aload_n 2, 1) := dk_44 (dk_at dksL_law_78 19 rfl rfl)
theorem dL_law_2031 : decode cL_law 2031 = .ok (.invokevirtual 171, 3) := dk_182 0 171 (dk_at dksL_law_78 20 rfl rfl)
theorem dL_law_2034 : decode cL_law 2034 = .ok (.iload 6, 2) := dk_21 6 (dk_at dksL_law_79 0 rfl rfl)
theorem dL_law_2036 : decode cL_law 2036 = .ok (.if_icmp .eq 5, 3) := dk_159 0 5 (dk_at dksL_law_79 2 rfl rfl)
theorem dL_law_2039 : decode cL_law 2039 = .ok (.iconst 0, 1) := dk_3 (dk_at dksL_law_79 5 rfl rfl)
theorem dL_law_2040 : decode cL_law 2040 = .ok (.ireturn, 1) := dk_172 (dk_at dksL_law_79 6 rfl rfl)
theorem dL_law_2041 : decode cL_law 2041 = .ok (.iload 6, 2) := dk_21 6 (dk_at dksL_law_79 7 rfl rfl)
theorem dL_law_2043 : decode cL_law 2043 = .ok (.ifCond .ne 15, 3) := dk_154 0 15 (dk_at dksL_law_79 9 rfl rfl)
theorem dL_law_2046 : decode cL_law 2046 = .ok (.aload_n 3, 1) := dk_45 (dk_at dksL_law_79 12 rfl rfl)
theorem dL_law_2047 : decode cL_law 2047 = .ok (.iconst 0, 1) := dk_3 (dk_at dksL_law_79 13 rfl rfl)
theorem dL_law_2048 : decode cL_law 2048 = .ok (.laload, 1) := dk_47 (dk_at dksL_law_79 14 rfl rfl)
theorem dL_law_2049 : decode cL_law 2049 = .ok (.iload 7, 2) := dk_21 7 (dk_at dksL_law_79 15 rfl rfl)
theorem dL_law_2051 : decode cL_law 2051 = .ok (.i2l, 1) := dk_133 (dk_at dksL_law_79 17 rfl rfl)
theorem dL_law_2052 : decode cL_law 2052 = .ok (.lcmp, 1) := dk_148 (dk_at dksL_law_79 18 rfl rfl)
theorem dL_law_2053 : decode cL_law 2053 = .ok (.ifCond .eq 5, 3) := dk_153 0 5 (dk_at dksL_law_79 19 rfl rfl)
theorem dL_law_2056 : decode cL_law 2056 = .ok (.iconst 0, 1) := dk_3 (dk_at dksL_law_79 22 rfl rfl)
theorem dL_law_2057 : decode cL_law 2057 = .ok (.ireturn, 1) := dk_172 (dk_at dksL_law_79 23 rfl rfl)
theorem dL_law_2058 : decode cL_law 2058 = .ok (.goto 882, 3) := dk_167 3 114 (dk_at dksL_law_80 0 rfl rfl)
theorem dL_law_2061 : decode cL_law 2061 = .ok (.aload_n 1, 1) := dk_43 (dk_at dksL_law_80 3 rfl rfl)
theorem dL_law_2062 : decode cL_law 2062 = .ok (.aload_n 0, 1) := dk_42 (dk_at dksL_law_80 4 rfl rfl)
theorem dL_law_2063 : decode cL_law 2063 = .ok (.iload 5, 2) := dk_21 5 (dk_at dksL_law_80 5 rfl rfl)
theorem dL_law_2065 : decode cL_law 2065 = .ok (.iconst 1, 1) := dk_4 (dk_at dksL_law_80 7 rfl rfl)
theorem dL_law_2066 : decode cL_law 2066 = .ok (.iadd, 1) := dk_96 (dk_at dksL_law_80 8 rfl rfl)
theorem dL_law_2067 : decode cL_law 2067 = .ok (.iaload, 1) := dk_46 (dk_at dksL_law_80 9 rfl rfl)
theorem dL_law_2068 : decode cL_law 2068 = .ok (.aload_n 3, 1) := dk_45 (dk_at dksL_law_80 10 rfl rfl)
theorem dL_law_2069 : decode cL_law 2069 = .ok (.invokestatic 268, 3) := dk_184 1 12 (dk_at dksL_law_80 11 rfl rfl)
theorem dL_law_2072 : decode cL_law 2072 = .ok (.istore 6, 2) := dk_54 6 (dk_at dksL_law_80 14 rfl rfl)
theorem dL_law_2074 : decode cL_law 2074 = .ok (.aload_n 2, 1) := dk_44 (dk_at dksL_law_80 16 rfl rfl)
theorem dL_law_2075 : decode cL_law 2075 = .ok (.aload_n 0, 1) := dk_42 (dk_at dksL_law_80 17 rfl rfl)
theorem dL_law_2076 : decode cL_law 2076 = .ok (.iload 5, 2) := dk_21 5 (dk_at dksL_law_80 18 rfl rfl)
theorem dL_law_2078 : decode cL_law 2078 = .ok (.iconst 1, 1) := dk_4 (dk_at dksL_law_80 20 rfl rfl)
theorem dL_law_2079 : decode cL_law 2079 = .ok (.iadd, 1) := dk_96 (dk_at dksL_law_80 21 rfl rfl)
theorem dL_law_2080 : decode cL_law 2080 = .ok (.iaload, 1) := dk_46 (dk_at dksL_law_80 22 rfl rfl)
theorem dL_law_2081 : decode cL_law 2081 = .ok (.invokevirtual 270, 3) := dk_182 1 14 (dk_at dksL_law_81 0 rfl rfl)
theorem dL_law_2084 : decode cL_law 2084 = .ok (.istore 7, 2) := dk_54 7 (dk_at dksL_law_81 3 rfl rfl)
theorem dL_law_2086 : decode cL_law 2086 = .ok (.aload_n 2, 1) := dk_44 (dk_at dksL_law_81 5 rfl rfl)
theorem dL_law_2087 : decode cL_law 2087 = .ok (.invokevirtual 171, 3) := dk_182 0 171 (dk_at dksL_law_81 6 rfl rfl)
theorem dL_law_2090 : decode cL_law 2090 = .ok (.iload 6, 2) := dk_21 6 (dk_at dksL_law_81 9 rfl rfl)
theorem dL_law_2092 : decode cL_law 2092 = .ok (.if_icmp .eq 5, 3) := dk_159 0 5 (dk_at dksL_law_81 11 rfl rfl)
theorem dL_law_2095 : decode cL_law 2095 = .ok (.iconst 0, 1) := dk_3 (dk_at dksL_law_81 14 rfl rfl)
theorem dL_law_2096 : decode cL_law 2096 = .ok (.ireturn, 1) := dk_172 (dk_at dksL_law_81 15 rfl rfl)
theorem dL_law_2097 : decode cL_law 2097 = .ok (.iload 6, 2) := dk_21 6 (dk_at dksL_law_81 16 rfl rfl)
theorem dL_law_2099 : decode cL_law 2099 = .ok (.ifCond .ne 15, 3) := dk_154 0 15 (dk_at dksL_law_81 18 rfl rfl)
theorem dL_law_2102 : decode cL_law 2102 = .ok (.aload_n 3, 1) := dk_45 (dk_at dksL_law_81 21 rfl rfl)
theorem dL_law_2103 : decode cL_law 2103 = .ok (.iconst 0, 1) := dk_3 (dk_at dksL_law_81 22 rfl rfl)
theorem dL_law_2104 : decode cL_law 2104 = .ok (.laload, 1) := dk_47 (dk_at dksL_law_81 23 rfl rfl)
theorem dL_law_2105 : decode cL_law 2105 = .ok (.iload 7, 2) := dk_21 7 (dk_at dksL_law_82 0 rfl rfl)
theorem dL_law_2107 : decode cL_law 2107 = .ok (.i2l, 1) := dk_133 (dk_at dksL_law_82 2 rfl rfl)
theorem dL_law_2108 : decode cL_law 2108 = .ok (.lcmp, 1) := dk_148 (dk_at dksL_law_82 3 rfl rfl)
theorem dL_law_2109 : decode cL_law 2109 = .ok (.ifCond .eq 5, 3) := dk_153 0 5 (dk_at dksL_law_82 4 rfl rfl)
theorem dL_law_2112 : decode cL_law 2112 = .ok (.iconst 0, 1) := dk_3 (dk_at dksL_law_82 7 rfl rfl)
theorem dL_law_2113 : decode cL_law 2113 = .ok (.ireturn, 1) := dk_172 (dk_at dksL_law_82 8 rfl rfl)
theorem dL_law_2114 : decode cL_law 2114 = .ok (.goto 826, 3) := dk_167 3 58 (dk_at dksL_law_82 9 rfl rfl)
theorem dL_law_2117 : decode cL_law 2117 = .ok (.aload_n 1, 1) := dk_43 (dk_at dksL_law_82 12 rfl rfl)
theorem dL_law_2118 : decode cL_law 2118 = .ok (.aload_n 0, 1) := dk_42 (dk_at dksL_law_82 13 rfl rfl)
theorem dL_law_2119 : decode cL_law 2119 = .ok (.iload 5, 2) := dk_21 5 (dk_at dksL_law_82 14 rfl rfl)
theorem dL_law_2121 : decode cL_law 2121 = .ok (.iconst 1, 1) := dk_4 (dk_at dksL_law_82 16 rfl rfl)
theorem dL_law_2122 : decode cL_law 2122 = .ok (.iadd, 1) := dk_96 (dk_at dksL_law_82 17 rfl rfl)
theorem dL_law_2123 : decode cL_law 2123 = .ok (.iaload, 1) := dk_46 (dk_at dksL_law_82 18 rfl rfl)
theorem dL_law_2124 : decode cL_law 2124 = .ok (.aload_n 3, 1) := dk_45 (dk_at dksL_law_82 19 rfl rfl)
theorem dL_law_2125 : decode cL_law 2125 = .ok (.invokestatic 271, 3) := dk_184 1 15 (dk_at dksL_law_82 20 rfl rfl)
theorem dL_law_2128 : decode cL_law 2128 = .ok (.istore 6, 2) := dk_54 6 (dk_at dksL_law_83 0 rfl rfl)
theorem dL_law_2130 : decode cL_law 2130 = .ok (.aload_n 2, 1) := dk_44 (dk_at dksL_law_83 2 rfl rfl)
theorem dL_law_2131 : decode cL_law 2131 = .ok (.aload_n 0, 1) := dk_42 (dk_at dksL_law_83 3 rfl rfl)
theorem dL_law_2132 : decode cL_law 2132 = .ok (.iload 5, 2) := dk_21 5 (dk_at dksL_law_83 4 rfl rfl)
theorem dL_law_2134 : decode cL_law 2134 = .ok (.iconst 1, 1) := dk_4 (dk_at dksL_law_83 6 rfl rfl)
theorem dL_law_2135 : decode cL_law 2135 = .ok (.iadd, 1) := dk_96 (dk_at dksL_law_83 7 rfl rfl)
theorem dL_law_2136 : decode cL_law 2136 = .ok (.iaload, 1) := dk_46 (dk_at dksL_law_83 8 rfl rfl)
theorem dL_law_2137 : decode cL_law 2137 = .ok (.invokevirtual 273, 3) := dk_182 1 17 (dk_at dksL_law_83 9 rfl rfl)
theorem dL_law_2140 : decode cL_law 2140 = .ok (.istore 7, 2) := dk_54 7 (dk_at dksL_law_83 12 rfl rfl)
theorem dL_law_2142 : decode cL_law 2142 = .ok (.aload_n 2, 1) := dk_44 (dk_at dksL_law_83 14 rfl rfl)
theorem dL_law_2143 : decode cL_law 2143 = .ok (.invokevirtual 171, 3) := dk_182 0 171 (dk_at dksL_law_83 15 rfl rfl)
theorem dL_law_2146 : decode cL_law 2146 = .ok (.iload 6, 2) := dk_21 6 (dk_at dksL_law_83 18 rfl rfl)
theorem dL_law_2148 : decode cL_law 2148 = .ok (.if_icmp .eq 5, 3) := dk_159 0 5 (dk_at dksL_law_83 20 rfl rfl)
theorem dL_law_2151 : decode cL_law 2151 = .ok (.iconst 0, 1) := dk_3 (dk_at dksL_law_83 23 rfl rfl)
theorem dL_law_2152 : decode cL_law 2152 = .ok (.ireturn, 1) := dk_172 (dk_at dksL_law_84 0 rfl rfl)
theorem dL_law_2153 : decode cL_law 2153 = .ok (.iload 6, 2) := dk_21 6 (dk_at dksL_law_84 1 rfl rfl)
theorem dL_law_2155 : decode cL_law 2155 = .ok (.ifCond .ne 22, 3) := dk_154 0 22 (dk_at dksL_law_84 3 rfl rfl)
theorem dL_law_2158 : decode cL_law 2158 = .ok (.aload_n 3, 1) := dk_45 (dk_at dksL_law_84 6 rfl rfl)
theorem dL_law_2159 : decode cL_law 2159 = .ok (.iconst 0, 1) := dk_3 (dk_at dksL_law_84 7 rfl rfl)
theorem dL_law_2160 : decode cL_law 2160 = .ok (.laload, 1) := dk_47 (dk_at dksL_law_84 8 rfl rfl)
theorem dL_law_2161 : decode cL_law 2161 = .ok (.iload 7, 2) := dk_21 7 (dk_at dksL_law_84 9 rfl rfl)
theorem dL_law_2163 : decode cL_law 2163 = .ok (.ifCond .eq 7, 3) := dk_153 0 7 (dk_at dksL_law_84 11 rfl rfl)
theorem dL_law_2166 : decode cL_law 2166 = .ok (.lconst 1, 1) := dk_10 (dk_at dksL_law_84 14 rfl rfl)
theorem dL_law_2167 : decode cL_law 2167 = .ok (.goto 4, 3) := dk_167 0 4 (dk_at dksL_law_84 15 rfl rfl)
theorem dL_law_2170 : decode cL_law 2170 = .ok (.lconst 0, 1) := dk_9 (dk_at dksL_law_84 18 rfl rfl)
theorem dL_law_2171 : decode cL_law 2171 = .ok (.lcmp, 1) := dk_148 (dk_at dksL_law_84 19 rfl rfl)
theorem dL_law_2172 : decode cL_law 2172 = .ok (.ifCond .eq 5, 3) := dk_153 0 5 (dk_at dksL_law_84 20 rfl rfl)
theorem dL_law_2175 : decode cL_law 2175 = .ok (.iconst 0, 1) := dk_3 (dk_at dksL_law_84 23 rfl rfl)
theorem dL_law_2176 : decode cL_law 2176 = .ok (.ireturn, 1) := dk_172 (dk_at dksL_law_85 0 rfl rfl)
theorem dL_law_2177 : decode cL_law 2177 = .ok (.goto 763, 3) := dk_167 2 251 (dk_at dksL_law_85 1 rfl rfl)
theorem dL_law_2180 : decode cL_law 2180 = .ok (.aload_n 1, 1) := dk_43 (dk_at dksL_law_85 4 rfl rfl)
theorem dL_law_2181 : decode cL_law 2181 = .ok (.invokevirtual 274, 3) := dk_182 1 18 (dk_at dksL_law_85 5 rfl rfl)
theorem dL_law_2184 : decode cL_law 2184 = .ok (.aload_n 2, 1) := dk_44 (dk_at dksL_law_85 8 rfl rfl)
theorem dL_law_2185 : decode cL_law 2185 = .ok (.invokevirtual 277, 3) := dk_182 1 21 (dk_at dksL_law_85 9 rfl rfl)
theorem dL_law_2188 : decode cL_law 2188 = .ok (.if_icmp .eq 752, 3) := dk_159 2 240 (dk_at dksL_law_85 12 rfl rfl)
theorem dL_law_2191 : decode cL_law 2191 = .ok (.iconst 0, 1) := dk_3 (dk_at dksL_law_85 15 rfl rfl)
theorem dL_law_2192 : decode cL_law 2192 = .ok (.ireturn, 1) := dk_172 (dk_at dksL_law_85 16 rfl rfl)
theorem dL_law_2193 : decode cL_law 2193 = .ok (.aload_n 1, 1) := dk_43 (dk_at dksL_law_85 17 rfl rfl)
theorem dL_law_2194 : decode cL_law 2194 = .ok (.aload_n 3, 1) := dk_45 (dk_at dksL_law_85 18 rfl rfl)
theorem dL_law_2195 : decode cL_law 2195 = .ok (.invokestatic 278, 3) := dk_184 1 22 (dk_at dksL_law_85 19 rfl rfl)
theorem dL_law_2198 : decode cL_law 2198 = .ok (.istore 6, 2) := dk_54 6 (dk_at dksL_law_85 22 rfl rfl)
theorem dL_law_2200 : decode cL_law 2200 = .ok (.aload_n 2, 1) := dk_44 (dk_at dksL_law_86 0 rfl rfl)
theorem dL_law_2201 : decode cL_law 2201 = .ok (.invokevirtual 281, 3) := dk_182 1 25 (dk_at dksL_law_86 1 rfl rfl)
theorem dL_law_2204 : decode cL_law 2204 = .ok (.istore 7, 2) := dk_54 7 (dk_at dksL_law_86 4 rfl rfl)
theorem dL_law_2206 : decode cL_law 2206 = .ok (.aload_n 2, 1) := dk_44 (dk_at dksL_law_86 6 rfl rfl)
theorem dL_law_2207 : decode cL_law 2207 = .ok (.invokevirtual 171, 3) := dk_182 0 171 (dk_at dksL_law_86 7 rfl rfl)
theorem dL_law_2210 : decode cL_law 2210 = .ok (.iload 6, 2) := dk_21 6 (dk_at dksL_law_86 10 rfl rfl)
theorem dL_law_2212 : decode cL_law 2212 = .ok (.if_icmp .eq 5, 3) := dk_159 0 5 (dk_at dksL_law_86 12 rfl rfl)
theorem dL_law_2215 : decode cL_law 2215 = .ok (.iconst 0, 1) := dk_3 (dk_at dksL_law_86 15 rfl rfl)
theorem dL_law_2216 : decode cL_law 2216 = .ok (.ireturn, 1) := dk_172 (dk_at dksL_law_86 16 rfl rfl)
theorem dL_law_2217 : decode cL_law 2217 = .ok (.iload 6, 2) := dk_21 6 (dk_at dksL_law_86 17 rfl rfl)
theorem dL_law_2219 : decode cL_law 2219 = .ok (.ifCond .ne 15, 3) := dk_154 0 15 (dk_at dksL_law_86 19 rfl rfl)
theorem dL_law_2222 : decode cL_law 2222 = .ok (.aload_n 3, 1) := dk_45 (dk_at dksL_law_86 22 rfl rfl)
theorem dL_law_2223 : decode cL_law 2223 = .ok (.iconst 0, 1) := dk_3 (dk_at dksL_law_86 23 rfl rfl)
theorem dL_law_2224 : decode cL_law 2224 = .ok (.laload, 1) := dk_47 (dk_at dksL_law_87 0 rfl rfl)
theorem dL_law_2225 : decode cL_law 2225 = .ok (.iload 7, 2) := dk_21 7 (dk_at dksL_law_87 1 rfl rfl)
theorem dL_law_2227 : decode cL_law 2227 = .ok (.i2l, 1) := dk_133 (dk_at dksL_law_87 3 rfl rfl)
theorem dL_law_2228 : decode cL_law 2228 = .ok (.lcmp, 1) := dk_148 (dk_at dksL_law_87 4 rfl rfl)
theorem dL_law_2229 : decode cL_law 2229 = .ok (.ifCond .eq 5, 3) := dk_153 0 5 (dk_at dksL_law_87 5 rfl rfl)
theorem dL_law_2232 : decode cL_law 2232 = .ok (.iconst 0, 1) := dk_3 (dk_at dksL_law_87 8 rfl rfl)
theorem dL_law_2233 : decode cL_law 2233 = .ok (.ireturn, 1) := dk_172 (dk_at dksL_law_87 9 rfl rfl)
theorem dL_law_2234 : decode cL_law 2234 = .ok (.goto 706, 3) := dk_167 2 194 (dk_at dksL_law_87 10 rfl rfl)
theorem dL_law_2237 : decode cL_law 2237 = .ok (.aload_n 1, 1) := dk_43 (dk_at dksL_law_87 13 rfl rfl)
theorem dL_law_2238 : decode cL_law 2238 = .ok (.aload_n 0, 1) := dk_42 (dk_at dksL_law_87 14 rfl rfl)
theorem dL_law_2239 : decode cL_law 2239 = .ok (.iload 5, 2) := dk_21 5 (dk_at dksL_law_87 15 rfl rfl)
theorem dL_law_2241 : decode cL_law 2241 = .ok (.iconst 1, 1) := dk_4 (dk_at dksL_law_87 17 rfl rfl)
theorem dL_law_2242 : decode cL_law 2242 = .ok (.iadd, 1) := dk_96 (dk_at dksL_law_87 18 rfl rfl)
theorem dL_law_2243 : decode cL_law 2243 = .ok (.iaload, 1) := dk_46 (dk_at dksL_law_87 19 rfl rfl)
theorem dL_law_2244 : decode cL_law 2244 = .ok (.aload_n 3, 1) := dk_45 (dk_at dksL_law_87 20 rfl rfl)
theorem dL_law_2245 : decode cL_law 2245 = .ok (.invokestatic 282, 3) := dk_184 1 26 (dk_at dksL_law_87 21 rfl rfl)
theorem dL_law_2248 : decode cL_law 2248 = .ok (.istore 6, 2) := dk_54 6 (dk_at dksL_law_88 0 rfl rfl)
theorem dL_law_2250 : decode cL_law 2250 = .ok (.aload_n 2, 1) := dk_44 (dk_at dksL_law_88 2 rfl rfl)
theorem dL_law_2251 : decode cL_law 2251 = .ok (.aload_n 0, 1) := dk_42 (dk_at dksL_law_88 3 rfl rfl)
theorem dL_law_2252 : decode cL_law 2252 = .ok (.iload 5, 2) := dk_21 5 (dk_at dksL_law_88 4 rfl rfl)
theorem dL_law_2254 : decode cL_law 2254 = .ok (.iconst 1, 1) := dk_4 (dk_at dksL_law_88 6 rfl rfl)
theorem dL_law_2255 : decode cL_law 2255 = .ok (.iadd, 1) := dk_96 (dk_at dksL_law_88 7 rfl rfl)
theorem dL_law_2256 : decode cL_law 2256 = .ok (.iaload, 1) := dk_46 (dk_at dksL_law_88 8 rfl rfl)
theorem dL_law_2257 : decode cL_law 2257 = .ok (.invokevirtual 284, 3) := dk_182 1 28 (dk_at dksL_law_88 9 rfl rfl)
theorem dL_law_2260 : decode cL_law 2260 = .ok (.istore 7, 2) := dk_54 7 (dk_at dksL_law_88 12 rfl rfl)
theorem dL_law_2262 : decode cL_law 2262 = .ok (.aload_n 2, 1) := dk_44 (dk_at dksL_law_88 14 rfl rfl)
theorem dL_law_2263 : decode cL_law 2263 = .ok (.invokevirtual 171, 3) := dk_182 0 171 (dk_at dksL_law_88 15 rfl rfl)
theorem dL_law_2266 : decode cL_law 2266 = .ok (.iload 6, 2) := dk_21 6 (dk_at dksL_law_88 18 rfl rfl)
theorem dL_law_2268 : decode cL_law 2268 = .ok (.if_icmp .eq 5, 3) := dk_159 0 5 (dk_at dksL_law_88 20 rfl rfl)
theorem dL_law_2271 : decode cL_law 2271 = .ok (.iconst 0, 1) := dk_3 (dk_at dksL_law_88 23 rfl rfl)
theorem dL_law_2272 : decode cL_law 2272 = .ok (.ireturn, 1) := dk_172 (dk_at dksL_law_89 0 rfl rfl)
theorem dL_law_2273 : decode cL_law 2273 = .ok (.iload 6, 2) := dk_21 6 (dk_at dksL_law_89 1 rfl rfl)
theorem dL_law_2275 : decode cL_law 2275 = .ok (.ifCond .ne 15, 3) := dk_154 0 15 (dk_at dksL_law_89 3 rfl rfl)
theorem dL_law_2278 : decode cL_law 2278 = .ok (.aload_n 3, 1) := dk_45 (dk_at dksL_law_89 6 rfl rfl)
theorem dL_law_2279 : decode cL_law 2279 = .ok (.iconst 0, 1) := dk_3 (dk_at dksL_law_89 7 rfl rfl)
theorem dL_law_2280 : decode cL_law 2280 = .ok (.laload, 1) := dk_47 (dk_at dksL_law_89 8 rfl rfl)
theorem dL_law_2281 : decode cL_law 2281 = .ok (.iload 7, 2) := dk_21 7 (dk_at dksL_law_89 9 rfl rfl)
theorem dL_law_2283 : decode cL_law 2283 = .ok (.i2l, 1) := dk_133 (dk_at dksL_law_89 11 rfl rfl)
theorem dL_law_2284 : decode cL_law 2284 = .ok (.lcmp, 1) := dk_148 (dk_at dksL_law_89 12 rfl rfl)
theorem dL_law_2285 : decode cL_law 2285 = .ok (.ifCond .eq 5, 3) := dk_153 0 5 (dk_at dksL_law_89 13 rfl rfl)
theorem dL_law_2288 : decode cL_law 2288 = .ok (.iconst 0, 1) := dk_3 (dk_at dksL_law_89 16 rfl rfl)
theorem dL_law_2289 : decode cL_law 2289 = .ok (.ireturn, 1) := dk_172 (dk_at dksL_law_89 17 rfl rfl)
theorem dL_law_2290 : decode cL_law 2290 = .ok (.goto 650, 3) := dk_167 2 138 (dk_at dksL_law_89 18 rfl rfl)
theorem dL_law_2293 : decode cL_law 2293 = .ok (.aload_n 1, 1) := dk_43 (dk_at dksL_law_89 21 rfl rfl)
theorem dL_law_2294 : decode cL_law 2294 = .ok (.aload_n 0, 1) := dk_42 (dk_at dksL_law_89 22 rfl rfl)
theorem dL_law_2295 : decode cL_law 2295 = .ok (.iload 5, 2) := dk_21 5 (dk_at dksL_law_90 0 rfl rfl)
theorem dL_law_2297 : decode cL_law 2297 = .ok (.iconst 1, 1) := dk_4 (dk_at dksL_law_90 2 rfl rfl)
theorem dL_law_2298 : decode cL_law 2298 = .ok (.iadd, 1) := dk_96 (dk_at dksL_law_90 3 rfl rfl)
theorem dL_law_2299 : decode cL_law 2299 = .ok (.iaload, 1) := dk_46 (dk_at dksL_law_90 4 rfl rfl)
theorem dL_law_2300 : decode cL_law 2300 = .ok (.aload_n 3, 1) := dk_45 (dk_at dksL_law_90 5 rfl rfl)
theorem dL_law_2301 : decode cL_law 2301 = .ok (.invokestatic 285, 3) := dk_184 1 29 (dk_at dksL_law_90 6 rfl rfl)
theorem dL_law_2304 : decode cL_law 2304 = .ok (.istore 6, 2) := dk_54 6 (dk_at dksL_law_90 9 rfl rfl)
theorem dL_law_2306 : decode cL_law 2306 = .ok (.aload_n 2, 1) := dk_44 (dk_at dksL_law_90 11 rfl rfl)
theorem dL_law_2307 : decode cL_law 2307 = .ok (.aload_n 0, 1) := dk_42 (dk_at dksL_law_90 12 rfl rfl)
theorem dL_law_2308 : decode cL_law 2308 = .ok (.iload 5, 2) := dk_21 5 (dk_at dksL_law_90 13 rfl rfl)
theorem dL_law_2310 : decode cL_law 2310 = .ok (.iconst 1, 1) := dk_4 (dk_at dksL_law_90 15 rfl rfl)
theorem dL_law_2311 : decode cL_law 2311 = .ok (.iadd, 1) := dk_96 (dk_at dksL_law_90 16 rfl rfl)
theorem dL_law_2312 : decode cL_law 2312 = .ok (.iaload, 1) := dk_46 (dk_at dksL_law_90 17 rfl rfl)
theorem dL_law_2313 : decode cL_law 2313 = .ok (.invokevirtual 287, 3) := dk_182 1 31 (dk_at dksL_law_90 18 rfl rfl)
theorem dL_law_2316 : decode cL_law 2316 = .ok (.istore 7, 2) := dk_54 7 (dk_at dksL_law_90 21 rfl rfl)
theorem dL_law_2318 : decode cL_law 2318 = .ok (.aload_n 2, 1) := dk_44 (dk_at dksL_law_90 23 rfl rfl)
theorem dL_law_2319 : decode cL_law 2319 = .ok (.invokevirtual 171, 3) := dk_182 0 171 (dk_at dksL_law_91 0 rfl rfl)
theorem dL_law_2322 : decode cL_law 2322 = .ok (.iload 6, 2) := dk_21 6 (dk_at dksL_law_91 3 rfl rfl)
theorem dL_law_2324 : decode cL_law 2324 = .ok (.if_icmp .eq 5, 3) := dk_159 0 5 (dk_at dksL_law_91 5 rfl rfl)
theorem dL_law_2327 : decode cL_law 2327 = .ok (.iconst 0, 1) := dk_3 (dk_at dksL_law_91 8 rfl rfl)
theorem dL_law_2328 : decode cL_law 2328 = .ok (.ireturn, 1) := dk_172 (dk_at dksL_law_91 9 rfl rfl)
theorem dL_law_2329 : decode cL_law 2329 = .ok (.iload 6, 2) := dk_21 6 (dk_at dksL_law_91 10 rfl rfl)
theorem dL_law_2331 : decode cL_law 2331 = .ok (.ifCond .ne 15, 3) := dk_154 0 15 (dk_at dksL_law_91 12 rfl rfl)
theorem dL_law_2334 : decode cL_law 2334 = .ok (.aload_n 3, 1) := dk_45 (dk_at dksL_law_91 15 rfl rfl)
theorem dL_law_2335 : decode cL_law 2335 = .ok (.iconst 0, 1) := dk_3 (dk_at dksL_law_91 16 rfl rfl)
theorem dL_law_2336 : decode cL_law 2336 = .ok (.laload, 1) := dk_47 (dk_at dksL_law_91 17 rfl rfl)
theorem dL_law_2337 : decode cL_law 2337 = .ok (.iload 7, 2) := dk_21 7 (dk_at dksL_law_91 18 rfl rfl)
theorem dL_law_2339 : decode cL_law 2339 = .ok (.i2l, 1) := dk_133 (dk_at dksL_law_91 20 rfl rfl)
theorem dL_law_2340 : decode cL_law 2340 = .ok (.lcmp, 1) := dk_148 (dk_at dksL_law_91 21 rfl rfl)
theorem dL_law_2341 : decode cL_law 2341 = .ok (.ifCond .eq 5, 3) := dk_153 0 5 (dk_at dksL_law_92 0 rfl rfl)
theorem dL_law_2344 : decode cL_law 2344 = .ok (.iconst 0, 1) := dk_3 (dk_at dksL_law_92 3 rfl rfl)
theorem dL_law_2345 : decode cL_law 2345 = .ok (.ireturn, 1) := dk_172 (dk_at dksL_law_92 4 rfl rfl)
theorem dL_law_2346 : decode cL_law 2346 = .ok (.goto 594, 3) := dk_167 2 82 (dk_at dksL_law_92 5 rfl rfl)
theorem dL_law_2349 : decode cL_law 2349 = .ok (.aload_n 1, 1) := dk_43 (dk_at dksL_law_92 8 rfl rfl)
theorem dL_law_2350 : decode cL_law 2350 = .ok (.aload_n 0, 1) := dk_42 (dk_at dksL_law_92 9 rfl rfl)
theorem dL_law_2351 : decode cL_law 2351 = .ok (.iload 5, 2) := dk_21 5 (dk_at dksL_law_92 10 rfl rfl)
theorem dL_law_2353 : decode cL_law 2353 = .ok (.iconst 1, 1) := dk_4 (dk_at dksL_law_92 12 rfl rfl)
theorem dL_law_2354 : decode cL_law 2354 = .ok (.iadd, 1) := dk_96 (dk_at dksL_law_92 13 rfl rfl)
theorem dL_law_2355 : decode cL_law 2355 = .ok (.iaload, 1) := dk_46 (dk_at dksL_law_92 14 rfl rfl)
theorem dL_law_2356 : decode cL_law 2356 = .ok (.aload_n 3, 1) := dk_45 (dk_at dksL_law_92 15 rfl rfl)
theorem dL_law_2357 : decode cL_law 2357 = .ok (.invokestatic 288, 3) := dk_184 1 32 (dk_at dksL_law_92 16 rfl rfl)
theorem dL_law_2360 : decode cL_law 2360 = .ok (.istore 6, 2) := dk_54 6 (dk_at dksL_law_92 19 rfl rfl)
theorem dL_law_2362 : decode cL_law 2362 = .ok (.aload_n 2, 1) := dk_44 (dk_at dksL_law_92 21 rfl rfl)
theorem dL_law_2363 : decode cL_law 2363 = .ok (.aload_n 0, 1) := dk_42 (dk_at dksL_law_92 22 rfl rfl)
theorem dL_law_2364 : decode cL_law 2364 = .ok (.iload 5, 2) := dk_21 5 (dk_at dksL_law_93 0 rfl rfl)
theorem dL_law_2366 : decode cL_law 2366 = .ok (.iconst 1, 1) := dk_4 (dk_at dksL_law_93 2 rfl rfl)
theorem dL_law_2367 : decode cL_law 2367 = .ok (.iadd, 1) := dk_96 (dk_at dksL_law_93 3 rfl rfl)
theorem dL_law_2368 : decode cL_law 2368 = .ok (.iaload, 1) := dk_46 (dk_at dksL_law_93 4 rfl rfl)
theorem dL_law_2369 : decode cL_law 2369 = .ok (.invokevirtual 290, 3) := dk_182 1 34 (dk_at dksL_law_93 5 rfl rfl)
theorem dL_law_2372 : decode cL_law 2372 = .ok (.istore 7, 2) := dk_54 7 (dk_at dksL_law_93 8 rfl rfl)
theorem dL_law_2374 : decode cL_law 2374 = .ok (.aload_n 2, 1) := dk_44 (dk_at dksL_law_93 10 rfl rfl)
theorem dL_law_2375 : decode cL_law 2375 = .ok (.invokevirtual 171, 3) := dk_182 0 171 (dk_at dksL_law_93 11 rfl rfl)
theorem dL_law_2378 : decode cL_law 2378 = .ok (.iload 6, 2) := dk_21 6 (dk_at dksL_law_93 14 rfl rfl)
theorem dL_law_2380 : decode cL_law 2380 = .ok (.if_icmp .eq 5, 3) := dk_159 0 5 (dk_at dksL_law_93 16 rfl rfl)
theorem dL_law_2383 : decode cL_law 2383 = .ok (.iconst 0, 1) := dk_3 (dk_at dksL_law_93 19 rfl rfl)
theorem dL_law_2384 : decode cL_law 2384 = .ok (.ireturn, 1) := dk_172 (dk_at dksL_law_93 20 rfl rfl)
theorem dL_law_2385 : decode cL_law 2385 = .ok (.iload 6, 2) := dk_21 6 (dk_at dksL_law_93 21 rfl rfl)
theorem dL_law_2387 : decode cL_law 2387 = .ok (.ifCond .ne 15, 3) := dk_154 0 15 (dk_at dksL_law_94 0 rfl rfl)
theorem dL_law_2390 : decode cL_law 2390 = .ok (.aload_n 3, 1) := dk_45 (dk_at dksL_law_94 3 rfl rfl)
theorem dL_law_2391 : decode cL_law 2391 = .ok (.iconst 0, 1) := dk_3 (dk_at dksL_law_94 4 rfl rfl)
theorem dL_law_2392 : decode cL_law 2392 = .ok (.laload, 1) := dk_47 (dk_at dksL_law_94 5 rfl rfl)
theorem dL_law_2393 : decode cL_law 2393 = .ok (.iload 7, 2) := dk_21 7 (dk_at dksL_law_94 6 rfl rfl)
theorem dL_law_2395 : decode cL_law 2395 = .ok (.i2l, 1) := dk_133 (dk_at dksL_law_94 8 rfl rfl)
theorem dL_law_2396 : decode cL_law 2396 = .ok (.lcmp, 1) := dk_148 (dk_at dksL_law_94 9 rfl rfl)
theorem dL_law_2397 : decode cL_law 2397 = .ok (.ifCond .eq 5, 3) := dk_153 0 5 (dk_at dksL_law_94 10 rfl rfl)
theorem dL_law_2400 : decode cL_law 2400 = .ok (.iconst 0, 1) := dk_3 (dk_at dksL_law_94 13 rfl rfl)
theorem dL_law_2401 : decode cL_law 2401 = .ok (.ireturn, 1) := dk_172 (dk_at dksL_law_94 14 rfl rfl)
theorem dL_law_2402 : decode cL_law 2402 = .ok (.goto 538, 3) := dk_167 2 26 (dk_at dksL_law_94 15 rfl rfl)
theorem dL_law_2405 : decode cL_law 2405 = .ok (.aload_n 1, 1) := dk_43 (dk_at dksL_law_94 18 rfl rfl)
theorem dL_law_2406 : decode cL_law 2406 = .ok (.aload_n 0, 1) := dk_42 (dk_at dksL_law_94 19 rfl rfl)
theorem dL_law_2407 : decode cL_law 2407 = .ok (.iload 5, 2) := dk_21 5 (dk_at dksL_law_94 20 rfl rfl)
theorem dL_law_2409 : decode cL_law 2409 = .ok (.iconst 1, 1) := dk_4 (dk_at dksL_law_94 22 rfl rfl)
theorem dL_law_2410 : decode cL_law 2410 = .ok (.iadd, 1) := dk_96 (dk_at dksL_law_94 23 rfl rfl)
theorem dL_law_2411 : decode cL_law 2411 = .ok (.iaload, 1) := dk_46 (dk_at dksL_law_95 0 rfl rfl)
theorem dL_law_2412 : decode cL_law 2412 = .ok (.i2c, 1) := dk_146 (dk_at dksL_law_95 1 rfl rfl)
theorem dL_law_2413 : decode cL_law 2413 = .ok (.aload_n 3, 1) := dk_45 (dk_at dksL_law_95 2 rfl rfl)
theorem dL_law_2414 : decode cL_law 2414 = .ok (.invokestatic 291, 3) := dk_184 1 35 (dk_at dksL_law_95 3 rfl rfl)
theorem dL_law_2417 : decode cL_law 2417 = .ok (.istore 6, 2) := dk_54 6 (dk_at dksL_law_95 6 rfl rfl)
theorem dL_law_2419 : decode cL_law 2419 = .ok (.aload_n 2, 1) := dk_44 (dk_at dksL_law_95 8 rfl rfl)
theorem dL_law_2420 : decode cL_law 2420 = .ok (.aload_n 0, 1) := dk_42 (dk_at dksL_law_95 9 rfl rfl)
theorem dL_law_2421 : decode cL_law 2421 = .ok (.iload 5, 2) := dk_21 5 (dk_at dksL_law_95 10 rfl rfl)
theorem dL_law_2423 : decode cL_law 2423 = .ok (.iconst 1, 1) := dk_4 (dk_at dksL_law_95 12 rfl rfl)
theorem dL_law_2424 : decode cL_law 2424 = .ok (.iadd, 1) := dk_96 (dk_at dksL_law_95 13 rfl rfl)
theorem dL_law_2425 : decode cL_law 2425 = .ok (.iaload, 1) := dk_46 (dk_at dksL_law_95 14 rfl rfl)
theorem dL_law_2426 : decode cL_law 2426 = .ok (.i2c, 1) := dk_146 (dk_at dksL_law_95 15 rfl rfl)
theorem dL_law_2427 : decode cL_law 2427 = .ok (.invokevirtual 294, 3) := dk_182 1 38 (dk_at dksL_law_95 16 rfl rfl)
theorem dL_law_2430 : decode cL_law 2430 = .ok (.istore 7, 2) := dk_54 7 (dk_at dksL_law_95 19 rfl rfl)
theorem dL_law_2432 : decode cL_law 2432 = .ok (.aload_n 2, 1) := dk_44 (dk_at dksL_law_95 21 rfl rfl)
theorem dL_law_2433 : decode cL_law 2433 = .ok (.invokevirtual 171, 3) := dk_182 0 171 (dk_at dksL_law_96 0 rfl rfl)
theorem dL_law_2436 : decode cL_law 2436 = .ok (.iload 6, 2) := dk_21 6 (dk_at dksL_law_96 3 rfl rfl)
theorem dL_law_2438 : decode cL_law 2438 = .ok (.if_icmp .eq 5, 3) := dk_159 0 5 (dk_at dksL_law_96 5 rfl rfl)
theorem dL_law_2441 : decode cL_law 2441 = .ok (.iconst 0, 1) := dk_3 (dk_at dksL_law_96 8 rfl rfl)
theorem dL_law_2442 : decode cL_law 2442 = .ok (.ireturn, 1) := dk_172 (dk_at dksL_law_96 9 rfl rfl)
theorem dL_law_2443 : decode cL_law 2443 = .ok (.iload 6, 2) := dk_21 6 (dk_at dksL_law_96 10 rfl rfl)
theorem dL_law_2445 : decode cL_law 2445 = .ok (.ifCond .ne 15, 3) := dk_154 0 15 (dk_at dksL_law_96 12 rfl rfl)
theorem dL_law_2448 : decode cL_law 2448 = .ok (.aload_n 3, 1) := dk_45 (dk_at dksL_law_96 15 rfl rfl)
theorem dL_law_2449 : decode cL_law 2449 = .ok (.iconst 0, 1) := dk_3 (dk_at dksL_law_96 16 rfl rfl)
theorem dL_law_2450 : decode cL_law 2450 = .ok (.laload, 1) := dk_47 (dk_at dksL_law_96 17 rfl rfl)
theorem dL_law_2451 : decode cL_law 2451 = .ok (.iload 7, 2) := dk_21 7 (dk_at dksL_law_96 18 rfl rfl)
theorem dL_law_2453 : decode cL_law 2453 = .ok (.i2l, 1) := dk_133 (dk_at dksL_law_96 20 rfl rfl)
theorem dL_law_2454 : decode cL_law 2454 = .ok (.lcmp, 1) := dk_148 (dk_at dksL_law_96 21 rfl rfl)
theorem dL_law_2455 : decode cL_law 2455 = .ok (.ifCond .eq 5, 3) := dk_153 0 5 (dk_at dksL_law_97 0 rfl rfl)
theorem dL_law_2458 : decode cL_law 2458 = .ok (.iconst 0, 1) := dk_3 (dk_at dksL_law_97 3 rfl rfl)
theorem dL_law_2459 : decode cL_law 2459 = .ok (.ireturn, 1) := dk_172 (dk_at dksL_law_97 4 rfl rfl)
theorem dL_law_2460 : decode cL_law 2460 = .ok (.goto 480, 3) := dk_167 1 224 (dk_at dksL_law_97 5 rfl rfl)
theorem dL_law_2463 : decode cL_law 2463 = .ok (.aload_n 1, 1) := dk_43 (dk_at dksL_law_97 8 rfl rfl)
theorem dL_law_2464 : decode cL_law 2464 = .ok (.aload_n 3, 1) := dk_45 (dk_at dksL_law_97 9 rfl rfl)
theorem dL_law_2465 : decode cL_law 2465 = .ok (.invokestatic 295, 3) := dk_184 1 39 (dk_at dksL_law_97 10 rfl rfl)
theorem dL_law_2468 : decode cL_law 2468 = .ok (.istore 6, 2) := dk_54 6 (dk_at dksL_law_97 13 rfl rfl)
theorem dL_law_2470 : decode cL_law 2470 = .ok (.aload_n 2, 1) := dk_44 (dk_at dksL_law_97 15 rfl rfl)
theorem dL_law_2471 : decode cL_law 2471 = .ok (.invokevirtual 297, 3) := dk_182 1 41 (dk_at dksL_law_97 16 rfl rfl)
theorem dL_law_2474 : decode cL_law 2474 = .ok (.istore 7, 2) := dk_54 7 (dk_at dksL_law_97 19 rfl rfl)
theorem dL_law_2476 : decode cL_law 2476 = .ok (.aload_n 2, 1) := dk_44 (dk_at dksL_law_97 21 rfl rfl)
theorem dL_law_2477 : decode cL_law 2477 = .ok (.invokevirtual 171, 3) := dk_182 0 171 (dk_at dksL_law_98 0 rfl rfl)
theorem dL_law_2480 : decode cL_law 2480 = .ok (.iload 6, 2) := dk_21 6 (dk_at dksL_law_98 3 rfl rfl)
theorem dL_law_2482 : decode cL_law 2482 = .ok (.if_icmp .eq 5, 3) := dk_159 0 5 (dk_at dksL_law_98 5 rfl rfl)
theorem dL_law_2485 : decode cL_law 2485 = .ok (.iconst 0, 1) := dk_3 (dk_at dksL_law_98 8 rfl rfl)
theorem dL_law_2486 : decode cL_law 2486 = .ok (.ireturn, 1) := dk_172 (dk_at dksL_law_98 9 rfl rfl)
theorem dL_law_2487 : decode cL_law 2487 = .ok (.iload 6, 2) := dk_21 6 (dk_at dksL_law_98 10 rfl rfl)
theorem dL_law_2489 : decode cL_law 2489 = .ok (.ifCond .ne 15, 3) := dk_154 0 15 (dk_at dksL_law_98 12 rfl rfl)
theorem dL_law_2492 : decode cL_law 2492 = .ok (.aload_n 3, 1) := dk_45 (dk_at dksL_law_98 15 rfl rfl)
theorem dL_law_2493 : decode cL_law 2493 = .ok (.iconst 0, 1) := dk_3 (dk_at dksL_law_98 16 rfl rfl)
theorem dL_law_2494 : decode cL_law 2494 = .ok (.laload, 1) := dk_47 (dk_at dksL_law_98 17 rfl rfl)
theorem dL_law_2495 : decode cL_law 2495 = .ok (.iload 7, 2) := dk_21 7 (dk_at dksL_law_98 18 rfl rfl)
theorem dL_law_2497 : decode cL_law 2497 = .ok (.i2l, 1) := dk_133 (dk_at dksL_law_98 20 rfl rfl)
theorem dL_law_2498 : decode cL_law 2498 = .ok (.lcmp, 1) := dk_148 (dk_at dksL_law_98 21 rfl rfl)
theorem dL_law_2499 : decode cL_law 2499 = .ok (.ifCond .eq 5, 3) := dk_153 0 5 (dk_at dksL_law_99 0 rfl rfl)
theorem dL_law_2502 : decode cL_law 2502 = .ok (.iconst 0, 1) := dk_3 (dk_at dksL_law_99 3 rfl rfl)
theorem dL_law_2503 : decode cL_law 2503 = .ok (.ireturn, 1) := dk_172 (dk_at dksL_law_99 4 rfl rfl)
theorem dL_law_2504 : decode cL_law 2504 = .ok (.goto 436, 3) := dk_167 1 180 (dk_at dksL_law_99 5 rfl rfl)
theorem dL_law_2507 : decode cL_law 2507 = .ok (.aload_n 1, 1) := dk_43 (dk_at dksL_law_99 8 rfl rfl)
theorem dL_law_2508 : decode cL_law 2508 = .ok (.aload_n 3, 1) := dk_45 (dk_at dksL_law_99 9 rfl rfl)
theorem dL_law_2509 : decode cL_law 2509 = .ok (.invokestatic 298, 3) := dk_184 1 42 (dk_at dksL_law_99 10 rfl rfl)
theorem dL_law_2512 : decode cL_law 2512 = .ok (.istore 6, 2) := dk_54 6 (dk_at dksL_law_99 13 rfl rfl)
theorem dL_law_2514 : decode cL_law 2514 = .ok (.aload_n 2, 1) := dk_44 (dk_at dksL_law_99 15 rfl rfl)
theorem dL_law_2515 : decode cL_law 2515 = .ok (.invokevirtual 300, 3) := dk_182 1 44 (dk_at dksL_law_99 16 rfl rfl)
theorem dL_law_2518 : decode cL_law 2518 = .ok (.istore 7, 2) := dk_54 7 (dk_at dksL_law_99 19 rfl rfl)
theorem dL_law_2520 : decode cL_law 2520 = .ok (.aload_n 2, 1) := dk_44 (dk_at dksL_law_99 21 rfl rfl)
theorem dL_law_2521 : decode cL_law 2521 = .ok (.invokevirtual 171, 3) := dk_182 0 171 (dk_at dksL_law_100 0 rfl rfl)
theorem dL_law_2524 : decode cL_law 2524 = .ok (.iload 6, 2) := dk_21 6 (dk_at dksL_law_100 3 rfl rfl)
theorem dL_law_2526 : decode cL_law 2526 = .ok (.if_icmp .eq 5, 3) := dk_159 0 5 (dk_at dksL_law_100 5 rfl rfl)
theorem dL_law_2529 : decode cL_law 2529 = .ok (.iconst 0, 1) := dk_3 (dk_at dksL_law_100 8 rfl rfl)
theorem dL_law_2530 : decode cL_law 2530 = .ok (.ireturn, 1) := dk_172 (dk_at dksL_law_100 9 rfl rfl)
theorem dL_law_2531 : decode cL_law 2531 = .ok (.iload 6, 2) := dk_21 6 (dk_at dksL_law_100 10 rfl rfl)
theorem dL_law_2533 : decode cL_law 2533 = .ok (.ifCond .ne 15, 3) := dk_154 0 15 (dk_at dksL_law_100 12 rfl rfl)
theorem dL_law_2536 : decode cL_law 2536 = .ok (.aload_n 3, 1) := dk_45 (dk_at dksL_law_100 15 rfl rfl)
theorem dL_law_2537 : decode cL_law 2537 = .ok (.iconst 0, 1) := dk_3 (dk_at dksL_law_100 16 rfl rfl)
theorem dL_law_2538 : decode cL_law 2538 = .ok (.laload, 1) := dk_47 (dk_at dksL_law_100 17 rfl rfl)
theorem dL_law_2539 : decode cL_law 2539 = .ok (.iload 7, 2) := dk_21 7 (dk_at dksL_law_100 18 rfl rfl)
theorem dL_law_2541 : decode cL_law 2541 = .ok (.i2l, 1) := dk_133 (dk_at dksL_law_100 20 rfl rfl)
theorem dL_law_2542 : decode cL_law 2542 = .ok (.lcmp, 1) := dk_148 (dk_at dksL_law_100 21 rfl rfl)
theorem dL_law_2543 : decode cL_law 2543 = .ok (.ifCond .eq 5, 3) := dk_153 0 5 (dk_at dksL_law_101 0 rfl rfl)
theorem dL_law_2546 : decode cL_law 2546 = .ok (.iconst 0, 1) := dk_3 (dk_at dksL_law_101 3 rfl rfl)
theorem dL_law_2547 : decode cL_law 2547 = .ok (.ireturn, 1) := dk_172 (dk_at dksL_law_101 4 rfl rfl)
theorem dL_law_2548 : decode cL_law 2548 = .ok (.goto 392, 3) := dk_167 1 136 (dk_at dksL_law_101 5 rfl rfl)
theorem dL_law_2551 : decode cL_law 2551 = .ok (.aload_n 1, 1) := dk_43 (dk_at dksL_law_101 8 rfl rfl)
theorem dL_law_2552 : decode cL_law 2552 = .ok (.aload_n 3, 1) := dk_45 (dk_at dksL_law_101 9 rfl rfl)
theorem dL_law_2553 : decode cL_law 2553 = .ok (.invokestatic 301, 3) := dk_184 1 45 (dk_at dksL_law_101 10 rfl rfl)
theorem dL_law_2556 : decode cL_law 2556 = .ok (.istore 6, 2) := dk_54 6 (dk_at dksL_law_101 13 rfl rfl)
theorem dL_law_2558 : decode cL_law 2558 = .ok (.aload_n 2, 1) := dk_44 (dk_at dksL_law_101 15 rfl rfl)
theorem dL_law_2559 : decode cL_law 2559 = .ok (.invokevirtual 303, 3) := dk_182 1 47 (dk_at dksL_law_101 16 rfl rfl)
theorem dL_law_2562 : decode cL_law 2562 = .ok (.istore 7, 2) := dk_54 7 (dk_at dksL_law_101 19 rfl rfl)
theorem dL_law_2564 : decode cL_law 2564 = .ok (.aload_n 2, 1) := dk_44 (dk_at dksL_law_101 21 rfl rfl)
theorem dL_law_2565 : decode cL_law 2565 = .ok (.invokevirtual 171, 3) := dk_182 0 171 (dk_at dksL_law_102 0 rfl rfl)
theorem dL_law_2568 : decode cL_law 2568 = .ok (.iload 6, 2) := dk_21 6 (dk_at dksL_law_102 3 rfl rfl)
theorem dL_law_2570 : decode cL_law 2570 = .ok (.if_icmp .eq 5, 3) := dk_159 0 5 (dk_at dksL_law_102 5 rfl rfl)
theorem dL_law_2573 : decode cL_law 2573 = .ok (.iconst 0, 1) := dk_3 (dk_at dksL_law_102 8 rfl rfl)
theorem dL_law_2574 : decode cL_law 2574 = .ok (.ireturn, 1) := dk_172 (dk_at dksL_law_102 9 rfl rfl)
theorem dL_law_2575 : decode cL_law 2575 = .ok (.iload 6, 2) := dk_21 6 (dk_at dksL_law_102 10 rfl rfl)
theorem dL_law_2577 : decode cL_law 2577 = .ok (.ifCond .ne 15, 3) := dk_154 0 15 (dk_at dksL_law_102 12 rfl rfl)
theorem dL_law_2580 : decode cL_law 2580 = .ok (.aload_n 3, 1) := dk_45 (dk_at dksL_law_102 15 rfl rfl)
theorem dL_law_2581 : decode cL_law 2581 = .ok (.iconst 0, 1) := dk_3 (dk_at dksL_law_102 16 rfl rfl)
theorem dL_law_2582 : decode cL_law 2582 = .ok (.laload, 1) := dk_47 (dk_at dksL_law_102 17 rfl rfl)
theorem dL_law_2583 : decode cL_law 2583 = .ok (.iload 7, 2) := dk_21 7 (dk_at dksL_law_102 18 rfl rfl)
theorem dL_law_2585 : decode cL_law 2585 = .ok (.i2l, 1) := dk_133 (dk_at dksL_law_102 20 rfl rfl)
theorem dL_law_2586 : decode cL_law 2586 = .ok (.lcmp, 1) := dk_148 (dk_at dksL_law_102 21 rfl rfl)
theorem dL_law_2587 : decode cL_law 2587 = .ok (.ifCond .eq 5, 3) := dk_153 0 5 (dk_at dksL_law_103 0 rfl rfl)
theorem dL_law_2590 : decode cL_law 2590 = .ok (.iconst 0, 1) := dk_3 (dk_at dksL_law_103 3 rfl rfl)
theorem dL_law_2591 : decode cL_law 2591 = .ok (.ireturn, 1) := dk_172 (dk_at dksL_law_103 4 rfl rfl)
theorem dL_law_2592 : decode cL_law 2592 = .ok (.goto 348, 3) := dk_167 1 92 (dk_at dksL_law_103 5 rfl rfl)
theorem dL_law_2595 : decode cL_law 2595 = .ok (.aload_n 1, 1) := dk_43 (dk_at dksL_law_103 8 rfl rfl)
theorem dL_law_2596 : decode cL_law 2596 = .ok (.aload_n 0, 1) := dk_42 (dk_at dksL_law_103 9 rfl rfl)
theorem dL_law_2597 : decode cL_law 2597 = .ok (.iload 5, 2) := dk_21 5 (dk_at dksL_law_103 10 rfl rfl)
theorem dL_law_2599 : decode cL_law 2599 = .ok (.iconst 1, 1) := dk_4 (dk_at dksL_law_103 12 rfl rfl)
theorem dL_law_2600 : decode cL_law 2600 = .ok (.iadd, 1) := dk_96 (dk_at dksL_law_103 13 rfl rfl)
theorem dL_law_2601 : decode cL_law 2601 = .ok (.iaload, 1) := dk_46 (dk_at dksL_law_103 14 rfl rfl)
theorem dL_law_2602 : decode cL_law 2602 = .ok (.aload_n 3, 1) := dk_45 (dk_at dksL_law_103 15 rfl rfl)
theorem dL_law_2603 : decode cL_law 2603 = .ok (.invokestatic 304, 3) := dk_184 1 48 (dk_at dksL_law_103 16 rfl rfl)
theorem dL_law_2606 : decode cL_law 2606 = .ok (.istore 6, 2) := dk_54 6 (dk_at dksL_law_103 19 rfl rfl)
theorem dL_law_2608 : decode cL_law 2608 = .ok (.aload_n 2, 1) := dk_44 (dk_at dksL_law_103 21 rfl rfl)
theorem dL_law_2609 : decode cL_law 2609 = .ok (.aload_n 0, 1) := dk_42 (dk_at dksL_law_103 22 rfl rfl)
theorem dL_law_2610 : decode cL_law 2610 = .ok (.iload 5, 2) := dk_21 5 (dk_at dksL_law_104 0 rfl rfl)
theorem dL_law_2612 : decode cL_law 2612 = .ok (.iconst 1, 1) := dk_4 (dk_at dksL_law_104 2 rfl rfl)
theorem dL_law_2613 : decode cL_law 2613 = .ok (.iadd, 1) := dk_96 (dk_at dksL_law_104 3 rfl rfl)
theorem dL_law_2614 : decode cL_law 2614 = .ok (.iaload, 1) := dk_46 (dk_at dksL_law_104 4 rfl rfl)
theorem dL_law_2615 : decode cL_law 2615 = .ok (.invokevirtual 306, 3) := dk_182 1 50 (dk_at dksL_law_104 5 rfl rfl)
theorem dL_law_2618 : decode cL_law 2618 = .ok (.istore 7, 2) := dk_54 7 (dk_at dksL_law_104 8 rfl rfl)
theorem dL_law_2620 : decode cL_law 2620 = .ok (.aload_n 2, 1) := dk_44 (dk_at dksL_law_104 10 rfl rfl)
theorem dL_law_2621 : decode cL_law 2621 = .ok (.invokevirtual 171, 3) := dk_182 0 171 (dk_at dksL_law_104 11 rfl rfl)
theorem dL_law_2624 : decode cL_law 2624 = .ok (.iload 6, 2) := dk_21 6 (dk_at dksL_law_104 14 rfl rfl)
theorem dL_law_2626 : decode cL_law 2626 = .ok (.if_icmp .eq 5, 3) := dk_159 0 5 (dk_at dksL_law_104 16 rfl rfl)
theorem dL_law_2629 : decode cL_law 2629 = .ok (.iconst 0, 1) := dk_3 (dk_at dksL_law_104 19 rfl rfl)
theorem dL_law_2630 : decode cL_law 2630 = .ok (.ireturn, 1) := dk_172 (dk_at dksL_law_104 20 rfl rfl)
theorem dL_law_2631 : decode cL_law 2631 = .ok (.iload 6, 2) := dk_21 6 (dk_at dksL_law_104 21 rfl rfl)
theorem dL_law_2633 : decode cL_law 2633 = .ok (.ifCond .ne 15, 3) := dk_154 0 15 (dk_at dksL_law_105 0 rfl rfl)
theorem dL_law_2636 : decode cL_law 2636 = .ok (.aload_n 3, 1) := dk_45 (dk_at dksL_law_105 3 rfl rfl)
theorem dL_law_2637 : decode cL_law 2637 = .ok (.iconst 0, 1) := dk_3 (dk_at dksL_law_105 4 rfl rfl)
theorem dL_law_2638 : decode cL_law 2638 = .ok (.laload, 1) := dk_47 (dk_at dksL_law_105 5 rfl rfl)
theorem dL_law_2639 : decode cL_law 2639 = .ok (.iload 7, 2) := dk_21 7 (dk_at dksL_law_105 6 rfl rfl)
theorem dL_law_2641 : decode cL_law 2641 = .ok (.i2l, 1) := dk_133 (dk_at dksL_law_105 8 rfl rfl)
theorem dL_law_2642 : decode cL_law 2642 = .ok (.lcmp, 1) := dk_148 (dk_at dksL_law_105 9 rfl rfl)
theorem dL_law_2643 : decode cL_law 2643 = .ok (.ifCond .eq 5, 3) := dk_153 0 5 (dk_at dksL_law_105 10 rfl rfl)
theorem dL_law_2646 : decode cL_law 2646 = .ok (.iconst 0, 1) := dk_3 (dk_at dksL_law_105 13 rfl rfl)
theorem dL_law_2647 : decode cL_law 2647 = .ok (.ireturn, 1) := dk_172 (dk_at dksL_law_105 14 rfl rfl)
theorem dL_law_2648 : decode cL_law 2648 = .ok (.goto 292, 3) := dk_167 1 36 (dk_at dksL_law_105 15 rfl rfl)
theorem dL_law_2651 : decode cL_law 2651 = .ok (.aload_n 1, 1) := dk_43 (dk_at dksL_law_105 18 rfl rfl)
theorem dL_law_2652 : decode cL_law 2652 = .ok (.aload_n 0, 1) := dk_42 (dk_at dksL_law_105 19 rfl rfl)
theorem dL_law_2653 : decode cL_law 2653 = .ok (.iload 5, 2) := dk_21 5 (dk_at dksL_law_105 20 rfl rfl)
theorem dL_law_2655 : decode cL_law 2655 = .ok (.iconst 1, 1) := dk_4 (dk_at dksL_law_105 22 rfl rfl)
theorem dL_law_2656 : decode cL_law 2656 = .ok (.iadd, 1) := dk_96 (dk_at dksL_law_105 23 rfl rfl)
theorem dL_law_2657 : decode cL_law 2657 = .ok (.iaload, 1) := dk_46 (dk_at dksL_law_106 0 rfl rfl)
theorem dL_law_2658 : decode cL_law 2658 = .ok (.aload_n 3, 1) := dk_45 (dk_at dksL_law_106 1 rfl rfl)
theorem dL_law_2659 : decode cL_law 2659 = .ok (.invokestatic 307, 3) := dk_184 1 51 (dk_at dksL_law_106 2 rfl rfl)
theorem dL_law_2662 : decode cL_law 2662 = .ok (.istore 6, 2) := dk_54 6 (dk_at dksL_law_106 5 rfl rfl)
theorem dL_law_2664 : decode cL_law 2664 = .ok (.aload_n 2, 1) := dk_44 (dk_at dksL_law_106 7 rfl rfl)
theorem dL_law_2665 : decode cL_law 2665 = .ok (.aload_n 0, 1) := dk_42 (dk_at dksL_law_106 8 rfl rfl)
theorem dL_law_2666 : decode cL_law 2666 = .ok (.iload 5, 2) := dk_21 5 (dk_at dksL_law_106 9 rfl rfl)
theorem dL_law_2668 : decode cL_law 2668 = .ok (.iconst 1, 1) := dk_4 (dk_at dksL_law_106 11 rfl rfl)
theorem dL_law_2669 : decode cL_law 2669 = .ok (.iadd, 1) := dk_96 (dk_at dksL_law_106 12 rfl rfl)
theorem dL_law_2670 : decode cL_law 2670 = .ok (.iaload, 1) := dk_46 (dk_at dksL_law_106 13 rfl rfl)
theorem dL_law_2671 : decode cL_law 2671 = .ok (.invokevirtual 309, 3) := dk_182 1 53 (dk_at dksL_law_106 14 rfl rfl)
theorem dL_law_2674 : decode cL_law 2674 = .ok (.istore 7, 2) := dk_54 7 (dk_at dksL_law_106 17 rfl rfl)
theorem dL_law_2676 : decode cL_law 2676 = .ok (.aload_n 2, 1) := dk_44 (dk_at dksL_law_106 19 rfl rfl)
theorem dL_law_2677 : decode cL_law 2677 = .ok (.invokevirtual 171, 3) := dk_182 0 171 (dk_at dksL_law_106 20 rfl rfl)
theorem dL_law_2680 : decode cL_law 2680 = .ok (.iload 6, 2) := dk_21 6 (dk_at dksL_law_107 0 rfl rfl)
theorem dL_law_2682 : decode cL_law 2682 = .ok (.if_icmp .eq 5, 3) := dk_159 0 5 (dk_at dksL_law_107 2 rfl rfl)
theorem dL_law_2685 : decode cL_law 2685 = .ok (.iconst 0, 1) := dk_3 (dk_at dksL_law_107 5 rfl rfl)
theorem dL_law_2686 : decode cL_law 2686 = .ok (.ireturn, 1) := dk_172 (dk_at dksL_law_107 6 rfl rfl)
theorem dL_law_2687 : decode cL_law 2687 = .ok (.iload 6, 2) := dk_21 6 (dk_at dksL_law_107 7 rfl rfl)
theorem dL_law_2689 : decode cL_law 2689 = .ok (.ifCond .ne 15, 3) := dk_154 0 15 (dk_at dksL_law_107 9 rfl rfl)
theorem dL_law_2692 : decode cL_law 2692 = .ok (.aload_n 3, 1) := dk_45 (dk_at dksL_law_107 12 rfl rfl)
theorem dL_law_2693 : decode cL_law 2693 = .ok (.iconst 0, 1) := dk_3 (dk_at dksL_law_107 13 rfl rfl)
theorem dL_law_2694 : decode cL_law 2694 = .ok (.laload, 1) := dk_47 (dk_at dksL_law_107 14 rfl rfl)
theorem dL_law_2695 : decode cL_law 2695 = .ok (.iload 7, 2) := dk_21 7 (dk_at dksL_law_107 15 rfl rfl)
theorem dL_law_2697 : decode cL_law 2697 = .ok (.i2l, 1) := dk_133 (dk_at dksL_law_107 17 rfl rfl)
theorem dL_law_2698 : decode cL_law 2698 = .ok (.lcmp, 1) := dk_148 (dk_at dksL_law_107 18 rfl rfl)
theorem dL_law_2699 : decode cL_law 2699 = .ok (.ifCond .eq 5, 3) := dk_153 0 5 (dk_at dksL_law_107 19 rfl rfl)
theorem dL_law_2702 : decode cL_law 2702 = .ok (.iconst 0, 1) := dk_3 (dk_at dksL_law_107 22 rfl rfl)
theorem dL_law_2703 : decode cL_law 2703 = .ok (.ireturn, 1) := dk_172 (dk_at dksL_law_107 23 rfl rfl)
theorem dL_law_2704 : decode cL_law 2704 = .ok (.goto 236, 3) := dk_167 0 236 (dk_at dksL_law_108 0 rfl rfl)
theorem dL_law_2707 : decode cL_law 2707 = .ok (.aload_n 1, 1) := dk_43 (dk_at dksL_law_108 3 rfl rfl)
theorem dL_law_2708 : decode cL_law 2708 = .ok (.invokevirtual 310, 3) := dk_182 1 54 (dk_at dksL_law_108 4 rfl rfl)
theorem dL_law_2711 : decode cL_law 2711 = .ok (.dstore 6, 2) := dk_57 6 (dk_at dksL_law_108 7 rfl rfl)
theorem dL_law_2713 : decode cL_law 2713 = .ok (.aload_n 2, 1) := dk_44 (dk_at dksL_law_108 9 rfl rfl)
theorem dL_law_2714 : decode cL_law 2714 = .ok (.invokevirtual 314, 3) := dk_182 1 58 (dk_at dksL_law_108 10 rfl rfl)
theorem dL_law_2717 : decode cL_law 2717 = .ok (.dstore 8, 2) := dk_57 8 (dk_at dksL_law_108 13 rfl rfl)
theorem dL_law_2719 : decode cL_law 2719 = .ok (.dload 6, 2) := dk_24 6 (dk_at dksL_law_108 15 rfl rfl)
theorem dL_law_2721 : decode cL_law 2721 = .ok (.dload 8, 2) := dk_24 8 (dk_at dksL_law_108 17 rfl rfl)
theorem dL_law_2723 : decode cL_law 2723 = .ok (.dcmp .l, 1) := dk_151 (dk_at dksL_law_108 19 rfl rfl)
theorem dL_law_2724 : decode cL_law 2724 = .ok (.ifCond .eq 21, 3) := dk_153 0 21 (dk_at dksL_law_108 20 rfl rfl)
theorem dL_law_2727 : decode cL_law 2727 = .ok (.dload 6, 2) := dk_24 6 (dk_at dksL_law_109 0 rfl rfl)
theorem dL_law_2729 : decode cL_law 2729 = .ok (.dload 6, 2) := dk_24 6 (dk_at dksL_law_109 2 rfl rfl)
theorem dL_law_2731 : decode cL_law 2731 = .ok (.dcmp .l, 1) := dk_151 (dk_at dksL_law_109 4 rfl rfl)
theorem dL_law_2732 : decode cL_law 2732 = .ok (.ifCond .eq 11, 3) := dk_153 0 11 (dk_at dksL_law_109 5 rfl rfl)
theorem dL_law_2735 : decode cL_law 2735 = .ok (.dload 8, 2) := dk_24 8 (dk_at dksL_law_109 8 rfl rfl)
theorem dL_law_2737 : decode cL_law 2737 = .ok (.dload 8, 2) := dk_24 8 (dk_at dksL_law_109 10 rfl rfl)
theorem dL_law_2739 : decode cL_law 2739 = .ok (.dcmp .l, 1) := dk_151 (dk_at dksL_law_109 12 rfl rfl)
theorem dL_law_2740 : decode cL_law 2740 = .ok (.ifCond .ne 5, 3) := dk_154 0 5 (dk_at dksL_law_109 13 rfl rfl)
theorem dL_law_2743 : decode cL_law 2743 = .ok (.iconst 0, 1) := dk_3 (dk_at dksL_law_109 16 rfl rfl)
theorem dL_law_2744 : decode cL_law 2744 = .ok (.ireturn, 1) := dk_172 (dk_at dksL_law_109 17 rfl rfl)
theorem dL_law_2745 : decode cL_law 2745 = .ok (.goto 195, 3) := dk_167 0 195 (dk_at dksL_law_109 18 rfl rfl)
theorem dL_law_2748 : decode cL_law 2748 = .ok (.aload_n 1, 1) := dk_43 (dk_at dksL_law_109 21 rfl rfl)
theorem dL_law_2749 : decode cL_law 2749 = .ok (.aload_n 0, 1) := dk_42 (dk_at dksL_law_109 22 rfl rfl)
theorem dL_law_2750 : decode cL_law 2750 = .ok (.iload 5, 2) := dk_21 5 (dk_at dksL_law_110 0 rfl rfl)
theorem dL_law_2752 : decode cL_law 2752 = .ok (.iconst 1, 1) := dk_4 (dk_at dksL_law_110 2 rfl rfl)
theorem dL_law_2753 : decode cL_law 2753 = .ok (.iadd, 1) := dk_96 (dk_at dksL_law_110 3 rfl rfl)
theorem dL_law_2754 : decode cL_law 2754 = .ok (.iaload, 1) := dk_46 (dk_at dksL_law_110 4 rfl rfl)
theorem dL_law_2755 : decode cL_law 2755 = .ok (.aload 4, 2) := dk_25 4 (dk_at dksL_law_110 5 rfl rfl)
theorem dL_law_2757 : decode cL_law 2757 = .ok (.invokestatic 315, 3) := dk_184 1 59 (dk_at dksL_law_110 7 rfl rfl)
theorem dL_law_2760 : decode cL_law 2760 = .ok (.istore 6, 2) := dk_54 6 (dk_at dksL_law_110 10 rfl rfl)
theorem dL_law_2762 : decode cL_law 2762 = .ok (.aload_n 2, 1) := dk_44 (dk_at dksL_law_110 12 rfl rfl)
theorem dL_law_2763 : decode cL_law 2763 = .ok (.aload_n 0, 1) := dk_42 (dk_at dksL_law_110 13 rfl rfl)
theorem dL_law_2764 : decode cL_law 2764 = .ok (.iload 5, 2) := dk_21 5 (dk_at dksL_law_110 14 rfl rfl)
theorem dL_law_2766 : decode cL_law 2766 = .ok (.iconst 1, 1) := dk_4 (dk_at dksL_law_110 16 rfl rfl)
theorem dL_law_2767 : decode cL_law 2767 = .ok (.iadd, 1) := dk_96 (dk_at dksL_law_110 17 rfl rfl)
theorem dL_law_2768 : decode cL_law 2768 = .ok (.iaload, 1) := dk_46 (dk_at dksL_law_110 18 rfl rfl)
theorem dL_law_2769 : decode cL_law 2769 = .ok (.invokevirtual 318, 3) := dk_182 1 62 (dk_at dksL_law_110 19 rfl rfl)
theorem dL_law_2772 : decode cL_law 2772 = .ok (.fstore 7, 2) := dk_56 7 (dk_at dksL_law_110 22 rfl rfl)
theorem dL_law_2774 : decode cL_law 2774 = .ok (.aload_n 2, 1) := dk_44 (dk_at dksL_law_111 0 rfl rfl)
theorem dL_law_2775 : decode cL_law 2775 = .ok (.invokevirtual 171, 3) := dk_182 0 171 (dk_at dksL_law_111 1 rfl rfl)
theorem dL_law_2778 : decode cL_law 2778 = .ok (.iload 6, 2) := dk_21 6 (dk_at dksL_law_111 4 rfl rfl)
theorem dL_law_2780 : decode cL_law 2780 = .ok (.if_icmp .eq 5, 3) := dk_159 0 5 (dk_at dksL_law_111 6 rfl rfl)
theorem dL_law_2783 : decode cL_law 2783 = .ok (.iconst 0, 1) := dk_3 (dk_at dksL_law_111 9 rfl rfl)
theorem dL_law_2784 : decode cL_law 2784 = .ok (.ireturn, 1) := dk_172 (dk_at dksL_law_111 10 rfl rfl)
theorem dL_law_2785 : decode cL_law 2785 = .ok (.iload 6, 2) := dk_21 6 (dk_at dksL_law_111 11 rfl rfl)
theorem dL_law_2787 : decode cL_law 2787 = .ok (.ifCond .ne 36, 3) := dk_154 0 36 (dk_at dksL_law_111 13 rfl rfl)
theorem dL_law_2790 : decode cL_law 2790 = .ok (.aload 4, 2) := dk_25 4 (dk_at dksL_law_111 16 rfl rfl)
theorem dL_law_2792 : decode cL_law 2792 = .ok (.iconst 0, 1) := dk_3 (dk_at dksL_law_111 18 rfl rfl)
theorem dL_law_2793 : decode cL_law 2793 = .ok (.daload, 1) := dk_49 (dk_at dksL_law_111 19 rfl rfl)
theorem dL_law_2794 : decode cL_law 2794 = .ok (.fload 7, 2) := dk_23 7 (dk_at dksL_law_111 20 rfl rfl)
theorem dL_law_2796 : decode cL_law 2796 = .ok (.f2d, 1) := dk_141 (dk_at dksL_law_111 22 rfl rfl)
theorem dL_law_2797 : decode cL_law 2797 = .ok (.dcmp .l, 1) := dk_151 (dk_at dksL_law_111 23 rfl rfl)
theorem dL_law_2798 : decode cL_law 2798 = .ok (.ifCond .eq 25, 3) := dk_153 0 25 (dk_at dksL_law_112 0 rfl rfl)
theorem dL_law_2801 : decode cL_law 2801 = .ok (.aload 4, 2) := dk_25 4 (dk_at dksL_law_112 3 rfl rfl)
theorem dL_law_2803 : decode cL_law 2803 = .ok (.iconst 0, 1) := dk_3 (dk_at dksL_law_112 5 rfl rfl)
theorem dL_law_2804 : decode cL_law 2804 = .ok (.daload, 1) := dk_49 (dk_at dksL_law_112 6 rfl rfl)
theorem dL_law_2805 : decode cL_law 2805 = .ok (.aload 4, 2) := dk_25 4 (dk_at dksL_law_112 7 rfl rfl)
theorem dL_law_2807 : decode cL_law 2807 = .ok (.iconst 0, 1) := dk_3 (dk_at dksL_law_112 9 rfl rfl)
theorem dL_law_2808 : decode cL_law 2808 = .ok (.daload, 1) := dk_49 (dk_at dksL_law_112 10 rfl rfl)
theorem dL_law_2809 : decode cL_law 2809 = .ok (.dcmp .l, 1) := dk_151 (dk_at dksL_law_112 11 rfl rfl)
theorem dL_law_2810 : decode cL_law 2810 = .ok (.ifCond .eq 11, 3) := dk_153 0 11 (dk_at dksL_law_112 12 rfl rfl)
theorem dL_law_2813 : decode cL_law 2813 = .ok (.fload 7, 2) := dk_23 7 (dk_at dksL_law_112 15 rfl rfl)
theorem dL_law_2815 : decode cL_law 2815 = .ok (.fload 7, 2) := dk_23 7 (dk_at dksL_law_112 17 rfl rfl)
theorem dL_law_2817 : decode cL_law 2817 = .ok (.fcmp .l, 1) := dk_149 (dk_at dksL_law_112 19 rfl rfl)
theorem dL_law_2818 : decode cL_law 2818 = .ok (.ifCond .ne 5, 3) := dk_154 0 5 (dk_at dksL_law_112 20 rfl rfl)
theorem dL_law_2821 : decode cL_law 2821 = .ok (.iconst 0, 1) := dk_3 (dk_at dksL_law_112 23 rfl rfl)
theorem dL_law_2822 : decode cL_law 2822 = .ok (.ireturn, 1) := dk_172 (dk_at dksL_law_113 0 rfl rfl)
theorem dL_law_2823 : decode cL_law 2823 = .ok (.goto 117, 3) := dk_167 0 117 (dk_at dksL_law_113 1 rfl rfl)
theorem dL_law_2826 : decode cL_law 2826 = .ok (.aload_n 1, 1) := dk_43 (dk_at dksL_law_113 4 rfl rfl)
theorem dL_law_2827 : decode cL_law 2827 = .ok (.invokevirtual 319, 3) := dk_182 1 63 (dk_at dksL_law_113 5 rfl rfl)
theorem dL_law_2830 : decode cL_law 2830 = .ok (.aload_n 2, 1) := dk_44 (dk_at dksL_law_113 8 rfl rfl)
theorem dL_law_2831 : decode cL_law 2831 = .ok (.invokevirtual 323, 3) := dk_182 1 67 (dk_at dksL_law_113 9 rfl rfl)
theorem dL_law_2834 : decode cL_law 2834 = .ok (.if_icmp .eq 106, 3) := dk_159 0 106 (dk_at dksL_law_113 12 rfl rfl)
theorem dL_law_2837 : decode cL_law 2837 = .ok (.iconst 0, 1) := dk_3 (dk_at dksL_law_113 15 rfl rfl)
theorem dL_law_2838 : decode cL_law 2838 = .ok (.ireturn, 1) := dk_172 (dk_at dksL_law_113 16 rfl rfl)
theorem dL_law_2839 : decode cL_law 2839 = .ok (.aload_n 1, 1) := dk_43 (dk_at dksL_law_113 17 rfl rfl)
theorem dL_law_2840 : decode cL_law 2840 = .ok (.aload_n 3, 1) := dk_45 (dk_at dksL_law_113 18 rfl rfl)
theorem dL_law_2841 : decode cL_law 2841 = .ok (.invokestatic 324, 3) := dk_184 1 68 (dk_at dksL_law_113 19 rfl rfl)
theorem dL_law_2844 : decode cL_law 2844 = .ok (.istore 6, 2) := dk_54 6 (dk_at dksL_law_113 22 rfl rfl)
theorem dL_law_2846 : decode cL_law 2846 = .ok (.aload_n 2, 1) := dk_44 (dk_at dksL_law_114 0 rfl rfl)
theorem dL_law_2847 : decode cL_law 2847 = .ok (.invokevirtual 326, 3) := dk_182 1 70 (dk_at dksL_law_114 1 rfl rfl)
theorem dL_law_2850 : decode cL_law 2850 = .ok (.istore 7, 2) := dk_54 7 (dk_at dksL_law_114 4 rfl rfl)
theorem dL_law_2852 : decode cL_law 2852 = .ok (.aload_n 2, 1) := dk_44 (dk_at dksL_law_114 6 rfl rfl)
theorem dL_law_2853 : decode cL_law 2853 = .ok (.invokevirtual 171, 3) := dk_182 0 171 (dk_at dksL_law_114 7 rfl rfl)
theorem dL_law_2856 : decode cL_law 2856 = .ok (.iload 6, 2) := dk_21 6 (dk_at dksL_law_114 10 rfl rfl)
theorem dL_law_2858 : decode cL_law 2858 = .ok (.if_icmp .eq 5, 3) := dk_159 0 5 (dk_at dksL_law_114 12 rfl rfl)
theorem dL_law_2861 : decode cL_law 2861 = .ok (.iconst 0, 1) := dk_3 (dk_at dksL_law_114 15 rfl rfl)
theorem dL_law_2862 : decode cL_law 2862 = .ok (.ireturn, 1) := dk_172 (dk_at dksL_law_114 16 rfl rfl)
theorem dL_law_2863 : decode cL_law 2863 = .ok (.iload 6, 2) := dk_21 6 (dk_at dksL_law_114 17 rfl rfl)
theorem dL_law_2865 : decode cL_law 2865 = .ok (.ifCond .ne 15, 3) := dk_154 0 15 (dk_at dksL_law_114 19 rfl rfl)
theorem dL_law_2868 : decode cL_law 2868 = .ok (.aload_n 3, 1) := dk_45 (dk_at dksL_law_114 22 rfl rfl)
theorem dL_law_2869 : decode cL_law 2869 = .ok (.iconst 0, 1) := dk_3 (dk_at dksL_law_114 23 rfl rfl)
theorem dL_law_2870 : decode cL_law 2870 = .ok (.laload, 1) := dk_47 (dk_at dksL_law_115 0 rfl rfl)
theorem dL_law_2871 : decode cL_law 2871 = .ok (.iload 7, 2) := dk_21 7 (dk_at dksL_law_115 1 rfl rfl)
theorem dL_law_2873 : decode cL_law 2873 = .ok (.i2l, 1) := dk_133 (dk_at dksL_law_115 3 rfl rfl)
theorem dL_law_2874 : decode cL_law 2874 = .ok (.lcmp, 1) := dk_148 (dk_at dksL_law_115 4 rfl rfl)
theorem dL_law_2875 : decode cL_law 2875 = .ok (.ifCond .eq 5, 3) := dk_153 0 5 (dk_at dksL_law_115 5 rfl rfl)
theorem dL_law_2878 : decode cL_law 2878 = .ok (.iconst 0, 1) := dk_3 (dk_at dksL_law_115 8 rfl rfl)
theorem dL_law_2879 : decode cL_law 2879 = .ok (.ireturn, 1) := dk_172 (dk_at dksL_law_115 9 rfl rfl)
theorem dL_law_2880 : decode cL_law 2880 = .ok (.goto 60, 3) := dk_167 0 60 (dk_at dksL_law_115 10 rfl rfl)
theorem dL_law_2883 : decode cL_law 2883 = .ok (.aload_n 1, 1) := dk_43 (dk_at dksL_law_115 13 rfl rfl)
theorem dL_law_2884 : decode cL_law 2884 = .ok (.invokevirtual 327, 3) := dk_182 1 71 (dk_at dksL_law_115 14 rfl rfl)
theorem dL_law_2887 : decode cL_law 2887 = .ok (.aload_n 2, 1) := dk_44 (dk_at dksL_law_115 17 rfl rfl)
theorem dL_law_2888 : decode cL_law 2888 = .ok (.invokevirtual 330, 3) := dk_182 1 74 (dk_at dksL_law_115 18 rfl rfl)
theorem dL_law_2891 : decode cL_law 2891 = .ok (.if_icmp .eq 49, 3) := dk_159 0 49 (dk_at dksL_law_115 21 rfl rfl)
theorem dL_law_2894 : decode cL_law 2894 = .ok (.iconst 0, 1) := dk_3 (dk_at dksL_law_116 0 rfl rfl)
theorem dL_law_2895 : decode cL_law 2895 = .ok (.ireturn, 1) := dk_172 (dk_at dksL_law_116 1 rfl rfl)
theorem dL_law_2896 : decode cL_law 2896 = .ok (.aload_n 1, 1) := dk_43 (dk_at dksL_law_116 2 rfl rfl)
theorem dL_law_2897 : decode cL_law 2897 = .ok (.aload_n 3, 1) := dk_45 (dk_at dksL_law_116 3 rfl rfl)
theorem dL_law_2898 : decode cL_law 2898 = .ok (.invokestatic 331, 3) := dk_184 1 75 (dk_at dksL_law_116 4 rfl rfl)
theorem dL_law_2901 : decode cL_law 2901 = .ok (.istore 6, 2) := dk_54 6 (dk_at dksL_law_116 7 rfl rfl)
theorem dL_law_2903 : decode cL_law 2903 = .ok (.aload_n 2, 1) := dk_44 (dk_at dksL_law_116 9 rfl rfl)
theorem dL_law_2904 : decode cL_law 2904 = .ok (.invokevirtual 333, 3) := dk_182 1 77 (dk_at dksL_law_116 10 rfl rfl)
theorem dL_law_2907 : decode cL_law 2907 = .ok (.istore 7, 2) := dk_54 7 (dk_at dksL_law_116 13 rfl rfl)
theorem dL_law_2909 : decode cL_law 2909 = .ok (.aload_n 2, 1) := dk_44 (dk_at dksL_law_116 15 rfl rfl)
theorem dL_law_2910 : decode cL_law 2910 = .ok (.invokevirtual 171, 3) := dk_182 0 171 (dk_at dksL_law_116 16 rfl rfl)
theorem dL_law_2913 : decode cL_law 2913 = .ok (.iload 6, 2) := dk_21 6 (dk_at dksL_law_116 19 rfl rfl)
theorem dL_law_2915 : decode cL_law 2915 = .ok (.if_icmp .eq 5, 3) := dk_159 0 5 (dk_at dksL_law_116 21 rfl rfl)
theorem dL_law_2918 : decode cL_law 2918 = .ok (.iconst 0, 1) := dk_3 (dk_at dksL_law_117 0 rfl rfl)
theorem dL_law_2919 : decode cL_law 2919 = .ok (.ireturn, 1) := dk_172 (dk_at dksL_law_117 1 rfl rfl)
theorem dL_law_2920 : decode cL_law 2920 = .ok (.iload 6, 2) := dk_21 6 (dk_at dksL_law_117 2 rfl rfl)
theorem dL_law_2922 : decode cL_law 2922 = .ok (.ifCond .ne 15, 3) := dk_154 0 15 (dk_at dksL_law_117 4 rfl rfl)
theorem dL_law_2925 : decode cL_law 2925 = .ok (.aload_n 3, 1) := dk_45 (dk_at dksL_law_117 7 rfl rfl)
theorem dL_law_2926 : decode cL_law 2926 = .ok (.iconst 0, 1) := dk_3 (dk_at dksL_law_117 8 rfl rfl)
theorem dL_law_2927 : decode cL_law 2927 = .ok (.laload, 1) := dk_47 (dk_at dksL_law_117 9 rfl rfl)
theorem dL_law_2928 : decode cL_law 2928 = .ok (.iload 7, 2) := dk_21 7 (dk_at dksL_law_117 10 rfl rfl)
theorem dL_law_2930 : decode cL_law 2930 = .ok (.i2l, 1) := dk_133 (dk_at dksL_law_117 12 rfl rfl)
theorem dL_law_2931 : decode cL_law 2931 = .ok (.lcmp, 1) := dk_148 (dk_at dksL_law_117 13 rfl rfl)
theorem dL_law_2932 : decode cL_law 2932 = .ok (.ifCond .eq 5, 3) := dk_153 0 5 (dk_at dksL_law_117 14 rfl rfl)
theorem dL_law_2935 : decode cL_law 2935 = .ok (.iconst 0, 1) := dk_3 (dk_at dksL_law_117 17 rfl rfl)
theorem dL_law_2936 : decode cL_law 2936 = .ok (.ireturn, 1) := dk_172 (dk_at dksL_law_117 18 rfl rfl)
theorem dL_law_2937 : decode cL_law 2937 = .ok (.goto 3, 3) := dk_167 0 3 (dk_at dksL_law_117 19 rfl rfl)
theorem dL_law_2940 : decode cL_law 2940 = .ok (.iinc 5 4, 3) := dk_132 5 4 (dk_at dksL_law_118 0 rfl rfl)
theorem dL_law_2943 : decode cL_law 2943 = .ok (.goto (-2915), 3) := dk_167 244 157 (dk_at dksL_law_118 3 rfl rfl)
theorem dL_law_2946 : decode cL_law 2946 = .ok (.iconst 1, 1) := dk_4 (dk_at dksL_law_118 6 rfl rfl)
theorem dL_law_2947 : decode cL_law 2947 = .ok (.ireturn, 1) := dk_172 (dk_at dksL_law_118 7 rfl rfl)

