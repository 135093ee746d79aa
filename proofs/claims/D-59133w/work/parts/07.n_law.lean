/-! RuleListsLaw -/
set_option maxRecDepth 100000
def RX0 : String := "RuleListsLaw"
abbrev cX0_append : ByteArray := method_3_code
def yX0_append : MethodName := ⟨RX0, "append", "(LRuleLists;I[J)I"⟩
def dkwX0_append_0 : List UInt8 := [44, 3, 42, 27, 182, 0, 7, 133, 80, 167, 0, 9, 78, 4, 172, 78, 5, 172, 3, 172]
abbrev dktX0_append_0 : List UInt8 := dkwX0_append_0 ++ []
theorem dksX0_append_0 : cX0_append.data.toList.drop 0 = dktX0_append_0 := by decide +kernel
theorem dX0_append_0 : decode cX0_append 0 = .ok (.aload_n 2, 1) := dk_44 (dk_at dksX0_append_0 0 rfl rfl)
theorem dX0_append_1 : decode cX0_append 1 = .ok (.iconst 0, 1) := dk_3 (dk_at dksX0_append_0 1 rfl rfl)
theorem dX0_append_2 : decode cX0_append 2 = .ok (.aload_n 0, 1) := dk_42 (dk_at dksX0_append_0 2 rfl rfl)
theorem dX0_append_3 : decode cX0_append 3 = .ok (.iload_n 1, 1) := dk_27 (dk_at dksX0_append_0 3 rfl rfl)
theorem dX0_append_4 : decode cX0_append 4 = .ok (.invokevirtual 7, 3) := dk_182 0 7 (dk_at dksX0_append_0 4 rfl rfl)
theorem dX0_append_7 : decode cX0_append 7 = .ok (.i2l, 1) := dk_133 (dk_at dksX0_append_0 7 rfl rfl)
theorem dX0_append_8 : decode cX0_append 8 = .ok (.lastore, 1) := dk_80 (dk_at dksX0_append_0 8 rfl rfl)
theorem dX0_append_9 : decode cX0_append 9 = .ok (.goto 9, 3) := dk_167 0 9 (dk_at dksX0_append_0 9 rfl rfl)
theorem dX0_append_12 : decode cX0_append 12 = .ok (.astore_n 3, 1) := dk_78 (dk_at dksX0_append_0 12 rfl rfl)
theorem dX0_append_13 : decode cX0_append 13 = .ok (.iconst 1, 1) := dk_4 (dk_at dksX0_append_0 13 rfl rfl)
theorem dX0_append_14 : decode cX0_append 14 = .ok (.ireturn, 1) := dk_172 (dk_at dksX0_append_0 14 rfl rfl)
theorem dX0_append_15 : decode cX0_append 15 = .ok (.astore_n 3, 1) := dk_78 (dk_at dksX0_append_0 15 rfl rfl)
theorem dX0_append_16 : decode cX0_append 16 = .ok (.iconst 2, 1) := dk_5 (dk_at dksX0_append_0 16 rfl rfl)
theorem dX0_append_17 : decode cX0_append 17 = .ok (.ireturn, 1) := dk_172 (dk_at dksX0_append_0 17 rfl rfl)
theorem dX0_append_18 : decode cX0_append 18 = .ok (.iconst 0, 1) := dk_3 (dk_at dksX0_append_0 18 rfl rfl)
theorem dX0_append_19 : decode cX0_append 19 = .ok (.ireturn, 1) := dk_172 (dk_at dksX0_append_0 19 rfl rfl)
abbrev cX0_load : ByteArray := method_4_code
def yX0_load : MethodName := ⟨RX0, "load", "(LRuleLists;[J)I"⟩
def dkwX0_load_0 : List UInt8 := [43, 3, 42, 182, 0, 17, 133, 80, 167, 0, 6, 77, 4, 172, 3, 172]
abbrev dktX0_load_0 : List UInt8 := dkwX0_load_0 ++ []
theorem dksX0_load_0 : cX0_load.data.toList.drop 0 = dktX0_load_0 := by decide +kernel
theorem dX0_load_0 : decode cX0_load 0 = .ok (.aload_n 1, 1) := dk_43 (dk_at dksX0_load_0 0 rfl rfl)
theorem dX0_load_1 : decode cX0_load 1 = .ok (.iconst 0, 1) := dk_3 (dk_at dksX0_load_0 1 rfl rfl)
theorem dX0_load_2 : decode cX0_load 2 = .ok (.aload_n 0, 1) := dk_42 (dk_at dksX0_load_0 2 rfl rfl)
theorem dX0_load_3 : decode cX0_load 3 = .ok (.invokevirtual 17, 3) := dk_182 0 17 (dk_at dksX0_load_0 3 rfl rfl)
theorem dX0_load_6 : decode cX0_load 6 = .ok (.i2l, 1) := dk_133 (dk_at dksX0_load_0 6 rfl rfl)
theorem dX0_load_7 : decode cX0_load 7 = .ok (.lastore, 1) := dk_80 (dk_at dksX0_load_0 7 rfl rfl)
theorem dX0_load_8 : decode cX0_load 8 = .ok (.goto 6, 3) := dk_167 0 6 (dk_at dksX0_load_0 8 rfl rfl)
theorem dX0_load_11 : decode cX0_load 11 = .ok (.astore_n 2, 1) := dk_77 (dk_at dksX0_load_0 11 rfl rfl)
theorem dX0_load_12 : decode cX0_load 12 = .ok (.iconst 1, 1) := dk_4 (dk_at dksX0_load_0 12 rfl rfl)
theorem dX0_load_13 : decode cX0_load 13 = .ok (.ireturn, 1) := dk_172 (dk_at dksX0_load_0 13 rfl rfl)
theorem dX0_load_14 : decode cX0_load 14 = .ok (.iconst 0, 1) := dk_3 (dk_at dksX0_load_0 14 rfl rfl)
theorem dX0_load_15 : decode cX0_load 15 = .ok (.ireturn, 1) := dk_172 (dk_at dksX0_load_0 15 rfl rfl)
abbrev cX0_makeSteps : ByteArray := method_5_code
def yX0_makeSteps : MethodName := ⟨RX0, "makeSteps", "(LRuleLists;II[J)I"⟩
def dkwX0_makeSteps_0 : List UInt8 := [45, 3, 42, 27, 28, 182, 0, 21, 133, 80, 167, 0, 11, 58, 4, 4, 172, 58, 4, 5, 172, 3, 172]
abbrev dktX0_makeSteps_0 : List UInt8 := dkwX0_makeSteps_0 ++ []
theorem dksX0_makeSteps_0 : cX0_makeSteps.data.toList.drop 0 = dktX0_makeSteps_0 := by decide +kernel
theorem dX0_makeSteps_0 : decode cX0_makeSteps 0 = .ok (.aload_n 3, 1) := dk_45 (dk_at dksX0_makeSteps_0 0 rfl rfl)
theorem dX0_makeSteps_1 : decode cX0_makeSteps 1 = .ok (.iconst 0, 1) := dk_3 (dk_at dksX0_makeSteps_0 1 rfl rfl)
theorem dX0_makeSteps_2 : decode cX0_makeSteps 2 = .ok (.aload_n 0, 1) := dk_42 (dk_at dksX0_makeSteps_0 2 rfl rfl)
theorem dX0_makeSteps_3 : decode cX0_makeSteps 3 = .ok (.iload_n 1, 1) := dk_27 (dk_at dksX0_makeSteps_0 3 rfl rfl)
theorem dX0_makeSteps_4 : decode cX0_makeSteps 4 = .ok (.iload_n 2, 1) := dk_28 (dk_at dksX0_makeSteps_0 4 rfl rfl)
theorem dX0_makeSteps_5 : decode cX0_makeSteps 5 = .ok (.invokevirtual 21, 3) := dk_182 0 21 (dk_at dksX0_makeSteps_0 5 rfl rfl)
theorem dX0_makeSteps_8 : decode cX0_makeSteps 8 = .ok (.i2l, 1) := dk_133 (dk_at dksX0_makeSteps_0 8 rfl rfl)
theorem dX0_makeSteps_9 : decode cX0_makeSteps 9 = .ok (.lastore, 1) := dk_80 (dk_at dksX0_makeSteps_0 9 rfl rfl)
theorem dX0_makeSteps_10 : decode cX0_makeSteps 10 = .ok (.goto 11, 3) := dk_167 0 11 (dk_at dksX0_makeSteps_0 10 rfl rfl)
theorem dX0_makeSteps_13 : decode cX0_makeSteps 13 = .ok (.astore 4, 2) := dk_58 4 (dk_at dksX0_makeSteps_0 13 rfl rfl)
theorem dX0_makeSteps_15 : decode cX0_makeSteps 15 = .ok (.iconst 1, 1) := dk_4 (dk_at dksX0_makeSteps_0 15 rfl rfl)
theorem dX0_makeSteps_16 : decode cX0_makeSteps 16 = .ok (.ireturn, 1) := dk_172 (dk_at dksX0_makeSteps_0 16 rfl rfl)
theorem dX0_makeSteps_17 : decode cX0_makeSteps 17 = .ok (.astore 4, 2) := dk_58 4 (dk_at dksX0_makeSteps_0 17 rfl rfl)
theorem dX0_makeSteps_19 : decode cX0_makeSteps 19 = .ok (.iconst 2, 1) := dk_5 (dk_at dksX0_makeSteps_0 19 rfl rfl)
theorem dX0_makeSteps_20 : decode cX0_makeSteps 20 = .ok (.ireturn, 1) := dk_172 (dk_at dksX0_makeSteps_0 20 rfl rfl)
theorem dX0_makeSteps_21 : decode cX0_makeSteps 21 = .ok (.iconst 0, 1) := dk_3 (dk_at dksX0_makeSteps_0 21 rfl rfl)
theorem dX0_makeSteps_22 : decode cX0_makeSteps 22 = .ok (.ireturn, 1) := dk_172 (dk_at dksX0_makeSteps_0 22 rfl rfl)
abbrev cX0_makeScaled : ByteArray := method_6_code
def yX0_makeScaled : MethodName := ⟨RX0, "makeScaled", "(LRuleLists;III[J)I"⟩
def dkwX0_makeScaled_1 : List UInt8 := [58, 5, 6, 172, 3, 172]
abbrev dktX0_makeScaled_1 : List UInt8 := dkwX0_makeScaled_1 ++ []
def dkwX0_makeScaled_0 : List UInt8 := [25, 4, 3, 42, 27, 28, 29, 182, 0, 25, 133, 80, 167, 0, 15, 58, 5, 4, 172, 58, 5, 5, 172]
abbrev dktX0_makeScaled_0 : List UInt8 := dkwX0_makeScaled_0 ++ dktX0_makeScaled_1
theorem dksX0_makeScaled_0 : cX0_makeScaled.data.toList.drop 0 = dktX0_makeScaled_0 := by decide +kernel
theorem dksX0_makeScaled_1 : cX0_makeScaled.data.toList.drop 23 = dktX0_makeScaled_1 := dk_seg dksX0_makeScaled_0 23 rfl rfl
theorem dX0_makeScaled_0 : decode cX0_makeScaled 0 = .ok (.aload 4, 2) := dk_25 4 (dk_at dksX0_makeScaled_0 0 rfl rfl)
theorem dX0_makeScaled_2 : decode cX0_makeScaled 2 = .ok (.iconst 0, 1) := dk_3 (dk_at dksX0_makeScaled_0 2 rfl rfl)
theorem dX0_makeScaled_3 : decode cX0_makeScaled 3 = .ok (.aload_n 0, 1) := dk_42 (dk_at dksX0_makeScaled_0 3 rfl rfl)
theorem dX0_makeScaled_4 : decode cX0_makeScaled 4 = .ok (.iload_n 1, 1) := dk_27 (dk_at dksX0_makeScaled_0 4 rfl rfl)
theorem dX0_makeScaled_5 : decode cX0_makeScaled 5 = .ok (.iload_n 2, 1) := dk_28 (dk_at dksX0_makeScaled_0 5 rfl rfl)
theorem dX0_makeScaled_6 : decode cX0_makeScaled 6 = .ok (.iload_n 3, 1) := dk_29 (dk_at dksX0_makeScaled_0 6 rfl rfl)
theorem dX0_makeScaled_7 : decode cX0_makeScaled 7 = .ok (.invokevirtual 25, 3) := dk_182 0 25 (dk_at dksX0_makeScaled_0 7 rfl rfl)
theorem dX0_makeScaled_10 : decode cX0_makeScaled 10 = .ok (.i2l, 1) := dk_133 (dk_at dksX0_makeScaled_0 10 rfl rfl)
theorem dX0_makeScaled_11 : decode cX0_makeScaled 11 = .ok (.lastore, 1) := dk_80 (dk_at dksX0_makeScaled_0 11 rfl rfl)
theorem dX0_makeScaled_12 : decode cX0_makeScaled 12 = .ok (.goto 15, 3) := dk_167 0 15 (dk_at dksX0_makeScaled_0 12 rfl rfl)
theorem dX0_makeScaled_15 : decode cX0_makeScaled 15 = .ok (.astore 5, 2) := dk_58 5 (dk_at dksX0_makeScaled_0 15 rfl rfl)
theorem dX0_makeScaled_17 : decode cX0_makeScaled 17 = .ok (.iconst 1, 1) := dk_4 (dk_at dksX0_makeScaled_0 17 rfl rfl)
theorem dX0_makeScaled_18 : decode cX0_makeScaled 18 = .ok (.ireturn, 1) := dk_172 (dk_at dksX0_makeScaled_0 18 rfl rfl)
theorem dX0_makeScaled_19 : decode cX0_makeScaled 19 = .ok (.astore 5, 2) := dk_58 5 (dk_at dksX0_makeScaled_0 19 rfl rfl)
theorem dX0_makeScaled_21 : decode cX0_makeScaled 21 = .ok (.iconst 2, 1) := dk_5 (dk_at dksX0_makeScaled_0 21 rfl rfl)
theorem dX0_makeScaled_22 : decode cX0_makeScaled 22 = .ok (.ireturn, 1) := dk_172 (dk_at dksX0_makeScaled_0 22 rfl rfl)
theorem dX0_makeScaled_23 : decode cX0_makeScaled 23 = .ok (.astore 5, 2) := dk_58 5 (dk_at dksX0_makeScaled_1 0 rfl rfl)
theorem dX0_makeScaled_25 : decode cX0_makeScaled 25 = .ok (.iconst 3, 1) := dk_6 (dk_at dksX0_makeScaled_1 2 rfl rfl)
theorem dX0_makeScaled_26 : decode cX0_makeScaled 26 = .ok (.ireturn, 1) := dk_172 (dk_at dksX0_makeScaled_1 3 rfl rfl)
theorem dX0_makeScaled_27 : decode cX0_makeScaled 27 = .ok (.iconst 0, 1) := dk_3 (dk_at dksX0_makeScaled_1 4 rfl rfl)
theorem dX0_makeScaled_28 : decode cX0_makeScaled 28 = .ok (.ireturn, 1) := dk_172 (dk_at dksX0_makeScaled_1 5 rfl rfl)
abbrev cX0_makeJoined : ByteArray := method_7_code
def yX0_makeJoined : MethodName := ⟨RX0, "makeJoined", "(LRuleLists;II[J)I"⟩
def dkwX0_makeJoined_0 : List UInt8 := [45, 3, 42, 27, 28, 182, 0, 31, 133, 80, 167, 0, 11, 58, 4, 4, 172, 58, 4, 5, 172, 3, 172]
abbrev dktX0_makeJoined_0 : List UInt8 := dkwX0_makeJoined_0 ++ []
theorem dksX0_makeJoined_0 : cX0_makeJoined.data.toList.drop 0 = dktX0_makeJoined_0 := by decide +kernel
theorem dX0_makeJoined_0 : decode cX0_makeJoined 0 = .ok (.aload_n 3, 1) := dk_45 (dk_at dksX0_makeJoined_0 0 rfl rfl)
theorem dX0_makeJoined_1 : decode cX0_makeJoined 1 = .ok (.iconst 0, 1) := dk_3 (dk_at dksX0_makeJoined_0 1 rfl rfl)
theorem dX0_makeJoined_2 : decode cX0_makeJoined 2 = .ok (.aload_n 0, 1) := dk_42 (dk_at dksX0_makeJoined_0 2 rfl rfl)
theorem dX0_makeJoined_3 : decode cX0_makeJoined 3 = .ok (.iload_n 1, 1) := dk_27 (dk_at dksX0_makeJoined_0 3 rfl rfl)
theorem dX0_makeJoined_4 : decode cX0_makeJoined 4 = .ok (.iload_n 2, 1) := dk_28 (dk_at dksX0_makeJoined_0 4 rfl rfl)
theorem dX0_makeJoined_5 : decode cX0_makeJoined 5 = .ok (.invokevirtual 31, 3) := dk_182 0 31 (dk_at dksX0_makeJoined_0 5 rfl rfl)
theorem dX0_makeJoined_8 : decode cX0_makeJoined 8 = .ok (.i2l, 1) := dk_133 (dk_at dksX0_makeJoined_0 8 rfl rfl)
theorem dX0_makeJoined_9 : decode cX0_makeJoined 9 = .ok (.lastore, 1) := dk_80 (dk_at dksX0_makeJoined_0 9 rfl rfl)
theorem dX0_makeJoined_10 : decode cX0_makeJoined 10 = .ok (.goto 11, 3) := dk_167 0 11 (dk_at dksX0_makeJoined_0 10 rfl rfl)
theorem dX0_makeJoined_13 : decode cX0_makeJoined 13 = .ok (.astore 4, 2) := dk_58 4 (dk_at dksX0_makeJoined_0 13 rfl rfl)
theorem dX0_makeJoined_15 : decode cX0_makeJoined 15 = .ok (.iconst 1, 1) := dk_4 (dk_at dksX0_makeJoined_0 15 rfl rfl)
theorem dX0_makeJoined_16 : decode cX0_makeJoined 16 = .ok (.ireturn, 1) := dk_172 (dk_at dksX0_makeJoined_0 16 rfl rfl)
theorem dX0_makeJoined_17 : decode cX0_makeJoined 17 = .ok (.astore 4, 2) := dk_58 4 (dk_at dksX0_makeJoined_0 17 rfl rfl)
theorem dX0_makeJoined_19 : decode cX0_makeJoined 19 = .ok (.iconst 2, 1) := dk_5 (dk_at dksX0_makeJoined_0 19 rfl rfl)
theorem dX0_makeJoined_20 : decode cX0_makeJoined 20 = .ok (.ireturn, 1) := dk_172 (dk_at dksX0_makeJoined_0 20 rfl rfl)
theorem dX0_makeJoined_21 : decode cX0_makeJoined 21 = .ok (.iconst 0, 1) := dk_3 (dk_at dksX0_makeJoined_0 21 rfl rfl)
theorem dX0_makeJoined_22 : decode cX0_makeJoined 22 = .ok (.ireturn, 1) := dk_172 (dk_at dksX0_makeJoined_0 22 rfl rfl)
abbrev cX0_makeShared : ByteArray := method_8_code
def yX0_makeShared : MethodName := ⟨RX0, "makeShared", "(LRuleLists;II[J)I"⟩
def dkwX0_makeShared_0 : List UInt8 := [45, 3, 42, 27, 28, 182, 0, 34, 133, 80, 167, 0, 11, 58, 4, 4, 172, 58, 4, 5, 172, 3, 172]
abbrev dktX0_makeShared_0 : List UInt8 := dkwX0_makeShared_0 ++ []
theorem dksX0_makeShared_0 : cX0_makeShared.data.toList.drop 0 = dktX0_makeShared_0 := by decide +kernel
theorem dX0_makeShared_0 : decode cX0_makeShared 0 = .ok (.aload_n 3, 1) := dk_45 (dk_at dksX0_makeShared_0 0 rfl rfl)
theorem dX0_makeShared_1 : decode cX0_makeShared 1 = .ok (.iconst 0, 1) := dk_3 (dk_at dksX0_makeShared_0 1 rfl rfl)
theorem dX0_makeShared_2 : decode cX0_makeShared 2 = .ok (.aload_n 0, 1) := dk_42 (dk_at dksX0_makeShared_0 2 rfl rfl)
theorem dX0_makeShared_3 : decode cX0_makeShared 3 = .ok (.iload_n 1, 1) := dk_27 (dk_at dksX0_makeShared_0 3 rfl rfl)
theorem dX0_makeShared_4 : decode cX0_makeShared 4 = .ok (.iload_n 2, 1) := dk_28 (dk_at dksX0_makeShared_0 4 rfl rfl)
theorem dX0_makeShared_5 : decode cX0_makeShared 5 = .ok (.invokevirtual 34, 3) := dk_182 0 34 (dk_at dksX0_makeShared_0 5 rfl rfl)
theorem dX0_makeShared_8 : decode cX0_makeShared 8 = .ok (.i2l, 1) := dk_133 (dk_at dksX0_makeShared_0 8 rfl rfl)
theorem dX0_makeShared_9 : decode cX0_makeShared 9 = .ok (.lastore, 1) := dk_80 (dk_at dksX0_makeShared_0 9 rfl rfl)
theorem dX0_makeShared_10 : decode cX0_makeShared 10 = .ok (.goto 11, 3) := dk_167 0 11 (dk_at dksX0_makeShared_0 10 rfl rfl)
theorem dX0_makeShared_13 : decode cX0_makeShared 13 = .ok (.astore 4, 2) := dk_58 4 (dk_at dksX0_makeShared_0 13 rfl rfl)
theorem dX0_makeShared_15 : decode cX0_makeShared 15 = .ok (.iconst 1, 1) := dk_4 (dk_at dksX0_makeShared_0 15 rfl rfl)
theorem dX0_makeShared_16 : decode cX0_makeShared 16 = .ok (.ireturn, 1) := dk_172 (dk_at dksX0_makeShared_0 16 rfl rfl)
theorem dX0_makeShared_17 : decode cX0_makeShared 17 = .ok (.astore 4, 2) := dk_58 4 (dk_at dksX0_makeShared_0 17 rfl rfl)
theorem dX0_makeShared_19 : decode cX0_makeShared 19 = .ok (.iconst 2, 1) := dk_5 (dk_at dksX0_makeShared_0 19 rfl rfl)
theorem dX0_makeShared_20 : decode cX0_makeShared 20 = .ok (.ireturn, 1) := dk_172 (dk_at dksX0_makeShared_0 20 rfl rfl)
theorem dX0_makeShared_21 : decode cX0_makeShared 21 = .ok (.iconst 0, 1) := dk_3 (dk_at dksX0_makeShared_0 21 rfl rfl)
theorem dX0_makeShared_22 : decode cX0_makeShared 22 = .ok (.ireturn, 1) := dk_172 (dk_at dksX0_makeShared_0 22 rfl rfl)
abbrev cX0_makeWithout : ByteArray := method_9_code
def yX0_makeWithout : MethodName := ⟨RX0, "makeWithout", "(LRuleLists;II[J)I"⟩
def dkwX0_makeWithout_0 : List UInt8 := [45, 3, 42, 27, 28, 182, 0, 37, 133, 80, 167, 0, 11, 58, 4, 4, 172, 58, 4, 5, 172, 3, 172]
abbrev dktX0_makeWithout_0 : List UInt8 := dkwX0_makeWithout_0 ++ []
theorem dksX0_makeWithout_0 : cX0_makeWithout.data.toList.drop 0 = dktX0_makeWithout_0 := by decide +kernel
theorem dX0_makeWithout_0 : decode cX0_makeWithout 0 = .ok (.aload_n 3, 1) := dk_45 (dk_at dksX0_makeWithout_0 0 rfl rfl)
theorem dX0_makeWithout_1 : decode cX0_makeWithout 1 = .ok (.iconst 0, 1) := dk_3 (dk_at dksX0_makeWithout_0 1 rfl rfl)
theorem dX0_makeWithout_2 : decode cX0_makeWithout 2 = .ok (.aload_n 0, 1) := dk_42 (dk_at dksX0_makeWithout_0 2 rfl rfl)
theorem dX0_makeWithout_3 : decode cX0_makeWithout 3 = .ok (.iload_n 1, 1) := dk_27 (dk_at dksX0_makeWithout_0 3 rfl rfl)
theorem dX0_makeWithout_4 : decode cX0_makeWithout 4 = .ok (.iload_n 2, 1) := dk_28 (dk_at dksX0_makeWithout_0 4 rfl rfl)
theorem dX0_makeWithout_5 : decode cX0_makeWithout 5 = .ok (.invokevirtual 37, 3) := dk_182 0 37 (dk_at dksX0_makeWithout_0 5 rfl rfl)
theorem dX0_makeWithout_8 : decode cX0_makeWithout 8 = .ok (.i2l, 1) := dk_133 (dk_at dksX0_makeWithout_0 8 rfl rfl)
theorem dX0_makeWithout_9 : decode cX0_makeWithout 9 = .ok (.lastore, 1) := dk_80 (dk_at dksX0_makeWithout_0 9 rfl rfl)
theorem dX0_makeWithout_10 : decode cX0_makeWithout 10 = .ok (.goto 11, 3) := dk_167 0 11 (dk_at dksX0_makeWithout_0 10 rfl rfl)
theorem dX0_makeWithout_13 : decode cX0_makeWithout 13 = .ok (.astore 4, 2) := dk_58 4 (dk_at dksX0_makeWithout_0 13 rfl rfl)
theorem dX0_makeWithout_15 : decode cX0_makeWithout 15 = .ok (.iconst 1, 1) := dk_4 (dk_at dksX0_makeWithout_0 15 rfl rfl)
theorem dX0_makeWithout_16 : decode cX0_makeWithout 16 = .ok (.ireturn, 1) := dk_172 (dk_at dksX0_makeWithout_0 16 rfl rfl)
theorem dX0_makeWithout_17 : decode cX0_makeWithout 17 = .ok (.astore 4, 2) := dk_58 4 (dk_at dksX0_makeWithout_0 17 rfl rfl)
theorem dX0_makeWithout_19 : decode cX0_makeWithout 19 = .ok (.iconst 2, 1) := dk_5 (dk_at dksX0_makeWithout_0 19 rfl rfl)
theorem dX0_makeWithout_20 : decode cX0_makeWithout 20 = .ok (.ireturn, 1) := dk_172 (dk_at dksX0_makeWithout_0 20 rfl rfl)
theorem dX0_makeWithout_21 : decode cX0_makeWithout 21 = .ok (.iconst 0, 1) := dk_3 (dk_at dksX0_makeWithout_0 21 rfl rfl)
theorem dX0_makeWithout_22 : decode cX0_makeWithout 22 = .ok (.ireturn, 1) := dk_172 (dk_at dksX0_makeWithout_0 22 rfl rfl)
abbrev cX0_makeSieved : ByteArray := method_10_code
def yX0_makeSieved : MethodName := ⟨RX0, "makeSieved", "(LRuleLists;I[J)I"⟩
def dkwX0_makeSieved_0 : List UInt8 := [44, 3, 42, 27, 182, 0, 40, 133, 80, 167, 0, 9, 78, 4, 172, 78, 5, 172, 3, 172]
abbrev dktX0_makeSieved_0 : List UInt8 := dkwX0_makeSieved_0 ++ []
theorem dksX0_makeSieved_0 : cX0_makeSieved.data.toList.drop 0 = dktX0_makeSieved_0 := by decide +kernel
theorem dX0_makeSieved_0 : decode cX0_makeSieved 0 = .ok (.aload_n 2, 1) := dk_44 (dk_at dksX0_makeSieved_0 0 rfl rfl)
theorem dX0_makeSieved_1 : decode cX0_makeSieved 1 = .ok (.iconst 0, 1) := dk_3 (dk_at dksX0_makeSieved_0 1 rfl rfl)
theorem dX0_makeSieved_2 : decode cX0_makeSieved 2 = .ok (.aload_n 0, 1) := dk_42 (dk_at dksX0_makeSieved_0 2 rfl rfl)
theorem dX0_makeSieved_3 : decode cX0_makeSieved 3 = .ok (.iload_n 1, 1) := dk_27 (dk_at dksX0_makeSieved_0 3 rfl rfl)
theorem dX0_makeSieved_4 : decode cX0_makeSieved 4 = .ok (.invokevirtual 40, 3) := dk_182 0 40 (dk_at dksX0_makeSieved_0 4 rfl rfl)
theorem dX0_makeSieved_7 : decode cX0_makeSieved 7 = .ok (.i2l, 1) := dk_133 (dk_at dksX0_makeSieved_0 7 rfl rfl)
theorem dX0_makeSieved_8 : decode cX0_makeSieved 8 = .ok (.lastore, 1) := dk_80 (dk_at dksX0_makeSieved_0 8 rfl rfl)
theorem dX0_makeSieved_9 : decode cX0_makeSieved 9 = .ok (.goto 9, 3) := dk_167 0 9 (dk_at dksX0_makeSieved_0 9 rfl rfl)
theorem dX0_makeSieved_12 : decode cX0_makeSieved 12 = .ok (.astore_n 3, 1) := dk_78 (dk_at dksX0_makeSieved_0 12 rfl rfl)
theorem dX0_makeSieved_13 : decode cX0_makeSieved 13 = .ok (.iconst 1, 1) := dk_4 (dk_at dksX0_makeSieved_0 13 rfl rfl)
theorem dX0_makeSieved_14 : decode cX0_makeSieved 14 = .ok (.ireturn, 1) := dk_172 (dk_at dksX0_makeSieved_0 14 rfl rfl)
theorem dX0_makeSieved_15 : decode cX0_makeSieved 15 = .ok (.astore_n 3, 1) := dk_78 (dk_at dksX0_makeSieved_0 15 rfl rfl)
theorem dX0_makeSieved_16 : decode cX0_makeSieved 16 = .ok (.iconst 2, 1) := dk_5 (dk_at dksX0_makeSieved_0 16 rfl rfl)
theorem dX0_makeSieved_17 : decode cX0_makeSieved 17 = .ok (.ireturn, 1) := dk_172 (dk_at dksX0_makeSieved_0 17 rfl rfl)
theorem dX0_makeSieved_18 : decode cX0_makeSieved 18 = .ok (.iconst 0, 1) := dk_3 (dk_at dksX0_makeSieved_0 18 rfl rfl)
theorem dX0_makeSieved_19 : decode cX0_makeSieved 19 = .ok (.ireturn, 1) := dk_172 (dk_at dksX0_makeSieved_0 19 rfl rfl)
abbrev cX0_makeThinned : ByteArray := method_11_code
def yX0_makeThinned : MethodName := ⟨RX0, "makeThinned", "(LRuleLists;II[J)I"⟩
def dkwX0_makeThinned_1 : List UInt8 := [172, 3, 172]
abbrev dktX0_makeThinned_1 : List UInt8 := dkwX0_makeThinned_1 ++ []
def dkwX0_makeThinned_0 : List UInt8 := [45, 3, 42, 27, 28, 182, 0, 43, 133, 80, 167, 0, 15, 58, 4, 4, 172, 58, 4, 5, 172, 58, 4, 6]
abbrev dktX0_makeThinned_0 : List UInt8 := dkwX0_makeThinned_0 ++ dktX0_makeThinned_1
theorem dksX0_makeThinned_0 : cX0_makeThinned.data.toList.drop 0 = dktX0_makeThinned_0 := by decide +kernel
theorem dksX0_makeThinned_1 : cX0_makeThinned.data.toList.drop 24 = dktX0_makeThinned_1 := dk_seg dksX0_makeThinned_0 24 rfl rfl
theorem dX0_makeThinned_0 : decode cX0_makeThinned 0 = .ok (.aload_n 3, 1) := dk_45 (dk_at dksX0_makeThinned_0 0 rfl rfl)
theorem dX0_makeThinned_1 : decode cX0_makeThinned 1 = .ok (.iconst 0, 1) := dk_3 (dk_at dksX0_makeThinned_0 1 rfl rfl)
theorem dX0_makeThinned_2 : decode cX0_makeThinned 2 = .ok (.aload_n 0, 1) := dk_42 (dk_at dksX0_makeThinned_0 2 rfl rfl)
theorem dX0_makeThinned_3 : decode cX0_makeThinned 3 = .ok (.iload_n 1, 1) := dk_27 (dk_at dksX0_makeThinned_0 3 rfl rfl)
theorem dX0_makeThinned_4 : decode cX0_makeThinned 4 = .ok (.iload_n 2, 1) := dk_28 (dk_at dksX0_makeThinned_0 4 rfl rfl)
theorem dX0_makeThinned_5 : decode cX0_makeThinned 5 = .ok (.invokevirtual 43, 3) := dk_182 0 43 (dk_at dksX0_makeThinned_0 5 rfl rfl)
theorem dX0_makeThinned_8 : decode cX0_makeThinned 8 = .ok (.i2l, 1) := dk_133 (dk_at dksX0_makeThinned_0 8 rfl rfl)
theorem dX0_makeThinned_9 : decode cX0_makeThinned 9 = .ok (.lastore, 1) := dk_80 (dk_at dksX0_makeThinned_0 9 rfl rfl)
theorem dX0_makeThinned_10 : decode cX0_makeThinned 10 = .ok (.goto 15, 3) := dk_167 0 15 (dk_at dksX0_makeThinned_0 10 rfl rfl)
theorem dX0_makeThinned_13 : decode cX0_makeThinned 13 = .ok (.astore 4, 2) := dk_58 4 (dk_at dksX0_makeThinned_0 13 rfl rfl)
theorem dX0_makeThinned_15 : decode cX0_makeThinned 15 = .ok (.iconst 1, 1) := dk_4 (dk_at dksX0_makeThinned_0 15 rfl rfl)
theorem dX0_makeThinned_16 : decode cX0_makeThinned 16 = .ok (.ireturn, 1) := dk_172 (dk_at dksX0_makeThinned_0 16 rfl rfl)
theorem dX0_makeThinned_17 : decode cX0_makeThinned 17 = .ok (.astore 4, 2) := dk_58 4 (dk_at dksX0_makeThinned_0 17 rfl rfl)
theorem dX0_makeThinned_19 : decode cX0_makeThinned 19 = .ok (.iconst 2, 1) := dk_5 (dk_at dksX0_makeThinned_0 19 rfl rfl)
theorem dX0_makeThinned_20 : decode cX0_makeThinned 20 = .ok (.ireturn, 1) := dk_172 (dk_at dksX0_makeThinned_0 20 rfl rfl)
theorem dX0_makeThinned_21 : decode cX0_makeThinned 21 = .ok (.astore 4, 2) := dk_58 4 (dk_at dksX0_makeThinned_0 21 rfl rfl)
theorem dX0_makeThinned_23 : decode cX0_makeThinned 23 = .ok (.iconst 3, 1) := dk_6 (dk_at dksX0_makeThinned_0 23 rfl rfl)
theorem dX0_makeThinned_24 : decode cX0_makeThinned 24 = .ok (.ireturn, 1) := dk_172 (dk_at dksX0_makeThinned_1 0 rfl rfl)
theorem dX0_makeThinned_25 : decode cX0_makeThinned 25 = .ok (.iconst 0, 1) := dk_3 (dk_at dksX0_makeThinned_1 1 rfl rfl)
theorem dX0_makeThinned_26 : decode cX0_makeThinned 26 = .ok (.ireturn, 1) := dk_172 (dk_at dksX0_makeThinned_1 2 rfl rfl)
abbrev cX0_makeAddedUp : ByteArray := method_12_code
def yX0_makeAddedUp : MethodName := ⟨RX0, "makeAddedUp", "(LRuleLists;I[J)I"⟩
def dkwX0_makeAddedUp_0 : List UInt8 := [44, 3, 42, 27, 182, 0, 46, 133, 80, 167, 0, 9, 78, 4, 172, 78, 5, 172, 3, 172]
abbrev dktX0_makeAddedUp_0 : List UInt8 := dkwX0_makeAddedUp_0 ++ []
theorem dksX0_makeAddedUp_0 : cX0_makeAddedUp.data.toList.drop 0 = dktX0_makeAddedUp_0 := by decide +kernel
theorem dX0_makeAddedUp_0 : decode cX0_makeAddedUp 0 = .ok (.aload_n 2, 1) := dk_44 (dk_at dksX0_makeAddedUp_0 0 rfl rfl)
theorem dX0_makeAddedUp_1 : decode cX0_makeAddedUp 1 = .ok (.iconst 0, 1) := dk_3 (dk_at dksX0_makeAddedUp_0 1 rfl rfl)
theorem dX0_makeAddedUp_2 : decode cX0_makeAddedUp 2 = .ok (.aload_n 0, 1) := dk_42 (dk_at dksX0_makeAddedUp_0 2 rfl rfl)
theorem dX0_makeAddedUp_3 : decode cX0_makeAddedUp 3 = .ok (.iload_n 1, 1) := dk_27 (dk_at dksX0_makeAddedUp_0 3 rfl rfl)
theorem dX0_makeAddedUp_4 : decode cX0_makeAddedUp 4 = .ok (.invokevirtual 46, 3) := dk_182 0 46 (dk_at dksX0_makeAddedUp_0 4 rfl rfl)
theorem dX0_makeAddedUp_7 : decode cX0_makeAddedUp 7 = .ok (.i2l, 1) := dk_133 (dk_at dksX0_makeAddedUp_0 7 rfl rfl)
theorem dX0_makeAddedUp_8 : decode cX0_makeAddedUp 8 = .ok (.lastore, 1) := dk_80 (dk_at dksX0_makeAddedUp_0 8 rfl rfl)
theorem dX0_makeAddedUp_9 : decode cX0_makeAddedUp 9 = .ok (.goto 9, 3) := dk_167 0 9 (dk_at dksX0_makeAddedUp_0 9 rfl rfl)
theorem dX0_makeAddedUp_12 : decode cX0_makeAddedUp 12 = .ok (.astore_n 3, 1) := dk_78 (dk_at dksX0_makeAddedUp_0 12 rfl rfl)
theorem dX0_makeAddedUp_13 : decode cX0_makeAddedUp 13 = .ok (.iconst 1, 1) := dk_4 (dk_at dksX0_makeAddedUp_0 13 rfl rfl)
theorem dX0_makeAddedUp_14 : decode cX0_makeAddedUp 14 = .ok (.ireturn, 1) := dk_172 (dk_at dksX0_makeAddedUp_0 14 rfl rfl)
theorem dX0_makeAddedUp_15 : decode cX0_makeAddedUp 15 = .ok (.astore_n 3, 1) := dk_78 (dk_at dksX0_makeAddedUp_0 15 rfl rfl)
theorem dX0_makeAddedUp_16 : decode cX0_makeAddedUp 16 = .ok (.iconst 2, 1) := dk_5 (dk_at dksX0_makeAddedUp_0 16 rfl rfl)
theorem dX0_makeAddedUp_17 : decode cX0_makeAddedUp 17 = .ok (.ireturn, 1) := dk_172 (dk_at dksX0_makeAddedUp_0 17 rfl rfl)
theorem dX0_makeAddedUp_18 : decode cX0_makeAddedUp 18 = .ok (.iconst 0, 1) := dk_3 (dk_at dksX0_makeAddedUp_0 18 rfl rfl)
theorem dX0_makeAddedUp_19 : decode cX0_makeAddedUp 19 = .ok (.ireturn, 1) := dk_172 (dk_at dksX0_makeAddedUp_0 19 rfl rfl)
abbrev cX0_dropLast : ByteArray := method_13_code
def yX0_dropLast : MethodName := ⟨RX0, "dropLast", "(LRuleLists;[J)I"⟩
def dkwX0_dropLast_0 : List UInt8 := [43, 3, 42, 182, 0, 49, 133, 80, 167, 0, 6, 77, 4, 172, 3, 172]
abbrev dktX0_dropLast_0 : List UInt8 := dkwX0_dropLast_0 ++ []
theorem dksX0_dropLast_0 : cX0_dropLast.data.toList.drop 0 = dktX0_dropLast_0 := by decide +kernel
theorem dX0_dropLast_0 : decode cX0_dropLast 0 = .ok (.aload_n 1, 1) := dk_43 (dk_at dksX0_dropLast_0 0 rfl rfl)
theorem dX0_dropLast_1 : decode cX0_dropLast 1 = .ok (.iconst 0, 1) := dk_3 (dk_at dksX0_dropLast_0 1 rfl rfl)
theorem dX0_dropLast_2 : decode cX0_dropLast 2 = .ok (.aload_n 0, 1) := dk_42 (dk_at dksX0_dropLast_0 2 rfl rfl)
theorem dX0_dropLast_3 : decode cX0_dropLast 3 = .ok (.invokevirtual 49, 3) := dk_182 0 49 (dk_at dksX0_dropLast_0 3 rfl rfl)
theorem dX0_dropLast_6 : decode cX0_dropLast 6 = .ok (.i2l, 1) := dk_133 (dk_at dksX0_dropLast_0 6 rfl rfl)
theorem dX0_dropLast_7 : decode cX0_dropLast 7 = .ok (.lastore, 1) := dk_80 (dk_at dksX0_dropLast_0 7 rfl rfl)
theorem dX0_dropLast_8 : decode cX0_dropLast 8 = .ok (.goto 6, 3) := dk_167 0 6 (dk_at dksX0_dropLast_0 8 rfl rfl)
theorem dX0_dropLast_11 : decode cX0_dropLast 11 = .ok (.astore_n 2, 1) := dk_77 (dk_at dksX0_dropLast_0 11 rfl rfl)
theorem dX0_dropLast_12 : decode cX0_dropLast 12 = .ok (.iconst 1, 1) := dk_4 (dk_at dksX0_dropLast_0 12 rfl rfl)
theorem dX0_dropLast_13 : decode cX0_dropLast 13 = .ok (.ireturn, 1) := dk_172 (dk_at dksX0_dropLast_0 13 rfl rfl)
theorem dX0_dropLast_14 : decode cX0_dropLast 14 = .ok (.iconst 0, 1) := dk_3 (dk_at dksX0_dropLast_0 14 rfl rfl)
theorem dX0_dropLast_15 : decode cX0_dropLast 15 = .ok (.ireturn, 1) := dk_172 (dk_at dksX0_dropLast_0 15 rfl rfl)
abbrev cX0_beginReading : ByteArray := method_14_code
def yX0_beginReading : MethodName := ⟨RX0, "beginReading", "(LRuleLists;I[J)I"⟩
def dkwX0_beginReading_0 : List UInt8 := [44, 3, 42, 27, 182, 0, 52, 133, 80, 167, 0, 9, 78, 4, 172, 78, 5, 172, 3, 172]
abbrev dktX0_beginReading_0 : List UInt8 := dkwX0_beginReading_0 ++ []
theorem dksX0_beginReading_0 : cX0_beginReading.data.toList.drop 0 = dktX0_beginReading_0 := by decide +kernel
theorem dX0_beginReading_0 : decode cX0_beginReading 0 = .ok (.aload_n 2, 1) := dk_44 (dk_at dksX0_beginReading_0 0 rfl rfl)
theorem dX0_beginReading_1 : decode cX0_beginReading 1 = .ok (.iconst 0, 1) := dk_3 (dk_at dksX0_beginReading_0 1 rfl rfl)
theorem dX0_beginReading_2 : decode cX0_beginReading 2 = .ok (.aload_n 0, 1) := dk_42 (dk_at dksX0_beginReading_0 2 rfl rfl)
theorem dX0_beginReading_3 : decode cX0_beginReading 3 = .ok (.iload_n 1, 1) := dk_27 (dk_at dksX0_beginReading_0 3 rfl rfl)
theorem dX0_beginReading_4 : decode cX0_beginReading 4 = .ok (.invokevirtual 52, 3) := dk_182 0 52 (dk_at dksX0_beginReading_0 4 rfl rfl)
theorem dX0_beginReading_7 : decode cX0_beginReading 7 = .ok (.i2l, 1) := dk_133 (dk_at dksX0_beginReading_0 7 rfl rfl)
theorem dX0_beginReading_8 : decode cX0_beginReading 8 = .ok (.lastore, 1) := dk_80 (dk_at dksX0_beginReading_0 8 rfl rfl)
theorem dX0_beginReading_9 : decode cX0_beginReading 9 = .ok (.goto 9, 3) := dk_167 0 9 (dk_at dksX0_beginReading_0 9 rfl rfl)
theorem dX0_beginReading_12 : decode cX0_beginReading 12 = .ok (.astore_n 3, 1) := dk_78 (dk_at dksX0_beginReading_0 12 rfl rfl)
theorem dX0_beginReading_13 : decode cX0_beginReading 13 = .ok (.iconst 1, 1) := dk_4 (dk_at dksX0_beginReading_0 13 rfl rfl)
theorem dX0_beginReading_14 : decode cX0_beginReading 14 = .ok (.ireturn, 1) := dk_172 (dk_at dksX0_beginReading_0 14 rfl rfl)
theorem dX0_beginReading_15 : decode cX0_beginReading 15 = .ok (.astore_n 3, 1) := dk_78 (dk_at dksX0_beginReading_0 15 rfl rfl)
theorem dX0_beginReading_16 : decode cX0_beginReading 16 = .ok (.iconst 2, 1) := dk_5 (dk_at dksX0_beginReading_0 16 rfl rfl)
theorem dX0_beginReading_17 : decode cX0_beginReading 17 = .ok (.ireturn, 1) := dk_172 (dk_at dksX0_beginReading_0 17 rfl rfl)
theorem dX0_beginReading_18 : decode cX0_beginReading 18 = .ok (.iconst 0, 1) := dk_3 (dk_at dksX0_beginReading_0 18 rfl rfl)
theorem dX0_beginReading_19 : decode cX0_beginReading 19 = .ok (.ireturn, 1) := dk_172 (dk_at dksX0_beginReading_0 19 rfl rfl)
abbrev cX0_read : ByteArray := method_15_code
def yX0_read : MethodName := ⟨RX0, "read", "(LRuleLists;I[J)I"⟩
def dkwX0_read_0 : List UInt8 := [44, 3, 42, 27, 182, 0, 55, 133, 80, 167, 0, 9, 78, 4, 172, 78, 5, 172, 3, 172]
abbrev dktX0_read_0 : List UInt8 := dkwX0_read_0 ++ []
theorem dksX0_read_0 : cX0_read.data.toList.drop 0 = dktX0_read_0 := by decide +kernel
theorem dX0_read_0 : decode cX0_read 0 = .ok (.aload_n 2, 1) := dk_44 (dk_at dksX0_read_0 0 rfl rfl)
theorem dX0_read_1 : decode cX0_read 1 = .ok (.iconst 0, 1) := dk_3 (dk_at dksX0_read_0 1 rfl rfl)
theorem dX0_read_2 : decode cX0_read 2 = .ok (.aload_n 0, 1) := dk_42 (dk_at dksX0_read_0 2 rfl rfl)
theorem dX0_read_3 : decode cX0_read 3 = .ok (.iload_n 1, 1) := dk_27 (dk_at dksX0_read_0 3 rfl rfl)
theorem dX0_read_4 : decode cX0_read 4 = .ok (.invokevirtual 55, 3) := dk_182 0 55 (dk_at dksX0_read_0 4 rfl rfl)
theorem dX0_read_7 : decode cX0_read 7 = .ok (.i2l, 1) := dk_133 (dk_at dksX0_read_0 7 rfl rfl)
theorem dX0_read_8 : decode cX0_read 8 = .ok (.lastore, 1) := dk_80 (dk_at dksX0_read_0 8 rfl rfl)
theorem dX0_read_9 : decode cX0_read 9 = .ok (.goto 9, 3) := dk_167 0 9 (dk_at dksX0_read_0 9 rfl rfl)
theorem dX0_read_12 : decode cX0_read 12 = .ok (.astore_n 3, 1) := dk_78 (dk_at dksX0_read_0 12 rfl rfl)
theorem dX0_read_13 : decode cX0_read 13 = .ok (.iconst 1, 1) := dk_4 (dk_at dksX0_read_0 13 rfl rfl)
theorem dX0_read_14 : decode cX0_read 14 = .ok (.ireturn, 1) := dk_172 (dk_at dksX0_read_0 14 rfl rfl)
theorem dX0_read_15 : decode cX0_read 15 = .ok (.astore_n 3, 1) := dk_78 (dk_at dksX0_read_0 15 rfl rfl)
theorem dX0_read_16 : decode cX0_read 16 = .ok (.iconst 2, 1) := dk_5 (dk_at dksX0_read_0 16 rfl rfl)
theorem dX0_read_17 : decode cX0_read 17 = .ok (.ireturn, 1) := dk_172 (dk_at dksX0_read_0 17 rfl rfl)
theorem dX0_read_18 : decode cX0_read 18 = .ok (.iconst 0, 1) := dk_3 (dk_at dksX0_read_0 18 rfl rfl)
theorem dX0_read_19 : decode cX0_read 19 = .ok (.ireturn, 1) := dk_172 (dk_at dksX0_read_0 19 rfl rfl)
abbrev cX0_skip : ByteArray := method_16_code
def yX0_skip : MethodName := ⟨RX0, "skip", "(LRuleLists;II[J)I"⟩
def dkwX0_skip_0 : List UInt8 := [45, 3, 42, 27, 28, 182, 0, 58, 133, 80, 167, 0, 11, 58, 4, 4, 172, 58, 4, 5, 172, 3, 172]
abbrev dktX0_skip_0 : List UInt8 := dkwX0_skip_0 ++ []
theorem dksX0_skip_0 : cX0_skip.data.toList.drop 0 = dktX0_skip_0 := by decide +kernel
theorem dX0_skip_0 : decode cX0_skip 0 = .ok (.aload_n 3, 1) := dk_45 (dk_at dksX0_skip_0 0 rfl rfl)
theorem dX0_skip_1 : decode cX0_skip 1 = .ok (.iconst 0, 1) := dk_3 (dk_at dksX0_skip_0 1 rfl rfl)
theorem dX0_skip_2 : decode cX0_skip 2 = .ok (.aload_n 0, 1) := dk_42 (dk_at dksX0_skip_0 2 rfl rfl)
theorem dX0_skip_3 : decode cX0_skip 3 = .ok (.iload_n 1, 1) := dk_27 (dk_at dksX0_skip_0 3 rfl rfl)
theorem dX0_skip_4 : decode cX0_skip 4 = .ok (.iload_n 2, 1) := dk_28 (dk_at dksX0_skip_0 4 rfl rfl)
theorem dX0_skip_5 : decode cX0_skip 5 = .ok (.invokevirtual 58, 3) := dk_182 0 58 (dk_at dksX0_skip_0 5 rfl rfl)
theorem dX0_skip_8 : decode cX0_skip 8 = .ok (.i2l, 1) := dk_133 (dk_at dksX0_skip_0 8 rfl rfl)
theorem dX0_skip_9 : decode cX0_skip 9 = .ok (.lastore, 1) := dk_80 (dk_at dksX0_skip_0 9 rfl rfl)
theorem dX0_skip_10 : decode cX0_skip 10 = .ok (.goto 11, 3) := dk_167 0 11 (dk_at dksX0_skip_0 10 rfl rfl)
theorem dX0_skip_13 : decode cX0_skip 13 = .ok (.astore 4, 2) := dk_58 4 (dk_at dksX0_skip_0 13 rfl rfl)
theorem dX0_skip_15 : decode cX0_skip 15 = .ok (.iconst 1, 1) := dk_4 (dk_at dksX0_skip_0 15 rfl rfl)
theorem dX0_skip_16 : decode cX0_skip 16 = .ok (.ireturn, 1) := dk_172 (dk_at dksX0_skip_0 16 rfl rfl)
theorem dX0_skip_17 : decode cX0_skip 17 = .ok (.astore 4, 2) := dk_58 4 (dk_at dksX0_skip_0 17 rfl rfl)
theorem dX0_skip_19 : decode cX0_skip 19 = .ok (.iconst 2, 1) := dk_5 (dk_at dksX0_skip_0 19 rfl rfl)
theorem dX0_skip_20 : decode cX0_skip 20 = .ok (.ireturn, 1) := dk_172 (dk_at dksX0_skip_0 20 rfl rfl)
theorem dX0_skip_21 : decode cX0_skip 21 = .ok (.iconst 0, 1) := dk_3 (dk_at dksX0_skip_0 21 rfl rfl)
theorem dX0_skip_22 : decode cX0_skip 22 = .ok (.ireturn, 1) := dk_172 (dk_at dksX0_skip_0 22 rfl rfl)
abbrev cX0_goBack : ByteArray := method_17_code
def yX0_goBack : MethodName := ⟨RX0, "goBack", "(LRuleLists;I[J)I"⟩
def dkwX0_goBack_0 : List UInt8 := [44, 3, 42, 27, 182, 0, 61, 133, 80, 167, 0, 6, 78, 4, 172, 3, 172]
abbrev dktX0_goBack_0 : List UInt8 := dkwX0_goBack_0 ++ []
theorem dksX0_goBack_0 : cX0_goBack.data.toList.drop 0 = dktX0_goBack_0 := by decide +kernel
theorem dX0_goBack_0 : decode cX0_goBack 0 = .ok (.aload_n 2, 1) := dk_44 (dk_at dksX0_goBack_0 0 rfl rfl)
theorem dX0_goBack_1 : decode cX0_goBack 1 = .ok (.iconst 0, 1) := dk_3 (dk_at dksX0_goBack_0 1 rfl rfl)
theorem dX0_goBack_2 : decode cX0_goBack 2 = .ok (.aload_n 0, 1) := dk_42 (dk_at dksX0_goBack_0 2 rfl rfl)
theorem dX0_goBack_3 : decode cX0_goBack 3 = .ok (.iload_n 1, 1) := dk_27 (dk_at dksX0_goBack_0 3 rfl rfl)
theorem dX0_goBack_4 : decode cX0_goBack 4 = .ok (.invokevirtual 61, 3) := dk_182 0 61 (dk_at dksX0_goBack_0 4 rfl rfl)
theorem dX0_goBack_7 : decode cX0_goBack 7 = .ok (.i2l, 1) := dk_133 (dk_at dksX0_goBack_0 7 rfl rfl)
theorem dX0_goBack_8 : decode cX0_goBack 8 = .ok (.lastore, 1) := dk_80 (dk_at dksX0_goBack_0 8 rfl rfl)
theorem dX0_goBack_9 : decode cX0_goBack 9 = .ok (.goto 6, 3) := dk_167 0 6 (dk_at dksX0_goBack_0 9 rfl rfl)
theorem dX0_goBack_12 : decode cX0_goBack 12 = .ok (.astore_n 3, 1) := dk_78 (dk_at dksX0_goBack_0 12 rfl rfl)
theorem dX0_goBack_13 : decode cX0_goBack 13 = .ok (.iconst 1, 1) := dk_4 (dk_at dksX0_goBack_0 13 rfl rfl)
theorem dX0_goBack_14 : decode cX0_goBack 14 = .ok (.ireturn, 1) := dk_172 (dk_at dksX0_goBack_0 14 rfl rfl)
theorem dX0_goBack_15 : decode cX0_goBack 15 = .ok (.iconst 0, 1) := dk_3 (dk_at dksX0_goBack_0 15 rfl rfl)
theorem dX0_goBack_16 : decode cX0_goBack 16 = .ok (.ireturn, 1) := dk_172 (dk_at dksX0_goBack_0 16 rfl rfl)
abbrev cX0_stopReading : ByteArray := method_18_code
def yX0_stopReading : MethodName := ⟨RX0, "stopReading", "(LRuleLists;I[J)I"⟩
def dkwX0_stopReading_0 : List UInt8 := [44, 3, 42, 27, 182, 0, 64, 133, 80, 167, 0, 6, 78, 4, 172, 3, 172]
abbrev dktX0_stopReading_0 : List UInt8 := dkwX0_stopReading_0 ++ []
theorem dksX0_stopReading_0 : cX0_stopReading.data.toList.drop 0 = dktX0_stopReading_0 := by decide +kernel
theorem dX0_stopReading_0 : decode cX0_stopReading 0 = .ok (.aload_n 2, 1) := dk_44 (dk_at dksX0_stopReading_0 0 rfl rfl)
theorem dX0_stopReading_1 : decode cX0_stopReading 1 = .ok (.iconst 0, 1) := dk_3 (dk_at dksX0_stopReading_0 1 rfl rfl)
theorem dX0_stopReading_2 : decode cX0_stopReading 2 = .ok (.aload_n 0, 1) := dk_42 (dk_at dksX0_stopReading_0 2 rfl rfl)
theorem dX0_stopReading_3 : decode cX0_stopReading 3 = .ok (.iload_n 1, 1) := dk_27 (dk_at dksX0_stopReading_0 3 rfl rfl)
theorem dX0_stopReading_4 : decode cX0_stopReading 4 = .ok (.invokevirtual 64, 3) := dk_182 0 64 (dk_at dksX0_stopReading_0 4 rfl rfl)
theorem dX0_stopReading_7 : decode cX0_stopReading 7 = .ok (.i2l, 1) := dk_133 (dk_at dksX0_stopReading_0 7 rfl rfl)
theorem dX0_stopReading_8 : decode cX0_stopReading 8 = .ok (.lastore, 1) := dk_80 (dk_at dksX0_stopReading_0 8 rfl rfl)
theorem dX0_stopReading_9 : decode cX0_stopReading 9 = .ok (.goto 6, 3) := dk_167 0 6 (dk_at dksX0_stopReading_0 9 rfl rfl)
theorem dX0_stopReading_12 : decode cX0_stopReading 12 = .ok (.astore_n 3, 1) := dk_78 (dk_at dksX0_stopReading_0 12 rfl rfl)
theorem dX0_stopReading_13 : decode cX0_stopReading 13 = .ok (.iconst 1, 1) := dk_4 (dk_at dksX0_stopReading_0 13 rfl rfl)
theorem dX0_stopReading_14 : decode cX0_stopReading 14 = .ok (.ireturn, 1) := dk_172 (dk_at dksX0_stopReading_0 14 rfl rfl)
theorem dX0_stopReading_15 : decode cX0_stopReading 15 = .ok (.iconst 0, 1) := dk_3 (dk_at dksX0_stopReading_0 15 rfl rfl)
theorem dX0_stopReading_16 : decode cX0_stopReading 16 = .ok (.ireturn, 1) := dk_172 (dk_at dksX0_stopReading_0 16 rfl rfl)
abbrev cX0_undo : ByteArray := method_19_code
def yX0_undo : MethodName := ⟨RX0, "undo", "(LRuleLists;[J)I"⟩
def dkwX0_undo_0 : List UInt8 := [43, 3, 42, 182, 0, 67, 133, 80, 167, 0, 6, 77, 4, 172, 3, 172]
abbrev dktX0_undo_0 : List UInt8 := dkwX0_undo_0 ++ []
theorem dksX0_undo_0 : cX0_undo.data.toList.drop 0 = dktX0_undo_0 := by decide +kernel
theorem dX0_undo_0 : decode cX0_undo 0 = .ok (.aload_n 1, 1) := dk_43 (dk_at dksX0_undo_0 0 rfl rfl)
theorem dX0_undo_1 : decode cX0_undo 1 = .ok (.iconst 0, 1) := dk_3 (dk_at dksX0_undo_0 1 rfl rfl)
theorem dX0_undo_2 : decode cX0_undo 2 = .ok (.aload_n 0, 1) := dk_42 (dk_at dksX0_undo_0 2 rfl rfl)
theorem dX0_undo_3 : decode cX0_undo 3 = .ok (.invokevirtual 67, 3) := dk_182 0 67 (dk_at dksX0_undo_0 3 rfl rfl)
theorem dX0_undo_6 : decode cX0_undo 6 = .ok (.i2l, 1) := dk_133 (dk_at dksX0_undo_0 6 rfl rfl)
theorem dX0_undo_7 : decode cX0_undo 7 = .ok (.lastore, 1) := dk_80 (dk_at dksX0_undo_0 7 rfl rfl)
theorem dX0_undo_8 : decode cX0_undo 8 = .ok (.goto 6, 3) := dk_167 0 6 (dk_at dksX0_undo_0 8 rfl rfl)
theorem dX0_undo_11 : decode cX0_undo 11 = .ok (.astore_n 2, 1) := dk_77 (dk_at dksX0_undo_0 11 rfl rfl)
theorem dX0_undo_12 : decode cX0_undo 12 = .ok (.iconst 1, 1) := dk_4 (dk_at dksX0_undo_0 12 rfl rfl)
theorem dX0_undo_13 : decode cX0_undo 13 = .ok (.ireturn, 1) := dk_172 (dk_at dksX0_undo_0 13 rfl rfl)
theorem dX0_undo_14 : decode cX0_undo 14 = .ok (.iconst 0, 1) := dk_3 (dk_at dksX0_undo_0 14 rfl rfl)
theorem dX0_undo_15 : decode cX0_undo 15 = .ok (.ireturn, 1) := dk_172 (dk_at dksX0_undo_0 15 rfl rfl)
abbrev cX0_isMember : ByteArray := method_20_code
def yX0_isMember : MethodName := ⟨RX0, "isMember", "(LRuleLists;II[J)I"⟩
def dkwX0_isMember_1 : List UInt8 := [58, 4, 5, 172, 3, 172]
abbrev dktX0_isMember_1 : List UInt8 := dkwX0_isMember_1 ++ []
def dkwX0_isMember_0 : List UInt8 := [45, 3, 42, 27, 28, 182, 0, 70, 153, 0, 7, 10, 167, 0, 4, 9, 80, 167, 0, 11, 58, 4, 4, 172]
abbrev dktX0_isMember_0 : List UInt8 := dkwX0_isMember_0 ++ dktX0_isMember_1
theorem dksX0_isMember_0 : cX0_isMember.data.toList.drop 0 = dktX0_isMember_0 := by decide +kernel
theorem dksX0_isMember_1 : cX0_isMember.data.toList.drop 24 = dktX0_isMember_1 := dk_seg dksX0_isMember_0 24 rfl rfl
theorem dX0_isMember_0 : decode cX0_isMember 0 = .ok (.aload_n 3, 1) := dk_45 (dk_at dksX0_isMember_0 0 rfl rfl)
theorem dX0_isMember_1 : decode cX0_isMember 1 = .ok (.iconst 0, 1) := dk_3 (dk_at dksX0_isMember_0 1 rfl rfl)
theorem dX0_isMember_2 : decode cX0_isMember 2 = .ok (.aload_n 0, 1) := dk_42 (dk_at dksX0_isMember_0 2 rfl rfl)
theorem dX0_isMember_3 : decode cX0_isMember 3 = .ok (.iload_n 1, 1) := dk_27 (dk_at dksX0_isMember_0 3 rfl rfl)
theorem dX0_isMember_4 : decode cX0_isMember 4 = .ok (.iload_n 2, 1) := dk_28 (dk_at dksX0_isMember_0 4 rfl rfl)
theorem dX0_isMember_5 : decode cX0_isMember 5 = .ok (.invokevirtual 70, 3) := dk_182 0 70 (dk_at dksX0_isMember_0 5 rfl rfl)
theorem dX0_isMember_8 : decode cX0_isMember 8 = .ok (.ifCond .eq 7, 3) := dk_153 0 7 (dk_at dksX0_isMember_0 8 rfl rfl)
theorem dX0_isMember_11 : decode cX0_isMember 11 = .ok (.lconst 1, 1) := dk_10 (dk_at dksX0_isMember_0 11 rfl rfl)
theorem dX0_isMember_12 : decode cX0_isMember 12 = .ok (.goto 4, 3) := dk_167 0 4 (dk_at dksX0_isMember_0 12 rfl rfl)
theorem dX0_isMember_15 : decode cX0_isMember 15 = .ok (.lconst 0, 1) := dk_9 (dk_at dksX0_isMember_0 15 rfl rfl)
theorem dX0_isMember_16 : decode cX0_isMember 16 = .ok (.lastore, 1) := dk_80 (dk_at dksX0_isMember_0 16 rfl rfl)
theorem dX0_isMember_17 : decode cX0_isMember 17 = .ok (.goto 11, 3) := dk_167 0 11 (dk_at dksX0_isMember_0 17 rfl rfl)
theorem dX0_isMember_20 : decode cX0_isMember 20 = .ok (.astore 4, 2) := dk_58 4 (dk_at dksX0_isMember_0 20 rfl rfl)
theorem dX0_isMember_22 : decode cX0_isMember 22 = .ok (.iconst 1, 1) := dk_4 (dk_at dksX0_isMember_0 22 rfl rfl)
theorem dX0_isMember_23 : decode cX0_isMember 23 = .ok (.ireturn, 1) := dk_172 (dk_at dksX0_isMember_0 23 rfl rfl)
theorem dX0_isMember_24 : decode cX0_isMember 24 = .ok (.astore 4, 2) := dk_58 4 (dk_at dksX0_isMember_1 0 rfl rfl)
theorem dX0_isMember_26 : decode cX0_isMember 26 = .ok (.iconst 2, 1) := dk_5 (dk_at dksX0_isMember_1 2 rfl rfl)
theorem dX0_isMember_27 : decode cX0_isMember 27 = .ok (.ireturn, 1) := dk_172 (dk_at dksX0_isMember_1 3 rfl rfl)
theorem dX0_isMember_28 : decode cX0_isMember 28 = .ok (.iconst 0, 1) := dk_3 (dk_at dksX0_isMember_1 4 rfl rfl)
theorem dX0_isMember_29 : decode cX0_isMember 29 = .ok (.ireturn, 1) := dk_172 (dk_at dksX0_isMember_1 5 rfl rfl)
abbrev cX0_memberByReading : ByteArray := method_21_code
def yX0_memberByReading : MethodName := ⟨RX0, "memberByReading", "(LRuleLists;II[J)I"⟩
def dkwX0_memberByReading_0 : List UInt8 := [45, 3, 42, 27, 28, 182, 0, 74, 133, 80, 167, 0, 7, 58, 4, 4, 172, 3, 172]
abbrev dktX0_memberByReading_0 : List UInt8 := dkwX0_memberByReading_0 ++ []
theorem dksX0_memberByReading_0 : cX0_memberByReading.data.toList.drop 0 = dktX0_memberByReading_0 := by decide +kernel
theorem dX0_memberByReading_0 : decode cX0_memberByReading 0 = .ok (.aload_n 3, 1) := dk_45 (dk_at dksX0_memberByReading_0 0 rfl rfl)
theorem dX0_memberByReading_1 : decode cX0_memberByReading 1 = .ok (.iconst 0, 1) := dk_3 (dk_at dksX0_memberByReading_0 1 rfl rfl)
theorem dX0_memberByReading_2 : decode cX0_memberByReading 2 = .ok (.aload_n 0, 1) := dk_42 (dk_at dksX0_memberByReading_0 2 rfl rfl)
theorem dX0_memberByReading_3 : decode cX0_memberByReading 3 = .ok (.iload_n 1, 1) := dk_27 (dk_at dksX0_memberByReading_0 3 rfl rfl)
theorem dX0_memberByReading_4 : decode cX0_memberByReading 4 = .ok (.iload_n 2, 1) := dk_28 (dk_at dksX0_memberByReading_0 4 rfl rfl)
theorem dX0_memberByReading_5 : decode cX0_memberByReading 5 = .ok (.invokevirtual 74, 3) := dk_182 0 74 (dk_at dksX0_memberByReading_0 5 rfl rfl)
theorem dX0_memberByReading_8 : decode cX0_memberByReading 8 = .ok (.i2l, 1) := dk_133 (dk_at dksX0_memberByReading_0 8 rfl rfl)
theorem dX0_memberByReading_9 : decode cX0_memberByReading 9 = .ok (.lastore, 1) := dk_80 (dk_at dksX0_memberByReading_0 9 rfl rfl)
theorem dX0_memberByReading_10 : decode cX0_memberByReading 10 = .ok (.goto 7, 3) := dk_167 0 7 (dk_at dksX0_memberByReading_0 10 rfl rfl)
theorem dX0_memberByReading_13 : decode cX0_memberByReading 13 = .ok (.astore 4, 2) := dk_58 4 (dk_at dksX0_memberByReading_0 13 rfl rfl)
theorem dX0_memberByReading_15 : decode cX0_memberByReading 15 = .ok (.iconst 1, 1) := dk_4 (dk_at dksX0_memberByReading_0 15 rfl rfl)
theorem dX0_memberByReading_16 : decode cX0_memberByReading 16 = .ok (.ireturn, 1) := dk_172 (dk_at dksX0_memberByReading_0 16 rfl rfl)
theorem dX0_memberByReading_17 : decode cX0_memberByReading 17 = .ok (.iconst 0, 1) := dk_3 (dk_at dksX0_memberByReading_0 17 rfl rfl)
theorem dX0_memberByReading_18 : decode cX0_memberByReading 18 = .ok (.ireturn, 1) := dk_172 (dk_at dksX0_memberByReading_0 18 rfl rfl)
abbrev cX0_memberByTesting : ByteArray := method_22_code
def yX0_memberByTesting : MethodName := ⟨RX0, "memberByTesting", "(LRuleLists;II[J)I"⟩
def dkwX0_memberByTesting_0 : List UInt8 := [45, 3, 42, 27, 28, 182, 0, 77, 133, 80, 167, 0, 7, 58, 4, 4, 172, 3, 172]
abbrev dktX0_memberByTesting_0 : List UInt8 := dkwX0_memberByTesting_0 ++ []
theorem dksX0_memberByTesting_0 : cX0_memberByTesting.data.toList.drop 0 = dktX0_memberByTesting_0 := by decide +kernel
theorem dX0_memberByTesting_0 : decode cX0_memberByTesting 0 = .ok (.aload_n 3, 1) := dk_45 (dk_at dksX0_memberByTesting_0 0 rfl rfl)
theorem dX0_memberByTesting_1 : decode cX0_memberByTesting 1 = .ok (.iconst 0, 1) := dk_3 (dk_at dksX0_memberByTesting_0 1 rfl rfl)
theorem dX0_memberByTesting_2 : decode cX0_memberByTesting 2 = .ok (.aload_n 0, 1) := dk_42 (dk_at dksX0_memberByTesting_0 2 rfl rfl)
theorem dX0_memberByTesting_3 : decode cX0_memberByTesting 3 = .ok (.iload_n 1, 1) := dk_27 (dk_at dksX0_memberByTesting_0 3 rfl rfl)
theorem dX0_memberByTesting_4 : decode cX0_memberByTesting 4 = .ok (.iload_n 2, 1) := dk_28 (dk_at dksX0_memberByTesting_0 4 rfl rfl)
theorem dX0_memberByTesting_5 : decode cX0_memberByTesting 5 = .ok (.invokevirtual 77, 3) := dk_182 0 77 (dk_at dksX0_memberByTesting_0 5 rfl rfl)
theorem dX0_memberByTesting_8 : decode cX0_memberByTesting 8 = .ok (.i2l, 1) := dk_133 (dk_at dksX0_memberByTesting_0 8 rfl rfl)
theorem dX0_memberByTesting_9 : decode cX0_memberByTesting 9 = .ok (.lastore, 1) := dk_80 (dk_at dksX0_memberByTesting_0 9 rfl rfl)
theorem dX0_memberByTesting_10 : decode cX0_memberByTesting 10 = .ok (.goto 7, 3) := dk_167 0 7 (dk_at dksX0_memberByTesting_0 10 rfl rfl)
theorem dX0_memberByTesting_13 : decode cX0_memberByTesting 13 = .ok (.astore 4, 2) := dk_58 4 (dk_at dksX0_memberByTesting_0 13 rfl rfl)
theorem dX0_memberByTesting_15 : decode cX0_memberByTesting 15 = .ok (.iconst 1, 1) := dk_4 (dk_at dksX0_memberByTesting_0 15 rfl rfl)
theorem dX0_memberByTesting_16 : decode cX0_memberByTesting 16 = .ok (.ireturn, 1) := dk_172 (dk_at dksX0_memberByTesting_0 16 rfl rfl)
theorem dX0_memberByTesting_17 : decode cX0_memberByTesting 17 = .ok (.iconst 0, 1) := dk_3 (dk_at dksX0_memberByTesting_0 17 rfl rfl)
theorem dX0_memberByTesting_18 : decode cX0_memberByTesting 18 = .ok (.ireturn, 1) := dk_172 (dk_at dksX0_memberByTesting_0 18 rfl rfl)
abbrev cX0_placeOf : ByteArray := method_23_code
def yX0_placeOf : MethodName := ⟨RX0, "placeOf", "(LRuleLists;II[J)I"⟩
def dkwX0_placeOf_0 : List UInt8 := [45, 3, 42, 27, 28, 182, 0, 80, 133, 80, 167, 0, 11, 58, 4, 4, 172, 58, 4, 5, 172, 3, 172]
abbrev dktX0_placeOf_0 : List UInt8 := dkwX0_placeOf_0 ++ []
theorem dksX0_placeOf_0 : cX0_placeOf.data.toList.drop 0 = dktX0_placeOf_0 := by decide +kernel
theorem dX0_placeOf_0 : decode cX0_placeOf 0 = .ok (.aload_n 3, 1) := dk_45 (dk_at dksX0_placeOf_0 0 rfl rfl)
theorem dX0_placeOf_1 : decode cX0_placeOf 1 = .ok (.iconst 0, 1) := dk_3 (dk_at dksX0_placeOf_0 1 rfl rfl)
theorem dX0_placeOf_2 : decode cX0_placeOf 2 = .ok (.aload_n 0, 1) := dk_42 (dk_at dksX0_placeOf_0 2 rfl rfl)
theorem dX0_placeOf_3 : decode cX0_placeOf 3 = .ok (.iload_n 1, 1) := dk_27 (dk_at dksX0_placeOf_0 3 rfl rfl)
theorem dX0_placeOf_4 : decode cX0_placeOf 4 = .ok (.iload_n 2, 1) := dk_28 (dk_at dksX0_placeOf_0 4 rfl rfl)
theorem dX0_placeOf_5 : decode cX0_placeOf 5 = .ok (.invokevirtual 80, 3) := dk_182 0 80 (dk_at dksX0_placeOf_0 5 rfl rfl)
theorem dX0_placeOf_8 : decode cX0_placeOf 8 = .ok (.i2l, 1) := dk_133 (dk_at dksX0_placeOf_0 8 rfl rfl)
theorem dX0_placeOf_9 : decode cX0_placeOf 9 = .ok (.lastore, 1) := dk_80 (dk_at dksX0_placeOf_0 9 rfl rfl)
theorem dX0_placeOf_10 : decode cX0_placeOf 10 = .ok (.goto 11, 3) := dk_167 0 11 (dk_at dksX0_placeOf_0 10 rfl rfl)
theorem dX0_placeOf_13 : decode cX0_placeOf 13 = .ok (.astore 4, 2) := dk_58 4 (dk_at dksX0_placeOf_0 13 rfl rfl)
theorem dX0_placeOf_15 : decode cX0_placeOf 15 = .ok (.iconst 1, 1) := dk_4 (dk_at dksX0_placeOf_0 15 rfl rfl)
theorem dX0_placeOf_16 : decode cX0_placeOf 16 = .ok (.ireturn, 1) := dk_172 (dk_at dksX0_placeOf_0 16 rfl rfl)
theorem dX0_placeOf_17 : decode cX0_placeOf 17 = .ok (.astore 4, 2) := dk_58 4 (dk_at dksX0_placeOf_0 17 rfl rfl)
theorem dX0_placeOf_19 : decode cX0_placeOf 19 = .ok (.iconst 2, 1) := dk_5 (dk_at dksX0_placeOf_0 19 rfl rfl)
theorem dX0_placeOf_20 : decode cX0_placeOf 20 = .ok (.ireturn, 1) := dk_172 (dk_at dksX0_placeOf_0 20 rfl rfl)
theorem dX0_placeOf_21 : decode cX0_placeOf 21 = .ok (.iconst 0, 1) := dk_3 (dk_at dksX0_placeOf_0 21 rfl rfl)
theorem dX0_placeOf_22 : decode cX0_placeOf 22 = .ok (.ireturn, 1) := dk_172 (dk_at dksX0_placeOf_0 22 rfl rfl)
abbrev cX0_membersUpTo : ByteArray := method_24_code
def yX0_membersUpTo : MethodName := ⟨RX0, "membersUpTo", "(LRuleLists;II[J)I"⟩
def dkwX0_membersUpTo_0 : List UInt8 := [45, 3, 42, 27, 28, 182, 0, 83, 133, 80, 167, 0, 11, 58, 4, 4, 172, 58, 4, 5, 172, 3, 172]
abbrev dktX0_membersUpTo_0 : List UInt8 := dkwX0_membersUpTo_0 ++ []
theorem dksX0_membersUpTo_0 : cX0_membersUpTo.data.toList.drop 0 = dktX0_membersUpTo_0 := by decide +kernel
theorem dX0_membersUpTo_0 : decode cX0_membersUpTo 0 = .ok (.aload_n 3, 1) := dk_45 (dk_at dksX0_membersUpTo_0 0 rfl rfl)
theorem dX0_membersUpTo_1 : decode cX0_membersUpTo 1 = .ok (.iconst 0, 1) := dk_3 (dk_at dksX0_membersUpTo_0 1 rfl rfl)
theorem dX0_membersUpTo_2 : decode cX0_membersUpTo 2 = .ok (.aload_n 0, 1) := dk_42 (dk_at dksX0_membersUpTo_0 2 rfl rfl)
theorem dX0_membersUpTo_3 : decode cX0_membersUpTo 3 = .ok (.iload_n 1, 1) := dk_27 (dk_at dksX0_membersUpTo_0 3 rfl rfl)
theorem dX0_membersUpTo_4 : decode cX0_membersUpTo 4 = .ok (.iload_n 2, 1) := dk_28 (dk_at dksX0_membersUpTo_0 4 rfl rfl)
theorem dX0_membersUpTo_5 : decode cX0_membersUpTo 5 = .ok (.invokevirtual 83, 3) := dk_182 0 83 (dk_at dksX0_membersUpTo_0 5 rfl rfl)
theorem dX0_membersUpTo_8 : decode cX0_membersUpTo 8 = .ok (.i2l, 1) := dk_133 (dk_at dksX0_membersUpTo_0 8 rfl rfl)
theorem dX0_membersUpTo_9 : decode cX0_membersUpTo 9 = .ok (.lastore, 1) := dk_80 (dk_at dksX0_membersUpTo_0 9 rfl rfl)
theorem dX0_membersUpTo_10 : decode cX0_membersUpTo 10 = .ok (.goto 11, 3) := dk_167 0 11 (dk_at dksX0_membersUpTo_0 10 rfl rfl)
theorem dX0_membersUpTo_13 : decode cX0_membersUpTo 13 = .ok (.astore 4, 2) := dk_58 4 (dk_at dksX0_membersUpTo_0 13 rfl rfl)
theorem dX0_membersUpTo_15 : decode cX0_membersUpTo 15 = .ok (.iconst 1, 1) := dk_4 (dk_at dksX0_membersUpTo_0 15 rfl rfl)
theorem dX0_membersUpTo_16 : decode cX0_membersUpTo 16 = .ok (.ireturn, 1) := dk_172 (dk_at dksX0_membersUpTo_0 16 rfl rfl)
theorem dX0_membersUpTo_17 : decode cX0_membersUpTo 17 = .ok (.astore 4, 2) := dk_58 4 (dk_at dksX0_membersUpTo_0 17 rfl rfl)
theorem dX0_membersUpTo_19 : decode cX0_membersUpTo 19 = .ok (.iconst 2, 1) := dk_5 (dk_at dksX0_membersUpTo_0 19 rfl rfl)
theorem dX0_membersUpTo_20 : decode cX0_membersUpTo 20 = .ok (.ireturn, 1) := dk_172 (dk_at dksX0_membersUpTo_0 20 rfl rfl)
theorem dX0_membersUpTo_21 : decode cX0_membersUpTo 21 = .ok (.iconst 0, 1) := dk_3 (dk_at dksX0_membersUpTo_0 21 rfl rfl)
theorem dX0_membersUpTo_22 : decode cX0_membersUpTo 22 = .ok (.ireturn, 1) := dk_172 (dk_at dksX0_membersUpTo_0 22 rfl rfl)
abbrev cX0_lastMember : ByteArray := method_25_code
def yX0_lastMember : MethodName := ⟨RX0, "lastMember", "(LRuleLists;I[J)I"⟩
def dkwX0_lastMember_0 : List UInt8 := [44, 3, 42, 27, 182, 0, 86, 133, 80, 167, 0, 6, 78, 4, 172, 3, 172]
abbrev dktX0_lastMember_0 : List UInt8 := dkwX0_lastMember_0 ++ []
theorem dksX0_lastMember_0 : cX0_lastMember.data.toList.drop 0 = dktX0_lastMember_0 := by decide +kernel
theorem dX0_lastMember_0 : decode cX0_lastMember 0 = .ok (.aload_n 2, 1) := dk_44 (dk_at dksX0_lastMember_0 0 rfl rfl)
theorem dX0_lastMember_1 : decode cX0_lastMember 1 = .ok (.iconst 0, 1) := dk_3 (dk_at dksX0_lastMember_0 1 rfl rfl)
theorem dX0_lastMember_2 : decode cX0_lastMember 2 = .ok (.aload_n 0, 1) := dk_42 (dk_at dksX0_lastMember_0 2 rfl rfl)
theorem dX0_lastMember_3 : decode cX0_lastMember 3 = .ok (.iload_n 1, 1) := dk_27 (dk_at dksX0_lastMember_0 3 rfl rfl)
theorem dX0_lastMember_4 : decode cX0_lastMember 4 = .ok (.invokevirtual 86, 3) := dk_182 0 86 (dk_at dksX0_lastMember_0 4 rfl rfl)
theorem dX0_lastMember_7 : decode cX0_lastMember 7 = .ok (.i2l, 1) := dk_133 (dk_at dksX0_lastMember_0 7 rfl rfl)
theorem dX0_lastMember_8 : decode cX0_lastMember 8 = .ok (.lastore, 1) := dk_80 (dk_at dksX0_lastMember_0 8 rfl rfl)
theorem dX0_lastMember_9 : decode cX0_lastMember 9 = .ok (.goto 6, 3) := dk_167 0 6 (dk_at dksX0_lastMember_0 9 rfl rfl)
theorem dX0_lastMember_12 : decode cX0_lastMember 12 = .ok (.astore_n 3, 1) := dk_78 (dk_at dksX0_lastMember_0 12 rfl rfl)
theorem dX0_lastMember_13 : decode cX0_lastMember 13 = .ok (.iconst 1, 1) := dk_4 (dk_at dksX0_lastMember_0 13 rfl rfl)
theorem dX0_lastMember_14 : decode cX0_lastMember 14 = .ok (.ireturn, 1) := dk_172 (dk_at dksX0_lastMember_0 14 rfl rfl)
theorem dX0_lastMember_15 : decode cX0_lastMember 15 = .ok (.iconst 0, 1) := dk_3 (dk_at dksX0_lastMember_0 15 rfl rfl)
theorem dX0_lastMember_16 : decode cX0_lastMember 16 = .ok (.ireturn, 1) := dk_172 (dk_at dksX0_lastMember_0 16 rfl rfl)
abbrev cX0_firstShared : ByteArray := method_26_code
def yX0_firstShared : MethodName := ⟨RX0, "firstShared", "(LRuleLists;II[J)I"⟩
def dkwX0_firstShared_0 : List UInt8 := [45, 3, 42, 27, 28, 182, 0, 89, 133, 80, 167, 0, 7, 58, 4, 4, 172, 3, 172]
abbrev dktX0_firstShared_0 : List UInt8 := dkwX0_firstShared_0 ++ []
theorem dksX0_firstShared_0 : cX0_firstShared.data.toList.drop 0 = dktX0_firstShared_0 := by decide +kernel
theorem dX0_firstShared_0 : decode cX0_firstShared 0 = .ok (.aload_n 3, 1) := dk_45 (dk_at dksX0_firstShared_0 0 rfl rfl)
theorem dX0_firstShared_1 : decode cX0_firstShared 1 = .ok (.iconst 0, 1) := dk_3 (dk_at dksX0_firstShared_0 1 rfl rfl)
theorem dX0_firstShared_2 : decode cX0_firstShared 2 = .ok (.aload_n 0, 1) := dk_42 (dk_at dksX0_firstShared_0 2 rfl rfl)
theorem dX0_firstShared_3 : decode cX0_firstShared 3 = .ok (.iload_n 1, 1) := dk_27 (dk_at dksX0_firstShared_0 3 rfl rfl)
theorem dX0_firstShared_4 : decode cX0_firstShared 4 = .ok (.iload_n 2, 1) := dk_28 (dk_at dksX0_firstShared_0 4 rfl rfl)
theorem dX0_firstShared_5 : decode cX0_firstShared 5 = .ok (.invokevirtual 89, 3) := dk_182 0 89 (dk_at dksX0_firstShared_0 5 rfl rfl)
theorem dX0_firstShared_8 : decode cX0_firstShared 8 = .ok (.i2l, 1) := dk_133 (dk_at dksX0_firstShared_0 8 rfl rfl)
theorem dX0_firstShared_9 : decode cX0_firstShared 9 = .ok (.lastore, 1) := dk_80 (dk_at dksX0_firstShared_0 9 rfl rfl)
theorem dX0_firstShared_10 : decode cX0_firstShared 10 = .ok (.goto 7, 3) := dk_167 0 7 (dk_at dksX0_firstShared_0 10 rfl rfl)
theorem dX0_firstShared_13 : decode cX0_firstShared 13 = .ok (.astore 4, 2) := dk_58 4 (dk_at dksX0_firstShared_0 13 rfl rfl)
theorem dX0_firstShared_15 : decode cX0_firstShared 15 = .ok (.iconst 1, 1) := dk_4 (dk_at dksX0_firstShared_0 15 rfl rfl)
theorem dX0_firstShared_16 : decode cX0_firstShared 16 = .ok (.ireturn, 1) := dk_172 (dk_at dksX0_firstShared_0 16 rfl rfl)
theorem dX0_firstShared_17 : decode cX0_firstShared 17 = .ok (.iconst 0, 1) := dk_3 (dk_at dksX0_firstShared_0 17 rfl rfl)
theorem dX0_firstShared_18 : decode cX0_firstShared 18 = .ok (.ireturn, 1) := dk_172 (dk_at dksX0_firstShared_0 18 rfl rfl)
abbrev cX0_widestGap : ByteArray := method_27_code
def yX0_widestGap : MethodName := ⟨RX0, "widestGap", "(LRuleLists;I[J)I"⟩
def dkwX0_widestGap_0 : List UInt8 := [44, 3, 42, 27, 182, 0, 92, 133, 80, 167, 0, 6, 78, 4, 172, 3, 172]
abbrev dktX0_widestGap_0 : List UInt8 := dkwX0_widestGap_0 ++ []
theorem dksX0_widestGap_0 : cX0_widestGap.data.toList.drop 0 = dktX0_widestGap_0 := by decide +kernel
theorem dX0_widestGap_0 : decode cX0_widestGap 0 = .ok (.aload_n 2, 1) := dk_44 (dk_at dksX0_widestGap_0 0 rfl rfl)
theorem dX0_widestGap_1 : decode cX0_widestGap 1 = .ok (.iconst 0, 1) := dk_3 (dk_at dksX0_widestGap_0 1 rfl rfl)
theorem dX0_widestGap_2 : decode cX0_widestGap 2 = .ok (.aload_n 0, 1) := dk_42 (dk_at dksX0_widestGap_0 2 rfl rfl)
theorem dX0_widestGap_3 : decode cX0_widestGap 3 = .ok (.iload_n 1, 1) := dk_27 (dk_at dksX0_widestGap_0 3 rfl rfl)
theorem dX0_widestGap_4 : decode cX0_widestGap 4 = .ok (.invokevirtual 92, 3) := dk_182 0 92 (dk_at dksX0_widestGap_0 4 rfl rfl)
theorem dX0_widestGap_7 : decode cX0_widestGap 7 = .ok (.i2l, 1) := dk_133 (dk_at dksX0_widestGap_0 7 rfl rfl)
theorem dX0_widestGap_8 : decode cX0_widestGap 8 = .ok (.lastore, 1) := dk_80 (dk_at dksX0_widestGap_0 8 rfl rfl)
theorem dX0_widestGap_9 : decode cX0_widestGap 9 = .ok (.goto 6, 3) := dk_167 0 6 (dk_at dksX0_widestGap_0 9 rfl rfl)
theorem dX0_widestGap_12 : decode cX0_widestGap 12 = .ok (.astore_n 3, 1) := dk_78 (dk_at dksX0_widestGap_0 12 rfl rfl)
theorem dX0_widestGap_13 : decode cX0_widestGap 13 = .ok (.iconst 1, 1) := dk_4 (dk_at dksX0_widestGap_0 13 rfl rfl)
theorem dX0_widestGap_14 : decode cX0_widestGap 14 = .ok (.ireturn, 1) := dk_172 (dk_at dksX0_widestGap_0 14 rfl rfl)
theorem dX0_widestGap_15 : decode cX0_widestGap 15 = .ok (.iconst 0, 1) := dk_3 (dk_at dksX0_widestGap_0 15 rfl rfl)
theorem dX0_widestGap_16 : decode cX0_widestGap 16 = .ok (.ireturn, 1) := dk_172 (dk_at dksX0_widestGap_0 16 rfl rfl)
abbrev cX0_listOf : ByteArray := method_28_code
def yX0_listOf : MethodName := ⟨RX0, "listOf", "(LRuleLists;I[J)I"⟩
def dkwX0_listOf_0 : List UInt8 := [44, 3, 42, 27, 182, 0, 95, 133, 80, 167, 0, 6, 78, 4, 172, 3, 172]
abbrev dktX0_listOf_0 : List UInt8 := dkwX0_listOf_0 ++ []
theorem dksX0_listOf_0 : cX0_listOf.data.toList.drop 0 = dktX0_listOf_0 := by decide +kernel
theorem dX0_listOf_0 : decode cX0_listOf 0 = .ok (.aload_n 2, 1) := dk_44 (dk_at dksX0_listOf_0 0 rfl rfl)
theorem dX0_listOf_1 : decode cX0_listOf 1 = .ok (.iconst 0, 1) := dk_3 (dk_at dksX0_listOf_0 1 rfl rfl)
theorem dX0_listOf_2 : decode cX0_listOf 2 = .ok (.aload_n 0, 1) := dk_42 (dk_at dksX0_listOf_0 2 rfl rfl)
theorem dX0_listOf_3 : decode cX0_listOf 3 = .ok (.iload_n 1, 1) := dk_27 (dk_at dksX0_listOf_0 3 rfl rfl)
theorem dX0_listOf_4 : decode cX0_listOf 4 = .ok (.invokevirtual 95, 3) := dk_182 0 95 (dk_at dksX0_listOf_0 4 rfl rfl)
theorem dX0_listOf_7 : decode cX0_listOf 7 = .ok (.i2l, 1) := dk_133 (dk_at dksX0_listOf_0 7 rfl rfl)
theorem dX0_listOf_8 : decode cX0_listOf 8 = .ok (.lastore, 1) := dk_80 (dk_at dksX0_listOf_0 8 rfl rfl)
theorem dX0_listOf_9 : decode cX0_listOf 9 = .ok (.goto 6, 3) := dk_167 0 6 (dk_at dksX0_listOf_0 9 rfl rfl)
theorem dX0_listOf_12 : decode cX0_listOf 12 = .ok (.astore_n 3, 1) := dk_78 (dk_at dksX0_listOf_0 12 rfl rfl)
theorem dX0_listOf_13 : decode cX0_listOf 13 = .ok (.iconst 1, 1) := dk_4 (dk_at dksX0_listOf_0 13 rfl rfl)
theorem dX0_listOf_14 : decode cX0_listOf 14 = .ok (.ireturn, 1) := dk_172 (dk_at dksX0_listOf_0 14 rfl rfl)
theorem dX0_listOf_15 : decode cX0_listOf 15 = .ok (.iconst 0, 1) := dk_3 (dk_at dksX0_listOf_0 15 rfl rfl)
theorem dX0_listOf_16 : decode cX0_listOf 16 = .ok (.ireturn, 1) := dk_172 (dk_at dksX0_listOf_0 16 rfl rfl)
abbrev cX0_readSoFar : ByteArray := method_29_code
def yX0_readSoFar : MethodName := ⟨RX0, "readSoFar", "(LRuleLists;I[J)I"⟩
def dkwX0_readSoFar_0 : List UInt8 := [44, 3, 42, 27, 182, 0, 98, 133, 80, 167, 0, 6, 78, 4, 172, 3, 172]
abbrev dktX0_readSoFar_0 : List UInt8 := dkwX0_readSoFar_0 ++ []
theorem dksX0_readSoFar_0 : cX0_readSoFar.data.toList.drop 0 = dktX0_readSoFar_0 := by decide +kernel
theorem dX0_readSoFar_0 : decode cX0_readSoFar 0 = .ok (.aload_n 2, 1) := dk_44 (dk_at dksX0_readSoFar_0 0 rfl rfl)
theorem dX0_readSoFar_1 : decode cX0_readSoFar 1 = .ok (.iconst 0, 1) := dk_3 (dk_at dksX0_readSoFar_0 1 rfl rfl)
theorem dX0_readSoFar_2 : decode cX0_readSoFar 2 = .ok (.aload_n 0, 1) := dk_42 (dk_at dksX0_readSoFar_0 2 rfl rfl)
theorem dX0_readSoFar_3 : decode cX0_readSoFar 3 = .ok (.iload_n 1, 1) := dk_27 (dk_at dksX0_readSoFar_0 3 rfl rfl)
theorem dX0_readSoFar_4 : decode cX0_readSoFar 4 = .ok (.invokevirtual 98, 3) := dk_182 0 98 (dk_at dksX0_readSoFar_0 4 rfl rfl)
theorem dX0_readSoFar_7 : decode cX0_readSoFar 7 = .ok (.i2l, 1) := dk_133 (dk_at dksX0_readSoFar_0 7 rfl rfl)
theorem dX0_readSoFar_8 : decode cX0_readSoFar 8 = .ok (.lastore, 1) := dk_80 (dk_at dksX0_readSoFar_0 8 rfl rfl)
theorem dX0_readSoFar_9 : decode cX0_readSoFar 9 = .ok (.goto 6, 3) := dk_167 0 6 (dk_at dksX0_readSoFar_0 9 rfl rfl)
theorem dX0_readSoFar_12 : decode cX0_readSoFar 12 = .ok (.astore_n 3, 1) := dk_78 (dk_at dksX0_readSoFar_0 12 rfl rfl)
theorem dX0_readSoFar_13 : decode cX0_readSoFar 13 = .ok (.iconst 1, 1) := dk_4 (dk_at dksX0_readSoFar_0 13 rfl rfl)
theorem dX0_readSoFar_14 : decode cX0_readSoFar 14 = .ok (.ireturn, 1) := dk_172 (dk_at dksX0_readSoFar_0 14 rfl rfl)
theorem dX0_readSoFar_15 : decode cX0_readSoFar 15 = .ok (.iconst 0, 1) := dk_3 (dk_at dksX0_readSoFar_0 15 rfl rfl)
theorem dX0_readSoFar_16 : decode cX0_readSoFar 16 = .ok (.ireturn, 1) := dk_172 (dk_at dksX0_readSoFar_0 16 rfl rfl)
abbrev cX0_nextOf : ByteArray := method_30_code
def yX0_nextOf : MethodName := ⟨RX0, "nextOf", "(LRuleLists;I[J)I"⟩
def dkwX0_nextOf_0 : List UInt8 := [44, 3, 42, 27, 182, 0, 101, 133, 80, 167, 0, 6, 78, 4, 172, 3, 172]
abbrev dktX0_nextOf_0 : List UInt8 := dkwX0_nextOf_0 ++ []
theorem dksX0_nextOf_0 : cX0_nextOf.data.toList.drop 0 = dktX0_nextOf_0 := by decide +kernel
theorem dX0_nextOf_0 : decode cX0_nextOf 0 = .ok (.aload_n 2, 1) := dk_44 (dk_at dksX0_nextOf_0 0 rfl rfl)
theorem dX0_nextOf_1 : decode cX0_nextOf 1 = .ok (.iconst 0, 1) := dk_3 (dk_at dksX0_nextOf_0 1 rfl rfl)
theorem dX0_nextOf_2 : decode cX0_nextOf 2 = .ok (.aload_n 0, 1) := dk_42 (dk_at dksX0_nextOf_0 2 rfl rfl)
theorem dX0_nextOf_3 : decode cX0_nextOf 3 = .ok (.iload_n 1, 1) := dk_27 (dk_at dksX0_nextOf_0 3 rfl rfl)
theorem dX0_nextOf_4 : decode cX0_nextOf 4 = .ok (.invokevirtual 101, 3) := dk_182 0 101 (dk_at dksX0_nextOf_0 4 rfl rfl)
theorem dX0_nextOf_7 : decode cX0_nextOf 7 = .ok (.i2l, 1) := dk_133 (dk_at dksX0_nextOf_0 7 rfl rfl)
theorem dX0_nextOf_8 : decode cX0_nextOf 8 = .ok (.lastore, 1) := dk_80 (dk_at dksX0_nextOf_0 8 rfl rfl)
theorem dX0_nextOf_9 : decode cX0_nextOf 9 = .ok (.goto 6, 3) := dk_167 0 6 (dk_at dksX0_nextOf_0 9 rfl rfl)
theorem dX0_nextOf_12 : decode cX0_nextOf 12 = .ok (.astore_n 3, 1) := dk_78 (dk_at dksX0_nextOf_0 12 rfl rfl)
theorem dX0_nextOf_13 : decode cX0_nextOf 13 = .ok (.iconst 1, 1) := dk_4 (dk_at dksX0_nextOf_0 13 rfl rfl)
theorem dX0_nextOf_14 : decode cX0_nextOf 14 = .ok (.ireturn, 1) := dk_172 (dk_at dksX0_nextOf_0 14 rfl rfl)
theorem dX0_nextOf_15 : decode cX0_nextOf 15 = .ok (.iconst 0, 1) := dk_3 (dk_at dksX0_nextOf_0 15 rfl rfl)
theorem dX0_nextOf_16 : decode cX0_nextOf 16 = .ok (.ireturn, 1) := dk_172 (dk_at dksX0_nextOf_0 16 rfl rfl)
abbrev cX0_firstOfPairByWalking : ByteArray := method_31_code
def yX0_firstOfPairByWalking : MethodName := ⟨RX0, "firstOfPairByWalking", "(LRuleLists;I[J)I"⟩
def dkwX0_firstOfPairByWalking_0 : List UInt8 := [44, 3, 42, 27, 182, 0, 104, 133, 80, 167, 0, 6, 78, 4, 172, 3, 172]
abbrev dktX0_firstOfPairByWalking_0 : List UInt8 := dkwX0_firstOfPairByWalking_0 ++ []
theorem dksX0_firstOfPairByWalking_0 : cX0_firstOfPairByWalking.data.toList.drop 0 = dktX0_firstOfPairByWalking_0 := by decide +kernel
theorem dX0_firstOfPairByWalking_0 : decode cX0_firstOfPairByWalking 0 = .ok (.aload_n 2, 1) := dk_44 (dk_at dksX0_firstOfPairByWalking_0 0 rfl rfl)
theorem dX0_firstOfPairByWalking_1 : decode cX0_firstOfPairByWalking 1 = .ok (.iconst 0, 1) := dk_3 (dk_at dksX0_firstOfPairByWalking_0 1 rfl rfl)
theorem dX0_firstOfPairByWalking_2 : decode cX0_firstOfPairByWalking 2 = .ok (.aload_n 0, 1) := dk_42 (dk_at dksX0_firstOfPairByWalking_0 2 rfl rfl)
theorem dX0_firstOfPairByWalking_3 : decode cX0_firstOfPairByWalking 3 = .ok (.iload_n 1, 1) := dk_27 (dk_at dksX0_firstOfPairByWalking_0 3 rfl rfl)
theorem dX0_firstOfPairByWalking_4 : decode cX0_firstOfPairByWalking 4 = .ok (.invokevirtual 104, 3) := dk_182 0 104 (dk_at dksX0_firstOfPairByWalking_0 4 rfl rfl)
theorem dX0_firstOfPairByWalking_7 : decode cX0_firstOfPairByWalking 7 = .ok (.i2l, 1) := dk_133 (dk_at dksX0_firstOfPairByWalking_0 7 rfl rfl)
theorem dX0_firstOfPairByWalking_8 : decode cX0_firstOfPairByWalking 8 = .ok (.lastore, 1) := dk_80 (dk_at dksX0_firstOfPairByWalking_0 8 rfl rfl)
theorem dX0_firstOfPairByWalking_9 : decode cX0_firstOfPairByWalking 9 = .ok (.goto 6, 3) := dk_167 0 6 (dk_at dksX0_firstOfPairByWalking_0 9 rfl rfl)
theorem dX0_firstOfPairByWalking_12 : decode cX0_firstOfPairByWalking 12 = .ok (.astore_n 3, 1) := dk_78 (dk_at dksX0_firstOfPairByWalking_0 12 rfl rfl)
theorem dX0_firstOfPairByWalking_13 : decode cX0_firstOfPairByWalking 13 = .ok (.iconst 1, 1) := dk_4 (dk_at dksX0_firstOfPairByWalking_0 13 rfl rfl)
theorem dX0_firstOfPairByWalking_14 : decode cX0_firstOfPairByWalking 14 = .ok (.ireturn, 1) := dk_172 (dk_at dksX0_firstOfPairByWalking_0 14 rfl rfl)
theorem dX0_firstOfPairByWalking_15 : decode cX0_firstOfPairByWalking 15 = .ok (.iconst 0, 1) := dk_3 (dk_at dksX0_firstOfPairByWalking_0 15 rfl rfl)
theorem dX0_firstOfPairByWalking_16 : decode cX0_firstOfPairByWalking 16 = .ok (.ireturn, 1) := dk_172 (dk_at dksX0_firstOfPairByWalking_0 16 rfl rfl)
abbrev cX0_firstOfPairByCounting : ByteArray := method_32_code
def yX0_firstOfPairByCounting : MethodName := ⟨RX0, "firstOfPairByCounting", "(LRuleLists;I[J)I"⟩
def dkwX0_firstOfPairByCounting_0 : List UInt8 := [44, 3, 42, 27, 182, 0, 107, 133, 80, 167, 0, 6, 78, 4, 172, 3, 172]
abbrev dktX0_firstOfPairByCounting_0 : List UInt8 := dkwX0_firstOfPairByCounting_0 ++ []
theorem dksX0_firstOfPairByCounting_0 : cX0_firstOfPairByCounting.data.toList.drop 0 = dktX0_firstOfPairByCounting_0 := by decide +kernel
theorem dX0_firstOfPairByCounting_0 : decode cX0_firstOfPairByCounting 0 = .ok (.aload_n 2, 1) := dk_44 (dk_at dksX0_firstOfPairByCounting_0 0 rfl rfl)
theorem dX0_firstOfPairByCounting_1 : decode cX0_firstOfPairByCounting 1 = .ok (.iconst 0, 1) := dk_3 (dk_at dksX0_firstOfPairByCounting_0 1 rfl rfl)
theorem dX0_firstOfPairByCounting_2 : decode cX0_firstOfPairByCounting 2 = .ok (.aload_n 0, 1) := dk_42 (dk_at dksX0_firstOfPairByCounting_0 2 rfl rfl)
theorem dX0_firstOfPairByCounting_3 : decode cX0_firstOfPairByCounting 3 = .ok (.iload_n 1, 1) := dk_27 (dk_at dksX0_firstOfPairByCounting_0 3 rfl rfl)
theorem dX0_firstOfPairByCounting_4 : decode cX0_firstOfPairByCounting 4 = .ok (.invokevirtual 107, 3) := dk_182 0 107 (dk_at dksX0_firstOfPairByCounting_0 4 rfl rfl)
theorem dX0_firstOfPairByCounting_7 : decode cX0_firstOfPairByCounting 7 = .ok (.i2l, 1) := dk_133 (dk_at dksX0_firstOfPairByCounting_0 7 rfl rfl)
theorem dX0_firstOfPairByCounting_8 : decode cX0_firstOfPairByCounting 8 = .ok (.lastore, 1) := dk_80 (dk_at dksX0_firstOfPairByCounting_0 8 rfl rfl)
theorem dX0_firstOfPairByCounting_9 : decode cX0_firstOfPairByCounting 9 = .ok (.goto 6, 3) := dk_167 0 6 (dk_at dksX0_firstOfPairByCounting_0 9 rfl rfl)
theorem dX0_firstOfPairByCounting_12 : decode cX0_firstOfPairByCounting 12 = .ok (.astore_n 3, 1) := dk_78 (dk_at dksX0_firstOfPairByCounting_0 12 rfl rfl)
theorem dX0_firstOfPairByCounting_13 : decode cX0_firstOfPairByCounting 13 = .ok (.iconst 1, 1) := dk_4 (dk_at dksX0_firstOfPairByCounting_0 13 rfl rfl)
theorem dX0_firstOfPairByCounting_14 : decode cX0_firstOfPairByCounting 14 = .ok (.ireturn, 1) := dk_172 (dk_at dksX0_firstOfPairByCounting_0 14 rfl rfl)
theorem dX0_firstOfPairByCounting_15 : decode cX0_firstOfPairByCounting 15 = .ok (.iconst 0, 1) := dk_3 (dk_at dksX0_firstOfPairByCounting_0 15 rfl rfl)
theorem dX0_firstOfPairByCounting_16 : decode cX0_firstOfPairByCounting 16 = .ok (.ireturn, 1) := dk_172 (dk_at dksX0_firstOfPairByCounting_0 16 rfl rfl)
abbrev cX0_numberOfPair : ByteArray := method_33_code
def yX0_numberOfPair : MethodName := ⟨RX0, "numberOfPair", "(LRuleLists;II[J)I"⟩
def dkwX0_numberOfPair_0 : List UInt8 := [45, 3, 42, 27, 28, 182, 0, 110, 133, 80, 167, 0, 7, 58, 4, 4, 172, 3, 172]
abbrev dktX0_numberOfPair_0 : List UInt8 := dkwX0_numberOfPair_0 ++ []
theorem dksX0_numberOfPair_0 : cX0_numberOfPair.data.toList.drop 0 = dktX0_numberOfPair_0 := by decide +kernel
theorem dX0_numberOfPair_0 : decode cX0_numberOfPair 0 = .ok (.aload_n 3, 1) := dk_45 (dk_at dksX0_numberOfPair_0 0 rfl rfl)
theorem dX0_numberOfPair_1 : decode cX0_numberOfPair 1 = .ok (.iconst 0, 1) := dk_3 (dk_at dksX0_numberOfPair_0 1 rfl rfl)
theorem dX0_numberOfPair_2 : decode cX0_numberOfPair 2 = .ok (.aload_n 0, 1) := dk_42 (dk_at dksX0_numberOfPair_0 2 rfl rfl)
theorem dX0_numberOfPair_3 : decode cX0_numberOfPair 3 = .ok (.iload_n 1, 1) := dk_27 (dk_at dksX0_numberOfPair_0 3 rfl rfl)
theorem dX0_numberOfPair_4 : decode cX0_numberOfPair 4 = .ok (.iload_n 2, 1) := dk_28 (dk_at dksX0_numberOfPair_0 4 rfl rfl)
theorem dX0_numberOfPair_5 : decode cX0_numberOfPair 5 = .ok (.invokevirtual 110, 3) := dk_182 0 110 (dk_at dksX0_numberOfPair_0 5 rfl rfl)
theorem dX0_numberOfPair_8 : decode cX0_numberOfPair 8 = .ok (.i2l, 1) := dk_133 (dk_at dksX0_numberOfPair_0 8 rfl rfl)
theorem dX0_numberOfPair_9 : decode cX0_numberOfPair 9 = .ok (.lastore, 1) := dk_80 (dk_at dksX0_numberOfPair_0 9 rfl rfl)
theorem dX0_numberOfPair_10 : decode cX0_numberOfPair 10 = .ok (.goto 7, 3) := dk_167 0 7 (dk_at dksX0_numberOfPair_0 10 rfl rfl)
theorem dX0_numberOfPair_13 : decode cX0_numberOfPair 13 = .ok (.astore 4, 2) := dk_58 4 (dk_at dksX0_numberOfPair_0 13 rfl rfl)
theorem dX0_numberOfPair_15 : decode cX0_numberOfPair 15 = .ok (.iconst 1, 1) := dk_4 (dk_at dksX0_numberOfPair_0 15 rfl rfl)
theorem dX0_numberOfPair_16 : decode cX0_numberOfPair 16 = .ok (.ireturn, 1) := dk_172 (dk_at dksX0_numberOfPair_0 16 rfl rfl)
theorem dX0_numberOfPair_17 : decode cX0_numberOfPair 17 = .ok (.iconst 0, 1) := dk_3 (dk_at dksX0_numberOfPair_0 17 rfl rfl)
theorem dX0_numberOfPair_18 : decode cX0_numberOfPair 18 = .ok (.ireturn, 1) := dk_172 (dk_at dksX0_numberOfPair_0 18 rfl rfl)
abbrev cX0_membersIfJoined : ByteArray := method_34_code
def yX0_membersIfJoined : MethodName := ⟨RX0, "membersIfJoined", "(LRuleLists;II[J)I"⟩
def dkwX0_membersIfJoined_0 : List UInt8 := [45, 3, 42, 27, 28, 182, 0, 113, 133, 80, 167, 0, 7, 58, 4, 4, 172, 3, 172]
abbrev dktX0_membersIfJoined_0 : List UInt8 := dkwX0_membersIfJoined_0 ++ []
theorem dksX0_membersIfJoined_0 : cX0_membersIfJoined.data.toList.drop 0 = dktX0_membersIfJoined_0 := by decide +kernel
theorem dX0_membersIfJoined_0 : decode cX0_membersIfJoined 0 = .ok (.aload_n 3, 1) := dk_45 (dk_at dksX0_membersIfJoined_0 0 rfl rfl)
theorem dX0_membersIfJoined_1 : decode cX0_membersIfJoined 1 = .ok (.iconst 0, 1) := dk_3 (dk_at dksX0_membersIfJoined_0 1 rfl rfl)
theorem dX0_membersIfJoined_2 : decode cX0_membersIfJoined 2 = .ok (.aload_n 0, 1) := dk_42 (dk_at dksX0_membersIfJoined_0 2 rfl rfl)
theorem dX0_membersIfJoined_3 : decode cX0_membersIfJoined 3 = .ok (.iload_n 1, 1) := dk_27 (dk_at dksX0_membersIfJoined_0 3 rfl rfl)
theorem dX0_membersIfJoined_4 : decode cX0_membersIfJoined 4 = .ok (.iload_n 2, 1) := dk_28 (dk_at dksX0_membersIfJoined_0 4 rfl rfl)
theorem dX0_membersIfJoined_5 : decode cX0_membersIfJoined 5 = .ok (.invokevirtual 113, 3) := dk_182 0 113 (dk_at dksX0_membersIfJoined_0 5 rfl rfl)
theorem dX0_membersIfJoined_8 : decode cX0_membersIfJoined 8 = .ok (.i2l, 1) := dk_133 (dk_at dksX0_membersIfJoined_0 8 rfl rfl)
theorem dX0_membersIfJoined_9 : decode cX0_membersIfJoined 9 = .ok (.lastore, 1) := dk_80 (dk_at dksX0_membersIfJoined_0 9 rfl rfl)
theorem dX0_membersIfJoined_10 : decode cX0_membersIfJoined 10 = .ok (.goto 7, 3) := dk_167 0 7 (dk_at dksX0_membersIfJoined_0 10 rfl rfl)
theorem dX0_membersIfJoined_13 : decode cX0_membersIfJoined 13 = .ok (.astore 4, 2) := dk_58 4 (dk_at dksX0_membersIfJoined_0 13 rfl rfl)
theorem dX0_membersIfJoined_15 : decode cX0_membersIfJoined 15 = .ok (.iconst 1, 1) := dk_4 (dk_at dksX0_membersIfJoined_0 15 rfl rfl)
theorem dX0_membersIfJoined_16 : decode cX0_membersIfJoined 16 = .ok (.ireturn, 1) := dk_172 (dk_at dksX0_membersIfJoined_0 16 rfl rfl)
theorem dX0_membersIfJoined_17 : decode cX0_membersIfJoined 17 = .ok (.iconst 0, 1) := dk_3 (dk_at dksX0_membersIfJoined_0 17 rfl rfl)
theorem dX0_membersIfJoined_18 : decode cX0_membersIfJoined 18 = .ok (.ireturn, 1) := dk_172 (dk_at dksX0_membersIfJoined_0 18 rfl rfl)
abbrev cX0_skipsTo : ByteArray := method_35_code
def yX0_skipsTo : MethodName := ⟨RX0, "skipsTo", "(LRuleLists;II[J)I"⟩
def dkwX0_skipsTo_0 : List UInt8 := [45, 3, 42, 27, 28, 182, 0, 116, 133, 80, 167, 0, 11, 58, 4, 4, 172, 58, 4, 5, 172, 3, 172]
abbrev dktX0_skipsTo_0 : List UInt8 := dkwX0_skipsTo_0 ++ []
theorem dksX0_skipsTo_0 : cX0_skipsTo.data.toList.drop 0 = dktX0_skipsTo_0 := by decide +kernel
theorem dX0_skipsTo_0 : decode cX0_skipsTo 0 = .ok (.aload_n 3, 1) := dk_45 (dk_at dksX0_skipsTo_0 0 rfl rfl)
theorem dX0_skipsTo_1 : decode cX0_skipsTo 1 = .ok (.iconst 0, 1) := dk_3 (dk_at dksX0_skipsTo_0 1 rfl rfl)
theorem dX0_skipsTo_2 : decode cX0_skipsTo 2 = .ok (.aload_n 0, 1) := dk_42 (dk_at dksX0_skipsTo_0 2 rfl rfl)
theorem dX0_skipsTo_3 : decode cX0_skipsTo 3 = .ok (.iload_n 1, 1) := dk_27 (dk_at dksX0_skipsTo_0 3 rfl rfl)
theorem dX0_skipsTo_4 : decode cX0_skipsTo 4 = .ok (.iload_n 2, 1) := dk_28 (dk_at dksX0_skipsTo_0 4 rfl rfl)
theorem dX0_skipsTo_5 : decode cX0_skipsTo 5 = .ok (.invokevirtual 116, 3) := dk_182 0 116 (dk_at dksX0_skipsTo_0 5 rfl rfl)
theorem dX0_skipsTo_8 : decode cX0_skipsTo 8 = .ok (.i2l, 1) := dk_133 (dk_at dksX0_skipsTo_0 8 rfl rfl)
theorem dX0_skipsTo_9 : decode cX0_skipsTo 9 = .ok (.lastore, 1) := dk_80 (dk_at dksX0_skipsTo_0 9 rfl rfl)
theorem dX0_skipsTo_10 : decode cX0_skipsTo 10 = .ok (.goto 11, 3) := dk_167 0 11 (dk_at dksX0_skipsTo_0 10 rfl rfl)
theorem dX0_skipsTo_13 : decode cX0_skipsTo 13 = .ok (.astore 4, 2) := dk_58 4 (dk_at dksX0_skipsTo_0 13 rfl rfl)
theorem dX0_skipsTo_15 : decode cX0_skipsTo 15 = .ok (.iconst 1, 1) := dk_4 (dk_at dksX0_skipsTo_0 15 rfl rfl)
theorem dX0_skipsTo_16 : decode cX0_skipsTo 16 = .ok (.ireturn, 1) := dk_172 (dk_at dksX0_skipsTo_0 16 rfl rfl)
theorem dX0_skipsTo_17 : decode cX0_skipsTo 17 = .ok (.astore 4, 2) := dk_58 4 (dk_at dksX0_skipsTo_0 17 rfl rfl)
theorem dX0_skipsTo_19 : decode cX0_skipsTo 19 = .ok (.iconst 2, 1) := dk_5 (dk_at dksX0_skipsTo_0 19 rfl rfl)
theorem dX0_skipsTo_20 : decode cX0_skipsTo 20 = .ok (.ireturn, 1) := dk_172 (dk_at dksX0_skipsTo_0 20 rfl rfl)
theorem dX0_skipsTo_21 : decode cX0_skipsTo 21 = .ok (.iconst 0, 1) := dk_3 (dk_at dksX0_skipsTo_0 21 rfl rfl)
theorem dX0_skipsTo_22 : decode cX0_skipsTo 22 = .ok (.ireturn, 1) := dk_172 (dk_at dksX0_skipsTo_0 22 rfl rfl)
abbrev cX0_simulate : ByteArray := method_36_code
def yX0_simulate : MethodName := ⟨RX0, "simulate", "(LRuleLists;JI[J)I"⟩
def dkwX0_simulate_0 : List UInt8 := [25, 4, 3, 42, 31, 29, 182, 0, 119, 133, 80, 167, 0, 7, 58, 5, 4, 172, 3, 172]
abbrev dktX0_simulate_0 : List UInt8 := dkwX0_simulate_0 ++ []
theorem dksX0_simulate_0 : cX0_simulate.data.toList.drop 0 = dktX0_simulate_0 := by decide +kernel
theorem dX0_simulate_0 : decode cX0_simulate 0 = .ok (.aload 4, 2) := dk_25 4 (dk_at dksX0_simulate_0 0 rfl rfl)
theorem dX0_simulate_2 : decode cX0_simulate 2 = .ok (.iconst 0, 1) := dk_3 (dk_at dksX0_simulate_0 2 rfl rfl)
theorem dX0_simulate_3 : decode cX0_simulate 3 = .ok (.aload_n 0, 1) := dk_42 (dk_at dksX0_simulate_0 3 rfl rfl)
theorem dX0_simulate_4 : decode cX0_simulate 4 = .ok (.lload_n 1, 1) := dk_31 (dk_at dksX0_simulate_0 4 rfl rfl)
theorem dX0_simulate_5 : decode cX0_simulate 5 = .ok (.iload_n 3, 1) := dk_29 (dk_at dksX0_simulate_0 5 rfl rfl)
theorem dX0_simulate_6 : decode cX0_simulate 6 = .ok (.invokevirtual 119, 3) := dk_182 0 119 (dk_at dksX0_simulate_0 6 rfl rfl)
theorem dX0_simulate_9 : decode cX0_simulate 9 = .ok (.i2l, 1) := dk_133 (dk_at dksX0_simulate_0 9 rfl rfl)
theorem dX0_simulate_10 : decode cX0_simulate 10 = .ok (.lastore, 1) := dk_80 (dk_at dksX0_simulate_0 10 rfl rfl)
theorem dX0_simulate_11 : decode cX0_simulate 11 = .ok (.goto 7, 3) := dk_167 0 7 (dk_at dksX0_simulate_0 11 rfl rfl)
theorem dX0_simulate_14 : decode cX0_simulate 14 = .ok (.astore 5, 2) := dk_58 5 (dk_at dksX0_simulate_0 14 rfl rfl)
theorem dX0_simulate_16 : decode cX0_simulate 16 = .ok (.iconst 1, 1) := dk_4 (dk_at dksX0_simulate_0 16 rfl rfl)
theorem dX0_simulate_17 : decode cX0_simulate 17 = .ok (.ireturn, 1) := dk_172 (dk_at dksX0_simulate_0 17 rfl rfl)
theorem dX0_simulate_18 : decode cX0_simulate 18 = .ok (.iconst 0, 1) := dk_3 (dk_at dksX0_simulate_0 18 rfl rfl)
theorem dX0_simulate_19 : decode cX0_simulate 19 = .ok (.ireturn, 1) := dk_172 (dk_at dksX0_simulate_0 19 rfl rfl)
abbrev cX0_save : ByteArray := method_37_code
def yX0_save : MethodName := ⟨RX0, "save", "(LRuleLists;I[J)I"⟩
def dkwX0_save_0 : List UInt8 := [44, 3, 42, 27, 182, 0, 123, 133, 80, 167, 0, 6, 78, 4, 172, 3, 172]
abbrev dktX0_save_0 : List UInt8 := dkwX0_save_0 ++ []
theorem dksX0_save_0 : cX0_save.data.toList.drop 0 = dktX0_save_0 := by decide +kernel
theorem dX0_save_0 : decode cX0_save 0 = .ok (.aload_n 2, 1) := dk_44 (dk_at dksX0_save_0 0 rfl rfl)
theorem dX0_save_1 : decode cX0_save 1 = .ok (.iconst 0, 1) := dk_3 (dk_at dksX0_save_0 1 rfl rfl)
theorem dX0_save_2 : decode cX0_save 2 = .ok (.aload_n 0, 1) := dk_42 (dk_at dksX0_save_0 2 rfl rfl)
theorem dX0_save_3 : decode cX0_save 3 = .ok (.iload_n 1, 1) := dk_27 (dk_at dksX0_save_0 3 rfl rfl)
theorem dX0_save_4 : decode cX0_save 4 = .ok (.invokevirtual 123, 3) := dk_182 0 123 (dk_at dksX0_save_0 4 rfl rfl)
theorem dX0_save_7 : decode cX0_save 7 = .ok (.i2l, 1) := dk_133 (dk_at dksX0_save_0 7 rfl rfl)
theorem dX0_save_8 : decode cX0_save 8 = .ok (.lastore, 1) := dk_80 (dk_at dksX0_save_0 8 rfl rfl)
theorem dX0_save_9 : decode cX0_save 9 = .ok (.goto 6, 3) := dk_167 0 6 (dk_at dksX0_save_0 9 rfl rfl)
theorem dX0_save_12 : decode cX0_save 12 = .ok (.astore_n 3, 1) := dk_78 (dk_at dksX0_save_0 12 rfl rfl)
theorem dX0_save_13 : decode cX0_save 13 = .ok (.iconst 1, 1) := dk_4 (dk_at dksX0_save_0 13 rfl rfl)
theorem dX0_save_14 : decode cX0_save 14 = .ok (.ireturn, 1) := dk_172 (dk_at dksX0_save_0 14 rfl rfl)
theorem dX0_save_15 : decode cX0_save 15 = .ok (.iconst 0, 1) := dk_3 (dk_at dksX0_save_0 15 rfl rfl)
theorem dX0_save_16 : decode cX0_save 16 = .ok (.ireturn, 1) := dk_172 (dk_at dksX0_save_0 16 rfl rfl)
abbrev cX0_restore : ByteArray := method_38_code
def yX0_restore : MethodName := ⟨RX0, "restore", "(LRuleLists;I[J)I"⟩
def dkwX0_restore_0 : List UInt8 := [44, 3, 42, 27, 182, 0, 126, 133, 80, 167, 0, 9, 78, 4, 172, 78, 5, 172, 3, 172]
abbrev dktX0_restore_0 : List UInt8 := dkwX0_restore_0 ++ []
theorem dksX0_restore_0 : cX0_restore.data.toList.drop 0 = dktX0_restore_0 := by decide +kernel
theorem dX0_restore_0 : decode cX0_restore 0 = .ok (.aload_n 2, 1) := dk_44 (dk_at dksX0_restore_0 0 rfl rfl)
theorem dX0_restore_1 : decode cX0_restore 1 = .ok (.iconst 0, 1) := dk_3 (dk_at dksX0_restore_0 1 rfl rfl)
theorem dX0_restore_2 : decode cX0_restore 2 = .ok (.aload_n 0, 1) := dk_42 (dk_at dksX0_restore_0 2 rfl rfl)
theorem dX0_restore_3 : decode cX0_restore 3 = .ok (.iload_n 1, 1) := dk_27 (dk_at dksX0_restore_0 3 rfl rfl)
theorem dX0_restore_4 : decode cX0_restore 4 = .ok (.invokevirtual 126, 3) := dk_182 0 126 (dk_at dksX0_restore_0 4 rfl rfl)
theorem dX0_restore_7 : decode cX0_restore 7 = .ok (.i2l, 1) := dk_133 (dk_at dksX0_restore_0 7 rfl rfl)
theorem dX0_restore_8 : decode cX0_restore 8 = .ok (.lastore, 1) := dk_80 (dk_at dksX0_restore_0 8 rfl rfl)
theorem dX0_restore_9 : decode cX0_restore 9 = .ok (.goto 9, 3) := dk_167 0 9 (dk_at dksX0_restore_0 9 rfl rfl)
theorem dX0_restore_12 : decode cX0_restore 12 = .ok (.astore_n 3, 1) := dk_78 (dk_at dksX0_restore_0 12 rfl rfl)
theorem dX0_restore_13 : decode cX0_restore 13 = .ok (.iconst 1, 1) := dk_4 (dk_at dksX0_restore_0 13 rfl rfl)
theorem dX0_restore_14 : decode cX0_restore 14 = .ok (.ireturn, 1) := dk_172 (dk_at dksX0_restore_0 14 rfl rfl)
theorem dX0_restore_15 : decode cX0_restore 15 = .ok (.astore_n 3, 1) := dk_78 (dk_at dksX0_restore_0 15 rfl rfl)
theorem dX0_restore_16 : decode cX0_restore 16 = .ok (.iconst 2, 1) := dk_5 (dk_at dksX0_restore_0 16 rfl rfl)
theorem dX0_restore_17 : decode cX0_restore 17 = .ok (.ireturn, 1) := dk_172 (dk_at dksX0_restore_0 17 rfl rfl)
theorem dX0_restore_18 : decode cX0_restore 18 = .ok (.iconst 0, 1) := dk_3 (dk_at dksX0_restore_0 18 rfl rfl)
theorem dX0_restore_19 : decode cX0_restore 19 = .ok (.ireturn, 1) := dk_172 (dk_at dksX0_restore_0 19 rfl rfl)
theorem q52 : (Jvm.Cond.initialized "RuleListsLaw") ∈ lw_all := lw_g (lw_at lw_m1 0 rfl) rfl
theorem q91 : (Jvm.Cond.classLink "RuleListsLaw" (8 : Nat) "RuleLists") ∈ lw_all := lw_g (lw_at lw_m1 39 rfl) rfl
theorem q93 : (Jvm.Cond.methodLink "RuleListsLaw" (129 : Nat) ({ cls := "RuleLists", name := "<init>", desc := "()V" } : Jvm.MethodName)) ∈ lw_all := lw_g (lw_at lw_m1 41 rfl) rfl
theorem q180 : (Jvm.Cond.methodLink "RuleListsLaw" (142 : Nat) ({ cls := "RuleLists", name := "clearText", desc := "()I" } : Jvm.MethodName)) ∈ lw_all := lw_g (lw_at lw_m1 128 rfl) rfl
theorem q184 : (Jvm.Cond.methodLink "RuleListsLaw" (146 : Nat) ({ cls := "RuleLists", name := "errorPosition", desc := "()I" } : Jvm.MethodName)) ∈ lw_all := lw_g (lw_at lw_m1 132 rfl) rfl
theorem q775 : (Jvm.Cond.methodLink "RuleListsLaw" (201 : Nat) ({ cls := "RuleLists", name := "lists", desc := "()I" } : Jvm.MethodName)) ∈ lw_all := lw_g (lw_at lw_m4 3 rfl) rfl
theorem q781 : (Jvm.Cond.methodLink "RuleListsLaw" (229 : Nat) ({ cls := "RuleLists", name := "readers", desc := "()I" } : Jvm.MethodName)) ∈ lw_all := lw_g (lw_at lw_m4 9 rfl) rfl
theorem q785 : (Jvm.Cond.methodLink "RuleListsLaw" (242 : Nat) ({ cls := "RuleLists", name := "readings", desc := "()I" } : Jvm.MethodName)) ∈ lw_all := lw_g (lw_at lw_m4 13 rfl) rfl
theorem q789 : (Jvm.Cond.methodLink "RuleListsLaw" (246 : Nat) ({ cls := "RuleLists", name := "leastNext", desc := "()I" } : Jvm.MethodName)) ∈ lw_all := lw_g (lw_at lw_m4 17 rfl) rfl
theorem q797 : (Jvm.Cond.methodLink "RuleListsLaw" (259 : Nat) ({ cls := "RuleLists", name := "whyNoDrop", desc := "()I" } : Jvm.MethodName)) ∈ lw_all := lw_g (lw_at lw_m4 25 rfl) rfl
theorem q802 : (Jvm.Cond.methodLink "RuleListsLaw" (133 : Nat) ({ cls := "RuleListsLaw", name := "append", desc := "(LRuleLists;I[J)I" } : Jvm.MethodName)) ∈ lw_all := lw_g (lw_at lw_m4 30 rfl) rfl
theorem q803 : (Jvm.Cond.static ({ cls := "RuleListsLaw", name := "append", desc := "(LRuleLists;I[J)I" } : Jvm.MethodName)) ∈ lw_all := lw_g (lw_at lw_m4 31 rfl) rfl
theorem q804 : (Jvm.Cond.codeWith ({ cls := "RuleListsLaw", name := "append", desc := "(LRuleLists;I[J)I" } : Jvm.MethodName) method_3_code (4 : Nat) (Option.some Jvm.ClassFile.FieldType.int) [((0 : Nat), (9 : Nat), (12 : Nat), (13 : Nat)), ((0 : Nat), (9 : Nat), (15 : Nat), (15 : Nat))]) ∈ lw_all := lw_g (lw_at lw_m4 32 rfl) rfl
theorem q805 : (Jvm.Cond.classLink "RuleListsLaw" (13 : Nat) "java/lang/IllegalArgumentException") ∈ lw_all := lw_g (lw_at lw_m4 33 rfl) rfl
theorem q806 : (Jvm.Cond.classLink "RuleListsLaw" (15 : Nat) "java/lang/IllegalStateException") ∈ lw_all := lw_g (lw_at lw_m4 34 rfl) rfl
theorem q807 : (Jvm.Cond.methodLink "RuleListsLaw" (7 : Nat) ({ cls := "RuleLists", name := "append", desc := "(I)I" } : Jvm.MethodName)) ∈ lw_all := lw_g (lw_at lw_m4 35 rfl) rfl
theorem q898 : (Jvm.Cond.methodLink "RuleListsLaw" (150 : Nat) ({ cls := "RuleListsLaw", name := "load", desc := "(LRuleLists;[J)I" } : Jvm.MethodName)) ∈ lw_all := lw_g (lw_at lw_m4 126 rfl) rfl
theorem q899 : (Jvm.Cond.static ({ cls := "RuleListsLaw", name := "load", desc := "(LRuleLists;[J)I" } : Jvm.MethodName)) ∈ lw_all := lw_g (lw_at lw_m4 127 rfl) rfl
theorem q900 : (Jvm.Cond.codeWith ({ cls := "RuleListsLaw", name := "load", desc := "(LRuleLists;[J)I" } : Jvm.MethodName) method_4_code (3 : Nat) (Option.some Jvm.ClassFile.FieldType.int) [((0 : Nat), (8 : Nat), (11 : Nat), (15 : Nat))]) ∈ lw_all := lw_g (lw_at lw_m4 128 rfl) rfl
theorem q901 : (Jvm.Cond.methodLink "RuleListsLaw" (17 : Nat) ({ cls := "RuleLists", name := "load", desc := "()I" } : Jvm.MethodName)) ∈ lw_all := lw_g (lw_at lw_m4 129 rfl) rfl
theorem q917 : (Jvm.Cond.methodLink "RuleListsLaw" (154 : Nat) ({ cls := "RuleListsLaw", name := "makeSteps", desc := "(LRuleLists;II[J)I" } : Jvm.MethodName)) ∈ lw_all := lw_g (lw_at lw_m4 145 rfl) rfl
theorem q918 : (Jvm.Cond.static ({ cls := "RuleListsLaw", name := "makeSteps", desc := "(LRuleLists;II[J)I" } : Jvm.MethodName)) ∈ lw_all := lw_g (lw_at lw_m4 146 rfl) rfl
theorem q919 : (Jvm.Cond.codeWith ({ cls := "RuleListsLaw", name := "makeSteps", desc := "(LRuleLists;II[J)I" } : Jvm.MethodName) method_5_code (5 : Nat) (Option.some Jvm.ClassFile.FieldType.int) [((0 : Nat), (10 : Nat), (13 : Nat), (13 : Nat)), ((0 : Nat), (10 : Nat), (17 : Nat), (15 : Nat))]) ∈ lw_all := lw_g (lw_at lw_m4 147 rfl) rfl
theorem q920 : (Jvm.Cond.methodLink "RuleListsLaw" (21 : Nat) ({ cls := "RuleLists", name := "makeSteps", desc := "(II)I" } : Jvm.MethodName)) ∈ lw_all := lw_g (lw_at lw_m4 148 rfl) rfl
theorem q1016 : (Jvm.Cond.methodLink "RuleListsLaw" (158 : Nat) ({ cls := "RuleListsLaw", name := "makeScaled", desc := "(LRuleLists;III[J)I" } : Jvm.MethodName)) ∈ lw_all := lw_g (lw_at lw_m5 4 rfl) rfl
theorem q1017 : (Jvm.Cond.static ({ cls := "RuleListsLaw", name := "makeScaled", desc := "(LRuleLists;III[J)I" } : Jvm.MethodName)) ∈ lw_all := lw_g (lw_at lw_m5 5 rfl) rfl
theorem q1018 : (Jvm.Cond.codeWith ({ cls := "RuleListsLaw", name := "makeScaled", desc := "(LRuleLists;III[J)I" } : Jvm.MethodName) method_6_code (6 : Nat) (Option.some Jvm.ClassFile.FieldType.int) [((0 : Nat), (12 : Nat), (15 : Nat), (29 : Nat)), ((0 : Nat), (12 : Nat), (19 : Nat), (13 : Nat)), ((0 : Nat), (12 : Nat), (23 : Nat), (15 : Nat))]) ∈ lw_all := lw_g (lw_at lw_m5 6 rfl) rfl
theorem q1019 : (Jvm.Cond.classLink "RuleListsLaw" (29 : Nat) "java/lang/IndexOutOfBoundsException") ∈ lw_all := lw_g (lw_at lw_m5 7 rfl) rfl
theorem q1043 : (Jvm.Cond.methodLink "RuleListsLaw" (25 : Nat) ({ cls := "RuleLists", name := "makeScaled", desc := "(III)I" } : Jvm.MethodName)) ∈ lw_all := lw_g (lw_at lw_m5 31 rfl) rfl
theorem q1076 : (Jvm.Cond.methodLink "RuleListsLaw" (162 : Nat) ({ cls := "RuleListsLaw", name := "makeJoined", desc := "(LRuleLists;II[J)I" } : Jvm.MethodName)) ∈ lw_all := lw_g (lw_at lw_m5 64 rfl) rfl
theorem q1077 : (Jvm.Cond.static ({ cls := "RuleListsLaw", name := "makeJoined", desc := "(LRuleLists;II[J)I" } : Jvm.MethodName)) ∈ lw_all := lw_g (lw_at lw_m5 65 rfl) rfl
theorem q1078 : (Jvm.Cond.codeWith ({ cls := "RuleListsLaw", name := "makeJoined", desc := "(LRuleLists;II[J)I" } : Jvm.MethodName) method_7_code (5 : Nat) (Option.some Jvm.ClassFile.FieldType.int) [((0 : Nat), (10 : Nat), (13 : Nat), (29 : Nat)), ((0 : Nat), (10 : Nat), (17 : Nat), (15 : Nat))]) ∈ lw_all := lw_g (lw_at lw_m5 66 rfl) rfl
theorem q1079 : (Jvm.Cond.methodLink "RuleListsLaw" (31 : Nat) ({ cls := "RuleLists", name := "makeJoined", desc := "(II)I" } : Jvm.MethodName)) ∈ lw_all := lw_g (lw_at lw_m5 67 rfl) rfl
theorem q1085 : (Jvm.Cond.methodLink "RuleListsLaw" (165 : Nat) ({ cls := "RuleListsLaw", name := "makeShared", desc := "(LRuleLists;II[J)I" } : Jvm.MethodName)) ∈ lw_all := lw_g (lw_at lw_m5 73 rfl) rfl
theorem q1086 : (Jvm.Cond.static ({ cls := "RuleListsLaw", name := "makeShared", desc := "(LRuleLists;II[J)I" } : Jvm.MethodName)) ∈ lw_all := lw_g (lw_at lw_m5 74 rfl) rfl
theorem q1087 : (Jvm.Cond.codeWith ({ cls := "RuleListsLaw", name := "makeShared", desc := "(LRuleLists;II[J)I" } : Jvm.MethodName) method_8_code (5 : Nat) (Option.some Jvm.ClassFile.FieldType.int) [((0 : Nat), (10 : Nat), (13 : Nat), (29 : Nat)), ((0 : Nat), (10 : Nat), (17 : Nat), (15 : Nat))]) ∈ lw_all := lw_g (lw_at lw_m5 75 rfl) rfl
theorem q1088 : (Jvm.Cond.methodLink "RuleListsLaw" (34 : Nat) ({ cls := "RuleLists", name := "makeShared", desc := "(II)I" } : Jvm.MethodName)) ∈ lw_all := lw_g (lw_at lw_m5 76 rfl) rfl
theorem q1094 : (Jvm.Cond.methodLink "RuleListsLaw" (168 : Nat) ({ cls := "RuleListsLaw", name := "makeWithout", desc := "(LRuleLists;II[J)I" } : Jvm.MethodName)) ∈ lw_all := lw_g (lw_at lw_m5 82 rfl) rfl
theorem q1095 : (Jvm.Cond.static ({ cls := "RuleListsLaw", name := "makeWithout", desc := "(LRuleLists;II[J)I" } : Jvm.MethodName)) ∈ lw_all := lw_g (lw_at lw_m5 83 rfl) rfl
theorem q1096 : (Jvm.Cond.codeWith ({ cls := "RuleListsLaw", name := "makeWithout", desc := "(LRuleLists;II[J)I" } : Jvm.MethodName) method_9_code (5 : Nat) (Option.some Jvm.ClassFile.FieldType.int) [((0 : Nat), (10 : Nat), (13 : Nat), (29 : Nat)), ((0 : Nat), (10 : Nat), (17 : Nat), (15 : Nat))]) ∈ lw_all := lw_g (lw_at lw_m5 84 rfl) rfl
theorem q1097 : (Jvm.Cond.methodLink "RuleListsLaw" (37 : Nat) ({ cls := "RuleLists", name := "makeWithout", desc := "(II)I" } : Jvm.MethodName)) ∈ lw_all := lw_g (lw_at lw_m5 85 rfl) rfl
theorem q1103 : (Jvm.Cond.methodLink "RuleListsLaw" (171 : Nat) ({ cls := "RuleListsLaw", name := "makeSieved", desc := "(LRuleLists;I[J)I" } : Jvm.MethodName)) ∈ lw_all := lw_g (lw_at lw_m5 91 rfl) rfl
theorem q1104 : (Jvm.Cond.static ({ cls := "RuleListsLaw", name := "makeSieved", desc := "(LRuleLists;I[J)I" } : Jvm.MethodName)) ∈ lw_all := lw_g (lw_at lw_m5 92 rfl) rfl
theorem q1105 : (Jvm.Cond.codeWith ({ cls := "RuleListsLaw", name := "makeSieved", desc := "(LRuleLists;I[J)I" } : Jvm.MethodName) method_10_code (4 : Nat) (Option.some Jvm.ClassFile.FieldType.int) [((0 : Nat), (9 : Nat), (12 : Nat), (29 : Nat)), ((0 : Nat), (9 : Nat), (15 : Nat), (15 : Nat))]) ∈ lw_all := lw_g (lw_at lw_m5 93 rfl) rfl
theorem q1106 : (Jvm.Cond.methodLink "RuleListsLaw" (40 : Nat) ({ cls := "RuleLists", name := "makeSieved", desc := "(I)I" } : Jvm.MethodName)) ∈ lw_all := lw_g (lw_at lw_m5 94 rfl) rfl
theorem q1112 : (Jvm.Cond.methodLink "RuleListsLaw" (174 : Nat) ({ cls := "RuleListsLaw", name := "makeThinned", desc := "(LRuleLists;II[J)I" } : Jvm.MethodName)) ∈ lw_all := lw_g (lw_at lw_m5 100 rfl) rfl
theorem q1113 : (Jvm.Cond.static ({ cls := "RuleListsLaw", name := "makeThinned", desc := "(LRuleLists;II[J)I" } : Jvm.MethodName)) ∈ lw_all := lw_g (lw_at lw_m5 101 rfl) rfl
theorem q1114 : (Jvm.Cond.codeWith ({ cls := "RuleListsLaw", name := "makeThinned", desc := "(LRuleLists;II[J)I" } : Jvm.MethodName) method_11_code (5 : Nat) (Option.some Jvm.ClassFile.FieldType.int) [((0 : Nat), (10 : Nat), (13 : Nat), (29 : Nat)), ((0 : Nat), (10 : Nat), (17 : Nat), (13 : Nat)), ((0 : Nat), (10 : Nat), (21 : Nat), (15 : Nat))]) ∈ lw_all := lw_g (lw_at lw_m5 102 rfl) rfl
theorem q1115 : (Jvm.Cond.methodLink "RuleListsLaw" (43 : Nat) ({ cls := "RuleLists", name := "makeThinned", desc := "(II)I" } : Jvm.MethodName)) ∈ lw_all := lw_g (lw_at lw_m5 103 rfl) rfl
theorem q1124 : (Jvm.Cond.methodLink "RuleListsLaw" (177 : Nat) ({ cls := "RuleListsLaw", name := "makeAddedUp", desc := "(LRuleLists;I[J)I" } : Jvm.MethodName)) ∈ lw_all := lw_g (lw_at lw_m5 112 rfl) rfl
theorem q1125 : (Jvm.Cond.static ({ cls := "RuleListsLaw", name := "makeAddedUp", desc := "(LRuleLists;I[J)I" } : Jvm.MethodName)) ∈ lw_all := lw_g (lw_at lw_m5 113 rfl) rfl
theorem q1126 : (Jvm.Cond.codeWith ({ cls := "RuleListsLaw", name := "makeAddedUp", desc := "(LRuleLists;I[J)I" } : Jvm.MethodName) method_12_code (4 : Nat) (Option.some Jvm.ClassFile.FieldType.int) [((0 : Nat), (9 : Nat), (12 : Nat), (29 : Nat)), ((0 : Nat), (9 : Nat), (15 : Nat), (15 : Nat))]) ∈ lw_all := lw_g (lw_at lw_m5 114 rfl) rfl
theorem q1127 : (Jvm.Cond.methodLink "RuleListsLaw" (46 : Nat) ({ cls := "RuleLists", name := "makeAddedUp", desc := "(I)I" } : Jvm.MethodName)) ∈ lw_all := lw_g (lw_at lw_m5 115 rfl) rfl
theorem q1133 : (Jvm.Cond.methodLink "RuleListsLaw" (180 : Nat) ({ cls := "RuleListsLaw", name := "dropLast", desc := "(LRuleLists;[J)I" } : Jvm.MethodName)) ∈ lw_all := lw_g (lw_at lw_m5 121 rfl) rfl
theorem q1134 : (Jvm.Cond.static ({ cls := "RuleListsLaw", name := "dropLast", desc := "(LRuleLists;[J)I" } : Jvm.MethodName)) ∈ lw_all := lw_g (lw_at lw_m5 122 rfl) rfl
theorem q1135 : (Jvm.Cond.codeWith ({ cls := "RuleListsLaw", name := "dropLast", desc := "(LRuleLists;[J)I" } : Jvm.MethodName) method_13_code (3 : Nat) (Option.some Jvm.ClassFile.FieldType.int) [((0 : Nat), (8 : Nat), (11 : Nat), (15 : Nat))]) ∈ lw_all := lw_g (lw_at lw_m5 123 rfl) rfl
theorem q1136 : (Jvm.Cond.methodLink "RuleListsLaw" (49 : Nat) ({ cls := "RuleLists", name := "dropLast", desc := "()I" } : Jvm.MethodName)) ∈ lw_all := lw_g (lw_at lw_m5 124 rfl) rfl
theorem q1141 : (Jvm.Cond.methodLink "RuleListsLaw" (183 : Nat) ({ cls := "RuleListsLaw", name := "beginReading", desc := "(LRuleLists;I[J)I" } : Jvm.MethodName)) ∈ lw_all := lw_g (lw_at lw_m5 129 rfl) rfl
theorem q1142 : (Jvm.Cond.static ({ cls := "RuleListsLaw", name := "beginReading", desc := "(LRuleLists;I[J)I" } : Jvm.MethodName)) ∈ lw_all := lw_g (lw_at lw_m5 130 rfl) rfl
theorem q1143 : (Jvm.Cond.codeWith ({ cls := "RuleListsLaw", name := "beginReading", desc := "(LRuleLists;I[J)I" } : Jvm.MethodName) method_14_code (4 : Nat) (Option.some Jvm.ClassFile.FieldType.int) [((0 : Nat), (9 : Nat), (12 : Nat), (29 : Nat)), ((0 : Nat), (9 : Nat), (15 : Nat), (15 : Nat))]) ∈ lw_all := lw_g (lw_at lw_m5 131 rfl) rfl
theorem q1144 : (Jvm.Cond.methodLink "RuleListsLaw" (52 : Nat) ({ cls := "RuleLists", name := "beginReading", desc := "(I)I" } : Jvm.MethodName)) ∈ lw_all := lw_g (lw_at lw_m5 132 rfl) rfl
theorem q1150 : (Jvm.Cond.methodLink "RuleListsLaw" (186 : Nat) ({ cls := "RuleListsLaw", name := "read", desc := "(LRuleLists;I[J)I" } : Jvm.MethodName)) ∈ lw_all := lw_g (lw_at lw_m5 138 rfl) rfl
theorem q1151 : (Jvm.Cond.static ({ cls := "RuleListsLaw", name := "read", desc := "(LRuleLists;I[J)I" } : Jvm.MethodName)) ∈ lw_all := lw_g (lw_at lw_m5 139 rfl) rfl
theorem q1152 : (Jvm.Cond.codeWith ({ cls := "RuleListsLaw", name := "read", desc := "(LRuleLists;I[J)I" } : Jvm.MethodName) method_15_code (4 : Nat) (Option.some Jvm.ClassFile.FieldType.int) [((0 : Nat), (9 : Nat), (12 : Nat), (29 : Nat)), ((0 : Nat), (9 : Nat), (15 : Nat), (15 : Nat))]) ∈ lw_all := lw_g (lw_at lw_m5 140 rfl) rfl
theorem q1153 : (Jvm.Cond.methodLink "RuleListsLaw" (55 : Nat) ({ cls := "RuleLists", name := "read", desc := "(I)I" } : Jvm.MethodName)) ∈ lw_all := lw_g (lw_at lw_m5 141 rfl) rfl
theorem q1165 : (Jvm.Cond.methodLink "RuleListsLaw" (189 : Nat) ({ cls := "RuleListsLaw", name := "skip", desc := "(LRuleLists;II[J)I" } : Jvm.MethodName)) ∈ lw_all := lw_g (lw_at lw_m5 153 rfl) rfl
theorem q1166 : (Jvm.Cond.static ({ cls := "RuleListsLaw", name := "skip", desc := "(LRuleLists;II[J)I" } : Jvm.MethodName)) ∈ lw_all := lw_g (lw_at lw_m5 154 rfl) rfl
theorem q1167 : (Jvm.Cond.codeWith ({ cls := "RuleListsLaw", name := "skip", desc := "(LRuleLists;II[J)I" } : Jvm.MethodName) method_16_code (5 : Nat) (Option.some Jvm.ClassFile.FieldType.int) [((0 : Nat), (10 : Nat), (13 : Nat), (29 : Nat)), ((0 : Nat), (10 : Nat), (17 : Nat), (13 : Nat))]) ∈ lw_all := lw_g (lw_at lw_m5 155 rfl) rfl
theorem q1168 : (Jvm.Cond.methodLink "RuleListsLaw" (58 : Nat) ({ cls := "RuleLists", name := "skip", desc := "(II)I" } : Jvm.MethodName)) ∈ lw_all := lw_g (lw_at lw_m5 156 rfl) rfl
theorem q1173 : (Jvm.Cond.methodLink "RuleListsLaw" (192 : Nat) ({ cls := "RuleListsLaw", name := "goBack", desc := "(LRuleLists;I[J)I" } : Jvm.MethodName)) ∈ lw_all := lw_g (lw_at lw_m5 161 rfl) rfl
theorem q1174 : (Jvm.Cond.static ({ cls := "RuleListsLaw", name := "goBack", desc := "(LRuleLists;I[J)I" } : Jvm.MethodName)) ∈ lw_all := lw_g (lw_at lw_m5 162 rfl) rfl
theorem q1175 : (Jvm.Cond.codeWith ({ cls := "RuleListsLaw", name := "goBack", desc := "(LRuleLists;I[J)I" } : Jvm.MethodName) method_17_code (4 : Nat) (Option.some Jvm.ClassFile.FieldType.int) [((0 : Nat), (9 : Nat), (12 : Nat), (29 : Nat))]) ∈ lw_all := lw_g (lw_at lw_m5 163 rfl) rfl
theorem q1176 : (Jvm.Cond.methodLink "RuleListsLaw" (61 : Nat) ({ cls := "RuleLists", name := "goBack", desc := "(I)I" } : Jvm.MethodName)) ∈ lw_all := lw_g (lw_at lw_m5 164 rfl) rfl
theorem q1181 : (Jvm.Cond.methodLink "RuleListsLaw" (195 : Nat) ({ cls := "RuleListsLaw", name := "stopReading", desc := "(LRuleLists;I[J)I" } : Jvm.MethodName)) ∈ lw_all := lw_g (lw_at lw_m5 169 rfl) rfl
theorem q1182 : (Jvm.Cond.static ({ cls := "RuleListsLaw", name := "stopReading", desc := "(LRuleLists;I[J)I" } : Jvm.MethodName)) ∈ lw_all := lw_g (lw_at lw_m5 170 rfl) rfl
theorem q1183 : (Jvm.Cond.codeWith ({ cls := "RuleListsLaw", name := "stopReading", desc := "(LRuleLists;I[J)I" } : Jvm.MethodName) method_18_code (4 : Nat) (Option.some Jvm.ClassFile.FieldType.int) [((0 : Nat), (9 : Nat), (12 : Nat), (29 : Nat))]) ∈ lw_all := lw_g (lw_at lw_m5 171 rfl) rfl
theorem q1184 : (Jvm.Cond.methodLink "RuleListsLaw" (64 : Nat) ({ cls := "RuleLists", name := "stopReading", desc := "(I)I" } : Jvm.MethodName)) ∈ lw_all := lw_g (lw_at lw_m5 172 rfl) rfl
theorem q1189 : (Jvm.Cond.methodLink "RuleListsLaw" (198 : Nat) ({ cls := "RuleListsLaw", name := "undo", desc := "(LRuleLists;[J)I" } : Jvm.MethodName)) ∈ lw_all := lw_g (lw_at lw_m5 177 rfl) rfl
theorem q1190 : (Jvm.Cond.static ({ cls := "RuleListsLaw", name := "undo", desc := "(LRuleLists;[J)I" } : Jvm.MethodName)) ∈ lw_all := lw_g (lw_at lw_m5 178 rfl) rfl
theorem q1191 : (Jvm.Cond.codeWith ({ cls := "RuleListsLaw", name := "undo", desc := "(LRuleLists;[J)I" } : Jvm.MethodName) method_19_code (3 : Nat) (Option.some Jvm.ClassFile.FieldType.int) [((0 : Nat), (8 : Nat), (11 : Nat), (15 : Nat))]) ∈ lw_all := lw_g (lw_at lw_m5 179 rfl) rfl
theorem q1192 : (Jvm.Cond.methodLink "RuleListsLaw" (67 : Nat) ({ cls := "RuleLists", name := "undo", desc := "()I" } : Jvm.MethodName)) ∈ lw_all := lw_g (lw_at lw_m5 180 rfl) rfl
theorem q1220 : (Jvm.Cond.methodLink "RuleListsLaw" (205 : Nat) ({ cls := "RuleListsLaw", name := "isMember", desc := "(LRuleLists;II[J)I" } : Jvm.MethodName)) ∈ lw_all := lw_g (lw_at lw_m5 208 rfl) rfl
theorem q1221 : (Jvm.Cond.static ({ cls := "RuleListsLaw", name := "isMember", desc := "(LRuleLists;II[J)I" } : Jvm.MethodName)) ∈ lw_all := lw_g (lw_at lw_m5 209 rfl) rfl
theorem q1222 : (Jvm.Cond.codeWith ({ cls := "RuleListsLaw", name := "isMember", desc := "(LRuleLists;II[J)I" } : Jvm.MethodName) method_20_code (5 : Nat) (Option.some Jvm.ClassFile.FieldType.int) [((0 : Nat), (17 : Nat), (20 : Nat), (29 : Nat)), ((0 : Nat), (17 : Nat), (24 : Nat), (13 : Nat))]) ∈ lw_all := lw_g (lw_at lw_m5 210 rfl) rfl
theorem q1223 : (Jvm.Cond.methodLink "RuleListsLaw" (70 : Nat) ({ cls := "RuleLists", name := "isMember", desc := "(II)Z" } : Jvm.MethodName)) ∈ lw_all := lw_g (lw_at lw_m5 211 rfl) rfl
theorem q1274 : (Jvm.Cond.methodLink "RuleListsLaw" (208 : Nat) ({ cls := "RuleListsLaw", name := "memberByReading", desc := "(LRuleLists;II[J)I" } : Jvm.MethodName)) ∈ lw_all := lw_g (lw_at lw_m6 22 rfl) rfl
theorem q1275 : (Jvm.Cond.static ({ cls := "RuleListsLaw", name := "memberByReading", desc := "(LRuleLists;II[J)I" } : Jvm.MethodName)) ∈ lw_all := lw_g (lw_at lw_m6 23 rfl) rfl
theorem q1276 : (Jvm.Cond.codeWith ({ cls := "RuleListsLaw", name := "memberByReading", desc := "(LRuleLists;II[J)I" } : Jvm.MethodName) method_21_code (5 : Nat) (Option.some Jvm.ClassFile.FieldType.int) [((0 : Nat), (10 : Nat), (13 : Nat), (29 : Nat))]) ∈ lw_all := lw_g (lw_at lw_m6 24 rfl) rfl
theorem q1277 : (Jvm.Cond.methodLink "RuleListsLaw" (74 : Nat) ({ cls := "RuleLists", name := "memberByReading", desc := "(II)I" } : Jvm.MethodName)) ∈ lw_all := lw_g (lw_at lw_m6 25 rfl) rfl
theorem q1282 : (Jvm.Cond.methodLink "RuleListsLaw" (211 : Nat) ({ cls := "RuleListsLaw", name := "memberByTesting", desc := "(LRuleLists;II[J)I" } : Jvm.MethodName)) ∈ lw_all := lw_g (lw_at lw_m6 30 rfl) rfl
theorem q1283 : (Jvm.Cond.static ({ cls := "RuleListsLaw", name := "memberByTesting", desc := "(LRuleLists;II[J)I" } : Jvm.MethodName)) ∈ lw_all := lw_g (lw_at lw_m6 31 rfl) rfl
theorem q1284 : (Jvm.Cond.codeWith ({ cls := "RuleListsLaw", name := "memberByTesting", desc := "(LRuleLists;II[J)I" } : Jvm.MethodName) method_22_code (5 : Nat) (Option.some Jvm.ClassFile.FieldType.int) [((0 : Nat), (10 : Nat), (13 : Nat), (29 : Nat))]) ∈ lw_all := lw_g (lw_at lw_m6 32 rfl) rfl
theorem q1285 : (Jvm.Cond.methodLink "RuleListsLaw" (77 : Nat) ({ cls := "RuleLists", name := "memberByTesting", desc := "(II)I" } : Jvm.MethodName)) ∈ lw_all := lw_g (lw_at lw_m6 33 rfl) rfl
theorem q1294 : (Jvm.Cond.methodLink "RuleListsLaw" (214 : Nat) ({ cls := "RuleListsLaw", name := "placeOf", desc := "(LRuleLists;II[J)I" } : Jvm.MethodName)) ∈ lw_all := lw_g (lw_at lw_m6 42 rfl) rfl
theorem q1295 : (Jvm.Cond.static ({ cls := "RuleListsLaw", name := "placeOf", desc := "(LRuleLists;II[J)I" } : Jvm.MethodName)) ∈ lw_all := lw_g (lw_at lw_m6 43 rfl) rfl
theorem q1296 : (Jvm.Cond.codeWith ({ cls := "RuleListsLaw", name := "placeOf", desc := "(LRuleLists;II[J)I" } : Jvm.MethodName) method_23_code (5 : Nat) (Option.some Jvm.ClassFile.FieldType.int) [((0 : Nat), (10 : Nat), (13 : Nat), (29 : Nat)), ((0 : Nat), (10 : Nat), (17 : Nat), (13 : Nat))]) ∈ lw_all := lw_g (lw_at lw_m6 44 rfl) rfl
theorem q1297 : (Jvm.Cond.methodLink "RuleListsLaw" (80 : Nat) ({ cls := "RuleLists", name := "placeOf", desc := "(II)I" } : Jvm.MethodName)) ∈ lw_all := lw_g (lw_at lw_m6 45 rfl) rfl
theorem q1305 : (Jvm.Cond.methodLink "RuleListsLaw" (217 : Nat) ({ cls := "RuleListsLaw", name := "membersUpTo", desc := "(LRuleLists;II[J)I" } : Jvm.MethodName)) ∈ lw_all := lw_g (lw_at lw_m6 53 rfl) rfl
theorem q1306 : (Jvm.Cond.static ({ cls := "RuleListsLaw", name := "membersUpTo", desc := "(LRuleLists;II[J)I" } : Jvm.MethodName)) ∈ lw_all := lw_g (lw_at lw_m6 54 rfl) rfl
theorem q1307 : (Jvm.Cond.codeWith ({ cls := "RuleListsLaw", name := "membersUpTo", desc := "(LRuleLists;II[J)I" } : Jvm.MethodName) method_24_code (5 : Nat) (Option.some Jvm.ClassFile.FieldType.int) [((0 : Nat), (10 : Nat), (13 : Nat), (29 : Nat)), ((0 : Nat), (10 : Nat), (17 : Nat), (13 : Nat))]) ∈ lw_all := lw_g (lw_at lw_m6 55 rfl) rfl
theorem q1308 : (Jvm.Cond.methodLink "RuleListsLaw" (83 : Nat) ({ cls := "RuleLists", name := "membersUpTo", desc := "(II)I" } : Jvm.MethodName)) ∈ lw_all := lw_g (lw_at lw_m6 56 rfl) rfl
theorem q1312 : (Jvm.Cond.methodLink "RuleListsLaw" (220 : Nat) ({ cls := "RuleListsLaw", name := "lastMember", desc := "(LRuleLists;I[J)I" } : Jvm.MethodName)) ∈ lw_all := lw_g (lw_at lw_m6 60 rfl) rfl
theorem q1313 : (Jvm.Cond.static ({ cls := "RuleListsLaw", name := "lastMember", desc := "(LRuleLists;I[J)I" } : Jvm.MethodName)) ∈ lw_all := lw_g (lw_at lw_m6 61 rfl) rfl
theorem q1314 : (Jvm.Cond.codeWith ({ cls := "RuleListsLaw", name := "lastMember", desc := "(LRuleLists;I[J)I" } : Jvm.MethodName) method_25_code (4 : Nat) (Option.some Jvm.ClassFile.FieldType.int) [((0 : Nat), (9 : Nat), (12 : Nat), (29 : Nat))]) ∈ lw_all := lw_g (lw_at lw_m6 62 rfl) rfl
theorem q1315 : (Jvm.Cond.methodLink "RuleListsLaw" (86 : Nat) ({ cls := "RuleLists", name := "lastMember", desc := "(I)I" } : Jvm.MethodName)) ∈ lw_all := lw_g (lw_at lw_m6 63 rfl) rfl
theorem q1397 : (Jvm.Cond.methodLink "RuleListsLaw" (223 : Nat) ({ cls := "RuleListsLaw", name := "firstShared", desc := "(LRuleLists;II[J)I" } : Jvm.MethodName)) ∈ lw_all := lw_g (lw_at lw_m6 145 rfl) rfl
theorem q1398 : (Jvm.Cond.static ({ cls := "RuleListsLaw", name := "firstShared", desc := "(LRuleLists;II[J)I" } : Jvm.MethodName)) ∈ lw_all := lw_g (lw_at lw_m6 146 rfl) rfl
theorem q1399 : (Jvm.Cond.codeWith ({ cls := "RuleListsLaw", name := "firstShared", desc := "(LRuleLists;II[J)I" } : Jvm.MethodName) method_26_code (5 : Nat) (Option.some Jvm.ClassFile.FieldType.int) [((0 : Nat), (10 : Nat), (13 : Nat), (29 : Nat))]) ∈ lw_all := lw_g (lw_at lw_m6 147 rfl) rfl
theorem q1400 : (Jvm.Cond.methodLink "RuleListsLaw" (89 : Nat) ({ cls := "RuleLists", name := "firstShared", desc := "(II)I" } : Jvm.MethodName)) ∈ lw_all := lw_g (lw_at lw_m6 148 rfl) rfl
theorem q1408 : (Jvm.Cond.methodLink "RuleListsLaw" (226 : Nat) ({ cls := "RuleListsLaw", name := "widestGap", desc := "(LRuleLists;I[J)I" } : Jvm.MethodName)) ∈ lw_all := lw_g (lw_at lw_m6 156 rfl) rfl
theorem q1409 : (Jvm.Cond.static ({ cls := "RuleListsLaw", name := "widestGap", desc := "(LRuleLists;I[J)I" } : Jvm.MethodName)) ∈ lw_all := lw_g (lw_at lw_m6 157 rfl) rfl
theorem q1410 : (Jvm.Cond.codeWith ({ cls := "RuleListsLaw", name := "widestGap", desc := "(LRuleLists;I[J)I" } : Jvm.MethodName) method_27_code (4 : Nat) (Option.some Jvm.ClassFile.FieldType.int) [((0 : Nat), (9 : Nat), (12 : Nat), (29 : Nat))]) ∈ lw_all := lw_g (lw_at lw_m6 158 rfl) rfl
theorem q1411 : (Jvm.Cond.methodLink "RuleListsLaw" (92 : Nat) ({ cls := "RuleLists", name := "widestGap", desc := "(I)I" } : Jvm.MethodName)) ∈ lw_all := lw_g (lw_at lw_m6 159 rfl) rfl
theorem q1420 : (Jvm.Cond.methodLink "RuleListsLaw" (233 : Nat) ({ cls := "RuleListsLaw", name := "listOf", desc := "(LRuleLists;I[J)I" } : Jvm.MethodName)) ∈ lw_all := lw_g (lw_at lw_m6 168 rfl) rfl
theorem q1421 : (Jvm.Cond.static ({ cls := "RuleListsLaw", name := "listOf", desc := "(LRuleLists;I[J)I" } : Jvm.MethodName)) ∈ lw_all := lw_g (lw_at lw_m6 169 rfl) rfl
theorem q1422 : (Jvm.Cond.codeWith ({ cls := "RuleListsLaw", name := "listOf", desc := "(LRuleLists;I[J)I" } : Jvm.MethodName) method_28_code (4 : Nat) (Option.some Jvm.ClassFile.FieldType.int) [((0 : Nat), (9 : Nat), (12 : Nat), (29 : Nat))]) ∈ lw_all := lw_g (lw_at lw_m6 170 rfl) rfl
theorem q1423 : (Jvm.Cond.methodLink "RuleListsLaw" (95 : Nat) ({ cls := "RuleLists", name := "listOf", desc := "(I)I" } : Jvm.MethodName)) ∈ lw_all := lw_g (lw_at lw_m6 171 rfl) rfl
theorem q1427 : (Jvm.Cond.methodLink "RuleListsLaw" (236 : Nat) ({ cls := "RuleListsLaw", name := "readSoFar", desc := "(LRuleLists;I[J)I" } : Jvm.MethodName)) ∈ lw_all := lw_g (lw_at lw_m6 175 rfl) rfl
theorem q1428 : (Jvm.Cond.static ({ cls := "RuleListsLaw", name := "readSoFar", desc := "(LRuleLists;I[J)I" } : Jvm.MethodName)) ∈ lw_all := lw_g (lw_at lw_m6 176 rfl) rfl
theorem q1429 : (Jvm.Cond.codeWith ({ cls := "RuleListsLaw", name := "readSoFar", desc := "(LRuleLists;I[J)I" } : Jvm.MethodName) method_29_code (4 : Nat) (Option.some Jvm.ClassFile.FieldType.int) [((0 : Nat), (9 : Nat), (12 : Nat), (29 : Nat))]) ∈ lw_all := lw_g (lw_at lw_m6 177 rfl) rfl
theorem q1430 : (Jvm.Cond.methodLink "RuleListsLaw" (98 : Nat) ({ cls := "RuleLists", name := "readSoFar", desc := "(I)I" } : Jvm.MethodName)) ∈ lw_all := lw_g (lw_at lw_m6 178 rfl) rfl
theorem q1434 : (Jvm.Cond.methodLink "RuleListsLaw" (239 : Nat) ({ cls := "RuleListsLaw", name := "nextOf", desc := "(LRuleLists;I[J)I" } : Jvm.MethodName)) ∈ lw_all := lw_g (lw_at lw_m6 182 rfl) rfl
theorem q1435 : (Jvm.Cond.static ({ cls := "RuleListsLaw", name := "nextOf", desc := "(LRuleLists;I[J)I" } : Jvm.MethodName)) ∈ lw_all := lw_g (lw_at lw_m6 183 rfl) rfl
theorem q1436 : (Jvm.Cond.codeWith ({ cls := "RuleListsLaw", name := "nextOf", desc := "(LRuleLists;I[J)I" } : Jvm.MethodName) method_30_code (4 : Nat) (Option.some Jvm.ClassFile.FieldType.int) [((0 : Nat), (9 : Nat), (12 : Nat), (29 : Nat))]) ∈ lw_all := lw_g (lw_at lw_m6 184 rfl) rfl
theorem q1437 : (Jvm.Cond.methodLink "RuleListsLaw" (101 : Nat) ({ cls := "RuleLists", name := "nextOf", desc := "(I)I" } : Jvm.MethodName)) ∈ lw_all := lw_g (lw_at lw_m6 185 rfl) rfl
theorem q1441 : (Jvm.Cond.methodLink "RuleListsLaw" (250 : Nat) ({ cls := "RuleListsLaw", name := "firstOfPairByWalking", desc := "(LRuleLists;I[J)I" } : Jvm.MethodName)) ∈ lw_all := lw_g (lw_at lw_m6 189 rfl) rfl
theorem q1442 : (Jvm.Cond.static ({ cls := "RuleListsLaw", name := "firstOfPairByWalking", desc := "(LRuleLists;I[J)I" } : Jvm.MethodName)) ∈ lw_all := lw_g (lw_at lw_m6 190 rfl) rfl
theorem q1443 : (Jvm.Cond.codeWith ({ cls := "RuleListsLaw", name := "firstOfPairByWalking", desc := "(LRuleLists;I[J)I" } : Jvm.MethodName) method_31_code (4 : Nat) (Option.some Jvm.ClassFile.FieldType.int) [((0 : Nat), (9 : Nat), (12 : Nat), (13 : Nat))]) ∈ lw_all := lw_g (lw_at lw_m6 191 rfl) rfl
theorem q1444 : (Jvm.Cond.methodLink "RuleListsLaw" (104 : Nat) ({ cls := "RuleLists", name := "firstOfPairByWalking", desc := "(I)I" } : Jvm.MethodName)) ∈ lw_all := lw_g (lw_at lw_m6 192 rfl) rfl
theorem q1449 : (Jvm.Cond.methodLink "RuleListsLaw" (253 : Nat) ({ cls := "RuleListsLaw", name := "firstOfPairByCounting", desc := "(LRuleLists;I[J)I" } : Jvm.MethodName)) ∈ lw_all := lw_g (lw_at lw_m6 197 rfl) rfl
theorem q1450 : (Jvm.Cond.static ({ cls := "RuleListsLaw", name := "firstOfPairByCounting", desc := "(LRuleLists;I[J)I" } : Jvm.MethodName)) ∈ lw_all := lw_g (lw_at lw_m6 198 rfl) rfl
theorem q1451 : (Jvm.Cond.codeWith ({ cls := "RuleListsLaw", name := "firstOfPairByCounting", desc := "(LRuleLists;I[J)I" } : Jvm.MethodName) method_32_code (4 : Nat) (Option.some Jvm.ClassFile.FieldType.int) [((0 : Nat), (9 : Nat), (12 : Nat), (13 : Nat))]) ∈ lw_all := lw_g (lw_at lw_m6 199 rfl) rfl
theorem q1452 : (Jvm.Cond.methodLink "RuleListsLaw" (107 : Nat) ({ cls := "RuleLists", name := "firstOfPairByCounting", desc := "(I)I" } : Jvm.MethodName)) ∈ lw_all := lw_g (lw_at lw_m6 200 rfl) rfl
theorem q1456 : (Jvm.Cond.methodLink "RuleListsLaw" (256 : Nat) ({ cls := "RuleListsLaw", name := "numberOfPair", desc := "(LRuleLists;II[J)I" } : Jvm.MethodName)) ∈ lw_all := lw_g (lw_at lw_m6 204 rfl) rfl
theorem q1457 : (Jvm.Cond.static ({ cls := "RuleListsLaw", name := "numberOfPair", desc := "(LRuleLists;II[J)I" } : Jvm.MethodName)) ∈ lw_all := lw_g (lw_at lw_m6 205 rfl) rfl
theorem q1458 : (Jvm.Cond.codeWith ({ cls := "RuleListsLaw", name := "numberOfPair", desc := "(LRuleLists;II[J)I" } : Jvm.MethodName) method_33_code (5 : Nat) (Option.some Jvm.ClassFile.FieldType.int) [((0 : Nat), (10 : Nat), (13 : Nat), (13 : Nat))]) ∈ lw_all := lw_g (lw_at lw_m6 206 rfl) rfl
theorem q1459 : (Jvm.Cond.methodLink "RuleListsLaw" (110 : Nat) ({ cls := "RuleLists", name := "numberOfPair", desc := "(II)I" } : Jvm.MethodName)) ∈ lw_all := lw_g (lw_at lw_m6 207 rfl) rfl
theorem q1463 : (Jvm.Cond.methodLink "RuleListsLaw" (263 : Nat) ({ cls := "RuleListsLaw", name := "membersIfJoined", desc := "(LRuleLists;II[J)I" } : Jvm.MethodName)) ∈ lw_all := lw_g (lw_at lw_m6 211 rfl) rfl
theorem q1464 : (Jvm.Cond.static ({ cls := "RuleListsLaw", name := "membersIfJoined", desc := "(LRuleLists;II[J)I" } : Jvm.MethodName)) ∈ lw_all := lw_g (lw_at lw_m6 212 rfl) rfl
theorem q1465 : (Jvm.Cond.codeWith ({ cls := "RuleListsLaw", name := "membersIfJoined", desc := "(LRuleLists;II[J)I" } : Jvm.MethodName) method_34_code (5 : Nat) (Option.some Jvm.ClassFile.FieldType.int) [((0 : Nat), (10 : Nat), (13 : Nat), (29 : Nat))]) ∈ lw_all := lw_g (lw_at lw_m6 213 rfl) rfl
theorem q1466 : (Jvm.Cond.methodLink "RuleListsLaw" (113 : Nat) ({ cls := "RuleLists", name := "membersIfJoined", desc := "(II)I" } : Jvm.MethodName)) ∈ lw_all := lw_g (lw_at lw_m6 214 rfl) rfl
theorem q1474 : (Jvm.Cond.methodLink "RuleListsLaw" (266 : Nat) ({ cls := "RuleListsLaw", name := "skipsTo", desc := "(LRuleLists;II[J)I" } : Jvm.MethodName)) ∈ lw_all := lw_g (lw_at lw_m6 222 rfl) rfl
theorem q1475 : (Jvm.Cond.static ({ cls := "RuleListsLaw", name := "skipsTo", desc := "(LRuleLists;II[J)I" } : Jvm.MethodName)) ∈ lw_all := lw_g (lw_at lw_m6 223 rfl) rfl
theorem q1476 : (Jvm.Cond.codeWith ({ cls := "RuleListsLaw", name := "skipsTo", desc := "(LRuleLists;II[J)I" } : Jvm.MethodName) method_35_code (5 : Nat) (Option.some Jvm.ClassFile.FieldType.int) [((0 : Nat), (10 : Nat), (13 : Nat), (29 : Nat)), ((0 : Nat), (10 : Nat), (17 : Nat), (13 : Nat))]) ∈ lw_all := lw_g (lw_at lw_m6 224 rfl) rfl
theorem q1477 : (Jvm.Cond.methodLink "RuleListsLaw" (116 : Nat) ({ cls := "RuleLists", name := "skipsTo", desc := "(II)I" } : Jvm.MethodName)) ∈ lw_all := lw_g (lw_at lw_m6 225 rfl) rfl
theorem q1485 : (Jvm.Cond.methodLink "RuleListsLaw" (271 : Nat) ({ cls := "RuleListsLaw", name := "simulate", desc := "(LRuleLists;JI[J)I" } : Jvm.MethodName)) ∈ lw_all := lw_g (lw_at lw_m6 233 rfl) rfl
theorem q1486 : (Jvm.Cond.static ({ cls := "RuleListsLaw", name := "simulate", desc := "(LRuleLists;JI[J)I" } : Jvm.MethodName)) ∈ lw_all := lw_g (lw_at lw_m6 234 rfl) rfl
theorem q1487 : (Jvm.Cond.codeWith ({ cls := "RuleListsLaw", name := "simulate", desc := "(LRuleLists;JI[J)I" } : Jvm.MethodName) method_36_code (6 : Nat) (Option.some Jvm.ClassFile.FieldType.int) [((0 : Nat), (11 : Nat), (14 : Nat), (13 : Nat))]) ∈ lw_all := lw_g (lw_at lw_m6 235 rfl) rfl
theorem q1488 : (Jvm.Cond.methodLink "RuleListsLaw" (119 : Nat) ({ cls := "RuleLists", name := "simulate", desc := "(JI)I" } : Jvm.MethodName)) ∈ lw_all := lw_g (lw_at lw_m6 236 rfl) rfl
theorem q1500 : (Jvm.Cond.methodLink "RuleListsLaw" (275 : Nat) ({ cls := "RuleListsLaw", name := "save", desc := "(LRuleLists;I[J)I" } : Jvm.MethodName)) ∈ lw_all := lw_g (lw_at lw_m7 8 rfl) rfl
theorem q1501 : (Jvm.Cond.static ({ cls := "RuleListsLaw", name := "save", desc := "(LRuleLists;I[J)I" } : Jvm.MethodName)) ∈ lw_all := lw_g (lw_at lw_m7 9 rfl) rfl
theorem q1502 : (Jvm.Cond.codeWith ({ cls := "RuleListsLaw", name := "save", desc := "(LRuleLists;I[J)I" } : Jvm.MethodName) method_37_code (4 : Nat) (Option.some Jvm.ClassFile.FieldType.int) [((0 : Nat), (9 : Nat), (12 : Nat), (29 : Nat))]) ∈ lw_all := lw_g (lw_at lw_m7 10 rfl) rfl
theorem q1503 : (Jvm.Cond.methodLink "RuleListsLaw" (123 : Nat) ({ cls := "RuleLists", name := "save", desc := "(I)I" } : Jvm.MethodName)) ∈ lw_all := lw_g (lw_at lw_m7 11 rfl) rfl
theorem q1507 : (Jvm.Cond.methodLink "RuleListsLaw" (278 : Nat) ({ cls := "RuleListsLaw", name := "restore", desc := "(LRuleLists;I[J)I" } : Jvm.MethodName)) ∈ lw_all := lw_g (lw_at lw_m7 15 rfl) rfl
theorem q1508 : (Jvm.Cond.static ({ cls := "RuleListsLaw", name := "restore", desc := "(LRuleLists;I[J)I" } : Jvm.MethodName)) ∈ lw_all := lw_g (lw_at lw_m7 16 rfl) rfl
theorem q1509 : (Jvm.Cond.codeWith ({ cls := "RuleListsLaw", name := "restore", desc := "(LRuleLists;I[J)I" } : Jvm.MethodName) method_38_code (4 : Nat) (Option.some Jvm.ClassFile.FieldType.int) [((0 : Nat), (9 : Nat), (12 : Nat), (29 : Nat)), ((0 : Nat), (9 : Nat), (15 : Nat), (15 : Nat))]) ∈ lw_all := lw_g (lw_at lw_m7 17 rfl) rfl
theorem q1510 : (Jvm.Cond.methodLink "RuleListsLaw" (126 : Nat) ({ cls := "RuleLists", name := "restore", desc := "(I)I" } : Jvm.MethodName)) ∈ lw_all := lw_g (lw_at lw_m7 18 rfl) rfl
theorem q1514 : (Jvm.Cond.classLink "RuleListsLaw" (130 : Nat) "RuleListsModel") ∈ lw_all := lw_g (lw_at lw_m7 22 rfl) rfl
theorem q1516 : (Jvm.Cond.methodLink "RuleListsLaw" (132 : Nat) ({ cls := "RuleListsModel", name := "<init>", desc := "()V" } : Jvm.MethodName)) ∈ lw_all := lw_g (lw_at lw_m7 24 rfl) rfl
theorem q1563 : (Jvm.Cond.methodLink "RuleListsLaw" (139 : Nat) ({ cls := "RuleListsModel", name := "thrown", desc := "()I" } : Jvm.MethodName)) ∈ lw_all := lw_g (lw_at lw_m7 71 rfl) rfl
theorem q1567 : (Jvm.Cond.methodLink "RuleListsLaw" (138 : Nat) ({ cls := "RuleListsModel", name := "append", desc := "(I)I" } : Jvm.MethodName)) ∈ lw_all := lw_g (lw_at lw_m7 75 rfl) rfl
theorem q1579 : (Jvm.Cond.methodLink "RuleListsLaw" (145 : Nat) ({ cls := "RuleListsModel", name := "clearText", desc := "()I" } : Jvm.MethodName)) ∈ lw_all := lw_g (lw_at lw_m7 87 rfl) rfl
theorem q1583 : (Jvm.Cond.methodLink "RuleListsLaw" (149 : Nat) ({ cls := "RuleListsModel", name := "errorPosition", desc := "()I" } : Jvm.MethodName)) ∈ lw_all := lw_g (lw_at lw_m7 91 rfl) rfl
theorem q1706 : (Jvm.Cond.methodLink "RuleListsLaw" (153 : Nat) ({ cls := "RuleListsModel", name := "load", desc := "()I" } : Jvm.MethodName)) ∈ lw_all := lw_g (lw_at lw_m7 214 rfl) rfl
theorem q1713 : (Jvm.Cond.methodLink "RuleListsLaw" (157 : Nat) ({ cls := "RuleListsModel", name := "makeSteps", desc := "(II)I" } : Jvm.MethodName)) ∈ lw_all := lw_g (lw_at lw_m7 221 rfl) rfl
theorem q1727 : (Jvm.Cond.methodLink "RuleListsLaw" (161 : Nat) ({ cls := "RuleListsModel", name := "makeScaled", desc := "(III)I" } : Jvm.MethodName)) ∈ lw_all := lw_g (lw_at lw_m7 235 rfl) rfl
theorem q1731 : (Jvm.Cond.methodLink "RuleListsLaw" (164 : Nat) ({ cls := "RuleListsModel", name := "makeJoined", desc := "(II)I" } : Jvm.MethodName)) ∈ lw_all := lw_g (lw_at lw_m7 239 rfl) rfl
theorem q1739 : (Jvm.Cond.methodLink "RuleListsLaw" (167 : Nat) ({ cls := "RuleListsModel", name := "makeShared", desc := "(II)I" } : Jvm.MethodName)) ∈ lw_all := lw_g (lw_at lw_m8 7 rfl) rfl
theorem q1743 : (Jvm.Cond.methodLink "RuleListsLaw" (170 : Nat) ({ cls := "RuleListsModel", name := "makeWithout", desc := "(II)I" } : Jvm.MethodName)) ∈ lw_all := lw_g (lw_at lw_m8 11 rfl) rfl
theorem q1747 : (Jvm.Cond.methodLink "RuleListsLaw" (173 : Nat) ({ cls := "RuleListsModel", name := "makeSieved", desc := "(I)I" } : Jvm.MethodName)) ∈ lw_all := lw_g (lw_at lw_m8 15 rfl) rfl
theorem q1751 : (Jvm.Cond.methodLink "RuleListsLaw" (176 : Nat) ({ cls := "RuleListsModel", name := "makeThinned", desc := "(II)I" } : Jvm.MethodName)) ∈ lw_all := lw_g (lw_at lw_m8 19 rfl) rfl
theorem q1755 : (Jvm.Cond.methodLink "RuleListsLaw" (179 : Nat) ({ cls := "RuleListsModel", name := "makeAddedUp", desc := "(I)I" } : Jvm.MethodName)) ∈ lw_all := lw_g (lw_at lw_m8 23 rfl) rfl
theorem q1759 : (Jvm.Cond.methodLink "RuleListsLaw" (182 : Nat) ({ cls := "RuleListsModel", name := "dropLast", desc := "()I" } : Jvm.MethodName)) ∈ lw_all := lw_g (lw_at lw_m8 27 rfl) rfl
theorem q1763 : (Jvm.Cond.methodLink "RuleListsLaw" (185 : Nat) ({ cls := "RuleListsModel", name := "beginReading", desc := "(I)I" } : Jvm.MethodName)) ∈ lw_all := lw_g (lw_at lw_m8 31 rfl) rfl
theorem q1767 : (Jvm.Cond.methodLink "RuleListsLaw" (188 : Nat) ({ cls := "RuleListsModel", name := "read", desc := "(I)I" } : Jvm.MethodName)) ∈ lw_all := lw_g (lw_at lw_m8 35 rfl) rfl
theorem q1771 : (Jvm.Cond.methodLink "RuleListsLaw" (191 : Nat) ({ cls := "RuleListsModel", name := "skip", desc := "(II)I" } : Jvm.MethodName)) ∈ lw_all := lw_g (lw_at lw_m8 39 rfl) rfl
theorem q1775 : (Jvm.Cond.methodLink "RuleListsLaw" (194 : Nat) ({ cls := "RuleListsModel", name := "goBack", desc := "(I)I" } : Jvm.MethodName)) ∈ lw_all := lw_g (lw_at lw_m8 43 rfl) rfl
theorem q1779 : (Jvm.Cond.methodLink "RuleListsLaw" (197 : Nat) ({ cls := "RuleListsModel", name := "stopReading", desc := "(I)I" } : Jvm.MethodName)) ∈ lw_all := lw_g (lw_at lw_m8 47 rfl) rfl
theorem q1783 : (Jvm.Cond.methodLink "RuleListsLaw" (200 : Nat) ({ cls := "RuleListsModel", name := "undo", desc := "()I" } : Jvm.MethodName)) ∈ lw_all := lw_g (lw_at lw_m8 51 rfl) rfl
theorem q1787 : (Jvm.Cond.methodLink "RuleListsLaw" (204 : Nat) ({ cls := "RuleListsModel", name := "lists", desc := "()I" } : Jvm.MethodName)) ∈ lw_all := lw_g (lw_at lw_m8 55 rfl) rfl
theorem q1791 : (Jvm.Cond.methodLink "RuleListsLaw" (207 : Nat) ({ cls := "RuleListsModel", name := "isMember", desc := "(II)Z" } : Jvm.MethodName)) ∈ lw_all := lw_g (lw_at lw_m8 59 rfl) rfl
theorem q1799 : (Jvm.Cond.methodLink "RuleListsLaw" (210 : Nat) ({ cls := "RuleListsModel", name := "memberByReading", desc := "(II)I" } : Jvm.MethodName)) ∈ lw_all := lw_g (lw_at lw_m8 67 rfl) rfl
theorem q1807 : (Jvm.Cond.methodLink "RuleListsLaw" (213 : Nat) ({ cls := "RuleListsModel", name := "memberByTesting", desc := "(II)I" } : Jvm.MethodName)) ∈ lw_all := lw_g (lw_at lw_m8 75 rfl) rfl
theorem q1811 : (Jvm.Cond.methodLink "RuleListsLaw" (216 : Nat) ({ cls := "RuleListsModel", name := "placeOf", desc := "(II)I" } : Jvm.MethodName)) ∈ lw_all := lw_g (lw_at lw_m8 79 rfl) rfl
theorem q1815 : (Jvm.Cond.methodLink "RuleListsLaw" (219 : Nat) ({ cls := "RuleListsModel", name := "membersUpTo", desc := "(II)I" } : Jvm.MethodName)) ∈ lw_all := lw_g (lw_at lw_m8 83 rfl) rfl
theorem q1819 : (Jvm.Cond.methodLink "RuleListsLaw" (222 : Nat) ({ cls := "RuleListsModel", name := "lastMember", desc := "(I)I" } : Jvm.MethodName)) ∈ lw_all := lw_g (lw_at lw_m8 87 rfl) rfl
theorem q1823 : (Jvm.Cond.methodLink "RuleListsLaw" (225 : Nat) ({ cls := "RuleListsModel", name := "firstShared", desc := "(II)I" } : Jvm.MethodName)) ∈ lw_all := lw_g (lw_at lw_m8 91 rfl) rfl
theorem q1827 : (Jvm.Cond.methodLink "RuleListsLaw" (228 : Nat) ({ cls := "RuleListsModel", name := "widestGap", desc := "(I)I" } : Jvm.MethodName)) ∈ lw_all := lw_g (lw_at lw_m8 95 rfl) rfl
theorem q1831 : (Jvm.Cond.methodLink "RuleListsLaw" (232 : Nat) ({ cls := "RuleListsModel", name := "readers", desc := "()I" } : Jvm.MethodName)) ∈ lw_all := lw_g (lw_at lw_m8 99 rfl) rfl
theorem q1835 : (Jvm.Cond.methodLink "RuleListsLaw" (235 : Nat) ({ cls := "RuleListsModel", name := "listOf", desc := "(I)I" } : Jvm.MethodName)) ∈ lw_all := lw_g (lw_at lw_m8 103 rfl) rfl
theorem q1839 : (Jvm.Cond.methodLink "RuleListsLaw" (238 : Nat) ({ cls := "RuleListsModel", name := "readSoFar", desc := "(I)I" } : Jvm.MethodName)) ∈ lw_all := lw_g (lw_at lw_m8 107 rfl) rfl
theorem q1843 : (Jvm.Cond.methodLink "RuleListsLaw" (241 : Nat) ({ cls := "RuleListsModel", name := "nextOf", desc := "(I)I" } : Jvm.MethodName)) ∈ lw_all := lw_g (lw_at lw_m8 111 rfl) rfl
theorem q1847 : (Jvm.Cond.methodLink "RuleListsLaw" (245 : Nat) ({ cls := "RuleListsModel", name := "readings", desc := "()I" } : Jvm.MethodName)) ∈ lw_all := lw_g (lw_at lw_m8 115 rfl) rfl
theorem q1851 : (Jvm.Cond.methodLink "RuleListsLaw" (249 : Nat) ({ cls := "RuleListsModel", name := "leastNext", desc := "()I" } : Jvm.MethodName)) ∈ lw_all := lw_g (lw_at lw_m8 119 rfl) rfl
theorem q1855 : (Jvm.Cond.methodLink "RuleListsLaw" (252 : Nat) ({ cls := "RuleListsModel", name := "firstOfPairByWalking", desc := "(I)I" } : Jvm.MethodName)) ∈ lw_all := lw_g (lw_at lw_m8 123 rfl) rfl
theorem q1864 : (Jvm.Cond.methodLink "RuleListsLaw" (255 : Nat) ({ cls := "RuleListsModel", name := "firstOfPairByCounting", desc := "(I)I" } : Jvm.MethodName)) ∈ lw_all := lw_g (lw_at lw_m8 132 rfl) rfl
theorem q1868 : (Jvm.Cond.methodLink "RuleListsLaw" (258 : Nat) ({ cls := "RuleListsModel", name := "numberOfPair", desc := "(II)I" } : Jvm.MethodName)) ∈ lw_all := lw_g (lw_at lw_m8 136 rfl) rfl
theorem q1873 : (Jvm.Cond.methodLink "RuleListsLaw" (262 : Nat) ({ cls := "RuleListsModel", name := "whyNoDrop", desc := "()I" } : Jvm.MethodName)) ∈ lw_all := lw_g (lw_at lw_m8 141 rfl) rfl
theorem q1877 : (Jvm.Cond.methodLink "RuleListsLaw" (265 : Nat) ({ cls := "RuleListsModel", name := "membersIfJoined", desc := "(II)I" } : Jvm.MethodName)) ∈ lw_all := lw_g (lw_at lw_m8 145 rfl) rfl
theorem q1881 : (Jvm.Cond.methodLink "RuleListsLaw" (268 : Nat) ({ cls := "RuleListsModel", name := "skipsTo", desc := "(II)I" } : Jvm.MethodName)) ∈ lw_all := lw_g (lw_at lw_m8 149 rfl) rfl
theorem q1885 : (Jvm.Cond.methodLink "RuleListsLaw" (274 : Nat) ({ cls := "RuleListsModel", name := "simulate", desc := "(JI)I" } : Jvm.MethodName)) ∈ lw_all := lw_g (lw_at lw_m8 153 rfl) rfl
theorem q1899 : (Jvm.Cond.methodLink "RuleListsLaw" (277 : Nat) ({ cls := "RuleListsModel", name := "save", desc := "(I)I" } : Jvm.MethodName)) ∈ lw_all := lw_g (lw_at lw_m8 167 rfl) rfl
theorem q1903 : (Jvm.Cond.methodLink "RuleListsLaw" (280 : Nat) ({ cls := "RuleListsModel", name := "restore", desc := "(I)I" } : Jvm.MethodName)) ∈ lw_all := lw_g (lw_at lw_m8 171 rfl) rfl
theorem q1907 : (Jvm.Cond.constantLong "RuleListsLaw" (269 : Nat) (4294967295 : Int64)) ∈ lw_all := lw_g (lw_at lw_m8 175 rfl) rfl

/-! the law's own entry -/
set_option maxRecDepth 100000
abbrev cL_law : ByteArray := code
def dkwL_law_103 : List UInt8 := [4, 172]
abbrev dktL_law_103 : List UInt8 := dkwL_law_103 ++ []
def dkwL_law_102 : List UInt8 := [154, 0, 15, 45, 3, 47, 21, 6, 133, 148, 153, 0, 5, 3, 172, 167, 0, 3, 132, 4, 4, 167, 246, 30]
abbrev dktL_law_102 : List UInt8 := dkwL_law_102 ++ dktL_law_103
def dkwL_law_101 : List UInt8 := [21, 4, 4, 96, 46, 182, 1, 24, 54, 6, 44, 182, 0, 139, 21, 5, 159, 0, 5, 3, 172, 21, 5]
abbrev dktL_law_101 : List UInt8 := dkwL_law_101 ++ dktL_law_102
def dkwL_law_100 : List UInt8 := [153, 0, 5, 3, 172, 167, 0, 59, 43, 42, 21, 4, 4, 96, 46, 45, 184, 1, 22, 54, 5, 44, 42]
abbrev dktL_law_100 : List UInt8 := dkwL_law_100 ++ dktL_law_101
def dkwL_law_99 : List UInt8 := [182, 0, 139, 21, 5, 159, 0, 5, 3, 172, 21, 5, 154, 0, 15, 45, 3, 47, 21, 6, 133, 148]
abbrev dktL_law_99 : List UInt8 := dkwL_law_99 ++ dktL_law_100
def dkwL_law_98 : List UInt8 := [4, 96, 46, 45, 184, 1, 19, 54, 5, 44, 42, 21, 4, 4, 96, 46, 182, 1, 21, 54, 6, 44]
abbrev dktL_law_98 : List UInt8 := dkwL_law_98 ++ dktL_law_99
def dkwL_law_97 : List UInt8 := [21, 5, 154, 0, 15, 45, 3, 47, 21, 6, 133, 148, 153, 0, 5, 3, 172, 167, 0, 115, 43, 42, 21, 4]
abbrev dktL_law_97 : List UInt8 := dkwL_law_97 ++ dktL_law_98
def dkwL_law_96 : List UInt8 := [129, 42, 21, 4, 6, 96, 46, 182, 1, 18, 54, 6, 44, 182, 0, 139, 21, 5, 159, 0, 5, 3, 172]
abbrev dktL_law_96 : List UInt8 := dkwL_law_96 ++ dktL_law_97
def dkwL_law_95 : List UInt8 := [54, 5, 44, 42, 21, 4, 4, 96, 46, 133, 16, 32, 121, 42, 21, 4, 5, 96, 46, 133, 20, 1, 13, 127]
abbrev dktL_law_95 : List UInt8 := dkwL_law_95 ++ dktL_law_96
def dkwL_law_94 : List UInt8 := [121, 42, 21, 4, 5, 96, 46, 133, 20, 1, 13, 127, 129, 42, 21, 4, 6, 96, 46, 45, 184, 1, 15]
abbrev dktL_law_94 : List UInt8 := dkwL_law_94 ++ dktL_law_95
def dkwL_law_93 : List UInt8 := [3, 47, 21, 6, 133, 148, 153, 0, 5, 3, 172, 167, 0, 215, 43, 42, 21, 4, 4, 96, 46, 133, 16, 32]
abbrev dktL_law_93 : List UInt8 := dkwL_law_93 ++ dktL_law_94
def dkwL_law_92 : List UInt8 := [96, 46, 182, 1, 12, 54, 6, 44, 182, 0, 139, 21, 5, 159, 0, 5, 3, 172, 21, 5, 154, 0, 15, 45]
abbrev dktL_law_92 : List UInt8 := dkwL_law_92 ++ dktL_law_93
def dkwL_law_91 : List UInt8 := [46, 42, 21, 4, 5, 96, 46, 45, 184, 1, 10, 54, 5, 44, 42, 21, 4, 4, 96, 46, 42, 21, 4, 5]
abbrev dktL_law_91 : List UInt8 := dkwL_law_91 ++ dktL_law_92
def dkwL_law_90 : List UInt8 := [154, 0, 15, 45, 3, 47, 21, 6, 133, 148, 153, 0, 5, 3, 172, 167, 1, 27, 43, 42, 21, 4, 4, 96]
abbrev dktL_law_90 : List UInt8 := dkwL_law_90 ++ dktL_law_91
def dkwL_law_89 : List UInt8 := [42, 21, 4, 5, 96, 46, 182, 1, 9, 54, 6, 44, 182, 0, 139, 21, 5, 159, 0, 5, 3, 172, 21, 5]
abbrev dktL_law_89 : List UInt8 := dkwL_law_89 ++ dktL_law_90
def dkwL_law_88 : List UInt8 := [21, 4, 4, 96, 46, 42, 21, 4, 5, 96, 46, 45, 184, 1, 7, 54, 5, 44, 42, 21, 4, 4, 96, 46]
abbrev dktL_law_88 : List UInt8 := dkwL_law_88 ++ dktL_law_89
def dkwL_law_87 : List UInt8 := [148, 153, 0, 5, 3, 172, 167, 1, 108, 43, 182, 1, 3, 44, 182, 1, 6, 159, 1, 97, 3, 172, 43, 42]
abbrev dktL_law_87 : List UInt8 := dkwL_law_87 ++ dktL_law_88
def dkwL_law_86 : List UInt8 := [54, 6, 44, 182, 0, 139, 21, 5, 159, 0, 5, 3, 172, 21, 5, 154, 0, 15, 45, 3, 47, 21, 6, 133]
abbrev dktL_law_86 : List UInt8 := dkwL_law_86 ++ dktL_law_87
def dkwL_law_85 : List UInt8 := [46, 45, 184, 1, 0, 54, 5, 44, 42, 21, 4, 4, 96, 46, 42, 21, 4, 5, 96, 46, 182, 1, 2]
abbrev dktL_law_85 : List UInt8 := dkwL_law_85 ++ dktL_law_86
def dkwL_law_84 : List UInt8 := [21, 6, 133, 148, 153, 0, 5, 3, 172, 167, 1, 176, 43, 42, 21, 4, 4, 96, 46, 42, 21, 4, 5, 96]
abbrev dktL_law_84 : List UInt8 := dkwL_law_84 ++ dktL_law_85
def dkwL_law_83 : List UInt8 := [182, 0, 255, 54, 6, 44, 182, 0, 139, 21, 5, 159, 0, 5, 3, 172, 21, 5, 154, 0, 15, 45, 3, 47]
abbrev dktL_law_83 : List UInt8 := dkwL_law_83 ++ dktL_law_84
def dkwL_law_82 : List UInt8 := [167, 1, 232, 43, 42, 21, 4, 4, 96, 46, 45, 184, 0, 253, 54, 5, 44, 42, 21, 4, 4, 96, 46]
abbrev dktL_law_82 : List UInt8 := dkwL_law_82 ++ dktL_law_83
def dkwL_law_81 : List UInt8 := [159, 0, 5, 3, 172, 21, 5, 154, 0, 15, 45, 3, 47, 21, 6, 133, 148, 153, 0, 5, 3, 172]
abbrev dktL_law_81 : List UInt8 := dkwL_law_81 ++ dktL_law_82
def dkwL_law_80 : List UInt8 := [184, 0, 250, 54, 5, 44, 42, 21, 4, 4, 96, 46, 182, 0, 252, 54, 6, 44, 182, 0, 139, 21, 5]
abbrev dktL_law_80 : List UInt8 := dkwL_law_80 ++ dktL_law_81
def dkwL_law_79 : List UInt8 := [172, 43, 182, 0, 246, 44, 182, 0, 249, 159, 2, 34, 3, 172, 43, 42, 21, 4, 4, 96, 46, 45]
abbrev dktL_law_79 : List UInt8 := dkwL_law_79 ++ dktL_law_80
def dkwL_law_78 : List UInt8 := [21, 6, 133, 148, 153, 0, 5, 3, 172, 167, 2, 58, 43, 182, 0, 242, 44, 182, 0, 245, 159, 2, 47, 3]
abbrev dktL_law_78 : List UInt8 := dkwL_law_78 ++ dktL_law_79
def dkwL_law_77 : List UInt8 := [182, 0, 241, 54, 6, 44, 182, 0, 139, 21, 5, 159, 0, 5, 3, 172, 21, 5, 154, 0, 15, 45, 3, 47]
abbrev dktL_law_77 : List UInt8 := dkwL_law_77 ++ dktL_law_78
def dkwL_law_76 : List UInt8 := [167, 2, 114, 43, 42, 21, 4, 4, 96, 46, 45, 184, 0, 239, 54, 5, 44, 42, 21, 4, 4, 96, 46]
abbrev dktL_law_76 : List UInt8 := dkwL_law_76 ++ dktL_law_77
def dkwL_law_75 : List UInt8 := [21, 5, 159, 0, 5, 3, 172, 21, 5, 154, 0, 15, 45, 3, 47, 21, 6, 133, 148, 153, 0, 5, 3, 172]
abbrev dktL_law_75 : List UInt8 := dkwL_law_75 ++ dktL_law_76
def dkwL_law_74 : List UInt8 := [46, 45, 184, 0, 236, 54, 5, 44, 42, 21, 4, 4, 96, 46, 182, 0, 238, 54, 6, 44, 182, 0, 139]
abbrev dktL_law_74 : List UInt8 := dkwL_law_74 ++ dktL_law_75
def dkwL_law_73 : List UInt8 := [154, 0, 15, 45, 3, 47, 21, 6, 133, 148, 153, 0, 5, 3, 172, 167, 2, 170, 43, 42, 21, 4, 4, 96]
abbrev dktL_law_73 : List UInt8 := dkwL_law_73 ++ dktL_law_74
def dkwL_law_72 : List UInt8 := [21, 4, 4, 96, 46, 182, 0, 235, 54, 6, 44, 182, 0, 139, 21, 5, 159, 0, 5, 3, 172, 21, 5]
abbrev dktL_law_72 : List UInt8 := dkwL_law_72 ++ dktL_law_73
def dkwL_law_71 : List UInt8 := [182, 0, 232, 159, 2, 228, 3, 172, 43, 42, 21, 4, 4, 96, 46, 45, 184, 0, 233, 54, 5, 44, 42]
abbrev dktL_law_71 : List UInt8 := dkwL_law_71 ++ dktL_law_72
def dkwL_law_70 : List UInt8 := [154, 0, 15, 45, 3, 47, 21, 6, 133, 148, 153, 0, 5, 3, 172, 167, 2, 239, 43, 182, 0, 229, 44]
abbrev dktL_law_70 : List UInt8 := dkwL_law_70 ++ dktL_law_71
def dkwL_law_69 : List UInt8 := [21, 4, 4, 96, 46, 182, 0, 228, 54, 6, 44, 182, 0, 139, 21, 5, 159, 0, 5, 3, 172, 21, 5]
abbrev dktL_law_69 : List UInt8 := dkwL_law_69 ++ dktL_law_70
def dkwL_law_68 : List UInt8 := [148, 153, 0, 5, 3, 172, 167, 3, 39, 43, 42, 21, 4, 4, 96, 46, 45, 184, 0, 226, 54, 5, 44, 42]
abbrev dktL_law_68 : List UInt8 := dkwL_law_68 ++ dktL_law_69
def dkwL_law_67 : List UInt8 := [54, 6, 44, 182, 0, 139, 21, 5, 159, 0, 5, 3, 172, 21, 5, 154, 0, 15, 45, 3, 47, 21, 6, 133]
abbrev dktL_law_67 : List UInt8 := dkwL_law_67 ++ dktL_law_68
def dkwL_law_66 : List UInt8 := [46, 45, 184, 0, 223, 54, 5, 44, 42, 21, 4, 4, 96, 46, 42, 21, 4, 5, 96, 46, 182, 0, 225]
abbrev dktL_law_66 : List UInt8 := dkwL_law_66 ++ dktL_law_67
def dkwL_law_65 : List UInt8 := [21, 6, 133, 148, 153, 0, 5, 3, 172, 167, 3, 107, 43, 42, 21, 4, 4, 96, 46, 42, 21, 4, 5, 96]
abbrev dktL_law_65 : List UInt8 := dkwL_law_65 ++ dktL_law_66
def dkwL_law_64 : List UInt8 := [182, 0, 222, 54, 6, 44, 182, 0, 139, 21, 5, 159, 0, 5, 3, 172, 21, 5, 154, 0, 15, 45, 3, 47]
abbrev dktL_law_64 : List UInt8 := dkwL_law_64 ++ dktL_law_65
def dkwL_law_63 : List UInt8 := [167, 3, 163, 43, 42, 21, 4, 4, 96, 46, 45, 184, 0, 220, 54, 5, 44, 42, 21, 4, 4, 96, 46]
abbrev dktL_law_63 : List UInt8 := dkwL_law_63 ++ dktL_law_64
def dkwL_law_62 : List UInt8 := [159, 0, 5, 3, 172, 21, 5, 154, 0, 15, 45, 3, 47, 21, 6, 133, 148, 153, 0, 5, 3, 172]
abbrev dktL_law_62 : List UInt8 := dkwL_law_62 ++ dktL_law_63
def dkwL_law_61 : List UInt8 := [21, 4, 4, 96, 46, 42, 21, 4, 5, 96, 46, 182, 0, 219, 54, 6, 44, 182, 0, 139, 21, 5]
abbrev dktL_law_61 : List UInt8 := dkwL_law_61 ++ dktL_law_62
def dkwL_law_60 : List UInt8 := [167, 3, 231, 43, 42, 21, 4, 4, 96, 46, 42, 21, 4, 5, 96, 46, 45, 184, 0, 217, 54, 5, 44, 42]
abbrev dktL_law_60 : List UInt8 := dkwL_law_60 ++ dktL_law_61
def dkwL_law_59 : List UInt8 := [159, 0, 5, 3, 172, 21, 5, 154, 0, 15, 45, 3, 47, 21, 6, 133, 148, 153, 0, 5, 3, 172]
abbrev dktL_law_59 : List UInt8 := dkwL_law_59 ++ dktL_law_60
def dkwL_law_58 : List UInt8 := [21, 4, 4, 96, 46, 42, 21, 4, 5, 96, 46, 182, 0, 216, 54, 6, 44, 182, 0, 139, 21, 5]
abbrev dktL_law_58 : List UInt8 := dkwL_law_58 ++ dktL_law_59
def dkwL_law_57 : List UInt8 := [167, 4, 43, 43, 42, 21, 4, 4, 96, 46, 42, 21, 4, 5, 96, 46, 45, 184, 0, 214, 54, 5, 44, 42]
abbrev dktL_law_57 : List UInt8 := dkwL_law_57 ++ dktL_law_58
def dkwL_law_56 : List UInt8 := [159, 0, 5, 3, 172, 21, 5, 154, 0, 15, 45, 3, 47, 21, 6, 133, 148, 153, 0, 5, 3, 172]
abbrev dktL_law_56 : List UInt8 := dkwL_law_56 ++ dktL_law_57
def dkwL_law_55 : List UInt8 := [21, 4, 4, 96, 46, 42, 21, 4, 5, 96, 46, 182, 0, 213, 54, 6, 44, 182, 0, 139, 21, 5]
abbrev dktL_law_55 : List UInt8 := dkwL_law_55 ++ dktL_law_56
def dkwL_law_54 : List UInt8 := [167, 4, 111, 43, 42, 21, 4, 4, 96, 46, 42, 21, 4, 5, 96, 46, 45, 184, 0, 211, 54, 5, 44, 42]
abbrev dktL_law_54 : List UInt8 := dkwL_law_54 ++ dktL_law_55
def dkwL_law_53 : List UInt8 := [159, 0, 5, 3, 172, 21, 5, 154, 0, 15, 45, 3, 47, 21, 6, 133, 148, 153, 0, 5, 3, 172]
abbrev dktL_law_53 : List UInt8 := dkwL_law_53 ++ dktL_law_54
def dkwL_law_52 : List UInt8 := [21, 4, 4, 96, 46, 42, 21, 4, 5, 96, 46, 182, 0, 210, 54, 6, 44, 182, 0, 139, 21, 5]
abbrev dktL_law_52 : List UInt8 := dkwL_law_52 ++ dktL_law_53
def dkwL_law_51 : List UInt8 := [167, 4, 179, 43, 42, 21, 4, 4, 96, 46, 42, 21, 4, 5, 96, 46, 45, 184, 0, 208, 54, 5, 44, 42]
abbrev dktL_law_51 : List UInt8 := dkwL_law_51 ++ dktL_law_52
def dkwL_law_50 : List UInt8 := [154, 0, 22, 45, 3, 47, 21, 6, 153, 0, 7, 10, 167, 0, 4, 9, 148, 153, 0, 5, 3, 172]
abbrev dktL_law_50 : List UInt8 := dkwL_law_50 ++ dktL_law_51
def dkwL_law_49 : List UInt8 := [42, 21, 4, 5, 96, 46, 182, 0, 207, 54, 6, 44, 182, 0, 139, 21, 5, 159, 0, 5, 3, 172, 21, 5]
abbrev dktL_law_49 : List UInt8 := dkwL_law_49 ++ dktL_law_50
def dkwL_law_48 : List UInt8 := [21, 4, 4, 96, 46, 42, 21, 4, 5, 96, 46, 45, 184, 0, 205, 54, 5, 44, 42, 21, 4, 4, 96, 46]
abbrev dktL_law_48 : List UInt8 := dkwL_law_48 ++ dktL_law_49
def dkwL_law_47 : List UInt8 := [148, 153, 0, 5, 3, 172, 167, 5, 11, 43, 182, 0, 201, 44, 182, 0, 204, 159, 5, 0, 3, 172, 43, 42]
abbrev dktL_law_47 : List UInt8 := dkwL_law_47 ++ dktL_law_48
def dkwL_law_46 : List UInt8 := [54, 6, 44, 182, 0, 139, 21, 5, 159, 0, 5, 3, 172, 21, 5, 154, 0, 15, 45, 3, 47, 21, 6, 133]
abbrev dktL_law_46 : List UInt8 := dkwL_law_46 ++ dktL_law_47
def dkwL_law_45 : List UInt8 := [21, 6, 133, 148, 153, 0, 5, 3, 172, 167, 5, 55, 43, 45, 184, 0, 198, 54, 5, 44, 182, 0, 200]
abbrev dktL_law_45 : List UInt8 := dkwL_law_45 ++ dktL_law_46
def dkwL_law_44 : List UInt8 := [182, 0, 197, 54, 6, 44, 182, 0, 139, 21, 5, 159, 0, 5, 3, 172, 21, 5, 154, 0, 15, 45, 3, 47]
abbrev dktL_law_44 : List UInt8 := dkwL_law_44 ++ dktL_law_45
def dkwL_law_43 : List UInt8 := [167, 5, 111, 43, 42, 21, 4, 4, 96, 46, 45, 184, 0, 195, 54, 5, 44, 42, 21, 4, 4, 96, 46]
abbrev dktL_law_43 : List UInt8 := dkwL_law_43 ++ dktL_law_44
def dkwL_law_42 : List UInt8 := [21, 5, 159, 0, 5, 3, 172, 21, 5, 154, 0, 15, 45, 3, 47, 21, 6, 133, 148, 153, 0, 5, 3, 172]
abbrev dktL_law_42 : List UInt8 := dkwL_law_42 ++ dktL_law_43
def dkwL_law_41 : List UInt8 := [46, 45, 184, 0, 192, 54, 5, 44, 42, 21, 4, 4, 96, 46, 182, 0, 194, 54, 6, 44, 182, 0, 139]
abbrev dktL_law_41 : List UInt8 := dkwL_law_41 ++ dktL_law_42
def dkwL_law_40 : List UInt8 := [154, 0, 15, 45, 3, 47, 21, 6, 133, 148, 153, 0, 5, 3, 172, 167, 5, 167, 43, 42, 21, 4, 4, 96]
abbrev dktL_law_40 : List UInt8 := dkwL_law_40 ++ dktL_law_41
def dkwL_law_39 : List UInt8 := [42, 21, 4, 5, 96, 46, 182, 0, 191, 54, 6, 44, 182, 0, 139, 21, 5, 159, 0, 5, 3, 172, 21, 5]
abbrev dktL_law_39 : List UInt8 := dkwL_law_39 ++ dktL_law_40
def dkwL_law_38 : List UInt8 := [21, 4, 4, 96, 46, 42, 21, 4, 5, 96, 46, 45, 184, 0, 189, 54, 5, 44, 42, 21, 4, 4, 96, 46]
abbrev dktL_law_38 : List UInt8 := dkwL_law_38 ++ dktL_law_39
def dkwL_law_37 : List UInt8 := [172, 21, 5, 154, 0, 15, 45, 3, 47, 21, 6, 133, 148, 153, 0, 5, 3, 172, 167, 5, 235, 43, 42]
abbrev dktL_law_37 : List UInt8 := dkwL_law_37 ++ dktL_law_38
def dkwL_law_36 : List UInt8 := [54, 5, 44, 42, 21, 4, 4, 96, 46, 182, 0, 188, 54, 6, 44, 182, 0, 139, 21, 5, 159, 0, 5, 3]
abbrev dktL_law_36 : List UInt8 := dkwL_law_36 ++ dktL_law_37
def dkwL_law_35 : List UInt8 := [21, 6, 133, 148, 153, 0, 5, 3, 172, 167, 6, 35, 43, 42, 21, 4, 4, 96, 46, 45, 184, 0, 186]
abbrev dktL_law_35 : List UInt8 := dkwL_law_35 ++ dktL_law_36
def dkwL_law_34 : List UInt8 := [182, 0, 185, 54, 6, 44, 182, 0, 139, 21, 5, 159, 0, 5, 3, 172, 21, 5, 154, 0, 15, 45, 3, 47]
abbrev dktL_law_34 : List UInt8 := dkwL_law_34 ++ dktL_law_35
def dkwL_law_33 : List UInt8 := [167, 6, 91, 43, 42, 21, 4, 4, 96, 46, 45, 184, 0, 183, 54, 5, 44, 42, 21, 4, 4, 96, 46]
abbrev dktL_law_33 : List UInt8 := dkwL_law_33 ++ dktL_law_34
def dkwL_law_32 : List UInt8 := [159, 0, 5, 3, 172, 21, 5, 154, 0, 15, 45, 3, 47, 21, 6, 133, 148, 153, 0, 5, 3, 172]
abbrev dktL_law_32 : List UInt8 := dkwL_law_32 ++ dktL_law_33
def dkwL_law_31 : List UInt8 := [167, 6, 135, 43, 45, 184, 0, 180, 54, 5, 44, 182, 0, 182, 54, 6, 44, 182, 0, 139, 21, 5]
abbrev dktL_law_31 : List UInt8 := dkwL_law_31 ++ dktL_law_32
def dkwL_law_30 : List UInt8 := [159, 0, 5, 3, 172, 21, 5, 154, 0, 15, 45, 3, 47, 21, 6, 133, 148, 153, 0, 5, 3, 172]
abbrev dktL_law_30 : List UInt8 := dkwL_law_30 ++ dktL_law_31
def dkwL_law_29 : List UInt8 := [184, 0, 177, 54, 5, 44, 42, 21, 4, 4, 96, 46, 182, 0, 179, 54, 6, 44, 182, 0, 139, 21, 5]
abbrev dktL_law_29 : List UInt8 := dkwL_law_29 ++ dktL_law_30
def dkwL_law_28 : List UInt8 := [3, 47, 21, 6, 133, 148, 153, 0, 5, 3, 172, 167, 6, 191, 43, 42, 21, 4, 4, 96, 46, 45]
abbrev dktL_law_28 : List UInt8 := dkwL_law_28 ++ dktL_law_29
def dkwL_law_27 : List UInt8 := [96, 46, 182, 0, 176, 54, 6, 44, 182, 0, 139, 21, 5, 159, 0, 5, 3, 172, 21, 5, 154, 0, 15, 45]
abbrev dktL_law_27 : List UInt8 := dkwL_law_27 ++ dktL_law_28
def dkwL_law_26 : List UInt8 := [46, 42, 21, 4, 5, 96, 46, 45, 184, 0, 174, 54, 5, 44, 42, 21, 4, 4, 96, 46, 42, 21, 4, 5]
abbrev dktL_law_26 : List UInt8 := dkwL_law_26 ++ dktL_law_27
def dkwL_law_25 : List UInt8 := [154, 0, 15, 45, 3, 47, 21, 6, 133, 148, 153, 0, 5, 3, 172, 167, 7, 3, 43, 42, 21, 4, 4, 96]
abbrev dktL_law_25 : List UInt8 := dkwL_law_25 ++ dktL_law_26
def dkwL_law_24 : List UInt8 := [21, 4, 4, 96, 46, 182, 0, 173, 54, 6, 44, 182, 0, 139, 21, 5, 159, 0, 5, 3, 172, 21, 5]
abbrev dktL_law_24 : List UInt8 := dkwL_law_24 ++ dktL_law_25
def dkwL_law_23 : List UInt8 := [148, 153, 0, 5, 3, 172, 167, 7, 59, 43, 42, 21, 4, 4, 96, 46, 45, 184, 0, 171, 54, 5, 44, 42]
abbrev dktL_law_23 : List UInt8 := dkwL_law_23 ++ dktL_law_24
def dkwL_law_22 : List UInt8 := [54, 6, 44, 182, 0, 139, 21, 5, 159, 0, 5, 3, 172, 21, 5, 154, 0, 15, 45, 3, 47, 21, 6, 133]
abbrev dktL_law_22 : List UInt8 := dkwL_law_22 ++ dktL_law_23
def dkwL_law_21 : List UInt8 := [46, 45, 184, 0, 168, 54, 5, 44, 42, 21, 4, 4, 96, 46, 42, 21, 4, 5, 96, 46, 182, 0, 170]
abbrev dktL_law_21 : List UInt8 := dkwL_law_21 ++ dktL_law_22
def dkwL_law_20 : List UInt8 := [21, 6, 133, 148, 153, 0, 5, 3, 172, 167, 7, 127, 43, 42, 21, 4, 4, 96, 46, 42, 21, 4, 5, 96]
abbrev dktL_law_20 : List UInt8 := dkwL_law_20 ++ dktL_law_21
def dkwL_law_19 : List UInt8 := [182, 0, 167, 54, 6, 44, 182, 0, 139, 21, 5, 159, 0, 5, 3, 172, 21, 5, 154, 0, 15, 45, 3, 47]
abbrev dktL_law_19 : List UInt8 := dkwL_law_19 ++ dktL_law_20
def dkwL_law_18 : List UInt8 := [5, 96, 46, 45, 184, 0, 165, 54, 5, 44, 42, 21, 4, 4, 96, 46, 42, 21, 4, 5, 96, 46]
abbrev dktL_law_18 : List UInt8 := dkwL_law_18 ++ dktL_law_19
def dkwL_law_17 : List UInt8 := [3, 47, 21, 6, 133, 148, 153, 0, 5, 3, 172, 167, 7, 195, 43, 42, 21, 4, 4, 96, 46, 42, 21, 4]
abbrev dktL_law_17 : List UInt8 := dkwL_law_17 ++ dktL_law_18
def dkwL_law_16 : List UInt8 := [96, 46, 182, 0, 164, 54, 6, 44, 182, 0, 139, 21, 5, 159, 0, 5, 3, 172, 21, 5, 154, 0, 15, 45]
abbrev dktL_law_16 : List UInt8 := dkwL_law_16 ++ dktL_law_17
def dkwL_law_15 : List UInt8 := [46, 42, 21, 4, 5, 96, 46, 45, 184, 0, 162, 54, 5, 44, 42, 21, 4, 4, 96, 46, 42, 21, 4, 5]
abbrev dktL_law_15 : List UInt8 := dkwL_law_15 ++ dktL_law_16
def dkwL_law_14 : List UInt8 := [154, 0, 15, 45, 3, 47, 21, 6, 133, 148, 153, 0, 5, 3, 172, 167, 8, 7, 43, 42, 21, 4, 4, 96]
abbrev dktL_law_14 : List UInt8 := dkwL_law_14 ++ dktL_law_15
def dkwL_law_13 : List UInt8 := [21, 4, 6, 96, 46, 182, 0, 161, 54, 6, 44, 182, 0, 139, 21, 5, 159, 0, 5, 3, 172, 21, 5]
abbrev dktL_law_13 : List UInt8 := dkwL_law_13 ++ dktL_law_14
def dkwL_law_12 : List UInt8 := [6, 96, 46, 45, 184, 0, 158, 54, 5, 44, 42, 21, 4, 4, 96, 46, 42, 21, 4, 5, 96, 46, 42]
abbrev dktL_law_12 : List UInt8 := dkwL_law_12 ++ dktL_law_13
def dkwL_law_11 : List UInt8 := [153, 0, 5, 3, 172, 167, 8, 87, 43, 42, 21, 4, 4, 96, 46, 42, 21, 4, 5, 96, 46, 42, 21, 4]
abbrev dktL_law_11 : List UInt8 := dkwL_law_11 ++ dktL_law_12
def dkwL_law_10 : List UInt8 := [182, 0, 139, 21, 5, 159, 0, 5, 3, 172, 21, 5, 154, 0, 15, 45, 3, 47, 21, 6, 133, 148]
abbrev dktL_law_10 : List UInt8 := dkwL_law_10 ++ dktL_law_11
def dkwL_law_9 : List UInt8 := [184, 0, 154, 54, 5, 44, 42, 21, 4, 4, 96, 46, 42, 21, 4, 5, 96, 46, 182, 0, 157, 54, 6, 44]
abbrev dktL_law_9 : List UInt8 := dkwL_law_9 ++ dktL_law_10
def dkwL_law_8 : List UInt8 := [148, 153, 0, 5, 3, 172, 167, 8, 155, 43, 42, 21, 4, 4, 96, 46, 42, 21, 4, 5, 96, 46, 45]
abbrev dktL_law_8 : List UInt8 := dkwL_law_8 ++ dktL_law_9
def dkwL_law_7 : List UInt8 := [54, 6, 44, 182, 0, 139, 21, 5, 159, 0, 5, 3, 172, 21, 5, 154, 0, 15, 45, 3, 47, 21, 6, 133]
abbrev dktL_law_7 : List UInt8 := dkwL_law_7 ++ dktL_law_8
def dkwL_law_6 : List UInt8 := [182, 0, 146, 44, 182, 0, 149, 159, 8, 201, 3, 172, 43, 45, 184, 0, 150, 54, 5, 44, 182, 0, 153]
abbrev dktL_law_6 : List UInt8 := dkwL_law_6 ++ dktL_law_7
def dkwL_law_5 : List UInt8 := [148, 153, 0, 5, 3, 172, 167, 8, 225, 43, 182, 0, 142, 44, 182, 0, 145, 159, 8, 214, 3, 172, 43]
abbrev dktL_law_5 : List UInt8 := dkwL_law_5 ++ dktL_law_6
def dkwL_law_4 : List UInt8 := [54, 6, 44, 182, 0, 139, 21, 5, 159, 0, 5, 3, 172, 21, 5, 154, 0, 15, 45, 3, 47, 21, 6, 133]
abbrev dktL_law_4 : List UInt8 := dkwL_law_4 ++ dktL_law_5
def dkwL_law_3 : List UInt8 := [43, 42, 21, 4, 4, 96, 46, 45, 184, 0, 133, 54, 5, 44, 42, 21, 4, 4, 96, 46, 182, 0, 138]
abbrev dktL_law_3 : List UInt8 := dkwL_law_3 ++ dktL_law_4
def dkwL_law_2 : List UInt8 := [170, 0, 0, 9, 207, 0, 0, 0, 0, 0, 0, 0, 42, 0, 0, 0, 185, 0, 0, 0, 241, 0, 0, 0, 254, 0, 0, 1, 11, 0, 0, 1, 55, 0, 0, 1, 123, 0, 0, 1, 203, 0, 0, 2, 15, 0, 0, 2, 83, 0, 0, 2, 151, 0, 0, 2, 207, 0, 0, 3, 19, 0, 0, 3, 75, 0, 0, 3, 119, 0, 0, 3, 175, 0, 0, 3, 231, 0, 0, 4, 43, 0, 0, 4, 99, 0, 0, 4, 155, 0, 0, 4, 199, 0, 0, 4, 212, 0, 0, 5, 31, 0, 0, 5, 99, 0, 0, 5, 167, 0, 0, 5, 235, 0, 0, 6, 47, 0, 0, 6, 103, 0, 0, 6, 171, 0, 0, 6, 227, 0, 0, 6, 240, 0, 0, 7, 40, 0, 0, 7, 96, 0, 0, 7, 152, 0, 0, 7, 165, 0, 0, 7, 178, 0, 0, 7, 234, 0, 0, 8, 34, 0, 0, 8, 102, 0, 0, 8, 115, 0, 0, 8, 183, 0, 0, 8, 251, 0, 0, 9, 95, 0, 0, 9, 151]
abbrev dktL_law_2 : List UInt8 := dkwL_law_2 ++ dktL_law_3
def dkwL_law_1 : List UInt8 := [21, 4, 42, 190, 7, 100, 163, 9, 223, 42, 21, 4, 46, 16, 63, 126]
abbrev dktL_law_1 : List UInt8 := dkwL_law_1 ++ dktL_law_2
def dkwL_law_0 : List UInt8 := [187, 0, 8, 89, 183, 0, 129, 76, 187, 0, 130, 89, 183, 0, 132, 77, 4, 188, 11, 78, 3, 54, 4]
abbrev dktL_law_0 : List UInt8 := dkwL_law_0 ++ dktL_law_1
theorem dksL_law_0 : cL_law.data.toList.drop 0 = dktL_law_0 := by decide +kernel
theorem dksL_law_1 : cL_law.data.toList.drop 23 = dktL_law_1 := dk_seg dksL_law_0 23 rfl rfl
theorem dksL_law_2 : cL_law.data.toList.drop 39 = dktL_law_2 := dk_seg dksL_law_1 16 rfl rfl
theorem dksL_law_3 : cL_law.data.toList.drop 224 = dktL_law_3 := dk_seg dksL_law_2 185 rfl rfl
theorem dksL_law_4 : cL_law.data.toList.drop 247 = dktL_law_4 := dk_seg dksL_law_3 23 rfl rfl
theorem dksL_law_5 : cL_law.data.toList.drop 271 = dktL_law_5 := dk_seg dksL_law_4 24 rfl rfl
theorem dksL_law_6 : cL_law.data.toList.drop 294 = dktL_law_6 := dk_seg dksL_law_5 23 rfl rfl
theorem dksL_law_7 : cL_law.data.toList.drop 317 = dktL_law_7 := dk_seg dksL_law_6 23 rfl rfl
theorem dksL_law_8 : cL_law.data.toList.drop 341 = dktL_law_8 := dk_seg dksL_law_7 24 rfl rfl
theorem dksL_law_9 : cL_law.data.toList.drop 364 = dktL_law_9 := dk_seg dksL_law_8 23 rfl rfl
theorem dksL_law_10 : cL_law.data.toList.drop 388 = dktL_law_10 := dk_seg dksL_law_9 24 rfl rfl
theorem dksL_law_11 : cL_law.data.toList.drop 410 = dktL_law_11 := dk_seg dksL_law_10 22 rfl rfl
theorem dksL_law_12 : cL_law.data.toList.drop 434 = dktL_law_12 := dk_seg dksL_law_11 24 rfl rfl
theorem dksL_law_13 : cL_law.data.toList.drop 457 = dktL_law_13 := dk_seg dksL_law_12 23 rfl rfl
theorem dksL_law_14 : cL_law.data.toList.drop 480 = dktL_law_14 := dk_seg dksL_law_13 23 rfl rfl
theorem dksL_law_15 : cL_law.data.toList.drop 504 = dktL_law_15 := dk_seg dksL_law_14 24 rfl rfl
theorem dksL_law_16 : cL_law.data.toList.drop 528 = dktL_law_16 := dk_seg dksL_law_15 24 rfl rfl
theorem dksL_law_17 : cL_law.data.toList.drop 552 = dktL_law_17 := dk_seg dksL_law_16 24 rfl rfl
theorem dksL_law_18 : cL_law.data.toList.drop 576 = dktL_law_18 := dk_seg dksL_law_17 24 rfl rfl
theorem dksL_law_19 : cL_law.data.toList.drop 598 = dktL_law_19 := dk_seg dksL_law_18 22 rfl rfl
theorem dksL_law_20 : cL_law.data.toList.drop 622 = dktL_law_20 := dk_seg dksL_law_19 24 rfl rfl
theorem dksL_law_21 : cL_law.data.toList.drop 646 = dktL_law_21 := dk_seg dksL_law_20 24 rfl rfl
theorem dksL_law_22 : cL_law.data.toList.drop 669 = dktL_law_22 := dk_seg dksL_law_21 23 rfl rfl
theorem dksL_law_23 : cL_law.data.toList.drop 693 = dktL_law_23 := dk_seg dksL_law_22 24 rfl rfl
theorem dksL_law_24 : cL_law.data.toList.drop 717 = dktL_law_24 := dk_seg dksL_law_23 24 rfl rfl
theorem dksL_law_25 : cL_law.data.toList.drop 740 = dktL_law_25 := dk_seg dksL_law_24 23 rfl rfl
theorem dksL_law_26 : cL_law.data.toList.drop 764 = dktL_law_26 := dk_seg dksL_law_25 24 rfl rfl
theorem dksL_law_27 : cL_law.data.toList.drop 788 = dktL_law_27 := dk_seg dksL_law_26 24 rfl rfl
theorem dksL_law_28 : cL_law.data.toList.drop 812 = dktL_law_28 := dk_seg dksL_law_27 24 rfl rfl
theorem dksL_law_29 : cL_law.data.toList.drop 834 = dktL_law_29 := dk_seg dksL_law_28 22 rfl rfl
theorem dksL_law_30 : cL_law.data.toList.drop 857 = dktL_law_30 := dk_seg dksL_law_29 23 rfl rfl
theorem dksL_law_31 : cL_law.data.toList.drop 879 = dktL_law_31 := dk_seg dksL_law_30 22 rfl rfl
theorem dksL_law_32 : cL_law.data.toList.drop 901 = dktL_law_32 := dk_seg dksL_law_31 22 rfl rfl
theorem dksL_law_33 : cL_law.data.toList.drop 923 = dktL_law_33 := dk_seg dksL_law_32 22 rfl rfl
theorem dksL_law_34 : cL_law.data.toList.drop 946 = dktL_law_34 := dk_seg dksL_law_33 23 rfl rfl
theorem dksL_law_35 : cL_law.data.toList.drop 970 = dktL_law_35 := dk_seg dksL_law_34 24 rfl rfl
theorem dksL_law_36 : cL_law.data.toList.drop 993 = dktL_law_36 := dk_seg dksL_law_35 23 rfl rfl
theorem dksL_law_37 : cL_law.data.toList.drop 1017 = dktL_law_37 := dk_seg dksL_law_36 24 rfl rfl
theorem dksL_law_38 : cL_law.data.toList.drop 1040 = dktL_law_38 := dk_seg dksL_law_37 23 rfl rfl
theorem dksL_law_39 : cL_law.data.toList.drop 1064 = dktL_law_39 := dk_seg dksL_law_38 24 rfl rfl
theorem dksL_law_40 : cL_law.data.toList.drop 1088 = dktL_law_40 := dk_seg dksL_law_39 24 rfl rfl
theorem dksL_law_41 : cL_law.data.toList.drop 1112 = dktL_law_41 := dk_seg dksL_law_40 24 rfl rfl
theorem dksL_law_42 : cL_law.data.toList.drop 1135 = dktL_law_42 := dk_seg dksL_law_41 23 rfl rfl
theorem dksL_law_43 : cL_law.data.toList.drop 1159 = dktL_law_43 := dk_seg dksL_law_42 24 rfl rfl
theorem dksL_law_44 : cL_law.data.toList.drop 1182 = dktL_law_44 := dk_seg dksL_law_43 23 rfl rfl
theorem dksL_law_45 : cL_law.data.toList.drop 1206 = dktL_law_45 := dk_seg dksL_law_44 24 rfl rfl
theorem dksL_law_46 : cL_law.data.toList.drop 1229 = dktL_law_46 := dk_seg dksL_law_45 23 rfl rfl
theorem dksL_law_47 : cL_law.data.toList.drop 1253 = dktL_law_47 := dk_seg dksL_law_46 24 rfl rfl
theorem dksL_law_48 : cL_law.data.toList.drop 1277 = dktL_law_48 := dk_seg dksL_law_47 24 rfl rfl
theorem dksL_law_49 : cL_law.data.toList.drop 1301 = dktL_law_49 := dk_seg dksL_law_48 24 rfl rfl
theorem dksL_law_50 : cL_law.data.toList.drop 1325 = dktL_law_50 := dk_seg dksL_law_49 24 rfl rfl
theorem dksL_law_51 : cL_law.data.toList.drop 1347 = dktL_law_51 := dk_seg dksL_law_50 22 rfl rfl
theorem dksL_law_52 : cL_law.data.toList.drop 1371 = dktL_law_52 := dk_seg dksL_law_51 24 rfl rfl
theorem dksL_law_53 : cL_law.data.toList.drop 1393 = dktL_law_53 := dk_seg dksL_law_52 22 rfl rfl
theorem dksL_law_54 : cL_law.data.toList.drop 1415 = dktL_law_54 := dk_seg dksL_law_53 22 rfl rfl
theorem dksL_law_55 : cL_law.data.toList.drop 1439 = dktL_law_55 := dk_seg dksL_law_54 24 rfl rfl
theorem dksL_law_56 : cL_law.data.toList.drop 1461 = dktL_law_56 := dk_seg dksL_law_55 22 rfl rfl
theorem dksL_law_57 : cL_law.data.toList.drop 1483 = dktL_law_57 := dk_seg dksL_law_56 22 rfl rfl
theorem dksL_law_58 : cL_law.data.toList.drop 1507 = dktL_law_58 := dk_seg dksL_law_57 24 rfl rfl
theorem dksL_law_59 : cL_law.data.toList.drop 1529 = dktL_law_59 := dk_seg dksL_law_58 22 rfl rfl
theorem dksL_law_60 : cL_law.data.toList.drop 1551 = dktL_law_60 := dk_seg dksL_law_59 22 rfl rfl
theorem dksL_law_61 : cL_law.data.toList.drop 1575 = dktL_law_61 := dk_seg dksL_law_60 24 rfl rfl
theorem dksL_law_62 : cL_law.data.toList.drop 1597 = dktL_law_62 := dk_seg dksL_law_61 22 rfl rfl
theorem dksL_law_63 : cL_law.data.toList.drop 1619 = dktL_law_63 := dk_seg dksL_law_62 22 rfl rfl
theorem dksL_law_64 : cL_law.data.toList.drop 1642 = dktL_law_64 := dk_seg dksL_law_63 23 rfl rfl
theorem dksL_law_65 : cL_law.data.toList.drop 1666 = dktL_law_65 := dk_seg dksL_law_64 24 rfl rfl
theorem dksL_law_66 : cL_law.data.toList.drop 1690 = dktL_law_66 := dk_seg dksL_law_65 24 rfl rfl
theorem dksL_law_67 : cL_law.data.toList.drop 1713 = dktL_law_67 := dk_seg dksL_law_66 23 rfl rfl
theorem dksL_law_68 : cL_law.data.toList.drop 1737 = dktL_law_68 := dk_seg dksL_law_67 24 rfl rfl
theorem dksL_law_69 : cL_law.data.toList.drop 1761 = dktL_law_69 := dk_seg dksL_law_68 24 rfl rfl
theorem dksL_law_70 : cL_law.data.toList.drop 1784 = dktL_law_70 := dk_seg dksL_law_69 23 rfl rfl
theorem dksL_law_71 : cL_law.data.toList.drop 1807 = dktL_law_71 := dk_seg dksL_law_70 23 rfl rfl
theorem dksL_law_72 : cL_law.data.toList.drop 1830 = dktL_law_72 := dk_seg dksL_law_71 23 rfl rfl
theorem dksL_law_73 : cL_law.data.toList.drop 1853 = dktL_law_73 := dk_seg dksL_law_72 23 rfl rfl
theorem dksL_law_74 : cL_law.data.toList.drop 1877 = dktL_law_74 := dk_seg dksL_law_73 24 rfl rfl
theorem dksL_law_75 : cL_law.data.toList.drop 1900 = dktL_law_75 := dk_seg dksL_law_74 23 rfl rfl
theorem dksL_law_76 : cL_law.data.toList.drop 1924 = dktL_law_76 := dk_seg dksL_law_75 24 rfl rfl
theorem dksL_law_77 : cL_law.data.toList.drop 1947 = dktL_law_77 := dk_seg dksL_law_76 23 rfl rfl
theorem dksL_law_78 : cL_law.data.toList.drop 1971 = dktL_law_78 := dk_seg dksL_law_77 24 rfl rfl
theorem dksL_law_79 : cL_law.data.toList.drop 1995 = dktL_law_79 := dk_seg dksL_law_78 24 rfl rfl
theorem dksL_law_80 : cL_law.data.toList.drop 2017 = dktL_law_80 := dk_seg dksL_law_79 22 rfl rfl
theorem dksL_law_81 : cL_law.data.toList.drop 2040 = dktL_law_81 := dk_seg dksL_law_80 23 rfl rfl
theorem dksL_law_82 : cL_law.data.toList.drop 2062 = dktL_law_82 := dk_seg dksL_law_81 22 rfl rfl
theorem dksL_law_83 : cL_law.data.toList.drop 2085 = dktL_law_83 := dk_seg dksL_law_82 23 rfl rfl
theorem dksL_law_84 : cL_law.data.toList.drop 2109 = dktL_law_84 := dk_seg dksL_law_83 24 rfl rfl
theorem dksL_law_85 : cL_law.data.toList.drop 2133 = dktL_law_85 := dk_seg dksL_law_84 24 rfl rfl
theorem dksL_law_86 : cL_law.data.toList.drop 2156 = dktL_law_86 := dk_seg dksL_law_85 23 rfl rfl
theorem dksL_law_87 : cL_law.data.toList.drop 2180 = dktL_law_87 := dk_seg dksL_law_86 24 rfl rfl
theorem dksL_law_88 : cL_law.data.toList.drop 2204 = dktL_law_88 := dk_seg dksL_law_87 24 rfl rfl
theorem dksL_law_89 : cL_law.data.toList.drop 2228 = dktL_law_89 := dk_seg dksL_law_88 24 rfl rfl
theorem dksL_law_90 : cL_law.data.toList.drop 2252 = dktL_law_90 := dk_seg dksL_law_89 24 rfl rfl
theorem dksL_law_91 : cL_law.data.toList.drop 2276 = dktL_law_91 := dk_seg dksL_law_90 24 rfl rfl
theorem dksL_law_92 : cL_law.data.toList.drop 2300 = dktL_law_92 := dk_seg dksL_law_91 24 rfl rfl
theorem dksL_law_93 : cL_law.data.toList.drop 2324 = dktL_law_93 := dk_seg dksL_law_92 24 rfl rfl
theorem dksL_law_94 : cL_law.data.toList.drop 2348 = dktL_law_94 := dk_seg dksL_law_93 24 rfl rfl
theorem dksL_law_95 : cL_law.data.toList.drop 2371 = dktL_law_95 := dk_seg dksL_law_94 23 rfl rfl
theorem dksL_law_96 : cL_law.data.toList.drop 2395 = dktL_law_96 := dk_seg dksL_law_95 24 rfl rfl
theorem dksL_law_97 : cL_law.data.toList.drop 2418 = dktL_law_97 := dk_seg dksL_law_96 23 rfl rfl
theorem dksL_law_98 : cL_law.data.toList.drop 2442 = dktL_law_98 := dk_seg dksL_law_97 24 rfl rfl
theorem dksL_law_99 : cL_law.data.toList.drop 2464 = dktL_law_99 := dk_seg dksL_law_98 22 rfl rfl
theorem dksL_law_100 : cL_law.data.toList.drop 2486 = dktL_law_100 := dk_seg dksL_law_99 22 rfl rfl
theorem dksL_law_101 : cL_law.data.toList.drop 2509 = dktL_law_101 := dk_seg dksL_law_100 23 rfl rfl
theorem dksL_law_102 : cL_law.data.toList.drop 2532 = dktL_law_102 := dk_seg dksL_law_101 23 rfl rfl
theorem dksL_law_103 : cL_law.data.toList.drop 2556 = dktL_law_103 := dk_seg dksL_law_102 24 rfl rfl
theorem dL_law_0 : decode cL_law 0 = .ok (.new 8, 3) := dk_187 0 8 (dk_at dksL_law_0 0 rfl rfl)
theorem dL_law_3 : decode cL_law 3 = .ok (.dup, 1) := dk_89 (dk_at dksL_law_0 3 rfl rfl)
theorem dL_law_4 : decode cL_law 4 = .ok (.invokespecial 129, 3) := dk_183 0 129 (dk_at dksL_law_0 4 rfl rfl)
theorem dL_law_7 : decode cL_law 7 = .ok (.astore_n 1, 1) := dk_76 (dk_at dksL_law_0 7 rfl rfl)
theorem dL_law_8 : decode cL_law 8 = .ok (.new 130, 3) := dk_187 0 130 (dk_at dksL_law_0 8 rfl rfl)
theorem dL_law_11 : decode cL_law 11 = .ok (.dup, 1) := dk_89 (dk_at dksL_law_0 11 rfl rfl)
theorem dL_law_12 : decode cL_law 12 = .ok (.invokespecial 132, 3) := dk_183 0 132 (dk_at dksL_law_0 12 rfl rfl)
theorem dL_law_15 : decode cL_law 15 = .ok (.astore_n 2, 1) := dk_77 (dk_at dksL_law_0 15 rfl rfl)
theorem dL_law_16 : decode cL_law 16 = .ok (.iconst 1, 1) := dk_4 (dk_at dksL_law_0 16 rfl rfl)
theorem dL_law_17 : decode cL_law 17 = .ok (.newarray .long, 2) := dk_188_11 (dk_at dksL_law_0 17 rfl rfl)
theorem dL_law_19 : decode cL_law 19 = .ok (.astore_n 3, 1) := dk_78 (dk_at dksL_law_0 19 rfl rfl)
theorem dL_law_20 : decode cL_law 20 = .ok (.iconst 0, 1) := dk_3 (dk_at dksL_law_0 20 rfl rfl)
theorem dL_law_21 : decode cL_law 21 = .ok (.istore 4, 2) := dk_54 4 (dk_at dksL_law_0 21 rfl rfl)
theorem dL_law_23 : decode cL_law 23 = .ok (.iload 4, 2) := dk_21 4 (dk_at dksL_law_1 0 rfl rfl)
theorem dL_law_25 : decode cL_law 25 = .ok (.aload_n 0, 1) := dk_42 (dk_at dksL_law_1 2 rfl rfl)
theorem dL_law_26 : decode cL_law 26 = .ok (.arraylength, 1) := dk_190 (dk_at dksL_law_1 3 rfl rfl)
theorem dL_law_27 : decode cL_law 27 = .ok (.iconst 4, 1) := dk_7 (dk_at dksL_law_1 4 rfl rfl)
theorem dL_law_28 : decode cL_law 28 = .ok (.isub, 1) := dk_100 (dk_at dksL_law_1 5 rfl rfl)
theorem dL_law_29 : decode cL_law 29 = .ok (.if_icmp .gt 2527, 3) := dk_163 9 223 (dk_at dksL_law_1 6 rfl rfl)
theorem dL_law_32 : decode cL_law 32 = .ok (.aload_n 0, 1) := dk_42 (dk_at dksL_law_1 9 rfl rfl)
theorem dL_law_33 : decode cL_law 33 = .ok (.iload 4, 2) := dk_21 4 (dk_at dksL_law_1 10 rfl rfl)
theorem dL_law_35 : decode cL_law 35 = .ok (.iaload, 1) := dk_46 (dk_at dksL_law_1 12 rfl rfl)
theorem dL_law_36 : decode cL_law 36 = .ok (.bipush 63, 2) := dk_16 63 (dk_at dksL_law_1 13 rfl rfl)
theorem dL_law_38 : decode cL_law 38 = .ok (.iand, 1) := dk_126 (dk_at dksL_law_1 15 rfl rfl)
theorem dL_law_39 : decode cL_law 39 = .ok (.tableswitch 2511 0 42 #[185, 241, 254, 267, 311, 379, 459, 527, 595, 663, 719, 787, 843, 887, 943, 999, 1067, 1123, 1179, 1223, 1236, 1311, 1379, 1447, 1515, 1583, 1639, 1707, 1763, 1776, 1832, 1888, 1944, 1957, 1970, 2026, 2082, 2150, 2163, 2231, 2299, 2399, 2455], 185) := by decide +kernel
theorem dL_law_224 : decode cL_law 224 = .ok (.aload_n 1, 1) := dk_43 (dk_at dksL_law_3 0 rfl rfl)
theorem dL_law_225 : decode cL_law 225 = .ok (.aload_n 0, 1) := dk_42 (dk_at dksL_law_3 1 rfl rfl)
theorem dL_law_226 : decode cL_law 226 = .ok (.iload 4, 2) := dk_21 4 (dk_at dksL_law_3 2 rfl rfl)
theorem dL_law_228 : decode cL_law 228 = .ok (.iconst 1, 1) := dk_4 (dk_at dksL_law_3 4 rfl rfl)
theorem dL_law_229 : decode cL_law 229 = .ok (.iadd, 1) := dk_96 (dk_at dksL_law_3 5 rfl rfl)
theorem dL_law_230 : decode cL_law 230 = .ok (.iaload, 1) := dk_46 (dk_at dksL_law_3 6 rfl rfl)
theorem dL_law_231 : decode cL_law 231 = .ok (.aload_n 3, 1) := dk_45 (dk_at dksL_law_3 7 rfl rfl)
theorem dL_law_232 : decode cL_law 232 = .ok (.invokestatic 133, 3) := dk_184 0 133 (dk_at dksL_law_3 8 rfl rfl)
theorem dL_law_235 : decode cL_law 235 = .ok (.istore 5, 2) := dk_54 5 (dk_at dksL_law_3 11 rfl rfl)
theorem dL_law_237 : decode cL_law 237 = .ok (.aload_n 2, 1) := dk_44 (dk_at dksL_law_3 13 rfl rfl)
theorem dL_law_238 : decode cL_law 238 = .ok (.aload_n 0, 1) := dk_42 (dk_at dksL_law_3 14 rfl rfl)
theorem dL_law_239 : decode cL_law 239 = .ok (.iload 4, 2) := dk_21 4 (dk_at dksL_law_3 15 rfl rfl)
theorem dL_law_241 : decode cL_law 241 = .ok (.iconst 1, 1) := dk_4 (dk_at dksL_law_3 17 rfl rfl)
theorem dL_law_242 : decode cL_law 242 = .ok (.iadd, 1) := dk_96 (dk_at dksL_law_3 18 rfl rfl)
theorem dL_law_243 : decode cL_law 243 = .ok (.iaload, 1) := dk_46 (dk_at dksL_law_3 19 rfl rfl)
theorem dL_law_244 : decode cL_law 244 = .ok (.invokevirtual 138, 3) := dk_182 0 138 (dk_at dksL_law_3 20 rfl rfl)
theorem dL_law_247 : decode cL_law 247 = .ok (.istore 6, 2) := dk_54 6 (dk_at dksL_law_4 0 rfl rfl)
theorem dL_law_249 : decode cL_law 249 = .ok (.aload_n 2, 1) := dk_44 (dk_at dksL_law_4 2 rfl rfl)
theorem dL_law_250 : decode cL_law 250 = .ok (.invokevirtual 139, 3) := dk_182 0 139 (dk_at dksL_law_4 3 rfl rfl)
theorem dL_law_253 : decode cL_law 253 = .ok (.iload 5, 2) := dk_21 5 (dk_at dksL_law_4 6 rfl rfl)
theorem dL_law_255 : decode cL_law 255 = .ok (.if_icmp .eq 5, 3) := dk_159 0 5 (dk_at dksL_law_4 8 rfl rfl)
theorem dL_law_258 : decode cL_law 258 = .ok (.iconst 0, 1) := dk_3 (dk_at dksL_law_4 11 rfl rfl)
theorem dL_law_259 : decode cL_law 259 = .ok (.ireturn, 1) := dk_172 (dk_at dksL_law_4 12 rfl rfl)
theorem dL_law_260 : decode cL_law 260 = .ok (.iload 5, 2) := dk_21 5 (dk_at dksL_law_4 13 rfl rfl)
theorem dL_law_262 : decode cL_law 262 = .ok (.ifCond .ne 15, 3) := dk_154 0 15 (dk_at dksL_law_4 15 rfl rfl)
theorem dL_law_265 : decode cL_law 265 = .ok (.aload_n 3, 1) := dk_45 (dk_at dksL_law_4 18 rfl rfl)
theorem dL_law_266 : decode cL_law 266 = .ok (.iconst 0, 1) := dk_3 (dk_at dksL_law_4 19 rfl rfl)
theorem dL_law_267 : decode cL_law 267 = .ok (.laload, 1) := dk_47 (dk_at dksL_law_4 20 rfl rfl)
theorem dL_law_268 : decode cL_law 268 = .ok (.iload 6, 2) := dk_21 6 (dk_at dksL_law_4 21 rfl rfl)
theorem dL_law_270 : decode cL_law 270 = .ok (.i2l, 1) := dk_133 (dk_at dksL_law_4 23 rfl rfl)
theorem dL_law_271 : decode cL_law 271 = .ok (.lcmp, 1) := dk_148 (dk_at dksL_law_5 0 rfl rfl)
theorem dL_law_272 : decode cL_law 272 = .ok (.ifCond .eq 5, 3) := dk_153 0 5 (dk_at dksL_law_5 1 rfl rfl)
theorem dL_law_275 : decode cL_law 275 = .ok (.iconst 0, 1) := dk_3 (dk_at dksL_law_5 4 rfl rfl)
theorem dL_law_276 : decode cL_law 276 = .ok (.ireturn, 1) := dk_172 (dk_at dksL_law_5 5 rfl rfl)
theorem dL_law_277 : decode cL_law 277 = .ok (.goto 2273, 3) := dk_167 8 225 (dk_at dksL_law_5 6 rfl rfl)
theorem dL_law_280 : decode cL_law 280 = .ok (.aload_n 1, 1) := dk_43 (dk_at dksL_law_5 9 rfl rfl)
theorem dL_law_281 : decode cL_law 281 = .ok (.invokevirtual 142, 3) := dk_182 0 142 (dk_at dksL_law_5 10 rfl rfl)
theorem dL_law_284 : decode cL_law 284 = .ok (.aload_n 2, 1) := dk_44 (dk_at dksL_law_5 13 rfl rfl)
theorem dL_law_285 : decode cL_law 285 = .ok (.invokevirtual 145, 3) := dk_182 0 145 (dk_at dksL_law_5 14 rfl rfl)
theorem dL_law_288 : decode cL_law 288 = .ok (.if_icmp .eq 2262, 3) := dk_159 8 214 (dk_at dksL_law_5 17 rfl rfl)
theorem dL_law_291 : decode cL_law 291 = .ok (.iconst 0, 1) := dk_3 (dk_at dksL_law_5 20 rfl rfl)
theorem dL_law_292 : decode cL_law 292 = .ok (.ireturn, 1) := dk_172 (dk_at dksL_law_5 21 rfl rfl)
theorem dL_law_293 : decode cL_law 293 = .ok (.aload_n 1, 1) := dk_43 (dk_at dksL_law_5 22 rfl rfl)
theorem dL_law_294 : decode cL_law 294 = .ok (.invokevirtual 146, 3) := dk_182 0 146 (dk_at dksL_law_6 0 rfl rfl)
theorem dL_law_297 : decode cL_law 297 = .ok (.aload_n 2, 1) := dk_44 (dk_at dksL_law_6 3 rfl rfl)
theorem dL_law_298 : decode cL_law 298 = .ok (.invokevirtual 149, 3) := dk_182 0 149 (dk_at dksL_law_6 4 rfl rfl)
theorem dL_law_301 : decode cL_law 301 = .ok (.if_icmp .eq 2249, 3) := dk_159 8 201 (dk_at dksL_law_6 7 rfl rfl)
theorem dL_law_304 : decode cL_law 304 = .ok (.iconst 0, 1) := dk_3 (dk_at dksL_law_6 10 rfl rfl)
theorem dL_law_305 : decode cL_law 305 = .ok (.ireturn, 1) := dk_172 (dk_at dksL_law_6 11 rfl rfl)
theorem dL_law_306 : decode cL_law 306 = .ok (.aload_n 1, 1) := dk_43 (dk_at dksL_law_6 12 rfl rfl)
theorem dL_law_307 : decode cL_law 307 = .ok (.aload_n 3, 1) := dk_45 (dk_at dksL_law_6 13 rfl rfl)
theorem dL_law_308 : decode cL_law 308 = .ok (.invokestatic 150, 3) := dk_184 0 150 (dk_at dksL_law_6 14 rfl rfl)
theorem dL_law_311 : decode cL_law 311 = .ok (.istore 5, 2) := dk_54 5 (dk_at dksL_law_6 17 rfl rfl)
theorem dL_law_313 : decode cL_law 313 = .ok (.aload_n 2, 1) := dk_44 (dk_at dksL_law_6 19 rfl rfl)
theorem dL_law_314 : decode cL_law 314 = .ok (.invokevirtual 153, 3) := dk_182 0 153 (dk_at dksL_law_6 20 rfl rfl)
theorem dL_law_317 : decode cL_law 317 = .ok (.istore 6, 2) := dk_54 6 (dk_at dksL_law_7 0 rfl rfl)
theorem dL_law_319 : decode cL_law 319 = .ok (.aload_n 2, 1) := dk_44 (dk_at dksL_law_7 2 rfl rfl)
theorem dL_law_320 : decode cL_law 320 = .ok (.invokevirtual 139, 3) := dk_182 0 139 (dk_at dksL_law_7 3 rfl rfl)
theorem dL_law_323 : decode cL_law 323 = .ok (.iload 5, 2) := dk_21 5 (dk_at dksL_law_7 6 rfl rfl)
theorem dL_law_325 : decode cL_law 325 = .ok (.if_icmp .eq 5, 3) := dk_159 0 5 (dk_at dksL_law_7 8 rfl rfl)
theorem dL_law_328 : decode cL_law 328 = .ok (.iconst 0, 1) := dk_3 (dk_at dksL_law_7 11 rfl rfl)
theorem dL_law_329 : decode cL_law 329 = .ok (.ireturn, 1) := dk_172 (dk_at dksL_law_7 12 rfl rfl)
theorem dL_law_330 : decode cL_law 330 = .ok (.iload 5, 2) := dk_21 5 (dk_at dksL_law_7 13 rfl rfl)
theorem dL_law_332 : decode cL_law 332 = .ok (.ifCond .ne 15, 3) := dk_154 0 15 (dk_at dksL_law_7 15 rfl rfl)
theorem dL_law_335 : decode cL_law 335 = .ok (.aload_n 3, 1) := dk_45 (dk_at dksL_law_7 18 rfl rfl)
theorem dL_law_336 : decode cL_law 336 = .ok (.iconst 0, 1) := dk_3 (dk_at dksL_law_7 19 rfl rfl)
theorem dL_law_337 : decode cL_law 337 = .ok (.laload, 1) := dk_47 (dk_at dksL_law_7 20 rfl rfl)
theorem dL_law_338 : decode cL_law 338 = .ok (.iload 6, 2) := dk_21 6 (dk_at dksL_law_7 21 rfl rfl)
theorem dL_law_340 : decode cL_law 340 = .ok (.i2l, 1) := dk_133 (dk_at dksL_law_7 23 rfl rfl)
theorem dL_law_341 : decode cL_law 341 = .ok (.lcmp, 1) := dk_148 (dk_at dksL_law_8 0 rfl rfl)
theorem dL_law_342 : decode cL_law 342 = .ok (.ifCond .eq 5, 3) := dk_153 0 5 (dk_at dksL_law_8 1 rfl rfl)
theorem dL_law_345 : decode cL_law 345 = .ok (.iconst 0, 1) := dk_3 (dk_at dksL_law_8 4 rfl rfl)
theorem dL_law_346 : decode cL_law 346 = .ok (.ireturn, 1) := dk_172 (dk_at dksL_law_8 5 rfl rfl)
theorem dL_law_347 : decode cL_law 347 = .ok (.goto 2203, 3) := dk_167 8 155 (dk_at dksL_law_8 6 rfl rfl)
theorem dL_law_350 : decode cL_law 350 = .ok (.aload_n 1, 1) := dk_43 (dk_at dksL_law_8 9 rfl rfl)
theorem dL_law_351 : decode cL_law 351 = .ok (.aload_n 0, 1) := dk_42 (dk_at dksL_law_8 10 rfl rfl)
theorem dL_law_352 : decode cL_law 352 = .ok (.iload 4, 2) := dk_21 4 (dk_at dksL_law_8 11 rfl rfl)
theorem dL_law_354 : decode cL_law 354 = .ok (.iconst 1, 1) := dk_4 (dk_at dksL_law_8 13 rfl rfl)
theorem dL_law_355 : decode cL_law 355 = .ok (.iadd, 1) := dk_96 (dk_at dksL_law_8 14 rfl rfl)
theorem dL_law_356 : decode cL_law 356 = .ok (.iaload, 1) := dk_46 (dk_at dksL_law_8 15 rfl rfl)
theorem dL_law_357 : decode cL_law 357 = .ok (.aload_n 0, 1) := dk_42 (dk_at dksL_law_8 16 rfl rfl)
theorem dL_law_358 : decode cL_law 358 = .ok (.iload 4, 2) := dk_21 4 (dk_at dksL_law_8 17 rfl rfl)
theorem dL_law_360 : decode cL_law 360 = .ok (.iconst 2, 1) := dk_5 (dk_at dksL_law_8 19 rfl rfl)
theorem dL_law_361 : decode cL_law 361 = .ok (.iadd, 1) := dk_96 (dk_at dksL_law_8 20 rfl rfl)
theorem dL_law_362 : decode cL_law 362 = .ok (.iaload, 1) := dk_46 (dk_at dksL_law_8 21 rfl rfl)
theorem dL_law_363 : decode cL_law 363 = .ok (.aload_n 3, 1) := dk_45 (dk_at dksL_law_8 22 rfl rfl)
theorem dL_law_364 : decode cL_law 364 = .ok (.invokestatic 154, 3) := dk_184 0 154 (dk_at dksL_law_9 0 rfl rfl)
theorem dL_law_367 : decode cL_law 367 = .ok (.istore 5, 2) := dk_54 5 (dk_at dksL_law_9 3 rfl rfl)
theorem dL_law_369 : decode cL_law 369 = .ok (.aload_n 2, 1) := dk_44 (dk_at dksL_law_9 5 rfl rfl)
theorem dL_law_370 : decode cL_law 370 = .ok (.aload_n 0, 1) := dk_42 (dk_at dksL_law_9 6 rfl rfl)
theorem dL_law_371 : decode cL_law 371 = .ok (.iload 4, 2) := dk_21 4 (dk_at dksL_law_9 7 rfl rfl)
theorem dL_law_373 : decode cL_law 373 = .ok (.iconst 1, 1) := dk_4 (dk_at dksL_law_9 9 rfl rfl)
theorem dL_law_374 : decode cL_law 374 = .ok (.iadd, 1) := dk_96 (dk_at dksL_law_9 10 rfl rfl)
theorem dL_law_375 : decode cL_law 375 = .ok (.iaload, 1) := dk_46 (dk_at dksL_law_9 11 rfl rfl)
theorem dL_law_376 : decode cL_law 376 = .ok (.aload_n 0, 1) := dk_42 (dk_at dksL_law_9 12 rfl rfl)
theorem dL_law_377 : decode cL_law 377 = .ok (.iload 4, 2) := dk_21 4 (dk_at dksL_law_9 13 rfl rfl)
theorem dL_law_379 : decode cL_law 379 = .ok (.iconst 2, 1) := dk_5 (dk_at dksL_law_9 15 rfl rfl)
theorem dL_law_380 : decode cL_law 380 = .ok (.iadd, 1) := dk_96 (dk_at dksL_law_9 16 rfl rfl)
theorem dL_law_381 : decode cL_law 381 = .ok (.iaload, 1) := dk_46 (dk_at dksL_law_9 17 rfl rfl)
theorem dL_law_382 : decode cL_law 382 = .ok (.invokevirtual 157, 3) := dk_182 0 157 (dk_at dksL_law_9 18 rfl rfl)
theorem dL_law_385 : decode cL_law 385 = .ok (.istore 6, 2) := dk_54 6 (dk_at dksL_law_9 21 rfl rfl)
theorem dL_law_387 : decode cL_law 387 = .ok (.aload_n 2, 1) := dk_44 (dk_at dksL_law_9 23 rfl rfl)
theorem dL_law_388 : decode cL_law 388 = .ok (.invokevirtual 139, 3) := dk_182 0 139 (dk_at dksL_law_10 0 rfl rfl)
theorem dL_law_391 : decode cL_law 391 = .ok (.iload 5, 2) := dk_21 5 (dk_at dksL_law_10 3 rfl rfl)
theorem dL_law_393 : decode cL_law 393 = .ok (.if_icmp .eq 5, 3) := dk_159 0 5 (dk_at dksL_law_10 5 rfl rfl)
theorem dL_law_396 : decode cL_law 396 = .ok (.iconst 0, 1) := dk_3 (dk_at dksL_law_10 8 rfl rfl)
theorem dL_law_397 : decode cL_law 397 = .ok (.ireturn, 1) := dk_172 (dk_at dksL_law_10 9 rfl rfl)
theorem dL_law_398 : decode cL_law 398 = .ok (.iload 5, 2) := dk_21 5 (dk_at dksL_law_10 10 rfl rfl)
theorem dL_law_400 : decode cL_law 400 = .ok (.ifCond .ne 15, 3) := dk_154 0 15 (dk_at dksL_law_10 12 rfl rfl)
theorem dL_law_403 : decode cL_law 403 = .ok (.aload_n 3, 1) := dk_45 (dk_at dksL_law_10 15 rfl rfl)
theorem dL_law_404 : decode cL_law 404 = .ok (.iconst 0, 1) := dk_3 (dk_at dksL_law_10 16 rfl rfl)
theorem dL_law_405 : decode cL_law 405 = .ok (.laload, 1) := dk_47 (dk_at dksL_law_10 17 rfl rfl)
theorem dL_law_406 : decode cL_law 406 = .ok (.iload 6, 2) := dk_21 6 (dk_at dksL_law_10 18 rfl rfl)
theorem dL_law_408 : decode cL_law 408 = .ok (.i2l, 1) := dk_133 (dk_at dksL_law_10 20 rfl rfl)
theorem dL_law_409 : decode cL_law 409 = .ok (.lcmp, 1) := dk_148 (dk_at dksL_law_10 21 rfl rfl)
theorem dL_law_410 : decode cL_law 410 = .ok (.ifCond .eq 5, 3) := dk_153 0 5 (dk_at dksL_law_11 0 rfl rfl)
theorem dL_law_413 : decode cL_law 413 = .ok (.iconst 0, 1) := dk_3 (dk_at dksL_law_11 3 rfl rfl)
theorem dL_law_414 : decode cL_law 414 = .ok (.ireturn, 1) := dk_172 (dk_at dksL_law_11 4 rfl rfl)
theorem dL_law_415 : decode cL_law 415 = .ok (.goto 2135, 3) := dk_167 8 87 (dk_at dksL_law_11 5 rfl rfl)
theorem dL_law_418 : decode cL_law 418 = .ok (.aload_n 1, 1) := dk_43 (dk_at dksL_law_11 8 rfl rfl)
theorem dL_law_419 : decode cL_law 419 = .ok (.aload_n 0, 1) := dk_42 (dk_at dksL_law_11 9 rfl rfl)
theorem dL_law_420 : decode cL_law 420 = .ok (.iload 4, 2) := dk_21 4 (dk_at dksL_law_11 10 rfl rfl)
theorem dL_law_422 : decode cL_law 422 = .ok (.iconst 1, 1) := dk_4 (dk_at dksL_law_11 12 rfl rfl)
theorem dL_law_423 : decode cL_law 423 = .ok (.iadd, 1) := dk_96 (dk_at dksL_law_11 13 rfl rfl)
theorem dL_law_424 : decode cL_law 424 = .ok (.iaload, 1) := dk_46 (dk_at dksL_law_11 14 rfl rfl)
theorem dL_law_425 : decode cL_law 425 = .ok (.aload_n 0, 1) := dk_42 (dk_at dksL_law_11 15 rfl rfl)
theorem dL_law_426 : decode cL_law 426 = .ok (.iload 4, 2) := dk_21 4 (dk_at dksL_law_11 16 rfl rfl)
theorem dL_law_428 : decode cL_law 428 = .ok (.iconst 2, 1) := dk_5 (dk_at dksL_law_11 18 rfl rfl)
theorem dL_law_429 : decode cL_law 429 = .ok (.iadd, 1) := dk_96 (dk_at dksL_law_11 19 rfl rfl)
theorem dL_law_430 : decode cL_law 430 = .ok (.iaload, 1) := dk_46 (dk_at dksL_law_11 20 rfl rfl)
theorem dL_law_431 : decode cL_law 431 = .ok (.aload_n 0, 1) := dk_42 (dk_at dksL_law_11 21 rfl rfl)
theorem dL_law_432 : decode cL_law 432 = .ok (.iload 4, 2) := dk_21 4 (dk_at dksL_law_11 22 rfl rfl)
theorem dL_law_434 : decode cL_law 434 = .ok (.iconst 3, 1) := dk_6 (dk_at dksL_law_12 0 rfl rfl)
theorem dL_law_435 : decode cL_law 435 = .ok (.iadd, 1) := dk_96 (dk_at dksL_law_12 1 rfl rfl)
theorem dL_law_436 : decode cL_law 436 = .ok (.iaload, 1) := dk_46 (dk_at dksL_law_12 2 rfl rfl)
theorem dL_law_437 : decode cL_law 437 = .ok (.aload_n 3, 1) := dk_45 (dk_at dksL_law_12 3 rfl rfl)
theorem dL_law_438 : decode cL_law 438 = .ok (.invokestatic 158, 3) := dk_184 0 158 (dk_at dksL_law_12 4 rfl rfl)
theorem dL_law_441 : decode cL_law 441 = .ok (.istore 5, 2) := dk_54 5 (dk_at dksL_law_12 7 rfl rfl)
theorem dL_law_443 : decode cL_law 443 = .ok (.aload_n 2, 1) := dk_44 (dk_at dksL_law_12 9 rfl rfl)
theorem dL_law_444 : decode cL_law 444 = .ok (.aload_n 0, 1) := dk_42 (dk_at dksL_law_12 10 rfl rfl)
theorem dL_law_445 : decode cL_law 445 = .ok (.iload 4, 2) := dk_21 4 (dk_at dksL_law_12 11 rfl rfl)
theorem dL_law_447 : decode cL_law 447 = .ok (.iconst 1, 1) := dk_4 (dk_at dksL_law_12 13 rfl rfl)
theorem dL_law_448 : decode cL_law 448 = .ok (.iadd, 1) := dk_96 (dk_at dksL_law_12 14 rfl rfl)
theorem dL_law_449 : decode cL_law 449 = .ok (.iaload, 1) := dk_46 (dk_at dksL_law_12 15 rfl rfl)
theorem dL_law_450 : decode cL_law 450 = .ok (.aload_n 0, 1) := dk_42 (dk_at dksL_law_12 16 rfl rfl)
theorem dL_law_451 : decode cL_law 451 = .ok (.iload 4, 2) := dk_21 4 (dk_at dksL_law_12 17 rfl rfl)
theorem dL_law_453 : decode cL_law 453 = .ok (.iconst 2, 1) := dk_5 (dk_at dksL_law_12 19 rfl rfl)
theorem dL_law_454 : decode cL_law 454 = .ok (.iadd, 1) := dk_96 (dk_at dksL_law_12 20 rfl rfl)
theorem dL_law_455 : decode cL_law 455 = .ok (.iaload, 1) := dk_46 (dk_at dksL_law_12 21 rfl rfl)
theorem dL_law_456 : decode cL_law 456 = .ok (.aload_n 0, 1) := dk_42 (dk_at dksL_law_12 22 rfl rfl)
theorem dL_law_457 : decode cL_law 457 = .ok (.iload 4, 2) := dk_21 4 (dk_at dksL_law_13 0 rfl rfl)
theorem dL_law_459 : decode cL_law 459 = .ok (.iconst 3, 1) := dk_6 (dk_at dksL_law_13 2 rfl rfl)
theorem dL_law_460 : decode cL_law 460 = .ok (.iadd, 1) := dk_96 (dk_at dksL_law_13 3 rfl rfl)
theorem dL_law_461 : decode cL_law 461 = .ok (.iaload, 1) := dk_46 (dk_at dksL_law_13 4 rfl rfl)
theorem dL_law_462 : decode cL_law 462 = .ok (.invokevirtual 161, 3) := dk_182 0 161 (dk_at dksL_law_13 5 rfl rfl)
theorem dL_law_465 : decode cL_law 465 = .ok (.istore 6, 2) := dk_54 6 (dk_at dksL_law_13 8 rfl rfl)
theorem dL_law_467 : decode cL_law 467 = .ok (.aload_n 2, 1) := dk_44 (dk_at dksL_law_13 10 rfl rfl)
theorem dL_law_468 : decode cL_law 468 = .ok (.invokevirtual 139, 3) := dk_182 0 139 (dk_at dksL_law_13 11 rfl rfl)
theorem dL_law_471 : decode cL_law 471 = .ok (.iload 5, 2) := dk_21 5 (dk_at dksL_law_13 14 rfl rfl)
theorem dL_law_473 : decode cL_law 473 = .ok (.if_icmp .eq 5, 3) := dk_159 0 5 (dk_at dksL_law_13 16 rfl rfl)
theorem dL_law_476 : decode cL_law 476 = .ok (.iconst 0, 1) := dk_3 (dk_at dksL_law_13 19 rfl rfl)
theorem dL_law_477 : decode cL_law 477 = .ok (.ireturn, 1) := dk_172 (dk_at dksL_law_13 20 rfl rfl)
theorem dL_law_478 : decode cL_law 478 = .ok (.iload 5, 2) := dk_21 5 (dk_at dksL_law_13 21 rfl rfl)
theorem dL_law_480 : decode cL_law 480 = .ok (.ifCond .ne 15, 3) := dk_154 0 15 (dk_at dksL_law_14 0 rfl rfl)
theorem dL_law_483 : decode cL_law 483 = .ok (.aload_n 3, 1) := dk_45 (dk_at dksL_law_14 3 rfl rfl)
theorem dL_law_484 : decode cL_law 484 = .ok (.iconst 0, 1) := dk_3 (dk_at dksL_law_14 4 rfl rfl)
theorem dL_law_485 : decode cL_law 485 = .ok (.laload, 1) := dk_47 (dk_at dksL_law_14 5 rfl rfl)
theorem dL_law_486 : decode cL_law 486 = .ok (.iload 6, 2) := dk_21 6 (dk_at dksL_law_14 6 rfl rfl)
theorem dL_law_488 : decode cL_law 488 = .ok (.i2l, 1) := dk_133 (dk_at dksL_law_14 8 rfl rfl)
theorem dL_law_489 : decode cL_law 489 = .ok (.lcmp, 1) := dk_148 (dk_at dksL_law_14 9 rfl rfl)
theorem dL_law_490 : decode cL_law 490 = .ok (.ifCond .eq 5, 3) := dk_153 0 5 (dk_at dksL_law_14 10 rfl rfl)
theorem dL_law_493 : decode cL_law 493 = .ok (.iconst 0, 1) := dk_3 (dk_at dksL_law_14 13 rfl rfl)
theorem dL_law_494 : decode cL_law 494 = .ok (.ireturn, 1) := dk_172 (dk_at dksL_law_14 14 rfl rfl)
theorem dL_law_495 : decode cL_law 495 = .ok (.goto 2055, 3) := dk_167 8 7 (dk_at dksL_law_14 15 rfl rfl)
theorem dL_law_498 : decode cL_law 498 = .ok (.aload_n 1, 1) := dk_43 (dk_at dksL_law_14 18 rfl rfl)
theorem dL_law_499 : decode cL_law 499 = .ok (.aload_n 0, 1) := dk_42 (dk_at dksL_law_14 19 rfl rfl)
theorem dL_law_500 : decode cL_law 500 = .ok (.iload 4, 2) := dk_21 4 (dk_at dksL_law_14 20 rfl rfl)
theorem dL_law_502 : decode cL_law 502 = .ok (.iconst 1, 1) := dk_4 (dk_at dksL_law_14 22 rfl rfl)
theorem dL_law_503 : decode cL_law 503 = .ok (.iadd, 1) := dk_96 (dk_at dksL_law_14 23 rfl rfl)
theorem dL_law_504 : decode cL_law 504 = .ok (.iaload, 1) := dk_46 (dk_at dksL_law_15 0 rfl rfl)
theorem dL_law_505 : decode cL_law 505 = .ok (.aload_n 0, 1) := dk_42 (dk_at dksL_law_15 1 rfl rfl)
theorem dL_law_506 : decode cL_law 506 = .ok (.iload 4, 2) := dk_21 4 (dk_at dksL_law_15 2 rfl rfl)
theorem dL_law_508 : decode cL_law 508 = .ok (.iconst 2, 1) := dk_5 (dk_at dksL_law_15 4 rfl rfl)
theorem dL_law_509 : decode cL_law 509 = .ok (.iadd, 1) := dk_96 (dk_at dksL_law_15 5 rfl rfl)
theorem dL_law_510 : decode cL_law 510 = .ok (.iaload, 1) := dk_46 (dk_at dksL_law_15 6 rfl rfl)
theorem dL_law_511 : decode cL_law 511 = .ok (.aload_n 3, 1) := dk_45 (dk_at dksL_law_15 7 rfl rfl)
theorem dL_law_512 : decode cL_law 512 = .ok (.invokestatic 162, 3) := dk_184 0 162 (dk_at dksL_law_15 8 rfl rfl)
theorem dL_law_515 : decode cL_law 515 = .ok (.istore 5, 2) := dk_54 5 (dk_at dksL_law_15 11 rfl rfl)
theorem dL_law_517 : decode cL_law 517 = .ok (.aload_n 2, 1) := dk_44 (dk_at dksL_law_15 13 rfl rfl)
theorem dL_law_518 : decode cL_law 518 = .ok (.aload_n 0, 1) := dk_42 (dk_at dksL_law_15 14 rfl rfl)
theorem dL_law_519 : decode cL_law 519 = .ok (.iload 4, 2) := dk_21 4 (dk_at dksL_law_15 15 rfl rfl)
theorem dL_law_521 : decode cL_law 521 = .ok (.iconst 1, 1) := dk_4 (dk_at dksL_law_15 17 rfl rfl)
theorem dL_law_522 : decode cL_law 522 = .ok (.iadd, 1) := dk_96 (dk_at dksL_law_15 18 rfl rfl)
theorem dL_law_523 : decode cL_law 523 = .ok (.iaload, 1) := dk_46 (dk_at dksL_law_15 19 rfl rfl)
theorem dL_law_524 : decode cL_law 524 = .ok (.aload_n 0, 1) := dk_42 (dk_at dksL_law_15 20 rfl rfl)
theorem dL_law_525 : decode cL_law 525 = .ok (.iload 4, 2) := dk_21 4 (dk_at dksL_law_15 21 rfl rfl)
theorem dL_law_527 : decode cL_law 527 = .ok (.iconst 2, 1) := dk_5 (dk_at dksL_law_15 23 rfl rfl)
theorem dL_law_528 : decode cL_law 528 = .ok (.iadd, 1) := dk_96 (dk_at dksL_law_16 0 rfl rfl)
theorem dL_law_529 : decode cL_law 529 = .ok (.iaload, 1) := dk_46 (dk_at dksL_law_16 1 rfl rfl)
theorem dL_law_530 : decode cL_law 530 = .ok (.invokevirtual 164, 3) := dk_182 0 164 (dk_at dksL_law_16 2 rfl rfl)
theorem dL_law_533 : decode cL_law 533 = .ok (.istore 6, 2) := dk_54 6 (dk_at dksL_law_16 5 rfl rfl)
theorem dL_law_535 : decode cL_law 535 = .ok (.aload_n 2, 1) := dk_44 (dk_at dksL_law_16 7 rfl rfl)
theorem dL_law_536 : decode cL_law 536 = .ok (.invokevirtual 139, 3) := dk_182 0 139 (dk_at dksL_law_16 8 rfl rfl)
theorem dL_law_539 : decode cL_law 539 = .ok (.iload 5, 2) := dk_21 5 (dk_at dksL_law_16 11 rfl rfl)
theorem dL_law_541 : decode cL_law 541 = .ok (.if_icmp .eq 5, 3) := dk_159 0 5 (dk_at dksL_law_16 13 rfl rfl)
theorem dL_law_544 : decode cL_law 544 = .ok (.iconst 0, 1) := dk_3 (dk_at dksL_law_16 16 rfl rfl)
theorem dL_law_545 : decode cL_law 545 = .ok (.ireturn, 1) := dk_172 (dk_at dksL_law_16 17 rfl rfl)
theorem dL_law_546 : decode cL_law 546 = .ok (.iload 5, 2) := dk_21 5 (dk_at dksL_law_16 18 rfl rfl)
theorem dL_law_548 : decode cL_law 548 = .ok (.ifCond .ne 15, 3) := dk_154 0 15 (dk_at dksL_law_16 20 rfl rfl)
theorem dL_law_551 : decode cL_law 551 = .ok (.aload_n 3, 1) := dk_45 (dk_at dksL_law_16 23 rfl rfl)
theorem dL_law_552 : decode cL_law 552 = .ok (.iconst 0, 1) := dk_3 (dk_at dksL_law_17 0 rfl rfl)
theorem dL_law_553 : decode cL_law 553 = .ok (.laload, 1) := dk_47 (dk_at dksL_law_17 1 rfl rfl)
theorem dL_law_554 : decode cL_law 554 = .ok (.iload 6, 2) := dk_21 6 (dk_at dksL_law_17 2 rfl rfl)
theorem dL_law_556 : decode cL_law 556 = .ok (.i2l, 1) := dk_133 (dk_at dksL_law_17 4 rfl rfl)
theorem dL_law_557 : decode cL_law 557 = .ok (.lcmp, 1) := dk_148 (dk_at dksL_law_17 5 rfl rfl)
theorem dL_law_558 : decode cL_law 558 = .ok (.ifCond .eq 5, 3) := dk_153 0 5 (dk_at dksL_law_17 6 rfl rfl)
theorem dL_law_561 : decode cL_law 561 = .ok (.iconst 0, 1) := dk_3 (dk_at dksL_law_17 9 rfl rfl)
theorem dL_law_562 : decode cL_law 562 = .ok (.ireturn, 1) := dk_172 (dk_at dksL_law_17 10 rfl rfl)
theorem dL_law_563 : decode cL_law 563 = .ok (.goto 1987, 3) := dk_167 7 195 (dk_at dksL_law_17 11 rfl rfl)
theorem dL_law_566 : decode cL_law 566 = .ok (.aload_n 1, 1) := dk_43 (dk_at dksL_law_17 14 rfl rfl)
theorem dL_law_567 : decode cL_law 567 = .ok (.aload_n 0, 1) := dk_42 (dk_at dksL_law_17 15 rfl rfl)
theorem dL_law_568 : decode cL_law 568 = .ok (.iload 4, 2) := dk_21 4 (dk_at dksL_law_17 16 rfl rfl)
theorem dL_law_570 : decode cL_law 570 = .ok (.iconst 1, 1) := dk_4 (dk_at dksL_law_17 18 rfl rfl)
theorem dL_law_571 : decode cL_law 571 = .ok (.iadd, 1) := dk_96 (dk_at dksL_law_17 19 rfl rfl)
theorem dL_law_572 : decode cL_law 572 = .ok (.iaload, 1) := dk_46 (dk_at dksL_law_17 20 rfl rfl)
theorem dL_law_573 : decode cL_law 573 = .ok (.aload_n 0, 1) := dk_42 (dk_at dksL_law_17 21 rfl rfl)
theorem dL_law_574 : decode cL_law 574 = .ok (.iload 4, 2) := dk_21 4 (dk_at dksL_law_17 22 rfl rfl)
theorem dL_law_576 : decode cL_law 576 = .ok (.iconst 2, 1) := dk_5 (dk_at dksL_law_18 0 rfl rfl)
theorem dL_law_577 : decode cL_law 577 = .ok (.iadd, 1) := dk_96 (dk_at dksL_law_18 1 rfl rfl)
theorem dL_law_578 : decode cL_law 578 = .ok (.iaload, 1) := dk_46 (dk_at dksL_law_18 2 rfl rfl)
theorem dL_law_579 : decode cL_law 579 = .ok (.aload_n 3, 1) := dk_45 (dk_at dksL_law_18 3 rfl rfl)
theorem dL_law_580 : decode cL_law 580 = .ok (.invokestatic 165, 3) := dk_184 0 165 (dk_at dksL_law_18 4 rfl rfl)
theorem dL_law_583 : decode cL_law 583 = .ok (.istore 5, 2) := dk_54 5 (dk_at dksL_law_18 7 rfl rfl)
theorem dL_law_585 : decode cL_law 585 = .ok (.aload_n 2, 1) := dk_44 (dk_at dksL_law_18 9 rfl rfl)
theorem dL_law_586 : decode cL_law 586 = .ok (.aload_n 0, 1) := dk_42 (dk_at dksL_law_18 10 rfl rfl)
theorem dL_law_587 : decode cL_law 587 = .ok (.iload 4, 2) := dk_21 4 (dk_at dksL_law_18 11 rfl rfl)
theorem dL_law_589 : decode cL_law 589 = .ok (.iconst 1, 1) := dk_4 (dk_at dksL_law_18 13 rfl rfl)
theorem dL_law_590 : decode cL_law 590 = .ok (.iadd, 1) := dk_96 (dk_at dksL_law_18 14 rfl rfl)
theorem dL_law_591 : decode cL_law 591 = .ok (.iaload, 1) := dk_46 (dk_at dksL_law_18 15 rfl rfl)
theorem dL_law_592 : decode cL_law 592 = .ok (.aload_n 0, 1) := dk_42 (dk_at dksL_law_18 16 rfl rfl)
theorem dL_law_593 : decode cL_law 593 = .ok (.iload 4, 2) := dk_21 4 (dk_at dksL_law_18 17 rfl rfl)
theorem dL_law_595 : decode cL_law 595 = .ok (.iconst 2, 1) := dk_5 (dk_at dksL_law_18 19 rfl rfl)
theorem dL_law_596 : decode cL_law 596 = .ok (.iadd, 1) := dk_96 (dk_at dksL_law_18 20 rfl rfl)
theorem dL_law_597 : decode cL_law 597 = .ok (.iaload, 1) := dk_46 (dk_at dksL_law_18 21 rfl rfl)
theorem dL_law_598 : decode cL_law 598 = .ok (.invokevirtual 167, 3) := dk_182 0 167 (dk_at dksL_law_19 0 rfl rfl)
theorem dL_law_601 : decode cL_law 601 = .ok (.istore 6, 2) := dk_54 6 (dk_at dksL_law_19 3 rfl rfl)
theorem dL_law_603 : decode cL_law 603 = .ok (.aload_n 2, 1) := dk_44 (dk_at dksL_law_19 5 rfl rfl)
theorem dL_law_604 : decode cL_law 604 = .ok (.invokevirtual 139, 3) := dk_182 0 139 (dk_at dksL_law_19 6 rfl rfl)
theorem dL_law_607 : decode cL_law 607 = .ok (.iload 5, 2) := dk_21 5 (dk_at dksL_law_19 9 rfl rfl)
theorem dL_law_609 : decode cL_law 609 = .ok (.if_icmp .eq 5, 3) := dk_159 0 5 (dk_at dksL_law_19 11 rfl rfl)
theorem dL_law_612 : decode cL_law 612 = .ok (.iconst 0, 1) := dk_3 (dk_at dksL_law_19 14 rfl rfl)
theorem dL_law_613 : decode cL_law 613 = .ok (.ireturn, 1) := dk_172 (dk_at dksL_law_19 15 rfl rfl)
theorem dL_law_614 : decode cL_law 614 = .ok (.iload 5, 2) := dk_21 5 (dk_at dksL_law_19 16 rfl rfl)
theorem dL_law_616 : decode cL_law 616 = .ok (.ifCond .ne 15, 3) := dk_154 0 15 (dk_at dksL_law_19 18 rfl rfl)
theorem dL_law_619 : decode cL_law 619 = .ok (.aload_n 3, 1) := dk_45 (dk_at dksL_law_19 21 rfl rfl)
theorem dL_law_620 : decode cL_law 620 = .ok (.iconst 0, 1) := dk_3 (dk_at dksL_law_19 22 rfl rfl)
theorem dL_law_621 : decode cL_law 621 = .ok (.laload, 1) := dk_47 (dk_at dksL_law_19 23 rfl rfl)
theorem dL_law_622 : decode cL_law 622 = .ok (.iload 6, 2) := dk_21 6 (dk_at dksL_law_20 0 rfl rfl)
theorem dL_law_624 : decode cL_law 624 = .ok (.i2l, 1) := dk_133 (dk_at dksL_law_20 2 rfl rfl)
theorem dL_law_625 : decode cL_law 625 = .ok (.lcmp, 1) := dk_148 (dk_at dksL_law_20 3 rfl rfl)
theorem dL_law_626 : decode cL_law 626 = .ok (.ifCond .eq 5, 3) := dk_153 0 5 (dk_at dksL_law_20 4 rfl rfl)
theorem dL_law_629 : decode cL_law 629 = .ok (.iconst 0, 1) := dk_3 (dk_at dksL_law_20 7 rfl rfl)
theorem dL_law_630 : decode cL_law 630 = .ok (.ireturn, 1) := dk_172 (dk_at dksL_law_20 8 rfl rfl)
theorem dL_law_631 : decode cL_law 631 = .ok (.goto 1919, 3) := dk_167 7 127 (dk_at dksL_law_20 9 rfl rfl)
theorem dL_law_634 : decode cL_law 634 = .ok (.aload_n 1, 1) := dk_43 (dk_at dksL_law_20 12 rfl rfl)
theorem dL_law_635 : decode cL_law 635 = .ok (.aload_n 0, 1) := dk_42 (dk_at dksL_law_20 13 rfl rfl)
theorem dL_law_636 : decode cL_law 636 = .ok (.iload 4, 2) := dk_21 4 (dk_at dksL_law_20 14 rfl rfl)
theorem dL_law_638 : decode cL_law 638 = .ok (.iconst 1, 1) := dk_4 (dk_at dksL_law_20 16 rfl rfl)
theorem dL_law_639 : decode cL_law 639 = .ok (.iadd, 1) := dk_96 (dk_at dksL_law_20 17 rfl rfl)
theorem dL_law_640 : decode cL_law 640 = .ok (.iaload, 1) := dk_46 (dk_at dksL_law_20 18 rfl rfl)
theorem dL_law_641 : decode cL_law 641 = .ok (.aload_n 0, 1) := dk_42 (dk_at dksL_law_20 19 rfl rfl)
theorem dL_law_642 : decode cL_law 642 = .ok (.iload 4, 2) := dk_21 4 (dk_at dksL_law_20 20 rfl rfl)
theorem dL_law_644 : decode cL_law 644 = .ok (.iconst 2, 1) := dk_5 (dk_at dksL_law_20 22 rfl rfl)
theorem dL_law_645 : decode cL_law 645 = .ok (.iadd, 1) := dk_96 (dk_at dksL_law_20 23 rfl rfl)
theorem dL_law_646 : decode cL_law 646 = .ok (.iaload, 1) := dk_46 (dk_at dksL_law_21 0 rfl rfl)
theorem dL_law_647 : decode cL_law 647 = .ok (.aload_n 3, 1) := dk_45 (dk_at dksL_law_21 1 rfl rfl)
theorem dL_law_648 : decode cL_law 648 = .ok (.invokestatic 168, 3) := dk_184 0 168 (dk_at dksL_law_21 2 rfl rfl)
theorem dL_law_651 : decode cL_law 651 = .ok (.istore 5, 2) := dk_54 5 (dk_at dksL_law_21 5 rfl rfl)
theorem dL_law_653 : decode cL_law 653 = .ok (.aload_n 2, 1) := dk_44 (dk_at dksL_law_21 7 rfl rfl)
theorem dL_law_654 : decode cL_law 654 = .ok (.aload_n 0, 1) := dk_42 (dk_at dksL_law_21 8 rfl rfl)
theorem dL_law_655 : decode cL_law 655 = .ok (.iload 4, 2) := dk_21 4 (dk_at dksL_law_21 9 rfl rfl)
theorem dL_law_657 : decode cL_law 657 = .ok (.iconst 1, 1) := dk_4 (dk_at dksL_law_21 11 rfl rfl)
theorem dL_law_658 : decode cL_law 658 = .ok (.iadd, 1) := dk_96 (dk_at dksL_law_21 12 rfl rfl)
theorem dL_law_659 : decode cL_law 659 = .ok (.iaload, 1) := dk_46 (dk_at dksL_law_21 13 rfl rfl)
theorem dL_law_660 : decode cL_law 660 = .ok (.aload_n 0, 1) := dk_42 (dk_at dksL_law_21 14 rfl rfl)
theorem dL_law_661 : decode cL_law 661 = .ok (.iload 4, 2) := dk_21 4 (dk_at dksL_law_21 15 rfl rfl)
theorem dL_law_663 : decode cL_law 663 = .ok (.iconst 2, 1) := dk_5 (dk_at dksL_law_21 17 rfl rfl)
theorem dL_law_664 : decode cL_law 664 = .ok (.iadd, 1) := dk_96 (dk_at dksL_law_21 18 rfl rfl)
theorem dL_law_665 : decode cL_law 665 = .ok (.iaload, 1) := dk_46 (dk_at dksL_law_21 19 rfl rfl)
theorem dL_law_666 : decode cL_law 666 = .ok (.invokevirtual 170, 3) := dk_182 0 170 (dk_at dksL_law_21 20 rfl rfl)
theorem dL_law_669 : decode cL_law 669 = .ok (.istore 6, 2) := dk_54 6 (dk_at dksL_law_22 0 rfl rfl)
theorem dL_law_671 : decode cL_law 671 = .ok (.aload_n 2, 1) := dk_44 (dk_at dksL_law_22 2 rfl rfl)
theorem dL_law_672 : decode cL_law 672 = .ok (.invokevirtual 139, 3) := dk_182 0 139 (dk_at dksL_law_22 3 rfl rfl)
theorem dL_law_675 : decode cL_law 675 = .ok (.iload 5, 2) := dk_21 5 (dk_at dksL_law_22 6 rfl rfl)
theorem dL_law_677 : decode cL_law 677 = .ok (.if_icmp .eq 5, 3) := dk_159 0 5 (dk_at dksL_law_22 8 rfl rfl)
theorem dL_law_680 : decode cL_law 680 = .ok (.iconst 0, 1) := dk_3 (dk_at dksL_law_22 11 rfl rfl)
theorem dL_law_681 : decode cL_law 681 = .ok (.ireturn, 1) := dk_172 (dk_at dksL_law_22 12 rfl rfl)
theorem dL_law_682 : decode cL_law 682 = .ok (.iload 5, 2) := dk_21 5 (dk_at dksL_law_22 13 rfl rfl)
theorem dL_law_684 : decode cL_law 684 = .ok (.ifCond .ne 15, 3) := dk_154 0 15 (dk_at dksL_law_22 15 rfl rfl)
theorem dL_law_687 : decode cL_law 687 = .ok (.aload_n 3, 1) := dk_45 (dk_at dksL_law_22 18 rfl rfl)
theorem dL_law_688 : decode cL_law 688 = .ok (.iconst 0, 1) := dk_3 (dk_at dksL_law_22 19 rfl rfl)
theorem dL_law_689 : decode cL_law 689 = .ok (.laload, 1) := dk_47 (dk_at dksL_law_22 20 rfl rfl)
theorem dL_law_690 : decode cL_law 690 = .ok (.iload 6, 2) := dk_21 6 (dk_at dksL_law_22 21 rfl rfl)
theorem dL_law_692 : decode cL_law 692 = .ok (.i2l, 1) := dk_133 (dk_at dksL_law_22 23 rfl rfl)
theorem dL_law_693 : decode cL_law 693 = .ok (.lcmp, 1) := dk_148 (dk_at dksL_law_23 0 rfl rfl)
theorem dL_law_694 : decode cL_law 694 = .ok (.ifCond .eq 5, 3) := dk_153 0 5 (dk_at dksL_law_23 1 rfl rfl)
theorem dL_law_697 : decode cL_law 697 = .ok (.iconst 0, 1) := dk_3 (dk_at dksL_law_23 4 rfl rfl)
theorem dL_law_698 : decode cL_law 698 = .ok (.ireturn, 1) := dk_172 (dk_at dksL_law_23 5 rfl rfl)
theorem dL_law_699 : decode cL_law 699 = .ok (.goto 1851, 3) := dk_167 7 59 (dk_at dksL_law_23 6 rfl rfl)
theorem dL_law_702 : decode cL_law 702 = .ok (.aload_n 1, 1) := dk_43 (dk_at dksL_law_23 9 rfl rfl)
theorem dL_law_703 : decode cL_law 703 = .ok (.aload_n 0, 1) := dk_42 (dk_at dksL_law_23 10 rfl rfl)
theorem dL_law_704 : decode cL_law 704 = .ok (.iload 4, 2) := dk_21 4 (dk_at dksL_law_23 11 rfl rfl)
theorem dL_law_706 : decode cL_law 706 = .ok (.iconst 1, 1) := dk_4 (dk_at dksL_law_23 13 rfl rfl)
theorem dL_law_707 : decode cL_law 707 = .ok (.iadd, 1) := dk_96 (dk_at dksL_law_23 14 rfl rfl)
theorem dL_law_708 : decode cL_law 708 = .ok (.iaload, 1) := dk_46 (dk_at dksL_law_23 15 rfl rfl)
theorem dL_law_709 : decode cL_law 709 = .ok (.aload_n 3, 1) := dk_45 (dk_at dksL_law_23 16 rfl rfl)
theorem dL_law_710 : decode cL_law 710 = .ok (.invokestatic 171, 3) := dk_184 0 171 (dk_at dksL_law_23 17 rfl rfl)
theorem dL_law_713 : decode cL_law 713 = .ok (.istore 5, 2) := dk_54 5 (dk_at dksL_law_23 20 rfl rfl)
theorem dL_law_715 : decode cL_law 715 = .ok (.aload_n 2, 1) := dk_44 (dk_at dksL_law_23 22 rfl rfl)
theorem dL_law_716 : decode cL_law 716 = .ok (.aload_n 0, 1) := dk_42 (dk_at dksL_law_23 23 rfl rfl)
theorem dL_law_717 : decode cL_law 717 = .ok (.iload 4, 2) := dk_21 4 (dk_at dksL_law_24 0 rfl rfl)
theorem dL_law_719 : decode cL_law 719 = .ok (.iconst 1, 1) := dk_4 (dk_at dksL_law_24 2 rfl rfl)
theorem dL_law_720 : decode cL_law 720 = .ok (.iadd, 1) := dk_96 (dk_at dksL_law_24 3 rfl rfl)
theorem dL_law_721 : decode cL_law 721 = .ok (.iaload, 1) := dk_46 (dk_at dksL_law_24 4 rfl rfl)
theorem dL_law_722 : decode cL_law 722 = .ok (.invokevirtual 173, 3) := dk_182 0 173 (dk_at dksL_law_24 5 rfl rfl)
theorem dL_law_725 : decode cL_law 725 = .ok (.istore 6, 2) := dk_54 6 (dk_at dksL_law_24 8 rfl rfl)
theorem dL_law_727 : decode cL_law 727 = .ok (.aload_n 2, 1) := dk_44 (dk_at dksL_law_24 10 rfl rfl)
theorem dL_law_728 : decode cL_law 728 = .ok (.invokevirtual 139, 3) := dk_182 0 139 (dk_at dksL_law_24 11 rfl rfl)
theorem dL_law_731 : decode cL_law 731 = .ok (.iload 5, 2) := dk_21 5 (dk_at dksL_law_24 14 rfl rfl)
theorem dL_law_733 : decode cL_law 733 = .ok (.if_icmp .eq 5, 3) := dk_159 0 5 (dk_at dksL_law_24 16 rfl rfl)
theorem dL_law_736 : decode cL_law 736 = .ok (.iconst 0, 1) := dk_3 (dk_at dksL_law_24 19 rfl rfl)
theorem dL_law_737 : decode cL_law 737 = .ok (.ireturn, 1) := dk_172 (dk_at dksL_law_24 20 rfl rfl)
theorem dL_law_738 : decode cL_law 738 = .ok (.iload 5, 2) := dk_21 5 (dk_at dksL_law_24 21 rfl rfl)
theorem dL_law_740 : decode cL_law 740 = .ok (.ifCond .ne 15, 3) := dk_154 0 15 (dk_at dksL_law_25 0 rfl rfl)
theorem dL_law_743 : decode cL_law 743 = .ok (.aload_n 3, 1) := dk_45 (dk_at dksL_law_25 3 rfl rfl)
theorem dL_law_744 : decode cL_law 744 = .ok (.iconst 0, 1) := dk_3 (dk_at dksL_law_25 4 rfl rfl)
theorem dL_law_745 : decode cL_law 745 = .ok (.laload, 1) := dk_47 (dk_at dksL_law_25 5 rfl rfl)
theorem dL_law_746 : decode cL_law 746 = .ok (.iload 6, 2) := dk_21 6 (dk_at dksL_law_25 6 rfl rfl)
theorem dL_law_748 : decode cL_law 748 = .ok (.i2l, 1) := dk_133 (dk_at dksL_law_25 8 rfl rfl)
theorem dL_law_749 : decode cL_law 749 = .ok (.lcmp, 1) := dk_148 (dk_at dksL_law_25 9 rfl rfl)
theorem dL_law_750 : decode cL_law 750 = .ok (.ifCond .eq 5, 3) := dk_153 0 5 (dk_at dksL_law_25 10 rfl rfl)
theorem dL_law_753 : decode cL_law 753 = .ok (.iconst 0, 1) := dk_3 (dk_at dksL_law_25 13 rfl rfl)
theorem dL_law_754 : decode cL_law 754 = .ok (.ireturn, 1) := dk_172 (dk_at dksL_law_25 14 rfl rfl)
theorem dL_law_755 : decode cL_law 755 = .ok (.goto 1795, 3) := dk_167 7 3 (dk_at dksL_law_25 15 rfl rfl)
theorem dL_law_758 : decode cL_law 758 = .ok (.aload_n 1, 1) := dk_43 (dk_at dksL_law_25 18 rfl rfl)
theorem dL_law_759 : decode cL_law 759 = .ok (.aload_n 0, 1) := dk_42 (dk_at dksL_law_25 19 rfl rfl)
theorem dL_law_760 : decode cL_law 760 = .ok (.iload 4, 2) := dk_21 4 (dk_at dksL_law_25 20 rfl rfl)
theorem dL_law_762 : decode cL_law 762 = .ok (.iconst 1, 1) := dk_4 (dk_at dksL_law_25 22 rfl rfl)
theorem dL_law_763 : decode cL_law 763 = .ok (.iadd, 1) := dk_96 (dk_at dksL_law_25 23 rfl rfl)
theorem dL_law_764 : decode cL_law 764 = .ok (.iaload, 1) := dk_46 (dk_at dksL_law_26 0 rfl rfl)
theorem dL_law_765 : decode cL_law 765 = .ok (.aload_n 0, 1) := dk_42 (dk_at dksL_law_26 1 rfl rfl)
theorem dL_law_766 : decode cL_law 766 = .ok (.iload 4, 2) := dk_21 4 (dk_at dksL_law_26 2 rfl rfl)
theorem dL_law_768 : decode cL_law 768 = .ok (.iconst 2, 1) := dk_5 (dk_at dksL_law_26 4 rfl rfl)
theorem dL_law_769 : decode cL_law 769 = .ok (.iadd, 1) := dk_96 (dk_at dksL_law_26 5 rfl rfl)
theorem dL_law_770 : decode cL_law 770 = .ok (.iaload, 1) := dk_46 (dk_at dksL_law_26 6 rfl rfl)
theorem dL_law_771 : decode cL_law 771 = .ok (.aload_n 3, 1) := dk_45 (dk_at dksL_law_26 7 rfl rfl)
theorem dL_law_772 : decode cL_law 772 = .ok (.invokestatic 174, 3) := dk_184 0 174 (dk_at dksL_law_26 8 rfl rfl)
theorem dL_law_775 : decode cL_law 775 = .ok (.istore 5, 2) := dk_54 5 (dk_at dksL_law_26 11 rfl rfl)
theorem dL_law_777 : decode cL_law 777 = .ok (.aload_n 2, 1) := dk_44 (dk_at dksL_law_26 13 rfl rfl)
theorem dL_law_778 : decode cL_law 778 = .ok (.aload_n 0, 1) := dk_42 (dk_at dksL_law_26 14 rfl rfl)
theorem dL_law_779 : decode cL_law 779 = .ok (.iload 4, 2) := dk_21 4 (dk_at dksL_law_26 15 rfl rfl)
theorem dL_law_781 : decode cL_law 781 = .ok (.iconst 1, 1) := dk_4 (dk_at dksL_law_26 17 rfl rfl)
theorem dL_law_782 : decode cL_law 782 = .ok (.iadd, 1) := dk_96 (dk_at dksL_law_26 18 rfl rfl)
theorem dL_law_783 : decode cL_law 783 = .ok (.iaload, 1) := dk_46 (dk_at dksL_law_26 19 rfl rfl)
theorem dL_law_784 : decode cL_law 784 = .ok (.aload_n 0, 1) := dk_42 (dk_at dksL_law_26 20 rfl rfl)
theorem dL_law_785 : decode cL_law 785 = .ok (.iload 4, 2) := dk_21 4 (dk_at dksL_law_26 21 rfl rfl)
theorem dL_law_787 : decode cL_law 787 = .ok (.iconst 2, 1) := dk_5 (dk_at dksL_law_26 23 rfl rfl)
theorem dL_law_788 : decode cL_law 788 = .ok (.iadd, 1) := dk_96 (dk_at dksL_law_27 0 rfl rfl)
theorem dL_law_789 : decode cL_law 789 = .ok (.iaload, 1) := dk_46 (dk_at dksL_law_27 1 rfl rfl)
theorem dL_law_790 : decode cL_law 790 = .ok (.invokevirtual 176, 3) := dk_182 0 176 (dk_at dksL_law_27 2 rfl rfl)
theorem dL_law_793 : decode cL_law 793 = .ok (.istore 6, 2) := dk_54 6 (dk_at dksL_law_27 5 rfl rfl)
theorem dL_law_795 : decode cL_law 795 = .ok (.aload_n 2, 1) := dk_44 (dk_at dksL_law_27 7 rfl rfl)
theorem dL_law_796 : decode cL_law 796 = .ok (.invokevirtual 139, 3) := dk_182 0 139 (dk_at dksL_law_27 8 rfl rfl)
theorem dL_law_799 : decode cL_law 799 = .ok (.iload 5, 2) := dk_21 5 (dk_at dksL_law_27 11 rfl rfl)
theorem dL_law_801 : decode cL_law 801 = .ok (.if_icmp .eq 5, 3) := dk_159 0 5 (dk_at dksL_law_27 13 rfl rfl)
theorem dL_law_804 : decode cL_law 804 = .ok (.iconst 0, 1) := dk_3 (dk_at dksL_law_27 16 rfl rfl)
theorem dL_law_805 : decode cL_law 805 = .ok (.ireturn, 1) := dk_172 (dk_at dksL_law_27 17 rfl rfl)
theorem dL_law_806 : decode cL_law 806 = .ok (.iload 5, 2) := dk_21 5 (dk_at dksL_law_27 18 rfl rfl)
theorem dL_law_808 : decode cL_law 808 = .ok (.ifCond .ne 15, 3) := dk_154 0 15 (dk_at dksL_law_27 20 rfl rfl)
theorem dL_law_811 : decode cL_law 811 = .ok (.aload_n 3, 1) := dk_45 (dk_at dksL_law_27 23 rfl rfl)
theorem dL_law_812 : decode cL_law 812 = .ok (.iconst 0, 1) := dk_3 (dk_at dksL_law_28 0 rfl rfl)
theorem dL_law_813 : decode cL_law 813 = .ok (.laload, 1) := dk_47 (dk_at dksL_law_28 1 rfl rfl)
theorem dL_law_814 : decode cL_law 814 = .ok (.iload 6, 2) := dk_21 6 (dk_at dksL_law_28 2 rfl rfl)
theorem dL_law_816 : decode cL_law 816 = .ok (.i2l, 1) := dk_133 (dk_at dksL_law_28 4 rfl rfl)
theorem dL_law_817 : decode cL_law 817 = .ok (.lcmp, 1) := dk_148 (dk_at dksL_law_28 5 rfl rfl)
theorem dL_law_818 : decode cL_law 818 = .ok (.ifCond .eq 5, 3) := dk_153 0 5 (dk_at dksL_law_28 6 rfl rfl)
theorem dL_law_821 : decode cL_law 821 = .ok (.iconst 0, 1) := dk_3 (dk_at dksL_law_28 9 rfl rfl)
theorem dL_law_822 : decode cL_law 822 = .ok (.ireturn, 1) := dk_172 (dk_at dksL_law_28 10 rfl rfl)
theorem dL_law_823 : decode cL_law 823 = .ok (.goto 1727, 3) := dk_167 6 191 (dk_at dksL_law_28 11 rfl rfl)
theorem dL_law_826 : decode cL_law 826 = .ok (.aload_n 1, 1) := dk_43 (dk_at dksL_law_28 14 rfl rfl)
theorem dL_law_827 : decode cL_law 827 = .ok (.aload_n 0, 1) := dk_42 (dk_at dksL_law_28 15 rfl rfl)
theorem dL_law_828 : decode cL_law 828 = .ok (.iload 4, 2) := dk_21 4 (dk_at dksL_law_28 16 rfl rfl)
theorem dL_law_830 : decode cL_law 830 = .ok (.iconst 1, 1) := dk_4 (dk_at dksL_law_28 18 rfl rfl)
theorem dL_law_831 : decode cL_law 831 = .ok (.iadd, 1) := dk_96 (dk_at dksL_law_28 19 rfl rfl)
theorem dL_law_832 : decode cL_law 832 = .ok (.iaload, 1) := dk_46 (dk_at dksL_law_28 20 rfl rfl)
theorem dL_law_833 : decode cL_law 833 = .ok (.aload_n 3, 1) := dk_45 (dk_at dksL_law_28 21 rfl rfl)
theorem dL_law_834 : decode cL_law 834 = .ok (.invokestatic 177, 3) := dk_184 0 177 (dk_at dksL_law_29 0 rfl rfl)
theorem dL_law_837 : decode cL_law 837 = .ok (.istore 5, 2) := dk_54 5 (dk_at dksL_law_29 3 rfl rfl)
theorem dL_law_839 : decode cL_law 839 = .ok (.aload_n 2, 1) := dk_44 (dk_at dksL_law_29 5 rfl rfl)
theorem dL_law_840 : decode cL_law 840 = .ok (.aload_n 0, 1) := dk_42 (dk_at dksL_law_29 6 rfl rfl)
theorem dL_law_841 : decode cL_law 841 = .ok (.iload 4, 2) := dk_21 4 (dk_at dksL_law_29 7 rfl rfl)
theorem dL_law_843 : decode cL_law 843 = .ok (.iconst 1, 1) := dk_4 (dk_at dksL_law_29 9 rfl rfl)
theorem dL_law_844 : decode cL_law 844 = .ok (.iadd, 1) := dk_96 (dk_at dksL_law_29 10 rfl rfl)
theorem dL_law_845 : decode cL_law 845 = .ok (.iaload, 1) := dk_46 (dk_at dksL_law_29 11 rfl rfl)
theorem dL_law_846 : decode cL_law 846 = .ok (.invokevirtual 179, 3) := dk_182 0 179 (dk_at dksL_law_29 12 rfl rfl)
theorem dL_law_849 : decode cL_law 849 = .ok (.istore 6, 2) := dk_54 6 (dk_at dksL_law_29 15 rfl rfl)
theorem dL_law_851 : decode cL_law 851 = .ok (.aload_n 2, 1) := dk_44 (dk_at dksL_law_29 17 rfl rfl)
theorem dL_law_852 : decode cL_law 852 = .ok (.invokevirtual 139, 3) := dk_182 0 139 (dk_at dksL_law_29 18 rfl rfl)
theorem dL_law_855 : decode cL_law 855 = .ok (.iload 5, 2) := dk_21 5 (dk_at dksL_law_29 21 rfl rfl)
theorem dL_law_857 : decode cL_law 857 = .ok (.if_icmp .eq 5, 3) := dk_159 0 5 (dk_at dksL_law_30 0 rfl rfl)
theorem dL_law_860 : decode cL_law 860 = .ok (.iconst 0, 1) := dk_3 (dk_at dksL_law_30 3 rfl rfl)
theorem dL_law_861 : decode cL_law 861 = .ok (.ireturn, 1) := dk_172 (dk_at dksL_law_30 4 rfl rfl)
theorem dL_law_862 : decode cL_law 862 = .ok (.iload 5, 2) := dk_21 5 (dk_at dksL_law_30 5 rfl rfl)
theorem dL_law_864 : decode cL_law 864 = .ok (.ifCond .ne 15, 3) := dk_154 0 15 (dk_at dksL_law_30 7 rfl rfl)
theorem dL_law_867 : decode cL_law 867 = .ok (.aload_n 3, 1) := dk_45 (dk_at dksL_law_30 10 rfl rfl)
theorem dL_law_868 : decode cL_law 868 = .ok (.iconst 0, 1) := dk_3 (dk_at dksL_law_30 11 rfl rfl)
theorem dL_law_869 : decode cL_law 869 = .ok (.laload, 1) := dk_47 (dk_at dksL_law_30 12 rfl rfl)
theorem dL_law_870 : decode cL_law 870 = .ok (.iload 6, 2) := dk_21 6 (dk_at dksL_law_30 13 rfl rfl)
theorem dL_law_872 : decode cL_law 872 = .ok (.i2l, 1) := dk_133 (dk_at dksL_law_30 15 rfl rfl)
theorem dL_law_873 : decode cL_law 873 = .ok (.lcmp, 1) := dk_148 (dk_at dksL_law_30 16 rfl rfl)
theorem dL_law_874 : decode cL_law 874 = .ok (.ifCond .eq 5, 3) := dk_153 0 5 (dk_at dksL_law_30 17 rfl rfl)
theorem dL_law_877 : decode cL_law 877 = .ok (.iconst 0, 1) := dk_3 (dk_at dksL_law_30 20 rfl rfl)
theorem dL_law_878 : decode cL_law 878 = .ok (.ireturn, 1) := dk_172 (dk_at dksL_law_30 21 rfl rfl)
theorem dL_law_879 : decode cL_law 879 = .ok (.goto 1671, 3) := dk_167 6 135 (dk_at dksL_law_31 0 rfl rfl)
theorem dL_law_882 : decode cL_law 882 = .ok (.aload_n 1, 1) := dk_43 (dk_at dksL_law_31 3 rfl rfl)
theorem dL_law_883 : decode cL_law 883 = .ok (.aload_n 3, 1) := dk_45 (dk_at dksL_law_31 4 rfl rfl)
theorem dL_law_884 : decode cL_law 884 = .ok (.invokestatic 180, 3) := dk_184 0 180 (dk_at dksL_law_31 5 rfl rfl)
theorem dL_law_887 : decode cL_law 887 = .ok (.istore 5, 2) := dk_54 5 (dk_at dksL_law_31 8 rfl rfl)
theorem dL_law_889 : decode cL_law 889 = .ok (.aload_n 2, 1) := dk_44 (dk_at dksL_law_31 10 rfl rfl)
theorem dL_law_890 : decode cL_law 890 = .ok (.invokevirtual 182, 3) := dk_182 0 182 (dk_at dksL_law_31 11 rfl rfl)
theorem dL_law_893 : decode cL_law 893 = .ok (.istore 6, 2) := dk_54 6 (dk_at dksL_law_31 14 rfl rfl)
theorem dL_law_895 : decode cL_law 895 = .ok (.aload_n 2, 1) := dk_44 (dk_at dksL_law_31 16 rfl rfl)
theorem dL_law_896 : decode cL_law 896 = .ok (.invokevirtual 139, 3) := dk_182 0 139 (dk_at dksL_law_31 17 rfl rfl)
theorem dL_law_899 : decode cL_law 899 = .ok (.iload 5, 2) := dk_21 5 (dk_at dksL_law_31 20 rfl rfl)
theorem dL_law_901 : decode cL_law 901 = .ok (.if_icmp .eq 5, 3) := dk_159 0 5 (dk_at dksL_law_32 0 rfl rfl)
theorem dL_law_904 : decode cL_law 904 = .ok (.iconst 0, 1) := dk_3 (dk_at dksL_law_32 3 rfl rfl)
theorem dL_law_905 : decode cL_law 905 = .ok (.ireturn, 1) := dk_172 (dk_at dksL_law_32 4 rfl rfl)
theorem dL_law_906 : decode cL_law 906 = .ok (.iload 5, 2) := dk_21 5 (dk_at dksL_law_32 5 rfl rfl)
theorem dL_law_908 : decode cL_law 908 = .ok (.ifCond .ne 15, 3) := dk_154 0 15 (dk_at dksL_law_32 7 rfl rfl)
theorem dL_law_911 : decode cL_law 911 = .ok (.aload_n 3, 1) := dk_45 (dk_at dksL_law_32 10 rfl rfl)
theorem dL_law_912 : decode cL_law 912 = .ok (.iconst 0, 1) := dk_3 (dk_at dksL_law_32 11 rfl rfl)
theorem dL_law_913 : decode cL_law 913 = .ok (.laload, 1) := dk_47 (dk_at dksL_law_32 12 rfl rfl)
theorem dL_law_914 : decode cL_law 914 = .ok (.iload 6, 2) := dk_21 6 (dk_at dksL_law_32 13 rfl rfl)
theorem dL_law_916 : decode cL_law 916 = .ok (.i2l, 1) := dk_133 (dk_at dksL_law_32 15 rfl rfl)
theorem dL_law_917 : decode cL_law 917 = .ok (.lcmp, 1) := dk_148 (dk_at dksL_law_32 16 rfl rfl)
theorem dL_law_918 : decode cL_law 918 = .ok (.ifCond .eq 5, 3) := dk_153 0 5 (dk_at dksL_law_32 17 rfl rfl)
theorem dL_law_921 : decode cL_law 921 = .ok (.iconst 0, 1) := dk_3 (dk_at dksL_law_32 20 rfl rfl)
theorem dL_law_922 : decode cL_law 922 = .ok (.ireturn, 1) := dk_172 (dk_at dksL_law_32 21 rfl rfl)
theorem dL_law_923 : decode cL_law 923 = .ok (.goto 1627, 3) := dk_167 6 91 (dk_at dksL_law_33 0 rfl rfl)
theorem dL_law_926 : decode cL_law 926 = .ok (.aload_n 1, 1) := dk_43 (dk_at dksL_law_33 3 rfl rfl)
theorem dL_law_927 : decode cL_law 927 = .ok (.aload_n 0, 1) := dk_42 (dk_at dksL_law_33 4 rfl rfl)
theorem dL_law_928 : decode cL_law 928 = .ok (.iload 4, 2) := dk_21 4 (dk_at dksL_law_33 5 rfl rfl)
theorem dL_law_930 : decode cL_law 930 = .ok (.iconst 1, 1) := dk_4 (dk_at dksL_law_33 7 rfl rfl)
theorem dL_law_931 : decode cL_law 931 = .ok (.iadd, 1) := dk_96 (dk_at dksL_law_33 8 rfl rfl)
theorem dL_law_932 : decode cL_law 932 = .ok (.iaload, 1) := dk_46 (dk_at dksL_law_33 9 rfl rfl)
theorem dL_law_933 : decode cL_law 933 = .ok (.aload_n 3, 1) := dk_45 (dk_at dksL_law_33 10 rfl rfl)
theorem dL_law_934 : decode cL_law 934 = .ok (.invokestatic 183, 3) := dk_184 0 183 (dk_at dksL_law_33 11 rfl rfl)
theorem dL_law_937 : decode cL_law 937 = .ok (.istore 5, 2) := dk_54 5 (dk_at dksL_law_33 14 rfl rfl)
theorem dL_law_939 : decode cL_law 939 = .ok (.aload_n 2, 1) := dk_44 (dk_at dksL_law_33 16 rfl rfl)
theorem dL_law_940 : decode cL_law 940 = .ok (.aload_n 0, 1) := dk_42 (dk_at dksL_law_33 17 rfl rfl)
theorem dL_law_941 : decode cL_law 941 = .ok (.iload 4, 2) := dk_21 4 (dk_at dksL_law_33 18 rfl rfl)
theorem dL_law_943 : decode cL_law 943 = .ok (.iconst 1, 1) := dk_4 (dk_at dksL_law_33 20 rfl rfl)
theorem dL_law_944 : decode cL_law 944 = .ok (.iadd, 1) := dk_96 (dk_at dksL_law_33 21 rfl rfl)
theorem dL_law_945 : decode cL_law 945 = .ok (.iaload, 1) := dk_46 (dk_at dksL_law_33 22 rfl rfl)
theorem dL_law_946 : decode cL_law 946 = .ok (.invokevirtual 185, 3) := dk_182 0 185 (dk_at dksL_law_34 0 rfl rfl)
theorem dL_law_949 : decode cL_law 949 = .ok (.istore 6, 2) := dk_54 6 (dk_at dksL_law_34 3 rfl rfl)
theorem dL_law_951 : decode cL_law 951 = .ok (.aload_n 2, 1) := dk_44 (dk_at dksL_law_34 5 rfl rfl)
theorem dL_law_952 : decode cL_law 952 = .ok (.invokevirtual 139, 3) := dk_182 0 139 (dk_at dksL_law_34 6 rfl rfl)
theorem dL_law_955 : decode cL_law 955 = .ok (.iload 5, 2) := dk_21 5 (dk_at dksL_law_34 9 rfl rfl)
theorem dL_law_957 : decode cL_law 957 = .ok (.if_icmp .eq 5, 3) := dk_159 0 5 (dk_at dksL_law_34 11 rfl rfl)
theorem dL_law_960 : decode cL_law 960 = .ok (.iconst 0, 1) := dk_3 (dk_at dksL_law_34 14 rfl rfl)
theorem dL_law_961 : decode cL_law 961 = .ok (.ireturn, 1) := dk_172 (dk_at dksL_law_34 15 rfl rfl)
theorem dL_law_962 : decode cL_law 962 = .ok (.iload 5, 2) := dk_21 5 (dk_at dksL_law_34 16 rfl rfl)
theorem dL_law_964 : decode cL_law 964 = .ok (.ifCond .ne 15, 3) := dk_154 0 15 (dk_at dksL_law_34 18 rfl rfl)
theorem dL_law_967 : decode cL_law 967 = .ok (.aload_n 3, 1) := dk_45 (dk_at dksL_law_34 21 rfl rfl)
theorem dL_law_968 : decode cL_law 968 = .ok (.iconst 0, 1) := dk_3 (dk_at dksL_law_34 22 rfl rfl)
theorem dL_law_969 : decode cL_law 969 = .ok (.laload, 1) := dk_47 (dk_at dksL_law_34 23 rfl rfl)
theorem dL_law_970 : decode cL_law 970 = .ok (.iload 6, 2) := dk_21 6 (dk_at dksL_law_35 0 rfl rfl)
theorem dL_law_972 : decode cL_law 972 = .ok (.i2l, 1) := dk_133 (dk_at dksL_law_35 2 rfl rfl)
theorem dL_law_973 : decode cL_law 973 = .ok (.lcmp, 1) := dk_148 (dk_at dksL_law_35 3 rfl rfl)
theorem dL_law_974 : decode cL_law 974 = .ok (.ifCond .eq 5, 3) := dk_153 0 5 (dk_at dksL_law_35 4 rfl rfl)
theorem dL_law_977 : decode cL_law 977 = .ok (.iconst 0, 1) := dk_3 (dk_at dksL_law_35 7 rfl rfl)
theorem dL_law_978 : decode cL_law 978 = .ok (.ireturn, 1) := dk_172 (dk_at dksL_law_35 8 rfl rfl)
theorem dL_law_979 : decode cL_law 979 = .ok (.goto 1571, 3) := dk_167 6 35 (dk_at dksL_law_35 9 rfl rfl)
theorem dL_law_982 : decode cL_law 982 = .ok (.aload_n 1, 1) := dk_43 (dk_at dksL_law_35 12 rfl rfl)
theorem dL_law_983 : decode cL_law 983 = .ok (.aload_n 0, 1) := dk_42 (dk_at dksL_law_35 13 rfl rfl)
theorem dL_law_984 : decode cL_law 984 = .ok (.iload 4, 2) := dk_21 4 (dk_at dksL_law_35 14 rfl rfl)
theorem dL_law_986 : decode cL_law 986 = .ok (.iconst 1, 1) := dk_4 (dk_at dksL_law_35 16 rfl rfl)
theorem dL_law_987 : decode cL_law 987 = .ok (.iadd, 1) := dk_96 (dk_at dksL_law_35 17 rfl rfl)
theorem dL_law_988 : decode cL_law 988 = .ok (.iaload, 1) := dk_46 (dk_at dksL_law_35 18 rfl rfl)
theorem dL_law_989 : decode cL_law 989 = .ok (.aload_n 3, 1) := dk_45 (dk_at dksL_law_35 19 rfl rfl)
theorem dL_law_990 : decode cL_law 990 = .ok (.invokestatic 186, 3) := dk_184 0 186 (dk_at dksL_law_35 20 rfl rfl)
theorem dL_law_993 : decode cL_law 993 = .ok (.istore 5, 2) := dk_54 5 (dk_at dksL_law_36 0 rfl rfl)
theorem dL_law_995 : decode cL_law 995 = .ok (.aload_n 2, 1) := dk_44 (dk_at dksL_law_36 2 rfl rfl)
theorem dL_law_996 : decode cL_law 996 = .ok (.aload_n 0, 1) := dk_42 (dk_at dksL_law_36 3 rfl rfl)
theorem dL_law_997 : decode cL_law 997 = .ok (.iload 4, 2) := dk_21 4 (dk_at dksL_law_36 4 rfl rfl)
theorem dL_law_999 : decode cL_law 999 = .ok (.iconst 1, 1) := dk_4 (dk_at dksL_law_36 6 rfl rfl)
theorem dL_law_1000 : decode cL_law 1000 = .ok (.iadd, 1) := dk_96 (dk_at dksL_law_36 7 rfl rfl)
theorem dL_law_1001 : decode cL_law 1001 = .ok (.iaload, 1) := dk_46 (dk_at dksL_law_36 8 rfl rfl)
theorem dL_law_1002 : decode cL_law 1002 = .ok (.invokevirtual 188, 3) := dk_182 0 188 (dk_at dksL_law_36 9 rfl rfl)
theorem dL_law_1005 : decode cL_law 1005 = .ok (.istore 6, 2) := dk_54 6 (dk_at dksL_law_36 12 rfl rfl)
theorem dL_law_1007 : decode cL_law 1007 = .ok (.aload_n 2, 1) := dk_44 (dk_at dksL_law_36 14 rfl rfl)
theorem dL_law_1008 : decode cL_law 1008 = .ok (.invokevirtual 139, 3) := dk_182 0 139 (dk_at dksL_law_36 15 rfl rfl)
theorem dL_law_1011 : decode cL_law 1011 = .ok (.iload 5, 2) := dk_21 5 (dk_at dksL_law_36 18 rfl rfl)
theorem dL_law_1013 : decode cL_law 1013 = .ok (.if_icmp .eq 5, 3) := dk_159 0 5 (dk_at dksL_law_36 20 rfl rfl)
theorem dL_law_1016 : decode cL_law 1016 = .ok (.iconst 0, 1) := dk_3 (dk_at dksL_law_36 23 rfl rfl)
theorem dL_law_1017 : decode cL_law 1017 = .ok (.ireturn, 1) := dk_172 (dk_at dksL_law_37 0 rfl rfl)
theorem dL_law_1018 : decode cL_law 1018 = .ok (.iload 5, 2) := dk_21 5 (dk_at dksL_law_37 1 rfl rfl)
theorem dL_law_1020 : decode cL_law 1020 = .ok (.ifCond .ne 15, 3) := dk_154 0 15 (dk_at dksL_law_37 3 rfl rfl)
theorem dL_law_1023 : decode cL_law 1023 = .ok (.aload_n 3, 1) := dk_45 (dk_at dksL_law_37 6 rfl rfl)
theorem dL_law_1024 : decode cL_law 1024 = .ok (.iconst 0, 1) := dk_3 (dk_at dksL_law_37 7 rfl rfl)
theorem dL_law_1025 : decode cL_law 1025 = .ok (.laload, 1) := dk_47 (dk_at dksL_law_37 8 rfl rfl)
theorem dL_law_1026 : decode cL_law 1026 = .ok (.iload 6, 2) := dk_21 6 (dk_at dksL_law_37 9 rfl rfl)
theorem dL_law_1028 : decode cL_law 1028 = .ok (.i2l, 1) := dk_133 (dk_at dksL_law_37 11 rfl rfl)
theorem dL_law_1029 : decode cL_law 1029 = .ok (.lcmp, 1) := dk_148 (dk_at dksL_law_37 12 rfl rfl)
theorem dL_law_1030 : decode cL_law 1030 = .ok (.ifCond .eq 5, 3) := dk_153 0 5 (dk_at dksL_law_37 13 rfl rfl)
theorem dL_law_1033 : decode cL_law 1033 = .ok (.iconst 0, 1) := dk_3 (dk_at dksL_law_37 16 rfl rfl)
theorem dL_law_1034 : decode cL_law 1034 = .ok (.ireturn, 1) := dk_172 (dk_at dksL_law_37 17 rfl rfl)
theorem dL_law_1035 : decode cL_law 1035 = .ok (.goto 1515, 3) := dk_167 5 235 (dk_at dksL_law_37 18 rfl rfl)
theorem dL_law_1038 : decode cL_law 1038 = .ok (.aload_n 1, 1) := dk_43 (dk_at dksL_law_37 21 rfl rfl)
theorem dL_law_1039 : decode cL_law 1039 = .ok (.aload_n 0, 1) := dk_42 (dk_at dksL_law_37 22 rfl rfl)
theorem dL_law_1040 : decode cL_law 1040 = .ok (.iload 4, 2) := dk_21 4 (dk_at dksL_law_38 0 rfl rfl)
theorem dL_law_1042 : decode cL_law 1042 = .ok (.iconst 1, 1) := dk_4 (dk_at dksL_law_38 2 rfl rfl)
theorem dL_law_1043 : decode cL_law 1043 = .ok (.iadd, 1) := dk_96 (dk_at dksL_law_38 3 rfl rfl)
theorem dL_law_1044 : decode cL_law 1044 = .ok (.iaload, 1) := dk_46 (dk_at dksL_law_38 4 rfl rfl)
theorem dL_law_1045 : decode cL_law 1045 = .ok (.aload_n 0, 1) := dk_42 (dk_at dksL_law_38 5 rfl rfl)
theorem dL_law_1046 : decode cL_law 1046 = .ok (.iload 4, 2) := dk_21 4 (dk_at dksL_law_38 6 rfl rfl)
theorem dL_law_1048 : decode cL_law 1048 = .ok (.iconst 2, 1) := dk_5 (dk_at dksL_law_38 8 rfl rfl)
theorem dL_law_1049 : decode cL_law 1049 = .ok (.iadd, 1) := dk_96 (dk_at dksL_law_38 9 rfl rfl)
theorem dL_law_1050 : decode cL_law 1050 = .ok (.iaload, 1) := dk_46 (dk_at dksL_law_38 10 rfl rfl)
theorem dL_law_1051 : decode cL_law 1051 = .ok (.aload_n 3, 1) := dk_45 (dk_at dksL_law_38 11 rfl rfl)
theorem dL_law_1052 : decode cL_law 1052 = .ok (.invokestatic 189, 3) := dk_184 0 189 (dk_at dksL_law_38 12 rfl rfl)
theorem dL_law_1055 : decode cL_law 1055 = .ok (.istore 5, 2) := dk_54 5 (dk_at dksL_law_38 15 rfl rfl)
theorem dL_law_1057 : decode cL_law 1057 = .ok (.aload_n 2, 1) := dk_44 (dk_at dksL_law_38 17 rfl rfl)
theorem dL_law_1058 : decode cL_law 1058 = .ok (.aload_n 0, 1) := dk_42 (dk_at dksL_law_38 18 rfl rfl)
theorem dL_law_1059 : decode cL_law 1059 = .ok (.iload 4, 2) := dk_21 4 (dk_at dksL_law_38 19 rfl rfl)
theorem dL_law_1061 : decode cL_law 1061 = .ok (.iconst 1, 1) := dk_4 (dk_at dksL_law_38 21 rfl rfl)
theorem dL_law_1062 : decode cL_law 1062 = .ok (.iadd, 1) := dk_96 (dk_at dksL_law_38 22 rfl rfl)
theorem dL_law_1063 : decode cL_law 1063 = .ok (.iaload, 1) := dk_46 (dk_at dksL_law_38 23 rfl rfl)
theorem dL_law_1064 : decode cL_law 1064 = .ok (.aload_n 0, 1) := dk_42 (dk_at dksL_law_39 0 rfl rfl)
theorem dL_law_1065 : decode cL_law 1065 = .ok (.iload 4, 2) := dk_21 4 (dk_at dksL_law_39 1 rfl rfl)
theorem dL_law_1067 : decode cL_law 1067 = .ok (.iconst 2, 1) := dk_5 (dk_at dksL_law_39 3 rfl rfl)
theorem dL_law_1068 : decode cL_law 1068 = .ok (.iadd, 1) := dk_96 (dk_at dksL_law_39 4 rfl rfl)
theorem dL_law_1069 : decode cL_law 1069 = .ok (.iaload, 1) := dk_46 (dk_at dksL_law_39 5 rfl rfl)
theorem dL_law_1070 : decode cL_law 1070 = .ok (.invokevirtual 191, 3) := dk_182 0 191 (dk_at dksL_law_39 6 rfl rfl)
theorem dL_law_1073 : decode cL_law 1073 = .ok (.istore 6, 2) := dk_54 6 (dk_at dksL_law_39 9 rfl rfl)
theorem dL_law_1075 : decode cL_law 1075 = .ok (.aload_n 2, 1) := dk_44 (dk_at dksL_law_39 11 rfl rfl)
theorem dL_law_1076 : decode cL_law 1076 = .ok (.invokevirtual 139, 3) := dk_182 0 139 (dk_at dksL_law_39 12 rfl rfl)
theorem dL_law_1079 : decode cL_law 1079 = .ok (.iload 5, 2) := dk_21 5 (dk_at dksL_law_39 15 rfl rfl)
theorem dL_law_1081 : decode cL_law 1081 = .ok (.if_icmp .eq 5, 3) := dk_159 0 5 (dk_at dksL_law_39 17 rfl rfl)
theorem dL_law_1084 : decode cL_law 1084 = .ok (.iconst 0, 1) := dk_3 (dk_at dksL_law_39 20 rfl rfl)
theorem dL_law_1085 : decode cL_law 1085 = .ok (.ireturn, 1) := dk_172 (dk_at dksL_law_39 21 rfl rfl)
theorem dL_law_1086 : decode cL_law 1086 = .ok (.iload 5, 2) := dk_21 5 (dk_at dksL_law_39 22 rfl rfl)
theorem dL_law_1088 : decode cL_law 1088 = .ok (.ifCond .ne 15, 3) := dk_154 0 15 (dk_at dksL_law_40 0 rfl rfl)
theorem dL_law_1091 : decode cL_law 1091 = .ok (.aload_n 3, 1) := dk_45 (dk_at dksL_law_40 3 rfl rfl)
theorem dL_law_1092 : decode cL_law 1092 = .ok (.iconst 0, 1) := dk_3 (dk_at dksL_law_40 4 rfl rfl)
theorem dL_law_1093 : decode cL_law 1093 = .ok (.laload, 1) := dk_47 (dk_at dksL_law_40 5 rfl rfl)
theorem dL_law_1094 : decode cL_law 1094 = .ok (.iload 6, 2) := dk_21 6 (dk_at dksL_law_40 6 rfl rfl)
theorem dL_law_1096 : decode cL_law 1096 = .ok (.i2l, 1) := dk_133 (dk_at dksL_law_40 8 rfl rfl)
theorem dL_law_1097 : decode cL_law 1097 = .ok (.lcmp, 1) := dk_148 (dk_at dksL_law_40 9 rfl rfl)
theorem dL_law_1098 : decode cL_law 1098 = .ok (.ifCond .eq 5, 3) := dk_153 0 5 (dk_at dksL_law_40 10 rfl rfl)
theorem dL_law_1101 : decode cL_law 1101 = .ok (.iconst 0, 1) := dk_3 (dk_at dksL_law_40 13 rfl rfl)
theorem dL_law_1102 : decode cL_law 1102 = .ok (.ireturn, 1) := dk_172 (dk_at dksL_law_40 14 rfl rfl)
theorem dL_law_1103 : decode cL_law 1103 = .ok (.goto 1447, 3) := dk_167 5 167 (dk_at dksL_law_40 15 rfl rfl)
theorem dL_law_1106 : decode cL_law 1106 = .ok (.aload_n 1, 1) := dk_43 (dk_at dksL_law_40 18 rfl rfl)
theorem dL_law_1107 : decode cL_law 1107 = .ok (.aload_n 0, 1) := dk_42 (dk_at dksL_law_40 19 rfl rfl)
theorem dL_law_1108 : decode cL_law 1108 = .ok (.iload 4, 2) := dk_21 4 (dk_at dksL_law_40 20 rfl rfl)
theorem dL_law_1110 : decode cL_law 1110 = .ok (.iconst 1, 1) := dk_4 (dk_at dksL_law_40 22 rfl rfl)
theorem dL_law_1111 : decode cL_law 1111 = .ok (.iadd, 1) := dk_96 (dk_at dksL_law_40 23 rfl rfl)
theorem dL_law_1112 : decode cL_law 1112 = .ok (.iaload, 1) := dk_46 (dk_at dksL_law_41 0 rfl rfl)
theorem dL_law_1113 : decode cL_law 1113 = .ok (.aload_n 3, 1) := dk_45 (dk_at dksL_law_41 1 rfl rfl)
theorem dL_law_1114 : decode cL_law 1114 = .ok (.invokestatic 192, 3) := dk_184 0 192 (dk_at dksL_law_41 2 rfl rfl)
theorem dL_law_1117 : decode cL_law 1117 = .ok (.istore 5, 2) := dk_54 5 (dk_at dksL_law_41 5 rfl rfl)
theorem dL_law_1119 : decode cL_law 1119 = .ok (.aload_n 2, 1) := dk_44 (dk_at dksL_law_41 7 rfl rfl)
theorem dL_law_1120 : decode cL_law 1120 = .ok (.aload_n 0, 1) := dk_42 (dk_at dksL_law_41 8 rfl rfl)
theorem dL_law_1121 : decode cL_law 1121 = .ok (.iload 4, 2) := dk_21 4 (dk_at dksL_law_41 9 rfl rfl)
theorem dL_law_1123 : decode cL_law 1123 = .ok (.iconst 1, 1) := dk_4 (dk_at dksL_law_41 11 rfl rfl)
theorem dL_law_1124 : decode cL_law 1124 = .ok (.iadd, 1) := dk_96 (dk_at dksL_law_41 12 rfl rfl)
theorem dL_law_1125 : decode cL_law 1125 = .ok (.iaload, 1) := dk_46 (dk_at dksL_law_41 13 rfl rfl)
theorem dL_law_1126 : decode cL_law 1126 = .ok (.invokevirtual 194, 3) := dk_182 0 194 (dk_at dksL_law_41 14 rfl rfl)
theorem dL_law_1129 : decode cL_law 1129 = .ok (.istore 6, 2) := dk_54 6 (dk_at dksL_law_41 17 rfl rfl)
theorem dL_law_1131 : decode cL_law 1131 = .ok (.aload_n 2, 1) := dk_44 (dk_at dksL_law_41 19 rfl rfl)
theorem dL_law_1132 : decode cL_law 1132 = .ok (.invokevirtual 139, 3) := dk_182 0 139 (dk_at dksL_law_41 20 rfl rfl)
theorem dL_law_1135 : decode cL_law 1135 = .ok (.iload 5, 2) := dk_21 5 (dk_at dksL_law_42 0 rfl rfl)
theorem dL_law_1137 : decode cL_law 1137 = .ok (.if_icmp .eq 5, 3) := dk_159 0 5 (dk_at dksL_law_42 2 rfl rfl)
theorem dL_law_1140 : decode cL_law 1140 = .ok (.iconst 0, 1) := dk_3 (dk_at dksL_law_42 5 rfl rfl)
theorem dL_law_1141 : decode cL_law 1141 = .ok (.ireturn, 1) := dk_172 (dk_at dksL_law_42 6 rfl rfl)
theorem dL_law_1142 : decode cL_law 1142 = .ok (.iload 5, 2) := dk_21 5 (dk_at dksL_law_42 7 rfl rfl)
theorem dL_law_1144 : decode cL_law 1144 = .ok (.ifCond .ne 15, 3) := dk_154 0 15 (dk_at dksL_law_42 9 rfl rfl)
theorem dL_law_1147 : decode cL_law 1147 = .ok (.aload_n 3, 1) := dk_45 (dk_at dksL_law_42 12 rfl rfl)
theorem dL_law_1148 : decode cL_law 1148 = .ok (.iconst 0, 1) := dk_3 (dk_at dksL_law_42 13 rfl rfl)
theorem dL_law_1149 : decode cL_law 1149 = .ok (.laload, 1) := dk_47 (dk_at dksL_law_42 14 rfl rfl)
theorem dL_law_1150 : decode cL_law 1150 = .ok (.iload 6, 2) := dk_21 6 (dk_at dksL_law_42 15 rfl rfl)
theorem dL_law_1152 : decode cL_law 1152 = .ok (.i2l, 1) := dk_133 (dk_at dksL_law_42 17 rfl rfl)
theorem dL_law_1153 : decode cL_law 1153 = .ok (.lcmp, 1) := dk_148 (dk_at dksL_law_42 18 rfl rfl)
theorem dL_law_1154 : decode cL_law 1154 = .ok (.ifCond .eq 5, 3) := dk_153 0 5 (dk_at dksL_law_42 19 rfl rfl)
theorem dL_law_1157 : decode cL_law 1157 = .ok (.iconst 0, 1) := dk_3 (dk_at dksL_law_42 22 rfl rfl)
theorem dL_law_1158 : decode cL_law 1158 = .ok (.ireturn, 1) := dk_172 (dk_at dksL_law_42 23 rfl rfl)
theorem dL_law_1159 : decode cL_law 1159 = .ok (.goto 1391, 3) := dk_167 5 111 (dk_at dksL_law_43 0 rfl rfl)
theorem dL_law_1162 : decode cL_law 1162 = .ok (.aload_n 1, 1) := dk_43 (dk_at dksL_law_43 3 rfl rfl)
theorem dL_law_1163 : decode cL_law 1163 = .ok (.aload_n 0, 1) := dk_42 (dk_at dksL_law_43 4 rfl rfl)
theorem dL_law_1164 : decode cL_law 1164 = .ok (.iload 4, 2) := dk_21 4 (dk_at dksL_law_43 5 rfl rfl)
theorem dL_law_1166 : decode cL_law 1166 = .ok (.iconst 1, 1) := dk_4 (dk_at dksL_law_43 7 rfl rfl)
theorem dL_law_1167 : decode cL_law 1167 = .ok (.iadd, 1) := dk_96 (dk_at dksL_law_43 8 rfl rfl)
theorem dL_law_1168 : decode cL_law 1168 = .ok (.iaload, 1) := dk_46 (dk_at dksL_law_43 9 rfl rfl)
theorem dL_law_1169 : decode cL_law 1169 = .ok (.aload_n 3, 1) := dk_45 (dk_at dksL_law_43 10 rfl rfl)
theorem dL_law_1170 : decode cL_law 1170 = .ok (.invokestatic 195, 3) := dk_184 0 195 (dk_at dksL_law_43 11 rfl rfl)
theorem dL_law_1173 : decode cL_law 1173 = .ok (.istore 5, 2) := dk_54 5 (dk_at dksL_law_43 14 rfl rfl)
theorem dL_law_1175 : decode cL_law 1175 = .ok (.aload_n 2, 1) := dk_44 (dk_at dksL_law_43 16 rfl rfl)
theorem dL_law_1176 : decode cL_law 1176 = .ok (.aload_n 0, 1) := dk_42 (dk_at dksL_law_43 17 rfl rfl)
theorem dL_law_1177 : decode cL_law 1177 = .ok (.iload 4, 2) := dk_21 4 (dk_at dksL_law_43 18 rfl rfl)
theorem dL_law_1179 : decode cL_law 1179 = .ok (.iconst 1, 1) := dk_4 (dk_at dksL_law_43 20 rfl rfl)
theorem dL_law_1180 : decode cL_law 1180 = .ok (.iadd, 1) := dk_96 (dk_at dksL_law_43 21 rfl rfl)
theorem dL_law_1181 : decode cL_law 1181 = .ok (.iaload, 1) := dk_46 (dk_at dksL_law_43 22 rfl rfl)
theorem dL_law_1182 : decode cL_law 1182 = .ok (.invokevirtual 197, 3) := dk_182 0 197 (dk_at dksL_law_44 0 rfl rfl)
theorem dL_law_1185 : decode cL_law 1185 = .ok (.istore 6, 2) := dk_54 6 (dk_at dksL_law_44 3 rfl rfl)
theorem dL_law_1187 : decode cL_law 1187 = .ok (.aload_n 2, 1) := dk_44 (dk_at dksL_law_44 5 rfl rfl)
theorem dL_law_1188 : decode cL_law 1188 = .ok (.invokevirtual 139, 3) := dk_182 0 139 (dk_at dksL_law_44 6 rfl rfl)
theorem dL_law_1191 : decode cL_law 1191 = .ok (.iload 5, 2) := dk_21 5 (dk_at dksL_law_44 9 rfl rfl)
theorem dL_law_1193 : decode cL_law 1193 = .ok (.if_icmp .eq 5, 3) := dk_159 0 5 (dk_at dksL_law_44 11 rfl rfl)
theorem dL_law_1196 : decode cL_law 1196 = .ok (.iconst 0, 1) := dk_3 (dk_at dksL_law_44 14 rfl rfl)
theorem dL_law_1197 : decode cL_law 1197 = .ok (.ireturn, 1) := dk_172 (dk_at dksL_law_44 15 rfl rfl)
theorem dL_law_1198 : decode cL_law 1198 = .ok (.iload 5, 2) := dk_21 5 (dk_at dksL_law_44 16 rfl rfl)
theorem dL_law_1200 : decode cL_law 1200 = .ok (.ifCond .ne 15, 3) := dk_154 0 15 (dk_at dksL_law_44 18 rfl rfl)
theorem dL_law_1203 : decode cL_law 1203 = .ok (.aload_n 3, 1) := dk_45 (dk_at dksL_law_44 21 rfl rfl)
theorem dL_law_1204 : decode cL_law 1204 = .ok (.iconst 0, 1) := dk_3 (dk_at dksL_law_44 22 rfl rfl)
theorem dL_law_1205 : decode cL_law 1205 = .ok (.laload, 1) := dk_47 (dk_at dksL_law_44 23 rfl rfl)
theorem dL_law_1206 : decode cL_law 1206 = .ok (.iload 6, 2) := dk_21 6 (dk_at dksL_law_45 0 rfl rfl)
theorem dL_law_1208 : decode cL_law 1208 = .ok (.i2l, 1) := dk_133 (dk_at dksL_law_45 2 rfl rfl)
theorem dL_law_1209 : decode cL_law 1209 = .ok (.lcmp, 1) := dk_148 (dk_at dksL_law_45 3 rfl rfl)
theorem dL_law_1210 : decode cL_law 1210 = .ok (.ifCond .eq 5, 3) := dk_153 0 5 (dk_at dksL_law_45 4 rfl rfl)
theorem dL_law_1213 : decode cL_law 1213 = .ok (.iconst 0, 1) := dk_3 (dk_at dksL_law_45 7 rfl rfl)
theorem dL_law_1214 : decode cL_law 1214 = .ok (.ireturn, 1) := dk_172 (dk_at dksL_law_45 8 rfl rfl)
theorem dL_law_1215 : decode cL_law 1215 = .ok (.goto 1335, 3) := dk_167 5 55 (dk_at dksL_law_45 9 rfl rfl)
theorem dL_law_1218 : decode cL_law 1218 = .ok (.aload_n 1, 1) := dk_43 (dk_at dksL_law_45 12 rfl rfl)
theorem dL_law_1219 : decode cL_law 1219 = .ok (.aload_n 3, 1) := dk_45 (dk_at dksL_law_45 13 rfl rfl)
theorem dL_law_1220 : decode cL_law 1220 = .ok (.invokestatic 198, 3) := dk_184 0 198 (dk_at dksL_law_45 14 rfl rfl)
theorem dL_law_1223 : decode cL_law 1223 = .ok (.istore 5, 2) := dk_54 5 (dk_at dksL_law_45 17 rfl rfl)
theorem dL_law_1225 : decode cL_law 1225 = .ok (.aload_n 2, 1) := dk_44 (dk_at dksL_law_45 19 rfl rfl)
theorem dL_law_1226 : decode cL_law 1226 = .ok (.invokevirtual 200, 3) := dk_182 0 200 (dk_at dksL_law_45 20 rfl rfl)
theorem dL_law_1229 : decode cL_law 1229 = .ok (.istore 6, 2) := dk_54 6 (dk_at dksL_law_46 0 rfl rfl)
theorem dL_law_1231 : decode cL_law 1231 = .ok (.aload_n 2, 1) := dk_44 (dk_at dksL_law_46 2 rfl rfl)
theorem dL_law_1232 : decode cL_law 1232 = .ok (.invokevirtual 139, 3) := dk_182 0 139 (dk_at dksL_law_46 3 rfl rfl)
theorem dL_law_1235 : decode cL_law 1235 = .ok (.iload 5, 2) := dk_21 5 (dk_at dksL_law_46 6 rfl rfl)
theorem dL_law_1237 : decode cL_law 1237 = .ok (.if_icmp .eq 5, 3) := dk_159 0 5 (dk_at dksL_law_46 8 rfl rfl)
theorem dL_law_1240 : decode cL_law 1240 = .ok (.iconst 0, 1) := dk_3 (dk_at dksL_law_46 11 rfl rfl)
theorem dL_law_1241 : decode cL_law 1241 = .ok (.ireturn, 1) := dk_172 (dk_at dksL_law_46 12 rfl rfl)
theorem dL_law_1242 : decode cL_law 1242 = .ok (.iload 5, 2) := dk_21 5 (dk_at dksL_law_46 13 rfl rfl)
theorem dL_law_1244 : decode cL_law 1244 = .ok (.ifCond .ne 15, 3) := dk_154 0 15 (dk_at dksL_law_46 15 rfl rfl)
theorem dL_law_1247 : decode cL_law 1247 = .ok (.aload_n 3, 1) := dk_45 (dk_at dksL_law_46 18 rfl rfl)
theorem dL_law_1248 : decode cL_law 1248 = .ok (.iconst 0, 1) := dk_3 (dk_at dksL_law_46 19 rfl rfl)
theorem dL_law_1249 : decode cL_law 1249 = .ok (.laload, 1) := dk_47 (dk_at dksL_law_46 20 rfl rfl)
theorem dL_law_1250 : decode cL_law 1250 = .ok (.iload 6, 2) := dk_21 6 (dk_at dksL_law_46 21 rfl rfl)
theorem dL_law_1252 : decode cL_law 1252 = .ok (.i2l, 1) := dk_133 (dk_at dksL_law_46 23 rfl rfl)
theorem dL_law_1253 : decode cL_law 1253 = .ok (.lcmp, 1) := dk_148 (dk_at dksL_law_47 0 rfl rfl)
theorem dL_law_1254 : decode cL_law 1254 = .ok (.ifCond .eq 5, 3) := dk_153 0 5 (dk_at dksL_law_47 1 rfl rfl)
theorem dL_law_1257 : decode cL_law 1257 = .ok (.iconst 0, 1) := dk_3 (dk_at dksL_law_47 4 rfl rfl)
theorem dL_law_1258 : decode cL_law 1258 = .ok (.ireturn, 1) := dk_172 (dk_at dksL_law_47 5 rfl rfl)
theorem dL_law_1259 : decode cL_law 1259 = .ok (.goto 1291, 3) := dk_167 5 11 (dk_at dksL_law_47 6 rfl rfl)
theorem dL_law_1262 : decode cL_law 1262 = .ok (.aload_n 1, 1) := dk_43 (dk_at dksL_law_47 9 rfl rfl)
theorem dL_law_1263 : decode cL_law 1263 = .ok (.invokevirtual 201, 3) := dk_182 0 201 (dk_at dksL_law_47 10 rfl rfl)
theorem dL_law_1266 : decode cL_law 1266 = .ok (.aload_n 2, 1) := dk_44 (dk_at dksL_law_47 13 rfl rfl)
theorem dL_law_1267 : decode cL_law 1267 = .ok (.invokevirtual 204, 3) := dk_182 0 204 (dk_at dksL_law_47 14 rfl rfl)
theorem dL_law_1270 : decode cL_law 1270 = .ok (.if_icmp .eq 1280, 3) := dk_159 5 0 (dk_at dksL_law_47 17 rfl rfl)
theorem dL_law_1273 : decode cL_law 1273 = .ok (.iconst 0, 1) := dk_3 (dk_at dksL_law_47 20 rfl rfl)
theorem dL_law_1274 : decode cL_law 1274 = .ok (.ireturn, 1) := dk_172 (dk_at dksL_law_47 21 rfl rfl)
theorem dL_law_1275 : decode cL_law 1275 = .ok (.aload_n 1, 1) := dk_43 (dk_at dksL_law_47 22 rfl rfl)
theorem dL_law_1276 : decode cL_law 1276 = .ok (.aload_n 0, 1) := dk_42 (dk_at dksL_law_47 23 rfl rfl)
theorem dL_law_1277 : decode cL_law 1277 = .ok (.iload 4, 2) := dk_21 4 (dk_at dksL_law_48 0 rfl rfl)
theorem dL_law_1279 : decode cL_law 1279 = .ok (.iconst 1, 1) := dk_4 (dk_at dksL_law_48 2 rfl rfl)
theorem dL_law_1280 : decode cL_law 1280 = .ok (.iadd, 1) := dk_96 (dk_at dksL_law_48 3 rfl rfl)
theorem dL_law_1281 : decode cL_law 1281 = .ok (.iaload, 1) := dk_46 (dk_at dksL_law_48 4 rfl rfl)
theorem dL_law_1282 : decode cL_law 1282 = .ok (.aload_n 0, 1) := dk_42 (dk_at dksL_law_48 5 rfl rfl)
theorem dL_law_1283 : decode cL_law 1283 = .ok (.iload 4, 2) := dk_21 4 (dk_at dksL_law_48 6 rfl rfl)
theorem dL_law_1285 : decode cL_law 1285 = .ok (.iconst 2, 1) := dk_5 (dk_at dksL_law_48 8 rfl rfl)
theorem dL_law_1286 : decode cL_law 1286 = .ok (.iadd, 1) := dk_96 (dk_at dksL_law_48 9 rfl rfl)
theorem dL_law_1287 : decode cL_law 1287 = .ok (.iaload, 1) := dk_46 (dk_at dksL_law_48 10 rfl rfl)
theorem dL_law_1288 : decode cL_law 1288 = .ok (.aload_n 3, 1) := dk_45 (dk_at dksL_law_48 11 rfl rfl)
theorem dL_law_1289 : decode cL_law 1289 = .ok (.invokestatic 205, 3) := dk_184 0 205 (dk_at dksL_law_48 12 rfl rfl)
theorem dL_law_1292 : decode cL_law 1292 = .ok (.istore 5, 2) := dk_54 5 (dk_at dksL_law_48 15 rfl rfl)
theorem dL_law_1294 : decode cL_law 1294 = .ok (.aload_n 2, 1) := dk_44 (dk_at dksL_law_48 17 rfl rfl)
theorem dL_law_1295 : decode cL_law 1295 = .ok (.aload_n 0, 1) := dk_42 (dk_at dksL_law_48 18 rfl rfl)
theorem dL_law_1296 : decode cL_law 1296 = .ok (.iload 4, 2) := dk_21 4 (dk_at dksL_law_48 19 rfl rfl)
theorem dL_law_1298 : decode cL_law 1298 = .ok (.iconst 1, 1) := dk_4 (dk_at dksL_law_48 21 rfl rfl)
theorem dL_law_1299 : decode cL_law 1299 = .ok (.iadd, 1) := dk_96 (dk_at dksL_law_48 22 rfl rfl)
theorem dL_law_1300 : decode cL_law 1300 = .ok (.iaload, 1) := dk_46 (dk_at dksL_law_48 23 rfl rfl)
theorem dL_law_1301 : decode cL_law 1301 = .ok (.aload_n 0, 1) := dk_42 (dk_at dksL_law_49 0 rfl rfl)
theorem dL_law_1302 : decode cL_law 1302 = .ok (.iload 4, 2) := dk_21 4 (dk_at dksL_law_49 1 rfl rfl)
theorem dL_law_1304 : decode cL_law 1304 = .ok (.iconst 2, 1) := dk_5 (dk_at dksL_law_49 3 rfl rfl)
theorem dL_law_1305 : decode cL_law 1305 = .ok (.iadd, 1) := dk_96 (dk_at dksL_law_49 4 rfl rfl)
theorem dL_law_1306 : decode cL_law 1306 = .ok (.iaload, 1) := dk_46 (dk_at dksL_law_49 5 rfl rfl)
theorem dL_law_1307 : decode cL_law 1307 = .ok (.invokevirtual 207, 3) := dk_182 0 207 (dk_at dksL_law_49 6 rfl rfl)
theorem dL_law_1310 : decode cL_law 1310 = .ok (.istore 6, 2) := dk_54 6 (dk_at dksL_law_49 9 rfl rfl)
theorem dL_law_1312 : decode cL_law 1312 = .ok (.aload_n 2, 1) := dk_44 (dk_at dksL_law_49 11 rfl rfl)
theorem dL_law_1313 : decode cL_law 1313 = .ok (.invokevirtual 139, 3) := dk_182 0 139 (dk_at dksL_law_49 12 rfl rfl)
theorem dL_law_1316 : decode cL_law 1316 = .ok (.iload 5, 2) := dk_21 5 (dk_at dksL_law_49 15 rfl rfl)
theorem dL_law_1318 : decode cL_law 1318 = .ok (.if_icmp .eq 5, 3) := dk_159 0 5 (dk_at dksL_law_49 17 rfl rfl)
theorem dL_law_1321 : decode cL_law 1321 = .ok (.iconst 0, 1) := dk_3 (dk_at dksL_law_49 20 rfl rfl)
theorem dL_law_1322 : decode cL_law 1322 = .ok (.ireturn, 1) := dk_172 (dk_at dksL_law_49 21 rfl rfl)
theorem dL_law_1323 : decode cL_law 1323 = .ok (.iload 5, 2) := dk_21 5 (dk_at dksL_law_49 22 rfl rfl)
theorem dL_law_1325 : decode cL_law 1325 = .ok (.ifCond .ne 22, 3) := dk_154 0 22 (dk_at dksL_law_50 0 rfl rfl)
theorem dL_law_1328 : decode cL_law 1328 = .ok (.aload_n 3, 1) := dk_45 (dk_at dksL_law_50 3 rfl rfl)
theorem dL_law_1329 : decode cL_law 1329 = .ok (.iconst 0, 1) := dk_3 (dk_at dksL_law_50 4 rfl rfl)
theorem dL_law_1330 : decode cL_law 1330 = .ok (.laload, 1) := dk_47 (dk_at dksL_law_50 5 rfl rfl)
theorem dL_law_1331 : decode cL_law 1331 = .ok (.iload 6, 2) := dk_21 6 (dk_at dksL_law_50 6 rfl rfl)
theorem dL_law_1333 : decode cL_law 1333 = .ok (.ifCond .eq 7, 3) := dk_153 0 7 (dk_at dksL_law_50 8 rfl rfl)
theorem dL_law_1336 : decode cL_law 1336 = .ok (.lconst 1, 1) := dk_10 (dk_at dksL_law_50 11 rfl rfl)
theorem dL_law_1337 : decode cL_law 1337 = .ok (.goto 4, 3) := dk_167 0 4 (dk_at dksL_law_50 12 rfl rfl)
theorem dL_law_1340 : decode cL_law 1340 = .ok (.lconst 0, 1) := dk_9 (dk_at dksL_law_50 15 rfl rfl)
theorem dL_law_1341 : decode cL_law 1341 = .ok (.lcmp, 1) := dk_148 (dk_at dksL_law_50 16 rfl rfl)
theorem dL_law_1342 : decode cL_law 1342 = .ok (.ifCond .eq 5, 3) := dk_153 0 5 (dk_at dksL_law_50 17 rfl rfl)
theorem dL_law_1345 : decode cL_law 1345 = .ok (.iconst 0, 1) := dk_3 (dk_at dksL_law_50 20 rfl rfl)
theorem dL_law_1346 : decode cL_law 1346 = .ok (.ireturn, 1) := dk_172 (dk_at dksL_law_50 21 rfl rfl)
theorem dL_law_1347 : decode cL_law 1347 = .ok (.goto 1203, 3) := dk_167 4 179 (dk_at dksL_law_51 0 rfl rfl)
theorem dL_law_1350 : decode cL_law 1350 = .ok (.aload_n 1, 1) := dk_43 (dk_at dksL_law_51 3 rfl rfl)
theorem dL_law_1351 : decode cL_law 1351 = .ok (.aload_n 0, 1) := dk_42 (dk_at dksL_law_51 4 rfl rfl)
theorem dL_law_1352 : decode cL_law 1352 = .ok (.iload 4, 2) := dk_21 4 (dk_at dksL_law_51 5 rfl rfl)
theorem dL_law_1354 : decode cL_law 1354 = .ok (.iconst 1, 1) := dk_4 (dk_at dksL_law_51 7 rfl rfl)
theorem dL_law_1355 : decode cL_law 1355 = .ok (.iadd, 1) := dk_96 (dk_at dksL_law_51 8 rfl rfl)
theorem dL_law_1356 : decode cL_law 1356 = .ok (.iaload, 1) := dk_46 (dk_at dksL_law_51 9 rfl rfl)
theorem dL_law_1357 : decode cL_law 1357 = .ok (.aload_n 0, 1) := dk_42 (dk_at dksL_law_51 10 rfl rfl)
theorem dL_law_1358 : decode cL_law 1358 = .ok (.iload 4, 2) := dk_21 4 (dk_at dksL_law_51 11 rfl rfl)
theorem dL_law_1360 : decode cL_law 1360 = .ok (.iconst 2, 1) := dk_5 (dk_at dksL_law_51 13 rfl rfl)
theorem dL_law_1361 : decode cL_law 1361 = .ok (.iadd, 1) := dk_96 (dk_at dksL_law_51 14 rfl rfl)
theorem dL_law_1362 : decode cL_law 1362 = .ok (.iaload, 1) := dk_46 (dk_at dksL_law_51 15 rfl rfl)
theorem dL_law_1363 : decode cL_law 1363 = .ok (.aload_n 3, 1) := dk_45 (dk_at dksL_law_51 16 rfl rfl)
theorem dL_law_1364 : decode cL_law 1364 = .ok (.invokestatic 208, 3) := dk_184 0 208 (dk_at dksL_law_51 17 rfl rfl)
theorem dL_law_1367 : decode cL_law 1367 = .ok (.istore 5, 2) := dk_54 5 (dk_at dksL_law_51 20 rfl rfl)
theorem dL_law_1369 : decode cL_law 1369 = .ok (.aload_n 2, 1) := dk_44 (dk_at dksL_law_51 22 rfl rfl)
theorem dL_law_1370 : decode cL_law 1370 = .ok (.aload_n 0, 1) := dk_42 (dk_at dksL_law_51 23 rfl rfl)
theorem dL_law_1371 : decode cL_law 1371 = .ok (.iload 4, 2) := dk_21 4 (dk_at dksL_law_52 0 rfl rfl)
theorem dL_law_1373 : decode cL_law 1373 = .ok (.iconst 1, 1) := dk_4 (dk_at dksL_law_52 2 rfl rfl)
theorem dL_law_1374 : decode cL_law 1374 = .ok (.iadd, 1) := dk_96 (dk_at dksL_law_52 3 rfl rfl)
theorem dL_law_1375 : decode cL_law 1375 = .ok (.iaload, 1) := dk_46 (dk_at dksL_law_52 4 rfl rfl)
theorem dL_law_1376 : decode cL_law 1376 = .ok (.aload_n 0, 1) := dk_42 (dk_at dksL_law_52 5 rfl rfl)
theorem dL_law_1377 : decode cL_law 1377 = .ok (.iload 4, 2) := dk_21 4 (dk_at dksL_law_52 6 rfl rfl)
theorem dL_law_1379 : decode cL_law 1379 = .ok (.iconst 2, 1) := dk_5 (dk_at dksL_law_52 8 rfl rfl)
theorem dL_law_1380 : decode cL_law 1380 = .ok (.iadd, 1) := dk_96 (dk_at dksL_law_52 9 rfl rfl)
theorem dL_law_1381 : decode cL_law 1381 = .ok (.iaload, 1) := dk_46 (dk_at dksL_law_52 10 rfl rfl)
theorem dL_law_1382 : decode cL_law 1382 = .ok (.invokevirtual 210, 3) := dk_182 0 210 (dk_at dksL_law_52 11 rfl rfl)
theorem dL_law_1385 : decode cL_law 1385 = .ok (.istore 6, 2) := dk_54 6 (dk_at dksL_law_52 14 rfl rfl)
theorem dL_law_1387 : decode cL_law 1387 = .ok (.aload_n 2, 1) := dk_44 (dk_at dksL_law_52 16 rfl rfl)
theorem dL_law_1388 : decode cL_law 1388 = .ok (.invokevirtual 139, 3) := dk_182 0 139 (dk_at dksL_law_52 17 rfl rfl)
theorem dL_law_1391 : decode cL_law 1391 = .ok (.iload 5, 2) := dk_21 5 (dk_at dksL_law_52 20 rfl rfl)
theorem dL_law_1393 : decode cL_law 1393 = .ok (.if_icmp .eq 5, 3) := dk_159 0 5 (dk_at dksL_law_53 0 rfl rfl)
theorem dL_law_1396 : decode cL_law 1396 = .ok (.iconst 0, 1) := dk_3 (dk_at dksL_law_53 3 rfl rfl)
theorem dL_law_1397 : decode cL_law 1397 = .ok (.ireturn, 1) := dk_172 (dk_at dksL_law_53 4 rfl rfl)
theorem dL_law_1398 : decode cL_law 1398 = .ok (.iload 5, 2) := dk_21 5 (dk_at dksL_law_53 5 rfl rfl)
theorem dL_law_1400 : decode cL_law 1400 = .ok (.ifCond .ne 15, 3) := dk_154 0 15 (dk_at dksL_law_53 7 rfl rfl)
theorem dL_law_1403 : decode cL_law 1403 = .ok (.aload_n 3, 1) := dk_45 (dk_at dksL_law_53 10 rfl rfl)
theorem dL_law_1404 : decode cL_law 1404 = .ok (.iconst 0, 1) := dk_3 (dk_at dksL_law_53 11 rfl rfl)
theorem dL_law_1405 : decode cL_law 1405 = .ok (.laload, 1) := dk_47 (dk_at dksL_law_53 12 rfl rfl)
theorem dL_law_1406 : decode cL_law 1406 = .ok (.iload 6, 2) := dk_21 6 (dk_at dksL_law_53 13 rfl rfl)
theorem dL_law_1408 : decode cL_law 1408 = .ok (.i2l, 1) := dk_133 (dk_at dksL_law_53 15 rfl rfl)
theorem dL_law_1409 : decode cL_law 1409 = .ok (.lcmp, 1) := dk_148 (dk_at dksL_law_53 16 rfl rfl)
theorem dL_law_1410 : decode cL_law 1410 = .ok (.ifCond .eq 5, 3) := dk_153 0 5 (dk_at dksL_law_53 17 rfl rfl)
theorem dL_law_1413 : decode cL_law 1413 = .ok (.iconst 0, 1) := dk_3 (dk_at dksL_law_53 20 rfl rfl)
theorem dL_law_1414 : decode cL_law 1414 = .ok (.ireturn, 1) := dk_172 (dk_at dksL_law_53 21 rfl rfl)
theorem dL_law_1415 : decode cL_law 1415 = .ok (.goto 1135, 3) := dk_167 4 111 (dk_at dksL_law_54 0 rfl rfl)
theorem dL_law_1418 : decode cL_law 1418 = .ok (.aload_n 1, 1) := dk_43 (dk_at dksL_law_54 3 rfl rfl)
theorem dL_law_1419 : decode cL_law 1419 = .ok (.aload_n 0, 1) := dk_42 (dk_at dksL_law_54 4 rfl rfl)
theorem dL_law_1420 : decode cL_law 1420 = .ok (.iload 4, 2) := dk_21 4 (dk_at dksL_law_54 5 rfl rfl)
theorem dL_law_1422 : decode cL_law 1422 = .ok (.iconst 1, 1) := dk_4 (dk_at dksL_law_54 7 rfl rfl)
theorem dL_law_1423 : decode cL_law 1423 = .ok (.iadd, 1) := dk_96 (dk_at dksL_law_54 8 rfl rfl)
theorem dL_law_1424 : decode cL_law 1424 = .ok (.iaload, 1) := dk_46 (dk_at dksL_law_54 9 rfl rfl)
theorem dL_law_1425 : decode cL_law 1425 = .ok (.aload_n 0, 1) := dk_42 (dk_at dksL_law_54 10 rfl rfl)
theorem dL_law_1426 : decode cL_law 1426 = .ok (.iload 4, 2) := dk_21 4 (dk_at dksL_law_54 11 rfl rfl)
theorem dL_law_1428 : decode cL_law 1428 = .ok (.iconst 2, 1) := dk_5 (dk_at dksL_law_54 13 rfl rfl)
theorem dL_law_1429 : decode cL_law 1429 = .ok (.iadd, 1) := dk_96 (dk_at dksL_law_54 14 rfl rfl)
theorem dL_law_1430 : decode cL_law 1430 = .ok (.iaload, 1) := dk_46 (dk_at dksL_law_54 15 rfl rfl)
theorem dL_law_1431 : decode cL_law 1431 = .ok (.aload_n 3, 1) := dk_45 (dk_at dksL_law_54 16 rfl rfl)
theorem dL_law_1432 : decode cL_law 1432 = .ok (.invokestatic 211, 3) := dk_184 0 211 (dk_at dksL_law_54 17 rfl rfl)
theorem dL_law_1435 : decode cL_law 1435 = .ok (.istore 5, 2) := dk_54 5 (dk_at dksL_law_54 20 rfl rfl)
theorem dL_law_1437 : decode cL_law 1437 = .ok (.aload_n 2, 1) := dk_44 (dk_at dksL_law_54 22 rfl rfl)
theorem dL_law_1438 : decode cL_law 1438 = .ok (.aload_n 0, 1) := dk_42 (dk_at dksL_law_54 23 rfl rfl)
theorem dL_law_1439 : decode cL_law 1439 = .ok (.iload 4, 2) := dk_21 4 (dk_at dksL_law_55 0 rfl rfl)
theorem dL_law_1441 : decode cL_law 1441 = .ok (.iconst 1, 1) := dk_4 (dk_at dksL_law_55 2 rfl rfl)
theorem dL_law_1442 : decode cL_law 1442 = .ok (.iadd, 1) := dk_96 (dk_at dksL_law_55 3 rfl rfl)
theorem dL_law_1443 : decode cL_law 1443 = .ok (.iaload, 1) := dk_46 (dk_at dksL_law_55 4 rfl rfl)
theorem dL_law_1444 : decode cL_law 1444 = .ok (.aload_n 0, 1) := dk_42 (dk_at dksL_law_55 5 rfl rfl)
theorem dL_law_1445 : decode cL_law 1445 = .ok (.iload 4, 2) := dk_21 4 (dk_at dksL_law_55 6 rfl rfl)
theorem dL_law_1447 : decode cL_law 1447 = .ok (.iconst 2, 1) := dk_5 (dk_at dksL_law_55 8 rfl rfl)
theorem dL_law_1448 : decode cL_law 1448 = .ok (.iadd, 1) := dk_96 (dk_at dksL_law_55 9 rfl rfl)
theorem dL_law_1449 : decode cL_law 1449 = .ok (.iaload, 1) := dk_46 (dk_at dksL_law_55 10 rfl rfl)
theorem dL_law_1450 : decode cL_law 1450 = .ok (.invokevirtual 213, 3) := dk_182 0 213 (dk_at dksL_law_55 11 rfl rfl)
theorem dL_law_1453 : decode cL_law 1453 = .ok (.istore 6, 2) := dk_54 6 (dk_at dksL_law_55 14 rfl rfl)
theorem dL_law_1455 : decode cL_law 1455 = .ok (.aload_n 2, 1) := dk_44 (dk_at dksL_law_55 16 rfl rfl)
theorem dL_law_1456 : decode cL_law 1456 = .ok (.invokevirtual 139, 3) := dk_182 0 139 (dk_at dksL_law_55 17 rfl rfl)
theorem dL_law_1459 : decode cL_law 1459 = .ok (.iload 5, 2) := dk_21 5 (dk_at dksL_law_55 20 rfl rfl)
theorem dL_law_1461 : decode cL_law 1461 = .ok (.if_icmp .eq 5, 3) := dk_159 0 5 (dk_at dksL_law_56 0 rfl rfl)
theorem dL_law_1464 : decode cL_law 1464 = .ok (.iconst 0, 1) := dk_3 (dk_at dksL_law_56 3 rfl rfl)
theorem dL_law_1465 : decode cL_law 1465 = .ok (.ireturn, 1) := dk_172 (dk_at dksL_law_56 4 rfl rfl)
theorem dL_law_1466 : decode cL_law 1466 = .ok (.iload 5, 2) := dk_21 5 (dk_at dksL_law_56 5 rfl rfl)
theorem dL_law_1468 : decode cL_law 1468 = .ok (.ifCond .ne 15, 3) := dk_154 0 15 (dk_at dksL_law_56 7 rfl rfl)
theorem dL_law_1471 : decode cL_law 1471 = .ok (.aload_n 3, 1) := dk_45 (dk_at dksL_law_56 10 rfl rfl)
theorem dL_law_1472 : decode cL_law 1472 = .ok (.iconst 0, 1) := dk_3 (dk_at dksL_law_56 11 rfl rfl)
theorem dL_law_1473 : decode cL_law 1473 = .ok (.laload, 1) := dk_47 (dk_at dksL_law_56 12 rfl rfl)
theorem dL_law_1474 : decode cL_law 1474 = .ok (.iload 6, 2) := dk_21 6 (dk_at dksL_law_56 13 rfl rfl)
theorem dL_law_1476 : decode cL_law 1476 = .ok (.i2l, 1) := dk_133 (dk_at dksL_law_56 15 rfl rfl)
theorem dL_law_1477 : decode cL_law 1477 = .ok (.lcmp, 1) := dk_148 (dk_at dksL_law_56 16 rfl rfl)
theorem dL_law_1478 : decode cL_law 1478 = .ok (.ifCond .eq 5, 3) := dk_153 0 5 (dk_at dksL_law_56 17 rfl rfl)
theorem dL_law_1481 : decode cL_law 1481 = .ok (.iconst 0, 1) := dk_3 (dk_at dksL_law_56 20 rfl rfl)
theorem dL_law_1482 : decode cL_law 1482 = .ok (.ireturn, 1) := dk_172 (dk_at dksL_law_56 21 rfl rfl)
theorem dL_law_1483 : decode cL_law 1483 = .ok (.goto 1067, 3) := dk_167 4 43 (dk_at dksL_law_57 0 rfl rfl)
theorem dL_law_1486 : decode cL_law 1486 = .ok (.aload_n 1, 1) := dk_43 (dk_at dksL_law_57 3 rfl rfl)
theorem dL_law_1487 : decode cL_law 1487 = .ok (.aload_n 0, 1) := dk_42 (dk_at dksL_law_57 4 rfl rfl)
theorem dL_law_1488 : decode cL_law 1488 = .ok (.iload 4, 2) := dk_21 4 (dk_at dksL_law_57 5 rfl rfl)
theorem dL_law_1490 : decode cL_law 1490 = .ok (.iconst 1, 1) := dk_4 (dk_at dksL_law_57 7 rfl rfl)
theorem dL_law_1491 : decode cL_law 1491 = .ok (.iadd, 1) := dk_96 (dk_at dksL_law_57 8 rfl rfl)
theorem dL_law_1492 : decode cL_law 1492 = .ok (.iaload, 1) := dk_46 (dk_at dksL_law_57 9 rfl rfl)
theorem dL_law_1493 : decode cL_law 1493 = .ok (.aload_n 0, 1) := dk_42 (dk_at dksL_law_57 10 rfl rfl)
theorem dL_law_1494 : decode cL_law 1494 = .ok (.iload 4, 2) := dk_21 4 (dk_at dksL_law_57 11 rfl rfl)
theorem dL_law_1496 : decode cL_law 1496 = .ok (.iconst 2, 1) := dk_5 (dk_at dksL_law_57 13 rfl rfl)
theorem dL_law_1497 : decode cL_law 1497 = .ok (.iadd, 1) := dk_96 (dk_at dksL_law_57 14 rfl rfl)
theorem dL_law_1498 : decode cL_law 1498 = .ok (.iaload, 1) := dk_46 (dk_at dksL_law_57 15 rfl rfl)
theorem dL_law_1499 : decode cL_law 1499 = .ok (.aload_n 3, 1) := dk_45 (dk_at dksL_law_57 16 rfl rfl)
theorem dL_law_1500 : decode cL_law 1500 = .ok (.invokestatic 214, 3) := dk_184 0 214 (dk_at dksL_law_57 17 rfl rfl)
theorem dL_law_1503 : decode cL_law 1503 = .ok (.istore 5, 2) := dk_54 5 (dk_at dksL_law_57 20 rfl rfl)
theorem dL_law_1505 : decode cL_law 1505 = .ok (.aload_n 2, 1) := dk_44 (dk_at dksL_law_57 22 rfl rfl)
theorem dL_law_1506 : decode cL_law 1506 = .ok (.aload_n 0, 1) := dk_42 (dk_at dksL_law_57 23 rfl rfl)
theorem dL_law_1507 : decode cL_law 1507 = .ok (.iload 4, 2) := dk_21 4 (dk_at dksL_law_58 0 rfl rfl)
theorem dL_law_1509 : decode cL_law 1509 = .ok (.iconst 1, 1) := dk_4 (dk_at dksL_law_58 2 rfl rfl)
theorem dL_law_1510 : decode cL_law 1510 = .ok (.iadd, 1) := dk_96 (dk_at dksL_law_58 3 rfl rfl)
theorem dL_law_1511 : decode cL_law 1511 = .ok (.iaload, 1) := dk_46 (dk_at dksL_law_58 4 rfl rfl)
theorem dL_law_1512 : decode cL_law 1512 = .ok (.aload_n 0, 1) := dk_42 (dk_at dksL_law_58 5 rfl rfl)
theorem dL_law_1513 : decode cL_law 1513 = .ok (.iload 4, 2) := dk_21 4 (dk_at dksL_law_58 6 rfl rfl)
theorem dL_law_1515 : decode cL_law 1515 = .ok (.iconst 2, 1) := dk_5 (dk_at dksL_law_58 8 rfl rfl)
theorem dL_law_1516 : decode cL_law 1516 = .ok (.iadd, 1) := dk_96 (dk_at dksL_law_58 9 rfl rfl)
theorem dL_law_1517 : decode cL_law 1517 = .ok (.iaload, 1) := dk_46 (dk_at dksL_law_58 10 rfl rfl)
theorem dL_law_1518 : decode cL_law 1518 = .ok (.invokevirtual 216, 3) := dk_182 0 216 (dk_at dksL_law_58 11 rfl rfl)
theorem dL_law_1521 : decode cL_law 1521 = .ok (.istore 6, 2) := dk_54 6 (dk_at dksL_law_58 14 rfl rfl)
theorem dL_law_1523 : decode cL_law 1523 = .ok (.aload_n 2, 1) := dk_44 (dk_at dksL_law_58 16 rfl rfl)
theorem dL_law_1524 : decode cL_law 1524 = .ok (.invokevirtual 139, 3) := dk_182 0 139 (dk_at dksL_law_58 17 rfl rfl)
theorem dL_law_1527 : decode cL_law 1527 = .ok (.iload 5, 2) := dk_21 5 (dk_at dksL_law_58 20 rfl rfl)
theorem dL_law_1529 : decode cL_law 1529 = .ok (.if_icmp .eq 5, 3) := dk_159 0 5 (dk_at dksL_law_59 0 rfl rfl)
theorem dL_law_1532 : decode cL_law 1532 = .ok (.iconst 0, 1) := dk_3 (dk_at dksL_law_59 3 rfl rfl)
theorem dL_law_1533 : decode cL_law 1533 = .ok (.ireturn, 1) := dk_172 (dk_at dksL_law_59 4 rfl rfl)
theorem dL_law_1534 : decode cL_law 1534 = .ok (.iload 5, 2) := dk_21 5 (dk_at dksL_law_59 5 rfl rfl)
theorem dL_law_1536 : decode cL_law 1536 = .ok (.ifCond .ne 15, 3) := dk_154 0 15 (dk_at dksL_law_59 7 rfl rfl)
theorem dL_law_1539 : decode cL_law 1539 = .ok (.aload_n 3, 1) := dk_45 (dk_at dksL_law_59 10 rfl rfl)
theorem dL_law_1540 : decode cL_law 1540 = .ok (.iconst 0, 1) := dk_3 (dk_at dksL_law_59 11 rfl rfl)
theorem dL_law_1541 : decode cL_law 1541 = .ok (.laload, 1) := dk_47 (dk_at dksL_law_59 12 rfl rfl)
theorem dL_law_1542 : decode cL_law 1542 = .ok (.iload 6, 2) := dk_21 6 (dk_at dksL_law_59 13 rfl rfl)
theorem dL_law_1544 : decode cL_law 1544 = .ok (.i2l, 1) := dk_133 (dk_at dksL_law_59 15 rfl rfl)
theorem dL_law_1545 : decode cL_law 1545 = .ok (.lcmp, 1) := dk_148 (dk_at dksL_law_59 16 rfl rfl)
theorem dL_law_1546 : decode cL_law 1546 = .ok (.ifCond .eq 5, 3) := dk_153 0 5 (dk_at dksL_law_59 17 rfl rfl)
theorem dL_law_1549 : decode cL_law 1549 = .ok (.iconst 0, 1) := dk_3 (dk_at dksL_law_59 20 rfl rfl)
theorem dL_law_1550 : decode cL_law 1550 = .ok (.ireturn, 1) := dk_172 (dk_at dksL_law_59 21 rfl rfl)
theorem dL_law_1551 : decode cL_law 1551 = .ok (.goto 999, 3) := dk_167 3 231 (dk_at dksL_law_60 0 rfl rfl)
theorem dL_law_1554 : decode cL_law 1554 = .ok (.aload_n 1, 1) := dk_43 (dk_at dksL_law_60 3 rfl rfl)
theorem dL_law_1555 : decode cL_law 1555 = .ok (.aload_n 0, 1) := dk_42 (dk_at dksL_law_60 4 rfl rfl)
theorem dL_law_1556 : decode cL_law 1556 = .ok (.iload 4, 2) := dk_21 4 (dk_at dksL_law_60 5 rfl rfl)
theorem dL_law_1558 : decode cL_law 1558 = .ok (.iconst 1, 1) := dk_4 (dk_at dksL_law_60 7 rfl rfl)
theorem dL_law_1559 : decode cL_law 1559 = .ok (.iadd, 1) := dk_96 (dk_at dksL_law_60 8 rfl rfl)
theorem dL_law_1560 : decode cL_law 1560 = .ok (.iaload, 1) := dk_46 (dk_at dksL_law_60 9 rfl rfl)
theorem dL_law_1561 : decode cL_law 1561 = .ok (.aload_n 0, 1) := dk_42 (dk_at dksL_law_60 10 rfl rfl)
theorem dL_law_1562 : decode cL_law 1562 = .ok (.iload 4, 2) := dk_21 4 (dk_at dksL_law_60 11 rfl rfl)
theorem dL_law_1564 : decode cL_law 1564 = .ok (.iconst 2, 1) := dk_5 (dk_at dksL_law_60 13 rfl rfl)
theorem dL_law_1565 : decode cL_law 1565 = .ok (.iadd, 1) := dk_96 (dk_at dksL_law_60 14 rfl rfl)
theorem dL_law_1566 : decode cL_law 1566 = .ok (.iaload, 1) := dk_46 (dk_at dksL_law_60 15 rfl rfl)
theorem dL_law_1567 : decode cL_law 1567 = .ok (.aload_n 3, 1) := dk_45 (dk_at dksL_law_60 16 rfl rfl)
theorem dL_law_1568 : decode cL_law 1568 = .ok (.invokestatic 217, 3) := dk_184 0 217 (dk_at dksL_law_60 17 rfl rfl)
theorem dL_law_1571 : decode cL_law 1571 = .ok (.istore 5, 2) := dk_54 5 (dk_at dksL_law_60 20 rfl rfl)
theorem dL_law_1573 : decode cL_law 1573 = .ok (.aload_n 2, 1) := dk_44 (dk_at dksL_law_60 22 rfl rfl)
theorem dL_law_1574 : decode cL_law 1574 = .ok (.aload_n 0, 1) := dk_42 (dk_at dksL_law_60 23 rfl rfl)
theorem dL_law_1575 : decode cL_law 1575 = .ok (.iload 4, 2) := dk_21 4 (dk_at dksL_law_61 0 rfl rfl)
theorem dL_law_1577 : decode cL_law 1577 = .ok (.iconst 1, 1) := dk_4 (dk_at dksL_law_61 2 rfl rfl)
theorem dL_law_1578 : decode cL_law 1578 = .ok (.iadd, 1) := dk_96 (dk_at dksL_law_61 3 rfl rfl)
theorem dL_law_1579 : decode cL_law 1579 = .ok (.iaload, 1) := dk_46 (dk_at dksL_law_61 4 rfl rfl)
theorem dL_law_1580 : decode cL_law 1580 = .ok (.aload_n 0, 1) := dk_42 (dk_at dksL_law_61 5 rfl rfl)
theorem dL_law_1581 : decode cL_law 1581 = .ok (.iload 4, 2) := dk_21 4 (dk_at dksL_law_61 6 rfl rfl)
theorem dL_law_1583 : decode cL_law 1583 = .ok (.iconst 2, 1) := dk_5 (dk_at dksL_law_61 8 rfl rfl)
theorem dL_law_1584 : decode cL_law 1584 = .ok (.iadd, 1) := dk_96 (dk_at dksL_law_61 9 rfl rfl)
theorem dL_law_1585 : decode cL_law 1585 = .ok (.iaload, 1) := dk_46 (dk_at dksL_law_61 10 rfl rfl)
theorem dL_law_1586 : decode cL_law 1586 = .ok (.invokevirtual 219, 3) := dk_182 0 219 (dk_at dksL_law_61 11 rfl rfl)
theorem dL_law_1589 : decode cL_law 1589 = .ok (.istore 6, 2) := dk_54 6 (dk_at dksL_law_61 14 rfl rfl)
theorem dL_law_1591 : decode cL_law 1591 = .ok (.aload_n 2, 1) := dk_44 (dk_at dksL_law_61 16 rfl rfl)
theorem dL_law_1592 : decode cL_law 1592 = .ok (.invokevirtual 139, 3) := dk_182 0 139 (dk_at dksL_law_61 17 rfl rfl)
theorem dL_law_1595 : decode cL_law 1595 = .ok (.iload 5, 2) := dk_21 5 (dk_at dksL_law_61 20 rfl rfl)
theorem dL_law_1597 : decode cL_law 1597 = .ok (.if_icmp .eq 5, 3) := dk_159 0 5 (dk_at dksL_law_62 0 rfl rfl)
theorem dL_law_1600 : decode cL_law 1600 = .ok (.iconst 0, 1) := dk_3 (dk_at dksL_law_62 3 rfl rfl)
theorem dL_law_1601 : decode cL_law 1601 = .ok (.ireturn, 1) := dk_172 (dk_at dksL_law_62 4 rfl rfl)
theorem dL_law_1602 : decode cL_law 1602 = .ok (.iload 5, 2) := dk_21 5 (dk_at dksL_law_62 5 rfl rfl)
theorem dL_law_1604 : decode cL_law 1604 = .ok (.ifCond .ne 15, 3) := dk_154 0 15 (dk_at dksL_law_62 7 rfl rfl)
theorem dL_law_1607 : decode cL_law 1607 = .ok (.aload_n 3, 1) := dk_45 (dk_at dksL_law_62 10 rfl rfl)
theorem dL_law_1608 : decode cL_law 1608 = .ok (.iconst 0, 1) := dk_3 (dk_at dksL_law_62 11 rfl rfl)
theorem dL_law_1609 : decode cL_law 1609 = .ok (.laload, 1) := dk_47 (dk_at dksL_law_62 12 rfl rfl)
theorem dL_law_1610 : decode cL_law 1610 = .ok (.iload 6, 2) := dk_21 6 (dk_at dksL_law_62 13 rfl rfl)
theorem dL_law_1612 : decode cL_law 1612 = .ok (.i2l, 1) := dk_133 (dk_at dksL_law_62 15 rfl rfl)
theorem dL_law_1613 : decode cL_law 1613 = .ok (.lcmp, 1) := dk_148 (dk_at dksL_law_62 16 rfl rfl)
theorem dL_law_1614 : decode cL_law 1614 = .ok (.ifCond .eq 5, 3) := dk_153 0 5 (dk_at dksL_law_62 17 rfl rfl)
theorem dL_law_1617 : decode cL_law 1617 = .ok (.iconst 0, 1) := dk_3 (dk_at dksL_law_62 20 rfl rfl)
theorem dL_law_1618 : decode cL_law 1618 = .ok (.ireturn, 1) := dk_172 (dk_at dksL_law_62 21 rfl rfl)
theorem dL_law_1619 : decode cL_law 1619 = .ok (.goto 931, 3) := dk_167 3 163 (dk_at dksL_law_63 0 rfl rfl)
theorem dL_law_1622 : decode cL_law 1622 = .ok (.aload_n 1, 1) := dk_43 (dk_at dksL_law_63 3 rfl rfl)
theorem dL_law_1623 : decode cL_law 1623 = .ok (.aload_n 0, 1) := dk_42 (dk_at dksL_law_63 4 rfl rfl)
theorem dL_law_1624 : decode cL_law 1624 = .ok (.iload 4, 2) := dk_21 4 (dk_at dksL_law_63 5 rfl rfl)
theorem dL_law_1626 : decode cL_law 1626 = .ok (.iconst 1, 1) := dk_4 (dk_at dksL_law_63 7 rfl rfl)
theorem dL_law_1627 : decode cL_law 1627 = .ok (.iadd, 1) := dk_96 (dk_at dksL_law_63 8 rfl rfl)
theorem dL_law_1628 : decode cL_law 1628 = .ok (.iaload, 1) := dk_46 (dk_at dksL_law_63 9 rfl rfl)
theorem dL_law_1629 : decode cL_law 1629 = .ok (.aload_n 3, 1) := dk_45 (dk_at dksL_law_63 10 rfl rfl)
theorem dL_law_1630 : decode cL_law 1630 = .ok (.invokestatic 220, 3) := dk_184 0 220 (dk_at dksL_law_63 11 rfl rfl)
theorem dL_law_1633 : decode cL_law 1633 = .ok (.istore 5, 2) := dk_54 5 (dk_at dksL_law_63 14 rfl rfl)
theorem dL_law_1635 : decode cL_law 1635 = .ok (.aload_n 2, 1) := dk_44 (dk_at dksL_law_63 16 rfl rfl)
theorem dL_law_1636 : decode cL_law 1636 = .ok (.aload_n 0, 1) := dk_42 (dk_at dksL_law_63 17 rfl rfl)
theorem dL_law_1637 : decode cL_law 1637 = .ok (.iload 4, 2) := dk_21 4 (dk_at dksL_law_63 18 rfl rfl)
theorem dL_law_1639 : decode cL_law 1639 = .ok (.iconst 1, 1) := dk_4 (dk_at dksL_law_63 20 rfl rfl)
theorem dL_law_1640 : decode cL_law 1640 = .ok (.iadd, 1) := dk_96 (dk_at dksL_law_63 21 rfl rfl)
theorem dL_law_1641 : decode cL_law 1641 = .ok (.iaload, 1) := dk_46 (dk_at dksL_law_63 22 rfl rfl)
theorem dL_law_1642 : decode cL_law 1642 = .ok (.invokevirtual 222, 3) := dk_182 0 222 (dk_at dksL_law_64 0 rfl rfl)
theorem dL_law_1645 : decode cL_law 1645 = .ok (.istore 6, 2) := dk_54 6 (dk_at dksL_law_64 3 rfl rfl)
theorem dL_law_1647 : decode cL_law 1647 = .ok (.aload_n 2, 1) := dk_44 (dk_at dksL_law_64 5 rfl rfl)
theorem dL_law_1648 : decode cL_law 1648 = .ok (.invokevirtual 139, 3) := dk_182 0 139 (dk_at dksL_law_64 6 rfl rfl)
theorem dL_law_1651 : decode cL_law 1651 = .ok (.iload 5, 2) := dk_21 5 (dk_at dksL_law_64 9 rfl rfl)
theorem dL_law_1653 : decode cL_law 1653 = .ok (.if_icmp .eq 5, 3) := dk_159 0 5 (dk_at dksL_law_64 11 rfl rfl)
theorem dL_law_1656 : decode cL_law 1656 = .ok (.iconst 0, 1) := dk_3 (dk_at dksL_law_64 14 rfl rfl)
theorem dL_law_1657 : decode cL_law 1657 = .ok (.ireturn, 1) := dk_172 (dk_at dksL_law_64 15 rfl rfl)
theorem dL_law_1658 : decode cL_law 1658 = .ok (.iload 5, 2) := dk_21 5 (dk_at dksL_law_64 16 rfl rfl)
theorem dL_law_1660 : decode cL_law 1660 = .ok (.ifCond .ne 15, 3) := dk_154 0 15 (dk_at dksL_law_64 18 rfl rfl)
theorem dL_law_1663 : decode cL_law 1663 = .ok (.aload_n 3, 1) := dk_45 (dk_at dksL_law_64 21 rfl rfl)
theorem dL_law_1664 : decode cL_law 1664 = .ok (.iconst 0, 1) := dk_3 (dk_at dksL_law_64 22 rfl rfl)
theorem dL_law_1665 : decode cL_law 1665 = .ok (.laload, 1) := dk_47 (dk_at dksL_law_64 23 rfl rfl)
theorem dL_law_1666 : decode cL_law 1666 = .ok (.iload 6, 2) := dk_21 6 (dk_at dksL_law_65 0 rfl rfl)
theorem dL_law_1668 : decode cL_law 1668 = .ok (.i2l, 1) := dk_133 (dk_at dksL_law_65 2 rfl rfl)
theorem dL_law_1669 : decode cL_law 1669 = .ok (.lcmp, 1) := dk_148 (dk_at dksL_law_65 3 rfl rfl)
theorem dL_law_1670 : decode cL_law 1670 = .ok (.ifCond .eq 5, 3) := dk_153 0 5 (dk_at dksL_law_65 4 rfl rfl)
theorem dL_law_1673 : decode cL_law 1673 = .ok (.iconst 0, 1) := dk_3 (dk_at dksL_law_65 7 rfl rfl)
theorem dL_law_1674 : decode cL_law 1674 = .ok (.ireturn, 1) := dk_172 (dk_at dksL_law_65 8 rfl rfl)
theorem dL_law_1675 : decode cL_law 1675 = .ok (.goto 875, 3) := dk_167 3 107 (dk_at dksL_law_65 9 rfl rfl)
theorem dL_law_1678 : decode cL_law 1678 = .ok (.aload_n 1, 1) := dk_43 (dk_at dksL_law_65 12 rfl rfl)
theorem dL_law_1679 : decode cL_law 1679 = .ok (.aload_n 0, 1) := dk_42 (dk_at dksL_law_65 13 rfl rfl)
theorem dL_law_1680 : decode cL_law 1680 = .ok (.iload 4, 2) := dk_21 4 (dk_at dksL_law_65 14 rfl rfl)
theorem dL_law_1682 : decode cL_law 1682 = .ok (.iconst 1, 1) := dk_4 (dk_at dksL_law_65 16 rfl rfl)
theorem dL_law_1683 : decode cL_law 1683 = .ok (.iadd, 1) := dk_96 (dk_at dksL_law_65 17 rfl rfl)
theorem dL_law_1684 : decode cL_law 1684 = .ok (.iaload, 1) := dk_46 (dk_at dksL_law_65 18 rfl rfl)
theorem dL_law_1685 : decode cL_law 1685 = .ok (.aload_n 0, 1) := dk_42 (dk_at dksL_law_65 19 rfl rfl)
theorem dL_law_1686 : decode cL_law 1686 = .ok (.iload 4, 2) := dk_21 4 (dk_at dksL_law_65 20 rfl rfl)
theorem dL_law_1688 : decode cL_law 1688 = .ok (.iconst 2, 1) := dk_5 (dk_at dksL_law_65 22 rfl rfl)
theorem dL_law_1689 : decode cL_law 1689 = .ok (.iadd, 1) := dk_96 (dk_at dksL_law_65 23 rfl rfl)
theorem dL_law_1690 : decode cL_law 1690 = .ok (.iaload, 1) := dk_46 (dk_at dksL_law_66 0 rfl rfl)
theorem dL_law_1691 : decode cL_law 1691 = .ok (.aload_n 3, 1) := dk_45 (dk_at dksL_law_66 1 rfl rfl)
theorem dL_law_1692 : decode cL_law 1692 = .ok (.invokestatic 223, 3) := dk_184 0 223 (dk_at dksL_law_66 2 rfl rfl)
theorem dL_law_1695 : decode cL_law 1695 = .ok (.istore 5, 2) := dk_54 5 (dk_at dksL_law_66 5 rfl rfl)
theorem dL_law_1697 : decode cL_law 1697 = .ok (.aload_n 2, 1) := dk_44 (dk_at dksL_law_66 7 rfl rfl)
theorem dL_law_1698 : decode cL_law 1698 = .ok (.aload_n 0, 1) := dk_42 (dk_at dksL_law_66 8 rfl rfl)
theorem dL_law_1699 : decode cL_law 1699 = .ok (.iload 4, 2) := dk_21 4 (dk_at dksL_law_66 9 rfl rfl)
theorem dL_law_1701 : decode cL_law 1701 = .ok (.iconst 1, 1) := dk_4 (dk_at dksL_law_66 11 rfl rfl)
theorem dL_law_1702 : decode cL_law 1702 = .ok (.iadd, 1) := dk_96 (dk_at dksL_law_66 12 rfl rfl)
theorem dL_law_1703 : decode cL_law 1703 = .ok (.iaload, 1) := dk_46 (dk_at dksL_law_66 13 rfl rfl)
theorem dL_law_1704 : decode cL_law 1704 = .ok (.aload_n 0, 1) := dk_42 (dk_at dksL_law_66 14 rfl rfl)
theorem dL_law_1705 : decode cL_law 1705 = .ok (.iload 4, 2) := dk_21 4 (dk_at dksL_law_66 15 rfl rfl)
theorem dL_law_1707 : decode cL_law 1707 = .ok (.iconst 2, 1) := dk_5 (dk_at dksL_law_66 17 rfl rfl)
theorem dL_law_1708 : decode cL_law 1708 = .ok (.iadd, 1) := dk_96 (dk_at dksL_law_66 18 rfl rfl)
theorem dL_law_1709 : decode cL_law 1709 = .ok (.iaload, 1) := dk_46 (dk_at dksL_law_66 19 rfl rfl)
theorem dL_law_1710 : decode cL_law 1710 = .ok (.invokevirtual 225, 3) := dk_182 0 225 (dk_at dksL_law_66 20 rfl rfl)
theorem dL_law_1713 : decode cL_law 1713 = .ok (.istore 6, 2) := dk_54 6 (dk_at dksL_law_67 0 rfl rfl)
theorem dL_law_1715 : decode cL_law 1715 = .ok (.aload_n 2, 1) := dk_44 (dk_at dksL_law_67 2 rfl rfl)
theorem dL_law_1716 : decode cL_law 1716 = .ok (.invokevirtual 139, 3) := dk_182 0 139 (dk_at dksL_law_67 3 rfl rfl)
theorem dL_law_1719 : decode cL_law 1719 = .ok (.iload 5, 2) := dk_21 5 (dk_at dksL_law_67 6 rfl rfl)
theorem dL_law_1721 : decode cL_law 1721 = .ok (.if_icmp .eq 5, 3) := dk_159 0 5 (dk_at dksL_law_67 8 rfl rfl)
theorem dL_law_1724 : decode cL_law 1724 = .ok (.iconst 0, 1) := dk_3 (dk_at dksL_law_67 11 rfl rfl)
theorem dL_law_1725 : decode cL_law 1725 = .ok (.ireturn, 1) := dk_172 (dk_at dksL_law_67 12 rfl rfl)
theorem dL_law_1726 : decode cL_law 1726 = .ok (.iload 5, 2) := dk_21 5 (dk_at dksL_law_67 13 rfl rfl)
theorem dL_law_1728 : decode cL_law 1728 = .ok (.ifCond .ne 15, 3) := dk_154 0 15 (dk_at dksL_law_67 15 rfl rfl)
theorem dL_law_1731 : decode cL_law 1731 = .ok (.aload_n 3, 1) := dk_45 (dk_at dksL_law_67 18 rfl rfl)
theorem dL_law_1732 : decode cL_law 1732 = .ok (.iconst 0, 1) := dk_3 (dk_at dksL_law_67 19 rfl rfl)
theorem dL_law_1733 : decode cL_law 1733 = .ok (.laload, 1) := dk_47 (dk_at dksL_law_67 20 rfl rfl)
theorem dL_law_1734 : decode cL_law 1734 = .ok (.iload 6, 2) := dk_21 6 (dk_at dksL_law_67 21 rfl rfl)
theorem dL_law_1736 : decode cL_law 1736 = .ok (.i2l, 1) := dk_133 (dk_at dksL_law_67 23 rfl rfl)
theorem dL_law_1737 : decode cL_law 1737 = .ok (.lcmp, 1) := dk_148 (dk_at dksL_law_68 0 rfl rfl)
theorem dL_law_1738 : decode cL_law 1738 = .ok (.ifCond .eq 5, 3) := dk_153 0 5 (dk_at dksL_law_68 1 rfl rfl)
theorem dL_law_1741 : decode cL_law 1741 = .ok (.iconst 0, 1) := dk_3 (dk_at dksL_law_68 4 rfl rfl)
theorem dL_law_1742 : decode cL_law 1742 = .ok (.ireturn, 1) := dk_172 (dk_at dksL_law_68 5 rfl rfl)
theorem dL_law_1743 : decode cL_law 1743 = .ok (.goto 807, 3) := dk_167 3 39 (dk_at dksL_law_68 6 rfl rfl)
theorem dL_law_1746 : decode cL_law 1746 = .ok (.aload_n 1, 1) := dk_43 (dk_at dksL_law_68 9 rfl rfl)
theorem dL_law_1747 : decode cL_law 1747 = .ok (.aload_n 0, 1) := dk_42 (dk_at dksL_law_68 10 rfl rfl)
theorem dL_law_1748 : decode cL_law 1748 = .ok (.iload 4, 2) := dk_21 4 (dk_at dksL_law_68 11 rfl rfl)
theorem dL_law_1750 : decode cL_law 1750 = .ok (.iconst 1, 1) := dk_4 (dk_at dksL_law_68 13 rfl rfl)
theorem dL_law_1751 : decode cL_law 1751 = .ok (.iadd, 1) := dk_96 (dk_at dksL_law_68 14 rfl rfl)
theorem dL_law_1752 : decode cL_law 1752 = .ok (.iaload, 1) := dk_46 (dk_at dksL_law_68 15 rfl rfl)
theorem dL_law_1753 : decode cL_law 1753 = .ok (.aload_n 3, 1) := dk_45 (dk_at dksL_law_68 16 rfl rfl)
theorem dL_law_1754 : decode cL_law 1754 = .ok (.invokestatic 226, 3) := dk_184 0 226 (dk_at dksL_law_68 17 rfl rfl)
theorem dL_law_1757 : decode cL_law 1757 = .ok (.istore 5, 2) := dk_54 5 (dk_at dksL_law_68 20 rfl rfl)
theorem dL_law_1759 : decode cL_law 1759 = .ok (.aload_n 2, 1) := dk_44 (dk_at dksL_law_68 22 rfl rfl)
theorem dL_law_1760 : decode cL_law 1760 = .ok (.aload_n 0, 1) := dk_42 (dk_at dksL_law_68 23 rfl rfl)
theorem dL_law_1761 : decode cL_law 1761 = .ok (.iload 4, 2) := dk_21 4 (dk_at dksL_law_69 0 rfl rfl)
theorem dL_law_1763 : decode cL_law 1763 = .ok (.iconst 1, 1) := dk_4 (dk_at dksL_law_69 2 rfl rfl)
theorem dL_law_1764 : decode cL_law 1764 = .ok (.iadd, 1) := dk_96 (dk_at dksL_law_69 3 rfl rfl)
theorem dL_law_1765 : decode cL_law 1765 = .ok (.iaload, 1) := dk_46 (dk_at dksL_law_69 4 rfl rfl)
theorem dL_law_1766 : decode cL_law 1766 = .ok (.invokevirtual 228, 3) := dk_182 0 228 (dk_at dksL_law_69 5 rfl rfl)
theorem dL_law_1769 : decode cL_law 1769 = .ok (.istore 6, 2) := dk_54 6 (dk_at dksL_law_69 8 rfl rfl)
theorem dL_law_1771 : decode cL_law 1771 = .ok (.aload_n 2, 1) := dk_44 (dk_at dksL_law_69 10 rfl rfl)
theorem dL_law_1772 : decode cL_law 1772 = .ok (.invokevirtual 139, 3) := dk_182 0 139 (dk_at dksL_law_69 11 rfl rfl)
theorem dL_law_1775 : decode cL_law 1775 = .ok (.iload 5, 2) := dk_21 5 (dk_at dksL_law_69 14 rfl rfl)
theorem dL_law_1777 : decode cL_law 1777 = .ok (.if_icmp .eq 5, 3) := dk_159 0 5 (dk_at dksL_law_69 16 rfl rfl)
theorem dL_law_1780 : decode cL_law 1780 = .ok (.iconst 0, 1) := dk_3 (dk_at dksL_law_69 19 rfl rfl)
theorem dL_law_1781 : decode cL_law 1781 = .ok (.ireturn, 1) := dk_172 (dk_at dksL_law_69 20 rfl rfl)
theorem dL_law_1782 : decode cL_law 1782 = .ok (.iload 5, 2) := dk_21 5 (dk_at dksL_law_69 21 rfl rfl)
theorem dL_law_1784 : decode cL_law 1784 = .ok (.ifCond .ne 15, 3) := dk_154 0 15 (dk_at dksL_law_70 0 rfl rfl)
theorem dL_law_1787 : decode cL_law 1787 = .ok (.aload_n 3, 1) := dk_45 (dk_at dksL_law_70 3 rfl rfl)
theorem dL_law_1788 : decode cL_law 1788 = .ok (.iconst 0, 1) := dk_3 (dk_at dksL_law_70 4 rfl rfl)
theorem dL_law_1789 : decode cL_law 1789 = .ok (.laload, 1) := dk_47 (dk_at dksL_law_70 5 rfl rfl)
theorem dL_law_1790 : decode cL_law 1790 = .ok (.iload 6, 2) := dk_21 6 (dk_at dksL_law_70 6 rfl rfl)
theorem dL_law_1792 : decode cL_law 1792 = .ok (.i2l, 1) := dk_133 (dk_at dksL_law_70 8 rfl rfl)
theorem dL_law_1793 : decode cL_law 1793 = .ok (.lcmp, 1) := dk_148 (dk_at dksL_law_70 9 rfl rfl)
theorem dL_law_1794 : decode cL_law 1794 = .ok (.ifCond .eq 5, 3) := dk_153 0 5 (dk_at dksL_law_70 10 rfl rfl)
theorem dL_law_1797 : decode cL_law 1797 = .ok (.iconst 0, 1) := dk_3 (dk_at dksL_law_70 13 rfl rfl)
theorem dL_law_1798 : decode cL_law 1798 = .ok (.ireturn, 1) := dk_172 (dk_at dksL_law_70 14 rfl rfl)
theorem dL_law_1799 : decode cL_law 1799 = .ok (.goto 751, 3) := dk_167 2 239 (dk_at dksL_law_70 15 rfl rfl)
theorem dL_law_1802 : decode cL_law 1802 = .ok (.aload_n 1, 1) := dk_43 (dk_at dksL_law_70 18 rfl rfl)
theorem dL_law_1803 : decode cL_law 1803 = .ok (.invokevirtual 229, 3) := dk_182 0 229 (dk_at dksL_law_70 19 rfl rfl)
theorem dL_law_1806 : decode cL_law 1806 = .ok (.aload_n 2, 1) := dk_44 (dk_at dksL_law_70 22 rfl rfl)
theorem dL_law_1807 : decode cL_law 1807 = .ok (.invokevirtual 232, 3) := dk_182 0 232 (dk_at dksL_law_71 0 rfl rfl)
theorem dL_law_1810 : decode cL_law 1810 = .ok (.if_icmp .eq 740, 3) := dk_159 2 228 (dk_at dksL_law_71 3 rfl rfl)
theorem dL_law_1813 : decode cL_law 1813 = .ok (.iconst 0, 1) := dk_3 (dk_at dksL_law_71 6 rfl rfl)
theorem dL_law_1814 : decode cL_law 1814 = .ok (.ireturn, 1) := dk_172 (dk_at dksL_law_71 7 rfl rfl)
theorem dL_law_1815 : decode cL_law 1815 = .ok (.aload_n 1, 1) := dk_43 (dk_at dksL_law_71 8 rfl rfl)
theorem dL_law_1816 : decode cL_law 1816 = .ok (.aload_n 0, 1) := dk_42 (dk_at dksL_law_71 9 rfl rfl)
theorem dL_law_1817 : decode cL_law 1817 = .ok (.iload 4, 2) := dk_21 4 (dk_at dksL_law_71 10 rfl rfl)
theorem dL_law_1819 : decode cL_law 1819 = .ok (.iconst 1, 1) := dk_4 (dk_at dksL_law_71 12 rfl rfl)
theorem dL_law_1820 : decode cL_law 1820 = .ok (.iadd, 1) := dk_96 (dk_at dksL_law_71 13 rfl rfl)
theorem dL_law_1821 : decode cL_law 1821 = .ok (.iaload, 1) := dk_46 (dk_at dksL_law_71 14 rfl rfl)
theorem dL_law_1822 : decode cL_law 1822 = .ok (.aload_n 3, 1) := dk_45 (dk_at dksL_law_71 15 rfl rfl)
theorem dL_law_1823 : decode cL_law 1823 = .ok (.invokestatic 233, 3) := dk_184 0 233 (dk_at dksL_law_71 16 rfl rfl)
theorem dL_law_1826 : decode cL_law 1826 = .ok (.istore 5, 2) := dk_54 5 (dk_at dksL_law_71 19 rfl rfl)
theorem dL_law_1828 : decode cL_law 1828 = .ok (.aload_n 2, 1) := dk_44 (dk_at dksL_law_71 21 rfl rfl)
theorem dL_law_1829 : decode cL_law 1829 = .ok (.aload_n 0, 1) := dk_42 (dk_at dksL_law_71 22 rfl rfl)
theorem dL_law_1830 : decode cL_law 1830 = .ok (.iload 4, 2) := dk_21 4 (dk_at dksL_law_72 0 rfl rfl)
theorem dL_law_1832 : decode cL_law 1832 = .ok (.iconst 1, 1) := dk_4 (dk_at dksL_law_72 2 rfl rfl)
theorem dL_law_1833 : decode cL_law 1833 = .ok (.iadd, 1) := dk_96 (dk_at dksL_law_72 3 rfl rfl)
theorem dL_law_1834 : decode cL_law 1834 = .ok (.iaload, 1) := dk_46 (dk_at dksL_law_72 4 rfl rfl)
theorem dL_law_1835 : decode cL_law 1835 = .ok (.invokevirtual 235, 3) := dk_182 0 235 (dk_at dksL_law_72 5 rfl rfl)
theorem dL_law_1838 : decode cL_law 1838 = .ok (.istore 6, 2) := dk_54 6 (dk_at dksL_law_72 8 rfl rfl)
theorem dL_law_1840 : decode cL_law 1840 = .ok (.aload_n 2, 1) := dk_44 (dk_at dksL_law_72 10 rfl rfl)
theorem dL_law_1841 : decode cL_law 1841 = .ok (.invokevirtual 139, 3) := dk_182 0 139 (dk_at dksL_law_72 11 rfl rfl)
theorem dL_law_1844 : decode cL_law 1844 = .ok (.iload 5, 2) := dk_21 5 (dk_at dksL_law_72 14 rfl rfl)
theorem dL_law_1846 : decode cL_law 1846 = .ok (.if_icmp .eq 5, 3) := dk_159 0 5 (dk_at dksL_law_72 16 rfl rfl)
theorem dL_law_1849 : decode cL_law 1849 = .ok (.iconst 0, 1) := dk_3 (dk_at dksL_law_72 19 rfl rfl)
theorem dL_law_1850 : decode cL_law 1850 = .ok (.ireturn, 1) := dk_172 (dk_at dksL_law_72 20 rfl rfl)
theorem dL_law_1851 : decode cL_law 1851 = .ok (.iload 5, 2) := dk_21 5 (dk_at dksL_law_72 21 rfl rfl)
theorem dL_law_1853 : decode cL_law 1853 = .ok (.ifCond .ne 15, 3) := dk_154 0 15 (dk_at dksL_law_73 0 rfl rfl)
theorem dL_law_1856 : decode cL_law 1856 = .ok (.aload_n 3, 1) := dk_45 (dk_at dksL_law_73 3 rfl rfl)
theorem dL_law_1857 : decode cL_law 1857 = .ok (.iconst 0, 1) := dk_3 (dk_at dksL_law_73 4 rfl rfl)
theorem dL_law_1858 : decode cL_law 1858 = .ok (.laload, 1) := dk_47 (dk_at dksL_law_73 5 rfl rfl)
theorem dL_law_1859 : decode cL_law 1859 = .ok (.iload 6, 2) := dk_21 6 (dk_at dksL_law_73 6 rfl rfl)
theorem dL_law_1861 : decode cL_law 1861 = .ok (.i2l, 1) := dk_133 (dk_at dksL_law_73 8 rfl rfl)
theorem dL_law_1862 : decode cL_law 1862 = .ok (.lcmp, 1) := dk_148 (dk_at dksL_law_73 9 rfl rfl)
theorem dL_law_1863 : decode cL_law 1863 = .ok (.ifCond .eq 5, 3) := dk_153 0 5 (dk_at dksL_law_73 10 rfl rfl)
theorem dL_law_1866 : decode cL_law 1866 = .ok (.iconst 0, 1) := dk_3 (dk_at dksL_law_73 13 rfl rfl)
theorem dL_law_1867 : decode cL_law 1867 = .ok (.ireturn, 1) := dk_172 (dk_at dksL_law_73 14 rfl rfl)
theorem dL_law_1868 : decode cL_law 1868 = .ok (.goto 682, 3) := dk_167 2 170 (dk_at dksL_law_73 15 rfl rfl)
theorem dL_law_1871 : decode cL_law 1871 = .ok (.aload_n 1, 1) := dk_43 (dk_at dksL_law_73 18 rfl rfl)
theorem dL_law_1872 : decode cL_law 1872 = .ok (.aload_n 0, 1) := dk_42 (dk_at dksL_law_73 19 rfl rfl)
theorem dL_law_1873 : decode cL_law 1873 = .ok (.iload 4, 2) := dk_21 4 (dk_at dksL_law_73 20 rfl rfl)
theorem dL_law_1875 : decode cL_law 1875 = .ok (.iconst 1, 1) := dk_4 (dk_at dksL_law_73 22 rfl rfl)
theorem dL_law_1876 : decode cL_law 1876 = .ok (.iadd, 1) := dk_96 (dk_at dksL_law_73 23 rfl rfl)
theorem dL_law_1877 : decode cL_law 1877 = .ok (.iaload, 1) := dk_46 (dk_at dksL_law_74 0 rfl rfl)
theorem dL_law_1878 : decode cL_law 1878 = .ok (.aload_n 3, 1) := dk_45 (dk_at dksL_law_74 1 rfl rfl)
theorem dL_law_1879 : decode cL_law 1879 = .ok (.invokestatic 236, 3) := dk_184 0 236 (dk_at dksL_law_74 2 rfl rfl)
theorem dL_law_1882 : decode cL_law 1882 = .ok (.istore 5, 2) := dk_54 5 (dk_at dksL_law_74 5 rfl rfl)
theorem dL_law_1884 : decode cL_law 1884 = .ok (.aload_n 2, 1) := dk_44 (dk_at dksL_law_74 7 rfl rfl)
theorem dL_law_1885 : decode cL_law 1885 = .ok (.aload_n 0, 1) := dk_42 (dk_at dksL_law_74 8 rfl rfl)
theorem dL_law_1886 : decode cL_law 1886 = .ok (.iload 4, 2) := dk_21 4 (dk_at dksL_law_74 9 rfl rfl)
theorem dL_law_1888 : decode cL_law 1888 = .ok (.iconst 1, 1) := dk_4 (dk_at dksL_law_74 11 rfl rfl)
theorem dL_law_1889 : decode cL_law 1889 = .ok (.iadd, 1) := dk_96 (dk_at dksL_law_74 12 rfl rfl)
theorem dL_law_1890 : decode cL_law 1890 = .ok (.iaload, 1) := dk_46 (dk_at dksL_law_74 13 rfl rfl)
theorem dL_law_1891 : decode cL_law 1891 = .ok (.invokevirtual 238, 3) := dk_182 0 238 (dk_at dksL_law_74 14 rfl rfl)
theorem dL_law_1894 : decode cL_law 1894 = .ok (.istore 6, 2) := dk_54 6 (dk_at dksL_law_74 17 rfl rfl)
theorem dL_law_1896 : decode cL_law 1896 = .ok (.aload_n 2, 1) := dk_44 (dk_at dksL_law_74 19 rfl rfl)
theorem dL_law_1897 : decode cL_law 1897 = .ok (.invokevirtual 139, 3) := dk_182 0 139 (dk_at dksL_law_74 20 rfl rfl)
theorem dL_law_1900 : decode cL_law 1900 = .ok (.iload 5, 2) := dk_21 5 (dk_at dksL_law_75 0 rfl rfl)
theorem dL_law_1902 : decode cL_law 1902 = .ok (.if_icmp .eq 5, 3) := dk_159 0 5 (dk_at dksL_law_75 2 rfl rfl)
theorem dL_law_1905 : decode cL_law 1905 = .ok (.iconst 0, 1) := dk_3 (dk_at dksL_law_75 5 rfl rfl)
theorem dL_law_1906 : decode cL_law 1906 = .ok (.ireturn, 1) := dk_172 (dk_at dksL_law_75 6 rfl rfl)
theorem dL_law_1907 : decode cL_law 1907 = .ok (.iload 5, 2) := dk_21 5 (dk_at dksL_law_75 7 rfl rfl)
theorem dL_law_1909 : decode cL_law 1909 = .ok (.ifCond .ne 15, 3) := dk_154 0 15 (dk_at dksL_law_75 9 rfl rfl)
theorem dL_law_1912 : decode cL_law 1912 = .ok (.aload_n 3, 1) := dk_45 (dk_at dksL_law_75 12 rfl rfl)
theorem dL_law_1913 : decode cL_law 1913 = .ok (.iconst 0, 1) := dk_3 (dk_at dksL_law_75 13 rfl rfl)
theorem dL_law_1914 : decode cL_law 1914 = .ok (.laload, 1) := dk_47 (dk_at dksL_law_75 14 rfl rfl)
theorem dL_law_1915 : decode cL_law 1915 = .ok (.iload 6, 2) := dk_21 6 (dk_at dksL_law_75 15 rfl rfl)
theorem dL_law_1917 : decode cL_law 1917 = .ok (.i2l, 1) := dk_133 (dk_at dksL_law_75 17 rfl rfl)
theorem dL_law_1918 : decode cL_law 1918 = .ok (.lcmp, 1) := dk_148 (dk_at dksL_law_75 18 rfl rfl)
theorem dL_law_1919 : decode cL_law 1919 = .ok (.ifCond .eq 5, 3) := dk_153 0 5 (dk_at dksL_law_75 19 rfl rfl)
theorem dL_law_1922 : decode cL_law 1922 = .ok (.iconst 0, 1) := dk_3 (dk_at dksL_law_75 22 rfl rfl)
theorem dL_law_1923 : decode cL_law 1923 = .ok (.ireturn, 1) := dk_172 (dk_at dksL_law_75 23 rfl rfl)
theorem dL_law_1924 : decode cL_law 1924 = .ok (.goto 626, 3) := dk_167 2 114 (dk_at dksL_law_76 0 rfl rfl)
theorem dL_law_1927 : decode cL_law 1927 = .ok (.aload_n 1, 1) := dk_43 (dk_at dksL_law_76 3 rfl rfl)
theorem dL_law_1928 : decode cL_law 1928 = .ok (.aload_n 0, 1) := dk_42 (dk_at dksL_law_76 4 rfl rfl)
theorem dL_law_1929 : decode cL_law 1929 = .ok (.iload 4, 2) := dk_21 4 (dk_at dksL_law_76 5 rfl rfl)
theorem dL_law_1931 : decode cL_law 1931 = .ok (.iconst 1, 1) := dk_4 (dk_at dksL_law_76 7 rfl rfl)
theorem dL_law_1932 : decode cL_law 1932 = .ok (.iadd, 1) := dk_96 (dk_at dksL_law_76 8 rfl rfl)
theorem dL_law_1933 : decode cL_law 1933 = .ok (.iaload, 1) := dk_46 (dk_at dksL_law_76 9 rfl rfl)
theorem dL_law_1934 : decode cL_law 1934 = .ok (.aload_n 3, 1) := dk_45 (dk_at dksL_law_76 10 rfl rfl)
theorem dL_law_1935 : decode cL_law 1935 = .ok (.invokestatic 239, 3) := dk_184 0 239 (dk_at dksL_law_76 11 rfl rfl)
theorem dL_law_1938 : decode cL_law 1938 = .ok (.istore 5, 2) := dk_54 5 (dk_at dksL_law_76 14 rfl rfl)
theorem dL_law_1940 : decode cL_law 1940 = .ok (.aload_n 2, 1) := dk_44 (dk_at dksL_law_76 16 rfl rfl)
theorem dL_law_1941 : decode cL_law 1941 = .ok (.aload_n 0, 1) := dk_42 (dk_at dksL_law_76 17 rfl rfl)
theorem dL_law_1942 : decode cL_law 1942 = .ok (.iload 4, 2) := dk_21 4 (dk_at dksL_law_76 18 rfl rfl)
theorem dL_law_1944 : decode cL_law 1944 = .ok (.iconst 1, 1) := dk_4 (dk_at dksL_law_76 20 rfl rfl)
theorem dL_law_1945 : decode cL_law 1945 = .ok (.iadd, 1) := dk_96 (dk_at dksL_law_76 21 rfl rfl)
theorem dL_law_1946 : decode cL_law 1946 = .ok (.iaload, 1) := dk_46 (dk_at dksL_law_76 22 rfl rfl)
theorem dL_law_1947 : decode cL_law 1947 = .ok (.invokevirtual 241, 3) := dk_182 0 241 (dk_at dksL_law_77 0 rfl rfl)
theorem dL_law_1950 : decode cL_law 1950 = .ok (.istore 6, 2) := dk_54 6 (dk_at dksL_law_77 3 rfl rfl)
theorem dL_law_1952 : decode cL_law 1952 = .ok (.aload_n 2, 1) := dk_44 (dk_at dksL_law_77 5 rfl rfl)
theorem dL_law_1953 : decode cL_law 1953 = .ok (.invokevirtual 139, 3) := dk_182 0 139 (dk_at dksL_law_77 6 rfl rfl)
theorem dL_law_1956 : decode cL_law 1956 = .ok (.iload 5, 2) := dk_21 5 (dk_at dksL_law_77 9 rfl rfl)
theorem dL_law_1958 : decode cL_law 1958 = .ok (.if_icmp .eq 5, 3) := dk_159 0 5 (dk_at dksL_law_77 11 rfl rfl)
theorem dL_law_1961 : decode cL_law 1961 = .ok (.iconst 0, 1) := dk_3 (dk_at dksL_law_77 14 rfl rfl)
theorem dL_law_1962 : decode cL_law 1962 = .ok (.ireturn, 1) := dk_172 (dk_at dksL_law_77 15 rfl rfl)
theorem dL_law_1963 : decode cL_law 1963 = .ok (.iload 5, 2) := dk_21 5 (dk_at dksL_law_77 16 rfl rfl)
theorem dL_law_1965 : decode cL_law 1965 = .ok (.ifCond .ne 15, 3) := dk_154 0 15 (dk_at dksL_law_77 18 rfl rfl)
theorem dL_law_1968 : decode cL_law 1968 = .ok (.aload_n 3, 1) := dk_45 (dk_at dksL_law_77 21 rfl rfl)
theorem dL_law_1969 : decode cL_law 1969 = .ok (.iconst 0, 1) := dk_3 (dk_at dksL_law_77 22 rfl rfl)
theorem dL_law_1970 : decode cL_law 1970 = .ok (.laload, 1) := dk_47 (dk_at dksL_law_77 23 rfl rfl)
theorem dL_law_1971 : decode cL_law 1971 = .ok (.iload 6, 2) := dk_21 6 (dk_at dksL_law_78 0 rfl rfl)
theorem dL_law_1973 : decode cL_law 1973 = .ok (.i2l, 1) := dk_133 (dk_at dksL_law_78 2 rfl rfl)
theorem dL_law_1974 : decode cL_law 1974 = .ok (.lcmp, 1) := dk_148 (dk_at dksL_law_78 3 rfl rfl)
theorem dL_law_1975 : decode cL_law 1975 = .ok (.ifCond .eq 5, 3) := dk_153 0 5 (dk_at dksL_law_78 4 rfl rfl)
theorem dL_law_1978 : decode cL_law 1978 = .ok (.iconst 0, 1) := dk_3 (dk_at dksL_law_78 7 rfl rfl)
theorem dL_law_1979 : decode cL_law 1979 = .ok (.ireturn, 1) := dk_172 (dk_at dksL_law_78 8 rfl rfl)
theorem dL_law_1980 : decode cL_law 1980 = .ok (.goto 570, 3) := dk_167 2 58 (dk_at dksL_law_78 9 rfl rfl)
theorem dL_law_1983 : decode cL_law 1983 = .ok (.aload_n 1, 1) := dk_43 (dk_at dksL_law_78 12 rfl rfl)
theorem dL_law_1984 : decode cL_law 1984 = .ok (.invokevirtual 242, 3) := dk_182 0 242 (dk_at dksL_law_78 13 rfl rfl)
theorem dL_law_1987 : decode cL_law 1987 = .ok (.aload_n 2, 1) := dk_44 (dk_at dksL_law_78 16 rfl rfl)
theorem dL_law_1988 : decode cL_law 1988 = .ok (.invokevirtual 245, 3) := dk_182 0 245 (dk_at dksL_law_78 17 rfl rfl)
theorem dL_law_1991 : decode cL_law 1991 = .ok (.if_icmp .eq 559, 3) := dk_159 2 47 (dk_at dksL_law_78 20 rfl rfl)
theorem dL_law_1994 : decode cL_law 1994 = .ok (.iconst 0, 1) := dk_3 (dk_at dksL_law_78 23 rfl rfl)
theorem dL_law_1995 : decode cL_law 1995 = .ok (.ireturn, 1) := dk_172 (dk_at dksL_law_79 0 rfl rfl)
theorem dL_law_1996 : decode cL_law 1996 = .ok (.aload_n 1, 1) := dk_43 (dk_at dksL_law_79 1 rfl rfl)
theorem dL_law_1997 : decode cL_law 1997 = .ok (.invokevirtual 246, 3) := dk_182 0 246 (dk_at dksL_law_79 2 rfl rfl)
theorem dL_law_2000 : decode cL_law 2000 = .ok (.aload_n 2, 1) := dk_44 (dk_at dksL_law_79 5 rfl rfl)
theorem dL_law_2001 : decode cL_law 2001 = .ok (.invokevirtual 249, 3) := dk_182 0 249 (dk_at dksL_law_79 6 rfl rfl)
theorem dL_law_2004 : decode cL_law 2004 = .ok (.if_icmp .eq 546, 3) := dk_159 2 34 (dk_at dksL_law_79 9 rfl rfl)
theorem dL_law_2007 : decode cL_law 2007 = .ok (.iconst 0, 1) := dk_3 (dk_at dksL_law_79 12 rfl rfl)
theorem dL_law_2008 : decode cL_law 2008 = .ok (.ireturn, 1) := dk_172 (dk_at dksL_law_79 13 rfl rfl)
theorem dL_law_2009 : decode cL_law 2009 = .ok (.aload_n 1, 1) := dk_43 (dk_at dksL_law_79 14 rfl rfl)
theorem dL_law_2010 : decode cL_law 2010 = .ok (.aload_n 0, 1) := dk_42 (dk_at dksL_law_79 15 rfl rfl)
theorem dL_law_2011 : decode cL_law 2011 = .ok (.iload 4, 2) := dk_21 4 (dk_at dksL_law_79 16 rfl rfl)
theorem dL_law_2013 : decode cL_law 2013 = .ok (.iconst 1, 1) := dk_4 (dk_at dksL_law_79 18 rfl rfl)
theorem dL_law_2014 : decode cL_law 2014 = .ok (.iadd, 1) := dk_96 (dk_at dksL_law_79 19 rfl rfl)
theorem dL_law_2015 : decode cL_law 2015 = .ok (.iaload, 1) := dk_46 (dk_at dksL_law_79 20 rfl rfl)
theorem dL_law_2016 : decode cL_law 2016 = .ok (.aload_n 3, 1) := dk_45 (dk_at dksL_law_79 21 rfl rfl)
theorem dL_law_2017 : decode cL_law 2017 = .ok (.invokestatic 250, 3) := dk_184 0 250 (dk_at dksL_law_80 0 rfl rfl)
theorem dL_law_2020 : decode cL_law 2020 = .ok (.istore 5, 2) := dk_54 5 (dk_at dksL_law_80 3 rfl rfl)
theorem dL_law_2022 : decode cL_law 2022 = .ok (.aload_n 2, 1) := dk_44 (dk_at dksL_law_80 5 rfl rfl)
theorem dL_law_2023 : decode cL_law 2023 = .ok (.aload_n 0, 1) := dk_42 (dk_at dksL_law_80 6 rfl rfl)
theorem dL_law_2024 : decode cL_law 2024 = .ok (.iload 4, 2) := dk_21 4 (dk_at dksL_law_80 7 rfl rfl)
theorem dL_law_2026 : decode cL_law 2026 = .ok (.iconst 1, 1) := dk_4 (dk_at dksL_law_80 9 rfl rfl)
theorem dL_law_2027 : decode cL_law 2027 = .ok (.iadd, 1) := dk_96 (dk_at dksL_law_80 10 rfl rfl)
theorem dL_law_2028 : decode cL_law 2028 = .ok (.iaload, 1) := dk_46 (dk_at dksL_law_80 11 rfl rfl)
theorem dL_law_2029 : decode cL_law 2029 = .ok (.invokevirtual 252, 3) := dk_182 0 252 (dk_at dksL_law_80 12 rfl rfl)
theorem dL_law_2032 : decode cL_law 2032 = .ok (.istore 6, 2) := dk_54 6 (dk_at dksL_law_80 15 rfl rfl)
theorem dL_law_2034 : decode cL_law 2034 = .ok (.aload_n 2, 1) := dk_44 (dk_at dksL_law_80 17 rfl rfl)
theorem dL_law_2035 : decode cL_law 2035 = .ok (.invokevirtual 139, 3) := dk_182 0 139 (dk_at dksL_law_80 18 rfl rfl)
theorem dL_law_2038 : decode cL_law 2038 = .ok (.iload 5, 2) := dk_21 5 (dk_at dksL_law_80 21 rfl rfl)
theorem dL_law_2040 : decode cL_law 2040 = .ok (.if_icmp .eq 5, 3) := dk_159 0 5 (dk_at dksL_law_81 0 rfl rfl)
theorem dL_law_2043 : decode cL_law 2043 = .ok (.iconst 0, 1) := dk_3 (dk_at dksL_law_81 3 rfl rfl)
theorem dL_law_2044 : decode cL_law 2044 = .ok (.ireturn, 1) := dk_172 (dk_at dksL_law_81 4 rfl rfl)
theorem dL_law_2045 : decode cL_law 2045 = .ok (.iload 5, 2) := dk_21 5 (dk_at dksL_law_81 5 rfl rfl)
theorem dL_law_2047 : decode cL_law 2047 = .ok (.ifCond .ne 15, 3) := dk_154 0 15 (dk_at dksL_law_81 7 rfl rfl)
theorem dL_law_2050 : decode cL_law 2050 = .ok (.aload_n 3, 1) := dk_45 (dk_at dksL_law_81 10 rfl rfl)
theorem dL_law_2051 : decode cL_law 2051 = .ok (.iconst 0, 1) := dk_3 (dk_at dksL_law_81 11 rfl rfl)
theorem dL_law_2052 : decode cL_law 2052 = .ok (.laload, 1) := dk_47 (dk_at dksL_law_81 12 rfl rfl)
theorem dL_law_2053 : decode cL_law 2053 = .ok (.iload 6, 2) := dk_21 6 (dk_at dksL_law_81 13 rfl rfl)
theorem dL_law_2055 : decode cL_law 2055 = .ok (.i2l, 1) := dk_133 (dk_at dksL_law_81 15 rfl rfl)
theorem dL_law_2056 : decode cL_law 2056 = .ok (.lcmp, 1) := dk_148 (dk_at dksL_law_81 16 rfl rfl)
theorem dL_law_2057 : decode cL_law 2057 = .ok (.ifCond .eq 5, 3) := dk_153 0 5 (dk_at dksL_law_81 17 rfl rfl)
theorem dL_law_2060 : decode cL_law 2060 = .ok (.iconst 0, 1) := dk_3 (dk_at dksL_law_81 20 rfl rfl)
theorem dL_law_2061 : decode cL_law 2061 = .ok (.ireturn, 1) := dk_172 (dk_at dksL_law_81 21 rfl rfl)
theorem dL_law_2062 : decode cL_law 2062 = .ok (.goto 488, 3) := dk_167 1 232 (dk_at dksL_law_82 0 rfl rfl)
theorem dL_law_2065 : decode cL_law 2065 = .ok (.aload_n 1, 1) := dk_43 (dk_at dksL_law_82 3 rfl rfl)
theorem dL_law_2066 : decode cL_law 2066 = .ok (.aload_n 0, 1) := dk_42 (dk_at dksL_law_82 4 rfl rfl)
theorem dL_law_2067 : decode cL_law 2067 = .ok (.iload 4, 2) := dk_21 4 (dk_at dksL_law_82 5 rfl rfl)
theorem dL_law_2069 : decode cL_law 2069 = .ok (.iconst 1, 1) := dk_4 (dk_at dksL_law_82 7 rfl rfl)
theorem dL_law_2070 : decode cL_law 2070 = .ok (.iadd, 1) := dk_96 (dk_at dksL_law_82 8 rfl rfl)
theorem dL_law_2071 : decode cL_law 2071 = .ok (.iaload, 1) := dk_46 (dk_at dksL_law_82 9 rfl rfl)
theorem dL_law_2072 : decode cL_law 2072 = .ok (.aload_n 3, 1) := dk_45 (dk_at dksL_law_82 10 rfl rfl)
theorem dL_law_2073 : decode cL_law 2073 = .ok (.invokestatic 253, 3) := dk_184 0 253 (dk_at dksL_law_82 11 rfl rfl)
theorem dL_law_2076 : decode cL_law 2076 = .ok (.istore 5, 2) := dk_54 5 (dk_at dksL_law_82 14 rfl rfl)
theorem dL_law_2078 : decode cL_law 2078 = .ok (.aload_n 2, 1) := dk_44 (dk_at dksL_law_82 16 rfl rfl)
theorem dL_law_2079 : decode cL_law 2079 = .ok (.aload_n 0, 1) := dk_42 (dk_at dksL_law_82 17 rfl rfl)
theorem dL_law_2080 : decode cL_law 2080 = .ok (.iload 4, 2) := dk_21 4 (dk_at dksL_law_82 18 rfl rfl)
theorem dL_law_2082 : decode cL_law 2082 = .ok (.iconst 1, 1) := dk_4 (dk_at dksL_law_82 20 rfl rfl)
theorem dL_law_2083 : decode cL_law 2083 = .ok (.iadd, 1) := dk_96 (dk_at dksL_law_82 21 rfl rfl)
theorem dL_law_2084 : decode cL_law 2084 = .ok (.iaload, 1) := dk_46 (dk_at dksL_law_82 22 rfl rfl)
theorem dL_law_2085 : decode cL_law 2085 = .ok (.invokevirtual 255, 3) := dk_182 0 255 (dk_at dksL_law_83 0 rfl rfl)
theorem dL_law_2088 : decode cL_law 2088 = .ok (.istore 6, 2) := dk_54 6 (dk_at dksL_law_83 3 rfl rfl)
theorem dL_law_2090 : decode cL_law 2090 = .ok (.aload_n 2, 1) := dk_44 (dk_at dksL_law_83 5 rfl rfl)
theorem dL_law_2091 : decode cL_law 2091 = .ok (.invokevirtual 139, 3) := dk_182 0 139 (dk_at dksL_law_83 6 rfl rfl)
theorem dL_law_2094 : decode cL_law 2094 = .ok (.iload 5, 2) := dk_21 5 (dk_at dksL_law_83 9 rfl rfl)
theorem dL_law_2096 : decode cL_law 2096 = .ok (.if_icmp .eq 5, 3) := dk_159 0 5 (dk_at dksL_law_83 11 rfl rfl)
theorem dL_law_2099 : decode cL_law 2099 = .ok (.iconst 0, 1) := dk_3 (dk_at dksL_law_83 14 rfl rfl)
theorem dL_law_2100 : decode cL_law 2100 = .ok (.ireturn, 1) := dk_172 (dk_at dksL_law_83 15 rfl rfl)
theorem dL_law_2101 : decode cL_law 2101 = .ok (.iload 5, 2) := dk_21 5 (dk_at dksL_law_83 16 rfl rfl)
theorem dL_law_2103 : decode cL_law 2103 = .ok (.ifCond .ne 15, 3) := dk_154 0 15 (dk_at dksL_law_83 18 rfl rfl)
theorem dL_law_2106 : decode cL_law 2106 = .ok (.aload_n 3, 1) := dk_45 (dk_at dksL_law_83 21 rfl rfl)
theorem dL_law_2107 : decode cL_law 2107 = .ok (.iconst 0, 1) := dk_3 (dk_at dksL_law_83 22 rfl rfl)
theorem dL_law_2108 : decode cL_law 2108 = .ok (.laload, 1) := dk_47 (dk_at dksL_law_83 23 rfl rfl)
theorem dL_law_2109 : decode cL_law 2109 = .ok (.iload 6, 2) := dk_21 6 (dk_at dksL_law_84 0 rfl rfl)
theorem dL_law_2111 : decode cL_law 2111 = .ok (.i2l, 1) := dk_133 (dk_at dksL_law_84 2 rfl rfl)
theorem dL_law_2112 : decode cL_law 2112 = .ok (.lcmp, 1) := dk_148 (dk_at dksL_law_84 3 rfl rfl)
theorem dL_law_2113 : decode cL_law 2113 = .ok (.ifCond .eq 5, 3) := dk_153 0 5 (dk_at dksL_law_84 4 rfl rfl)
theorem dL_law_2116 : decode cL_law 2116 = .ok (.iconst 0, 1) := dk_3 (dk_at dksL_law_84 7 rfl rfl)
theorem dL_law_2117 : decode cL_law 2117 = .ok (.ireturn, 1) := dk_172 (dk_at dksL_law_84 8 rfl rfl)
theorem dL_law_2118 : decode cL_law 2118 = .ok (.goto 432, 3) := dk_167 1 176 (dk_at dksL_law_84 9 rfl rfl)
theorem dL_law_2121 : decode cL_law 2121 = .ok (.aload_n 1, 1) := dk_43 (dk_at dksL_law_84 12 rfl rfl)
theorem dL_law_2122 : decode cL_law 2122 = .ok (.aload_n 0, 1) := dk_42 (dk_at dksL_law_84 13 rfl rfl)
theorem dL_law_2123 : decode cL_law 2123 = .ok (.iload 4, 2) := dk_21 4 (dk_at dksL_law_84 14 rfl rfl)
theorem dL_law_2125 : decode cL_law 2125 = .ok (.iconst 1, 1) := dk_4 (dk_at dksL_law_84 16 rfl rfl)
theorem dL_law_2126 : decode cL_law 2126 = .ok (.iadd, 1) := dk_96 (dk_at dksL_law_84 17 rfl rfl)
theorem dL_law_2127 : decode cL_law 2127 = .ok (.iaload, 1) := dk_46 (dk_at dksL_law_84 18 rfl rfl)
theorem dL_law_2128 : decode cL_law 2128 = .ok (.aload_n 0, 1) := dk_42 (dk_at dksL_law_84 19 rfl rfl)
theorem dL_law_2129 : decode cL_law 2129 = .ok (.iload 4, 2) := dk_21 4 (dk_at dksL_law_84 20 rfl rfl)
theorem dL_law_2131 : decode cL_law 2131 = .ok (.iconst 2, 1) := dk_5 (dk_at dksL_law_84 22 rfl rfl)
theorem dL_law_2132 : decode cL_law 2132 = .ok (.iadd, 1) := dk_96 (dk_at dksL_law_84 23 rfl rfl)
theorem dL_law_2133 : decode cL_law 2133 = .ok (.iaload, 1) := dk_46 (dk_at dksL_law_85 0 rfl rfl)
theorem dL_law_2134 : decode cL_law 2134 = .ok (.aload_n 3, 1) := dk_45 (dk_at dksL_law_85 1 rfl rfl)
theorem dL_law_2135 : decode cL_law 2135 = .ok (.invokestatic 256, 3) := dk_184 1 0 (dk_at dksL_law_85 2 rfl rfl)
theorem dL_law_2138 : decode cL_law 2138 = .ok (.istore 5, 2) := dk_54 5 (dk_at dksL_law_85 5 rfl rfl)
theorem dL_law_2140 : decode cL_law 2140 = .ok (.aload_n 2, 1) := dk_44 (dk_at dksL_law_85 7 rfl rfl)
theorem dL_law_2141 : decode cL_law 2141 = .ok (.aload_n 0, 1) := dk_42 (dk_at dksL_law_85 8 rfl rfl)
theorem dL_law_2142 : decode cL_law 2142 = .ok (.iload 4, 2) := dk_21 4 (dk_at dksL_law_85 9 rfl rfl)
theorem dL_law_2144 : decode cL_law 2144 = .ok (.iconst 1, 1) := dk_4 (dk_at dksL_law_85 11 rfl rfl)
theorem dL_law_2145 : decode cL_law 2145 = .ok (.iadd, 1) := dk_96 (dk_at dksL_law_85 12 rfl rfl)
theorem dL_law_2146 : decode cL_law 2146 = .ok (.iaload, 1) := dk_46 (dk_at dksL_law_85 13 rfl rfl)
theorem dL_law_2147 : decode cL_law 2147 = .ok (.aload_n 0, 1) := dk_42 (dk_at dksL_law_85 14 rfl rfl)
theorem dL_law_2148 : decode cL_law 2148 = .ok (.iload 4, 2) := dk_21 4 (dk_at dksL_law_85 15 rfl rfl)
theorem dL_law_2150 : decode cL_law 2150 = .ok (.iconst 2, 1) := dk_5 (dk_at dksL_law_85 17 rfl rfl)
theorem dL_law_2151 : decode cL_law 2151 = .ok (.iadd, 1) := dk_96 (dk_at dksL_law_85 18 rfl rfl)
theorem dL_law_2152 : decode cL_law 2152 = .ok (.iaload, 1) := dk_46 (dk_at dksL_law_85 19 rfl rfl)
theorem dL_law_2153 : decode cL_law 2153 = .ok (.invokevirtual 258, 3) := dk_182 1 2 (dk_at dksL_law_85 20 rfl rfl)
theorem dL_law_2156 : decode cL_law 2156 = .ok (.istore 6, 2) := dk_54 6 (dk_at dksL_law_86 0 rfl rfl)
theorem dL_law_2158 : decode cL_law 2158 = .ok (.aload_n 2, 1) := dk_44 (dk_at dksL_law_86 2 rfl rfl)
theorem dL_law_2159 : decode cL_law 2159 = .ok (.invokevirtual 139, 3) := dk_182 0 139 (dk_at dksL_law_86 3 rfl rfl)
theorem dL_law_2162 : decode cL_law 2162 = .ok (.iload 5, 2) := dk_21 5 (dk_at dksL_law_86 6 rfl rfl)
theorem dL_law_2164 : decode cL_law 2164 = .ok (.if_icmp .eq 5, 3) := dk_159 0 5 (dk_at dksL_law_86 8 rfl rfl)
theorem dL_law_2167 : decode cL_law 2167 = .ok (.iconst 0, 1) := dk_3 (dk_at dksL_law_86 11 rfl rfl)
theorem dL_law_2168 : decode cL_law 2168 = .ok (.ireturn, 1) := dk_172 (dk_at dksL_law_86 12 rfl rfl)
theorem dL_law_2169 : decode cL_law 2169 = .ok (.iload 5, 2) := dk_21 5 (dk_at dksL_law_86 13 rfl rfl)
theorem dL_law_2171 : decode cL_law 2171 = .ok (.ifCond .ne 15, 3) := dk_154 0 15 (dk_at dksL_law_86 15 rfl rfl)
theorem dL_law_2174 : decode cL_law 2174 = .ok (.aload_n 3, 1) := dk_45 (dk_at dksL_law_86 18 rfl rfl)
theorem dL_law_2175 : decode cL_law 2175 = .ok (.iconst 0, 1) := dk_3 (dk_at dksL_law_86 19 rfl rfl)
theorem dL_law_2176 : decode cL_law 2176 = .ok (.laload, 1) := dk_47 (dk_at dksL_law_86 20 rfl rfl)
theorem dL_law_2177 : decode cL_law 2177 = .ok (.iload 6, 2) := dk_21 6 (dk_at dksL_law_86 21 rfl rfl)
theorem dL_law_2179 : decode cL_law 2179 = .ok (.i2l, 1) := dk_133 (dk_at dksL_law_86 23 rfl rfl)
theorem dL_law_2180 : decode cL_law 2180 = .ok (.lcmp, 1) := dk_148 (dk_at dksL_law_87 0 rfl rfl)
theorem dL_law_2181 : decode cL_law 2181 = .ok (.ifCond .eq 5, 3) := dk_153 0 5 (dk_at dksL_law_87 1 rfl rfl)
theorem dL_law_2184 : decode cL_law 2184 = .ok (.iconst 0, 1) := dk_3 (dk_at dksL_law_87 4 rfl rfl)
theorem dL_law_2185 : decode cL_law 2185 = .ok (.ireturn, 1) := dk_172 (dk_at dksL_law_87 5 rfl rfl)
theorem dL_law_2186 : decode cL_law 2186 = .ok (.goto 364, 3) := dk_167 1 108 (dk_at dksL_law_87 6 rfl rfl)
theorem dL_law_2189 : decode cL_law 2189 = .ok (.aload_n 1, 1) := dk_43 (dk_at dksL_law_87 9 rfl rfl)
theorem dL_law_2190 : decode cL_law 2190 = .ok (.invokevirtual 259, 3) := dk_182 1 3 (dk_at dksL_law_87 10 rfl rfl)
theorem dL_law_2193 : decode cL_law 2193 = .ok (.aload_n 2, 1) := dk_44 (dk_at dksL_law_87 13 rfl rfl)
theorem dL_law_2194 : decode cL_law 2194 = .ok (.invokevirtual 262, 3) := dk_182 1 6 (dk_at dksL_law_87 14 rfl rfl)
theorem dL_law_2197 : decode cL_law 2197 = .ok (.if_icmp .eq 353, 3) := dk_159 1 97 (dk_at dksL_law_87 17 rfl rfl)
theorem dL_law_2200 : decode cL_law 2200 = .ok (.iconst 0, 1) := dk_3 (dk_at dksL_law_87 20 rfl rfl)
theorem dL_law_2201 : decode cL_law 2201 = .ok (.ireturn, 1) := dk_172 (dk_at dksL_law_87 21 rfl rfl)
theorem dL_law_2202 : decode cL_law 2202 = .ok (.aload_n 1, 1) := dk_43 (dk_at dksL_law_87 22 rfl rfl)
theorem dL_law_2203 : decode cL_law 2203 = .ok (.aload_n 0, 1) := dk_42 (dk_at dksL_law_87 23 rfl rfl)
theorem dL_law_2204 : decode cL_law 2204 = .ok (.iload 4, 2) := dk_21 4 (dk_at dksL_law_88 0 rfl rfl)
theorem dL_law_2206 : decode cL_law 2206 = .ok (.iconst 1, 1) := dk_4 (dk_at dksL_law_88 2 rfl rfl)
theorem dL_law_2207 : decode cL_law 2207 = .ok (.iadd, 1) := dk_96 (dk_at dksL_law_88 3 rfl rfl)
theorem dL_law_2208 : decode cL_law 2208 = .ok (.iaload, 1) := dk_46 (dk_at dksL_law_88 4 rfl rfl)
theorem dL_law_2209 : decode cL_law 2209 = .ok (.aload_n 0, 1) := dk_42 (dk_at dksL_law_88 5 rfl rfl)
theorem dL_law_2210 : decode cL_law 2210 = .ok (.iload 4, 2) := dk_21 4 (dk_at dksL_law_88 6 rfl rfl)
theorem dL_law_2212 : decode cL_law 2212 = .ok (.iconst 2, 1) := dk_5 (dk_at dksL_law_88 8 rfl rfl)
theorem dL_law_2213 : decode cL_law 2213 = .ok (.iadd, 1) := dk_96 (dk_at dksL_law_88 9 rfl rfl)
theorem dL_law_2214 : decode cL_law 2214 = .ok (.iaload, 1) := dk_46 (dk_at dksL_law_88 10 rfl rfl)
theorem dL_law_2215 : decode cL_law 2215 = .ok (.aload_n 3, 1) := dk_45 (dk_at dksL_law_88 11 rfl rfl)
theorem dL_law_2216 : decode cL_law 2216 = .ok (.invokestatic 263, 3) := dk_184 1 7 (dk_at dksL_law_88 12 rfl rfl)
theorem dL_law_2219 : decode cL_law 2219 = .ok (.istore 5, 2) := dk_54 5 (dk_at dksL_law_88 15 rfl rfl)
theorem dL_law_2221 : decode cL_law 2221 = .ok (.aload_n 2, 1) := dk_44 (dk_at dksL_law_88 17 rfl rfl)
theorem dL_law_2222 : decode cL_law 2222 = .ok (.aload_n 0, 1) := dk_42 (dk_at dksL_law_88 18 rfl rfl)
theorem dL_law_2223 : decode cL_law 2223 = .ok (.iload 4, 2) := dk_21 4 (dk_at dksL_law_88 19 rfl rfl)
theorem dL_law_2225 : decode cL_law 2225 = .ok (.iconst 1, 1) := dk_4 (dk_at dksL_law_88 21 rfl rfl)
theorem dL_law_2226 : decode cL_law 2226 = .ok (.iadd, 1) := dk_96 (dk_at dksL_law_88 22 rfl rfl)
theorem dL_law_2227 : decode cL_law 2227 = .ok (.iaload, 1) := dk_46 (dk_at dksL_law_88 23 rfl rfl)
theorem dL_law_2228 : decode cL_law 2228 = .ok (.aload_n 0, 1) := dk_42 (dk_at dksL_law_89 0 rfl rfl)
theorem dL_law_2229 : decode cL_law 2229 = .ok (.iload 4, 2) := dk_21 4 (dk_at dksL_law_89 1 rfl rfl)
theorem dL_law_2231 : decode cL_law 2231 = .ok (.iconst 2, 1) := dk_5 (dk_at dksL_law_89 3 rfl rfl)
theorem dL_law_2232 : decode cL_law 2232 = .ok (.iadd, 1) := dk_96 (dk_at dksL_law_89 4 rfl rfl)
theorem dL_law_2233 : decode cL_law 2233 = .ok (.iaload, 1) := dk_46 (dk_at dksL_law_89 5 rfl rfl)
theorem dL_law_2234 : decode cL_law 2234 = .ok (.invokevirtual 265, 3) := dk_182 1 9 (dk_at dksL_law_89 6 rfl rfl)
theorem dL_law_2237 : decode cL_law 2237 = .ok (.istore 6, 2) := dk_54 6 (dk_at dksL_law_89 9 rfl rfl)
theorem dL_law_2239 : decode cL_law 2239 = .ok (.aload_n 2, 1) := dk_44 (dk_at dksL_law_89 11 rfl rfl)
theorem dL_law_2240 : decode cL_law 2240 = .ok (.invokevirtual 139, 3) := dk_182 0 139 (dk_at dksL_law_89 12 rfl rfl)
theorem dL_law_2243 : decode cL_law 2243 = .ok (.iload 5, 2) := dk_21 5 (dk_at dksL_law_89 15 rfl rfl)
theorem dL_law_2245 : decode cL_law 2245 = .ok (.if_icmp .eq 5, 3) := dk_159 0 5 (dk_at dksL_law_89 17 rfl rfl)
theorem dL_law_2248 : decode cL_law 2248 = .ok (.iconst 0, 1) := dk_3 (dk_at dksL_law_89 20 rfl rfl)
theorem dL_law_2249 : decode cL_law 2249 = .ok (.ireturn, 1) := dk_172 (dk_at dksL_law_89 21 rfl rfl)
theorem dL_law_2250 : decode cL_law 2250 = .ok (.iload 5, 2) := dk_21 5 (dk_at dksL_law_89 22 rfl rfl)
theorem dL_law_2252 : decode cL_law 2252 = .ok (.ifCond .ne 15, 3) := dk_154 0 15 (dk_at dksL_law_90 0 rfl rfl)
theorem dL_law_2255 : decode cL_law 2255 = .ok (.aload_n 3, 1) := dk_45 (dk_at dksL_law_90 3 rfl rfl)
theorem dL_law_2256 : decode cL_law 2256 = .ok (.iconst 0, 1) := dk_3 (dk_at dksL_law_90 4 rfl rfl)
theorem dL_law_2257 : decode cL_law 2257 = .ok (.laload, 1) := dk_47 (dk_at dksL_law_90 5 rfl rfl)
theorem dL_law_2258 : decode cL_law 2258 = .ok (.iload 6, 2) := dk_21 6 (dk_at dksL_law_90 6 rfl rfl)
theorem dL_law_2260 : decode cL_law 2260 = .ok (.i2l, 1) := dk_133 (dk_at dksL_law_90 8 rfl rfl)
theorem dL_law_2261 : decode cL_law 2261 = .ok (.lcmp, 1) := dk_148 (dk_at dksL_law_90 9 rfl rfl)
theorem dL_law_2262 : decode cL_law 2262 = .ok (.ifCond .eq 5, 3) := dk_153 0 5 (dk_at dksL_law_90 10 rfl rfl)
theorem dL_law_2265 : decode cL_law 2265 = .ok (.iconst 0, 1) := dk_3 (dk_at dksL_law_90 13 rfl rfl)
theorem dL_law_2266 : decode cL_law 2266 = .ok (.ireturn, 1) := dk_172 (dk_at dksL_law_90 14 rfl rfl)
theorem dL_law_2267 : decode cL_law 2267 = .ok (.goto 283, 3) := dk_167 1 27 (dk_at dksL_law_90 15 rfl rfl)
theorem dL_law_2270 : decode cL_law 2270 = .ok (.aload_n 1, 1) := dk_43 (dk_at dksL_law_90 18 rfl rfl)
theorem dL_law_2271 : decode cL_law 2271 = .ok (.aload_n 0, 1) := dk_42 (dk_at dksL_law_90 19 rfl rfl)
theorem dL_law_2272 : decode cL_law 2272 = .ok (.iload 4, 2) := dk_21 4 (dk_at dksL_law_90 20 rfl rfl)
theorem dL_law_2274 : decode cL_law 2274 = .ok (.iconst 1, 1) := dk_4 (dk_at dksL_law_90 22 rfl rfl)
theorem dL_law_2275 : decode cL_law 2275 = .ok (.iadd, 1) := dk_96 (dk_at dksL_law_90 23 rfl rfl)
theorem dL_law_2276 : decode cL_law 2276 = .ok (.iaload, 1) := dk_46 (dk_at dksL_law_91 0 rfl rfl)
theorem dL_law_2277 : decode cL_law 2277 = .ok (.aload_n 0, 1) := dk_42 (dk_at dksL_law_91 1 rfl rfl)
theorem dL_law_2278 : decode cL_law 2278 = .ok (.iload 4, 2) := dk_21 4 (dk_at dksL_law_91 2 rfl rfl)
theorem dL_law_2280 : decode cL_law 2280 = .ok (.iconst 2, 1) := dk_5 (dk_at dksL_law_91 4 rfl rfl)
theorem dL_law_2281 : decode cL_law 2281 = .ok (.iadd, 1) := dk_96 (dk_at dksL_law_91 5 rfl rfl)
theorem dL_law_2282 : decode cL_law 2282 = .ok (.iaload, 1) := dk_46 (dk_at dksL_law_91 6 rfl rfl)
theorem dL_law_2283 : decode cL_law 2283 = .ok (.aload_n 3, 1) := dk_45 (dk_at dksL_law_91 7 rfl rfl)
theorem dL_law_2284 : decode cL_law 2284 = .ok (.invokestatic 266, 3) := dk_184 1 10 (dk_at dksL_law_91 8 rfl rfl)
theorem dL_law_2287 : decode cL_law 2287 = .ok (.istore 5, 2) := dk_54 5 (dk_at dksL_law_91 11 rfl rfl)
theorem dL_law_2289 : decode cL_law 2289 = .ok (.aload_n 2, 1) := dk_44 (dk_at dksL_law_91 13 rfl rfl)
theorem dL_law_2290 : decode cL_law 2290 = .ok (.aload_n 0, 1) := dk_42 (dk_at dksL_law_91 14 rfl rfl)
theorem dL_law_2291 : decode cL_law 2291 = .ok (.iload 4, 2) := dk_21 4 (dk_at dksL_law_91 15 rfl rfl)
theorem dL_law_2293 : decode cL_law 2293 = .ok (.iconst 1, 1) := dk_4 (dk_at dksL_law_91 17 rfl rfl)
theorem dL_law_2294 : decode cL_law 2294 = .ok (.iadd, 1) := dk_96 (dk_at dksL_law_91 18 rfl rfl)
theorem dL_law_2295 : decode cL_law 2295 = .ok (.iaload, 1) := dk_46 (dk_at dksL_law_91 19 rfl rfl)
theorem dL_law_2296 : decode cL_law 2296 = .ok (.aload_n 0, 1) := dk_42 (dk_at dksL_law_91 20 rfl rfl)
theorem dL_law_2297 : decode cL_law 2297 = .ok (.iload 4, 2) := dk_21 4 (dk_at dksL_law_91 21 rfl rfl)
theorem dL_law_2299 : decode cL_law 2299 = .ok (.iconst 2, 1) := dk_5 (dk_at dksL_law_91 23 rfl rfl)
theorem dL_law_2300 : decode cL_law 2300 = .ok (.iadd, 1) := dk_96 (dk_at dksL_law_92 0 rfl rfl)
theorem dL_law_2301 : decode cL_law 2301 = .ok (.iaload, 1) := dk_46 (dk_at dksL_law_92 1 rfl rfl)
theorem dL_law_2302 : decode cL_law 2302 = .ok (.invokevirtual 268, 3) := dk_182 1 12 (dk_at dksL_law_92 2 rfl rfl)
theorem dL_law_2305 : decode cL_law 2305 = .ok (.istore 6, 2) := dk_54 6 (dk_at dksL_law_92 5 rfl rfl)
theorem dL_law_2307 : decode cL_law 2307 = .ok (.aload_n 2, 1) := dk_44 (dk_at dksL_law_92 7 rfl rfl)
theorem dL_law_2308 : decode cL_law 2308 = .ok (.invokevirtual 139, 3) := dk_182 0 139 (dk_at dksL_law_92 8 rfl rfl)
theorem dL_law_2311 : decode cL_law 2311 = .ok (.iload 5, 2) := dk_21 5 (dk_at dksL_law_92 11 rfl rfl)
theorem dL_law_2313 : decode cL_law 2313 = .ok (.if_icmp .eq 5, 3) := dk_159 0 5 (dk_at dksL_law_92 13 rfl rfl)
theorem dL_law_2316 : decode cL_law 2316 = .ok (.iconst 0, 1) := dk_3 (dk_at dksL_law_92 16 rfl rfl)
theorem dL_law_2317 : decode cL_law 2317 = .ok (.ireturn, 1) := dk_172 (dk_at dksL_law_92 17 rfl rfl)
theorem dL_law_2318 : decode cL_law 2318 = .ok (.iload 5, 2) := dk_21 5 (dk_at dksL_law_92 18 rfl rfl)
theorem dL_law_2320 : decode cL_law 2320 = .ok (.ifCond .ne 15, 3) := dk_154 0 15 (dk_at dksL_law_92 20 rfl rfl)
theorem dL_law_2323 : decode cL_law 2323 = .ok (.aload_n 3, 1) := dk_45 (dk_at dksL_law_92 23 rfl rfl)
theorem dL_law_2324 : decode cL_law 2324 = .ok (.iconst 0, 1) := dk_3 (dk_at dksL_law_93 0 rfl rfl)
theorem dL_law_2325 : decode cL_law 2325 = .ok (.laload, 1) := dk_47 (dk_at dksL_law_93 1 rfl rfl)
theorem dL_law_2326 : decode cL_law 2326 = .ok (.iload 6, 2) := dk_21 6 (dk_at dksL_law_93 2 rfl rfl)
theorem dL_law_2328 : decode cL_law 2328 = .ok (.i2l, 1) := dk_133 (dk_at dksL_law_93 4 rfl rfl)
theorem dL_law_2329 : decode cL_law 2329 = .ok (.lcmp, 1) := dk_148 (dk_at dksL_law_93 5 rfl rfl)
theorem dL_law_2330 : decode cL_law 2330 = .ok (.ifCond .eq 5, 3) := dk_153 0 5 (dk_at dksL_law_93 6 rfl rfl)
theorem dL_law_2333 : decode cL_law 2333 = .ok (.iconst 0, 1) := dk_3 (dk_at dksL_law_93 9 rfl rfl)
theorem dL_law_2334 : decode cL_law 2334 = .ok (.ireturn, 1) := dk_172 (dk_at dksL_law_93 10 rfl rfl)
theorem dL_law_2335 : decode cL_law 2335 = .ok (.goto 215, 3) := dk_167 0 215 (dk_at dksL_law_93 11 rfl rfl)
theorem dL_law_2338 : decode cL_law 2338 = .ok (.aload_n 1, 1) := dk_43 (dk_at dksL_law_93 14 rfl rfl)
theorem dL_law_2339 : decode cL_law 2339 = .ok (.aload_n 0, 1) := dk_42 (dk_at dksL_law_93 15 rfl rfl)
theorem dL_law_2340 : decode cL_law 2340 = .ok (.iload 4, 2) := dk_21 4 (dk_at dksL_law_93 16 rfl rfl)
theorem dL_law_2342 : decode cL_law 2342 = .ok (.iconst 1, 1) := dk_4 (dk_at dksL_law_93 18 rfl rfl)
theorem dL_law_2343 : decode cL_law 2343 = .ok (.iadd, 1) := dk_96 (dk_at dksL_law_93 19 rfl rfl)
theorem dL_law_2344 : decode cL_law 2344 = .ok (.iaload, 1) := dk_46 (dk_at dksL_law_93 20 rfl rfl)
theorem dL_law_2345 : decode cL_law 2345 = .ok (.i2l, 1) := dk_133 (dk_at dksL_law_93 21 rfl rfl)
theorem dL_law_2346 : decode cL_law 2346 = .ok (.bipush 32, 2) := dk_16 32 (dk_at dksL_law_93 22 rfl rfl)
theorem dL_law_2348 : decode cL_law 2348 = .ok (.lshl, 1) := dk_121 (dk_at dksL_law_94 0 rfl rfl)
theorem dL_law_2349 : decode cL_law 2349 = .ok (.aload_n 0, 1) := dk_42 (dk_at dksL_law_94 1 rfl rfl)
theorem dL_law_2350 : decode cL_law 2350 = .ok (.iload 4, 2) := dk_21 4 (dk_at dksL_law_94 2 rfl rfl)
theorem dL_law_2352 : decode cL_law 2352 = .ok (.iconst 2, 1) := dk_5 (dk_at dksL_law_94 4 rfl rfl)
theorem dL_law_2353 : decode cL_law 2353 = .ok (.iadd, 1) := dk_96 (dk_at dksL_law_94 5 rfl rfl)
theorem dL_law_2354 : decode cL_law 2354 = .ok (.iaload, 1) := dk_46 (dk_at dksL_law_94 6 rfl rfl)
theorem dL_law_2355 : decode cL_law 2355 = .ok (.i2l, 1) := dk_133 (dk_at dksL_law_94 7 rfl rfl)
theorem dL_law_2356 : decode cL_law 2356 = .ok (.ldc2_w 269, 3) := dk_20 1 13 (dk_at dksL_law_94 8 rfl rfl)
theorem dL_law_2359 : decode cL_law 2359 = .ok (.land, 1) := dk_127 (dk_at dksL_law_94 11 rfl rfl)
theorem dL_law_2360 : decode cL_law 2360 = .ok (.lor, 1) := dk_129 (dk_at dksL_law_94 12 rfl rfl)
theorem dL_law_2361 : decode cL_law 2361 = .ok (.aload_n 0, 1) := dk_42 (dk_at dksL_law_94 13 rfl rfl)
theorem dL_law_2362 : decode cL_law 2362 = .ok (.iload 4, 2) := dk_21 4 (dk_at dksL_law_94 14 rfl rfl)
theorem dL_law_2364 : decode cL_law 2364 = .ok (.iconst 3, 1) := dk_6 (dk_at dksL_law_94 16 rfl rfl)
theorem dL_law_2365 : decode cL_law 2365 = .ok (.iadd, 1) := dk_96 (dk_at dksL_law_94 17 rfl rfl)
theorem dL_law_2366 : decode cL_law 2366 = .ok (.iaload, 1) := dk_46 (dk_at dksL_law_94 18 rfl rfl)
theorem dL_law_2367 : decode cL_law 2367 = .ok (.aload_n 3, 1) := dk_45 (dk_at dksL_law_94 19 rfl rfl)
theorem dL_law_2368 : decode cL_law 2368 = .ok (.invokestatic 271, 3) := dk_184 1 15 (dk_at dksL_law_94 20 rfl rfl)
theorem dL_law_2371 : decode cL_law 2371 = .ok (.istore 5, 2) := dk_54 5 (dk_at dksL_law_95 0 rfl rfl)
theorem dL_law_2373 : decode cL_law 2373 = .ok (.aload_n 2, 1) := dk_44 (dk_at dksL_law_95 2 rfl rfl)
theorem dL_law_2374 : decode cL_law 2374 = .ok (.aload_n 0, 1) := dk_42 (dk_at dksL_law_95 3 rfl rfl)
theorem dL_law_2375 : decode cL_law 2375 = .ok (.iload 4, 2) := dk_21 4 (dk_at dksL_law_95 4 rfl rfl)
theorem dL_law_2377 : decode cL_law 2377 = .ok (.iconst 1, 1) := dk_4 (dk_at dksL_law_95 6 rfl rfl)
theorem dL_law_2378 : decode cL_law 2378 = .ok (.iadd, 1) := dk_96 (dk_at dksL_law_95 7 rfl rfl)
theorem dL_law_2379 : decode cL_law 2379 = .ok (.iaload, 1) := dk_46 (dk_at dksL_law_95 8 rfl rfl)
theorem dL_law_2380 : decode cL_law 2380 = .ok (.i2l, 1) := dk_133 (dk_at dksL_law_95 9 rfl rfl)
theorem dL_law_2381 : decode cL_law 2381 = .ok (.bipush 32, 2) := dk_16 32 (dk_at dksL_law_95 10 rfl rfl)
theorem dL_law_2383 : decode cL_law 2383 = .ok (.lshl, 1) := dk_121 (dk_at dksL_law_95 12 rfl rfl)
theorem dL_law_2384 : decode cL_law 2384 = .ok (.aload_n 0, 1) := dk_42 (dk_at dksL_law_95 13 rfl rfl)
theorem dL_law_2385 : decode cL_law 2385 = .ok (.iload 4, 2) := dk_21 4 (dk_at dksL_law_95 14 rfl rfl)
theorem dL_law_2387 : decode cL_law 2387 = .ok (.iconst 2, 1) := dk_5 (dk_at dksL_law_95 16 rfl rfl)
theorem dL_law_2388 : decode cL_law 2388 = .ok (.iadd, 1) := dk_96 (dk_at dksL_law_95 17 rfl rfl)
theorem dL_law_2389 : decode cL_law 2389 = .ok (.iaload, 1) := dk_46 (dk_at dksL_law_95 18 rfl rfl)
theorem dL_law_2390 : decode cL_law 2390 = .ok (.i2l, 1) := dk_133 (dk_at dksL_law_95 19 rfl rfl)
theorem dL_law_2391 : decode cL_law 2391 = .ok (.ldc2_w 269, 3) := dk_20 1 13 (dk_at dksL_law_95 20 rfl rfl)
theorem dL_law_2394 : decode cL_law 2394 = .ok (.land, 1) := dk_127 (dk_at dksL_law_95 23 rfl rfl)
theorem dL_law_2395 : decode cL_law 2395 = .ok (.lor, 1) := dk_129 (dk_at dksL_law_96 0 rfl rfl)
theorem dL_law_2396 : decode cL_law 2396 = .ok (.aload_n 0, 1) := dk_42 (dk_at dksL_law_96 1 rfl rfl)
theorem dL_law_2397 : decode cL_law 2397 = .ok (.iload 4, 2) := dk_21 4 (dk_at dksL_law_96 2 rfl rfl)
theorem dL_law_2399 : decode cL_law 2399 = .ok (.iconst 3, 1) := dk_6 (dk_at dksL_law_96 4 rfl rfl)
theorem dL_law_2400 : decode cL_law 2400 = .ok (.iadd, 1) := dk_96 (dk_at dksL_law_96 5 rfl rfl)
theorem dL_law_2401 : decode cL_law 2401 = .ok (.iaload, 1) := dk_46 (dk_at dksL_law_96 6 rfl rfl)
theorem dL_law_2402 : decode cL_law 2402 = .ok (.invokevirtual 274, 3) := dk_182 1 18 (dk_at dksL_law_96 7 rfl rfl)
theorem dL_law_2405 : decode cL_law 2405 = .ok (.istore 6, 2) := dk_54 6 (dk_at dksL_law_96 10 rfl rfl)
theorem dL_law_2407 : decode cL_law 2407 = .ok (.aload_n 2, 1) := dk_44 (dk_at dksL_law_96 12 rfl rfl)
theorem dL_law_2408 : decode cL_law 2408 = .ok (.invokevirtual 139, 3) := dk_182 0 139 (dk_at dksL_law_96 13 rfl rfl)
theorem dL_law_2411 : decode cL_law 2411 = .ok (.iload 5, 2) := dk_21 5 (dk_at dksL_law_96 16 rfl rfl)
theorem dL_law_2413 : decode cL_law 2413 = .ok (.if_icmp .eq 5, 3) := dk_159 0 5 (dk_at dksL_law_96 18 rfl rfl)
theorem dL_law_2416 : decode cL_law 2416 = .ok (.iconst 0, 1) := dk_3 (dk_at dksL_law_96 21 rfl rfl)
theorem dL_law_2417 : decode cL_law 2417 = .ok (.ireturn, 1) := dk_172 (dk_at dksL_law_96 22 rfl rfl)
theorem dL_law_2418 : decode cL_law 2418 = .ok (.iload 5, 2) := dk_21 5 (dk_at dksL_law_97 0 rfl rfl)
theorem dL_law_2420 : decode cL_law 2420 = .ok (.ifCond .ne 15, 3) := dk_154 0 15 (dk_at dksL_law_97 2 rfl rfl)
theorem dL_law_2423 : decode cL_law 2423 = .ok (.aload_n 3, 1) := dk_45 (dk_at dksL_law_97 5 rfl rfl)
theorem dL_law_2424 : decode cL_law 2424 = .ok (.iconst 0, 1) := dk_3 (dk_at dksL_law_97 6 rfl rfl)
theorem dL_law_2425 : decode cL_law 2425 = .ok (.laload, 1) := dk_47 (dk_at dksL_law_97 7 rfl rfl)
theorem dL_law_2426 : decode cL_law 2426 = .ok (.iload 6, 2) := dk_21 6 (dk_at dksL_law_97 8 rfl rfl)
theorem dL_law_2428 : decode cL_law 2428 = .ok (.i2l, 1) := dk_133 (dk_at dksL_law_97 10 rfl rfl)
theorem dL_law_2429 : decode cL_law 2429 = .ok (.lcmp, 1) := dk_148 (dk_at dksL_law_97 11 rfl rfl)
theorem dL_law_2430 : decode cL_law 2430 = .ok (.ifCond .eq 5, 3) := dk_153 0 5 (dk_at dksL_law_97 12 rfl rfl)
theorem dL_law_2433 : decode cL_law 2433 = .ok (.iconst 0, 1) := dk_3 (dk_at dksL_law_97 15 rfl rfl)
theorem dL_law_2434 : decode cL_law 2434 = .ok (.ireturn, 1) := dk_172 (dk_at dksL_law_97 16 rfl rfl)
theorem dL_law_2435 : decode cL_law 2435 = .ok (.goto 115, 3) := dk_167 0 115 (dk_at dksL_law_97 17 rfl rfl)
theorem dL_law_2438 : decode cL_law 2438 = .ok (.aload_n 1, 1) := dk_43 (dk_at dksL_law_97 20 rfl rfl)
theorem dL_law_2439 : decode cL_law 2439 = .ok (.aload_n 0, 1) := dk_42 (dk_at dksL_law_97 21 rfl rfl)
theorem dL_law_2440 : decode cL_law 2440 = .ok (.iload 4, 2) := dk_21 4 (dk_at dksL_law_97 22 rfl rfl)
theorem dL_law_2442 : decode cL_law 2442 = .ok (.iconst 1, 1) := dk_4 (dk_at dksL_law_98 0 rfl rfl)
theorem dL_law_2443 : decode cL_law 2443 = .ok (.iadd, 1) := dk_96 (dk_at dksL_law_98 1 rfl rfl)
theorem dL_law_2444 : decode cL_law 2444 = .ok (.iaload, 1) := dk_46 (dk_at dksL_law_98 2 rfl rfl)
theorem dL_law_2445 : decode cL_law 2445 = .ok (.aload_n 3, 1) := dk_45 (dk_at dksL_law_98 3 rfl rfl)
theorem dL_law_2446 : decode cL_law 2446 = .ok (.invokestatic 275, 3) := dk_184 1 19 (dk_at dksL_law_98 4 rfl rfl)
theorem dL_law_2449 : decode cL_law 2449 = .ok (.istore 5, 2) := dk_54 5 (dk_at dksL_law_98 7 rfl rfl)
theorem dL_law_2451 : decode cL_law 2451 = .ok (.aload_n 2, 1) := dk_44 (dk_at dksL_law_98 9 rfl rfl)
theorem dL_law_2452 : decode cL_law 2452 = .ok (.aload_n 0, 1) := dk_42 (dk_at dksL_law_98 10 rfl rfl)
theorem dL_law_2453 : decode cL_law 2453 = .ok (.iload 4, 2) := dk_21 4 (dk_at dksL_law_98 11 rfl rfl)
theorem dL_law_2455 : decode cL_law 2455 = .ok (.iconst 1, 1) := dk_4 (dk_at dksL_law_98 13 rfl rfl)
theorem dL_law_2456 : decode cL_law 2456 = .ok (.iadd, 1) := dk_96 (dk_at dksL_law_98 14 rfl rfl)
theorem dL_law_2457 : decode cL_law 2457 = .ok (.iaload, 1) := dk_46 (dk_at dksL_law_98 15 rfl rfl)
theorem dL_law_2458 : decode cL_law 2458 = .ok (.invokevirtual 277, 3) := dk_182 1 21 (dk_at dksL_law_98 16 rfl rfl)
theorem dL_law_2461 : decode cL_law 2461 = .ok (.istore 6, 2) := dk_54 6 (dk_at dksL_law_98 19 rfl rfl)
theorem dL_law_2463 : decode cL_law 2463 = .ok (.aload_n 2, 1) := dk_44 (dk_at dksL_law_98 21 rfl rfl)
theorem dL_law_2464 : decode cL_law 2464 = .ok (.invokevirtual 139, 3) := dk_182 0 139 (dk_at dksL_law_99 0 rfl rfl)
theorem dL_law_2467 : decode cL_law 2467 = .ok (.iload 5, 2) := dk_21 5 (dk_at dksL_law_99 3 rfl rfl)
theorem dL_law_2469 : decode cL_law 2469 = .ok (.if_icmp .eq 5, 3) := dk_159 0 5 (dk_at dksL_law_99 5 rfl rfl)
theorem dL_law_2472 : decode cL_law 2472 = .ok (.iconst 0, 1) := dk_3 (dk_at dksL_law_99 8 rfl rfl)
theorem dL_law_2473 : decode cL_law 2473 = .ok (.ireturn, 1) := dk_172 (dk_at dksL_law_99 9 rfl rfl)
theorem dL_law_2474 : decode cL_law 2474 = .ok (.iload 5, 2) := dk_21 5 (dk_at dksL_law_99 10 rfl rfl)
theorem dL_law_2476 : decode cL_law 2476 = .ok (.ifCond .ne 15, 3) := dk_154 0 15 (dk_at dksL_law_99 12 rfl rfl)
theorem dL_law_2479 : decode cL_law 2479 = .ok (.aload_n 3, 1) := dk_45 (dk_at dksL_law_99 15 rfl rfl)
theorem dL_law_2480 : decode cL_law 2480 = .ok (.iconst 0, 1) := dk_3 (dk_at dksL_law_99 16 rfl rfl)
theorem dL_law_2481 : decode cL_law 2481 = .ok (.laload, 1) := dk_47 (dk_at dksL_law_99 17 rfl rfl)
theorem dL_law_2482 : decode cL_law 2482 = .ok (.iload 6, 2) := dk_21 6 (dk_at dksL_law_99 18 rfl rfl)
theorem dL_law_2484 : decode cL_law 2484 = .ok (.i2l, 1) := dk_133 (dk_at dksL_law_99 20 rfl rfl)
theorem dL_law_2485 : decode cL_law 2485 = .ok (.lcmp, 1) := dk_148 (dk_at dksL_law_99 21 rfl rfl)
theorem dL_law_2486 : decode cL_law 2486 = .ok (.ifCond .eq 5, 3) := dk_153 0 5 (dk_at dksL_law_100 0 rfl rfl)
theorem dL_law_2489 : decode cL_law 2489 = .ok (.iconst 0, 1) := dk_3 (dk_at dksL_law_100 3 rfl rfl)
theorem dL_law_2490 : decode cL_law 2490 = .ok (.ireturn, 1) := dk_172 (dk_at dksL_law_100 4 rfl rfl)
theorem dL_law_2491 : decode cL_law 2491 = .ok (.goto 59, 3) := dk_167 0 59 (dk_at dksL_law_100 5 rfl rfl)
theorem dL_law_2494 : decode cL_law 2494 = .ok (.aload_n 1, 1) := dk_43 (dk_at dksL_law_100 8 rfl rfl)
theorem dL_law_2495 : decode cL_law 2495 = .ok (.aload_n 0, 1) := dk_42 (dk_at dksL_law_100 9 rfl rfl)
theorem dL_law_2496 : decode cL_law 2496 = .ok (.iload 4, 2) := dk_21 4 (dk_at dksL_law_100 10 rfl rfl)
theorem dL_law_2498 : decode cL_law 2498 = .ok (.iconst 1, 1) := dk_4 (dk_at dksL_law_100 12 rfl rfl)
theorem dL_law_2499 : decode cL_law 2499 = .ok (.iadd, 1) := dk_96 (dk_at dksL_law_100 13 rfl rfl)
theorem dL_law_2500 : decode cL_law 2500 = .ok (.iaload, 1) := dk_46 (dk_at dksL_law_100 14 rfl rfl)
theorem dL_law_2501 : decode cL_law 2501 = .ok (.aload_n 3, 1) := dk_45 (dk_at dksL_law_100 15 rfl rfl)
theorem dL_law_2502 : decode cL_law 2502 = .ok (.invokestatic 278, 3) := dk_184 1 22 (dk_at dksL_law_100 16 rfl rfl)
theorem dL_law_2505 : decode cL_law 2505 = .ok (.istore 5, 2) := dk_54 5 (dk_at dksL_law_100 19 rfl rfl)
theorem dL_law_2507 : decode cL_law 2507 = .ok (.aload_n 2, 1) := dk_44 (dk_at dksL_law_100 21 rfl rfl)
theorem dL_law_2508 : decode cL_law 2508 = .ok (.aload_n 0, 1) := dk_42 (dk_at dksL_law_100 22 rfl rfl)
theorem dL_law_2509 : decode cL_law 2509 = .ok (.iload 4, 2) := dk_21 4 (dk_at dksL_law_101 0 rfl rfl)
theorem dL_law_2511 : decode cL_law 2511 = .ok (.iconst 1, 1) := dk_4 (dk_at dksL_law_101 2 rfl rfl)
theorem dL_law_2512 : decode cL_law 2512 = .ok (.iadd, 1) := dk_96 (dk_at dksL_law_101 3 rfl rfl)
theorem dL_law_2513 : decode cL_law 2513 = .ok (.iaload, 1) := dk_46 (dk_at dksL_law_101 4 rfl rfl)
theorem dL_law_2514 : decode cL_law 2514 = .ok (.invokevirtual 280, 3) := dk_182 1 24 (dk_at dksL_law_101 5 rfl rfl)
theorem dL_law_2517 : decode cL_law 2517 = .ok (.istore 6, 2) := dk_54 6 (dk_at dksL_law_101 8 rfl rfl)
theorem dL_law_2519 : decode cL_law 2519 = .ok (.aload_n 2, 1) := dk_44 (dk_at dksL_law_101 10 rfl rfl)
theorem dL_law_2520 : decode cL_law 2520 = .ok (.invokevirtual 139, 3) := dk_182 0 139 (dk_at dksL_law_101 11 rfl rfl)
theorem dL_law_2523 : decode cL_law 2523 = .ok (.iload 5, 2) := dk_21 5 (dk_at dksL_law_101 14 rfl rfl)
theorem dL_law_2525 : decode cL_law 2525 = .ok (.if_icmp .eq 5, 3) := dk_159 0 5 (dk_at dksL_law_101 16 rfl rfl)
theorem dL_law_2528 : decode cL_law 2528 = .ok (.iconst 0, 1) := dk_3 (dk_at dksL_law_101 19 rfl rfl)
theorem dL_law_2529 : decode cL_law 2529 = .ok (.ireturn, 1) := dk_172 (dk_at dksL_law_101 20 rfl rfl)
theorem dL_law_2530 : decode cL_law 2530 = .ok (.iload 5, 2) := dk_21 5 (dk_at dksL_law_101 21 rfl rfl)
theorem dL_law_2532 : decode cL_law 2532 = .ok (.ifCond .ne 15, 3) := dk_154 0 15 (dk_at dksL_law_102 0 rfl rfl)
theorem dL_law_2535 : decode cL_law 2535 = .ok (.aload_n 3, 1) := dk_45 (dk_at dksL_law_102 3 rfl rfl)
theorem dL_law_2536 : decode cL_law 2536 = .ok (.iconst 0, 1) := dk_3 (dk_at dksL_law_102 4 rfl rfl)
theorem dL_law_2537 : decode cL_law 2537 = .ok (.laload, 1) := dk_47 (dk_at dksL_law_102 5 rfl rfl)
theorem dL_law_2538 : decode cL_law 2538 = .ok (.iload 6, 2) := dk_21 6 (dk_at dksL_law_102 6 rfl rfl)
theorem dL_law_2540 : decode cL_law 2540 = .ok (.i2l, 1) := dk_133 (dk_at dksL_law_102 8 rfl rfl)
theorem dL_law_2541 : decode cL_law 2541 = .ok (.lcmp, 1) := dk_148 (dk_at dksL_law_102 9 rfl rfl)
theorem dL_law_2542 : decode cL_law 2542 = .ok (.ifCond .eq 5, 3) := dk_153 0 5 (dk_at dksL_law_102 10 rfl rfl)
theorem dL_law_2545 : decode cL_law 2545 = .ok (.iconst 0, 1) := dk_3 (dk_at dksL_law_102 13 rfl rfl)
theorem dL_law_2546 : decode cL_law 2546 = .ok (.ireturn, 1) := dk_172 (dk_at dksL_law_102 14 rfl rfl)
theorem dL_law_2547 : decode cL_law 2547 = .ok (.goto 3, 3) := dk_167 0 3 (dk_at dksL_law_102 15 rfl rfl)
theorem dL_law_2550 : decode cL_law 2550 = .ok (.iinc 4 4, 3) := dk_132 4 4 (dk_at dksL_law_102 18 rfl rfl)
theorem dL_law_2553 : decode cL_law 2553 = .ok (.goto (-2530), 3) := dk_167 246 30 (dk_at dksL_law_102 21 rfl rfl)
theorem dL_law_2556 : decode cL_law 2556 = .ok (.iconst 1, 1) := dk_4 (dk_at dksL_law_103 0 rfl rfl)
theorem dL_law_2557 : decode cL_law 2557 = .ok (.ireturn, 1) := dk_172 (dk_at dksL_law_103 1 rfl rfl)
