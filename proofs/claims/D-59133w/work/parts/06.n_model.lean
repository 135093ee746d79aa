/-! RuleListsModel -/
set_option maxRecDepth 100000
def RX3 : String := "RuleListsModel"
def TX3 : u_T := fun k => match k with
  | 0 => ("RuleListsModel", "refusal", "I", false)
  | 1 => ("RuleListsModel", "text", "[I", true)
  | 2 => ("RuleListsModel", "size", "I", false)
  | 3 => ("RuleListsModel", "now", "[I", true)
  | 4 => ("RuleListsModel", "trial", "[I", true)
  | 5 => ("RuleListsModel", "diary", "[I", true)
  | 6 => ("RuleListsModel", "acts", "I", false)
  | 7 => ("RuleListsModel", "kept", "[I", true)
  | 8 => ("RuleListsModel", "isKept", "[Z", true)
  | 9 => ("RuleListsModel", "has", "[Z", true)
  | 10 => ("RuleListsModel", "crossed", "[Z", true)
  | 11 => ("RuleListsModel", "spot", "I", false)
  | _ => ("RuleListsModel", "skipped", "I", false)
def tyX3 : Nat → FieldType := fun k => match k with
  | 0 => .int
  | 1 => .array .int
  | 2 => .int
  | 3 => .array .int
  | 4 => .array .int
  | 5 => .array .int
  | 6 => .int
  | 7 => .array .int
  | 8 => .array .boolean
  | 9 => .array .boolean
  | 10 => .array .boolean
  | 11 => .int
  | _ => .int
abbrev wsX30 : List Cond := u_ws RX3 TX3 13
set_option maxRecDepth 100000 in
theorem nmX3 : ∀ a, a < 13 → ∀ b, b < 13 → a ≠ b → (TX3 a).2.1 ≠ (TX3 b).2.1 := by decide +kernel
set_option maxRecDepth 100000 in
theorem tyX3_ok : ∀ k, k < 13 → parseFieldDescriptor (TX3 k).2.2.1 = some (tyX3 k) := by decide +kernel
abbrev cX3_init : ByteArray := prog_18_method_1_code
def yX3_init : MethodName := ⟨RX3, "<init>", "()V"⟩
def dkwX3_init_3 : List UInt8 := [180, 0, 13, 184, 0, 35, 177]
abbrev dktX3_init_3 : List UInt8 := dkwX3_init_3 ++ []
def dkwX3_init_2 : List UInt8 := [188, 4, 181, 0, 25, 42, 17, 46, 224, 188, 4, 181, 0, 29, 42, 17, 3, 232, 188, 4, 181, 0, 32, 42]
abbrev dktX3_init_2 : List UInt8 := dkwX3_init_2 ++ dktX3_init_3
def dkwX3_init_1 : List UInt8 := [188, 10, 181, 0, 16, 42, 17, 3, 58, 188, 10, 181, 0, 19, 42, 16, 118, 188, 10, 181, 0, 22, 42, 5]
abbrev dktX3_init_1 : List UInt8 := dkwX3_init_1 ++ dktX3_init_2
def dkwX3_init_0 : List UInt8 := [42, 183, 0, 1, 42, 16, 120, 188, 10, 181, 0, 7, 42, 16, 59, 188, 10, 181, 0, 13, 42, 16, 59]
abbrev dktX3_init_0 : List UInt8 := dkwX3_init_0 ++ dktX3_init_1
theorem dksX3_init_0 : cX3_init.data.toList.drop 0 = dktX3_init_0 := by decide +kernel
theorem dksX3_init_1 : cX3_init.data.toList.drop 23 = dktX3_init_1 := dk_seg dksX3_init_0 23 rfl rfl
theorem dksX3_init_2 : cX3_init.data.toList.drop 47 = dktX3_init_2 := dk_seg dksX3_init_1 24 rfl rfl
theorem dksX3_init_3 : cX3_init.data.toList.drop 71 = dktX3_init_3 := dk_seg dksX3_init_2 24 rfl rfl
theorem dX3_init_0 : decode cX3_init 0 = .ok (.aload_n 0, 1) := dk_42 (dk_at dksX3_init_0 0 rfl rfl)
theorem dX3_init_1 : decode cX3_init 1 = .ok (.invokespecial 1, 3) := dk_183 0 1 (dk_at dksX3_init_0 1 rfl rfl)
theorem dX3_init_4 : decode cX3_init 4 = .ok (.aload_n 0, 1) := dk_42 (dk_at dksX3_init_0 4 rfl rfl)
theorem dX3_init_5 : decode cX3_init 5 = .ok (.bipush 120, 2) := dk_16 120 (dk_at dksX3_init_0 5 rfl rfl)
theorem dX3_init_7 : decode cX3_init 7 = .ok (.newarray .int, 2) := dk_188_10 (dk_at dksX3_init_0 7 rfl rfl)
theorem dX3_init_9 : decode cX3_init 9 = .ok (.putfield 7, 3) := dk_181 0 7 (dk_at dksX3_init_0 9 rfl rfl)
theorem dX3_init_12 : decode cX3_init 12 = .ok (.aload_n 0, 1) := dk_42 (dk_at dksX3_init_0 12 rfl rfl)
theorem dX3_init_13 : decode cX3_init 13 = .ok (.bipush 59, 2) := dk_16 59 (dk_at dksX3_init_0 13 rfl rfl)
theorem dX3_init_15 : decode cX3_init 15 = .ok (.newarray .int, 2) := dk_188_10 (dk_at dksX3_init_0 15 rfl rfl)
theorem dX3_init_17 : decode cX3_init 17 = .ok (.putfield 13, 3) := dk_181 0 13 (dk_at dksX3_init_0 17 rfl rfl)
theorem dX3_init_20 : decode cX3_init 20 = .ok (.aload_n 0, 1) := dk_42 (dk_at dksX3_init_0 20 rfl rfl)
theorem dX3_init_21 : decode cX3_init 21 = .ok (.bipush 59, 2) := dk_16 59 (dk_at dksX3_init_0 21 rfl rfl)
theorem dX3_init_23 : decode cX3_init 23 = .ok (.newarray .int, 2) := dk_188_10 (dk_at dksX3_init_1 0 rfl rfl)
theorem dX3_init_25 : decode cX3_init 25 = .ok (.putfield 16, 3) := dk_181 0 16 (dk_at dksX3_init_1 2 rfl rfl)
theorem dX3_init_28 : decode cX3_init 28 = .ok (.aload_n 0, 1) := dk_42 (dk_at dksX3_init_1 5 rfl rfl)
theorem dX3_init_29 : decode cX3_init 29 = .ok (.sipush 826, 3) := dk_17 3 58 (dk_at dksX3_init_1 6 rfl rfl)
theorem dX3_init_32 : decode cX3_init 32 = .ok (.newarray .int, 2) := dk_188_10 (dk_at dksX3_init_1 9 rfl rfl)
theorem dX3_init_34 : decode cX3_init 34 = .ok (.putfield 19, 3) := dk_181 0 19 (dk_at dksX3_init_1 11 rfl rfl)
theorem dX3_init_37 : decode cX3_init 37 = .ok (.aload_n 0, 1) := dk_42 (dk_at dksX3_init_1 14 rfl rfl)
theorem dX3_init_38 : decode cX3_init 38 = .ok (.bipush 118, 2) := dk_16 118 (dk_at dksX3_init_1 15 rfl rfl)
theorem dX3_init_40 : decode cX3_init 40 = .ok (.newarray .int, 2) := dk_188_10 (dk_at dksX3_init_1 17 rfl rfl)
theorem dX3_init_42 : decode cX3_init 42 = .ok (.putfield 22, 3) := dk_181 0 22 (dk_at dksX3_init_1 19 rfl rfl)
theorem dX3_init_45 : decode cX3_init 45 = .ok (.aload_n 0, 1) := dk_42 (dk_at dksX3_init_1 22 rfl rfl)
theorem dX3_init_46 : decode cX3_init 46 = .ok (.iconst 2, 1) := dk_5 (dk_at dksX3_init_1 23 rfl rfl)
theorem dX3_init_47 : decode cX3_init 47 = .ok (.newarray .boolean, 2) := dk_188_4 (dk_at dksX3_init_2 0 rfl rfl)
theorem dX3_init_49 : decode cX3_init 49 = .ok (.putfield 25, 3) := dk_181 0 25 (dk_at dksX3_init_2 2 rfl rfl)
theorem dX3_init_52 : decode cX3_init 52 = .ok (.aload_n 0, 1) := dk_42 (dk_at dksX3_init_2 5 rfl rfl)
theorem dX3_init_53 : decode cX3_init 53 = .ok (.sipush 12000, 3) := dk_17 46 224 (dk_at dksX3_init_2 6 rfl rfl)
theorem dX3_init_56 : decode cX3_init 56 = .ok (.newarray .boolean, 2) := dk_188_4 (dk_at dksX3_init_2 9 rfl rfl)
theorem dX3_init_58 : decode cX3_init 58 = .ok (.putfield 29, 3) := dk_181 0 29 (dk_at dksX3_init_2 11 rfl rfl)
theorem dX3_init_61 : decode cX3_init 61 = .ok (.aload_n 0, 1) := dk_42 (dk_at dksX3_init_2 14 rfl rfl)
theorem dX3_init_62 : decode cX3_init 62 = .ok (.sipush 1000, 3) := dk_17 3 232 (dk_at dksX3_init_2 15 rfl rfl)
theorem dX3_init_65 : decode cX3_init 65 = .ok (.newarray .boolean, 2) := dk_188_4 (dk_at dksX3_init_2 18 rfl rfl)
theorem dX3_init_67 : decode cX3_init 67 = .ok (.putfield 32, 3) := dk_181 0 32 (dk_at dksX3_init_2 20 rfl rfl)
theorem dX3_init_70 : decode cX3_init 70 = .ok (.aload_n 0, 1) := dk_42 (dk_at dksX3_init_2 23 rfl rfl)
theorem dX3_init_71 : decode cX3_init 71 = .ok (.getfield 13, 3) := dk_180 0 13 (dk_at dksX3_init_3 0 rfl rfl)
theorem dX3_init_74 : decode cX3_init 74 = .ok (.invokestatic 35, 3) := dk_184 0 35 (dk_at dksX3_init_3 3 rfl rfl)
theorem dX3_init_77 : decode cX3_init 77 = .ok (.return_, 1) := dk_177 (dk_at dksX3_init_3 6 rfl rfl)
abbrev cX3_clear : ByteArray := prog_18_method_6_code
def yX3_clear : MethodName := ⟨RX3, "clear", "([I)V"⟩
def dkwX3_clear_0 : List UInt8 := [3, 60, 27, 16, 59, 162, 0, 13, 42, 27, 3, 79, 132, 1, 1, 167, 255, 243, 177]
abbrev dktX3_clear_0 : List UInt8 := dkwX3_clear_0 ++ []
theorem dksX3_clear_0 : cX3_clear.data.toList.drop 0 = dktX3_clear_0 := by decide +kernel
theorem dX3_clear_0 : decode cX3_clear 0 = .ok (.iconst 0, 1) := dk_3 (dk_at dksX3_clear_0 0 rfl rfl)
theorem dX3_clear_1 : decode cX3_clear 1 = .ok (.istore_n 1, 1) := dk_60 (dk_at dksX3_clear_0 1 rfl rfl)
theorem dX3_clear_2 : decode cX3_clear 2 = .ok (.iload_n 1, 1) := dk_27 (dk_at dksX3_clear_0 2 rfl rfl)
theorem dX3_clear_3 : decode cX3_clear 3 = .ok (.bipush 59, 2) := dk_16 59 (dk_at dksX3_clear_0 3 rfl rfl)
theorem dX3_clear_5 : decode cX3_clear 5 = .ok (.if_icmp .ge 13, 3) := dk_162 0 13 (dk_at dksX3_clear_0 5 rfl rfl)
theorem dX3_clear_8 : decode cX3_clear 8 = .ok (.aload_n 0, 1) := dk_42 (dk_at dksX3_clear_0 8 rfl rfl)
theorem dX3_clear_9 : decode cX3_clear 9 = .ok (.iload_n 1, 1) := dk_27 (dk_at dksX3_clear_0 9 rfl rfl)
theorem dX3_clear_10 : decode cX3_clear 10 = .ok (.iconst 0, 1) := dk_3 (dk_at dksX3_clear_0 10 rfl rfl)
theorem dX3_clear_11 : decode cX3_clear 11 = .ok (.iastore, 1) := dk_79 (dk_at dksX3_clear_0 11 rfl rfl)
theorem dX3_clear_12 : decode cX3_clear 12 = .ok (.iinc 1 1, 3) := dk_132 1 1 (dk_at dksX3_clear_0 12 rfl rfl)
theorem dX3_clear_15 : decode cX3_clear 15 = .ok (.goto (-13), 3) := dk_167 255 243 (dk_at dksX3_clear_0 15 rfl rfl)
theorem dX3_clear_18 : decode cX3_clear 18 = .ok (.return_, 1) := dk_177 (dk_at dksX3_clear_0 18 rfl rfl)
abbrev cX3_thrown : ByteArray := prog_18_method_2_code
def yX3_thrown : MethodName := ⟨RX3, "thrown", "()I"⟩
theorem dX3_thrown_0 : decode cX3_thrown 0 = .ok (.aload_n 0, 1) := by decide +kernel
theorem dX3_thrown_1 : decode cX3_thrown 1 = .ok (.getfield 39, 3) := by decide +kernel
theorem dX3_thrown_4 : decode cX3_thrown 4 = .ok (.ireturn, 1) := by decide +kernel
abbrev cX3_append : ByteArray := prog_18_method_29_code
def yX3_append : MethodName := ⟨RX3, "append", "(I)I"⟩
def dkwX3_append_2 : List UInt8 := [27, 79, 42, 89, 180, 0, 92, 4, 96, 181, 0, 92, 42, 180, 0, 92, 172]
abbrev dktX3_append_2 : List UInt8 := dkwX3_append_2 ++ []
def dkwX3_append_1 : List UInt8 := [160, 0, 7, 5, 167, 0, 4, 3, 182, 0, 95, 153, 0, 5, 3, 172, 42, 180, 0, 7, 42, 180, 0, 92]
abbrev dktX3_append_1 : List UInt8 := dkwX3_append_1 ++ dktX3_append_2
def dkwX3_append_0 : List UInt8 := [42, 27, 133, 9, 20, 0, 90, 184, 0, 43, 154, 0, 7, 4, 167, 0, 17, 42, 180, 0, 92, 16, 120]
abbrev dktX3_append_0 : List UInt8 := dkwX3_append_0 ++ dktX3_append_1
theorem dksX3_append_0 : cX3_append.data.toList.drop 0 = dktX3_append_0 := by decide +kernel
theorem dksX3_append_1 : cX3_append.data.toList.drop 23 = dktX3_append_1 := dk_seg dksX3_append_0 23 rfl rfl
theorem dksX3_append_2 : cX3_append.data.toList.drop 47 = dktX3_append_2 := dk_seg dksX3_append_1 24 rfl rfl
theorem dX3_append_0 : decode cX3_append 0 = .ok (.aload_n 0, 1) := dk_42 (dk_at dksX3_append_0 0 rfl rfl)
theorem dX3_append_1 : decode cX3_append 1 = .ok (.iload_n 1, 1) := dk_27 (dk_at dksX3_append_0 1 rfl rfl)
theorem dX3_append_2 : decode cX3_append 2 = .ok (.i2l, 1) := dk_133 (dk_at dksX3_append_0 2 rfl rfl)
theorem dX3_append_3 : decode cX3_append 3 = .ok (.lconst 0, 1) := dk_9 (dk_at dksX3_append_0 3 rfl rfl)
theorem dX3_append_4 : decode cX3_append 4 = .ok (.ldc2_w 90, 3) := dk_20 0 90 (dk_at dksX3_append_0 4 rfl rfl)
theorem dX3_append_7 : decode cX3_append 7 = .ok (.invokestatic 43, 3) := dk_184 0 43 (dk_at dksX3_append_0 7 rfl rfl)
theorem dX3_append_10 : decode cX3_append 10 = .ok (.ifCond .ne 7, 3) := dk_154 0 7 (dk_at dksX3_append_0 10 rfl rfl)
theorem dX3_append_13 : decode cX3_append 13 = .ok (.iconst 1, 1) := dk_4 (dk_at dksX3_append_0 13 rfl rfl)
theorem dX3_append_14 : decode cX3_append 14 = .ok (.goto 17, 3) := dk_167 0 17 (dk_at dksX3_append_0 14 rfl rfl)
theorem dX3_append_17 : decode cX3_append 17 = .ok (.aload_n 0, 1) := dk_42 (dk_at dksX3_append_0 17 rfl rfl)
theorem dX3_append_18 : decode cX3_append 18 = .ok (.getfield 92, 3) := dk_180 0 92 (dk_at dksX3_append_0 18 rfl rfl)
theorem dX3_append_21 : decode cX3_append 21 = .ok (.bipush 120, 2) := dk_16 120 (dk_at dksX3_append_0 21 rfl rfl)
theorem dX3_append_23 : decode cX3_append 23 = .ok (.if_icmp .ne 7, 3) := dk_160 0 7 (dk_at dksX3_append_1 0 rfl rfl)
theorem dX3_append_26 : decode cX3_append 26 = .ok (.iconst 2, 1) := dk_5 (dk_at dksX3_append_1 3 rfl rfl)
theorem dX3_append_27 : decode cX3_append 27 = .ok (.goto 4, 3) := dk_167 0 4 (dk_at dksX3_append_1 4 rfl rfl)
theorem dX3_append_30 : decode cX3_append 30 = .ok (.iconst 0, 1) := dk_3 (dk_at dksX3_append_1 7 rfl rfl)
theorem dX3_append_31 : decode cX3_append 31 = .ok (.invokevirtual 95, 3) := dk_182 0 95 (dk_at dksX3_append_1 8 rfl rfl)
theorem dX3_append_34 : decode cX3_append 34 = .ok (.ifCond .eq 5, 3) := dk_153 0 5 (dk_at dksX3_append_1 11 rfl rfl)
theorem dX3_append_37 : decode cX3_append 37 = .ok (.iconst 0, 1) := dk_3 (dk_at dksX3_append_1 14 rfl rfl)
theorem dX3_append_38 : decode cX3_append 38 = .ok (.ireturn, 1) := dk_172 (dk_at dksX3_append_1 15 rfl rfl)
theorem dX3_append_39 : decode cX3_append 39 = .ok (.aload_n 0, 1) := dk_42 (dk_at dksX3_append_1 16 rfl rfl)
theorem dX3_append_40 : decode cX3_append 40 = .ok (.getfield 7, 3) := dk_180 0 7 (dk_at dksX3_append_1 17 rfl rfl)
theorem dX3_append_43 : decode cX3_append 43 = .ok (.aload_n 0, 1) := dk_42 (dk_at dksX3_append_1 20 rfl rfl)
theorem dX3_append_44 : decode cX3_append 44 = .ok (.getfield 92, 3) := dk_180 0 92 (dk_at dksX3_append_1 21 rfl rfl)
theorem dX3_append_47 : decode cX3_append 47 = .ok (.iload_n 1, 1) := dk_27 (dk_at dksX3_append_2 0 rfl rfl)
theorem dX3_append_48 : decode cX3_append 48 = .ok (.iastore, 1) := dk_79 (dk_at dksX3_append_2 1 rfl rfl)
theorem dX3_append_49 : decode cX3_append 49 = .ok (.aload_n 0, 1) := dk_42 (dk_at dksX3_append_2 2 rfl rfl)
theorem dX3_append_50 : decode cX3_append 50 = .ok (.dup, 1) := dk_89 (dk_at dksX3_append_2 3 rfl rfl)
theorem dX3_append_51 : decode cX3_append 51 = .ok (.getfield 92, 3) := dk_180 0 92 (dk_at dksX3_append_2 4 rfl rfl)
theorem dX3_append_54 : decode cX3_append 54 = .ok (.iconst 1, 1) := dk_4 (dk_at dksX3_append_2 7 rfl rfl)
theorem dX3_append_55 : decode cX3_append 55 = .ok (.iadd, 1) := dk_96 (dk_at dksX3_append_2 8 rfl rfl)
theorem dX3_append_56 : decode cX3_append 56 = .ok (.putfield 92, 3) := dk_181 0 92 (dk_at dksX3_append_2 9 rfl rfl)
theorem dX3_append_59 : decode cX3_append 59 = .ok (.aload_n 0, 1) := dk_42 (dk_at dksX3_append_2 12 rfl rfl)
theorem dX3_append_60 : decode cX3_append 60 = .ok (.getfield 92, 3) := dk_180 0 92 (dk_at dksX3_append_2 13 rfl rfl)
theorem dX3_append_63 : decode cX3_append 63 = .ok (.ireturn, 1) := dk_172 (dk_at dksX3_append_2 16 rfl rfl)
abbrev cX3_in : ByteArray := prog_18_method_4_code
def yX3_in : MethodName := ⟨RX3, "in", "(JJJ)Z"⟩
def dkwX3_in_0 : List UInt8 := [30, 32, 148, 155, 0, 14, 30, 22, 4, 148, 157, 0, 7, 4, 167, 0, 4, 3, 172]
abbrev dktX3_in_0 : List UInt8 := dkwX3_in_0 ++ []
theorem dksX3_in_0 : cX3_in.data.toList.drop 0 = dktX3_in_0 := by decide +kernel
theorem dX3_in_0 : decode cX3_in 0 = .ok (.lload_n 0, 1) := dk_30 (dk_at dksX3_in_0 0 rfl rfl)
theorem dX3_in_1 : decode cX3_in 1 = .ok (.lload_n 2, 1) := dk_32 (dk_at dksX3_in_0 1 rfl rfl)
theorem dX3_in_2 : decode cX3_in 2 = .ok (.lcmp, 1) := dk_148 (dk_at dksX3_in_0 2 rfl rfl)
theorem dX3_in_3 : decode cX3_in 3 = .ok (.ifCond .lt 14, 3) := dk_155 0 14 (dk_at dksX3_in_0 3 rfl rfl)
theorem dX3_in_6 : decode cX3_in 6 = .ok (.lload_n 0, 1) := dk_30 (dk_at dksX3_in_0 6 rfl rfl)
theorem dX3_in_7 : decode cX3_in 7 = .ok (.lload 4, 2) := dk_22 4 (dk_at dksX3_in_0 7 rfl rfl)
theorem dX3_in_9 : decode cX3_in 9 = .ok (.lcmp, 1) := dk_148 (dk_at dksX3_in_0 9 rfl rfl)
theorem dX3_in_10 : decode cX3_in 10 = .ok (.ifCond .gt 7, 3) := dk_157 0 7 (dk_at dksX3_in_0 10 rfl rfl)
theorem dX3_in_13 : decode cX3_in 13 = .ok (.iconst 1, 1) := dk_4 (dk_at dksX3_in_0 13 rfl rfl)
theorem dX3_in_14 : decode cX3_in 14 = .ok (.goto 4, 3) := dk_167 0 4 (dk_at dksX3_in_0 14 rfl rfl)
theorem dX3_in_17 : decode cX3_in 17 = .ok (.iconst 0, 1) := dk_3 (dk_at dksX3_in_0 17 rfl rfl)
theorem dX3_in_18 : decode cX3_in 18 = .ok (.ireturn, 1) := dk_172 (dk_at dksX3_in_0 18 rfl rfl)
abbrev cX3_refused : ByteArray := prog_18_method_3_code
def yX3_refused : MethodName := ⟨RX3, "refused", "(I)Z"⟩
def dkwX3_refused_0 : List UInt8 := [42, 27, 181, 0, 39, 27, 158, 0, 7, 4, 167, 0, 4, 3, 172]
abbrev dktX3_refused_0 : List UInt8 := dkwX3_refused_0 ++ []
theorem dksX3_refused_0 : cX3_refused.data.toList.drop 0 = dktX3_refused_0 := by decide +kernel
theorem dX3_refused_0 : decode cX3_refused 0 = .ok (.aload_n 0, 1) := dk_42 (dk_at dksX3_refused_0 0 rfl rfl)
theorem dX3_refused_1 : decode cX3_refused 1 = .ok (.iload_n 1, 1) := dk_27 (dk_at dksX3_refused_0 1 rfl rfl)
theorem dX3_refused_2 : decode cX3_refused 2 = .ok (.putfield 39, 3) := dk_181 0 39 (dk_at dksX3_refused_0 2 rfl rfl)
theorem dX3_refused_5 : decode cX3_refused 5 = .ok (.iload_n 1, 1) := dk_27 (dk_at dksX3_refused_0 5 rfl rfl)
theorem dX3_refused_6 : decode cX3_refused 6 = .ok (.ifCond .le 7, 3) := dk_158 0 7 (dk_at dksX3_refused_0 6 rfl rfl)
theorem dX3_refused_9 : decode cX3_refused 9 = .ok (.iconst 1, 1) := dk_4 (dk_at dksX3_refused_0 9 rfl rfl)
theorem dX3_refused_10 : decode cX3_refused 10 = .ok (.goto 4, 3) := dk_167 0 4 (dk_at dksX3_refused_0 10 rfl rfl)
theorem dX3_refused_13 : decode cX3_refused 13 = .ok (.iconst 0, 1) := dk_3 (dk_at dksX3_refused_0 13 rfl rfl)
theorem dX3_refused_14 : decode cX3_refused 14 = .ok (.ireturn, 1) := dk_172 (dk_at dksX3_refused_0 14 rfl rfl)
abbrev cX3_clearText : ByteArray := prog_18_method_30_code
def yX3_clearText : MethodName := ⟨RX3, "clearText", "()I"⟩
def dkwX3_clearText_0 : List UInt8 := [42, 3, 181, 0, 39, 42, 180, 0, 92, 60, 42, 3, 181, 0, 92, 27, 172]
abbrev dktX3_clearText_0 : List UInt8 := dkwX3_clearText_0 ++ []
theorem dksX3_clearText_0 : cX3_clearText.data.toList.drop 0 = dktX3_clearText_0 := by decide +kernel
theorem dX3_clearText_0 : decode cX3_clearText 0 = .ok (.aload_n 0, 1) := dk_42 (dk_at dksX3_clearText_0 0 rfl rfl)
theorem dX3_clearText_1 : decode cX3_clearText 1 = .ok (.iconst 0, 1) := dk_3 (dk_at dksX3_clearText_0 1 rfl rfl)
theorem dX3_clearText_2 : decode cX3_clearText 2 = .ok (.putfield 39, 3) := dk_181 0 39 (dk_at dksX3_clearText_0 2 rfl rfl)
theorem dX3_clearText_5 : decode cX3_clearText 5 = .ok (.aload_n 0, 1) := dk_42 (dk_at dksX3_clearText_0 5 rfl rfl)
theorem dX3_clearText_6 : decode cX3_clearText 6 = .ok (.getfield 92, 3) := dk_180 0 92 (dk_at dksX3_clearText_0 6 rfl rfl)
theorem dX3_clearText_9 : decode cX3_clearText 9 = .ok (.istore_n 1, 1) := dk_60 (dk_at dksX3_clearText_0 9 rfl rfl)
theorem dX3_clearText_10 : decode cX3_clearText 10 = .ok (.aload_n 0, 1) := dk_42 (dk_at dksX3_clearText_0 10 rfl rfl)
theorem dX3_clearText_11 : decode cX3_clearText 11 = .ok (.iconst 0, 1) := dk_3 (dk_at dksX3_clearText_0 11 rfl rfl)
theorem dX3_clearText_12 : decode cX3_clearText 12 = .ok (.putfield 92, 3) := dk_181 0 92 (dk_at dksX3_clearText_0 12 rfl rfl)
theorem dX3_clearText_15 : decode cX3_clearText 15 = .ok (.iload_n 1, 1) := dk_27 (dk_at dksX3_clearText_0 15 rfl rfl)
theorem dX3_clearText_16 : decode cX3_clearText 16 = .ok (.ireturn, 1) := dk_172 (dk_at dksX3_clearText_0 16 rfl rfl)
abbrev cX3_errorPosition : ByteArray := prog_18_method_41_code
def yX3_errorPosition : MethodName := ⟨RX3, "errorPosition", "()I"⟩
def dkwX3_errorPosition_0 : List UInt8 := [42, 3, 181, 0, 39, 42, 42, 180, 0, 16, 182, 0, 173, 172]
abbrev dktX3_errorPosition_0 : List UInt8 := dkwX3_errorPosition_0 ++ []
theorem dksX3_errorPosition_0 : cX3_errorPosition.data.toList.drop 0 = dktX3_errorPosition_0 := by decide +kernel
theorem dX3_errorPosition_0 : decode cX3_errorPosition 0 = .ok (.aload_n 0, 1) := dk_42 (dk_at dksX3_errorPosition_0 0 rfl rfl)
theorem dX3_errorPosition_1 : decode cX3_errorPosition 1 = .ok (.iconst 0, 1) := dk_3 (dk_at dksX3_errorPosition_0 1 rfl rfl)
theorem dX3_errorPosition_2 : decode cX3_errorPosition 2 = .ok (.putfield 39, 3) := dk_181 0 39 (dk_at dksX3_errorPosition_0 2 rfl rfl)
theorem dX3_errorPosition_5 : decode cX3_errorPosition 5 = .ok (.aload_n 0, 1) := dk_42 (dk_at dksX3_errorPosition_0 5 rfl rfl)
theorem dX3_errorPosition_6 : decode cX3_errorPosition 6 = .ok (.aload_n 0, 1) := dk_42 (dk_at dksX3_errorPosition_0 6 rfl rfl)
theorem dX3_errorPosition_7 : decode cX3_errorPosition 7 = .ok (.getfield 16, 3) := dk_180 0 16 (dk_at dksX3_errorPosition_0 7 rfl rfl)
theorem dX3_errorPosition_10 : decode cX3_errorPosition 10 = .ok (.invokevirtual 173, 3) := dk_182 0 173 (dk_at dksX3_errorPosition_0 10 rfl rfl)
theorem dX3_errorPosition_13 : decode cX3_errorPosition 13 = .ok (.ireturn, 1) := dk_172 (dk_at dksX3_errorPosition_0 13 rfl rfl)
abbrev cX3_readText : ByteArray := prog_18_method_40_code
def yX3_readText : MethodName := ⟨RX3, "readText", "([I)I"⟩
def dkwX3_readText_2 : List UInt8 := [180, 0, 92, 162, 0, 16, 42, 43, 182, 0, 170, 154, 255, 240, 42, 180, 0, 99, 172, 2, 172]
abbrev dktX3_readText_2 : List UInt8 := dkwX3_readText_2 ++ []
def dkwX3_readText_1 : List UInt8 := [180, 0, 7, 3, 46, 16, 76, 159, 0, 5, 3, 172, 42, 4, 181, 0, 99, 42, 180, 0, 99, 42]
abbrev dktX3_readText_1 : List UInt8 := dkwX3_readText_1 ++ dktX3_readText_2
def dkwX3_readText_0 : List UInt8 := [43, 184, 0, 35, 42, 3, 181, 0, 104, 42, 3, 181, 0, 99, 42, 180, 0, 92, 153, 0, 14, 42]
abbrev dktX3_readText_0 : List UInt8 := dkwX3_readText_0 ++ dktX3_readText_1
theorem dksX3_readText_0 : cX3_readText.data.toList.drop 0 = dktX3_readText_0 := by decide +kernel
theorem dksX3_readText_1 : cX3_readText.data.toList.drop 22 = dktX3_readText_1 := dk_seg dksX3_readText_0 22 rfl rfl
theorem dksX3_readText_2 : cX3_readText.data.toList.drop 44 = dktX3_readText_2 := dk_seg dksX3_readText_1 22 rfl rfl
theorem dX3_readText_0 : decode cX3_readText 0 = .ok (.aload_n 1, 1) := dk_43 (dk_at dksX3_readText_0 0 rfl rfl)
theorem dX3_readText_1 : decode cX3_readText 1 = .ok (.invokestatic 35, 3) := dk_184 0 35 (dk_at dksX3_readText_0 1 rfl rfl)
theorem dX3_readText_4 : decode cX3_readText 4 = .ok (.aload_n 0, 1) := dk_42 (dk_at dksX3_readText_0 4 rfl rfl)
theorem dX3_readText_5 : decode cX3_readText 5 = .ok (.iconst 0, 1) := dk_3 (dk_at dksX3_readText_0 5 rfl rfl)
theorem dX3_readText_6 : decode cX3_readText 6 = .ok (.putfield 104, 3) := dk_181 0 104 (dk_at dksX3_readText_0 6 rfl rfl)
theorem dX3_readText_9 : decode cX3_readText 9 = .ok (.aload_n 0, 1) := dk_42 (dk_at dksX3_readText_0 9 rfl rfl)
theorem dX3_readText_10 : decode cX3_readText 10 = .ok (.iconst 0, 1) := dk_3 (dk_at dksX3_readText_0 10 rfl rfl)
theorem dX3_readText_11 : decode cX3_readText 11 = .ok (.putfield 99, 3) := dk_181 0 99 (dk_at dksX3_readText_0 11 rfl rfl)
theorem dX3_readText_14 : decode cX3_readText 14 = .ok (.aload_n 0, 1) := dk_42 (dk_at dksX3_readText_0 14 rfl rfl)
theorem dX3_readText_15 : decode cX3_readText 15 = .ok (.getfield 92, 3) := dk_180 0 92 (dk_at dksX3_readText_0 15 rfl rfl)
theorem dX3_readText_18 : decode cX3_readText 18 = .ok (.ifCond .eq 14, 3) := dk_153 0 14 (dk_at dksX3_readText_0 18 rfl rfl)
theorem dX3_readText_21 : decode cX3_readText 21 = .ok (.aload_n 0, 1) := dk_42 (dk_at dksX3_readText_0 21 rfl rfl)
theorem dX3_readText_22 : decode cX3_readText 22 = .ok (.getfield 7, 3) := dk_180 0 7 (dk_at dksX3_readText_1 0 rfl rfl)
theorem dX3_readText_25 : decode cX3_readText 25 = .ok (.iconst 0, 1) := dk_3 (dk_at dksX3_readText_1 3 rfl rfl)
theorem dX3_readText_26 : decode cX3_readText 26 = .ok (.iaload, 1) := dk_46 (dk_at dksX3_readText_1 4 rfl rfl)
theorem dX3_readText_27 : decode cX3_readText 27 = .ok (.bipush 76, 2) := dk_16 76 (dk_at dksX3_readText_1 5 rfl rfl)
theorem dX3_readText_29 : decode cX3_readText 29 = .ok (.if_icmp .eq 5, 3) := dk_159 0 5 (dk_at dksX3_readText_1 7 rfl rfl)
theorem dX3_readText_32 : decode cX3_readText 32 = .ok (.iconst 0, 1) := dk_3 (dk_at dksX3_readText_1 10 rfl rfl)
theorem dX3_readText_33 : decode cX3_readText 33 = .ok (.ireturn, 1) := dk_172 (dk_at dksX3_readText_1 11 rfl rfl)
theorem dX3_readText_34 : decode cX3_readText 34 = .ok (.aload_n 0, 1) := dk_42 (dk_at dksX3_readText_1 12 rfl rfl)
theorem dX3_readText_35 : decode cX3_readText 35 = .ok (.iconst 1, 1) := dk_4 (dk_at dksX3_readText_1 13 rfl rfl)
theorem dX3_readText_36 : decode cX3_readText 36 = .ok (.putfield 99, 3) := dk_181 0 99 (dk_at dksX3_readText_1 14 rfl rfl)
theorem dX3_readText_39 : decode cX3_readText 39 = .ok (.aload_n 0, 1) := dk_42 (dk_at dksX3_readText_1 17 rfl rfl)
theorem dX3_readText_40 : decode cX3_readText 40 = .ok (.getfield 99, 3) := dk_180 0 99 (dk_at dksX3_readText_1 18 rfl rfl)
theorem dX3_readText_43 : decode cX3_readText 43 = .ok (.aload_n 0, 1) := dk_42 (dk_at dksX3_readText_1 21 rfl rfl)
theorem dX3_readText_44 : decode cX3_readText 44 = .ok (.getfield 92, 3) := dk_180 0 92 (dk_at dksX3_readText_2 0 rfl rfl)
theorem dX3_readText_47 : decode cX3_readText 47 = .ok (.if_icmp .ge 16, 3) := dk_162 0 16 (dk_at dksX3_readText_2 3 rfl rfl)
theorem dX3_readText_50 : decode cX3_readText 50 = .ok (.aload_n 0, 1) := dk_42 (dk_at dksX3_readText_2 6 rfl rfl)
theorem dX3_readText_51 : decode cX3_readText 51 = .ok (.aload_n 1, 1) := dk_43 (dk_at dksX3_readText_2 7 rfl rfl)
theorem dX3_readText_52 : decode cX3_readText 52 = .ok (.invokevirtual 170, 3) := dk_182 0 170 (dk_at dksX3_readText_2 8 rfl rfl)
theorem dX3_readText_55 : decode cX3_readText 55 = .ok (.ifCond .ne (-16), 3) := dk_154 255 240 (dk_at dksX3_readText_2 11 rfl rfl)
theorem dX3_readText_58 : decode cX3_readText 58 = .ok (.aload_n 0, 1) := dk_42 (dk_at dksX3_readText_2 14 rfl rfl)
theorem dX3_readText_59 : decode cX3_readText 59 = .ok (.getfield 99, 3) := dk_180 0 99 (dk_at dksX3_readText_2 15 rfl rfl)
theorem dX3_readText_62 : decode cX3_readText 62 = .ok (.ireturn, 1) := dk_172 (dk_at dksX3_readText_2 18 rfl rfl)
theorem dX3_readText_63 : decode cX3_readText 63 = .ok (.iconst (-1), 1) := dk_2 (dk_at dksX3_readText_2 19 rfl rfl)
theorem dX3_readText_64 : decode cX3_readText 64 = .ok (.ireturn, 1) := dk_172 (dk_at dksX3_readText_2 20 rfl rfl)
abbrev cX3_readCommand : ByteArray := prog_18_method_39_code
def yX3_readCommand : MethodName := ⟨RX3, "readCommand", "([I)Z"⟩
def dkwX3_readCommand_8 : List UInt8 := [167, 0, 4, 3, 182, 0, 119, 172, 42, 89, 180, 0, 99, 4, 100, 181, 0, 99, 3, 172]
abbrev dktX3_readCommand_8 : List UInt8 := dkwX3_readCommand_8 ++ []
def dkwX3_readCommand_7 : List UInt8 := [43, 28, 182, 0, 160, 172, 42, 43, 184, 0, 163, 154, 0, 14, 43, 184, 0, 167, 155, 0, 7, 4]
abbrev dktX3_readCommand_7 : List UInt8 := dkwX3_readCommand_7 ++ dktX3_readCommand_8
def dkwX3_readCommand_6 : List UInt8 := [184, 0, 157, 155, 0, 7, 4, 167, 0, 4, 3, 182, 0, 119, 153, 0, 7, 4, 167, 0, 4, 3, 172, 42]
abbrev dktX3_readCommand_6 : List UInt8 := dkwX3_readCommand_6 ++ dktX3_readCommand_7
def dkwX3_readCommand_5 : List UInt8 := [2, 159, 0, 42, 42, 43, 29, 184, 0, 123, 153, 0, 22, 43, 4, 46, 7, 162, 0, 15, 43, 29]
abbrev dktX3_readCommand_5 : List UInt8 := dkwX3_readCommand_5 ++ dktX3_readCommand_6
def dkwX3_readCommand_4 : List UInt8 := [182, 0, 154, 172, 42, 43, 16, 7, 182, 0, 154, 172, 42, 3, 16, 10, 3, 16, 11, 182, 0, 107, 62, 29]
abbrev dktX3_readCommand_4 : List UInt8 := dkwX3_readCommand_4 ++ dktX3_readCommand_5
def dkwX3_readCommand_3 : List UInt8 := [182, 0, 151, 172, 42, 43, 7, 182, 0, 151, 172, 42, 43, 8, 182, 0, 154, 172, 42, 43, 16, 6]
abbrev dktX3_readCommand_3 : List UInt8 := dkwX3_readCommand_3 ++ dktX3_readCommand_4
def dkwX3_readCommand_2 : List UInt8 := [42, 43, 182, 0, 145, 172, 42, 43, 182, 0, 148, 172, 42, 43, 5, 182, 0, 151, 172, 42, 43, 6]
abbrev dktX3_readCommand_2 : List UInt8 := dkwX3_readCommand_2 ++ dktX3_readCommand_3
def dkwX3_readCommand_1 : List UInt8 := [170, 0, 0, 0, 0, 0, 251, 0, 0, 0, 100, 0, 0, 0, 122, 0, 0, 0, 227, 0, 0, 0, 147, 0, 0, 0, 251, 0, 0, 0, 251, 0, 0, 0, 126, 0, 0, 0, 251, 0, 0, 0, 119, 0, 0, 0, 220, 0, 0, 0, 251, 0, 0, 0, 251, 0, 0, 0, 220, 0, 0, 0, 251, 0, 0, 0, 251, 0, 0, 0, 220, 0, 0, 0, 163, 0, 0, 0, 107, 0, 0, 0, 251, 0, 0, 0, 155, 0, 0, 0, 140, 0, 0, 0, 133, 0, 0, 0, 113, 0, 0, 0, 251, 0, 0, 0, 220]
abbrev dktX3_readCommand_1 : List UInt8 := dkwX3_readCommand_1 ++ dktX3_readCommand_2
def dkwX3_readCommand_0 : List UInt8 := [42, 180, 0, 7, 42, 180, 0, 99, 46, 61, 42, 89, 180, 0, 99, 4, 96, 181, 0, 99, 28]
abbrev dktX3_readCommand_0 : List UInt8 := dkwX3_readCommand_0 ++ dktX3_readCommand_1
theorem dksX3_readCommand_0 : cX3_readCommand.data.toList.drop 0 = dktX3_readCommand_0 := by decide +kernel
theorem dksX3_readCommand_1 : cX3_readCommand.data.toList.drop 21 = dktX3_readCommand_1 := dk_seg dksX3_readCommand_0 21 rfl rfl
theorem dksX3_readCommand_2 : cX3_readCommand.data.toList.drop 128 = dktX3_readCommand_2 := dk_seg dksX3_readCommand_1 107 rfl rfl
theorem dksX3_readCommand_3 : cX3_readCommand.data.toList.drop 150 = dktX3_readCommand_3 := dk_seg dksX3_readCommand_2 22 rfl rfl
theorem dksX3_readCommand_4 : cX3_readCommand.data.toList.drop 172 = dktX3_readCommand_4 := dk_seg dksX3_readCommand_3 22 rfl rfl
theorem dksX3_readCommand_5 : cX3_readCommand.data.toList.drop 196 = dktX3_readCommand_5 := dk_seg dksX3_readCommand_4 24 rfl rfl
theorem dksX3_readCommand_6 : cX3_readCommand.data.toList.drop 218 = dktX3_readCommand_6 := dk_seg dksX3_readCommand_5 22 rfl rfl
theorem dksX3_readCommand_7 : cX3_readCommand.data.toList.drop 242 = dktX3_readCommand_7 := dk_seg dksX3_readCommand_6 24 rfl rfl
theorem dksX3_readCommand_8 : cX3_readCommand.data.toList.drop 264 = dktX3_readCommand_8 := dk_seg dksX3_readCommand_7 22 rfl rfl
theorem dX3_readCommand_0 : decode cX3_readCommand 0 = .ok (.aload_n 0, 1) := dk_42 (dk_at dksX3_readCommand_0 0 rfl rfl)
theorem dX3_readCommand_1 : decode cX3_readCommand 1 = .ok (.getfield 7, 3) := dk_180 0 7 (dk_at dksX3_readCommand_0 1 rfl rfl)
theorem dX3_readCommand_4 : decode cX3_readCommand 4 = .ok (.aload_n 0, 1) := dk_42 (dk_at dksX3_readCommand_0 4 rfl rfl)
theorem dX3_readCommand_5 : decode cX3_readCommand 5 = .ok (.getfield 99, 3) := dk_180 0 99 (dk_at dksX3_readCommand_0 5 rfl rfl)
theorem dX3_readCommand_8 : decode cX3_readCommand 8 = .ok (.iaload, 1) := dk_46 (dk_at dksX3_readCommand_0 8 rfl rfl)
theorem dX3_readCommand_9 : decode cX3_readCommand 9 = .ok (.istore_n 2, 1) := dk_61 (dk_at dksX3_readCommand_0 9 rfl rfl)
theorem dX3_readCommand_10 : decode cX3_readCommand 10 = .ok (.aload_n 0, 1) := dk_42 (dk_at dksX3_readCommand_0 10 rfl rfl)
theorem dX3_readCommand_11 : decode cX3_readCommand 11 = .ok (.dup, 1) := dk_89 (dk_at dksX3_readCommand_0 11 rfl rfl)
theorem dX3_readCommand_12 : decode cX3_readCommand 12 = .ok (.getfield 99, 3) := dk_180 0 99 (dk_at dksX3_readCommand_0 12 rfl rfl)
theorem dX3_readCommand_15 : decode cX3_readCommand 15 = .ok (.iconst 1, 1) := dk_4 (dk_at dksX3_readCommand_0 15 rfl rfl)
theorem dX3_readCommand_16 : decode cX3_readCommand 16 = .ok (.iadd, 1) := dk_96 (dk_at dksX3_readCommand_0 16 rfl rfl)
theorem dX3_readCommand_17 : decode cX3_readCommand 17 = .ok (.putfield 99, 3) := dk_181 0 99 (dk_at dksX3_readCommand_0 17 rfl rfl)
theorem dX3_readCommand_20 : decode cX3_readCommand 20 = .ok (.iload_n 2, 1) := dk_28 (dk_at dksX3_readCommand_0 20 rfl rfl)
theorem dX3_readCommand_21 : decode cX3_readCommand 21 = .ok (.tableswitch 251 100 122 #[227, 147, 251, 251, 126, 251, 119, 220, 251, 251, 220, 251, 251, 220, 163, 107, 251, 155, 140, 133, 113, 251, 220], 107) := by decide +kernel
theorem dX3_readCommand_128 : decode cX3_readCommand 128 = .ok (.aload_n 0, 1) := dk_42 (dk_at dksX3_readCommand_2 0 rfl rfl)
theorem dX3_readCommand_129 : decode cX3_readCommand 129 = .ok (.aload_n 1, 1) := dk_43 (dk_at dksX3_readCommand_2 1 rfl rfl)
theorem dX3_readCommand_130 : decode cX3_readCommand 130 = .ok (.invokevirtual 145, 3) := dk_182 0 145 (dk_at dksX3_readCommand_2 2 rfl rfl)
theorem dX3_readCommand_133 : decode cX3_readCommand 133 = .ok (.ireturn, 1) := dk_172 (dk_at dksX3_readCommand_2 5 rfl rfl)
theorem dX3_readCommand_134 : decode cX3_readCommand 134 = .ok (.aload_n 0, 1) := dk_42 (dk_at dksX3_readCommand_2 6 rfl rfl)
theorem dX3_readCommand_135 : decode cX3_readCommand 135 = .ok (.aload_n 1, 1) := dk_43 (dk_at dksX3_readCommand_2 7 rfl rfl)
theorem dX3_readCommand_136 : decode cX3_readCommand 136 = .ok (.invokevirtual 148, 3) := dk_182 0 148 (dk_at dksX3_readCommand_2 8 rfl rfl)
theorem dX3_readCommand_139 : decode cX3_readCommand 139 = .ok (.ireturn, 1) := dk_172 (dk_at dksX3_readCommand_2 11 rfl rfl)
theorem dX3_readCommand_140 : decode cX3_readCommand 140 = .ok (.aload_n 0, 1) := dk_42 (dk_at dksX3_readCommand_2 12 rfl rfl)
theorem dX3_readCommand_141 : decode cX3_readCommand 141 = .ok (.aload_n 1, 1) := dk_43 (dk_at dksX3_readCommand_2 13 rfl rfl)
theorem dX3_readCommand_142 : decode cX3_readCommand 142 = .ok (.iconst 2, 1) := dk_5 (dk_at dksX3_readCommand_2 14 rfl rfl)
theorem dX3_readCommand_143 : decode cX3_readCommand 143 = .ok (.invokevirtual 151, 3) := dk_182 0 151 (dk_at dksX3_readCommand_2 15 rfl rfl)
theorem dX3_readCommand_146 : decode cX3_readCommand 146 = .ok (.ireturn, 1) := dk_172 (dk_at dksX3_readCommand_2 18 rfl rfl)
theorem dX3_readCommand_147 : decode cX3_readCommand 147 = .ok (.aload_n 0, 1) := dk_42 (dk_at dksX3_readCommand_2 19 rfl rfl)
theorem dX3_readCommand_148 : decode cX3_readCommand 148 = .ok (.aload_n 1, 1) := dk_43 (dk_at dksX3_readCommand_2 20 rfl rfl)
theorem dX3_readCommand_149 : decode cX3_readCommand 149 = .ok (.iconst 3, 1) := dk_6 (dk_at dksX3_readCommand_2 21 rfl rfl)
theorem dX3_readCommand_150 : decode cX3_readCommand 150 = .ok (.invokevirtual 151, 3) := dk_182 0 151 (dk_at dksX3_readCommand_3 0 rfl rfl)
theorem dX3_readCommand_153 : decode cX3_readCommand 153 = .ok (.ireturn, 1) := dk_172 (dk_at dksX3_readCommand_3 3 rfl rfl)
theorem dX3_readCommand_154 : decode cX3_readCommand 154 = .ok (.aload_n 0, 1) := dk_42 (dk_at dksX3_readCommand_3 4 rfl rfl)
theorem dX3_readCommand_155 : decode cX3_readCommand 155 = .ok (.aload_n 1, 1) := dk_43 (dk_at dksX3_readCommand_3 5 rfl rfl)
theorem dX3_readCommand_156 : decode cX3_readCommand 156 = .ok (.iconst 4, 1) := dk_7 (dk_at dksX3_readCommand_3 6 rfl rfl)
theorem dX3_readCommand_157 : decode cX3_readCommand 157 = .ok (.invokevirtual 151, 3) := dk_182 0 151 (dk_at dksX3_readCommand_3 7 rfl rfl)
theorem dX3_readCommand_160 : decode cX3_readCommand 160 = .ok (.ireturn, 1) := dk_172 (dk_at dksX3_readCommand_3 10 rfl rfl)
theorem dX3_readCommand_161 : decode cX3_readCommand 161 = .ok (.aload_n 0, 1) := dk_42 (dk_at dksX3_readCommand_3 11 rfl rfl)
theorem dX3_readCommand_162 : decode cX3_readCommand 162 = .ok (.aload_n 1, 1) := dk_43 (dk_at dksX3_readCommand_3 12 rfl rfl)
theorem dX3_readCommand_163 : decode cX3_readCommand 163 = .ok (.iconst 5, 1) := dk_8 (dk_at dksX3_readCommand_3 13 rfl rfl)
theorem dX3_readCommand_164 : decode cX3_readCommand 164 = .ok (.invokevirtual 154, 3) := dk_182 0 154 (dk_at dksX3_readCommand_3 14 rfl rfl)
theorem dX3_readCommand_167 : decode cX3_readCommand 167 = .ok (.ireturn, 1) := dk_172 (dk_at dksX3_readCommand_3 17 rfl rfl)
theorem dX3_readCommand_168 : decode cX3_readCommand 168 = .ok (.aload_n 0, 1) := dk_42 (dk_at dksX3_readCommand_3 18 rfl rfl)
theorem dX3_readCommand_169 : decode cX3_readCommand 169 = .ok (.aload_n 1, 1) := dk_43 (dk_at dksX3_readCommand_3 19 rfl rfl)
theorem dX3_readCommand_170 : decode cX3_readCommand 170 = .ok (.bipush 6, 2) := dk_16 6 (dk_at dksX3_readCommand_3 20 rfl rfl)
theorem dX3_readCommand_172 : decode cX3_readCommand 172 = .ok (.invokevirtual 154, 3) := dk_182 0 154 (dk_at dksX3_readCommand_4 0 rfl rfl)
theorem dX3_readCommand_175 : decode cX3_readCommand 175 = .ok (.ireturn, 1) := dk_172 (dk_at dksX3_readCommand_4 3 rfl rfl)
theorem dX3_readCommand_176 : decode cX3_readCommand 176 = .ok (.aload_n 0, 1) := dk_42 (dk_at dksX3_readCommand_4 4 rfl rfl)
theorem dX3_readCommand_177 : decode cX3_readCommand 177 = .ok (.aload_n 1, 1) := dk_43 (dk_at dksX3_readCommand_4 5 rfl rfl)
theorem dX3_readCommand_178 : decode cX3_readCommand 178 = .ok (.bipush 7, 2) := dk_16 7 (dk_at dksX3_readCommand_4 6 rfl rfl)
theorem dX3_readCommand_180 : decode cX3_readCommand 180 = .ok (.invokevirtual 154, 3) := dk_182 0 154 (dk_at dksX3_readCommand_4 8 rfl rfl)
theorem dX3_readCommand_183 : decode cX3_readCommand 183 = .ok (.ireturn, 1) := dk_172 (dk_at dksX3_readCommand_4 11 rfl rfl)
theorem dX3_readCommand_184 : decode cX3_readCommand 184 = .ok (.aload_n 0, 1) := dk_42 (dk_at dksX3_readCommand_4 12 rfl rfl)
theorem dX3_readCommand_185 : decode cX3_readCommand 185 = .ok (.iconst 0, 1) := dk_3 (dk_at dksX3_readCommand_4 13 rfl rfl)
theorem dX3_readCommand_186 : decode cX3_readCommand 186 = .ok (.bipush 10, 2) := dk_16 10 (dk_at dksX3_readCommand_4 14 rfl rfl)
theorem dX3_readCommand_188 : decode cX3_readCommand 188 = .ok (.iconst 0, 1) := dk_3 (dk_at dksX3_readCommand_4 16 rfl rfl)
theorem dX3_readCommand_189 : decode cX3_readCommand 189 = .ok (.bipush 11, 2) := dk_16 11 (dk_at dksX3_readCommand_4 17 rfl rfl)
theorem dX3_readCommand_191 : decode cX3_readCommand 191 = .ok (.invokevirtual 107, 3) := dk_182 0 107 (dk_at dksX3_readCommand_4 19 rfl rfl)
theorem dX3_readCommand_194 : decode cX3_readCommand 194 = .ok (.istore_n 3, 1) := dk_62 (dk_at dksX3_readCommand_4 22 rfl rfl)
theorem dX3_readCommand_195 : decode cX3_readCommand 195 = .ok (.iload_n 3, 1) := dk_29 (dk_at dksX3_readCommand_4 23 rfl rfl)
theorem dX3_readCommand_196 : decode cX3_readCommand 196 = .ok (.iconst (-1), 1) := dk_2 (dk_at dksX3_readCommand_5 0 rfl rfl)
theorem dX3_readCommand_197 : decode cX3_readCommand 197 = .ok (.if_icmp .eq 42, 3) := dk_159 0 42 (dk_at dksX3_readCommand_5 1 rfl rfl)
theorem dX3_readCommand_200 : decode cX3_readCommand 200 = .ok (.aload_n 0, 1) := dk_42 (dk_at dksX3_readCommand_5 4 rfl rfl)
theorem dX3_readCommand_201 : decode cX3_readCommand 201 = .ok (.aload_n 1, 1) := dk_43 (dk_at dksX3_readCommand_5 5 rfl rfl)
theorem dX3_readCommand_202 : decode cX3_readCommand 202 = .ok (.iload_n 3, 1) := dk_29 (dk_at dksX3_readCommand_5 6 rfl rfl)
theorem dX3_readCommand_203 : decode cX3_readCommand 203 = .ok (.invokestatic 123, 3) := dk_184 0 123 (dk_at dksX3_readCommand_5 7 rfl rfl)
theorem dX3_readCommand_206 : decode cX3_readCommand 206 = .ok (.ifCond .eq 22, 3) := dk_153 0 22 (dk_at dksX3_readCommand_5 10 rfl rfl)
theorem dX3_readCommand_209 : decode cX3_readCommand 209 = .ok (.aload_n 1, 1) := dk_43 (dk_at dksX3_readCommand_5 13 rfl rfl)
theorem dX3_readCommand_210 : decode cX3_readCommand 210 = .ok (.iconst 1, 1) := dk_4 (dk_at dksX3_readCommand_5 14 rfl rfl)
theorem dX3_readCommand_211 : decode cX3_readCommand 211 = .ok (.iaload, 1) := dk_46 (dk_at dksX3_readCommand_5 15 rfl rfl)
theorem dX3_readCommand_212 : decode cX3_readCommand 212 = .ok (.iconst 4, 1) := dk_7 (dk_at dksX3_readCommand_5 16 rfl rfl)
theorem dX3_readCommand_213 : decode cX3_readCommand 213 = .ok (.if_icmp .ge 15, 3) := dk_162 0 15 (dk_at dksX3_readCommand_5 17 rfl rfl)
theorem dX3_readCommand_216 : decode cX3_readCommand 216 = .ok (.aload_n 1, 1) := dk_43 (dk_at dksX3_readCommand_5 20 rfl rfl)
theorem dX3_readCommand_217 : decode cX3_readCommand 217 = .ok (.iload_n 3, 1) := dk_29 (dk_at dksX3_readCommand_5 21 rfl rfl)
theorem dX3_readCommand_218 : decode cX3_readCommand 218 = .ok (.invokestatic 157, 3) := dk_184 0 157 (dk_at dksX3_readCommand_6 0 rfl rfl)
theorem dX3_readCommand_221 : decode cX3_readCommand 221 = .ok (.ifCond .lt 7, 3) := dk_155 0 7 (dk_at dksX3_readCommand_6 3 rfl rfl)
theorem dX3_readCommand_224 : decode cX3_readCommand 224 = .ok (.iconst 1, 1) := dk_4 (dk_at dksX3_readCommand_6 6 rfl rfl)
theorem dX3_readCommand_225 : decode cX3_readCommand 225 = .ok (.goto 4, 3) := dk_167 0 4 (dk_at dksX3_readCommand_6 7 rfl rfl)
theorem dX3_readCommand_228 : decode cX3_readCommand 228 = .ok (.iconst 0, 1) := dk_3 (dk_at dksX3_readCommand_6 10 rfl rfl)
theorem dX3_readCommand_229 : decode cX3_readCommand 229 = .ok (.invokevirtual 119, 3) := dk_182 0 119 (dk_at dksX3_readCommand_6 11 rfl rfl)
theorem dX3_readCommand_232 : decode cX3_readCommand 232 = .ok (.ifCond .eq 7, 3) := dk_153 0 7 (dk_at dksX3_readCommand_6 14 rfl rfl)
theorem dX3_readCommand_235 : decode cX3_readCommand 235 = .ok (.iconst 1, 1) := dk_4 (dk_at dksX3_readCommand_6 17 rfl rfl)
theorem dX3_readCommand_236 : decode cX3_readCommand 236 = .ok (.goto 4, 3) := dk_167 0 4 (dk_at dksX3_readCommand_6 18 rfl rfl)
theorem dX3_readCommand_239 : decode cX3_readCommand 239 = .ok (.iconst 0, 1) := dk_3 (dk_at dksX3_readCommand_6 21 rfl rfl)
theorem dX3_readCommand_240 : decode cX3_readCommand 240 = .ok (.ireturn, 1) := dk_172 (dk_at dksX3_readCommand_6 22 rfl rfl)
theorem dX3_readCommand_241 : decode cX3_readCommand 241 = .ok (.aload_n 0, 1) := dk_42 (dk_at dksX3_readCommand_6 23 rfl rfl)
theorem dX3_readCommand_242 : decode cX3_readCommand 242 = .ok (.aload_n 1, 1) := dk_43 (dk_at dksX3_readCommand_7 0 rfl rfl)
theorem dX3_readCommand_243 : decode cX3_readCommand 243 = .ok (.iload_n 2, 1) := dk_28 (dk_at dksX3_readCommand_7 1 rfl rfl)
theorem dX3_readCommand_244 : decode cX3_readCommand 244 = .ok (.invokevirtual 160, 3) := dk_182 0 160 (dk_at dksX3_readCommand_7 2 rfl rfl)
theorem dX3_readCommand_247 : decode cX3_readCommand 247 = .ok (.ireturn, 1) := dk_172 (dk_at dksX3_readCommand_7 5 rfl rfl)
theorem dX3_readCommand_248 : decode cX3_readCommand 248 = .ok (.aload_n 0, 1) := dk_42 (dk_at dksX3_readCommand_7 6 rfl rfl)
theorem dX3_readCommand_249 : decode cX3_readCommand 249 = .ok (.aload_n 1, 1) := dk_43 (dk_at dksX3_readCommand_7 7 rfl rfl)
theorem dX3_readCommand_250 : decode cX3_readCommand 250 = .ok (.invokestatic 163, 3) := dk_184 0 163 (dk_at dksX3_readCommand_7 8 rfl rfl)
theorem dX3_readCommand_253 : decode cX3_readCommand 253 = .ok (.ifCond .ne 14, 3) := dk_154 0 14 (dk_at dksX3_readCommand_7 11 rfl rfl)
theorem dX3_readCommand_256 : decode cX3_readCommand 256 = .ok (.aload_n 1, 1) := dk_43 (dk_at dksX3_readCommand_7 14 rfl rfl)
theorem dX3_readCommand_257 : decode cX3_readCommand 257 = .ok (.invokestatic 167, 3) := dk_184 0 167 (dk_at dksX3_readCommand_7 15 rfl rfl)
theorem dX3_readCommand_260 : decode cX3_readCommand 260 = .ok (.ifCond .lt 7, 3) := dk_155 0 7 (dk_at dksX3_readCommand_7 18 rfl rfl)
theorem dX3_readCommand_263 : decode cX3_readCommand 263 = .ok (.iconst 1, 1) := dk_4 (dk_at dksX3_readCommand_7 21 rfl rfl)
theorem dX3_readCommand_264 : decode cX3_readCommand 264 = .ok (.goto 4, 3) := dk_167 0 4 (dk_at dksX3_readCommand_8 0 rfl rfl)
theorem dX3_readCommand_267 : decode cX3_readCommand 267 = .ok (.iconst 0, 1) := dk_3 (dk_at dksX3_readCommand_8 3 rfl rfl)
theorem dX3_readCommand_268 : decode cX3_readCommand 268 = .ok (.invokevirtual 119, 3) := dk_182 0 119 (dk_at dksX3_readCommand_8 4 rfl rfl)
theorem dX3_readCommand_271 : decode cX3_readCommand 271 = .ok (.ireturn, 1) := dk_172 (dk_at dksX3_readCommand_8 7 rfl rfl)
theorem dX3_readCommand_272 : decode cX3_readCommand 272 = .ok (.aload_n 0, 1) := dk_42 (dk_at dksX3_readCommand_8 8 rfl rfl)
theorem dX3_readCommand_273 : decode cX3_readCommand 273 = .ok (.dup, 1) := dk_89 (dk_at dksX3_readCommand_8 9 rfl rfl)
theorem dX3_readCommand_274 : decode cX3_readCommand 274 = .ok (.getfield 99, 3) := dk_180 0 99 (dk_at dksX3_readCommand_8 10 rfl rfl)
theorem dX3_readCommand_277 : decode cX3_readCommand 277 = .ok (.iconst 1, 1) := dk_4 (dk_at dksX3_readCommand_8 13 rfl rfl)
theorem dX3_readCommand_278 : decode cX3_readCommand 278 = .ok (.isub, 1) := dk_100 (dk_at dksX3_readCommand_8 14 rfl rfl)
theorem dX3_readCommand_279 : decode cX3_readCommand 279 = .ok (.putfield 99, 3) := dk_181 0 99 (dk_at dksX3_readCommand_8 15 rfl rfl)
theorem dX3_readCommand_282 : decode cX3_readCommand 282 = .ok (.iconst 0, 1) := dk_3 (dk_at dksX3_readCommand_8 18 rfl rfl)
theorem dX3_readCommand_283 : decode cX3_readCommand 283 = .ok (.ireturn, 1) := dk_172 (dk_at dksX3_readCommand_8 19 rfl rfl)
abbrev cX3_readSteps : ByteArray := prog_18_method_34_code
def yX3_readSteps : MethodName := ⟨RX3, "readSteps", "([I)Z"⟩
def dkwX3_readSteps_2 : List UInt8 := [167, 0, 4, 3, 182, 0, 119, 153, 0, 7, 4, 167, 0, 4, 3, 172]
abbrev dktX3_readSteps_2 : List UInt8 := dkwX3_readSteps_2 ++ []
def dkwX3_readSteps_1 : List UInt8 := [2, 159, 0, 37, 42, 43, 184, 0, 111, 153, 0, 18, 43, 3, 28, 29, 3, 184, 0, 115, 155, 0, 7, 4]
abbrev dktX3_readSteps_1 : List UInt8 := dkwX3_readSteps_1 ++ dktX3_readSteps_2
def dkwX3_readSteps_0 : List UInt8 := [42, 3, 16, 100, 3, 17, 3, 231, 182, 0, 107, 61, 42, 28, 16, 10, 4, 16, 99, 182, 0, 107, 62, 29]
abbrev dktX3_readSteps_0 : List UInt8 := dkwX3_readSteps_0 ++ dktX3_readSteps_1
theorem dksX3_readSteps_0 : cX3_readSteps.data.toList.drop 0 = dktX3_readSteps_0 := by decide +kernel
theorem dksX3_readSteps_1 : cX3_readSteps.data.toList.drop 24 = dktX3_readSteps_1 := dk_seg dksX3_readSteps_0 24 rfl rfl
theorem dksX3_readSteps_2 : cX3_readSteps.data.toList.drop 48 = dktX3_readSteps_2 := dk_seg dksX3_readSteps_1 24 rfl rfl
theorem dX3_readSteps_0 : decode cX3_readSteps 0 = .ok (.aload_n 0, 1) := dk_42 (dk_at dksX3_readSteps_0 0 rfl rfl)
theorem dX3_readSteps_1 : decode cX3_readSteps 1 = .ok (.iconst 0, 1) := dk_3 (dk_at dksX3_readSteps_0 1 rfl rfl)
theorem dX3_readSteps_2 : decode cX3_readSteps 2 = .ok (.bipush 100, 2) := dk_16 100 (dk_at dksX3_readSteps_0 2 rfl rfl)
theorem dX3_readSteps_4 : decode cX3_readSteps 4 = .ok (.iconst 0, 1) := dk_3 (dk_at dksX3_readSteps_0 4 rfl rfl)
theorem dX3_readSteps_5 : decode cX3_readSteps 5 = .ok (.sipush 999, 3) := dk_17 3 231 (dk_at dksX3_readSteps_0 5 rfl rfl)
theorem dX3_readSteps_8 : decode cX3_readSteps 8 = .ok (.invokevirtual 107, 3) := dk_182 0 107 (dk_at dksX3_readSteps_0 8 rfl rfl)
theorem dX3_readSteps_11 : decode cX3_readSteps 11 = .ok (.istore_n 2, 1) := dk_61 (dk_at dksX3_readSteps_0 11 rfl rfl)
theorem dX3_readSteps_12 : decode cX3_readSteps 12 = .ok (.aload_n 0, 1) := dk_42 (dk_at dksX3_readSteps_0 12 rfl rfl)
theorem dX3_readSteps_13 : decode cX3_readSteps 13 = .ok (.iload_n 2, 1) := dk_28 (dk_at dksX3_readSteps_0 13 rfl rfl)
theorem dX3_readSteps_14 : decode cX3_readSteps 14 = .ok (.bipush 10, 2) := dk_16 10 (dk_at dksX3_readSteps_0 14 rfl rfl)
theorem dX3_readSteps_16 : decode cX3_readSteps 16 = .ok (.iconst 1, 1) := dk_4 (dk_at dksX3_readSteps_0 16 rfl rfl)
theorem dX3_readSteps_17 : decode cX3_readSteps 17 = .ok (.bipush 99, 2) := dk_16 99 (dk_at dksX3_readSteps_0 17 rfl rfl)
theorem dX3_readSteps_19 : decode cX3_readSteps 19 = .ok (.invokevirtual 107, 3) := dk_182 0 107 (dk_at dksX3_readSteps_0 19 rfl rfl)
theorem dX3_readSteps_22 : decode cX3_readSteps 22 = .ok (.istore_n 3, 1) := dk_62 (dk_at dksX3_readSteps_0 22 rfl rfl)
theorem dX3_readSteps_23 : decode cX3_readSteps 23 = .ok (.iload_n 3, 1) := dk_29 (dk_at dksX3_readSteps_0 23 rfl rfl)
theorem dX3_readSteps_24 : decode cX3_readSteps 24 = .ok (.iconst (-1), 1) := dk_2 (dk_at dksX3_readSteps_1 0 rfl rfl)
theorem dX3_readSteps_25 : decode cX3_readSteps 25 = .ok (.if_icmp .eq 37, 3) := dk_159 0 37 (dk_at dksX3_readSteps_1 1 rfl rfl)
theorem dX3_readSteps_28 : decode cX3_readSteps 28 = .ok (.aload_n 0, 1) := dk_42 (dk_at dksX3_readSteps_1 4 rfl rfl)
theorem dX3_readSteps_29 : decode cX3_readSteps 29 = .ok (.aload_n 1, 1) := dk_43 (dk_at dksX3_readSteps_1 5 rfl rfl)
theorem dX3_readSteps_30 : decode cX3_readSteps 30 = .ok (.invokestatic 111, 3) := dk_184 0 111 (dk_at dksX3_readSteps_1 6 rfl rfl)
theorem dX3_readSteps_33 : decode cX3_readSteps 33 = .ok (.ifCond .eq 18, 3) := dk_153 0 18 (dk_at dksX3_readSteps_1 9 rfl rfl)
theorem dX3_readSteps_36 : decode cX3_readSteps 36 = .ok (.aload_n 1, 1) := dk_43 (dk_at dksX3_readSteps_1 12 rfl rfl)
theorem dX3_readSteps_37 : decode cX3_readSteps 37 = .ok (.iconst 0, 1) := dk_3 (dk_at dksX3_readSteps_1 13 rfl rfl)
theorem dX3_readSteps_38 : decode cX3_readSteps 38 = .ok (.iload_n 2, 1) := dk_28 (dk_at dksX3_readSteps_1 14 rfl rfl)
theorem dX3_readSteps_39 : decode cX3_readSteps 39 = .ok (.iload_n 3, 1) := dk_29 (dk_at dksX3_readSteps_1 15 rfl rfl)
theorem dX3_readSteps_40 : decode cX3_readSteps 40 = .ok (.iconst 0, 1) := dk_3 (dk_at dksX3_readSteps_1 16 rfl rfl)
theorem dX3_readSteps_41 : decode cX3_readSteps 41 = .ok (.invokestatic 115, 3) := dk_184 0 115 (dk_at dksX3_readSteps_1 17 rfl rfl)
theorem dX3_readSteps_44 : decode cX3_readSteps 44 = .ok (.ifCond .lt 7, 3) := dk_155 0 7 (dk_at dksX3_readSteps_1 20 rfl rfl)
theorem dX3_readSteps_47 : decode cX3_readSteps 47 = .ok (.iconst 1, 1) := dk_4 (dk_at dksX3_readSteps_1 23 rfl rfl)
theorem dX3_readSteps_48 : decode cX3_readSteps 48 = .ok (.goto 4, 3) := dk_167 0 4 (dk_at dksX3_readSteps_2 0 rfl rfl)
theorem dX3_readSteps_51 : decode cX3_readSteps 51 = .ok (.iconst 0, 1) := dk_3 (dk_at dksX3_readSteps_2 3 rfl rfl)
theorem dX3_readSteps_52 : decode cX3_readSteps 52 = .ok (.invokevirtual 119, 3) := dk_182 0 119 (dk_at dksX3_readSteps_2 4 rfl rfl)
theorem dX3_readSteps_55 : decode cX3_readSteps 55 = .ok (.ifCond .eq 7, 3) := dk_153 0 7 (dk_at dksX3_readSteps_2 7 rfl rfl)
theorem dX3_readSteps_58 : decode cX3_readSteps 58 = .ok (.iconst 1, 1) := dk_4 (dk_at dksX3_readSteps_2 10 rfl rfl)
theorem dX3_readSteps_59 : decode cX3_readSteps 59 = .ok (.goto 4, 3) := dk_167 0 4 (dk_at dksX3_readSteps_2 11 rfl rfl)
theorem dX3_readSteps_62 : decode cX3_readSteps 62 = .ok (.iconst 0, 1) := dk_3 (dk_at dksX3_readSteps_2 14 rfl rfl)
theorem dX3_readSteps_63 : decode cX3_readSteps 63 = .ok (.ireturn, 1) := dk_172 (dk_at dksX3_readSteps_2 15 rfl rfl)
abbrev cX3_figures : ByteArray := prog_18_method_31_code
def yX3_figures : MethodName := ⟨RX3, "figures", "(IIII)I"⟩
def dkwX3_figures_5 : List UInt8 := [167, 0, 5, 21, 5, 172]
abbrev dktX3_figures_5 : List UInt8 := dkwX3_figures_5 ++ []
def dkwX3_figures_4 : List UInt8 := [180, 0, 99, 4, 96, 181, 0, 99, 21, 6, 16, 10, 108, 54, 6, 167, 255, 153, 27, 2, 160, 0, 7, 2]
abbrev dktX3_figures_4 : List UInt8 := dkwX3_figures_4 ++ dktX3_figures_5
def dkwX3_figures_3 : List UInt8 := [21, 4, 163, 0, 14, 21, 8, 21, 6, 96, 4, 100, 29, 162, 0, 5, 2, 172, 21, 8, 54, 5, 42, 89]
abbrev dktX3_figures_3 : List UInt8 := dkwX3_figures_3 ++ dktX3_figures_4
def dkwX3_figures_2 : List UInt8 := [21, 7, 21, 6, 104, 96, 54, 8, 21, 7, 133, 9, 20, 0, 102, 184, 0, 43, 153, 0, 21, 21, 8]
abbrev dktX3_figures_2 : List UInt8 := dkwX3_figures_2 ++ dktX3_figures_3
def dkwX3_figures_1 : List UInt8 := [162, 0, 18, 42, 180, 0, 7, 42, 180, 0, 99, 46, 16, 48, 100, 167, 0, 4, 2, 54, 7, 21, 5]
abbrev dktX3_figures_1 : List UInt8 := dkwX3_figures_1 ++ dktX3_figures_2
def dkwX3_figures_0 : List UInt8 := [3, 54, 5, 28, 54, 6, 21, 6, 158, 0, 104, 27, 2, 159, 0, 99, 42, 180, 0, 99, 42, 180, 0, 92]
abbrev dktX3_figures_0 : List UInt8 := dkwX3_figures_0 ++ dktX3_figures_1
theorem dksX3_figures_0 : cX3_figures.data.toList.drop 0 = dktX3_figures_0 := by decide +kernel
theorem dksX3_figures_1 : cX3_figures.data.toList.drop 24 = dktX3_figures_1 := dk_seg dksX3_figures_0 24 rfl rfl
theorem dksX3_figures_2 : cX3_figures.data.toList.drop 47 = dktX3_figures_2 := dk_seg dksX3_figures_1 23 rfl rfl
theorem dksX3_figures_3 : cX3_figures.data.toList.drop 70 = dktX3_figures_3 := dk_seg dksX3_figures_2 23 rfl rfl
theorem dksX3_figures_4 : cX3_figures.data.toList.drop 94 = dktX3_figures_4 := dk_seg dksX3_figures_3 24 rfl rfl
theorem dksX3_figures_5 : cX3_figures.data.toList.drop 118 = dktX3_figures_5 := dk_seg dksX3_figures_4 24 rfl rfl
theorem dX3_figures_0 : decode cX3_figures 0 = .ok (.iconst 0, 1) := dk_3 (dk_at dksX3_figures_0 0 rfl rfl)
theorem dX3_figures_1 : decode cX3_figures 1 = .ok (.istore 5, 2) := dk_54 5 (dk_at dksX3_figures_0 1 rfl rfl)
theorem dX3_figures_3 : decode cX3_figures 3 = .ok (.iload_n 2, 1) := dk_28 (dk_at dksX3_figures_0 3 rfl rfl)
theorem dX3_figures_4 : decode cX3_figures 4 = .ok (.istore 6, 2) := dk_54 6 (dk_at dksX3_figures_0 4 rfl rfl)
theorem dX3_figures_6 : decode cX3_figures 6 = .ok (.iload 6, 2) := dk_21 6 (dk_at dksX3_figures_0 6 rfl rfl)
theorem dX3_figures_8 : decode cX3_figures 8 = .ok (.ifCond .le 104, 3) := dk_158 0 104 (dk_at dksX3_figures_0 8 rfl rfl)
theorem dX3_figures_11 : decode cX3_figures 11 = .ok (.iload_n 1, 1) := dk_27 (dk_at dksX3_figures_0 11 rfl rfl)
theorem dX3_figures_12 : decode cX3_figures 12 = .ok (.iconst (-1), 1) := dk_2 (dk_at dksX3_figures_0 12 rfl rfl)
theorem dX3_figures_13 : decode cX3_figures 13 = .ok (.if_icmp .eq 99, 3) := dk_159 0 99 (dk_at dksX3_figures_0 13 rfl rfl)
theorem dX3_figures_16 : decode cX3_figures 16 = .ok (.aload_n 0, 1) := dk_42 (dk_at dksX3_figures_0 16 rfl rfl)
theorem dX3_figures_17 : decode cX3_figures 17 = .ok (.getfield 99, 3) := dk_180 0 99 (dk_at dksX3_figures_0 17 rfl rfl)
theorem dX3_figures_20 : decode cX3_figures 20 = .ok (.aload_n 0, 1) := dk_42 (dk_at dksX3_figures_0 20 rfl rfl)
theorem dX3_figures_21 : decode cX3_figures 21 = .ok (.getfield 92, 3) := dk_180 0 92 (dk_at dksX3_figures_0 21 rfl rfl)
theorem dX3_figures_24 : decode cX3_figures 24 = .ok (.if_icmp .ge 18, 3) := dk_162 0 18 (dk_at dksX3_figures_1 0 rfl rfl)
theorem dX3_figures_27 : decode cX3_figures 27 = .ok (.aload_n 0, 1) := dk_42 (dk_at dksX3_figures_1 3 rfl rfl)
theorem dX3_figures_28 : decode cX3_figures 28 = .ok (.getfield 7, 3) := dk_180 0 7 (dk_at dksX3_figures_1 4 rfl rfl)
theorem dX3_figures_31 : decode cX3_figures 31 = .ok (.aload_n 0, 1) := dk_42 (dk_at dksX3_figures_1 7 rfl rfl)
theorem dX3_figures_32 : decode cX3_figures 32 = .ok (.getfield 99, 3) := dk_180 0 99 (dk_at dksX3_figures_1 8 rfl rfl)
theorem dX3_figures_35 : decode cX3_figures 35 = .ok (.iaload, 1) := dk_46 (dk_at dksX3_figures_1 11 rfl rfl)
theorem dX3_figures_36 : decode cX3_figures 36 = .ok (.bipush 48, 2) := dk_16 48 (dk_at dksX3_figures_1 12 rfl rfl)
theorem dX3_figures_38 : decode cX3_figures 38 = .ok (.isub, 1) := dk_100 (dk_at dksX3_figures_1 14 rfl rfl)
theorem dX3_figures_39 : decode cX3_figures 39 = .ok (.goto 4, 3) := dk_167 0 4 (dk_at dksX3_figures_1 15 rfl rfl)
theorem dX3_figures_42 : decode cX3_figures 42 = .ok (.iconst (-1), 1) := dk_2 (dk_at dksX3_figures_1 18 rfl rfl)
theorem dX3_figures_43 : decode cX3_figures 43 = .ok (.istore 7, 2) := dk_54 7 (dk_at dksX3_figures_1 19 rfl rfl)
theorem dX3_figures_45 : decode cX3_figures 45 = .ok (.iload 5, 2) := dk_21 5 (dk_at dksX3_figures_1 21 rfl rfl)
theorem dX3_figures_47 : decode cX3_figures 47 = .ok (.iload 7, 2) := dk_21 7 (dk_at dksX3_figures_2 0 rfl rfl)
theorem dX3_figures_49 : decode cX3_figures 49 = .ok (.iload 6, 2) := dk_21 6 (dk_at dksX3_figures_2 2 rfl rfl)
theorem dX3_figures_51 : decode cX3_figures 51 = .ok (.imul, 1) := dk_104 (dk_at dksX3_figures_2 4 rfl rfl)
theorem dX3_figures_52 : decode cX3_figures 52 = .ok (.iadd, 1) := dk_96 (dk_at dksX3_figures_2 5 rfl rfl)
theorem dX3_figures_53 : decode cX3_figures 53 = .ok (.istore 8, 2) := dk_54 8 (dk_at dksX3_figures_2 6 rfl rfl)
theorem dX3_figures_55 : decode cX3_figures 55 = .ok (.iload 7, 2) := dk_21 7 (dk_at dksX3_figures_2 8 rfl rfl)
theorem dX3_figures_57 : decode cX3_figures 57 = .ok (.i2l, 1) := dk_133 (dk_at dksX3_figures_2 10 rfl rfl)
theorem dX3_figures_58 : decode cX3_figures 58 = .ok (.lconst 0, 1) := dk_9 (dk_at dksX3_figures_2 11 rfl rfl)
theorem dX3_figures_59 : decode cX3_figures 59 = .ok (.ldc2_w 102, 3) := dk_20 0 102 (dk_at dksX3_figures_2 12 rfl rfl)
theorem dX3_figures_62 : decode cX3_figures 62 = .ok (.invokestatic 43, 3) := dk_184 0 43 (dk_at dksX3_figures_2 15 rfl rfl)
theorem dX3_figures_65 : decode cX3_figures 65 = .ok (.ifCond .eq 21, 3) := dk_153 0 21 (dk_at dksX3_figures_2 18 rfl rfl)
theorem dX3_figures_68 : decode cX3_figures 68 = .ok (.iload 8, 2) := dk_21 8 (dk_at dksX3_figures_2 21 rfl rfl)
theorem dX3_figures_70 : decode cX3_figures 70 = .ok (.iload 4, 2) := dk_21 4 (dk_at dksX3_figures_3 0 rfl rfl)
theorem dX3_figures_72 : decode cX3_figures 72 = .ok (.if_icmp .gt 14, 3) := dk_163 0 14 (dk_at dksX3_figures_3 2 rfl rfl)
theorem dX3_figures_75 : decode cX3_figures 75 = .ok (.iload 8, 2) := dk_21 8 (dk_at dksX3_figures_3 5 rfl rfl)
theorem dX3_figures_77 : decode cX3_figures 77 = .ok (.iload 6, 2) := dk_21 6 (dk_at dksX3_figures_3 7 rfl rfl)
theorem dX3_figures_79 : decode cX3_figures 79 = .ok (.iadd, 1) := dk_96 (dk_at dksX3_figures_3 9 rfl rfl)
theorem dX3_figures_80 : decode cX3_figures 80 = .ok (.iconst 1, 1) := dk_4 (dk_at dksX3_figures_3 10 rfl rfl)
theorem dX3_figures_81 : decode cX3_figures 81 = .ok (.isub, 1) := dk_100 (dk_at dksX3_figures_3 11 rfl rfl)
theorem dX3_figures_82 : decode cX3_figures 82 = .ok (.iload_n 3, 1) := dk_29 (dk_at dksX3_figures_3 12 rfl rfl)
theorem dX3_figures_83 : decode cX3_figures 83 = .ok (.if_icmp .ge 5, 3) := dk_162 0 5 (dk_at dksX3_figures_3 13 rfl rfl)
theorem dX3_figures_86 : decode cX3_figures 86 = .ok (.iconst (-1), 1) := dk_2 (dk_at dksX3_figures_3 16 rfl rfl)
theorem dX3_figures_87 : decode cX3_figures 87 = .ok (.ireturn, 1) := dk_172 (dk_at dksX3_figures_3 17 rfl rfl)
theorem dX3_figures_88 : decode cX3_figures 88 = .ok (.iload 8, 2) := dk_21 8 (dk_at dksX3_figures_3 18 rfl rfl)
theorem dX3_figures_90 : decode cX3_figures 90 = .ok (.istore 5, 2) := dk_54 5 (dk_at dksX3_figures_3 20 rfl rfl)
theorem dX3_figures_92 : decode cX3_figures 92 = .ok (.aload_n 0, 1) := dk_42 (dk_at dksX3_figures_3 22 rfl rfl)
theorem dX3_figures_93 : decode cX3_figures 93 = .ok (.dup, 1) := dk_89 (dk_at dksX3_figures_3 23 rfl rfl)
theorem dX3_figures_94 : decode cX3_figures 94 = .ok (.getfield 99, 3) := dk_180 0 99 (dk_at dksX3_figures_4 0 rfl rfl)
theorem dX3_figures_97 : decode cX3_figures 97 = .ok (.iconst 1, 1) := dk_4 (dk_at dksX3_figures_4 3 rfl rfl)
theorem dX3_figures_98 : decode cX3_figures 98 = .ok (.iadd, 1) := dk_96 (dk_at dksX3_figures_4 4 rfl rfl)
theorem dX3_figures_99 : decode cX3_figures 99 = .ok (.putfield 99, 3) := dk_181 0 99 (dk_at dksX3_figures_4 5 rfl rfl)
theorem dX3_figures_102 : decode cX3_figures 102 = .ok (.iload 6, 2) := dk_21 6 (dk_at dksX3_figures_4 8 rfl rfl)
theorem dX3_figures_104 : decode cX3_figures 104 = .ok (.bipush 10, 2) := dk_16 10 (dk_at dksX3_figures_4 10 rfl rfl)
theorem dX3_figures_106 : decode cX3_figures 106 = .ok (.idiv, 1) := dk_108 (dk_at dksX3_figures_4 12 rfl rfl)
theorem dX3_figures_107 : decode cX3_figures 107 = .ok (.istore 6, 2) := dk_54 6 (dk_at dksX3_figures_4 13 rfl rfl)
theorem dX3_figures_109 : decode cX3_figures 109 = .ok (.goto (-103), 3) := dk_167 255 153 (dk_at dksX3_figures_4 15 rfl rfl)
theorem dX3_figures_112 : decode cX3_figures 112 = .ok (.iload_n 1, 1) := dk_27 (dk_at dksX3_figures_4 18 rfl rfl)
theorem dX3_figures_113 : decode cX3_figures 113 = .ok (.iconst (-1), 1) := dk_2 (dk_at dksX3_figures_4 19 rfl rfl)
theorem dX3_figures_114 : decode cX3_figures 114 = .ok (.if_icmp .ne 7, 3) := dk_160 0 7 (dk_at dksX3_figures_4 20 rfl rfl)
theorem dX3_figures_117 : decode cX3_figures 117 = .ok (.iconst (-1), 1) := dk_2 (dk_at dksX3_figures_4 23 rfl rfl)
theorem dX3_figures_118 : decode cX3_figures 118 = .ok (.goto 5, 3) := dk_167 0 5 (dk_at dksX3_figures_5 0 rfl rfl)
theorem dX3_figures_121 : decode cX3_figures 121 = .ok (.iload 5, 2) := dk_21 5 (dk_at dksX3_figures_5 3 rfl rfl)
theorem dX3_figures_123 : decode cX3_figures 123 = .ok (.ireturn, 1) := dk_172 (dk_at dksX3_figures_5 5 rfl rfl)
abbrev cX3_hasRoom : ByteArray := prog_18_method_33_code
def yX3_hasRoom : MethodName := ⟨RX3, "hasRoom", "([I)Z"⟩
def dkwX3_hasRoom_0 : List UInt8 := [42, 3, 46, 16, 12, 162, 0, 7, 4, 167, 0, 4, 3, 172]
abbrev dktX3_hasRoom_0 : List UInt8 := dkwX3_hasRoom_0 ++ []
theorem dksX3_hasRoom_0 : cX3_hasRoom.data.toList.drop 0 = dktX3_hasRoom_0 := by decide +kernel
theorem dX3_hasRoom_0 : decode cX3_hasRoom 0 = .ok (.aload_n 0, 1) := dk_42 (dk_at dksX3_hasRoom_0 0 rfl rfl)
theorem dX3_hasRoom_1 : decode cX3_hasRoom 1 = .ok (.iconst 0, 1) := dk_3 (dk_at dksX3_hasRoom_0 1 rfl rfl)
theorem dX3_hasRoom_2 : decode cX3_hasRoom 2 = .ok (.iaload, 1) := dk_46 (dk_at dksX3_hasRoom_0 2 rfl rfl)
theorem dX3_hasRoom_3 : decode cX3_hasRoom 3 = .ok (.bipush 12, 2) := dk_16 12 (dk_at dksX3_hasRoom_0 3 rfl rfl)
theorem dX3_hasRoom_5 : decode cX3_hasRoom 5 = .ok (.if_icmp .ge 7, 3) := dk_162 0 7 (dk_at dksX3_hasRoom_0 5 rfl rfl)
theorem dX3_hasRoom_8 : decode cX3_hasRoom 8 = .ok (.iconst 1, 1) := dk_4 (dk_at dksX3_hasRoom_0 8 rfl rfl)
theorem dX3_hasRoom_9 : decode cX3_hasRoom 9 = .ok (.goto 4, 3) := dk_167 0 4 (dk_at dksX3_hasRoom_0 9 rfl rfl)
theorem dX3_hasRoom_12 : decode cX3_hasRoom 12 = .ok (.iconst 0, 1) := dk_3 (dk_at dksX3_hasRoom_0 12 rfl rfl)
theorem dX3_hasRoom_13 : decode cX3_hasRoom 13 = .ok (.ireturn, 1) := dk_172 (dk_at dksX3_hasRoom_0 13 rfl rfl)
abbrev cX3_make : ByteArray := prog_18_method_21_code
def yX3_make : MethodName := ⟨RX3, "make", "([IIIII)I"⟩
def dkwX3_make_2 : List UInt8 := [172]
abbrev dktX3_make_2 : List UInt8 := dkwX3_make_2 ++ []
def dkwX3_make_1 : List UInt8 := [5, 96, 29, 79, 42, 21, 5, 6, 96, 21, 4, 79, 42, 3, 92, 46, 4, 96, 79, 42, 3, 46, 4, 100]
abbrev dktX3_make_1 : List UInt8 := dkwX3_make_1 ++ dktX3_make_2
def dkwX3_make_0 : List UInt8 := [6, 7, 42, 3, 46, 104, 96, 54, 5, 42, 21, 5, 27, 79, 42, 21, 5, 4, 96, 28, 79, 42, 21, 5]
abbrev dktX3_make_0 : List UInt8 := dkwX3_make_0 ++ dktX3_make_1
theorem dksX3_make_0 : cX3_make.data.toList.drop 0 = dktX3_make_0 := by decide +kernel
theorem dksX3_make_1 : cX3_make.data.toList.drop 24 = dktX3_make_1 := dk_seg dksX3_make_0 24 rfl rfl
theorem dksX3_make_2 : cX3_make.data.toList.drop 48 = dktX3_make_2 := dk_seg dksX3_make_1 24 rfl rfl
theorem dX3_make_0 : decode cX3_make 0 = .ok (.iconst 3, 1) := dk_6 (dk_at dksX3_make_0 0 rfl rfl)
theorem dX3_make_1 : decode cX3_make 1 = .ok (.iconst 4, 1) := dk_7 (dk_at dksX3_make_0 1 rfl rfl)
theorem dX3_make_2 : decode cX3_make 2 = .ok (.aload_n 0, 1) := dk_42 (dk_at dksX3_make_0 2 rfl rfl)
theorem dX3_make_3 : decode cX3_make 3 = .ok (.iconst 0, 1) := dk_3 (dk_at dksX3_make_0 3 rfl rfl)
theorem dX3_make_4 : decode cX3_make 4 = .ok (.iaload, 1) := dk_46 (dk_at dksX3_make_0 4 rfl rfl)
theorem dX3_make_5 : decode cX3_make 5 = .ok (.imul, 1) := dk_104 (dk_at dksX3_make_0 5 rfl rfl)
theorem dX3_make_6 : decode cX3_make 6 = .ok (.iadd, 1) := dk_96 (dk_at dksX3_make_0 6 rfl rfl)
theorem dX3_make_7 : decode cX3_make 7 = .ok (.istore 5, 2) := dk_54 5 (dk_at dksX3_make_0 7 rfl rfl)
theorem dX3_make_9 : decode cX3_make 9 = .ok (.aload_n 0, 1) := dk_42 (dk_at dksX3_make_0 9 rfl rfl)
theorem dX3_make_10 : decode cX3_make 10 = .ok (.iload 5, 2) := dk_21 5 (dk_at dksX3_make_0 10 rfl rfl)
theorem dX3_make_12 : decode cX3_make 12 = .ok (.iload_n 1, 1) := dk_27 (dk_at dksX3_make_0 12 rfl rfl)
theorem dX3_make_13 : decode cX3_make 13 = .ok (.iastore, 1) := dk_79 (dk_at dksX3_make_0 13 rfl rfl)
theorem dX3_make_14 : decode cX3_make 14 = .ok (.aload_n 0, 1) := dk_42 (dk_at dksX3_make_0 14 rfl rfl)
theorem dX3_make_15 : decode cX3_make 15 = .ok (.iload 5, 2) := dk_21 5 (dk_at dksX3_make_0 15 rfl rfl)
theorem dX3_make_17 : decode cX3_make 17 = .ok (.iconst 1, 1) := dk_4 (dk_at dksX3_make_0 17 rfl rfl)
theorem dX3_make_18 : decode cX3_make 18 = .ok (.iadd, 1) := dk_96 (dk_at dksX3_make_0 18 rfl rfl)
theorem dX3_make_19 : decode cX3_make 19 = .ok (.iload_n 2, 1) := dk_28 (dk_at dksX3_make_0 19 rfl rfl)
theorem dX3_make_20 : decode cX3_make 20 = .ok (.iastore, 1) := dk_79 (dk_at dksX3_make_0 20 rfl rfl)
theorem dX3_make_21 : decode cX3_make 21 = .ok (.aload_n 0, 1) := dk_42 (dk_at dksX3_make_0 21 rfl rfl)
theorem dX3_make_22 : decode cX3_make 22 = .ok (.iload 5, 2) := dk_21 5 (dk_at dksX3_make_0 22 rfl rfl)
theorem dX3_make_24 : decode cX3_make 24 = .ok (.iconst 2, 1) := dk_5 (dk_at dksX3_make_1 0 rfl rfl)
theorem dX3_make_25 : decode cX3_make 25 = .ok (.iadd, 1) := dk_96 (dk_at dksX3_make_1 1 rfl rfl)
theorem dX3_make_26 : decode cX3_make 26 = .ok (.iload_n 3, 1) := dk_29 (dk_at dksX3_make_1 2 rfl rfl)
theorem dX3_make_27 : decode cX3_make 27 = .ok (.iastore, 1) := dk_79 (dk_at dksX3_make_1 3 rfl rfl)
theorem dX3_make_28 : decode cX3_make 28 = .ok (.aload_n 0, 1) := dk_42 (dk_at dksX3_make_1 4 rfl rfl)
theorem dX3_make_29 : decode cX3_make 29 = .ok (.iload 5, 2) := dk_21 5 (dk_at dksX3_make_1 5 rfl rfl)
theorem dX3_make_31 : decode cX3_make 31 = .ok (.iconst 3, 1) := dk_6 (dk_at dksX3_make_1 7 rfl rfl)
theorem dX3_make_32 : decode cX3_make 32 = .ok (.iadd, 1) := dk_96 (dk_at dksX3_make_1 8 rfl rfl)
theorem dX3_make_33 : decode cX3_make 33 = .ok (.iload 4, 2) := dk_21 4 (dk_at dksX3_make_1 9 rfl rfl)
theorem dX3_make_35 : decode cX3_make 35 = .ok (.iastore, 1) := dk_79 (dk_at dksX3_make_1 11 rfl rfl)
theorem dX3_make_36 : decode cX3_make 36 = .ok (.aload_n 0, 1) := dk_42 (dk_at dksX3_make_1 12 rfl rfl)
theorem dX3_make_37 : decode cX3_make 37 = .ok (.iconst 0, 1) := dk_3 (dk_at dksX3_make_1 13 rfl rfl)
theorem dX3_make_38 : decode cX3_make 38 = .ok (.dup2, 1) := dk_92 (dk_at dksX3_make_1 14 rfl rfl)
theorem dX3_make_39 : decode cX3_make 39 = .ok (.iaload, 1) := dk_46 (dk_at dksX3_make_1 15 rfl rfl)
theorem dX3_make_40 : decode cX3_make 40 = .ok (.iconst 1, 1) := dk_4 (dk_at dksX3_make_1 16 rfl rfl)
theorem dX3_make_41 : decode cX3_make 41 = .ok (.iadd, 1) := dk_96 (dk_at dksX3_make_1 17 rfl rfl)
theorem dX3_make_42 : decode cX3_make 42 = .ok (.iastore, 1) := dk_79 (dk_at dksX3_make_1 18 rfl rfl)
theorem dX3_make_43 : decode cX3_make 43 = .ok (.aload_n 0, 1) := dk_42 (dk_at dksX3_make_1 19 rfl rfl)
theorem dX3_make_44 : decode cX3_make 44 = .ok (.iconst 0, 1) := dk_3 (dk_at dksX3_make_1 20 rfl rfl)
theorem dX3_make_45 : decode cX3_make 45 = .ok (.iaload, 1) := dk_46 (dk_at dksX3_make_1 21 rfl rfl)
theorem dX3_make_46 : decode cX3_make 46 = .ok (.iconst 1, 1) := dk_4 (dk_at dksX3_make_1 22 rfl rfl)
theorem dX3_make_47 : decode cX3_make 47 = .ok (.isub, 1) := dk_100 (dk_at dksX3_make_1 23 rfl rfl)
theorem dX3_make_48 : decode cX3_make 48 = .ok (.ireturn, 1) := dk_172 (dk_at dksX3_make_2 0 rfl rfl)
abbrev cX3_done : ByteArray := prog_18_method_32_code
def yX3_done : MethodName := ⟨RX3, "done", "(Z)Z"⟩
def dkwX3_done_0 : List UInt8 := [42, 89, 180, 0, 104, 27, 153, 0, 7, 3, 167, 0, 4, 4, 96, 181, 0, 104, 4, 172]
abbrev dktX3_done_0 : List UInt8 := dkwX3_done_0 ++ []
theorem dksX3_done_0 : cX3_done.data.toList.drop 0 = dktX3_done_0 := by decide +kernel
theorem dX3_done_0 : decode cX3_done 0 = .ok (.aload_n 0, 1) := dk_42 (dk_at dksX3_done_0 0 rfl rfl)
theorem dX3_done_1 : decode cX3_done 1 = .ok (.dup, 1) := dk_89 (dk_at dksX3_done_0 1 rfl rfl)
theorem dX3_done_2 : decode cX3_done 2 = .ok (.getfield 104, 3) := dk_180 0 104 (dk_at dksX3_done_0 2 rfl rfl)
theorem dX3_done_5 : decode cX3_done 5 = .ok (.iload_n 1, 1) := dk_27 (dk_at dksX3_done_0 5 rfl rfl)
theorem dX3_done_6 : decode cX3_done 6 = .ok (.ifCond .eq 7, 3) := dk_153 0 7 (dk_at dksX3_done_0 6 rfl rfl)
theorem dX3_done_9 : decode cX3_done 9 = .ok (.iconst 0, 1) := dk_3 (dk_at dksX3_done_0 9 rfl rfl)
theorem dX3_done_10 : decode cX3_done 10 = .ok (.goto 4, 3) := dk_167 0 4 (dk_at dksX3_done_0 10 rfl rfl)
theorem dX3_done_13 : decode cX3_done 13 = .ok (.iconst 1, 1) := dk_4 (dk_at dksX3_done_0 13 rfl rfl)
theorem dX3_done_14 : decode cX3_done 14 = .ok (.iadd, 1) := dk_96 (dk_at dksX3_done_0 14 rfl rfl)
theorem dX3_done_15 : decode cX3_done 15 = .ok (.putfield 104, 3) := dk_181 0 104 (dk_at dksX3_done_0 15 rfl rfl)
theorem dX3_done_18 : decode cX3_done 18 = .ok (.iconst 1, 1) := dk_4 (dk_at dksX3_done_0 18 rfl rfl)
theorem dX3_done_19 : decode cX3_done 19 = .ok (.ireturn, 1) := dk_172 (dk_at dksX3_done_0 19 rfl rfl)
abbrev cX3_readScaled : ByteArray := prog_18_method_35_code
def yX3_readScaled : MethodName := ⟨RX3, "readScaled", "([I)Z"⟩
def dkwX3_readScaled_3 : List UInt8 := [167, 0, 4, 3, 182, 0, 119, 153, 0, 7, 4, 167, 0, 4, 3, 172]
abbrev dktX3_readScaled_3 : List UInt8 := dkwX3_readScaled_3 ++ []
def dkwX3_readScaled_2 : List UInt8 := [153, 0, 26, 43, 184, 0, 111, 153, 0, 19, 43, 4, 28, 29, 21, 4, 184, 0, 115, 155, 0, 7, 4]
abbrev dktX3_readScaled_2 : List UInt8 := dkwX3_readScaled_2 ++ dktX3_readScaled_3
def dkwX3_readScaled_1 : List UInt8 := [16, 10, 3, 16, 99, 182, 0, 107, 54, 4, 21, 4, 2, 159, 0, 46, 42, 43, 28, 184, 0, 123]
abbrev dktX3_readScaled_1 : List UInt8 := dkwX3_readScaled_1 ++ dktX3_readScaled_2
def dkwX3_readScaled_0 : List UInt8 := [42, 3, 16, 10, 3, 16, 11, 182, 0, 107, 61, 42, 28, 4, 4, 16, 9, 182, 0, 107, 62, 42, 29]
abbrev dktX3_readScaled_0 : List UInt8 := dkwX3_readScaled_0 ++ dktX3_readScaled_1
theorem dksX3_readScaled_0 : cX3_readScaled.data.toList.drop 0 = dktX3_readScaled_0 := by decide +kernel
theorem dksX3_readScaled_1 : cX3_readScaled.data.toList.drop 23 = dktX3_readScaled_1 := dk_seg dksX3_readScaled_0 23 rfl rfl
theorem dksX3_readScaled_2 : cX3_readScaled.data.toList.drop 45 = dktX3_readScaled_2 := dk_seg dksX3_readScaled_1 22 rfl rfl
theorem dksX3_readScaled_3 : cX3_readScaled.data.toList.drop 68 = dktX3_readScaled_3 := dk_seg dksX3_readScaled_2 23 rfl rfl
theorem dX3_readScaled_0 : decode cX3_readScaled 0 = .ok (.aload_n 0, 1) := dk_42 (dk_at dksX3_readScaled_0 0 rfl rfl)
theorem dX3_readScaled_1 : decode cX3_readScaled 1 = .ok (.iconst 0, 1) := dk_3 (dk_at dksX3_readScaled_0 1 rfl rfl)
theorem dX3_readScaled_2 : decode cX3_readScaled 2 = .ok (.bipush 10, 2) := dk_16 10 (dk_at dksX3_readScaled_0 2 rfl rfl)
theorem dX3_readScaled_4 : decode cX3_readScaled 4 = .ok (.iconst 0, 1) := dk_3 (dk_at dksX3_readScaled_0 4 rfl rfl)
theorem dX3_readScaled_5 : decode cX3_readScaled 5 = .ok (.bipush 11, 2) := dk_16 11 (dk_at dksX3_readScaled_0 5 rfl rfl)
theorem dX3_readScaled_7 : decode cX3_readScaled 7 = .ok (.invokevirtual 107, 3) := dk_182 0 107 (dk_at dksX3_readScaled_0 7 rfl rfl)
theorem dX3_readScaled_10 : decode cX3_readScaled 10 = .ok (.istore_n 2, 1) := dk_61 (dk_at dksX3_readScaled_0 10 rfl rfl)
theorem dX3_readScaled_11 : decode cX3_readScaled 11 = .ok (.aload_n 0, 1) := dk_42 (dk_at dksX3_readScaled_0 11 rfl rfl)
theorem dX3_readScaled_12 : decode cX3_readScaled 12 = .ok (.iload_n 2, 1) := dk_28 (dk_at dksX3_readScaled_0 12 rfl rfl)
theorem dX3_readScaled_13 : decode cX3_readScaled 13 = .ok (.iconst 1, 1) := dk_4 (dk_at dksX3_readScaled_0 13 rfl rfl)
theorem dX3_readScaled_14 : decode cX3_readScaled 14 = .ok (.iconst 1, 1) := dk_4 (dk_at dksX3_readScaled_0 14 rfl rfl)
theorem dX3_readScaled_15 : decode cX3_readScaled 15 = .ok (.bipush 9, 2) := dk_16 9 (dk_at dksX3_readScaled_0 15 rfl rfl)
theorem dX3_readScaled_17 : decode cX3_readScaled 17 = .ok (.invokevirtual 107, 3) := dk_182 0 107 (dk_at dksX3_readScaled_0 17 rfl rfl)
theorem dX3_readScaled_20 : decode cX3_readScaled 20 = .ok (.istore_n 3, 1) := dk_62 (dk_at dksX3_readScaled_0 20 rfl rfl)
theorem dX3_readScaled_21 : decode cX3_readScaled 21 = .ok (.aload_n 0, 1) := dk_42 (dk_at dksX3_readScaled_0 21 rfl rfl)
theorem dX3_readScaled_22 : decode cX3_readScaled 22 = .ok (.iload_n 3, 1) := dk_29 (dk_at dksX3_readScaled_0 22 rfl rfl)
theorem dX3_readScaled_23 : decode cX3_readScaled 23 = .ok (.bipush 10, 2) := dk_16 10 (dk_at dksX3_readScaled_1 0 rfl rfl)
theorem dX3_readScaled_25 : decode cX3_readScaled 25 = .ok (.iconst 0, 1) := dk_3 (dk_at dksX3_readScaled_1 2 rfl rfl)
theorem dX3_readScaled_26 : decode cX3_readScaled 26 = .ok (.bipush 99, 2) := dk_16 99 (dk_at dksX3_readScaled_1 3 rfl rfl)
theorem dX3_readScaled_28 : decode cX3_readScaled 28 = .ok (.invokevirtual 107, 3) := dk_182 0 107 (dk_at dksX3_readScaled_1 5 rfl rfl)
theorem dX3_readScaled_31 : decode cX3_readScaled 31 = .ok (.istore 4, 2) := dk_54 4 (dk_at dksX3_readScaled_1 8 rfl rfl)
theorem dX3_readScaled_33 : decode cX3_readScaled 33 = .ok (.iload 4, 2) := dk_21 4 (dk_at dksX3_readScaled_1 10 rfl rfl)
theorem dX3_readScaled_35 : decode cX3_readScaled 35 = .ok (.iconst (-1), 1) := dk_2 (dk_at dksX3_readScaled_1 12 rfl rfl)
theorem dX3_readScaled_36 : decode cX3_readScaled 36 = .ok (.if_icmp .eq 46, 3) := dk_159 0 46 (dk_at dksX3_readScaled_1 13 rfl rfl)
theorem dX3_readScaled_39 : decode cX3_readScaled 39 = .ok (.aload_n 0, 1) := dk_42 (dk_at dksX3_readScaled_1 16 rfl rfl)
theorem dX3_readScaled_40 : decode cX3_readScaled 40 = .ok (.aload_n 1, 1) := dk_43 (dk_at dksX3_readScaled_1 17 rfl rfl)
theorem dX3_readScaled_41 : decode cX3_readScaled 41 = .ok (.iload_n 2, 1) := dk_28 (dk_at dksX3_readScaled_1 18 rfl rfl)
theorem dX3_readScaled_42 : decode cX3_readScaled 42 = .ok (.invokestatic 123, 3) := dk_184 0 123 (dk_at dksX3_readScaled_1 19 rfl rfl)
theorem dX3_readScaled_45 : decode cX3_readScaled 45 = .ok (.ifCond .eq 26, 3) := dk_153 0 26 (dk_at dksX3_readScaled_2 0 rfl rfl)
theorem dX3_readScaled_48 : decode cX3_readScaled 48 = .ok (.aload_n 1, 1) := dk_43 (dk_at dksX3_readScaled_2 3 rfl rfl)
theorem dX3_readScaled_49 : decode cX3_readScaled 49 = .ok (.invokestatic 111, 3) := dk_184 0 111 (dk_at dksX3_readScaled_2 4 rfl rfl)
theorem dX3_readScaled_52 : decode cX3_readScaled 52 = .ok (.ifCond .eq 19, 3) := dk_153 0 19 (dk_at dksX3_readScaled_2 7 rfl rfl)
theorem dX3_readScaled_55 : decode cX3_readScaled 55 = .ok (.aload_n 1, 1) := dk_43 (dk_at dksX3_readScaled_2 10 rfl rfl)
theorem dX3_readScaled_56 : decode cX3_readScaled 56 = .ok (.iconst 1, 1) := dk_4 (dk_at dksX3_readScaled_2 11 rfl rfl)
theorem dX3_readScaled_57 : decode cX3_readScaled 57 = .ok (.iload_n 2, 1) := dk_28 (dk_at dksX3_readScaled_2 12 rfl rfl)
theorem dX3_readScaled_58 : decode cX3_readScaled 58 = .ok (.iload_n 3, 1) := dk_29 (dk_at dksX3_readScaled_2 13 rfl rfl)
theorem dX3_readScaled_59 : decode cX3_readScaled 59 = .ok (.iload 4, 2) := dk_21 4 (dk_at dksX3_readScaled_2 14 rfl rfl)
theorem dX3_readScaled_61 : decode cX3_readScaled 61 = .ok (.invokestatic 115, 3) := dk_184 0 115 (dk_at dksX3_readScaled_2 16 rfl rfl)
theorem dX3_readScaled_64 : decode cX3_readScaled 64 = .ok (.ifCond .lt 7, 3) := dk_155 0 7 (dk_at dksX3_readScaled_2 19 rfl rfl)
theorem dX3_readScaled_67 : decode cX3_readScaled 67 = .ok (.iconst 1, 1) := dk_4 (dk_at dksX3_readScaled_2 22 rfl rfl)
theorem dX3_readScaled_68 : decode cX3_readScaled 68 = .ok (.goto 4, 3) := dk_167 0 4 (dk_at dksX3_readScaled_3 0 rfl rfl)
theorem dX3_readScaled_71 : decode cX3_readScaled 71 = .ok (.iconst 0, 1) := dk_3 (dk_at dksX3_readScaled_3 3 rfl rfl)
theorem dX3_readScaled_72 : decode cX3_readScaled 72 = .ok (.invokevirtual 119, 3) := dk_182 0 119 (dk_at dksX3_readScaled_3 4 rfl rfl)
theorem dX3_readScaled_75 : decode cX3_readScaled 75 = .ok (.ifCond .eq 7, 3) := dk_153 0 7 (dk_at dksX3_readScaled_3 7 rfl rfl)
theorem dX3_readScaled_78 : decode cX3_readScaled 78 = .ok (.iconst 1, 1) := dk_4 (dk_at dksX3_readScaled_3 10 rfl rfl)
theorem dX3_readScaled_79 : decode cX3_readScaled 79 = .ok (.goto 4, 3) := dk_167 0 4 (dk_at dksX3_readScaled_3 11 rfl rfl)
theorem dX3_readScaled_82 : decode cX3_readScaled 82 = .ok (.iconst 0, 1) := dk_3 (dk_at dksX3_readScaled_3 14 rfl rfl)
theorem dX3_readScaled_83 : decode cX3_readScaled 83 = .ok (.ireturn, 1) := dk_172 (dk_at dksX3_readScaled_3 15 rfl rfl)
abbrev cX3_isList : ByteArray := prog_18_method_8_code
def yX3_isList : MethodName := ⟨RX3, "isList", "([II)Z"⟩
def dkwX3_isList_0 : List UInt8 := [27, 133, 9, 42, 3, 46, 4, 100, 133, 184, 0, 43, 172]
abbrev dktX3_isList_0 : List UInt8 := dkwX3_isList_0 ++ []
theorem dksX3_isList_0 : cX3_isList.data.toList.drop 0 = dktX3_isList_0 := by decide +kernel
theorem dX3_isList_0 : decode cX3_isList 0 = .ok (.iload_n 1, 1) := dk_27 (dk_at dksX3_isList_0 0 rfl rfl)
theorem dX3_isList_1 : decode cX3_isList 1 = .ok (.i2l, 1) := dk_133 (dk_at dksX3_isList_0 1 rfl rfl)
theorem dX3_isList_2 : decode cX3_isList 2 = .ok (.lconst 0, 1) := dk_9 (dk_at dksX3_isList_0 2 rfl rfl)
theorem dX3_isList_3 : decode cX3_isList 3 = .ok (.aload_n 0, 1) := dk_42 (dk_at dksX3_isList_0 3 rfl rfl)
theorem dX3_isList_4 : decode cX3_isList 4 = .ok (.iconst 0, 1) := dk_3 (dk_at dksX3_isList_0 4 rfl rfl)
theorem dX3_isList_5 : decode cX3_isList 5 = .ok (.iaload, 1) := dk_46 (dk_at dksX3_isList_0 5 rfl rfl)
theorem dX3_isList_6 : decode cX3_isList 6 = .ok (.iconst 1, 1) := dk_4 (dk_at dksX3_isList_0 6 rfl rfl)
theorem dX3_isList_7 : decode cX3_isList 7 = .ok (.isub, 1) := dk_100 (dk_at dksX3_isList_0 7 rfl rfl)
theorem dX3_isList_8 : decode cX3_isList 8 = .ok (.i2l, 1) := dk_133 (dk_at dksX3_isList_0 8 rfl rfl)
theorem dX3_isList_9 : decode cX3_isList 9 = .ok (.invokestatic 43, 3) := dk_184 0 43 (dk_at dksX3_isList_0 9 rfl rfl)
theorem dX3_isList_12 : decode cX3_isList 12 = .ok (.ireturn, 1) := dk_172 (dk_at dksX3_isList_0 12 rfl rfl)
abbrev cX3_readJoined : ByteArray := prog_18_method_36_code
def yX3_readJoined : MethodName := ⟨RX3, "readJoined", "([II)Z"⟩
def dkwX3_readJoined_3 : List UInt8 := [182, 0, 119, 153, 0, 7, 4, 167, 0, 4, 3, 172]
abbrev dktX3_readJoined_3 : List UInt8 := dkwX3_readJoined_3 ++ []
def dkwX3_readJoined_2 : List UInt8 := [43, 184, 0, 111, 153, 0, 19, 43, 28, 29, 21, 4, 3, 184, 0, 115, 155, 0, 7, 4, 167, 0, 4, 3]
abbrev dktX3_readJoined_2 : List UInt8 := dkwX3_readJoined_2 ++ dktX3_readJoined_3
def dkwX3_readJoined_1 : List UInt8 := [21, 4, 2, 159, 0, 55, 42, 43, 29, 184, 0, 123, 153, 0, 35, 43, 21, 4, 184, 0, 123, 153, 0, 26]
abbrev dktX3_readJoined_1 : List UInt8 := dkwX3_readJoined_1 ++ dktX3_readJoined_2
def dkwX3_readJoined_0 : List UInt8 := [42, 3, 16, 10, 3, 16, 11, 182, 0, 107, 62, 42, 29, 16, 10, 3, 16, 11, 182, 0, 107, 54, 4]
abbrev dktX3_readJoined_0 : List UInt8 := dkwX3_readJoined_0 ++ dktX3_readJoined_1
theorem dksX3_readJoined_0 : cX3_readJoined.data.toList.drop 0 = dktX3_readJoined_0 := by decide +kernel
theorem dksX3_readJoined_1 : cX3_readJoined.data.toList.drop 23 = dktX3_readJoined_1 := dk_seg dksX3_readJoined_0 23 rfl rfl
theorem dksX3_readJoined_2 : cX3_readJoined.data.toList.drop 47 = dktX3_readJoined_2 := dk_seg dksX3_readJoined_1 24 rfl rfl
theorem dksX3_readJoined_3 : cX3_readJoined.data.toList.drop 71 = dktX3_readJoined_3 := dk_seg dksX3_readJoined_2 24 rfl rfl
theorem dX3_readJoined_0 : decode cX3_readJoined 0 = .ok (.aload_n 0, 1) := dk_42 (dk_at dksX3_readJoined_0 0 rfl rfl)
theorem dX3_readJoined_1 : decode cX3_readJoined 1 = .ok (.iconst 0, 1) := dk_3 (dk_at dksX3_readJoined_0 1 rfl rfl)
theorem dX3_readJoined_2 : decode cX3_readJoined 2 = .ok (.bipush 10, 2) := dk_16 10 (dk_at dksX3_readJoined_0 2 rfl rfl)
theorem dX3_readJoined_4 : decode cX3_readJoined 4 = .ok (.iconst 0, 1) := dk_3 (dk_at dksX3_readJoined_0 4 rfl rfl)
theorem dX3_readJoined_5 : decode cX3_readJoined 5 = .ok (.bipush 11, 2) := dk_16 11 (dk_at dksX3_readJoined_0 5 rfl rfl)
theorem dX3_readJoined_7 : decode cX3_readJoined 7 = .ok (.invokevirtual 107, 3) := dk_182 0 107 (dk_at dksX3_readJoined_0 7 rfl rfl)
theorem dX3_readJoined_10 : decode cX3_readJoined 10 = .ok (.istore_n 3, 1) := dk_62 (dk_at dksX3_readJoined_0 10 rfl rfl)
theorem dX3_readJoined_11 : decode cX3_readJoined 11 = .ok (.aload_n 0, 1) := dk_42 (dk_at dksX3_readJoined_0 11 rfl rfl)
theorem dX3_readJoined_12 : decode cX3_readJoined 12 = .ok (.iload_n 3, 1) := dk_29 (dk_at dksX3_readJoined_0 12 rfl rfl)
theorem dX3_readJoined_13 : decode cX3_readJoined 13 = .ok (.bipush 10, 2) := dk_16 10 (dk_at dksX3_readJoined_0 13 rfl rfl)
theorem dX3_readJoined_15 : decode cX3_readJoined 15 = .ok (.iconst 0, 1) := dk_3 (dk_at dksX3_readJoined_0 15 rfl rfl)
theorem dX3_readJoined_16 : decode cX3_readJoined 16 = .ok (.bipush 11, 2) := dk_16 11 (dk_at dksX3_readJoined_0 16 rfl rfl)
theorem dX3_readJoined_18 : decode cX3_readJoined 18 = .ok (.invokevirtual 107, 3) := dk_182 0 107 (dk_at dksX3_readJoined_0 18 rfl rfl)
theorem dX3_readJoined_21 : decode cX3_readJoined 21 = .ok (.istore 4, 2) := dk_54 4 (dk_at dksX3_readJoined_0 21 rfl rfl)
theorem dX3_readJoined_23 : decode cX3_readJoined 23 = .ok (.iload 4, 2) := dk_21 4 (dk_at dksX3_readJoined_1 0 rfl rfl)
theorem dX3_readJoined_25 : decode cX3_readJoined 25 = .ok (.iconst (-1), 1) := dk_2 (dk_at dksX3_readJoined_1 2 rfl rfl)
theorem dX3_readJoined_26 : decode cX3_readJoined 26 = .ok (.if_icmp .eq 55, 3) := dk_159 0 55 (dk_at dksX3_readJoined_1 3 rfl rfl)
theorem dX3_readJoined_29 : decode cX3_readJoined 29 = .ok (.aload_n 0, 1) := dk_42 (dk_at dksX3_readJoined_1 6 rfl rfl)
theorem dX3_readJoined_30 : decode cX3_readJoined 30 = .ok (.aload_n 1, 1) := dk_43 (dk_at dksX3_readJoined_1 7 rfl rfl)
theorem dX3_readJoined_31 : decode cX3_readJoined 31 = .ok (.iload_n 3, 1) := dk_29 (dk_at dksX3_readJoined_1 8 rfl rfl)
theorem dX3_readJoined_32 : decode cX3_readJoined 32 = .ok (.invokestatic 123, 3) := dk_184 0 123 (dk_at dksX3_readJoined_1 9 rfl rfl)
theorem dX3_readJoined_35 : decode cX3_readJoined 35 = .ok (.ifCond .eq 35, 3) := dk_153 0 35 (dk_at dksX3_readJoined_1 12 rfl rfl)
theorem dX3_readJoined_38 : decode cX3_readJoined 38 = .ok (.aload_n 1, 1) := dk_43 (dk_at dksX3_readJoined_1 15 rfl rfl)
theorem dX3_readJoined_39 : decode cX3_readJoined 39 = .ok (.iload 4, 2) := dk_21 4 (dk_at dksX3_readJoined_1 16 rfl rfl)
theorem dX3_readJoined_41 : decode cX3_readJoined 41 = .ok (.invokestatic 123, 3) := dk_184 0 123 (dk_at dksX3_readJoined_1 18 rfl rfl)
theorem dX3_readJoined_44 : decode cX3_readJoined 44 = .ok (.ifCond .eq 26, 3) := dk_153 0 26 (dk_at dksX3_readJoined_1 21 rfl rfl)
theorem dX3_readJoined_47 : decode cX3_readJoined 47 = .ok (.aload_n 1, 1) := dk_43 (dk_at dksX3_readJoined_2 0 rfl rfl)
theorem dX3_readJoined_48 : decode cX3_readJoined 48 = .ok (.invokestatic 111, 3) := dk_184 0 111 (dk_at dksX3_readJoined_2 1 rfl rfl)
theorem dX3_readJoined_51 : decode cX3_readJoined 51 = .ok (.ifCond .eq 19, 3) := dk_153 0 19 (dk_at dksX3_readJoined_2 4 rfl rfl)
theorem dX3_readJoined_54 : decode cX3_readJoined 54 = .ok (.aload_n 1, 1) := dk_43 (dk_at dksX3_readJoined_2 7 rfl rfl)
theorem dX3_readJoined_55 : decode cX3_readJoined 55 = .ok (.iload_n 2, 1) := dk_28 (dk_at dksX3_readJoined_2 8 rfl rfl)
theorem dX3_readJoined_56 : decode cX3_readJoined 56 = .ok (.iload_n 3, 1) := dk_29 (dk_at dksX3_readJoined_2 9 rfl rfl)
theorem dX3_readJoined_57 : decode cX3_readJoined 57 = .ok (.iload 4, 2) := dk_21 4 (dk_at dksX3_readJoined_2 10 rfl rfl)
theorem dX3_readJoined_59 : decode cX3_readJoined 59 = .ok (.iconst 0, 1) := dk_3 (dk_at dksX3_readJoined_2 12 rfl rfl)
theorem dX3_readJoined_60 : decode cX3_readJoined 60 = .ok (.invokestatic 115, 3) := dk_184 0 115 (dk_at dksX3_readJoined_2 13 rfl rfl)
theorem dX3_readJoined_63 : decode cX3_readJoined 63 = .ok (.ifCond .lt 7, 3) := dk_155 0 7 (dk_at dksX3_readJoined_2 16 rfl rfl)
theorem dX3_readJoined_66 : decode cX3_readJoined 66 = .ok (.iconst 1, 1) := dk_4 (dk_at dksX3_readJoined_2 19 rfl rfl)
theorem dX3_readJoined_67 : decode cX3_readJoined 67 = .ok (.goto 4, 3) := dk_167 0 4 (dk_at dksX3_readJoined_2 20 rfl rfl)
theorem dX3_readJoined_70 : decode cX3_readJoined 70 = .ok (.iconst 0, 1) := dk_3 (dk_at dksX3_readJoined_2 23 rfl rfl)
theorem dX3_readJoined_71 : decode cX3_readJoined 71 = .ok (.invokevirtual 119, 3) := dk_182 0 119 (dk_at dksX3_readJoined_3 0 rfl rfl)
theorem dX3_readJoined_74 : decode cX3_readJoined 74 = .ok (.ifCond .eq 7, 3) := dk_153 0 7 (dk_at dksX3_readJoined_3 3 rfl rfl)
theorem dX3_readJoined_77 : decode cX3_readJoined 77 = .ok (.iconst 1, 1) := dk_4 (dk_at dksX3_readJoined_3 6 rfl rfl)
theorem dX3_readJoined_78 : decode cX3_readJoined 78 = .ok (.goto 4, 3) := dk_167 0 4 (dk_at dksX3_readJoined_3 7 rfl rfl)
theorem dX3_readJoined_81 : decode cX3_readJoined 81 = .ok (.iconst 0, 1) := dk_3 (dk_at dksX3_readJoined_3 10 rfl rfl)
theorem dX3_readJoined_82 : decode cX3_readJoined 82 = .ok (.ireturn, 1) := dk_172 (dk_at dksX3_readJoined_3 11 rfl rfl)
abbrev cX3_readOne : ByteArray := prog_18_method_37_code
def yX3_readOne : MethodName := ⟨RX3, "readOne", "([II)Z"⟩
def dkwX3_readOne_3 : List UInt8 := [182, 0, 119, 153, 0, 7, 4, 167, 0, 4, 3, 172]
abbrev dktX3_readOne_3 : List UInt8 := dkwX3_readOne_3 ++ []
def dkwX3_readOne_2 : List UInt8 := [43, 184, 0, 111, 153, 0, 19, 43, 28, 29, 21, 4, 3, 184, 0, 115, 155, 0, 7, 4, 167, 0, 4, 3]
abbrev dktX3_readOne_2 : List UInt8 := dkwX3_readOne_2 ++ dktX3_readOne_3
def dkwX3_readOne_1 : List UInt8 := [182, 0, 107, 167, 0, 4, 29, 54, 4, 21, 4, 2, 159, 0, 46, 42, 43, 29, 184, 0, 123, 153, 0, 26]
abbrev dktX3_readOne_1 : List UInt8 := dkwX3_readOne_1 ++ dktX3_readOne_2
def dkwX3_readOne_0 : List UInt8 := [42, 3, 16, 10, 3, 16, 11, 182, 0, 107, 62, 28, 16, 6, 160, 0, 15, 42, 29, 4, 4, 16, 9]
abbrev dktX3_readOne_0 : List UInt8 := dkwX3_readOne_0 ++ dktX3_readOne_1
theorem dksX3_readOne_0 : cX3_readOne.data.toList.drop 0 = dktX3_readOne_0 := by decide +kernel
theorem dksX3_readOne_1 : cX3_readOne.data.toList.drop 23 = dktX3_readOne_1 := dk_seg dksX3_readOne_0 23 rfl rfl
theorem dksX3_readOne_2 : cX3_readOne.data.toList.drop 47 = dktX3_readOne_2 := dk_seg dksX3_readOne_1 24 rfl rfl
theorem dksX3_readOne_3 : cX3_readOne.data.toList.drop 71 = dktX3_readOne_3 := dk_seg dksX3_readOne_2 24 rfl rfl
theorem dX3_readOne_0 : decode cX3_readOne 0 = .ok (.aload_n 0, 1) := dk_42 (dk_at dksX3_readOne_0 0 rfl rfl)
theorem dX3_readOne_1 : decode cX3_readOne 1 = .ok (.iconst 0, 1) := dk_3 (dk_at dksX3_readOne_0 1 rfl rfl)
theorem dX3_readOne_2 : decode cX3_readOne 2 = .ok (.bipush 10, 2) := dk_16 10 (dk_at dksX3_readOne_0 2 rfl rfl)
theorem dX3_readOne_4 : decode cX3_readOne 4 = .ok (.iconst 0, 1) := dk_3 (dk_at dksX3_readOne_0 4 rfl rfl)
theorem dX3_readOne_5 : decode cX3_readOne 5 = .ok (.bipush 11, 2) := dk_16 11 (dk_at dksX3_readOne_0 5 rfl rfl)
theorem dX3_readOne_7 : decode cX3_readOne 7 = .ok (.invokevirtual 107, 3) := dk_182 0 107 (dk_at dksX3_readOne_0 7 rfl rfl)
theorem dX3_readOne_10 : decode cX3_readOne 10 = .ok (.istore_n 3, 1) := dk_62 (dk_at dksX3_readOne_0 10 rfl rfl)
theorem dX3_readOne_11 : decode cX3_readOne 11 = .ok (.iload_n 2, 1) := dk_28 (dk_at dksX3_readOne_0 11 rfl rfl)
theorem dX3_readOne_12 : decode cX3_readOne 12 = .ok (.bipush 6, 2) := dk_16 6 (dk_at dksX3_readOne_0 12 rfl rfl)
theorem dX3_readOne_14 : decode cX3_readOne 14 = .ok (.if_icmp .ne 15, 3) := dk_160 0 15 (dk_at dksX3_readOne_0 14 rfl rfl)
theorem dX3_readOne_17 : decode cX3_readOne 17 = .ok (.aload_n 0, 1) := dk_42 (dk_at dksX3_readOne_0 17 rfl rfl)
theorem dX3_readOne_18 : decode cX3_readOne 18 = .ok (.iload_n 3, 1) := dk_29 (dk_at dksX3_readOne_0 18 rfl rfl)
theorem dX3_readOne_19 : decode cX3_readOne 19 = .ok (.iconst 1, 1) := dk_4 (dk_at dksX3_readOne_0 19 rfl rfl)
theorem dX3_readOne_20 : decode cX3_readOne 20 = .ok (.iconst 1, 1) := dk_4 (dk_at dksX3_readOne_0 20 rfl rfl)
theorem dX3_readOne_21 : decode cX3_readOne 21 = .ok (.bipush 9, 2) := dk_16 9 (dk_at dksX3_readOne_0 21 rfl rfl)
theorem dX3_readOne_23 : decode cX3_readOne 23 = .ok (.invokevirtual 107, 3) := dk_182 0 107 (dk_at dksX3_readOne_1 0 rfl rfl)
theorem dX3_readOne_26 : decode cX3_readOne 26 = .ok (.goto 4, 3) := dk_167 0 4 (dk_at dksX3_readOne_1 3 rfl rfl)
theorem dX3_readOne_29 : decode cX3_readOne 29 = .ok (.iload_n 3, 1) := dk_29 (dk_at dksX3_readOne_1 6 rfl rfl)
theorem dX3_readOne_30 : decode cX3_readOne 30 = .ok (.istore 4, 2) := dk_54 4 (dk_at dksX3_readOne_1 7 rfl rfl)
theorem dX3_readOne_32 : decode cX3_readOne 32 = .ok (.iload 4, 2) := dk_21 4 (dk_at dksX3_readOne_1 9 rfl rfl)
theorem dX3_readOne_34 : decode cX3_readOne 34 = .ok (.iconst (-1), 1) := dk_2 (dk_at dksX3_readOne_1 11 rfl rfl)
theorem dX3_readOne_35 : decode cX3_readOne 35 = .ok (.if_icmp .eq 46, 3) := dk_159 0 46 (dk_at dksX3_readOne_1 12 rfl rfl)
theorem dX3_readOne_38 : decode cX3_readOne 38 = .ok (.aload_n 0, 1) := dk_42 (dk_at dksX3_readOne_1 15 rfl rfl)
theorem dX3_readOne_39 : decode cX3_readOne 39 = .ok (.aload_n 1, 1) := dk_43 (dk_at dksX3_readOne_1 16 rfl rfl)
theorem dX3_readOne_40 : decode cX3_readOne 40 = .ok (.iload_n 3, 1) := dk_29 (dk_at dksX3_readOne_1 17 rfl rfl)
theorem dX3_readOne_41 : decode cX3_readOne 41 = .ok (.invokestatic 123, 3) := dk_184 0 123 (dk_at dksX3_readOne_1 18 rfl rfl)
theorem dX3_readOne_44 : decode cX3_readOne 44 = .ok (.ifCond .eq 26, 3) := dk_153 0 26 (dk_at dksX3_readOne_1 21 rfl rfl)
theorem dX3_readOne_47 : decode cX3_readOne 47 = .ok (.aload_n 1, 1) := dk_43 (dk_at dksX3_readOne_2 0 rfl rfl)
theorem dX3_readOne_48 : decode cX3_readOne 48 = .ok (.invokestatic 111, 3) := dk_184 0 111 (dk_at dksX3_readOne_2 1 rfl rfl)
theorem dX3_readOne_51 : decode cX3_readOne 51 = .ok (.ifCond .eq 19, 3) := dk_153 0 19 (dk_at dksX3_readOne_2 4 rfl rfl)
theorem dX3_readOne_54 : decode cX3_readOne 54 = .ok (.aload_n 1, 1) := dk_43 (dk_at dksX3_readOne_2 7 rfl rfl)
theorem dX3_readOne_55 : decode cX3_readOne 55 = .ok (.iload_n 2, 1) := dk_28 (dk_at dksX3_readOne_2 8 rfl rfl)
theorem dX3_readOne_56 : decode cX3_readOne 56 = .ok (.iload_n 3, 1) := dk_29 (dk_at dksX3_readOne_2 9 rfl rfl)
theorem dX3_readOne_57 : decode cX3_readOne 57 = .ok (.iload 4, 2) := dk_21 4 (dk_at dksX3_readOne_2 10 rfl rfl)
theorem dX3_readOne_59 : decode cX3_readOne 59 = .ok (.iconst 0, 1) := dk_3 (dk_at dksX3_readOne_2 12 rfl rfl)
theorem dX3_readOne_60 : decode cX3_readOne 60 = .ok (.invokestatic 115, 3) := dk_184 0 115 (dk_at dksX3_readOne_2 13 rfl rfl)
theorem dX3_readOne_63 : decode cX3_readOne 63 = .ok (.ifCond .lt 7, 3) := dk_155 0 7 (dk_at dksX3_readOne_2 16 rfl rfl)
theorem dX3_readOne_66 : decode cX3_readOne 66 = .ok (.iconst 1, 1) := dk_4 (dk_at dksX3_readOne_2 19 rfl rfl)
theorem dX3_readOne_67 : decode cX3_readOne 67 = .ok (.goto 4, 3) := dk_167 0 4 (dk_at dksX3_readOne_2 20 rfl rfl)
theorem dX3_readOne_70 : decode cX3_readOne 70 = .ok (.iconst 0, 1) := dk_3 (dk_at dksX3_readOne_2 23 rfl rfl)
theorem dX3_readOne_71 : decode cX3_readOne 71 = .ok (.invokevirtual 119, 3) := dk_182 0 119 (dk_at dksX3_readOne_3 0 rfl rfl)
theorem dX3_readOne_74 : decode cX3_readOne 74 = .ok (.ifCond .eq 7, 3) := dk_153 0 7 (dk_at dksX3_readOne_3 3 rfl rfl)
theorem dX3_readOne_77 : decode cX3_readOne 77 = .ok (.iconst 1, 1) := dk_4 (dk_at dksX3_readOne_3 6 rfl rfl)
theorem dX3_readOne_78 : decode cX3_readOne 78 = .ok (.goto 4, 3) := dk_167 0 4 (dk_at dksX3_readOne_3 7 rfl rfl)
theorem dX3_readOne_81 : decode cX3_readOne 81 = .ok (.iconst 0, 1) := dk_3 (dk_at dksX3_readOne_3 10 rfl rfl)
theorem dX3_readOne_82 : decode cX3_readOne 82 = .ok (.ireturn, 1) := dk_172 (dk_at dksX3_readOne_3 11 rfl rfl)
abbrev cX3_begin : ByteArray := prog_18_method_24_code
def yX3_begin : MethodName := ⟨RX3, "begin", "([II)I"⟩
def dkwX3_begin_1 : List UInt8 := [42, 4, 92, 46, 4, 96, 79, 42, 4, 46, 4, 100, 172]
abbrev dktX3_begin_1 : List UInt8 := dkwX3_begin_1 ++ []
def dkwX3_begin_0 : List UInt8 := [42, 16, 51, 5, 42, 4, 46, 104, 96, 27, 79, 42, 16, 51, 5, 42, 4, 46, 104, 96, 4, 96, 3, 79]
abbrev dktX3_begin_0 : List UInt8 := dkwX3_begin_0 ++ dktX3_begin_1
theorem dksX3_begin_0 : cX3_begin.data.toList.drop 0 = dktX3_begin_0 := by decide +kernel
theorem dksX3_begin_1 : cX3_begin.data.toList.drop 24 = dktX3_begin_1 := dk_seg dksX3_begin_0 24 rfl rfl
theorem dX3_begin_0 : decode cX3_begin 0 = .ok (.aload_n 0, 1) := dk_42 (dk_at dksX3_begin_0 0 rfl rfl)
theorem dX3_begin_1 : decode cX3_begin 1 = .ok (.bipush 51, 2) := dk_16 51 (dk_at dksX3_begin_0 1 rfl rfl)
theorem dX3_begin_3 : decode cX3_begin 3 = .ok (.iconst 2, 1) := dk_5 (dk_at dksX3_begin_0 3 rfl rfl)
theorem dX3_begin_4 : decode cX3_begin 4 = .ok (.aload_n 0, 1) := dk_42 (dk_at dksX3_begin_0 4 rfl rfl)
theorem dX3_begin_5 : decode cX3_begin 5 = .ok (.iconst 1, 1) := dk_4 (dk_at dksX3_begin_0 5 rfl rfl)
theorem dX3_begin_6 : decode cX3_begin 6 = .ok (.iaload, 1) := dk_46 (dk_at dksX3_begin_0 6 rfl rfl)
theorem dX3_begin_7 : decode cX3_begin 7 = .ok (.imul, 1) := dk_104 (dk_at dksX3_begin_0 7 rfl rfl)
theorem dX3_begin_8 : decode cX3_begin 8 = .ok (.iadd, 1) := dk_96 (dk_at dksX3_begin_0 8 rfl rfl)
theorem dX3_begin_9 : decode cX3_begin 9 = .ok (.iload_n 1, 1) := dk_27 (dk_at dksX3_begin_0 9 rfl rfl)
theorem dX3_begin_10 : decode cX3_begin 10 = .ok (.iastore, 1) := dk_79 (dk_at dksX3_begin_0 10 rfl rfl)
theorem dX3_begin_11 : decode cX3_begin 11 = .ok (.aload_n 0, 1) := dk_42 (dk_at dksX3_begin_0 11 rfl rfl)
theorem dX3_begin_12 : decode cX3_begin 12 = .ok (.bipush 51, 2) := dk_16 51 (dk_at dksX3_begin_0 12 rfl rfl)
theorem dX3_begin_14 : decode cX3_begin 14 = .ok (.iconst 2, 1) := dk_5 (dk_at dksX3_begin_0 14 rfl rfl)
theorem dX3_begin_15 : decode cX3_begin 15 = .ok (.aload_n 0, 1) := dk_42 (dk_at dksX3_begin_0 15 rfl rfl)
theorem dX3_begin_16 : decode cX3_begin 16 = .ok (.iconst 1, 1) := dk_4 (dk_at dksX3_begin_0 16 rfl rfl)
theorem dX3_begin_17 : decode cX3_begin 17 = .ok (.iaload, 1) := dk_46 (dk_at dksX3_begin_0 17 rfl rfl)
theorem dX3_begin_18 : decode cX3_begin 18 = .ok (.imul, 1) := dk_104 (dk_at dksX3_begin_0 18 rfl rfl)
theorem dX3_begin_19 : decode cX3_begin 19 = .ok (.iadd, 1) := dk_96 (dk_at dksX3_begin_0 19 rfl rfl)
theorem dX3_begin_20 : decode cX3_begin 20 = .ok (.iconst 1, 1) := dk_4 (dk_at dksX3_begin_0 20 rfl rfl)
theorem dX3_begin_21 : decode cX3_begin 21 = .ok (.iadd, 1) := dk_96 (dk_at dksX3_begin_0 21 rfl rfl)
theorem dX3_begin_22 : decode cX3_begin 22 = .ok (.iconst 0, 1) := dk_3 (dk_at dksX3_begin_0 22 rfl rfl)
theorem dX3_begin_23 : decode cX3_begin 23 = .ok (.iastore, 1) := dk_79 (dk_at dksX3_begin_0 23 rfl rfl)
theorem dX3_begin_24 : decode cX3_begin 24 = .ok (.aload_n 0, 1) := dk_42 (dk_at dksX3_begin_1 0 rfl rfl)
theorem dX3_begin_25 : decode cX3_begin 25 = .ok (.iconst 1, 1) := dk_4 (dk_at dksX3_begin_1 1 rfl rfl)
theorem dX3_begin_26 : decode cX3_begin 26 = .ok (.dup2, 1) := dk_92 (dk_at dksX3_begin_1 2 rfl rfl)
theorem dX3_begin_27 : decode cX3_begin 27 = .ok (.iaload, 1) := dk_46 (dk_at dksX3_begin_1 3 rfl rfl)
theorem dX3_begin_28 : decode cX3_begin 28 = .ok (.iconst 1, 1) := dk_4 (dk_at dksX3_begin_1 4 rfl rfl)
theorem dX3_begin_29 : decode cX3_begin 29 = .ok (.iadd, 1) := dk_96 (dk_at dksX3_begin_1 5 rfl rfl)
theorem dX3_begin_30 : decode cX3_begin 30 = .ok (.iastore, 1) := dk_79 (dk_at dksX3_begin_1 6 rfl rfl)
theorem dX3_begin_31 : decode cX3_begin 31 = .ok (.aload_n 0, 1) := dk_42 (dk_at dksX3_begin_1 7 rfl rfl)
theorem dX3_begin_32 : decode cX3_begin 32 = .ok (.iconst 1, 1) := dk_4 (dk_at dksX3_begin_1 8 rfl rfl)
theorem dX3_begin_33 : decode cX3_begin 33 = .ok (.iaload, 1) := dk_46 (dk_at dksX3_begin_1 9 rfl rfl)
theorem dX3_begin_34 : decode cX3_begin 34 = .ok (.iconst 1, 1) := dk_4 (dk_at dksX3_begin_1 10 rfl rfl)
theorem dX3_begin_35 : decode cX3_begin 35 = .ok (.isub, 1) := dk_100 (dk_at dksX3_begin_1 11 rfl rfl)
theorem dX3_begin_36 : decode cX3_begin 36 = .ok (.ireturn, 1) := dk_172 (dk_at dksX3_begin_1 12 rfl rfl)
abbrev cX3_readReader : ByteArray := prog_18_method_38_code
def yX3_readReader : MethodName := ⟨RX3, "readReader", "([II)Z"⟩
def dkwX3_readReader_8 : List UInt8 := [172]
abbrev dktX3_readReader_8 : List UInt8 := dkwX3_readReader_8 ++ []
def dkwX3_readReader_7 : List UInt8 := [43, 29, 184, 0, 130, 153, 0, 15, 43, 29, 184, 0, 142, 155, 0, 7, 4, 167, 0, 4, 3, 182, 0, 119]
abbrev dktX3_readReader_7 : List UInt8 := dkwX3_readReader_7 ++ dktX3_readReader_8
def dkwX3_readReader_6 : List UInt8 := [184, 0, 130, 153, 0, 15, 43, 29, 184, 0, 139, 155, 0, 7, 4, 167, 0, 4, 3, 182, 0, 119, 172, 42]
abbrev dktX3_readReader_6 : List UInt8 := dkwX3_readReader_6 ++ dktX3_readReader_7
def dkwX3_readReader_5 : List UInt8 := [42, 43, 29, 21, 4, 182, 0, 136, 155, 0, 7, 4, 167, 0, 4, 3, 182, 0, 119, 172, 42, 43, 29]
abbrev dktX3_readReader_5 : List UInt8 := dkwX3_readReader_5 ++ dktX3_readReader_6
def dkwX3_readReader_4 : List UInt8 := [182, 0, 133, 155, 0, 7, 4, 167, 0, 4, 3, 182, 0, 119, 172, 42, 43, 29, 184, 0, 130, 153, 0, 18]
abbrev dktX3_readReader_4 : List UInt8 := dkwX3_readReader_4 ++ dktX3_readReader_5
def dkwX3_readReader_3 : List UInt8 := [42, 43, 29, 184, 0, 130, 153, 0, 26, 42, 43, 29, 182, 0, 84, 2, 159, 0, 16, 42, 43, 29]
abbrev dktX3_readReader_3 : List UInt8 := dkwX3_readReader_3 ++ dktX3_readReader_4
def dkwX3_readReader_2 : List UInt8 := [171, 0, 0, 0, 0, 0, 127, 0, 0, 0, 3, 0, 0, 0, 107, 0, 0, 0, 72, 0, 0, 0, 110, 0, 0, 0, 35, 0, 0, 0, 122, 0, 0, 0, 101]
abbrev dktX3_readReader_2 : List UInt8 := dkwX3_readReader_2 ++ dktX3_readReader_3
def dkwX3_readReader_1 : List UInt8 := [182, 0, 107, 167, 0, 4, 29, 54, 4, 21, 4, 2, 160, 0, 5, 3, 172, 42, 43, 182, 0, 127, 28]
abbrev dktX3_readReader_1 : List UInt8 := dkwX3_readReader_1 ++ dktX3_readReader_2
def dkwX3_readReader_0 : List UInt8 := [42, 3, 4, 3, 6, 182, 0, 107, 62, 28, 16, 107, 160, 0, 16, 42, 29, 16, 10, 4, 16, 99]
abbrev dktX3_readReader_0 : List UInt8 := dkwX3_readReader_0 ++ dktX3_readReader_1
theorem dksX3_readReader_0 : cX3_readReader.data.toList.drop 0 = dktX3_readReader_0 := by decide +kernel
theorem dksX3_readReader_1 : cX3_readReader.data.toList.drop 22 = dktX3_readReader_1 := dk_seg dksX3_readReader_0 22 rfl rfl
theorem dksX3_readReader_2 : cX3_readReader.data.toList.drop 45 = dktX3_readReader_2 := dk_seg dksX3_readReader_1 23 rfl rfl
theorem dksX3_readReader_3 : cX3_readReader.data.toList.drop 80 = dktX3_readReader_3 := dk_seg dksX3_readReader_2 35 rfl rfl
theorem dksX3_readReader_4 : cX3_readReader.data.toList.drop 102 = dktX3_readReader_4 := dk_seg dksX3_readReader_3 22 rfl rfl
theorem dksX3_readReader_5 : cX3_readReader.data.toList.drop 126 = dktX3_readReader_5 := dk_seg dksX3_readReader_4 24 rfl rfl
theorem dksX3_readReader_6 : cX3_readReader.data.toList.drop 149 = dktX3_readReader_6 := dk_seg dksX3_readReader_5 23 rfl rfl
theorem dksX3_readReader_7 : cX3_readReader.data.toList.drop 173 = dktX3_readReader_7 := dk_seg dksX3_readReader_6 24 rfl rfl
theorem dksX3_readReader_8 : cX3_readReader.data.toList.drop 197 = dktX3_readReader_8 := dk_seg dksX3_readReader_7 24 rfl rfl
theorem dX3_readReader_0 : decode cX3_readReader 0 = .ok (.aload_n 0, 1) := dk_42 (dk_at dksX3_readReader_0 0 rfl rfl)
theorem dX3_readReader_1 : decode cX3_readReader 1 = .ok (.iconst 0, 1) := dk_3 (dk_at dksX3_readReader_0 1 rfl rfl)
theorem dX3_readReader_2 : decode cX3_readReader 2 = .ok (.iconst 1, 1) := dk_4 (dk_at dksX3_readReader_0 2 rfl rfl)
theorem dX3_readReader_3 : decode cX3_readReader 3 = .ok (.iconst 0, 1) := dk_3 (dk_at dksX3_readReader_0 3 rfl rfl)
theorem dX3_readReader_4 : decode cX3_readReader 4 = .ok (.iconst 3, 1) := dk_6 (dk_at dksX3_readReader_0 4 rfl rfl)
theorem dX3_readReader_5 : decode cX3_readReader 5 = .ok (.invokevirtual 107, 3) := dk_182 0 107 (dk_at dksX3_readReader_0 5 rfl rfl)
theorem dX3_readReader_8 : decode cX3_readReader 8 = .ok (.istore_n 3, 1) := dk_62 (dk_at dksX3_readReader_0 8 rfl rfl)
theorem dX3_readReader_9 : decode cX3_readReader 9 = .ok (.iload_n 2, 1) := dk_28 (dk_at dksX3_readReader_0 9 rfl rfl)
theorem dX3_readReader_10 : decode cX3_readReader 10 = .ok (.bipush 107, 2) := dk_16 107 (dk_at dksX3_readReader_0 10 rfl rfl)
theorem dX3_readReader_12 : decode cX3_readReader 12 = .ok (.if_icmp .ne 16, 3) := dk_160 0 16 (dk_at dksX3_readReader_0 12 rfl rfl)
theorem dX3_readReader_15 : decode cX3_readReader 15 = .ok (.aload_n 0, 1) := dk_42 (dk_at dksX3_readReader_0 15 rfl rfl)
theorem dX3_readReader_16 : decode cX3_readReader 16 = .ok (.iload_n 3, 1) := dk_29 (dk_at dksX3_readReader_0 16 rfl rfl)
theorem dX3_readReader_17 : decode cX3_readReader 17 = .ok (.bipush 10, 2) := dk_16 10 (dk_at dksX3_readReader_0 17 rfl rfl)
theorem dX3_readReader_19 : decode cX3_readReader 19 = .ok (.iconst 1, 1) := dk_4 (dk_at dksX3_readReader_0 19 rfl rfl)
theorem dX3_readReader_20 : decode cX3_readReader 20 = .ok (.bipush 99, 2) := dk_16 99 (dk_at dksX3_readReader_0 20 rfl rfl)
theorem dX3_readReader_22 : decode cX3_readReader 22 = .ok (.invokevirtual 107, 3) := dk_182 0 107 (dk_at dksX3_readReader_1 0 rfl rfl)
theorem dX3_readReader_25 : decode cX3_readReader 25 = .ok (.goto 4, 3) := dk_167 0 4 (dk_at dksX3_readReader_1 3 rfl rfl)
theorem dX3_readReader_28 : decode cX3_readReader 28 = .ok (.iload_n 3, 1) := dk_29 (dk_at dksX3_readReader_1 6 rfl rfl)
theorem dX3_readReader_29 : decode cX3_readReader 29 = .ok (.istore 4, 2) := dk_54 4 (dk_at dksX3_readReader_1 7 rfl rfl)
theorem dX3_readReader_31 : decode cX3_readReader 31 = .ok (.iload 4, 2) := dk_21 4 (dk_at dksX3_readReader_1 9 rfl rfl)
theorem dX3_readReader_33 : decode cX3_readReader 33 = .ok (.iconst (-1), 1) := dk_2 (dk_at dksX3_readReader_1 11 rfl rfl)
theorem dX3_readReader_34 : decode cX3_readReader 34 = .ok (.if_icmp .ne 5, 3) := dk_160 0 5 (dk_at dksX3_readReader_1 12 rfl rfl)
theorem dX3_readReader_37 : decode cX3_readReader 37 = .ok (.iconst 0, 1) := dk_3 (dk_at dksX3_readReader_1 15 rfl rfl)
theorem dX3_readReader_38 : decode cX3_readReader 38 = .ok (.ireturn, 1) := dk_172 (dk_at dksX3_readReader_1 16 rfl rfl)
theorem dX3_readReader_39 : decode cX3_readReader 39 = .ok (.aload_n 0, 1) := dk_42 (dk_at dksX3_readReader_1 17 rfl rfl)
theorem dX3_readReader_40 : decode cX3_readReader 40 = .ok (.aload_n 1, 1) := dk_43 (dk_at dksX3_readReader_1 18 rfl rfl)
theorem dX3_readReader_41 : decode cX3_readReader 41 = .ok (.invokevirtual 127, 3) := dk_182 0 127 (dk_at dksX3_readReader_1 19 rfl rfl)
theorem dX3_readReader_44 : decode cX3_readReader 44 = .ok (.iload_n 2, 1) := dk_28 (dk_at dksX3_readReader_1 22 rfl rfl)
theorem dX3_readReader_45 : decode cX3_readReader 45 = .ok (.lookupswitch 127 #[(107, 72), (110, 35), (122, 101)], 35) := by decide +kernel
theorem dX3_readReader_80 : decode cX3_readReader 80 = .ok (.aload_n 0, 1) := dk_42 (dk_at dksX3_readReader_3 0 rfl rfl)
theorem dX3_readReader_81 : decode cX3_readReader 81 = .ok (.aload_n 1, 1) := dk_43 (dk_at dksX3_readReader_3 1 rfl rfl)
theorem dX3_readReader_82 : decode cX3_readReader 82 = .ok (.iload_n 3, 1) := dk_29 (dk_at dksX3_readReader_3 2 rfl rfl)
theorem dX3_readReader_83 : decode cX3_readReader 83 = .ok (.invokestatic 130, 3) := dk_184 0 130 (dk_at dksX3_readReader_3 3 rfl rfl)
theorem dX3_readReader_86 : decode cX3_readReader 86 = .ok (.ifCond .eq 26, 3) := dk_153 0 26 (dk_at dksX3_readReader_3 6 rfl rfl)
theorem dX3_readReader_89 : decode cX3_readReader 89 = .ok (.aload_n 0, 1) := dk_42 (dk_at dksX3_readReader_3 9 rfl rfl)
theorem dX3_readReader_90 : decode cX3_readReader 90 = .ok (.aload_n 1, 1) := dk_43 (dk_at dksX3_readReader_3 10 rfl rfl)
theorem dX3_readReader_91 : decode cX3_readReader 91 = .ok (.iload_n 3, 1) := dk_29 (dk_at dksX3_readReader_3 11 rfl rfl)
theorem dX3_readReader_92 : decode cX3_readReader 92 = .ok (.invokevirtual 84, 3) := dk_182 0 84 (dk_at dksX3_readReader_3 12 rfl rfl)
theorem dX3_readReader_95 : decode cX3_readReader 95 = .ok (.iconst (-1), 1) := dk_2 (dk_at dksX3_readReader_3 15 rfl rfl)
theorem dX3_readReader_96 : decode cX3_readReader 96 = .ok (.if_icmp .eq 16, 3) := dk_159 0 16 (dk_at dksX3_readReader_3 16 rfl rfl)
theorem dX3_readReader_99 : decode cX3_readReader 99 = .ok (.aload_n 0, 1) := dk_42 (dk_at dksX3_readReader_3 19 rfl rfl)
theorem dX3_readReader_100 : decode cX3_readReader 100 = .ok (.aload_n 1, 1) := dk_43 (dk_at dksX3_readReader_3 20 rfl rfl)
theorem dX3_readReader_101 : decode cX3_readReader 101 = .ok (.iload_n 3, 1) := dk_29 (dk_at dksX3_readReader_3 21 rfl rfl)
theorem dX3_readReader_102 : decode cX3_readReader 102 = .ok (.invokevirtual 133, 3) := dk_182 0 133 (dk_at dksX3_readReader_4 0 rfl rfl)
theorem dX3_readReader_105 : decode cX3_readReader 105 = .ok (.ifCond .lt 7, 3) := dk_155 0 7 (dk_at dksX3_readReader_4 3 rfl rfl)
theorem dX3_readReader_108 : decode cX3_readReader 108 = .ok (.iconst 1, 1) := dk_4 (dk_at dksX3_readReader_4 6 rfl rfl)
theorem dX3_readReader_109 : decode cX3_readReader 109 = .ok (.goto 4, 3) := dk_167 0 4 (dk_at dksX3_readReader_4 7 rfl rfl)
theorem dX3_readReader_112 : decode cX3_readReader 112 = .ok (.iconst 0, 1) := dk_3 (dk_at dksX3_readReader_4 10 rfl rfl)
theorem dX3_readReader_113 : decode cX3_readReader 113 = .ok (.invokevirtual 119, 3) := dk_182 0 119 (dk_at dksX3_readReader_4 11 rfl rfl)
theorem dX3_readReader_116 : decode cX3_readReader 116 = .ok (.ireturn, 1) := dk_172 (dk_at dksX3_readReader_4 14 rfl rfl)
theorem dX3_readReader_117 : decode cX3_readReader 117 = .ok (.aload_n 0, 1) := dk_42 (dk_at dksX3_readReader_4 15 rfl rfl)
theorem dX3_readReader_118 : decode cX3_readReader 118 = .ok (.aload_n 1, 1) := dk_43 (dk_at dksX3_readReader_4 16 rfl rfl)
theorem dX3_readReader_119 : decode cX3_readReader 119 = .ok (.iload_n 3, 1) := dk_29 (dk_at dksX3_readReader_4 17 rfl rfl)
theorem dX3_readReader_120 : decode cX3_readReader 120 = .ok (.invokestatic 130, 3) := dk_184 0 130 (dk_at dksX3_readReader_4 18 rfl rfl)
theorem dX3_readReader_123 : decode cX3_readReader 123 = .ok (.ifCond .eq 18, 3) := dk_153 0 18 (dk_at dksX3_readReader_4 21 rfl rfl)
theorem dX3_readReader_126 : decode cX3_readReader 126 = .ok (.aload_n 0, 1) := dk_42 (dk_at dksX3_readReader_5 0 rfl rfl)
theorem dX3_readReader_127 : decode cX3_readReader 127 = .ok (.aload_n 1, 1) := dk_43 (dk_at dksX3_readReader_5 1 rfl rfl)
theorem dX3_readReader_128 : decode cX3_readReader 128 = .ok (.iload_n 3, 1) := dk_29 (dk_at dksX3_readReader_5 2 rfl rfl)
theorem dX3_readReader_129 : decode cX3_readReader 129 = .ok (.iload 4, 2) := dk_21 4 (dk_at dksX3_readReader_5 3 rfl rfl)
theorem dX3_readReader_131 : decode cX3_readReader 131 = .ok (.invokevirtual 136, 3) := dk_182 0 136 (dk_at dksX3_readReader_5 5 rfl rfl)
theorem dX3_readReader_134 : decode cX3_readReader 134 = .ok (.ifCond .lt 7, 3) := dk_155 0 7 (dk_at dksX3_readReader_5 8 rfl rfl)
theorem dX3_readReader_137 : decode cX3_readReader 137 = .ok (.iconst 1, 1) := dk_4 (dk_at dksX3_readReader_5 11 rfl rfl)
theorem dX3_readReader_138 : decode cX3_readReader 138 = .ok (.goto 4, 3) := dk_167 0 4 (dk_at dksX3_readReader_5 12 rfl rfl)
theorem dX3_readReader_141 : decode cX3_readReader 141 = .ok (.iconst 0, 1) := dk_3 (dk_at dksX3_readReader_5 15 rfl rfl)
theorem dX3_readReader_142 : decode cX3_readReader 142 = .ok (.invokevirtual 119, 3) := dk_182 0 119 (dk_at dksX3_readReader_5 16 rfl rfl)
theorem dX3_readReader_145 : decode cX3_readReader 145 = .ok (.ireturn, 1) := dk_172 (dk_at dksX3_readReader_5 19 rfl rfl)
theorem dX3_readReader_146 : decode cX3_readReader 146 = .ok (.aload_n 0, 1) := dk_42 (dk_at dksX3_readReader_5 20 rfl rfl)
theorem dX3_readReader_147 : decode cX3_readReader 147 = .ok (.aload_n 1, 1) := dk_43 (dk_at dksX3_readReader_5 21 rfl rfl)
theorem dX3_readReader_148 : decode cX3_readReader 148 = .ok (.iload_n 3, 1) := dk_29 (dk_at dksX3_readReader_5 22 rfl rfl)
theorem dX3_readReader_149 : decode cX3_readReader 149 = .ok (.invokestatic 130, 3) := dk_184 0 130 (dk_at dksX3_readReader_6 0 rfl rfl)
theorem dX3_readReader_152 : decode cX3_readReader 152 = .ok (.ifCond .eq 15, 3) := dk_153 0 15 (dk_at dksX3_readReader_6 3 rfl rfl)
theorem dX3_readReader_155 : decode cX3_readReader 155 = .ok (.aload_n 1, 1) := dk_43 (dk_at dksX3_readReader_6 6 rfl rfl)
theorem dX3_readReader_156 : decode cX3_readReader 156 = .ok (.iload_n 3, 1) := dk_29 (dk_at dksX3_readReader_6 7 rfl rfl)
theorem dX3_readReader_157 : decode cX3_readReader 157 = .ok (.invokestatic 139, 3) := dk_184 0 139 (dk_at dksX3_readReader_6 8 rfl rfl)
theorem dX3_readReader_160 : decode cX3_readReader 160 = .ok (.ifCond .lt 7, 3) := dk_155 0 7 (dk_at dksX3_readReader_6 11 rfl rfl)
theorem dX3_readReader_163 : decode cX3_readReader 163 = .ok (.iconst 1, 1) := dk_4 (dk_at dksX3_readReader_6 14 rfl rfl)
theorem dX3_readReader_164 : decode cX3_readReader 164 = .ok (.goto 4, 3) := dk_167 0 4 (dk_at dksX3_readReader_6 15 rfl rfl)
theorem dX3_readReader_167 : decode cX3_readReader 167 = .ok (.iconst 0, 1) := dk_3 (dk_at dksX3_readReader_6 18 rfl rfl)
theorem dX3_readReader_168 : decode cX3_readReader 168 = .ok (.invokevirtual 119, 3) := dk_182 0 119 (dk_at dksX3_readReader_6 19 rfl rfl)
theorem dX3_readReader_171 : decode cX3_readReader 171 = .ok (.ireturn, 1) := dk_172 (dk_at dksX3_readReader_6 22 rfl rfl)
theorem dX3_readReader_172 : decode cX3_readReader 172 = .ok (.aload_n 0, 1) := dk_42 (dk_at dksX3_readReader_6 23 rfl rfl)
theorem dX3_readReader_173 : decode cX3_readReader 173 = .ok (.aload_n 1, 1) := dk_43 (dk_at dksX3_readReader_7 0 rfl rfl)
theorem dX3_readReader_174 : decode cX3_readReader 174 = .ok (.iload_n 3, 1) := dk_29 (dk_at dksX3_readReader_7 1 rfl rfl)
theorem dX3_readReader_175 : decode cX3_readReader 175 = .ok (.invokestatic 130, 3) := dk_184 0 130 (dk_at dksX3_readReader_7 2 rfl rfl)
theorem dX3_readReader_178 : decode cX3_readReader 178 = .ok (.ifCond .eq 15, 3) := dk_153 0 15 (dk_at dksX3_readReader_7 5 rfl rfl)
theorem dX3_readReader_181 : decode cX3_readReader 181 = .ok (.aload_n 1, 1) := dk_43 (dk_at dksX3_readReader_7 8 rfl rfl)
theorem dX3_readReader_182 : decode cX3_readReader 182 = .ok (.iload_n 3, 1) := dk_29 (dk_at dksX3_readReader_7 9 rfl rfl)
theorem dX3_readReader_183 : decode cX3_readReader 183 = .ok (.invokestatic 142, 3) := dk_184 0 142 (dk_at dksX3_readReader_7 10 rfl rfl)
theorem dX3_readReader_186 : decode cX3_readReader 186 = .ok (.ifCond .lt 7, 3) := dk_155 0 7 (dk_at dksX3_readReader_7 13 rfl rfl)
theorem dX3_readReader_189 : decode cX3_readReader 189 = .ok (.iconst 1, 1) := dk_4 (dk_at dksX3_readReader_7 16 rfl rfl)
theorem dX3_readReader_190 : decode cX3_readReader 190 = .ok (.goto 4, 3) := dk_167 0 4 (dk_at dksX3_readReader_7 17 rfl rfl)
theorem dX3_readReader_193 : decode cX3_readReader 193 = .ok (.iconst 0, 1) := dk_3 (dk_at dksX3_readReader_7 20 rfl rfl)
theorem dX3_readReader_194 : decode cX3_readReader 194 = .ok (.invokevirtual 119, 3) := dk_182 0 119 (dk_at dksX3_readReader_7 21 rfl rfl)
theorem dX3_readReader_197 : decode cX3_readReader 197 = .ok (.ireturn, 1) := dk_172 (dk_at dksX3_readReader_8 0 rfl rfl)
abbrev cX3_finds : ByteArray := prog_18_method_17_code
def yX3_finds : MethodName := ⟨RX3, "finds", "([I)V"⟩
def dkwX3_finds_5 : List UInt8 := [28, 182, 0, 70, 132, 2, 1, 167, 255, 137, 177]
abbrev dktX3_finds_5 : List UInt8 := dkwX3_finds_5 ++ []
def dkwX3_finds_4 : List UInt8 := [20, 0, 64, 184, 0, 43, 153, 0, 12, 42, 43, 28, 182, 0, 66, 167, 0, 13, 29, 153, 0, 9, 42, 43]
abbrev dktX3_finds_4 : List UInt8 := dkwX3_finds_4 ++ dktX3_finds_5
def dkwX3_finds_3 : List UInt8 := [167, 0, 4, 3, 84, 132, 3, 1, 167, 255, 192, 43, 28, 3, 184, 0, 47, 62, 29, 133, 20, 0, 62]
abbrev dktX3_finds_3 : List UInt8 := dkwX3_finds_3 ++ dktX3_finds_4
def dkwX3_finds_2 : List UInt8 := [161, 0, 25, 29, 43, 28, 4, 184, 0, 47, 100, 43, 28, 5, 184, 0, 47, 112, 154, 0, 7, 4]
abbrev dktX3_finds_2 : List UInt8 := dkwX3_finds_2 ++ dktX3_finds_3
def dkwX3_finds_1 : List UInt8 := [17, 3, 232, 28, 104, 29, 96, 43, 28, 3, 184, 0, 47, 154, 0, 35, 29, 43, 28, 4, 184, 0, 47]
abbrev dktX3_finds_1 : List UInt8 := dkwX3_finds_1 ++ dktX3_finds_2
def dkwX3_finds_0 : List UInt8 := [3, 61, 28, 43, 3, 46, 162, 0, 118, 3, 62, 29, 17, 3, 231, 163, 0, 63, 42, 180, 0, 29]
abbrev dktX3_finds_0 : List UInt8 := dkwX3_finds_0 ++ dktX3_finds_1
theorem dksX3_finds_0 : cX3_finds.data.toList.drop 0 = dktX3_finds_0 := by decide +kernel
theorem dksX3_finds_1 : cX3_finds.data.toList.drop 22 = dktX3_finds_1 := dk_seg dksX3_finds_0 22 rfl rfl
theorem dksX3_finds_2 : cX3_finds.data.toList.drop 45 = dktX3_finds_2 := dk_seg dksX3_finds_1 23 rfl rfl
theorem dksX3_finds_3 : cX3_finds.data.toList.drop 67 = dktX3_finds_3 := dk_seg dksX3_finds_2 22 rfl rfl
theorem dksX3_finds_4 : cX3_finds.data.toList.drop 90 = dktX3_finds_4 := dk_seg dksX3_finds_3 23 rfl rfl
theorem dksX3_finds_5 : cX3_finds.data.toList.drop 114 = dktX3_finds_5 := dk_seg dksX3_finds_4 24 rfl rfl
theorem dX3_finds_0 : decode cX3_finds 0 = .ok (.iconst 0, 1) := dk_3 (dk_at dksX3_finds_0 0 rfl rfl)
theorem dX3_finds_1 : decode cX3_finds 1 = .ok (.istore_n 2, 1) := dk_61 (dk_at dksX3_finds_0 1 rfl rfl)
theorem dX3_finds_2 : decode cX3_finds 2 = .ok (.iload_n 2, 1) := dk_28 (dk_at dksX3_finds_0 2 rfl rfl)
theorem dX3_finds_3 : decode cX3_finds 3 = .ok (.aload_n 1, 1) := dk_43 (dk_at dksX3_finds_0 3 rfl rfl)
theorem dX3_finds_4 : decode cX3_finds 4 = .ok (.iconst 0, 1) := dk_3 (dk_at dksX3_finds_0 4 rfl rfl)
theorem dX3_finds_5 : decode cX3_finds 5 = .ok (.iaload, 1) := dk_46 (dk_at dksX3_finds_0 5 rfl rfl)
theorem dX3_finds_6 : decode cX3_finds 6 = .ok (.if_icmp .ge 118, 3) := dk_162 0 118 (dk_at dksX3_finds_0 6 rfl rfl)
theorem dX3_finds_9 : decode cX3_finds 9 = .ok (.iconst 0, 1) := dk_3 (dk_at dksX3_finds_0 9 rfl rfl)
theorem dX3_finds_10 : decode cX3_finds 10 = .ok (.istore_n 3, 1) := dk_62 (dk_at dksX3_finds_0 10 rfl rfl)
theorem dX3_finds_11 : decode cX3_finds 11 = .ok (.iload_n 3, 1) := dk_29 (dk_at dksX3_finds_0 11 rfl rfl)
theorem dX3_finds_12 : decode cX3_finds 12 = .ok (.sipush 999, 3) := dk_17 3 231 (dk_at dksX3_finds_0 12 rfl rfl)
theorem dX3_finds_15 : decode cX3_finds 15 = .ok (.if_icmp .gt 63, 3) := dk_163 0 63 (dk_at dksX3_finds_0 15 rfl rfl)
theorem dX3_finds_18 : decode cX3_finds 18 = .ok (.aload_n 0, 1) := dk_42 (dk_at dksX3_finds_0 18 rfl rfl)
theorem dX3_finds_19 : decode cX3_finds 19 = .ok (.getfield 29, 3) := dk_180 0 29 (dk_at dksX3_finds_0 19 rfl rfl)
theorem dX3_finds_22 : decode cX3_finds 22 = .ok (.sipush 1000, 3) := dk_17 3 232 (dk_at dksX3_finds_1 0 rfl rfl)
theorem dX3_finds_25 : decode cX3_finds 25 = .ok (.iload_n 2, 1) := dk_28 (dk_at dksX3_finds_1 3 rfl rfl)
theorem dX3_finds_26 : decode cX3_finds 26 = .ok (.imul, 1) := dk_104 (dk_at dksX3_finds_1 4 rfl rfl)
theorem dX3_finds_27 : decode cX3_finds 27 = .ok (.iload_n 3, 1) := dk_29 (dk_at dksX3_finds_1 5 rfl rfl)
theorem dX3_finds_28 : decode cX3_finds 28 = .ok (.iadd, 1) := dk_96 (dk_at dksX3_finds_1 6 rfl rfl)
theorem dX3_finds_29 : decode cX3_finds 29 = .ok (.aload_n 1, 1) := dk_43 (dk_at dksX3_finds_1 7 rfl rfl)
theorem dX3_finds_30 : decode cX3_finds 30 = .ok (.iload_n 2, 1) := dk_28 (dk_at dksX3_finds_1 8 rfl rfl)
theorem dX3_finds_31 : decode cX3_finds 31 = .ok (.iconst 0, 1) := dk_3 (dk_at dksX3_finds_1 9 rfl rfl)
theorem dX3_finds_32 : decode cX3_finds 32 = .ok (.invokestatic 47, 3) := dk_184 0 47 (dk_at dksX3_finds_1 10 rfl rfl)
theorem dX3_finds_35 : decode cX3_finds 35 = .ok (.ifCond .ne 35, 3) := dk_154 0 35 (dk_at dksX3_finds_1 13 rfl rfl)
theorem dX3_finds_38 : decode cX3_finds 38 = .ok (.iload_n 3, 1) := dk_29 (dk_at dksX3_finds_1 16 rfl rfl)
theorem dX3_finds_39 : decode cX3_finds 39 = .ok (.aload_n 1, 1) := dk_43 (dk_at dksX3_finds_1 17 rfl rfl)
theorem dX3_finds_40 : decode cX3_finds 40 = .ok (.iload_n 2, 1) := dk_28 (dk_at dksX3_finds_1 18 rfl rfl)
theorem dX3_finds_41 : decode cX3_finds 41 = .ok (.iconst 1, 1) := dk_4 (dk_at dksX3_finds_1 19 rfl rfl)
theorem dX3_finds_42 : decode cX3_finds 42 = .ok (.invokestatic 47, 3) := dk_184 0 47 (dk_at dksX3_finds_1 20 rfl rfl)
theorem dX3_finds_45 : decode cX3_finds 45 = .ok (.if_icmp .lt 25, 3) := dk_161 0 25 (dk_at dksX3_finds_2 0 rfl rfl)
theorem dX3_finds_48 : decode cX3_finds 48 = .ok (.iload_n 3, 1) := dk_29 (dk_at dksX3_finds_2 3 rfl rfl)
theorem dX3_finds_49 : decode cX3_finds 49 = .ok (.aload_n 1, 1) := dk_43 (dk_at dksX3_finds_2 4 rfl rfl)
theorem dX3_finds_50 : decode cX3_finds 50 = .ok (.iload_n 2, 1) := dk_28 (dk_at dksX3_finds_2 5 rfl rfl)
theorem dX3_finds_51 : decode cX3_finds 51 = .ok (.iconst 1, 1) := dk_4 (dk_at dksX3_finds_2 6 rfl rfl)
theorem dX3_finds_52 : decode cX3_finds 52 = .ok (.invokestatic 47, 3) := dk_184 0 47 (dk_at dksX3_finds_2 7 rfl rfl)
theorem dX3_finds_55 : decode cX3_finds 55 = .ok (.isub, 1) := dk_100 (dk_at dksX3_finds_2 10 rfl rfl)
theorem dX3_finds_56 : decode cX3_finds 56 = .ok (.aload_n 1, 1) := dk_43 (dk_at dksX3_finds_2 11 rfl rfl)
theorem dX3_finds_57 : decode cX3_finds 57 = .ok (.iload_n 2, 1) := dk_28 (dk_at dksX3_finds_2 12 rfl rfl)
theorem dX3_finds_58 : decode cX3_finds 58 = .ok (.iconst 2, 1) := dk_5 (dk_at dksX3_finds_2 13 rfl rfl)
theorem dX3_finds_59 : decode cX3_finds 59 = .ok (.invokestatic 47, 3) := dk_184 0 47 (dk_at dksX3_finds_2 14 rfl rfl)
theorem dX3_finds_62 : decode cX3_finds 62 = .ok (.irem, 1) := dk_112 (dk_at dksX3_finds_2 17 rfl rfl)
theorem dX3_finds_63 : decode cX3_finds 63 = .ok (.ifCond .ne 7, 3) := dk_154 0 7 (dk_at dksX3_finds_2 18 rfl rfl)
theorem dX3_finds_66 : decode cX3_finds 66 = .ok (.iconst 1, 1) := dk_4 (dk_at dksX3_finds_2 21 rfl rfl)
theorem dX3_finds_67 : decode cX3_finds 67 = .ok (.goto 4, 3) := dk_167 0 4 (dk_at dksX3_finds_3 0 rfl rfl)
theorem dX3_finds_70 : decode cX3_finds 70 = .ok (.iconst 0, 1) := dk_3 (dk_at dksX3_finds_3 3 rfl rfl)
theorem dX3_finds_71 : decode cX3_finds 71 = .ok (.bastore, 1) := dk_84 (dk_at dksX3_finds_3 4 rfl rfl)
theorem dX3_finds_72 : decode cX3_finds 72 = .ok (.iinc 3 1, 3) := dk_132 3 1 (dk_at dksX3_finds_3 5 rfl rfl)
theorem dX3_finds_75 : decode cX3_finds 75 = .ok (.goto (-64), 3) := dk_167 255 192 (dk_at dksX3_finds_3 8 rfl rfl)
theorem dX3_finds_78 : decode cX3_finds 78 = .ok (.aload_n 1, 1) := dk_43 (dk_at dksX3_finds_3 11 rfl rfl)
theorem dX3_finds_79 : decode cX3_finds 79 = .ok (.iload_n 2, 1) := dk_28 (dk_at dksX3_finds_3 12 rfl rfl)
theorem dX3_finds_80 : decode cX3_finds 80 = .ok (.iconst 0, 1) := dk_3 (dk_at dksX3_finds_3 13 rfl rfl)
theorem dX3_finds_81 : decode cX3_finds 81 = .ok (.invokestatic 47, 3) := dk_184 0 47 (dk_at dksX3_finds_3 14 rfl rfl)
theorem dX3_finds_84 : decode cX3_finds 84 = .ok (.istore_n 3, 1) := dk_62 (dk_at dksX3_finds_3 17 rfl rfl)
theorem dX3_finds_85 : decode cX3_finds 85 = .ok (.iload_n 3, 1) := dk_29 (dk_at dksX3_finds_3 18 rfl rfl)
theorem dX3_finds_86 : decode cX3_finds 86 = .ok (.i2l, 1) := dk_133 (dk_at dksX3_finds_3 19 rfl rfl)
theorem dX3_finds_87 : decode cX3_finds 87 = .ok (.ldc2_w 62, 3) := dk_20 0 62 (dk_at dksX3_finds_3 20 rfl rfl)
theorem dX3_finds_90 : decode cX3_finds 90 = .ok (.ldc2_w 64, 3) := dk_20 0 64 (dk_at dksX3_finds_4 0 rfl rfl)
theorem dX3_finds_93 : decode cX3_finds 93 = .ok (.invokestatic 43, 3) := dk_184 0 43 (dk_at dksX3_finds_4 3 rfl rfl)
theorem dX3_finds_96 : decode cX3_finds 96 = .ok (.ifCond .eq 12, 3) := dk_153 0 12 (dk_at dksX3_finds_4 6 rfl rfl)
theorem dX3_finds_99 : decode cX3_finds 99 = .ok (.aload_n 0, 1) := dk_42 (dk_at dksX3_finds_4 9 rfl rfl)
theorem dX3_finds_100 : decode cX3_finds 100 = .ok (.aload_n 1, 1) := dk_43 (dk_at dksX3_finds_4 10 rfl rfl)
theorem dX3_finds_101 : decode cX3_finds 101 = .ok (.iload_n 2, 1) := dk_28 (dk_at dksX3_finds_4 11 rfl rfl)
theorem dX3_finds_102 : decode cX3_finds 102 = .ok (.invokevirtual 66, 3) := dk_182 0 66 (dk_at dksX3_finds_4 12 rfl rfl)
theorem dX3_finds_105 : decode cX3_finds 105 = .ok (.goto 13, 3) := dk_167 0 13 (dk_at dksX3_finds_4 15 rfl rfl)
theorem dX3_finds_108 : decode cX3_finds 108 = .ok (.iload_n 3, 1) := dk_29 (dk_at dksX3_finds_4 18 rfl rfl)
theorem dX3_finds_109 : decode cX3_finds 109 = .ok (.ifCond .eq 9, 3) := dk_153 0 9 (dk_at dksX3_finds_4 19 rfl rfl)
theorem dX3_finds_112 : decode cX3_finds 112 = .ok (.aload_n 0, 1) := dk_42 (dk_at dksX3_finds_4 22 rfl rfl)
theorem dX3_finds_113 : decode cX3_finds 113 = .ok (.aload_n 1, 1) := dk_43 (dk_at dksX3_finds_4 23 rfl rfl)
theorem dX3_finds_114 : decode cX3_finds 114 = .ok (.iload_n 2, 1) := dk_28 (dk_at dksX3_finds_5 0 rfl rfl)
theorem dX3_finds_115 : decode cX3_finds 115 = .ok (.invokevirtual 70, 3) := dk_182 0 70 (dk_at dksX3_finds_5 1 rfl rfl)
theorem dX3_finds_118 : decode cX3_finds 118 = .ok (.iinc 2 1, 3) := dk_132 2 1 (dk_at dksX3_finds_5 4 rfl rfl)
theorem dX3_finds_121 : decode cX3_finds 121 = .ok (.goto (-119), 3) := dk_167 255 137 (dk_at dksX3_finds_5 7 rfl rfl)
theorem dX3_finds_124 : decode cX3_finds 124 = .ok (.return_, 1) := dk_177 (dk_at dksX3_finds_5 10 rfl rfl)
abbrev cX3_of : ByteArray := prog_18_method_7_code
def yX3_of : MethodName := ⟨RX3, "of", "([III)I"⟩
def dkwX3_of_0 : List UInt8 := [42, 6, 7, 27, 104, 96, 28, 96, 46, 172]
abbrev dktX3_of_0 : List UInt8 := dkwX3_of_0 ++ []
theorem dksX3_of_0 : cX3_of.data.toList.drop 0 = dktX3_of_0 := by decide +kernel
theorem dX3_of_0 : decode cX3_of 0 = .ok (.aload_n 0, 1) := dk_42 (dk_at dksX3_of_0 0 rfl rfl)
theorem dX3_of_1 : decode cX3_of 1 = .ok (.iconst 3, 1) := dk_6 (dk_at dksX3_of_0 1 rfl rfl)
theorem dX3_of_2 : decode cX3_of 2 = .ok (.iconst 4, 1) := dk_7 (dk_at dksX3_of_0 2 rfl rfl)
theorem dX3_of_3 : decode cX3_of 3 = .ok (.iload_n 1, 1) := dk_27 (dk_at dksX3_of_0 3 rfl rfl)
theorem dX3_of_4 : decode cX3_of 4 = .ok (.imul, 1) := dk_104 (dk_at dksX3_of_0 4 rfl rfl)
theorem dX3_of_5 : decode cX3_of 5 = .ok (.iadd, 1) := dk_96 (dk_at dksX3_of_0 5 rfl rfl)
theorem dX3_of_6 : decode cX3_of 6 = .ok (.iload_n 2, 1) := dk_28 (dk_at dksX3_of_0 6 rfl rfl)
theorem dX3_of_7 : decode cX3_of 7 = .ok (.iadd, 1) := dk_96 (dk_at dksX3_of_0 7 rfl rfl)
theorem dX3_of_8 : decode cX3_of 8 = .ok (.iaload, 1) := dk_46 (dk_at dksX3_of_0 8 rfl rfl)
theorem dX3_of_9 : decode cX3_of 9 = .ok (.ireturn, 1) := dk_172 (dk_at dksX3_of_0 9 rfl rfl)
abbrev cX3_joins : ByteArray := prog_18_method_16_code
def yX3_joins : MethodName := ⟨RX3, "joins", "([II)V"⟩
def dkwX3_joins_4 : List UInt8 := [3, 160, 0, 7, 4, 167, 0, 4, 3, 84, 132, 3, 1, 167, 255, 150, 177]
abbrev dktX3_joins_4 : List UInt8 := dkwX3_joins_4 ++ []
def dkwX3_joins_3 : List UInt8 := [167, 0, 33, 21, 4, 153, 0, 27, 21, 5, 43, 28, 3, 184, 0, 47, 6, 160, 0, 7, 4, 167, 0, 4]
abbrev dktX3_joins_3 : List UInt8 := dkwX3_joins_3 ++ dktX3_joins_4
def dkwX3_joins_2 : List UInt8 := [3, 184, 0, 47, 5, 160, 0, 21, 21, 4, 154, 0, 8, 21, 5, 153, 0, 7, 4, 167, 0, 37, 3]
abbrev dktX3_joins_2 : List UInt8 := dkwX3_joins_2 ++ dktX3_joins_3
def dkwX3_joins_1 : List UInt8 := [28, 5, 184, 0, 47, 29, 182, 0, 51, 54, 5, 42, 180, 0, 29, 17, 3, 232, 28, 104, 29, 96, 43, 28]
abbrev dktX3_joins_1 : List UInt8 := dkwX3_joins_1 ++ dktX3_joins_2
def dkwX3_joins_0 : List UInt8 := [3, 62, 29, 17, 3, 231, 163, 0, 105, 42, 43, 28, 4, 184, 0, 47, 29, 182, 0, 51, 54, 4, 42, 43]
abbrev dktX3_joins_0 : List UInt8 := dkwX3_joins_0 ++ dktX3_joins_1
theorem dksX3_joins_0 : cX3_joins.data.toList.drop 0 = dktX3_joins_0 := by decide +kernel
theorem dksX3_joins_1 : cX3_joins.data.toList.drop 24 = dktX3_joins_1 := dk_seg dksX3_joins_0 24 rfl rfl
theorem dksX3_joins_2 : cX3_joins.data.toList.drop 48 = dktX3_joins_2 := dk_seg dksX3_joins_1 24 rfl rfl
theorem dksX3_joins_3 : cX3_joins.data.toList.drop 71 = dktX3_joins_3 := dk_seg dksX3_joins_2 23 rfl rfl
theorem dksX3_joins_4 : cX3_joins.data.toList.drop 95 = dktX3_joins_4 := dk_seg dksX3_joins_3 24 rfl rfl
theorem dX3_joins_0 : decode cX3_joins 0 = .ok (.iconst 0, 1) := dk_3 (dk_at dksX3_joins_0 0 rfl rfl)
theorem dX3_joins_1 : decode cX3_joins 1 = .ok (.istore_n 3, 1) := dk_62 (dk_at dksX3_joins_0 1 rfl rfl)
theorem dX3_joins_2 : decode cX3_joins 2 = .ok (.iload_n 3, 1) := dk_29 (dk_at dksX3_joins_0 2 rfl rfl)
theorem dX3_joins_3 : decode cX3_joins 3 = .ok (.sipush 999, 3) := dk_17 3 231 (dk_at dksX3_joins_0 3 rfl rfl)
theorem dX3_joins_6 : decode cX3_joins 6 = .ok (.if_icmp .gt 105, 3) := dk_163 0 105 (dk_at dksX3_joins_0 6 rfl rfl)
theorem dX3_joins_9 : decode cX3_joins 9 = .ok (.aload_n 0, 1) := dk_42 (dk_at dksX3_joins_0 9 rfl rfl)
theorem dX3_joins_10 : decode cX3_joins 10 = .ok (.aload_n 1, 1) := dk_43 (dk_at dksX3_joins_0 10 rfl rfl)
theorem dX3_joins_11 : decode cX3_joins 11 = .ok (.iload_n 2, 1) := dk_28 (dk_at dksX3_joins_0 11 rfl rfl)
theorem dX3_joins_12 : decode cX3_joins 12 = .ok (.iconst 1, 1) := dk_4 (dk_at dksX3_joins_0 12 rfl rfl)
theorem dX3_joins_13 : decode cX3_joins 13 = .ok (.invokestatic 47, 3) := dk_184 0 47 (dk_at dksX3_joins_0 13 rfl rfl)
theorem dX3_joins_16 : decode cX3_joins 16 = .ok (.iload_n 3, 1) := dk_29 (dk_at dksX3_joins_0 16 rfl rfl)
theorem dX3_joins_17 : decode cX3_joins 17 = .ok (.invokevirtual 51, 3) := dk_182 0 51 (dk_at dksX3_joins_0 17 rfl rfl)
theorem dX3_joins_20 : decode cX3_joins 20 = .ok (.istore 4, 2) := dk_54 4 (dk_at dksX3_joins_0 20 rfl rfl)
theorem dX3_joins_22 : decode cX3_joins 22 = .ok (.aload_n 0, 1) := dk_42 (dk_at dksX3_joins_0 22 rfl rfl)
theorem dX3_joins_23 : decode cX3_joins 23 = .ok (.aload_n 1, 1) := dk_43 (dk_at dksX3_joins_0 23 rfl rfl)
theorem dX3_joins_24 : decode cX3_joins 24 = .ok (.iload_n 2, 1) := dk_28 (dk_at dksX3_joins_1 0 rfl rfl)
theorem dX3_joins_25 : decode cX3_joins 25 = .ok (.iconst 2, 1) := dk_5 (dk_at dksX3_joins_1 1 rfl rfl)
theorem dX3_joins_26 : decode cX3_joins 26 = .ok (.invokestatic 47, 3) := dk_184 0 47 (dk_at dksX3_joins_1 2 rfl rfl)
theorem dX3_joins_29 : decode cX3_joins 29 = .ok (.iload_n 3, 1) := dk_29 (dk_at dksX3_joins_1 5 rfl rfl)
theorem dX3_joins_30 : decode cX3_joins 30 = .ok (.invokevirtual 51, 3) := dk_182 0 51 (dk_at dksX3_joins_1 6 rfl rfl)
theorem dX3_joins_33 : decode cX3_joins 33 = .ok (.istore 5, 2) := dk_54 5 (dk_at dksX3_joins_1 9 rfl rfl)
theorem dX3_joins_35 : decode cX3_joins 35 = .ok (.aload_n 0, 1) := dk_42 (dk_at dksX3_joins_1 11 rfl rfl)
theorem dX3_joins_36 : decode cX3_joins 36 = .ok (.getfield 29, 3) := dk_180 0 29 (dk_at dksX3_joins_1 12 rfl rfl)
theorem dX3_joins_39 : decode cX3_joins 39 = .ok (.sipush 1000, 3) := dk_17 3 232 (dk_at dksX3_joins_1 15 rfl rfl)
theorem dX3_joins_42 : decode cX3_joins 42 = .ok (.iload_n 2, 1) := dk_28 (dk_at dksX3_joins_1 18 rfl rfl)
theorem dX3_joins_43 : decode cX3_joins 43 = .ok (.imul, 1) := dk_104 (dk_at dksX3_joins_1 19 rfl rfl)
theorem dX3_joins_44 : decode cX3_joins 44 = .ok (.iload_n 3, 1) := dk_29 (dk_at dksX3_joins_1 20 rfl rfl)
theorem dX3_joins_45 : decode cX3_joins 45 = .ok (.iadd, 1) := dk_96 (dk_at dksX3_joins_1 21 rfl rfl)
theorem dX3_joins_46 : decode cX3_joins 46 = .ok (.aload_n 1, 1) := dk_43 (dk_at dksX3_joins_1 22 rfl rfl)
theorem dX3_joins_47 : decode cX3_joins 47 = .ok (.iload_n 2, 1) := dk_28 (dk_at dksX3_joins_1 23 rfl rfl)
theorem dX3_joins_48 : decode cX3_joins 48 = .ok (.iconst 0, 1) := dk_3 (dk_at dksX3_joins_2 0 rfl rfl)
theorem dX3_joins_49 : decode cX3_joins 49 = .ok (.invokestatic 47, 3) := dk_184 0 47 (dk_at dksX3_joins_2 1 rfl rfl)
theorem dX3_joins_52 : decode cX3_joins 52 = .ok (.iconst 2, 1) := dk_5 (dk_at dksX3_joins_2 4 rfl rfl)
theorem dX3_joins_53 : decode cX3_joins 53 = .ok (.if_icmp .ne 21, 3) := dk_160 0 21 (dk_at dksX3_joins_2 5 rfl rfl)
theorem dX3_joins_56 : decode cX3_joins 56 = .ok (.iload 4, 2) := dk_21 4 (dk_at dksX3_joins_2 8 rfl rfl)
theorem dX3_joins_58 : decode cX3_joins 58 = .ok (.ifCond .ne 8, 3) := dk_154 0 8 (dk_at dksX3_joins_2 10 rfl rfl)
theorem dX3_joins_61 : decode cX3_joins 61 = .ok (.iload 5, 2) := dk_21 5 (dk_at dksX3_joins_2 13 rfl rfl)
theorem dX3_joins_63 : decode cX3_joins 63 = .ok (.ifCond .eq 7, 3) := dk_153 0 7 (dk_at dksX3_joins_2 15 rfl rfl)
theorem dX3_joins_66 : decode cX3_joins 66 = .ok (.iconst 1, 1) := dk_4 (dk_at dksX3_joins_2 18 rfl rfl)
theorem dX3_joins_67 : decode cX3_joins 67 = .ok (.goto 37, 3) := dk_167 0 37 (dk_at dksX3_joins_2 19 rfl rfl)
theorem dX3_joins_70 : decode cX3_joins 70 = .ok (.iconst 0, 1) := dk_3 (dk_at dksX3_joins_2 22 rfl rfl)
theorem dX3_joins_71 : decode cX3_joins 71 = .ok (.goto 33, 3) := dk_167 0 33 (dk_at dksX3_joins_3 0 rfl rfl)
theorem dX3_joins_74 : decode cX3_joins 74 = .ok (.iload 4, 2) := dk_21 4 (dk_at dksX3_joins_3 3 rfl rfl)
theorem dX3_joins_76 : decode cX3_joins 76 = .ok (.ifCond .eq 27, 3) := dk_153 0 27 (dk_at dksX3_joins_3 5 rfl rfl)
theorem dX3_joins_79 : decode cX3_joins 79 = .ok (.iload 5, 2) := dk_21 5 (dk_at dksX3_joins_3 8 rfl rfl)
theorem dX3_joins_81 : decode cX3_joins 81 = .ok (.aload_n 1, 1) := dk_43 (dk_at dksX3_joins_3 10 rfl rfl)
theorem dX3_joins_82 : decode cX3_joins 82 = .ok (.iload_n 2, 1) := dk_28 (dk_at dksX3_joins_3 11 rfl rfl)
theorem dX3_joins_83 : decode cX3_joins 83 = .ok (.iconst 0, 1) := dk_3 (dk_at dksX3_joins_3 12 rfl rfl)
theorem dX3_joins_84 : decode cX3_joins 84 = .ok (.invokestatic 47, 3) := dk_184 0 47 (dk_at dksX3_joins_3 13 rfl rfl)
theorem dX3_joins_87 : decode cX3_joins 87 = .ok (.iconst 3, 1) := dk_6 (dk_at dksX3_joins_3 16 rfl rfl)
theorem dX3_joins_88 : decode cX3_joins 88 = .ok (.if_icmp .ne 7, 3) := dk_160 0 7 (dk_at dksX3_joins_3 17 rfl rfl)
theorem dX3_joins_91 : decode cX3_joins 91 = .ok (.iconst 1, 1) := dk_4 (dk_at dksX3_joins_3 20 rfl rfl)
theorem dX3_joins_92 : decode cX3_joins 92 = .ok (.goto 4, 3) := dk_167 0 4 (dk_at dksX3_joins_3 21 rfl rfl)
theorem dX3_joins_95 : decode cX3_joins 95 = .ok (.iconst 0, 1) := dk_3 (dk_at dksX3_joins_4 0 rfl rfl)
theorem dX3_joins_96 : decode cX3_joins 96 = .ok (.if_icmp .ne 7, 3) := dk_160 0 7 (dk_at dksX3_joins_4 1 rfl rfl)
theorem dX3_joins_99 : decode cX3_joins 99 = .ok (.iconst 1, 1) := dk_4 (dk_at dksX3_joins_4 4 rfl rfl)
theorem dX3_joins_100 : decode cX3_joins 100 = .ok (.goto 4, 3) := dk_167 0 4 (dk_at dksX3_joins_4 5 rfl rfl)
theorem dX3_joins_103 : decode cX3_joins 103 = .ok (.iconst 0, 1) := dk_3 (dk_at dksX3_joins_4 8 rfl rfl)
theorem dX3_joins_104 : decode cX3_joins 104 = .ok (.bastore, 1) := dk_84 (dk_at dksX3_joins_4 9 rfl rfl)
theorem dX3_joins_105 : decode cX3_joins 105 = .ok (.iinc 3 1, 3) := dk_132 3 1 (dk_at dksX3_joins_4 10 rfl rfl)
theorem dX3_joins_108 : decode cX3_joins 108 = .ok (.goto (-106), 3) := dk_167 255 150 (dk_at dksX3_joins_4 13 rfl rfl)
theorem dX3_joins_111 : decode cX3_joins 111 = .ok (.return_, 1) := dk_177 (dk_at dksX3_joins_4 16 rfl rfl)
abbrev cX3_member : ByteArray := prog_18_method_12_code
def yX3_member : MethodName := ⟨RX3, "member", "(II)Z"⟩
def dkwX3_member_0 : List UInt8 := [42, 180, 0, 29, 17, 3, 232, 27, 104, 28, 96, 51, 172]
abbrev dktX3_member_0 : List UInt8 := dkwX3_member_0 ++ []
theorem dksX3_member_0 : cX3_member.data.toList.drop 0 = dktX3_member_0 := by decide +kernel
theorem dX3_member_0 : decode cX3_member 0 = .ok (.aload_n 0, 1) := dk_42 (dk_at dksX3_member_0 0 rfl rfl)
theorem dX3_member_1 : decode cX3_member 1 = .ok (.getfield 29, 3) := dk_180 0 29 (dk_at dksX3_member_0 1 rfl rfl)
theorem dX3_member_4 : decode cX3_member 4 = .ok (.sipush 1000, 3) := dk_17 3 232 (dk_at dksX3_member_0 4 rfl rfl)
theorem dX3_member_7 : decode cX3_member 7 = .ok (.iload_n 1, 1) := dk_27 (dk_at dksX3_member_0 7 rfl rfl)
theorem dX3_member_8 : decode cX3_member 8 = .ok (.imul, 1) := dk_104 (dk_at dksX3_member_0 8 rfl rfl)
theorem dX3_member_9 : decode cX3_member 9 = .ok (.iload_n 2, 1) := dk_28 (dk_at dksX3_member_0 9 rfl rfl)
theorem dX3_member_10 : decode cX3_member 10 = .ok (.iadd, 1) := dk_96 (dk_at dksX3_member_0 10 rfl rfl)
theorem dX3_member_11 : decode cX3_member 11 = .ok (.baload, 1) := dk_51 (dk_at dksX3_member_0 11 rfl rfl)
theorem dX3_member_12 : decode cX3_member 12 = .ok (.ireturn, 1) := dk_172 (dk_at dksX3_member_0 12 rfl rfl)
abbrev cX3_follows : ByteArray := prog_18_method_15_code
def yX3_follows : MethodName := ⟨RX3, "follows", "([II)V"⟩
def dkwX3_follows_8 : List UInt8 := [182, 0, 55, 132, 6, 1, 167, 255, 112, 177]
abbrev dktX3_follows_8 : List UInt8 := dkwX3_follows_8 ++ []
def dkwX3_follows_7 : List UInt8 := [43, 28, 5, 184, 0, 47, 112, 154, 0, 7, 4, 167, 0, 4, 3, 84, 167, 0, 10, 42, 28, 21, 5]
abbrev dktX3_follows_7 : List UInt8 := dkwX3_follows_7 ++ dktX3_follows_8
def dkwX3_follows_6 : List UInt8 := [42, 28, 21, 6, 182, 0, 59, 167, 0, 43, 42, 180, 0, 29, 17, 3, 232, 28, 104, 21, 6, 96, 21, 4]
abbrev dktX3_follows_6 : List UInt8 := dkwX3_follows_6 ++ dktX3_follows_7
def dkwX3_follows_5 : List UInt8 := [42, 28, 21, 6, 43, 28, 5, 184, 0, 47, 104, 43, 28, 6, 184, 0, 47, 96, 182, 0, 55, 167, 0, 53]
abbrev dktX3_follows_5 : List UInt8 := dkwX3_follows_5 ++ dktX3_follows_6
def dkwX3_follows_4 : List UInt8 := [171, 0, 0, 0, 100, 0, 0, 0, 3, 0, 0, 0, 1, 0, 0, 0, 33, 0, 0, 0, 5, 0, 0, 0, 57, 0, 0, 0, 6, 0, 0, 0, 67]
abbrev dktX3_follows_4 : List UInt8 := dkwX3_follows_4 ++ dktX3_follows_5
def dkwX3_follows_3 : List UInt8 := [28, 3, 184, 0, 47]
abbrev dktX3_follows_3 : List UInt8 := dkwX3_follows_3 ++ dktX3_follows_4
def dkwX3_follows_2 : List UInt8 := [163, 0, 142, 42, 29, 21, 6, 182, 0, 51, 153, 0, 126, 132, 4, 1, 21, 5, 21, 6, 96, 54, 5, 43]
abbrev dktX3_follows_2 : List UInt8 := dkwX3_follows_2 ++ dktX3_follows_3
def dkwX3_follows_1 : List UInt8 := [42, 180, 0, 32, 21, 6, 3, 84, 132, 6, 1, 167, 255, 237, 3, 54, 6, 21, 6, 17, 3, 231]
abbrev dktX3_follows_1 : List UInt8 := dkwX3_follows_1 ++ dktX3_follows_2
def dkwX3_follows_0 : List UInt8 := [43, 28, 4, 184, 0, 47, 62, 3, 54, 4, 3, 54, 5, 3, 54, 6, 21, 6, 17, 3, 231, 163, 0, 17]
abbrev dktX3_follows_0 : List UInt8 := dkwX3_follows_0 ++ dktX3_follows_1
theorem dksX3_follows_0 : cX3_follows.data.toList.drop 0 = dktX3_follows_0 := by decide +kernel
theorem dksX3_follows_1 : cX3_follows.data.toList.drop 24 = dktX3_follows_1 := dk_seg dksX3_follows_0 24 rfl rfl
theorem dksX3_follows_2 : cX3_follows.data.toList.drop 46 = dktX3_follows_2 := dk_seg dksX3_follows_1 22 rfl rfl
theorem dksX3_follows_3 : cX3_follows.data.toList.drop 70 = dktX3_follows_3 := dk_seg dksX3_follows_2 24 rfl rfl
theorem dksX3_follows_4 : cX3_follows.data.toList.drop 75 = dktX3_follows_4 := dk_seg dksX3_follows_3 5 rfl rfl
theorem dksX3_follows_5 : cX3_follows.data.toList.drop 108 = dktX3_follows_5 := dk_seg dksX3_follows_4 33 rfl rfl
theorem dksX3_follows_6 : cX3_follows.data.toList.drop 132 = dktX3_follows_6 := dk_seg dksX3_follows_5 24 rfl rfl
theorem dksX3_follows_7 : cX3_follows.data.toList.drop 156 = dktX3_follows_7 := dk_seg dksX3_follows_6 24 rfl rfl
theorem dksX3_follows_8 : cX3_follows.data.toList.drop 179 = dktX3_follows_8 := dk_seg dksX3_follows_7 23 rfl rfl
theorem dX3_follows_0 : decode cX3_follows 0 = .ok (.aload_n 1, 1) := dk_43 (dk_at dksX3_follows_0 0 rfl rfl)
theorem dX3_follows_1 : decode cX3_follows 1 = .ok (.iload_n 2, 1) := dk_28 (dk_at dksX3_follows_0 1 rfl rfl)
theorem dX3_follows_2 : decode cX3_follows 2 = .ok (.iconst 1, 1) := dk_4 (dk_at dksX3_follows_0 2 rfl rfl)
theorem dX3_follows_3 : decode cX3_follows 3 = .ok (.invokestatic 47, 3) := dk_184 0 47 (dk_at dksX3_follows_0 3 rfl rfl)
theorem dX3_follows_6 : decode cX3_follows 6 = .ok (.istore_n 3, 1) := dk_62 (dk_at dksX3_follows_0 6 rfl rfl)
theorem dX3_follows_7 : decode cX3_follows 7 = .ok (.iconst 0, 1) := dk_3 (dk_at dksX3_follows_0 7 rfl rfl)
theorem dX3_follows_8 : decode cX3_follows 8 = .ok (.istore 4, 2) := dk_54 4 (dk_at dksX3_follows_0 8 rfl rfl)
theorem dX3_follows_10 : decode cX3_follows 10 = .ok (.iconst 0, 1) := dk_3 (dk_at dksX3_follows_0 10 rfl rfl)
theorem dX3_follows_11 : decode cX3_follows 11 = .ok (.istore 5, 2) := dk_54 5 (dk_at dksX3_follows_0 11 rfl rfl)
theorem dX3_follows_13 : decode cX3_follows 13 = .ok (.iconst 0, 1) := dk_3 (dk_at dksX3_follows_0 13 rfl rfl)
theorem dX3_follows_14 : decode cX3_follows 14 = .ok (.istore 6, 2) := dk_54 6 (dk_at dksX3_follows_0 14 rfl rfl)
theorem dX3_follows_16 : decode cX3_follows 16 = .ok (.iload 6, 2) := dk_21 6 (dk_at dksX3_follows_0 16 rfl rfl)
theorem dX3_follows_18 : decode cX3_follows 18 = .ok (.sipush 999, 3) := dk_17 3 231 (dk_at dksX3_follows_0 18 rfl rfl)
theorem dX3_follows_21 : decode cX3_follows 21 = .ok (.if_icmp .gt 17, 3) := dk_163 0 17 (dk_at dksX3_follows_0 21 rfl rfl)
theorem dX3_follows_24 : decode cX3_follows 24 = .ok (.aload_n 0, 1) := dk_42 (dk_at dksX3_follows_1 0 rfl rfl)
theorem dX3_follows_25 : decode cX3_follows 25 = .ok (.getfield 32, 3) := dk_180 0 32 (dk_at dksX3_follows_1 1 rfl rfl)
theorem dX3_follows_28 : decode cX3_follows 28 = .ok (.iload 6, 2) := dk_21 6 (dk_at dksX3_follows_1 4 rfl rfl)
theorem dX3_follows_30 : decode cX3_follows 30 = .ok (.iconst 0, 1) := dk_3 (dk_at dksX3_follows_1 6 rfl rfl)
theorem dX3_follows_31 : decode cX3_follows 31 = .ok (.bastore, 1) := dk_84 (dk_at dksX3_follows_1 7 rfl rfl)
theorem dX3_follows_32 : decode cX3_follows 32 = .ok (.iinc 6 1, 3) := dk_132 6 1 (dk_at dksX3_follows_1 8 rfl rfl)
theorem dX3_follows_35 : decode cX3_follows 35 = .ok (.goto (-19), 3) := dk_167 255 237 (dk_at dksX3_follows_1 11 rfl rfl)
theorem dX3_follows_38 : decode cX3_follows 38 = .ok (.iconst 0, 1) := dk_3 (dk_at dksX3_follows_1 14 rfl rfl)
theorem dX3_follows_39 : decode cX3_follows 39 = .ok (.istore 6, 2) := dk_54 6 (dk_at dksX3_follows_1 15 rfl rfl)
theorem dX3_follows_41 : decode cX3_follows 41 = .ok (.iload 6, 2) := dk_21 6 (dk_at dksX3_follows_1 17 rfl rfl)
theorem dX3_follows_43 : decode cX3_follows 43 = .ok (.sipush 999, 3) := dk_17 3 231 (dk_at dksX3_follows_1 19 rfl rfl)
theorem dX3_follows_46 : decode cX3_follows 46 = .ok (.if_icmp .gt 142, 3) := dk_163 0 142 (dk_at dksX3_follows_2 0 rfl rfl)
theorem dX3_follows_49 : decode cX3_follows 49 = .ok (.aload_n 0, 1) := dk_42 (dk_at dksX3_follows_2 3 rfl rfl)
theorem dX3_follows_50 : decode cX3_follows 50 = .ok (.iload_n 3, 1) := dk_29 (dk_at dksX3_follows_2 4 rfl rfl)
theorem dX3_follows_51 : decode cX3_follows 51 = .ok (.iload 6, 2) := dk_21 6 (dk_at dksX3_follows_2 5 rfl rfl)
theorem dX3_follows_53 : decode cX3_follows 53 = .ok (.invokevirtual 51, 3) := dk_182 0 51 (dk_at dksX3_follows_2 7 rfl rfl)
theorem dX3_follows_56 : decode cX3_follows 56 = .ok (.ifCond .eq 126, 3) := dk_153 0 126 (dk_at dksX3_follows_2 10 rfl rfl)
theorem dX3_follows_59 : decode cX3_follows 59 = .ok (.iinc 4 1, 3) := dk_132 4 1 (dk_at dksX3_follows_2 13 rfl rfl)
theorem dX3_follows_62 : decode cX3_follows 62 = .ok (.iload 5, 2) := dk_21 5 (dk_at dksX3_follows_2 16 rfl rfl)
theorem dX3_follows_64 : decode cX3_follows 64 = .ok (.iload 6, 2) := dk_21 6 (dk_at dksX3_follows_2 18 rfl rfl)
theorem dX3_follows_66 : decode cX3_follows 66 = .ok (.iadd, 1) := dk_96 (dk_at dksX3_follows_2 20 rfl rfl)
theorem dX3_follows_67 : decode cX3_follows 67 = .ok (.istore 5, 2) := dk_54 5 (dk_at dksX3_follows_2 21 rfl rfl)
theorem dX3_follows_69 : decode cX3_follows 69 = .ok (.aload_n 1, 1) := dk_43 (dk_at dksX3_follows_2 23 rfl rfl)
theorem dX3_follows_70 : decode cX3_follows 70 = .ok (.iload_n 2, 1) := dk_28 (dk_at dksX3_follows_3 0 rfl rfl)
theorem dX3_follows_71 : decode cX3_follows 71 = .ok (.iconst 0, 1) := dk_3 (dk_at dksX3_follows_3 1 rfl rfl)
theorem dX3_follows_72 : decode cX3_follows 72 = .ok (.invokestatic 47, 3) := dk_184 0 47 (dk_at dksX3_follows_3 2 rfl rfl)
theorem dX3_follows_75 : decode cX3_follows 75 = .ok (.lookupswitch 100 #[(1, 33), (5, 57), (6, 67)], 33) := by decide +kernel
theorem dX3_follows_108 : decode cX3_follows 108 = .ok (.aload_n 0, 1) := dk_42 (dk_at dksX3_follows_5 0 rfl rfl)
theorem dX3_follows_109 : decode cX3_follows 109 = .ok (.iload_n 2, 1) := dk_28 (dk_at dksX3_follows_5 1 rfl rfl)
theorem dX3_follows_110 : decode cX3_follows 110 = .ok (.iload 6, 2) := dk_21 6 (dk_at dksX3_follows_5 2 rfl rfl)
theorem dX3_follows_112 : decode cX3_follows 112 = .ok (.aload_n 1, 1) := dk_43 (dk_at dksX3_follows_5 4 rfl rfl)
theorem dX3_follows_113 : decode cX3_follows 113 = .ok (.iload_n 2, 1) := dk_28 (dk_at dksX3_follows_5 5 rfl rfl)
theorem dX3_follows_114 : decode cX3_follows 114 = .ok (.iconst 2, 1) := dk_5 (dk_at dksX3_follows_5 6 rfl rfl)
theorem dX3_follows_115 : decode cX3_follows 115 = .ok (.invokestatic 47, 3) := dk_184 0 47 (dk_at dksX3_follows_5 7 rfl rfl)
theorem dX3_follows_118 : decode cX3_follows 118 = .ok (.imul, 1) := dk_104 (dk_at dksX3_follows_5 10 rfl rfl)
theorem dX3_follows_119 : decode cX3_follows 119 = .ok (.aload_n 1, 1) := dk_43 (dk_at dksX3_follows_5 11 rfl rfl)
theorem dX3_follows_120 : decode cX3_follows 120 = .ok (.iload_n 2, 1) := dk_28 (dk_at dksX3_follows_5 12 rfl rfl)
theorem dX3_follows_121 : decode cX3_follows 121 = .ok (.iconst 3, 1) := dk_6 (dk_at dksX3_follows_5 13 rfl rfl)
theorem dX3_follows_122 : decode cX3_follows 122 = .ok (.invokestatic 47, 3) := dk_184 0 47 (dk_at dksX3_follows_5 14 rfl rfl)
theorem dX3_follows_125 : decode cX3_follows 125 = .ok (.iadd, 1) := dk_96 (dk_at dksX3_follows_5 17 rfl rfl)
theorem dX3_follows_126 : decode cX3_follows 126 = .ok (.invokevirtual 55, 3) := dk_182 0 55 (dk_at dksX3_follows_5 18 rfl rfl)
theorem dX3_follows_129 : decode cX3_follows 129 = .ok (.goto 53, 3) := dk_167 0 53 (dk_at dksX3_follows_5 21 rfl rfl)
theorem dX3_follows_132 : decode cX3_follows 132 = .ok (.aload_n 0, 1) := dk_42 (dk_at dksX3_follows_6 0 rfl rfl)
theorem dX3_follows_133 : decode cX3_follows 133 = .ok (.iload_n 2, 1) := dk_28 (dk_at dksX3_follows_6 1 rfl rfl)
theorem dX3_follows_134 : decode cX3_follows 134 = .ok (.iload 6, 2) := dk_21 6 (dk_at dksX3_follows_6 2 rfl rfl)
theorem dX3_follows_136 : decode cX3_follows 136 = .ok (.invokevirtual 59, 3) := dk_182 0 59 (dk_at dksX3_follows_6 4 rfl rfl)
theorem dX3_follows_139 : decode cX3_follows 139 = .ok (.goto 43, 3) := dk_167 0 43 (dk_at dksX3_follows_6 7 rfl rfl)
theorem dX3_follows_142 : decode cX3_follows 142 = .ok (.aload_n 0, 1) := dk_42 (dk_at dksX3_follows_6 10 rfl rfl)
theorem dX3_follows_143 : decode cX3_follows 143 = .ok (.getfield 29, 3) := dk_180 0 29 (dk_at dksX3_follows_6 11 rfl rfl)
theorem dX3_follows_146 : decode cX3_follows 146 = .ok (.sipush 1000, 3) := dk_17 3 232 (dk_at dksX3_follows_6 14 rfl rfl)
theorem dX3_follows_149 : decode cX3_follows 149 = .ok (.iload_n 2, 1) := dk_28 (dk_at dksX3_follows_6 17 rfl rfl)
theorem dX3_follows_150 : decode cX3_follows 150 = .ok (.imul, 1) := dk_104 (dk_at dksX3_follows_6 18 rfl rfl)
theorem dX3_follows_151 : decode cX3_follows 151 = .ok (.iload 6, 2) := dk_21 6 (dk_at dksX3_follows_6 19 rfl rfl)
theorem dX3_follows_153 : decode cX3_follows 153 = .ok (.iadd, 1) := dk_96 (dk_at dksX3_follows_6 21 rfl rfl)
theorem dX3_follows_154 : decode cX3_follows 154 = .ok (.iload 4, 2) := dk_21 4 (dk_at dksX3_follows_6 22 rfl rfl)
theorem dX3_follows_156 : decode cX3_follows 156 = .ok (.aload_n 1, 1) := dk_43 (dk_at dksX3_follows_7 0 rfl rfl)
theorem dX3_follows_157 : decode cX3_follows 157 = .ok (.iload_n 2, 1) := dk_28 (dk_at dksX3_follows_7 1 rfl rfl)
theorem dX3_follows_158 : decode cX3_follows 158 = .ok (.iconst 2, 1) := dk_5 (dk_at dksX3_follows_7 2 rfl rfl)
theorem dX3_follows_159 : decode cX3_follows 159 = .ok (.invokestatic 47, 3) := dk_184 0 47 (dk_at dksX3_follows_7 3 rfl rfl)
theorem dX3_follows_162 : decode cX3_follows 162 = .ok (.irem, 1) := dk_112 (dk_at dksX3_follows_7 6 rfl rfl)
theorem dX3_follows_163 : decode cX3_follows 163 = .ok (.ifCond .ne 7, 3) := dk_154 0 7 (dk_at dksX3_follows_7 7 rfl rfl)
theorem dX3_follows_166 : decode cX3_follows 166 = .ok (.iconst 1, 1) := dk_4 (dk_at dksX3_follows_7 10 rfl rfl)
theorem dX3_follows_167 : decode cX3_follows 167 = .ok (.goto 4, 3) := dk_167 0 4 (dk_at dksX3_follows_7 11 rfl rfl)
theorem dX3_follows_170 : decode cX3_follows 170 = .ok (.iconst 0, 1) := dk_3 (dk_at dksX3_follows_7 14 rfl rfl)
theorem dX3_follows_171 : decode cX3_follows 171 = .ok (.bastore, 1) := dk_84 (dk_at dksX3_follows_7 15 rfl rfl)
theorem dX3_follows_172 : decode cX3_follows 172 = .ok (.goto 10, 3) := dk_167 0 10 (dk_at dksX3_follows_7 16 rfl rfl)
theorem dX3_follows_175 : decode cX3_follows 175 = .ok (.aload_n 0, 1) := dk_42 (dk_at dksX3_follows_7 19 rfl rfl)
theorem dX3_follows_176 : decode cX3_follows 176 = .ok (.iload_n 2, 1) := dk_28 (dk_at dksX3_follows_7 20 rfl rfl)
theorem dX3_follows_177 : decode cX3_follows 177 = .ok (.iload 5, 2) := dk_21 5 (dk_at dksX3_follows_7 21 rfl rfl)
theorem dX3_follows_179 : decode cX3_follows 179 = .ok (.invokevirtual 55, 3) := dk_182 0 55 (dk_at dksX3_follows_8 0 rfl rfl)
theorem dX3_follows_182 : decode cX3_follows 182 = .ok (.iinc 6 1, 3) := dk_132 6 1 (dk_at dksX3_follows_8 3 rfl rfl)
theorem dX3_follows_185 : decode cX3_follows 185 = .ok (.goto (-144), 3) := dk_167 255 112 (dk_at dksX3_follows_8 6 rfl rfl)
theorem dX3_follows_188 : decode cX3_follows 188 = .ok (.return_, 1) := dk_177 (dk_at dksX3_follows_8 9 rfl rfl)
abbrev cX3_adds : ByteArray := prog_18_method_13_code
def yX3_adds : MethodName := ⟨RX3, "adds", "(II)V"⟩
def dkwX3_adds_0 : List UInt8 := [28, 17, 3, 231, 163, 0, 16, 42, 180, 0, 29, 17, 3, 232, 27, 104, 28, 96, 4, 84, 177]
abbrev dktX3_adds_0 : List UInt8 := dkwX3_adds_0 ++ []
theorem dksX3_adds_0 : cX3_adds.data.toList.drop 0 = dktX3_adds_0 := by decide +kernel
theorem dX3_adds_0 : decode cX3_adds 0 = .ok (.iload_n 2, 1) := dk_28 (dk_at dksX3_adds_0 0 rfl rfl)
theorem dX3_adds_1 : decode cX3_adds 1 = .ok (.sipush 999, 3) := dk_17 3 231 (dk_at dksX3_adds_0 1 rfl rfl)
theorem dX3_adds_4 : decode cX3_adds 4 = .ok (.if_icmp .gt 16, 3) := dk_163 0 16 (dk_at dksX3_adds_0 4 rfl rfl)
theorem dX3_adds_7 : decode cX3_adds 7 = .ok (.aload_n 0, 1) := dk_42 (dk_at dksX3_adds_0 7 rfl rfl)
theorem dX3_adds_8 : decode cX3_adds 8 = .ok (.getfield 29, 3) := dk_180 0 29 (dk_at dksX3_adds_0 8 rfl rfl)
theorem dX3_adds_11 : decode cX3_adds 11 = .ok (.sipush 1000, 3) := dk_17 3 232 (dk_at dksX3_adds_0 11 rfl rfl)
theorem dX3_adds_14 : decode cX3_adds 14 = .ok (.iload_n 1, 1) := dk_27 (dk_at dksX3_adds_0 14 rfl rfl)
theorem dX3_adds_15 : decode cX3_adds 15 = .ok (.imul, 1) := dk_104 (dk_at dksX3_adds_0 15 rfl rfl)
theorem dX3_adds_16 : decode cX3_adds 16 = .ok (.iload_n 2, 1) := dk_28 (dk_at dksX3_adds_0 16 rfl rfl)
theorem dX3_adds_17 : decode cX3_adds 17 = .ok (.iadd, 1) := dk_96 (dk_at dksX3_adds_0 17 rfl rfl)
theorem dX3_adds_18 : decode cX3_adds 18 = .ok (.iconst 1, 1) := dk_4 (dk_at dksX3_adds_0 18 rfl rfl)
theorem dX3_adds_19 : decode cX3_adds 19 = .ok (.bastore, 1) := dk_84 (dk_at dksX3_adds_0 19 rfl rfl)
theorem dX3_adds_20 : decode cX3_adds 20 = .ok (.return_, 1) := dk_177 (dk_at dksX3_adds_0 20 rfl rfl)
abbrev cX3_sieves : ByteArray := prog_18_method_14_code
def yX3_sieves : MethodName := ⟨RX3, "sieves", "(II)V"⟩
def dkwX3_sieves_2 : List UInt8 := [154, 0, 17, 42, 180, 0, 32, 29, 4, 84, 29, 28, 96, 62, 167, 255, 224, 177]
abbrev dktX3_sieves_2 : List UInt8 := dkwX3_sieves_2 ++ []
def dkwX3_sieves_1 : List UInt8 := [3, 84, 5, 28, 104, 62, 29, 17, 3, 231, 163, 0, 31, 28, 4, 164, 0, 26, 42, 180, 0, 32, 28, 51]
abbrev dktX3_sieves_1 : List UInt8 := dkwX3_sieves_1 ++ dktX3_sieves_2
def dkwX3_sieves_0 : List UInt8 := [42, 180, 0, 29, 17, 3, 232, 27, 104, 28, 96, 42, 180, 0, 32, 28, 51, 154, 0, 7, 4, 167, 0, 4]
abbrev dktX3_sieves_0 : List UInt8 := dkwX3_sieves_0 ++ dktX3_sieves_1
theorem dksX3_sieves_0 : cX3_sieves.data.toList.drop 0 = dktX3_sieves_0 := by decide +kernel
theorem dksX3_sieves_1 : cX3_sieves.data.toList.drop 24 = dktX3_sieves_1 := dk_seg dksX3_sieves_0 24 rfl rfl
theorem dksX3_sieves_2 : cX3_sieves.data.toList.drop 48 = dktX3_sieves_2 := dk_seg dksX3_sieves_1 24 rfl rfl
theorem dX3_sieves_0 : decode cX3_sieves 0 = .ok (.aload_n 0, 1) := dk_42 (dk_at dksX3_sieves_0 0 rfl rfl)
theorem dX3_sieves_1 : decode cX3_sieves 1 = .ok (.getfield 29, 3) := dk_180 0 29 (dk_at dksX3_sieves_0 1 rfl rfl)
theorem dX3_sieves_4 : decode cX3_sieves 4 = .ok (.sipush 1000, 3) := dk_17 3 232 (dk_at dksX3_sieves_0 4 rfl rfl)
theorem dX3_sieves_7 : decode cX3_sieves 7 = .ok (.iload_n 1, 1) := dk_27 (dk_at dksX3_sieves_0 7 rfl rfl)
theorem dX3_sieves_8 : decode cX3_sieves 8 = .ok (.imul, 1) := dk_104 (dk_at dksX3_sieves_0 8 rfl rfl)
theorem dX3_sieves_9 : decode cX3_sieves 9 = .ok (.iload_n 2, 1) := dk_28 (dk_at dksX3_sieves_0 9 rfl rfl)
theorem dX3_sieves_10 : decode cX3_sieves 10 = .ok (.iadd, 1) := dk_96 (dk_at dksX3_sieves_0 10 rfl rfl)
theorem dX3_sieves_11 : decode cX3_sieves 11 = .ok (.aload_n 0, 1) := dk_42 (dk_at dksX3_sieves_0 11 rfl rfl)
theorem dX3_sieves_12 : decode cX3_sieves 12 = .ok (.getfield 32, 3) := dk_180 0 32 (dk_at dksX3_sieves_0 12 rfl rfl)
theorem dX3_sieves_15 : decode cX3_sieves 15 = .ok (.iload_n 2, 1) := dk_28 (dk_at dksX3_sieves_0 15 rfl rfl)
theorem dX3_sieves_16 : decode cX3_sieves 16 = .ok (.baload, 1) := dk_51 (dk_at dksX3_sieves_0 16 rfl rfl)
theorem dX3_sieves_17 : decode cX3_sieves 17 = .ok (.ifCond .ne 7, 3) := dk_154 0 7 (dk_at dksX3_sieves_0 17 rfl rfl)
theorem dX3_sieves_20 : decode cX3_sieves 20 = .ok (.iconst 1, 1) := dk_4 (dk_at dksX3_sieves_0 20 rfl rfl)
theorem dX3_sieves_21 : decode cX3_sieves 21 = .ok (.goto 4, 3) := dk_167 0 4 (dk_at dksX3_sieves_0 21 rfl rfl)
theorem dX3_sieves_24 : decode cX3_sieves 24 = .ok (.iconst 0, 1) := dk_3 (dk_at dksX3_sieves_1 0 rfl rfl)
theorem dX3_sieves_25 : decode cX3_sieves 25 = .ok (.bastore, 1) := dk_84 (dk_at dksX3_sieves_1 1 rfl rfl)
theorem dX3_sieves_26 : decode cX3_sieves 26 = .ok (.iconst 2, 1) := dk_5 (dk_at dksX3_sieves_1 2 rfl rfl)
theorem dX3_sieves_27 : decode cX3_sieves 27 = .ok (.iload_n 2, 1) := dk_28 (dk_at dksX3_sieves_1 3 rfl rfl)
theorem dX3_sieves_28 : decode cX3_sieves 28 = .ok (.imul, 1) := dk_104 (dk_at dksX3_sieves_1 4 rfl rfl)
theorem dX3_sieves_29 : decode cX3_sieves 29 = .ok (.istore_n 3, 1) := dk_62 (dk_at dksX3_sieves_1 5 rfl rfl)
theorem dX3_sieves_30 : decode cX3_sieves 30 = .ok (.iload_n 3, 1) := dk_29 (dk_at dksX3_sieves_1 6 rfl rfl)
theorem dX3_sieves_31 : decode cX3_sieves 31 = .ok (.sipush 999, 3) := dk_17 3 231 (dk_at dksX3_sieves_1 7 rfl rfl)
theorem dX3_sieves_34 : decode cX3_sieves 34 = .ok (.if_icmp .gt 31, 3) := dk_163 0 31 (dk_at dksX3_sieves_1 10 rfl rfl)
theorem dX3_sieves_37 : decode cX3_sieves 37 = .ok (.iload_n 2, 1) := dk_28 (dk_at dksX3_sieves_1 13 rfl rfl)
theorem dX3_sieves_38 : decode cX3_sieves 38 = .ok (.iconst 1, 1) := dk_4 (dk_at dksX3_sieves_1 14 rfl rfl)
theorem dX3_sieves_39 : decode cX3_sieves 39 = .ok (.if_icmp .le 26, 3) := dk_164 0 26 (dk_at dksX3_sieves_1 15 rfl rfl)
theorem dX3_sieves_42 : decode cX3_sieves 42 = .ok (.aload_n 0, 1) := dk_42 (dk_at dksX3_sieves_1 18 rfl rfl)
theorem dX3_sieves_43 : decode cX3_sieves 43 = .ok (.getfield 32, 3) := dk_180 0 32 (dk_at dksX3_sieves_1 19 rfl rfl)
theorem dX3_sieves_46 : decode cX3_sieves 46 = .ok (.iload_n 2, 1) := dk_28 (dk_at dksX3_sieves_1 22 rfl rfl)
theorem dX3_sieves_47 : decode cX3_sieves 47 = .ok (.baload, 1) := dk_51 (dk_at dksX3_sieves_1 23 rfl rfl)
theorem dX3_sieves_48 : decode cX3_sieves 48 = .ok (.ifCond .ne 17, 3) := dk_154 0 17 (dk_at dksX3_sieves_2 0 rfl rfl)
theorem dX3_sieves_51 : decode cX3_sieves 51 = .ok (.aload_n 0, 1) := dk_42 (dk_at dksX3_sieves_2 3 rfl rfl)
theorem dX3_sieves_52 : decode cX3_sieves 52 = .ok (.getfield 32, 3) := dk_180 0 32 (dk_at dksX3_sieves_2 4 rfl rfl)
theorem dX3_sieves_55 : decode cX3_sieves 55 = .ok (.iload_n 3, 1) := dk_29 (dk_at dksX3_sieves_2 7 rfl rfl)
theorem dX3_sieves_56 : decode cX3_sieves 56 = .ok (.iconst 1, 1) := dk_4 (dk_at dksX3_sieves_2 8 rfl rfl)
theorem dX3_sieves_57 : decode cX3_sieves 57 = .ok (.bastore, 1) := dk_84 (dk_at dksX3_sieves_2 9 rfl rfl)
theorem dX3_sieves_58 : decode cX3_sieves 58 = .ok (.iload_n 3, 1) := dk_29 (dk_at dksX3_sieves_2 10 rfl rfl)
theorem dX3_sieves_59 : decode cX3_sieves 59 = .ok (.iload_n 2, 1) := dk_28 (dk_at dksX3_sieves_2 11 rfl rfl)
theorem dX3_sieves_60 : decode cX3_sieves 60 = .ok (.iadd, 1) := dk_96 (dk_at dksX3_sieves_2 12 rfl rfl)
theorem dX3_sieves_61 : decode cX3_sieves 61 = .ok (.istore_n 3, 1) := dk_62 (dk_at dksX3_sieves_2 13 rfl rfl)
theorem dX3_sieves_62 : decode cX3_sieves 62 = .ok (.goto (-32), 3) := dk_167 255 224 (dk_at dksX3_sieves_2 14 rfl rfl)
theorem dX3_sieves_65 : decode cX3_sieves 65 = .ok (.return_, 1) := dk_177 (dk_at dksX3_sieves_2 17 rfl rfl)
abbrev cX3_isReader : ByteArray := prog_18_method_9_code
def yX3_isReader : MethodName := ⟨RX3, "isReader", "([II)Z"⟩
def dkwX3_isReader_0 : List UInt8 := [27, 133, 9, 42, 4, 46, 4, 100, 133, 184, 0, 43, 172]
abbrev dktX3_isReader_0 : List UInt8 := dkwX3_isReader_0 ++ []
theorem dksX3_isReader_0 : cX3_isReader.data.toList.drop 0 = dktX3_isReader_0 := by decide +kernel
theorem dX3_isReader_0 : decode cX3_isReader 0 = .ok (.iload_n 1, 1) := dk_27 (dk_at dksX3_isReader_0 0 rfl rfl)
theorem dX3_isReader_1 : decode cX3_isReader 1 = .ok (.i2l, 1) := dk_133 (dk_at dksX3_isReader_0 1 rfl rfl)
theorem dX3_isReader_2 : decode cX3_isReader 2 = .ok (.lconst 0, 1) := dk_9 (dk_at dksX3_isReader_0 2 rfl rfl)
theorem dX3_isReader_3 : decode cX3_isReader 3 = .ok (.aload_n 0, 1) := dk_42 (dk_at dksX3_isReader_0 3 rfl rfl)
theorem dX3_isReader_4 : decode cX3_isReader 4 = .ok (.iconst 1, 1) := dk_4 (dk_at dksX3_isReader_0 4 rfl rfl)
theorem dX3_isReader_5 : decode cX3_isReader 5 = .ok (.iaload, 1) := dk_46 (dk_at dksX3_isReader_0 5 rfl rfl)
theorem dX3_isReader_6 : decode cX3_isReader 6 = .ok (.iconst 1, 1) := dk_4 (dk_at dksX3_isReader_0 6 rfl rfl)
theorem dX3_isReader_7 : decode cX3_isReader 7 = .ok (.isub, 1) := dk_100 (dk_at dksX3_isReader_0 7 rfl rfl)
theorem dX3_isReader_8 : decode cX3_isReader 8 = .ok (.i2l, 1) := dk_133 (dk_at dksX3_isReader_0 8 rfl rfl)
theorem dX3_isReader_9 : decode cX3_isReader 9 = .ok (.invokestatic 43, 3) := dk_184 0 43 (dk_at dksX3_isReader_0 9 rfl rfl)
theorem dX3_isReader_12 : decode cX3_isReader 12 = .ok (.ireturn, 1) := dk_172 (dk_at dksX3_isReader_0 12 rfl rfl)
abbrev cX3_next : ByteArray := prog_18_method_20_code
def yX3_next : MethodName := ⟨RX3, "next", "([II)I"⟩
def dkwX3_next_0 : List UInt8 := [42, 43, 28, 184, 0, 73, 43, 28, 184, 0, 77, 182, 0, 80, 172]
abbrev dktX3_next_0 : List UInt8 := dkwX3_next_0 ++ []
theorem dksX3_next_0 : cX3_next.data.toList.drop 0 = dktX3_next_0 := by decide +kernel
theorem dX3_next_0 : decode cX3_next 0 = .ok (.aload_n 0, 1) := dk_42 (dk_at dksX3_next_0 0 rfl rfl)
theorem dX3_next_1 : decode cX3_next 1 = .ok (.aload_n 1, 1) := dk_43 (dk_at dksX3_next_0 1 rfl rfl)
theorem dX3_next_2 : decode cX3_next 2 = .ok (.iload_n 2, 1) := dk_28 (dk_at dksX3_next_0 2 rfl rfl)
theorem dX3_next_3 : decode cX3_next 3 = .ok (.invokestatic 73, 3) := dk_184 0 73 (dk_at dksX3_next_0 3 rfl rfl)
theorem dX3_next_6 : decode cX3_next 6 = .ok (.aload_n 1, 1) := dk_43 (dk_at dksX3_next_0 6 rfl rfl)
theorem dX3_next_7 : decode cX3_next 7 = .ok (.iload_n 2, 1) := dk_28 (dk_at dksX3_next_0 7 rfl rfl)
theorem dX3_next_8 : decode cX3_next 8 = .ok (.invokestatic 77, 3) := dk_184 0 77 (dk_at dksX3_next_0 8 rfl rfl)
theorem dX3_next_11 : decode cX3_next 11 = .ok (.invokevirtual 80, 3) := dk_182 0 80 (dk_at dksX3_next_0 11 rfl rfl)
theorem dX3_next_14 : decode cX3_next 14 = .ok (.ireturn, 1) := dk_172 (dk_at dksX3_next_0 14 rfl rfl)
abbrev cX3_listOfReader : ByteArray := prog_18_method_10_code
def yX3_listOfReader : MethodName := ⟨RX3, "listOfReader", "([II)I"⟩
def dkwX3_listOfReader_0 : List UInt8 := [42, 16, 51, 5, 27, 104, 96, 46, 172]
abbrev dktX3_listOfReader_0 : List UInt8 := dkwX3_listOfReader_0 ++ []
theorem dksX3_listOfReader_0 : cX3_listOfReader.data.toList.drop 0 = dktX3_listOfReader_0 := by decide +kernel
theorem dX3_listOfReader_0 : decode cX3_listOfReader 0 = .ok (.aload_n 0, 1) := dk_42 (dk_at dksX3_listOfReader_0 0 rfl rfl)
theorem dX3_listOfReader_1 : decode cX3_listOfReader 1 = .ok (.bipush 51, 2) := dk_16 51 (dk_at dksX3_listOfReader_0 1 rfl rfl)
theorem dX3_listOfReader_3 : decode cX3_listOfReader 3 = .ok (.iconst 2, 1) := dk_5 (dk_at dksX3_listOfReader_0 3 rfl rfl)
theorem dX3_listOfReader_4 : decode cX3_listOfReader 4 = .ok (.iload_n 1, 1) := dk_27 (dk_at dksX3_listOfReader_0 4 rfl rfl)
theorem dX3_listOfReader_5 : decode cX3_listOfReader 5 = .ok (.imul, 1) := dk_104 (dk_at dksX3_listOfReader_0 5 rfl rfl)
theorem dX3_listOfReader_6 : decode cX3_listOfReader 6 = .ok (.iadd, 1) := dk_96 (dk_at dksX3_listOfReader_0 6 rfl rfl)
theorem dX3_listOfReader_7 : decode cX3_listOfReader 7 = .ok (.iaload, 1) := dk_46 (dk_at dksX3_listOfReader_0 7 rfl rfl)
theorem dX3_listOfReader_8 : decode cX3_listOfReader 8 = .ok (.ireturn, 1) := dk_172 (dk_at dksX3_listOfReader_0 8 rfl rfl)
abbrev cX3_readBy : ByteArray := prog_18_method_11_code
def yX3_readBy : MethodName := ⟨RX3, "readBy", "([II)I"⟩
def dkwX3_readBy_0 : List UInt8 := [42, 16, 51, 5, 27, 104, 96, 4, 96, 46, 172]
abbrev dktX3_readBy_0 : List UInt8 := dkwX3_readBy_0 ++ []
theorem dksX3_readBy_0 : cX3_readBy.data.toList.drop 0 = dktX3_readBy_0 := by decide +kernel
theorem dX3_readBy_0 : decode cX3_readBy 0 = .ok (.aload_n 0, 1) := dk_42 (dk_at dksX3_readBy_0 0 rfl rfl)
theorem dX3_readBy_1 : decode cX3_readBy 1 = .ok (.bipush 51, 2) := dk_16 51 (dk_at dksX3_readBy_0 1 rfl rfl)
theorem dX3_readBy_3 : decode cX3_readBy 3 = .ok (.iconst 2, 1) := dk_5 (dk_at dksX3_readBy_0 3 rfl rfl)
theorem dX3_readBy_4 : decode cX3_readBy 4 = .ok (.iload_n 1, 1) := dk_27 (dk_at dksX3_readBy_0 4 rfl rfl)
theorem dX3_readBy_5 : decode cX3_readBy 5 = .ok (.imul, 1) := dk_104 (dk_at dksX3_readBy_0 5 rfl rfl)
theorem dX3_readBy_6 : decode cX3_readBy 6 = .ok (.iadd, 1) := dk_96 (dk_at dksX3_readBy_0 6 rfl rfl)
theorem dX3_readBy_7 : decode cX3_readBy 7 = .ok (.iconst 1, 1) := dk_4 (dk_at dksX3_readBy_0 7 rfl rfl)
theorem dX3_readBy_8 : decode cX3_readBy 8 = .ok (.iadd, 1) := dk_96 (dk_at dksX3_readBy_0 8 rfl rfl)
theorem dX3_readBy_9 : decode cX3_readBy 9 = .ok (.iaload, 1) := dk_46 (dk_at dksX3_readBy_0 9 rfl rfl)
theorem dX3_readBy_10 : decode cX3_readBy 10 = .ok (.ireturn, 1) := dk_172 (dk_at dksX3_readBy_0 10 rfl rfl)
abbrev cX3_at : ByteArray := prog_18_method_19_code
def yX3_at : MethodName := ⟨RX3, "at", "(II)I"⟩
def dkwX3_at_1 : List UInt8 := [28, 160, 0, 6, 21, 4, 172, 132, 3, 1, 132, 4, 1, 167, 255, 224, 2, 172]
abbrev dktX3_at_1 : List UInt8 := dkwX3_at_1 ++ []
def dkwX3_at_0 : List UInt8 := [3, 62, 3, 54, 4, 21, 4, 17, 3, 231, 163, 0, 30, 42, 27, 21, 4, 182, 0, 51, 153, 0, 14, 29]
abbrev dktX3_at_0 : List UInt8 := dkwX3_at_0 ++ dktX3_at_1
theorem dksX3_at_0 : cX3_at.data.toList.drop 0 = dktX3_at_0 := by decide +kernel
theorem dksX3_at_1 : cX3_at.data.toList.drop 24 = dktX3_at_1 := dk_seg dksX3_at_0 24 rfl rfl
theorem dX3_at_0 : decode cX3_at 0 = .ok (.iconst 0, 1) := dk_3 (dk_at dksX3_at_0 0 rfl rfl)
theorem dX3_at_1 : decode cX3_at 1 = .ok (.istore_n 3, 1) := dk_62 (dk_at dksX3_at_0 1 rfl rfl)
theorem dX3_at_2 : decode cX3_at 2 = .ok (.iconst 0, 1) := dk_3 (dk_at dksX3_at_0 2 rfl rfl)
theorem dX3_at_3 : decode cX3_at 3 = .ok (.istore 4, 2) := dk_54 4 (dk_at dksX3_at_0 3 rfl rfl)
theorem dX3_at_5 : decode cX3_at 5 = .ok (.iload 4, 2) := dk_21 4 (dk_at dksX3_at_0 5 rfl rfl)
theorem dX3_at_7 : decode cX3_at 7 = .ok (.sipush 999, 3) := dk_17 3 231 (dk_at dksX3_at_0 7 rfl rfl)
theorem dX3_at_10 : decode cX3_at 10 = .ok (.if_icmp .gt 30, 3) := dk_163 0 30 (dk_at dksX3_at_0 10 rfl rfl)
theorem dX3_at_13 : decode cX3_at 13 = .ok (.aload_n 0, 1) := dk_42 (dk_at dksX3_at_0 13 rfl rfl)
theorem dX3_at_14 : decode cX3_at 14 = .ok (.iload_n 1, 1) := dk_27 (dk_at dksX3_at_0 14 rfl rfl)
theorem dX3_at_15 : decode cX3_at 15 = .ok (.iload 4, 2) := dk_21 4 (dk_at dksX3_at_0 15 rfl rfl)
theorem dX3_at_17 : decode cX3_at 17 = .ok (.invokevirtual 51, 3) := dk_182 0 51 (dk_at dksX3_at_0 17 rfl rfl)
theorem dX3_at_20 : decode cX3_at 20 = .ok (.ifCond .eq 14, 3) := dk_153 0 14 (dk_at dksX3_at_0 20 rfl rfl)
theorem dX3_at_23 : decode cX3_at 23 = .ok (.iload_n 3, 1) := dk_29 (dk_at dksX3_at_0 23 rfl rfl)
theorem dX3_at_24 : decode cX3_at 24 = .ok (.iload_n 2, 1) := dk_28 (dk_at dksX3_at_1 0 rfl rfl)
theorem dX3_at_25 : decode cX3_at 25 = .ok (.if_icmp .ne 6, 3) := dk_160 0 6 (dk_at dksX3_at_1 1 rfl rfl)
theorem dX3_at_28 : decode cX3_at 28 = .ok (.iload 4, 2) := dk_21 4 (dk_at dksX3_at_1 4 rfl rfl)
theorem dX3_at_30 : decode cX3_at 30 = .ok (.ireturn, 1) := dk_172 (dk_at dksX3_at_1 6 rfl rfl)
theorem dX3_at_31 : decode cX3_at 31 = .ok (.iinc 3 1, 3) := dk_132 3 1 (dk_at dksX3_at_1 7 rfl rfl)
theorem dX3_at_34 : decode cX3_at 34 = .ok (.iinc 4 1, 3) := dk_132 4 1 (dk_at dksX3_at_1 10 rfl rfl)
theorem dX3_at_37 : decode cX3_at 37 = .ok (.goto (-32), 3) := dk_167 255 224 (dk_at dksX3_at_1 13 rfl rfl)
theorem dX3_at_40 : decode cX3_at 40 = .ok (.iconst (-1), 1) := dk_2 (dk_at dksX3_at_1 16 rfl rfl)
theorem dX3_at_41 : decode cX3_at 41 = .ok (.ireturn, 1) := dk_172 (dk_at dksX3_at_1 17 rfl rfl)
abbrev cX3_readOn : ByteArray := prog_18_method_25_code
def yX3_readOn : MethodName := ⟨RX3, "readOn", "([II)I"⟩
def dkwX3_readOn_1 : List UInt8 := [46, 4, 96, 79, 29, 172]
abbrev dktX3_readOn_1 : List UInt8 := dkwX3_readOn_1 ++ []
def dkwX3_readOn_0 : List UInt8 := [42, 43, 28, 182, 0, 84, 62, 43, 16, 51, 5, 28, 104, 96, 4, 96, 92, 46, 4, 96, 79, 43, 5, 92]
abbrev dktX3_readOn_0 : List UInt8 := dkwX3_readOn_0 ++ dktX3_readOn_1
theorem dksX3_readOn_0 : cX3_readOn.data.toList.drop 0 = dktX3_readOn_0 := by decide +kernel
theorem dksX3_readOn_1 : cX3_readOn.data.toList.drop 24 = dktX3_readOn_1 := dk_seg dksX3_readOn_0 24 rfl rfl
theorem dX3_readOn_0 : decode cX3_readOn 0 = .ok (.aload_n 0, 1) := dk_42 (dk_at dksX3_readOn_0 0 rfl rfl)
theorem dX3_readOn_1 : decode cX3_readOn 1 = .ok (.aload_n 1, 1) := dk_43 (dk_at dksX3_readOn_0 1 rfl rfl)
theorem dX3_readOn_2 : decode cX3_readOn 2 = .ok (.iload_n 2, 1) := dk_28 (dk_at dksX3_readOn_0 2 rfl rfl)
theorem dX3_readOn_3 : decode cX3_readOn 3 = .ok (.invokevirtual 84, 3) := dk_182 0 84 (dk_at dksX3_readOn_0 3 rfl rfl)
theorem dX3_readOn_6 : decode cX3_readOn 6 = .ok (.istore_n 3, 1) := dk_62 (dk_at dksX3_readOn_0 6 rfl rfl)
theorem dX3_readOn_7 : decode cX3_readOn 7 = .ok (.aload_n 1, 1) := dk_43 (dk_at dksX3_readOn_0 7 rfl rfl)
theorem dX3_readOn_8 : decode cX3_readOn 8 = .ok (.bipush 51, 2) := dk_16 51 (dk_at dksX3_readOn_0 8 rfl rfl)
theorem dX3_readOn_10 : decode cX3_readOn 10 = .ok (.iconst 2, 1) := dk_5 (dk_at dksX3_readOn_0 10 rfl rfl)
theorem dX3_readOn_11 : decode cX3_readOn 11 = .ok (.iload_n 2, 1) := dk_28 (dk_at dksX3_readOn_0 11 rfl rfl)
theorem dX3_readOn_12 : decode cX3_readOn 12 = .ok (.imul, 1) := dk_104 (dk_at dksX3_readOn_0 12 rfl rfl)
theorem dX3_readOn_13 : decode cX3_readOn 13 = .ok (.iadd, 1) := dk_96 (dk_at dksX3_readOn_0 13 rfl rfl)
theorem dX3_readOn_14 : decode cX3_readOn 14 = .ok (.iconst 1, 1) := dk_4 (dk_at dksX3_readOn_0 14 rfl rfl)
theorem dX3_readOn_15 : decode cX3_readOn 15 = .ok (.iadd, 1) := dk_96 (dk_at dksX3_readOn_0 15 rfl rfl)
theorem dX3_readOn_16 : decode cX3_readOn 16 = .ok (.dup2, 1) := dk_92 (dk_at dksX3_readOn_0 16 rfl rfl)
theorem dX3_readOn_17 : decode cX3_readOn 17 = .ok (.iaload, 1) := dk_46 (dk_at dksX3_readOn_0 17 rfl rfl)
theorem dX3_readOn_18 : decode cX3_readOn 18 = .ok (.iconst 1, 1) := dk_4 (dk_at dksX3_readOn_0 18 rfl rfl)
theorem dX3_readOn_19 : decode cX3_readOn 19 = .ok (.iadd, 1) := dk_96 (dk_at dksX3_readOn_0 19 rfl rfl)
theorem dX3_readOn_20 : decode cX3_readOn 20 = .ok (.iastore, 1) := dk_79 (dk_at dksX3_readOn_0 20 rfl rfl)
theorem dX3_readOn_21 : decode cX3_readOn 21 = .ok (.aload_n 1, 1) := dk_43 (dk_at dksX3_readOn_0 21 rfl rfl)
theorem dX3_readOn_22 : decode cX3_readOn 22 = .ok (.iconst 2, 1) := dk_5 (dk_at dksX3_readOn_0 22 rfl rfl)
theorem dX3_readOn_23 : decode cX3_readOn 23 = .ok (.dup2, 1) := dk_92 (dk_at dksX3_readOn_0 23 rfl rfl)
theorem dX3_readOn_24 : decode cX3_readOn 24 = .ok (.iaload, 1) := dk_46 (dk_at dksX3_readOn_1 0 rfl rfl)
theorem dX3_readOn_25 : decode cX3_readOn 25 = .ok (.iconst 1, 1) := dk_4 (dk_at dksX3_readOn_1 1 rfl rfl)
theorem dX3_readOn_26 : decode cX3_readOn 26 = .ok (.iadd, 1) := dk_96 (dk_at dksX3_readOn_1 2 rfl rfl)
theorem dX3_readOn_27 : decode cX3_readOn 27 = .ok (.iastore, 1) := dk_79 (dk_at dksX3_readOn_1 3 rfl rfl)
theorem dX3_readOn_28 : decode cX3_readOn 28 = .ok (.iload_n 3, 1) := dk_29 (dk_at dksX3_readOn_1 4 rfl rfl)
theorem dX3_readOn_29 : decode cX3_readOn 29 = .ok (.ireturn, 1) := dk_172 (dk_at dksX3_readOn_1 5 rfl rfl)
abbrev cX3_skipOn : ByteArray := prog_18_method_26_code
def yX3_skipOn : MethodName := ⟨RX3, "skipOn", "([III)I"⟩
def dkwX3_skipOn_2 : List UInt8 := [96, 79, 21, 5, 172]
abbrev dktX3_skipOn_2 : List UInt8 := dkwX3_skipOn_2 ++ []
def dkwX3_skipOn_1 : List UInt8 := [162, 0, 7, 29, 167, 0, 5, 21, 4, 54, 5, 43, 16, 51, 5, 28, 104, 96, 4, 96, 92, 46, 21, 5]
abbrev dktX3_skipOn_1 : List UInt8 := dkwX3_skipOn_1 ++ dktX3_skipOn_2
def dkwX3_skipOn_0 : List UInt8 := [42, 43, 28, 184, 0, 73, 17, 3, 231, 182, 0, 87, 43, 28, 184, 0, 77, 100, 54, 4, 29, 21, 4]
abbrev dktX3_skipOn_0 : List UInt8 := dkwX3_skipOn_0 ++ dktX3_skipOn_1
theorem dksX3_skipOn_0 : cX3_skipOn.data.toList.drop 0 = dktX3_skipOn_0 := by decide +kernel
theorem dksX3_skipOn_1 : cX3_skipOn.data.toList.drop 23 = dktX3_skipOn_1 := dk_seg dksX3_skipOn_0 23 rfl rfl
theorem dksX3_skipOn_2 : cX3_skipOn.data.toList.drop 47 = dktX3_skipOn_2 := dk_seg dksX3_skipOn_1 24 rfl rfl
theorem dX3_skipOn_0 : decode cX3_skipOn 0 = .ok (.aload_n 0, 1) := dk_42 (dk_at dksX3_skipOn_0 0 rfl rfl)
theorem dX3_skipOn_1 : decode cX3_skipOn 1 = .ok (.aload_n 1, 1) := dk_43 (dk_at dksX3_skipOn_0 1 rfl rfl)
theorem dX3_skipOn_2 : decode cX3_skipOn 2 = .ok (.iload_n 2, 1) := dk_28 (dk_at dksX3_skipOn_0 2 rfl rfl)
theorem dX3_skipOn_3 : decode cX3_skipOn 3 = .ok (.invokestatic 73, 3) := dk_184 0 73 (dk_at dksX3_skipOn_0 3 rfl rfl)
theorem dX3_skipOn_6 : decode cX3_skipOn 6 = .ok (.sipush 999, 3) := dk_17 3 231 (dk_at dksX3_skipOn_0 6 rfl rfl)
theorem dX3_skipOn_9 : decode cX3_skipOn 9 = .ok (.invokevirtual 87, 3) := dk_182 0 87 (dk_at dksX3_skipOn_0 9 rfl rfl)
theorem dX3_skipOn_12 : decode cX3_skipOn 12 = .ok (.aload_n 1, 1) := dk_43 (dk_at dksX3_skipOn_0 12 rfl rfl)
theorem dX3_skipOn_13 : decode cX3_skipOn 13 = .ok (.iload_n 2, 1) := dk_28 (dk_at dksX3_skipOn_0 13 rfl rfl)
theorem dX3_skipOn_14 : decode cX3_skipOn 14 = .ok (.invokestatic 77, 3) := dk_184 0 77 (dk_at dksX3_skipOn_0 14 rfl rfl)
theorem dX3_skipOn_17 : decode cX3_skipOn 17 = .ok (.isub, 1) := dk_100 (dk_at dksX3_skipOn_0 17 rfl rfl)
theorem dX3_skipOn_18 : decode cX3_skipOn 18 = .ok (.istore 4, 2) := dk_54 4 (dk_at dksX3_skipOn_0 18 rfl rfl)
theorem dX3_skipOn_20 : decode cX3_skipOn 20 = .ok (.iload_n 3, 1) := dk_29 (dk_at dksX3_skipOn_0 20 rfl rfl)
theorem dX3_skipOn_21 : decode cX3_skipOn 21 = .ok (.iload 4, 2) := dk_21 4 (dk_at dksX3_skipOn_0 21 rfl rfl)
theorem dX3_skipOn_23 : decode cX3_skipOn 23 = .ok (.if_icmp .ge 7, 3) := dk_162 0 7 (dk_at dksX3_skipOn_1 0 rfl rfl)
theorem dX3_skipOn_26 : decode cX3_skipOn 26 = .ok (.iload_n 3, 1) := dk_29 (dk_at dksX3_skipOn_1 3 rfl rfl)
theorem dX3_skipOn_27 : decode cX3_skipOn 27 = .ok (.goto 5, 3) := dk_167 0 5 (dk_at dksX3_skipOn_1 4 rfl rfl)
theorem dX3_skipOn_30 : decode cX3_skipOn 30 = .ok (.iload 4, 2) := dk_21 4 (dk_at dksX3_skipOn_1 7 rfl rfl)
theorem dX3_skipOn_32 : decode cX3_skipOn 32 = .ok (.istore 5, 2) := dk_54 5 (dk_at dksX3_skipOn_1 9 rfl rfl)
theorem dX3_skipOn_34 : decode cX3_skipOn 34 = .ok (.aload_n 1, 1) := dk_43 (dk_at dksX3_skipOn_1 11 rfl rfl)
theorem dX3_skipOn_35 : decode cX3_skipOn 35 = .ok (.bipush 51, 2) := dk_16 51 (dk_at dksX3_skipOn_1 12 rfl rfl)
theorem dX3_skipOn_37 : decode cX3_skipOn 37 = .ok (.iconst 2, 1) := dk_5 (dk_at dksX3_skipOn_1 14 rfl rfl)
theorem dX3_skipOn_38 : decode cX3_skipOn 38 = .ok (.iload_n 2, 1) := dk_28 (dk_at dksX3_skipOn_1 15 rfl rfl)
theorem dX3_skipOn_39 : decode cX3_skipOn 39 = .ok (.imul, 1) := dk_104 (dk_at dksX3_skipOn_1 16 rfl rfl)
theorem dX3_skipOn_40 : decode cX3_skipOn 40 = .ok (.iadd, 1) := dk_96 (dk_at dksX3_skipOn_1 17 rfl rfl)
theorem dX3_skipOn_41 : decode cX3_skipOn 41 = .ok (.iconst 1, 1) := dk_4 (dk_at dksX3_skipOn_1 18 rfl rfl)
theorem dX3_skipOn_42 : decode cX3_skipOn 42 = .ok (.iadd, 1) := dk_96 (dk_at dksX3_skipOn_1 19 rfl rfl)
theorem dX3_skipOn_43 : decode cX3_skipOn 43 = .ok (.dup2, 1) := dk_92 (dk_at dksX3_skipOn_1 20 rfl rfl)
theorem dX3_skipOn_44 : decode cX3_skipOn 44 = .ok (.iaload, 1) := dk_46 (dk_at dksX3_skipOn_1 21 rfl rfl)
theorem dX3_skipOn_45 : decode cX3_skipOn 45 = .ok (.iload 5, 2) := dk_21 5 (dk_at dksX3_skipOn_1 22 rfl rfl)
theorem dX3_skipOn_47 : decode cX3_skipOn 47 = .ok (.iadd, 1) := dk_96 (dk_at dksX3_skipOn_2 0 rfl rfl)
theorem dX3_skipOn_48 : decode cX3_skipOn 48 = .ok (.iastore, 1) := dk_79 (dk_at dksX3_skipOn_2 1 rfl rfl)
theorem dX3_skipOn_49 : decode cX3_skipOn 49 = .ok (.iload 5, 2) := dk_21 5 (dk_at dksX3_skipOn_2 2 rfl rfl)
theorem dX3_skipOn_51 : decode cX3_skipOn 51 = .ok (.ireturn, 1) := dk_172 (dk_at dksX3_skipOn_2 4 rfl rfl)
abbrev cX3_countUpTo : ByteArray := prog_18_method_18_code
def yX3_countUpTo : MethodName := ⟨RX3, "countUpTo", "(II)I"⟩
def dkwX3_countUpTo_1 : List UInt8 := [167, 0, 4, 3, 96, 62, 132, 4, 1, 167, 255, 229, 29, 172]
abbrev dktX3_countUpTo_1 : List UInt8 := dkwX3_countUpTo_1 ++ []
def dkwX3_countUpTo_0 : List UInt8 := [3, 62, 3, 54, 4, 21, 4, 28, 163, 0, 27, 29, 42, 27, 21, 4, 182, 0, 51, 153, 0, 7, 4]
abbrev dktX3_countUpTo_0 : List UInt8 := dkwX3_countUpTo_0 ++ dktX3_countUpTo_1
theorem dksX3_countUpTo_0 : cX3_countUpTo.data.toList.drop 0 = dktX3_countUpTo_0 := by decide +kernel
theorem dksX3_countUpTo_1 : cX3_countUpTo.data.toList.drop 23 = dktX3_countUpTo_1 := dk_seg dksX3_countUpTo_0 23 rfl rfl
theorem dX3_countUpTo_0 : decode cX3_countUpTo 0 = .ok (.iconst 0, 1) := dk_3 (dk_at dksX3_countUpTo_0 0 rfl rfl)
theorem dX3_countUpTo_1 : decode cX3_countUpTo 1 = .ok (.istore_n 3, 1) := dk_62 (dk_at dksX3_countUpTo_0 1 rfl rfl)
theorem dX3_countUpTo_2 : decode cX3_countUpTo 2 = .ok (.iconst 0, 1) := dk_3 (dk_at dksX3_countUpTo_0 2 rfl rfl)
theorem dX3_countUpTo_3 : decode cX3_countUpTo 3 = .ok (.istore 4, 2) := dk_54 4 (dk_at dksX3_countUpTo_0 3 rfl rfl)
theorem dX3_countUpTo_5 : decode cX3_countUpTo 5 = .ok (.iload 4, 2) := dk_21 4 (dk_at dksX3_countUpTo_0 5 rfl rfl)
theorem dX3_countUpTo_7 : decode cX3_countUpTo 7 = .ok (.iload_n 2, 1) := dk_28 (dk_at dksX3_countUpTo_0 7 rfl rfl)
theorem dX3_countUpTo_8 : decode cX3_countUpTo 8 = .ok (.if_icmp .gt 27, 3) := dk_163 0 27 (dk_at dksX3_countUpTo_0 8 rfl rfl)
theorem dX3_countUpTo_11 : decode cX3_countUpTo 11 = .ok (.iload_n 3, 1) := dk_29 (dk_at dksX3_countUpTo_0 11 rfl rfl)
theorem dX3_countUpTo_12 : decode cX3_countUpTo 12 = .ok (.aload_n 0, 1) := dk_42 (dk_at dksX3_countUpTo_0 12 rfl rfl)
theorem dX3_countUpTo_13 : decode cX3_countUpTo 13 = .ok (.iload_n 1, 1) := dk_27 (dk_at dksX3_countUpTo_0 13 rfl rfl)
theorem dX3_countUpTo_14 : decode cX3_countUpTo 14 = .ok (.iload 4, 2) := dk_21 4 (dk_at dksX3_countUpTo_0 14 rfl rfl)
theorem dX3_countUpTo_16 : decode cX3_countUpTo 16 = .ok (.invokevirtual 51, 3) := dk_182 0 51 (dk_at dksX3_countUpTo_0 16 rfl rfl)
theorem dX3_countUpTo_19 : decode cX3_countUpTo 19 = .ok (.ifCond .eq 7, 3) := dk_153 0 7 (dk_at dksX3_countUpTo_0 19 rfl rfl)
theorem dX3_countUpTo_22 : decode cX3_countUpTo 22 = .ok (.iconst 1, 1) := dk_4 (dk_at dksX3_countUpTo_0 22 rfl rfl)
theorem dX3_countUpTo_23 : decode cX3_countUpTo 23 = .ok (.goto 4, 3) := dk_167 0 4 (dk_at dksX3_countUpTo_1 0 rfl rfl)
theorem dX3_countUpTo_26 : decode cX3_countUpTo 26 = .ok (.iconst 0, 1) := dk_3 (dk_at dksX3_countUpTo_1 3 rfl rfl)
theorem dX3_countUpTo_27 : decode cX3_countUpTo 27 = .ok (.iadd, 1) := dk_96 (dk_at dksX3_countUpTo_1 4 rfl rfl)
theorem dX3_countUpTo_28 : decode cX3_countUpTo 28 = .ok (.istore_n 3, 1) := dk_62 (dk_at dksX3_countUpTo_1 5 rfl rfl)
theorem dX3_countUpTo_29 : decode cX3_countUpTo 29 = .ok (.iinc 4 1, 3) := dk_132 4 1 (dk_at dksX3_countUpTo_1 6 rfl rfl)
theorem dX3_countUpTo_32 : decode cX3_countUpTo 32 = .ok (.goto (-27), 3) := dk_167 255 229 (dk_at dksX3_countUpTo_1 9 rfl rfl)
theorem dX3_countUpTo_35 : decode cX3_countUpTo 35 = .ok (.iload_n 3, 1) := dk_29 (dk_at dksX3_countUpTo_1 12 rfl rfl)
theorem dX3_countUpTo_36 : decode cX3_countUpTo 36 = .ok (.ireturn, 1) := dk_172 (dk_at dksX3_countUpTo_1 13 rfl rfl)
abbrev cX3_backOn : ByteArray := prog_18_method_27_code
def yX3_backOn : MethodName := ⟨RX3, "backOn", "([II)I"⟩
def dkwX3_backOn_0 : List UInt8 := [42, 27, 184, 0, 77, 61, 42, 16, 51, 5, 27, 104, 96, 4, 96, 3, 79, 28, 172]
abbrev dktX3_backOn_0 : List UInt8 := dkwX3_backOn_0 ++ []
theorem dksX3_backOn_0 : cX3_backOn.data.toList.drop 0 = dktX3_backOn_0 := by decide +kernel
theorem dX3_backOn_0 : decode cX3_backOn 0 = .ok (.aload_n 0, 1) := dk_42 (dk_at dksX3_backOn_0 0 rfl rfl)
theorem dX3_backOn_1 : decode cX3_backOn 1 = .ok (.iload_n 1, 1) := dk_27 (dk_at dksX3_backOn_0 1 rfl rfl)
theorem dX3_backOn_2 : decode cX3_backOn 2 = .ok (.invokestatic 77, 3) := dk_184 0 77 (dk_at dksX3_backOn_0 2 rfl rfl)
theorem dX3_backOn_5 : decode cX3_backOn 5 = .ok (.istore_n 2, 1) := dk_61 (dk_at dksX3_backOn_0 5 rfl rfl)
theorem dX3_backOn_6 : decode cX3_backOn 6 = .ok (.aload_n 0, 1) := dk_42 (dk_at dksX3_backOn_0 6 rfl rfl)
theorem dX3_backOn_7 : decode cX3_backOn 7 = .ok (.bipush 51, 2) := dk_16 51 (dk_at dksX3_backOn_0 7 rfl rfl)
theorem dX3_backOn_9 : decode cX3_backOn 9 = .ok (.iconst 2, 1) := dk_5 (dk_at dksX3_backOn_0 9 rfl rfl)
theorem dX3_backOn_10 : decode cX3_backOn 10 = .ok (.iload_n 1, 1) := dk_27 (dk_at dksX3_backOn_0 10 rfl rfl)
theorem dX3_backOn_11 : decode cX3_backOn 11 = .ok (.imul, 1) := dk_104 (dk_at dksX3_backOn_0 11 rfl rfl)
theorem dX3_backOn_12 : decode cX3_backOn 12 = .ok (.iadd, 1) := dk_96 (dk_at dksX3_backOn_0 12 rfl rfl)
theorem dX3_backOn_13 : decode cX3_backOn 13 = .ok (.iconst 1, 1) := dk_4 (dk_at dksX3_backOn_0 13 rfl rfl)
theorem dX3_backOn_14 : decode cX3_backOn 14 = .ok (.iadd, 1) := dk_96 (dk_at dksX3_backOn_0 14 rfl rfl)
theorem dX3_backOn_15 : decode cX3_backOn 15 = .ok (.iconst 0, 1) := dk_3 (dk_at dksX3_backOn_0 15 rfl rfl)
theorem dX3_backOn_16 : decode cX3_backOn 16 = .ok (.iastore, 1) := dk_79 (dk_at dksX3_backOn_0 16 rfl rfl)
theorem dX3_backOn_17 : decode cX3_backOn 17 = .ok (.iload_n 2, 1) := dk_28 (dk_at dksX3_backOn_0 17 rfl rfl)
theorem dX3_backOn_18 : decode cX3_backOn 18 = .ok (.ireturn, 1) := dk_172 (dk_at dksX3_backOn_0 18 rfl rfl)
abbrev cX3_stopOn : ByteArray := prog_18_method_28_code
def yX3_stopOn : MethodName := ⟨RX3, "stopOn", "([II)I"⟩
def dkwX3_stopOn_1 : List UInt8 := [28, 5, 96, 46, 79, 132, 2, 1, 167, 255, 231, 42, 4, 92, 46, 4, 100, 79, 42, 4, 46, 172]
abbrev dktX3_stopOn_1 : List UInt8 := dkwX3_stopOn_1 ++ []
def dkwX3_stopOn_0 : List UInt8 := [16, 51, 5, 27, 104, 96, 61, 28, 16, 51, 5, 42, 4, 46, 4, 100, 104, 96, 162, 0, 17, 42, 28, 42]
abbrev dktX3_stopOn_0 : List UInt8 := dkwX3_stopOn_0 ++ dktX3_stopOn_1
theorem dksX3_stopOn_0 : cX3_stopOn.data.toList.drop 0 = dktX3_stopOn_0 := by decide +kernel
theorem dksX3_stopOn_1 : cX3_stopOn.data.toList.drop 24 = dktX3_stopOn_1 := dk_seg dksX3_stopOn_0 24 rfl rfl
theorem dX3_stopOn_0 : decode cX3_stopOn 0 = .ok (.bipush 51, 2) := dk_16 51 (dk_at dksX3_stopOn_0 0 rfl rfl)
theorem dX3_stopOn_2 : decode cX3_stopOn 2 = .ok (.iconst 2, 1) := dk_5 (dk_at dksX3_stopOn_0 2 rfl rfl)
theorem dX3_stopOn_3 : decode cX3_stopOn 3 = .ok (.iload_n 1, 1) := dk_27 (dk_at dksX3_stopOn_0 3 rfl rfl)
theorem dX3_stopOn_4 : decode cX3_stopOn 4 = .ok (.imul, 1) := dk_104 (dk_at dksX3_stopOn_0 4 rfl rfl)
theorem dX3_stopOn_5 : decode cX3_stopOn 5 = .ok (.iadd, 1) := dk_96 (dk_at dksX3_stopOn_0 5 rfl rfl)
theorem dX3_stopOn_6 : decode cX3_stopOn 6 = .ok (.istore_n 2, 1) := dk_61 (dk_at dksX3_stopOn_0 6 rfl rfl)
theorem dX3_stopOn_7 : decode cX3_stopOn 7 = .ok (.iload_n 2, 1) := dk_28 (dk_at dksX3_stopOn_0 7 rfl rfl)
theorem dX3_stopOn_8 : decode cX3_stopOn 8 = .ok (.bipush 51, 2) := dk_16 51 (dk_at dksX3_stopOn_0 8 rfl rfl)
theorem dX3_stopOn_10 : decode cX3_stopOn 10 = .ok (.iconst 2, 1) := dk_5 (dk_at dksX3_stopOn_0 10 rfl rfl)
theorem dX3_stopOn_11 : decode cX3_stopOn 11 = .ok (.aload_n 0, 1) := dk_42 (dk_at dksX3_stopOn_0 11 rfl rfl)
theorem dX3_stopOn_12 : decode cX3_stopOn 12 = .ok (.iconst 1, 1) := dk_4 (dk_at dksX3_stopOn_0 12 rfl rfl)
theorem dX3_stopOn_13 : decode cX3_stopOn 13 = .ok (.iaload, 1) := dk_46 (dk_at dksX3_stopOn_0 13 rfl rfl)
theorem dX3_stopOn_14 : decode cX3_stopOn 14 = .ok (.iconst 1, 1) := dk_4 (dk_at dksX3_stopOn_0 14 rfl rfl)
theorem dX3_stopOn_15 : decode cX3_stopOn 15 = .ok (.isub, 1) := dk_100 (dk_at dksX3_stopOn_0 15 rfl rfl)
theorem dX3_stopOn_16 : decode cX3_stopOn 16 = .ok (.imul, 1) := dk_104 (dk_at dksX3_stopOn_0 16 rfl rfl)
theorem dX3_stopOn_17 : decode cX3_stopOn 17 = .ok (.iadd, 1) := dk_96 (dk_at dksX3_stopOn_0 17 rfl rfl)
theorem dX3_stopOn_18 : decode cX3_stopOn 18 = .ok (.if_icmp .ge 17, 3) := dk_162 0 17 (dk_at dksX3_stopOn_0 18 rfl rfl)
theorem dX3_stopOn_21 : decode cX3_stopOn 21 = .ok (.aload_n 0, 1) := dk_42 (dk_at dksX3_stopOn_0 21 rfl rfl)
theorem dX3_stopOn_22 : decode cX3_stopOn 22 = .ok (.iload_n 2, 1) := dk_28 (dk_at dksX3_stopOn_0 22 rfl rfl)
theorem dX3_stopOn_23 : decode cX3_stopOn 23 = .ok (.aload_n 0, 1) := dk_42 (dk_at dksX3_stopOn_0 23 rfl rfl)
theorem dX3_stopOn_24 : decode cX3_stopOn 24 = .ok (.iload_n 2, 1) := dk_28 (dk_at dksX3_stopOn_1 0 rfl rfl)
theorem dX3_stopOn_25 : decode cX3_stopOn 25 = .ok (.iconst 2, 1) := dk_5 (dk_at dksX3_stopOn_1 1 rfl rfl)
theorem dX3_stopOn_26 : decode cX3_stopOn 26 = .ok (.iadd, 1) := dk_96 (dk_at dksX3_stopOn_1 2 rfl rfl)
theorem dX3_stopOn_27 : decode cX3_stopOn 27 = .ok (.iaload, 1) := dk_46 (dk_at dksX3_stopOn_1 3 rfl rfl)
theorem dX3_stopOn_28 : decode cX3_stopOn 28 = .ok (.iastore, 1) := dk_79 (dk_at dksX3_stopOn_1 4 rfl rfl)
theorem dX3_stopOn_29 : decode cX3_stopOn 29 = .ok (.iinc 2 1, 3) := dk_132 2 1 (dk_at dksX3_stopOn_1 5 rfl rfl)
theorem dX3_stopOn_32 : decode cX3_stopOn 32 = .ok (.goto (-25), 3) := dk_167 255 231 (dk_at dksX3_stopOn_1 8 rfl rfl)
theorem dX3_stopOn_35 : decode cX3_stopOn 35 = .ok (.aload_n 0, 1) := dk_42 (dk_at dksX3_stopOn_1 11 rfl rfl)
theorem dX3_stopOn_36 : decode cX3_stopOn 36 = .ok (.iconst 1, 1) := dk_4 (dk_at dksX3_stopOn_1 12 rfl rfl)
theorem dX3_stopOn_37 : decode cX3_stopOn 37 = .ok (.dup2, 1) := dk_92 (dk_at dksX3_stopOn_1 13 rfl rfl)
theorem dX3_stopOn_38 : decode cX3_stopOn 38 = .ok (.iaload, 1) := dk_46 (dk_at dksX3_stopOn_1 14 rfl rfl)
theorem dX3_stopOn_39 : decode cX3_stopOn 39 = .ok (.iconst 1, 1) := dk_4 (dk_at dksX3_stopOn_1 15 rfl rfl)
theorem dX3_stopOn_40 : decode cX3_stopOn 40 = .ok (.isub, 1) := dk_100 (dk_at dksX3_stopOn_1 16 rfl rfl)
theorem dX3_stopOn_41 : decode cX3_stopOn 41 = .ok (.iastore, 1) := dk_79 (dk_at dksX3_stopOn_1 17 rfl rfl)
theorem dX3_stopOn_42 : decode cX3_stopOn 42 = .ok (.aload_n 0, 1) := dk_42 (dk_at dksX3_stopOn_1 18 rfl rfl)
theorem dX3_stopOn_43 : decode cX3_stopOn 43 = .ok (.iconst 1, 1) := dk_4 (dk_at dksX3_stopOn_1 19 rfl rfl)
theorem dX3_stopOn_44 : decode cX3_stopOn 44 = .ok (.iaload, 1) := dk_46 (dk_at dksX3_stopOn_1 20 rfl rfl)
theorem dX3_stopOn_45 : decode cX3_stopOn 45 = .ok (.ireturn, 1) := dk_172 (dk_at dksX3_stopOn_1 21 rfl rfl)
abbrev cX3_reason : ByteArray := prog_18_method_22_code
def yX3_reason : MethodName := ⟨RX3, "reason", "([I)I"⟩
def dkwX3_reason_1 : List UInt8 := [132, 1, 1, 167, 255, 231, 42, 3, 46, 154, 0, 7, 4, 167, 0, 4, 3, 172]
abbrev dktX3_reason_1 : List UInt8 := dkwX3_reason_1 ++ []
def dkwX3_reason_0 : List UInt8 := [3, 60, 27, 42, 4, 46, 162, 0, 24, 42, 27, 184, 0, 73, 42, 3, 46, 4, 100, 160, 0, 5, 5, 172]
abbrev dktX3_reason_0 : List UInt8 := dkwX3_reason_0 ++ dktX3_reason_1
theorem dksX3_reason_0 : cX3_reason.data.toList.drop 0 = dktX3_reason_0 := by decide +kernel
theorem dksX3_reason_1 : cX3_reason.data.toList.drop 24 = dktX3_reason_1 := dk_seg dksX3_reason_0 24 rfl rfl
theorem dX3_reason_0 : decode cX3_reason 0 = .ok (.iconst 0, 1) := dk_3 (dk_at dksX3_reason_0 0 rfl rfl)
theorem dX3_reason_1 : decode cX3_reason 1 = .ok (.istore_n 1, 1) := dk_60 (dk_at dksX3_reason_0 1 rfl rfl)
theorem dX3_reason_2 : decode cX3_reason 2 = .ok (.iload_n 1, 1) := dk_27 (dk_at dksX3_reason_0 2 rfl rfl)
theorem dX3_reason_3 : decode cX3_reason 3 = .ok (.aload_n 0, 1) := dk_42 (dk_at dksX3_reason_0 3 rfl rfl)
theorem dX3_reason_4 : decode cX3_reason 4 = .ok (.iconst 1, 1) := dk_4 (dk_at dksX3_reason_0 4 rfl rfl)
theorem dX3_reason_5 : decode cX3_reason 5 = .ok (.iaload, 1) := dk_46 (dk_at dksX3_reason_0 5 rfl rfl)
theorem dX3_reason_6 : decode cX3_reason 6 = .ok (.if_icmp .ge 24, 3) := dk_162 0 24 (dk_at dksX3_reason_0 6 rfl rfl)
theorem dX3_reason_9 : decode cX3_reason 9 = .ok (.aload_n 0, 1) := dk_42 (dk_at dksX3_reason_0 9 rfl rfl)
theorem dX3_reason_10 : decode cX3_reason 10 = .ok (.iload_n 1, 1) := dk_27 (dk_at dksX3_reason_0 10 rfl rfl)
theorem dX3_reason_11 : decode cX3_reason 11 = .ok (.invokestatic 73, 3) := dk_184 0 73 (dk_at dksX3_reason_0 11 rfl rfl)
theorem dX3_reason_14 : decode cX3_reason 14 = .ok (.aload_n 0, 1) := dk_42 (dk_at dksX3_reason_0 14 rfl rfl)
theorem dX3_reason_15 : decode cX3_reason 15 = .ok (.iconst 0, 1) := dk_3 (dk_at dksX3_reason_0 15 rfl rfl)
theorem dX3_reason_16 : decode cX3_reason 16 = .ok (.iaload, 1) := dk_46 (dk_at dksX3_reason_0 16 rfl rfl)
theorem dX3_reason_17 : decode cX3_reason 17 = .ok (.iconst 1, 1) := dk_4 (dk_at dksX3_reason_0 17 rfl rfl)
theorem dX3_reason_18 : decode cX3_reason 18 = .ok (.isub, 1) := dk_100 (dk_at dksX3_reason_0 18 rfl rfl)
theorem dX3_reason_19 : decode cX3_reason 19 = .ok (.if_icmp .ne 5, 3) := dk_160 0 5 (dk_at dksX3_reason_0 19 rfl rfl)
theorem dX3_reason_22 : decode cX3_reason 22 = .ok (.iconst 2, 1) := dk_5 (dk_at dksX3_reason_0 22 rfl rfl)
theorem dX3_reason_23 : decode cX3_reason 23 = .ok (.ireturn, 1) := dk_172 (dk_at dksX3_reason_0 23 rfl rfl)
theorem dX3_reason_24 : decode cX3_reason 24 = .ok (.iinc 1 1, 3) := dk_132 1 1 (dk_at dksX3_reason_1 0 rfl rfl)
theorem dX3_reason_27 : decode cX3_reason 27 = .ok (.goto (-25), 3) := dk_167 255 231 (dk_at dksX3_reason_1 3 rfl rfl)
theorem dX3_reason_30 : decode cX3_reason 30 = .ok (.aload_n 0, 1) := dk_42 (dk_at dksX3_reason_1 6 rfl rfl)
theorem dX3_reason_31 : decode cX3_reason 31 = .ok (.iconst 0, 1) := dk_3 (dk_at dksX3_reason_1 7 rfl rfl)
theorem dX3_reason_32 : decode cX3_reason 32 = .ok (.iaload, 1) := dk_46 (dk_at dksX3_reason_1 8 rfl rfl)
theorem dX3_reason_33 : decode cX3_reason 33 = .ok (.ifCond .ne 7, 3) := dk_154 0 7 (dk_at dksX3_reason_1 9 rfl rfl)
theorem dX3_reason_36 : decode cX3_reason 36 = .ok (.iconst 1, 1) := dk_4 (dk_at dksX3_reason_1 12 rfl rfl)
theorem dX3_reason_37 : decode cX3_reason 37 = .ok (.goto 4, 3) := dk_167 0 4 (dk_at dksX3_reason_1 13 rfl rfl)
theorem dX3_reason_40 : decode cX3_reason 40 = .ok (.iconst 0, 1) := dk_3 (dk_at dksX3_reason_1 16 rfl rfl)
theorem dX3_reason_41 : decode cX3_reason 41 = .ok (.ireturn, 1) := dk_172 (dk_at dksX3_reason_1 17 rfl rfl)
abbrev cX3_drop : ByteArray := prog_18_method_23_code
def yX3_drop : MethodName := ⟨RX3, "drop", "([I)I"⟩
def dkwX3_drop_0 : List UInt8 := [42, 3, 92, 46, 4, 100, 79, 42, 3, 46, 172]
abbrev dktX3_drop_0 : List UInt8 := dkwX3_drop_0 ++ []
theorem dksX3_drop_0 : cX3_drop.data.toList.drop 0 = dktX3_drop_0 := by decide +kernel
theorem dX3_drop_0 : decode cX3_drop 0 = .ok (.aload_n 0, 1) := dk_42 (dk_at dksX3_drop_0 0 rfl rfl)
theorem dX3_drop_1 : decode cX3_drop 1 = .ok (.iconst 0, 1) := dk_3 (dk_at dksX3_drop_0 1 rfl rfl)
theorem dX3_drop_2 : decode cX3_drop 2 = .ok (.dup2, 1) := dk_92 (dk_at dksX3_drop_0 2 rfl rfl)
theorem dX3_drop_3 : decode cX3_drop 3 = .ok (.iaload, 1) := dk_46 (dk_at dksX3_drop_0 3 rfl rfl)
theorem dX3_drop_4 : decode cX3_drop 4 = .ok (.iconst 1, 1) := dk_4 (dk_at dksX3_drop_0 4 rfl rfl)
theorem dX3_drop_5 : decode cX3_drop 5 = .ok (.isub, 1) := dk_100 (dk_at dksX3_drop_0 5 rfl rfl)
theorem dX3_drop_6 : decode cX3_drop 6 = .ok (.iastore, 1) := dk_79 (dk_at dksX3_drop_0 6 rfl rfl)
theorem dX3_drop_7 : decode cX3_drop 7 = .ok (.aload_n 0, 1) := dk_42 (dk_at dksX3_drop_0 7 rfl rfl)
theorem dX3_drop_8 : decode cX3_drop 8 = .ok (.iconst 0, 1) := dk_3 (dk_at dksX3_drop_0 8 rfl rfl)
theorem dX3_drop_9 : decode cX3_drop 9 = .ok (.iaload, 1) := dk_46 (dk_at dksX3_drop_0 9 rfl rfl)
theorem dX3_drop_10 : decode cX3_drop 10 = .ok (.ireturn, 1) := dk_172 (dk_at dksX3_drop_0 10 rfl rfl)
abbrev cX3_load : ByteArray := prog_18_method_42_code
def yX3_load : MethodName := ⟨RX3, "load", "()I"⟩
def dkwX3_load_2 : List UInt8 := [3, 3, 84, 42, 180, 0, 25, 4, 3, 84, 42, 180, 0, 104, 172]
abbrev dktX3_load_2 : List UInt8 := dkwX3_load_2 ++ []
def dkwX3_load_1 : List UInt8 := [3, 172, 42, 180, 0, 16, 3, 42, 180, 0, 13, 3, 184, 0, 176, 42, 3, 181, 0, 180, 42, 180, 0, 25]
abbrev dktX3_load_1 : List UInt8 := dkwX3_load_1 ++ dktX3_load_2
def dkwX3_load_0 : List UInt8 := [42, 42, 42, 180, 0, 16, 182, 0, 173, 2, 160, 0, 7, 3, 167, 0, 4, 4, 182, 0, 95, 153, 0, 5]
abbrev dktX3_load_0 : List UInt8 := dkwX3_load_0 ++ dktX3_load_1
theorem dksX3_load_0 : cX3_load.data.toList.drop 0 = dktX3_load_0 := by decide +kernel
theorem dksX3_load_1 : cX3_load.data.toList.drop 24 = dktX3_load_1 := dk_seg dksX3_load_0 24 rfl rfl
theorem dksX3_load_2 : cX3_load.data.toList.drop 48 = dktX3_load_2 := dk_seg dksX3_load_1 24 rfl rfl
theorem dX3_load_0 : decode cX3_load 0 = .ok (.aload_n 0, 1) := dk_42 (dk_at dksX3_load_0 0 rfl rfl)
theorem dX3_load_1 : decode cX3_load 1 = .ok (.aload_n 0, 1) := dk_42 (dk_at dksX3_load_0 1 rfl rfl)
theorem dX3_load_2 : decode cX3_load 2 = .ok (.aload_n 0, 1) := dk_42 (dk_at dksX3_load_0 2 rfl rfl)
theorem dX3_load_3 : decode cX3_load 3 = .ok (.getfield 16, 3) := dk_180 0 16 (dk_at dksX3_load_0 3 rfl rfl)
theorem dX3_load_6 : decode cX3_load 6 = .ok (.invokevirtual 173, 3) := dk_182 0 173 (dk_at dksX3_load_0 6 rfl rfl)
theorem dX3_load_9 : decode cX3_load 9 = .ok (.iconst (-1), 1) := dk_2 (dk_at dksX3_load_0 9 rfl rfl)
theorem dX3_load_10 : decode cX3_load 10 = .ok (.if_icmp .ne 7, 3) := dk_160 0 7 (dk_at dksX3_load_0 10 rfl rfl)
theorem dX3_load_13 : decode cX3_load 13 = .ok (.iconst 0, 1) := dk_3 (dk_at dksX3_load_0 13 rfl rfl)
theorem dX3_load_14 : decode cX3_load 14 = .ok (.goto 4, 3) := dk_167 0 4 (dk_at dksX3_load_0 14 rfl rfl)
theorem dX3_load_17 : decode cX3_load 17 = .ok (.iconst 1, 1) := dk_4 (dk_at dksX3_load_0 17 rfl rfl)
theorem dX3_load_18 : decode cX3_load 18 = .ok (.invokevirtual 95, 3) := dk_182 0 95 (dk_at dksX3_load_0 18 rfl rfl)
theorem dX3_load_21 : decode cX3_load 21 = .ok (.ifCond .eq 5, 3) := dk_153 0 5 (dk_at dksX3_load_0 21 rfl rfl)
theorem dX3_load_24 : decode cX3_load 24 = .ok (.iconst 0, 1) := dk_3 (dk_at dksX3_load_1 0 rfl rfl)
theorem dX3_load_25 : decode cX3_load 25 = .ok (.ireturn, 1) := dk_172 (dk_at dksX3_load_1 1 rfl rfl)
theorem dX3_load_26 : decode cX3_load 26 = .ok (.aload_n 0, 1) := dk_42 (dk_at dksX3_load_1 2 rfl rfl)
theorem dX3_load_27 : decode cX3_load 27 = .ok (.getfield 16, 3) := dk_180 0 16 (dk_at dksX3_load_1 3 rfl rfl)
theorem dX3_load_30 : decode cX3_load 30 = .ok (.iconst 0, 1) := dk_3 (dk_at dksX3_load_1 6 rfl rfl)
theorem dX3_load_31 : decode cX3_load 31 = .ok (.aload_n 0, 1) := dk_42 (dk_at dksX3_load_1 7 rfl rfl)
theorem dX3_load_32 : decode cX3_load 32 = .ok (.getfield 13, 3) := dk_180 0 13 (dk_at dksX3_load_1 8 rfl rfl)
theorem dX3_load_35 : decode cX3_load 35 = .ok (.iconst 0, 1) := dk_3 (dk_at dksX3_load_1 11 rfl rfl)
theorem dX3_load_36 : decode cX3_load 36 = .ok (.invokestatic 176, 3) := dk_184 0 176 (dk_at dksX3_load_1 12 rfl rfl)
theorem dX3_load_39 : decode cX3_load 39 = .ok (.aload_n 0, 1) := dk_42 (dk_at dksX3_load_1 15 rfl rfl)
theorem dX3_load_40 : decode cX3_load 40 = .ok (.iconst 0, 1) := dk_3 (dk_at dksX3_load_1 16 rfl rfl)
theorem dX3_load_41 : decode cX3_load 41 = .ok (.putfield 180, 3) := dk_181 0 180 (dk_at dksX3_load_1 17 rfl rfl)
theorem dX3_load_44 : decode cX3_load 44 = .ok (.aload_n 0, 1) := dk_42 (dk_at dksX3_load_1 20 rfl rfl)
theorem dX3_load_45 : decode cX3_load 45 = .ok (.getfield 25, 3) := dk_180 0 25 (dk_at dksX3_load_1 21 rfl rfl)
theorem dX3_load_48 : decode cX3_load 48 = .ok (.iconst 0, 1) := dk_3 (dk_at dksX3_load_2 0 rfl rfl)
theorem dX3_load_49 : decode cX3_load 49 = .ok (.iconst 0, 1) := dk_3 (dk_at dksX3_load_2 1 rfl rfl)
theorem dX3_load_50 : decode cX3_load 50 = .ok (.bastore, 1) := dk_84 (dk_at dksX3_load_2 2 rfl rfl)
theorem dX3_load_51 : decode cX3_load 51 = .ok (.aload_n 0, 1) := dk_42 (dk_at dksX3_load_2 3 rfl rfl)
theorem dX3_load_52 : decode cX3_load 52 = .ok (.getfield 25, 3) := dk_180 0 25 (dk_at dksX3_load_2 4 rfl rfl)
theorem dX3_load_55 : decode cX3_load 55 = .ok (.iconst 1, 1) := dk_4 (dk_at dksX3_load_2 7 rfl rfl)
theorem dX3_load_56 : decode cX3_load 56 = .ok (.iconst 0, 1) := dk_3 (dk_at dksX3_load_2 8 rfl rfl)
theorem dX3_load_57 : decode cX3_load 57 = .ok (.bastore, 1) := dk_84 (dk_at dksX3_load_2 9 rfl rfl)
theorem dX3_load_58 : decode cX3_load 58 = .ok (.aload_n 0, 1) := dk_42 (dk_at dksX3_load_2 10 rfl rfl)
theorem dX3_load_59 : decode cX3_load 59 = .ok (.getfield 104, 3) := dk_180 0 104 (dk_at dksX3_load_2 11 rfl rfl)
theorem dX3_load_62 : decode cX3_load 62 = .ok (.ireturn, 1) := dk_172 (dk_at dksX3_load_2 14 rfl rfl)
abbrev cX3_copyState : ByteArray := prog_18_method_5_code
def yX3_copyState : MethodName := ⟨RX3, "copyState", "([II[II)V"⟩
def dkwX3_copyState_1 : List UInt8 := [132, 4, 1, 167, 255, 234, 177]
abbrev dktX3_copyState_1 : List UInt8 := dkwX3_copyState_1 ++ []
def dkwX3_copyState_0 : List UInt8 := [3, 54, 4, 21, 4, 16, 59, 162, 0, 21, 44, 29, 21, 4, 96, 42, 27, 21, 4, 96, 46, 79]
abbrev dktX3_copyState_0 : List UInt8 := dkwX3_copyState_0 ++ dktX3_copyState_1
theorem dksX3_copyState_0 : cX3_copyState.data.toList.drop 0 = dktX3_copyState_0 := by decide +kernel
theorem dksX3_copyState_1 : cX3_copyState.data.toList.drop 22 = dktX3_copyState_1 := dk_seg dksX3_copyState_0 22 rfl rfl
theorem dX3_copyState_0 : decode cX3_copyState 0 = .ok (.iconst 0, 1) := dk_3 (dk_at dksX3_copyState_0 0 rfl rfl)
theorem dX3_copyState_1 : decode cX3_copyState 1 = .ok (.istore 4, 2) := dk_54 4 (dk_at dksX3_copyState_0 1 rfl rfl)
theorem dX3_copyState_3 : decode cX3_copyState 3 = .ok (.iload 4, 2) := dk_21 4 (dk_at dksX3_copyState_0 3 rfl rfl)
theorem dX3_copyState_5 : decode cX3_copyState 5 = .ok (.bipush 59, 2) := dk_16 59 (dk_at dksX3_copyState_0 5 rfl rfl)
theorem dX3_copyState_7 : decode cX3_copyState 7 = .ok (.if_icmp .ge 21, 3) := dk_162 0 21 (dk_at dksX3_copyState_0 7 rfl rfl)
theorem dX3_copyState_10 : decode cX3_copyState 10 = .ok (.aload_n 2, 1) := dk_44 (dk_at dksX3_copyState_0 10 rfl rfl)
theorem dX3_copyState_11 : decode cX3_copyState 11 = .ok (.iload_n 3, 1) := dk_29 (dk_at dksX3_copyState_0 11 rfl rfl)
theorem dX3_copyState_12 : decode cX3_copyState 12 = .ok (.iload 4, 2) := dk_21 4 (dk_at dksX3_copyState_0 12 rfl rfl)
theorem dX3_copyState_14 : decode cX3_copyState 14 = .ok (.iadd, 1) := dk_96 (dk_at dksX3_copyState_0 14 rfl rfl)
theorem dX3_copyState_15 : decode cX3_copyState 15 = .ok (.aload_n 0, 1) := dk_42 (dk_at dksX3_copyState_0 15 rfl rfl)
theorem dX3_copyState_16 : decode cX3_copyState 16 = .ok (.iload_n 1, 1) := dk_27 (dk_at dksX3_copyState_0 16 rfl rfl)
theorem dX3_copyState_17 : decode cX3_copyState 17 = .ok (.iload 4, 2) := dk_21 4 (dk_at dksX3_copyState_0 17 rfl rfl)
theorem dX3_copyState_19 : decode cX3_copyState 19 = .ok (.iadd, 1) := dk_96 (dk_at dksX3_copyState_0 19 rfl rfl)
theorem dX3_copyState_20 : decode cX3_copyState 20 = .ok (.iaload, 1) := dk_46 (dk_at dksX3_copyState_0 20 rfl rfl)
theorem dX3_copyState_21 : decode cX3_copyState 21 = .ok (.iastore, 1) := dk_79 (dk_at dksX3_copyState_0 21 rfl rfl)
theorem dX3_copyState_22 : decode cX3_copyState 22 = .ok (.iinc 4 1, 3) := dk_132 4 1 (dk_at dksX3_copyState_1 0 rfl rfl)
theorem dX3_copyState_25 : decode cX3_copyState 25 = .ok (.goto (-22), 3) := dk_167 255 234 (dk_at dksX3_copyState_1 3 rfl rfl)
theorem dX3_copyState_28 : decode cX3_copyState 28 = .ok (.return_, 1) := dk_177 (dk_at dksX3_copyState_1 6 rfl rfl)
abbrev cX3_makeSteps : ByteArray := prog_18_method_45_code
def yX3_makeSteps : MethodName := ⟨RX3, "makeSteps", "(II)I"⟩
def dkwX3_makeSteps_1 : List UInt8 := [153, 0, 7, 3, 167, 0, 4, 4, 5, 3, 27, 28, 3, 182, 0, 190, 172]
abbrev dktX3_makeSteps_1 : List UInt8 := dkwX3_makeSteps_1 ++ []
def dkwX3_makeSteps_0 : List UInt8 := [42, 27, 133, 9, 20, 0, 186, 184, 0, 43, 153, 0, 19, 28, 133, 10, 20, 0, 188, 184, 0, 43]
abbrev dktX3_makeSteps_0 : List UInt8 := dkwX3_makeSteps_0 ++ dktX3_makeSteps_1
theorem dksX3_makeSteps_0 : cX3_makeSteps.data.toList.drop 0 = dktX3_makeSteps_0 := by decide +kernel
theorem dksX3_makeSteps_1 : cX3_makeSteps.data.toList.drop 22 = dktX3_makeSteps_1 := dk_seg dksX3_makeSteps_0 22 rfl rfl
theorem dX3_makeSteps_0 : decode cX3_makeSteps 0 = .ok (.aload_n 0, 1) := dk_42 (dk_at dksX3_makeSteps_0 0 rfl rfl)
theorem dX3_makeSteps_1 : decode cX3_makeSteps 1 = .ok (.iload_n 1, 1) := dk_27 (dk_at dksX3_makeSteps_0 1 rfl rfl)
theorem dX3_makeSteps_2 : decode cX3_makeSteps 2 = .ok (.i2l, 1) := dk_133 (dk_at dksX3_makeSteps_0 2 rfl rfl)
theorem dX3_makeSteps_3 : decode cX3_makeSteps 3 = .ok (.lconst 0, 1) := dk_9 (dk_at dksX3_makeSteps_0 3 rfl rfl)
theorem dX3_makeSteps_4 : decode cX3_makeSteps 4 = .ok (.ldc2_w 186, 3) := dk_20 0 186 (dk_at dksX3_makeSteps_0 4 rfl rfl)
theorem dX3_makeSteps_7 : decode cX3_makeSteps 7 = .ok (.invokestatic 43, 3) := dk_184 0 43 (dk_at dksX3_makeSteps_0 7 rfl rfl)
theorem dX3_makeSteps_10 : decode cX3_makeSteps 10 = .ok (.ifCond .eq 19, 3) := dk_153 0 19 (dk_at dksX3_makeSteps_0 10 rfl rfl)
theorem dX3_makeSteps_13 : decode cX3_makeSteps 13 = .ok (.iload_n 2, 1) := dk_28 (dk_at dksX3_makeSteps_0 13 rfl rfl)
theorem dX3_makeSteps_14 : decode cX3_makeSteps 14 = .ok (.i2l, 1) := dk_133 (dk_at dksX3_makeSteps_0 14 rfl rfl)
theorem dX3_makeSteps_15 : decode cX3_makeSteps 15 = .ok (.lconst 1, 1) := dk_10 (dk_at dksX3_makeSteps_0 15 rfl rfl)
theorem dX3_makeSteps_16 : decode cX3_makeSteps 16 = .ok (.ldc2_w 188, 3) := dk_20 0 188 (dk_at dksX3_makeSteps_0 16 rfl rfl)
theorem dX3_makeSteps_19 : decode cX3_makeSteps 19 = .ok (.invokestatic 43, 3) := dk_184 0 43 (dk_at dksX3_makeSteps_0 19 rfl rfl)
theorem dX3_makeSteps_22 : decode cX3_makeSteps 22 = .ok (.ifCond .eq 7, 3) := dk_153 0 7 (dk_at dksX3_makeSteps_1 0 rfl rfl)
theorem dX3_makeSteps_25 : decode cX3_makeSteps 25 = .ok (.iconst 0, 1) := dk_3 (dk_at dksX3_makeSteps_1 3 rfl rfl)
theorem dX3_makeSteps_26 : decode cX3_makeSteps 26 = .ok (.goto 4, 3) := dk_167 0 4 (dk_at dksX3_makeSteps_1 4 rfl rfl)
theorem dX3_makeSteps_29 : decode cX3_makeSteps 29 = .ok (.iconst 1, 1) := dk_4 (dk_at dksX3_makeSteps_1 7 rfl rfl)
theorem dX3_makeSteps_30 : decode cX3_makeSteps 30 = .ok (.iconst 2, 1) := dk_5 (dk_at dksX3_makeSteps_1 8 rfl rfl)
theorem dX3_makeSteps_31 : decode cX3_makeSteps 31 = .ok (.iconst 0, 1) := dk_3 (dk_at dksX3_makeSteps_1 9 rfl rfl)
theorem dX3_makeSteps_32 : decode cX3_makeSteps 32 = .ok (.iload_n 1, 1) := dk_27 (dk_at dksX3_makeSteps_1 10 rfl rfl)
theorem dX3_makeSteps_33 : decode cX3_makeSteps 33 = .ok (.iload_n 2, 1) := dk_28 (dk_at dksX3_makeSteps_1 11 rfl rfl)
theorem dX3_makeSteps_34 : decode cX3_makeSteps 34 = .ok (.iconst 0, 1) := dk_3 (dk_at dksX3_makeSteps_1 12 rfl rfl)
theorem dX3_makeSteps_35 : decode cX3_makeSteps 35 = .ok (.invokevirtual 190, 3) := dk_182 0 190 (dk_at dksX3_makeSteps_1 13 rfl rfl)
theorem dX3_makeSteps_38 : decode cX3_makeSteps 38 = .ok (.ireturn, 1) := dk_172 (dk_at dksX3_makeSteps_1 16 rfl rfl)
abbrev cX3_makes : ByteArray := prog_18_method_44_code
def yX3_makes : MethodName := ⟨RX3, "makes", "(IIIIII)I"⟩
def dkwX3_makes_2 : List UInt8 := [184, 0, 115, 172]
abbrev dktX3_makes_2 : List UInt8 := dkwX3_makes_2 ++ []
def dkwX3_makes_1 : List UInt8 := [182, 0, 95, 153, 0, 5, 3, 172, 42, 182, 0, 183, 42, 180, 0, 13, 29, 21, 4, 21, 5, 21, 6]
abbrev dktX3_makes_1 : List UInt8 := dkwX3_makes_1 ++ dktX3_makes_2
def dkwX3_makes_0 : List UInt8 := [42, 27, 158, 0, 7, 27, 167, 0, 18, 42, 180, 0, 13, 184, 0, 111, 153, 0, 7, 3, 167, 0, 4, 28]
abbrev dktX3_makes_0 : List UInt8 := dkwX3_makes_0 ++ dktX3_makes_1
theorem dksX3_makes_0 : cX3_makes.data.toList.drop 0 = dktX3_makes_0 := by decide +kernel
theorem dksX3_makes_1 : cX3_makes.data.toList.drop 24 = dktX3_makes_1 := dk_seg dksX3_makes_0 24 rfl rfl
theorem dksX3_makes_2 : cX3_makes.data.toList.drop 47 = dktX3_makes_2 := dk_seg dksX3_makes_1 23 rfl rfl
theorem dX3_makes_0 : decode cX3_makes 0 = .ok (.aload_n 0, 1) := dk_42 (dk_at dksX3_makes_0 0 rfl rfl)
theorem dX3_makes_1 : decode cX3_makes 1 = .ok (.iload_n 1, 1) := dk_27 (dk_at dksX3_makes_0 1 rfl rfl)
theorem dX3_makes_2 : decode cX3_makes 2 = .ok (.ifCond .le 7, 3) := dk_158 0 7 (dk_at dksX3_makes_0 2 rfl rfl)
theorem dX3_makes_5 : decode cX3_makes 5 = .ok (.iload_n 1, 1) := dk_27 (dk_at dksX3_makes_0 5 rfl rfl)
theorem dX3_makes_6 : decode cX3_makes 6 = .ok (.goto 18, 3) := dk_167 0 18 (dk_at dksX3_makes_0 6 rfl rfl)
theorem dX3_makes_9 : decode cX3_makes 9 = .ok (.aload_n 0, 1) := dk_42 (dk_at dksX3_makes_0 9 rfl rfl)
theorem dX3_makes_10 : decode cX3_makes 10 = .ok (.getfield 13, 3) := dk_180 0 13 (dk_at dksX3_makes_0 10 rfl rfl)
theorem dX3_makes_13 : decode cX3_makes 13 = .ok (.invokestatic 111, 3) := dk_184 0 111 (dk_at dksX3_makes_0 13 rfl rfl)
theorem dX3_makes_16 : decode cX3_makes 16 = .ok (.ifCond .eq 7, 3) := dk_153 0 7 (dk_at dksX3_makes_0 16 rfl rfl)
theorem dX3_makes_19 : decode cX3_makes 19 = .ok (.iconst 0, 1) := dk_3 (dk_at dksX3_makes_0 19 rfl rfl)
theorem dX3_makes_20 : decode cX3_makes 20 = .ok (.goto 4, 3) := dk_167 0 4 (dk_at dksX3_makes_0 20 rfl rfl)
theorem dX3_makes_23 : decode cX3_makes 23 = .ok (.iload_n 2, 1) := dk_28 (dk_at dksX3_makes_0 23 rfl rfl)
theorem dX3_makes_24 : decode cX3_makes 24 = .ok (.invokevirtual 95, 3) := dk_182 0 95 (dk_at dksX3_makes_1 0 rfl rfl)
theorem dX3_makes_27 : decode cX3_makes 27 = .ok (.ifCond .eq 5, 3) := dk_153 0 5 (dk_at dksX3_makes_1 3 rfl rfl)
theorem dX3_makes_30 : decode cX3_makes 30 = .ok (.iconst 0, 1) := dk_3 (dk_at dksX3_makes_1 6 rfl rfl)
theorem dX3_makes_31 : decode cX3_makes 31 = .ok (.ireturn, 1) := dk_172 (dk_at dksX3_makes_1 7 rfl rfl)
theorem dX3_makes_32 : decode cX3_makes 32 = .ok (.aload_n 0, 1) := dk_42 (dk_at dksX3_makes_1 8 rfl rfl)
theorem dX3_makes_33 : decode cX3_makes 33 = .ok (.invokevirtual 183, 3) := dk_182 0 183 (dk_at dksX3_makes_1 9 rfl rfl)
theorem dX3_makes_36 : decode cX3_makes 36 = .ok (.aload_n 0, 1) := dk_42 (dk_at dksX3_makes_1 12 rfl rfl)
theorem dX3_makes_37 : decode cX3_makes 37 = .ok (.getfield 13, 3) := dk_180 0 13 (dk_at dksX3_makes_1 13 rfl rfl)
theorem dX3_makes_40 : decode cX3_makes 40 = .ok (.iload_n 3, 1) := dk_29 (dk_at dksX3_makes_1 16 rfl rfl)
theorem dX3_makes_41 : decode cX3_makes 41 = .ok (.iload 4, 2) := dk_21 4 (dk_at dksX3_makes_1 17 rfl rfl)
theorem dX3_makes_43 : decode cX3_makes 43 = .ok (.iload 5, 2) := dk_21 5 (dk_at dksX3_makes_1 19 rfl rfl)
theorem dX3_makes_45 : decode cX3_makes 45 = .ok (.iload 6, 2) := dk_21 6 (dk_at dksX3_makes_1 21 rfl rfl)
theorem dX3_makes_47 : decode cX3_makes 47 = .ok (.invokestatic 115, 3) := dk_184 0 115 (dk_at dksX3_makes_2 0 rfl rfl)
theorem dX3_makes_50 : decode cX3_makes 50 = .ok (.ireturn, 1) := dk_172 (dk_at dksX3_makes_2 3 rfl rfl)
abbrev cX3_remember : ByteArray := prog_18_method_43_code
def yX3_remember : MethodName := ⟨RX3, "remember", "()V"⟩
def dkwX3_remember_3 : List UInt8 := [180, 0, 180, 4, 96, 181, 0, 180, 177]
abbrev dktX3_remember_3 : List UInt8 := dkwX3_remember_3 ++ []
def dkwX3_remember_2 : List UInt8 := [181, 0, 180, 42, 180, 0, 13, 3, 42, 180, 0, 19, 16, 59, 42, 180, 0, 180, 104, 184, 0, 176, 42, 89]
abbrev dktX3_remember_2 : List UInt8 := dkwX3_remember_2 ++ dktX3_remember_3
def dkwX3_remember_1 : List UInt8 := [180, 0, 19, 27, 16, 59, 96, 46, 79, 132, 1, 1, 167, 255, 231, 42, 89, 180, 0, 180, 4, 100]
abbrev dktX3_remember_1 : List UInt8 := dkwX3_remember_1 ++ dktX3_remember_2
def dkwX3_remember_0 : List UInt8 := [42, 180, 0, 180, 16, 14, 160, 0, 43, 3, 60, 27, 17, 2, 255, 162, 0, 24, 42, 180, 0, 19, 27, 42]
abbrev dktX3_remember_0 : List UInt8 := dkwX3_remember_0 ++ dktX3_remember_1
theorem dksX3_remember_0 : cX3_remember.data.toList.drop 0 = dktX3_remember_0 := by decide +kernel
theorem dksX3_remember_1 : cX3_remember.data.toList.drop 24 = dktX3_remember_1 := dk_seg dksX3_remember_0 24 rfl rfl
theorem dksX3_remember_2 : cX3_remember.data.toList.drop 46 = dktX3_remember_2 := dk_seg dksX3_remember_1 22 rfl rfl
theorem dksX3_remember_3 : cX3_remember.data.toList.drop 70 = dktX3_remember_3 := dk_seg dksX3_remember_2 24 rfl rfl
theorem dX3_remember_0 : decode cX3_remember 0 = .ok (.aload_n 0, 1) := dk_42 (dk_at dksX3_remember_0 0 rfl rfl)
theorem dX3_remember_1 : decode cX3_remember 1 = .ok (.getfield 180, 3) := dk_180 0 180 (dk_at dksX3_remember_0 1 rfl rfl)
theorem dX3_remember_4 : decode cX3_remember 4 = .ok (.bipush 14, 2) := dk_16 14 (dk_at dksX3_remember_0 4 rfl rfl)
theorem dX3_remember_6 : decode cX3_remember 6 = .ok (.if_icmp .ne 43, 3) := dk_160 0 43 (dk_at dksX3_remember_0 6 rfl rfl)
theorem dX3_remember_9 : decode cX3_remember 9 = .ok (.iconst 0, 1) := dk_3 (dk_at dksX3_remember_0 9 rfl rfl)
theorem dX3_remember_10 : decode cX3_remember 10 = .ok (.istore_n 1, 1) := dk_60 (dk_at dksX3_remember_0 10 rfl rfl)
theorem dX3_remember_11 : decode cX3_remember 11 = .ok (.iload_n 1, 1) := dk_27 (dk_at dksX3_remember_0 11 rfl rfl)
theorem dX3_remember_12 : decode cX3_remember 12 = .ok (.sipush 767, 3) := dk_17 2 255 (dk_at dksX3_remember_0 12 rfl rfl)
theorem dX3_remember_15 : decode cX3_remember 15 = .ok (.if_icmp .ge 24, 3) := dk_162 0 24 (dk_at dksX3_remember_0 15 rfl rfl)
theorem dX3_remember_18 : decode cX3_remember 18 = .ok (.aload_n 0, 1) := dk_42 (dk_at dksX3_remember_0 18 rfl rfl)
theorem dX3_remember_19 : decode cX3_remember 19 = .ok (.getfield 19, 3) := dk_180 0 19 (dk_at dksX3_remember_0 19 rfl rfl)
theorem dX3_remember_22 : decode cX3_remember 22 = .ok (.iload_n 1, 1) := dk_27 (dk_at dksX3_remember_0 22 rfl rfl)
theorem dX3_remember_23 : decode cX3_remember 23 = .ok (.aload_n 0, 1) := dk_42 (dk_at dksX3_remember_0 23 rfl rfl)
theorem dX3_remember_24 : decode cX3_remember 24 = .ok (.getfield 19, 3) := dk_180 0 19 (dk_at dksX3_remember_1 0 rfl rfl)
theorem dX3_remember_27 : decode cX3_remember 27 = .ok (.iload_n 1, 1) := dk_27 (dk_at dksX3_remember_1 3 rfl rfl)
theorem dX3_remember_28 : decode cX3_remember 28 = .ok (.bipush 59, 2) := dk_16 59 (dk_at dksX3_remember_1 4 rfl rfl)
theorem dX3_remember_30 : decode cX3_remember 30 = .ok (.iadd, 1) := dk_96 (dk_at dksX3_remember_1 6 rfl rfl)
theorem dX3_remember_31 : decode cX3_remember 31 = .ok (.iaload, 1) := dk_46 (dk_at dksX3_remember_1 7 rfl rfl)
theorem dX3_remember_32 : decode cX3_remember 32 = .ok (.iastore, 1) := dk_79 (dk_at dksX3_remember_1 8 rfl rfl)
theorem dX3_remember_33 : decode cX3_remember 33 = .ok (.iinc 1 1, 3) := dk_132 1 1 (dk_at dksX3_remember_1 9 rfl rfl)
theorem dX3_remember_36 : decode cX3_remember 36 = .ok (.goto (-25), 3) := dk_167 255 231 (dk_at dksX3_remember_1 12 rfl rfl)
theorem dX3_remember_39 : decode cX3_remember 39 = .ok (.aload_n 0, 1) := dk_42 (dk_at dksX3_remember_1 15 rfl rfl)
theorem dX3_remember_40 : decode cX3_remember 40 = .ok (.dup, 1) := dk_89 (dk_at dksX3_remember_1 16 rfl rfl)
theorem dX3_remember_41 : decode cX3_remember 41 = .ok (.getfield 180, 3) := dk_180 0 180 (dk_at dksX3_remember_1 17 rfl rfl)
theorem dX3_remember_44 : decode cX3_remember 44 = .ok (.iconst 1, 1) := dk_4 (dk_at dksX3_remember_1 20 rfl rfl)
theorem dX3_remember_45 : decode cX3_remember 45 = .ok (.isub, 1) := dk_100 (dk_at dksX3_remember_1 21 rfl rfl)
theorem dX3_remember_46 : decode cX3_remember 46 = .ok (.putfield 180, 3) := dk_181 0 180 (dk_at dksX3_remember_2 0 rfl rfl)
theorem dX3_remember_49 : decode cX3_remember 49 = .ok (.aload_n 0, 1) := dk_42 (dk_at dksX3_remember_2 3 rfl rfl)
theorem dX3_remember_50 : decode cX3_remember 50 = .ok (.getfield 13, 3) := dk_180 0 13 (dk_at dksX3_remember_2 4 rfl rfl)
theorem dX3_remember_53 : decode cX3_remember 53 = .ok (.iconst 0, 1) := dk_3 (dk_at dksX3_remember_2 7 rfl rfl)
theorem dX3_remember_54 : decode cX3_remember 54 = .ok (.aload_n 0, 1) := dk_42 (dk_at dksX3_remember_2 8 rfl rfl)
theorem dX3_remember_55 : decode cX3_remember 55 = .ok (.getfield 19, 3) := dk_180 0 19 (dk_at dksX3_remember_2 9 rfl rfl)
theorem dX3_remember_58 : decode cX3_remember 58 = .ok (.bipush 59, 2) := dk_16 59 (dk_at dksX3_remember_2 12 rfl rfl)
theorem dX3_remember_60 : decode cX3_remember 60 = .ok (.aload_n 0, 1) := dk_42 (dk_at dksX3_remember_2 14 rfl rfl)
theorem dX3_remember_61 : decode cX3_remember 61 = .ok (.getfield 180, 3) := dk_180 0 180 (dk_at dksX3_remember_2 15 rfl rfl)
theorem dX3_remember_64 : decode cX3_remember 64 = .ok (.imul, 1) := dk_104 (dk_at dksX3_remember_2 18 rfl rfl)
theorem dX3_remember_65 : decode cX3_remember 65 = .ok (.invokestatic 176, 3) := dk_184 0 176 (dk_at dksX3_remember_2 19 rfl rfl)
theorem dX3_remember_68 : decode cX3_remember 68 = .ok (.aload_n 0, 1) := dk_42 (dk_at dksX3_remember_2 22 rfl rfl)
theorem dX3_remember_69 : decode cX3_remember 69 = .ok (.dup, 1) := dk_89 (dk_at dksX3_remember_2 23 rfl rfl)
theorem dX3_remember_70 : decode cX3_remember 70 = .ok (.getfield 180, 3) := dk_180 0 180 (dk_at dksX3_remember_3 0 rfl rfl)
theorem dX3_remember_73 : decode cX3_remember 73 = .ok (.iconst 1, 1) := dk_4 (dk_at dksX3_remember_3 3 rfl rfl)
theorem dX3_remember_74 : decode cX3_remember 74 = .ok (.iadd, 1) := dk_96 (dk_at dksX3_remember_3 4 rfl rfl)
theorem dX3_remember_75 : decode cX3_remember 75 = .ok (.putfield 180, 3) := dk_181 0 180 (dk_at dksX3_remember_3 5 rfl rfl)
theorem dX3_remember_78 : decode cX3_remember 78 = .ok (.return_, 1) := dk_177 (dk_at dksX3_remember_3 8 rfl rfl)
abbrev cX3_makeScaled : ByteArray := prog_18_method_46_code
def yX3_makeScaled : MethodName := ⟨RX3, "makeScaled", "(III)I"⟩
def dkwX3_makeScaled_2 : List UInt8 := [4, 27, 28, 29, 182, 0, 190, 172]
abbrev dktX3_makeScaled_2 : List UInt8 := dkwX3_makeScaled_2 ++ []
def dkwX3_makeScaled_1 : List UInt8 := [184, 0, 43, 153, 0, 19, 29, 133, 9, 20, 0, 188, 184, 0, 43, 153, 0, 7, 3, 167, 0, 4, 5, 6]
abbrev dktX3_makeScaled_1 : List UInt8 := dkwX3_makeScaled_1 ++ dktX3_makeScaled_2
def dkwX3_makeScaled_0 : List UInt8 := [42, 42, 180, 0, 13, 27, 184, 0, 123, 154, 0, 7, 4, 167, 0, 32, 28, 133, 10, 20, 0, 102]
abbrev dktX3_makeScaled_0 : List UInt8 := dkwX3_makeScaled_0 ++ dktX3_makeScaled_1
theorem dksX3_makeScaled_0 : cX3_makeScaled.data.toList.drop 0 = dktX3_makeScaled_0 := by decide +kernel
theorem dksX3_makeScaled_1 : cX3_makeScaled.data.toList.drop 22 = dktX3_makeScaled_1 := dk_seg dksX3_makeScaled_0 22 rfl rfl
theorem dksX3_makeScaled_2 : cX3_makeScaled.data.toList.drop 46 = dktX3_makeScaled_2 := dk_seg dksX3_makeScaled_1 24 rfl rfl
theorem dX3_makeScaled_0 : decode cX3_makeScaled 0 = .ok (.aload_n 0, 1) := dk_42 (dk_at dksX3_makeScaled_0 0 rfl rfl)
theorem dX3_makeScaled_1 : decode cX3_makeScaled 1 = .ok (.aload_n 0, 1) := dk_42 (dk_at dksX3_makeScaled_0 1 rfl rfl)
theorem dX3_makeScaled_2 : decode cX3_makeScaled 2 = .ok (.getfield 13, 3) := dk_180 0 13 (dk_at dksX3_makeScaled_0 2 rfl rfl)
theorem dX3_makeScaled_5 : decode cX3_makeScaled 5 = .ok (.iload_n 1, 1) := dk_27 (dk_at dksX3_makeScaled_0 5 rfl rfl)
theorem dX3_makeScaled_6 : decode cX3_makeScaled 6 = .ok (.invokestatic 123, 3) := dk_184 0 123 (dk_at dksX3_makeScaled_0 6 rfl rfl)
theorem dX3_makeScaled_9 : decode cX3_makeScaled 9 = .ok (.ifCond .ne 7, 3) := dk_154 0 7 (dk_at dksX3_makeScaled_0 9 rfl rfl)
theorem dX3_makeScaled_12 : decode cX3_makeScaled 12 = .ok (.iconst 1, 1) := dk_4 (dk_at dksX3_makeScaled_0 12 rfl rfl)
theorem dX3_makeScaled_13 : decode cX3_makeScaled 13 = .ok (.goto 32, 3) := dk_167 0 32 (dk_at dksX3_makeScaled_0 13 rfl rfl)
theorem dX3_makeScaled_16 : decode cX3_makeScaled 16 = .ok (.iload_n 2, 1) := dk_28 (dk_at dksX3_makeScaled_0 16 rfl rfl)
theorem dX3_makeScaled_17 : decode cX3_makeScaled 17 = .ok (.i2l, 1) := dk_133 (dk_at dksX3_makeScaled_0 17 rfl rfl)
theorem dX3_makeScaled_18 : decode cX3_makeScaled 18 = .ok (.lconst 1, 1) := dk_10 (dk_at dksX3_makeScaled_0 18 rfl rfl)
theorem dX3_makeScaled_19 : decode cX3_makeScaled 19 = .ok (.ldc2_w 102, 3) := dk_20 0 102 (dk_at dksX3_makeScaled_0 19 rfl rfl)
theorem dX3_makeScaled_22 : decode cX3_makeScaled 22 = .ok (.invokestatic 43, 3) := dk_184 0 43 (dk_at dksX3_makeScaled_1 0 rfl rfl)
theorem dX3_makeScaled_25 : decode cX3_makeScaled 25 = .ok (.ifCond .eq 19, 3) := dk_153 0 19 (dk_at dksX3_makeScaled_1 3 rfl rfl)
theorem dX3_makeScaled_28 : decode cX3_makeScaled 28 = .ok (.iload_n 3, 1) := dk_29 (dk_at dksX3_makeScaled_1 6 rfl rfl)
theorem dX3_makeScaled_29 : decode cX3_makeScaled 29 = .ok (.i2l, 1) := dk_133 (dk_at dksX3_makeScaled_1 7 rfl rfl)
theorem dX3_makeScaled_30 : decode cX3_makeScaled 30 = .ok (.lconst 0, 1) := dk_9 (dk_at dksX3_makeScaled_1 8 rfl rfl)
theorem dX3_makeScaled_31 : decode cX3_makeScaled 31 = .ok (.ldc2_w 188, 3) := dk_20 0 188 (dk_at dksX3_makeScaled_1 9 rfl rfl)
theorem dX3_makeScaled_34 : decode cX3_makeScaled 34 = .ok (.invokestatic 43, 3) := dk_184 0 43 (dk_at dksX3_makeScaled_1 12 rfl rfl)
theorem dX3_makeScaled_37 : decode cX3_makeScaled 37 = .ok (.ifCond .eq 7, 3) := dk_153 0 7 (dk_at dksX3_makeScaled_1 15 rfl rfl)
theorem dX3_makeScaled_40 : decode cX3_makeScaled 40 = .ok (.iconst 0, 1) := dk_3 (dk_at dksX3_makeScaled_1 18 rfl rfl)
theorem dX3_makeScaled_41 : decode cX3_makeScaled 41 = .ok (.goto 4, 3) := dk_167 0 4 (dk_at dksX3_makeScaled_1 19 rfl rfl)
theorem dX3_makeScaled_44 : decode cX3_makeScaled 44 = .ok (.iconst 2, 1) := dk_5 (dk_at dksX3_makeScaled_1 22 rfl rfl)
theorem dX3_makeScaled_45 : decode cX3_makeScaled 45 = .ok (.iconst 3, 1) := dk_6 (dk_at dksX3_makeScaled_1 23 rfl rfl)
theorem dX3_makeScaled_46 : decode cX3_makeScaled 46 = .ok (.iconst 1, 1) := dk_4 (dk_at dksX3_makeScaled_2 0 rfl rfl)
theorem dX3_makeScaled_47 : decode cX3_makeScaled 47 = .ok (.iload_n 1, 1) := dk_27 (dk_at dksX3_makeScaled_2 1 rfl rfl)
theorem dX3_makeScaled_48 : decode cX3_makeScaled 48 = .ok (.iload_n 2, 1) := dk_28 (dk_at dksX3_makeScaled_2 2 rfl rfl)
theorem dX3_makeScaled_49 : decode cX3_makeScaled 49 = .ok (.iload_n 3, 1) := dk_29 (dk_at dksX3_makeScaled_2 3 rfl rfl)
theorem dX3_makeScaled_50 : decode cX3_makeScaled 50 = .ok (.invokevirtual 190, 3) := dk_182 0 190 (dk_at dksX3_makeScaled_2 4 rfl rfl)
theorem dX3_makeScaled_53 : decode cX3_makeScaled 53 = .ok (.ireturn, 1) := dk_172 (dk_at dksX3_makeScaled_2 7 rfl rfl)
abbrev cX3_makeJoined : ByteArray := prog_18_method_48_code
def yX3_makeJoined : MethodName := ⟨RX3, "makeJoined", "(II)I"⟩
def dkwX3_makeJoined_0 : List UInt8 := [42, 42, 27, 28, 182, 0, 194, 5, 5, 27, 28, 3, 182, 0, 190, 172]
abbrev dktX3_makeJoined_0 : List UInt8 := dkwX3_makeJoined_0 ++ []
theorem dksX3_makeJoined_0 : cX3_makeJoined.data.toList.drop 0 = dktX3_makeJoined_0 := by decide +kernel
theorem dX3_makeJoined_0 : decode cX3_makeJoined 0 = .ok (.aload_n 0, 1) := dk_42 (dk_at dksX3_makeJoined_0 0 rfl rfl)
theorem dX3_makeJoined_1 : decode cX3_makeJoined 1 = .ok (.aload_n 0, 1) := dk_42 (dk_at dksX3_makeJoined_0 1 rfl rfl)
theorem dX3_makeJoined_2 : decode cX3_makeJoined 2 = .ok (.iload_n 1, 1) := dk_27 (dk_at dksX3_makeJoined_0 2 rfl rfl)
theorem dX3_makeJoined_3 : decode cX3_makeJoined 3 = .ok (.iload_n 2, 1) := dk_28 (dk_at dksX3_makeJoined_0 3 rfl rfl)
theorem dX3_makeJoined_4 : decode cX3_makeJoined 4 = .ok (.invokevirtual 194, 3) := dk_182 0 194 (dk_at dksX3_makeJoined_0 4 rfl rfl)
theorem dX3_makeJoined_7 : decode cX3_makeJoined 7 = .ok (.iconst 2, 1) := dk_5 (dk_at dksX3_makeJoined_0 7 rfl rfl)
theorem dX3_makeJoined_8 : decode cX3_makeJoined 8 = .ok (.iconst 2, 1) := dk_5 (dk_at dksX3_makeJoined_0 8 rfl rfl)
theorem dX3_makeJoined_9 : decode cX3_makeJoined 9 = .ok (.iload_n 1, 1) := dk_27 (dk_at dksX3_makeJoined_0 9 rfl rfl)
theorem dX3_makeJoined_10 : decode cX3_makeJoined 10 = .ok (.iload_n 2, 1) := dk_28 (dk_at dksX3_makeJoined_0 10 rfl rfl)
theorem dX3_makeJoined_11 : decode cX3_makeJoined 11 = .ok (.iconst 0, 1) := dk_3 (dk_at dksX3_makeJoined_0 11 rfl rfl)
theorem dX3_makeJoined_12 : decode cX3_makeJoined 12 = .ok (.invokevirtual 190, 3) := dk_182 0 190 (dk_at dksX3_makeJoined_0 12 rfl rfl)
theorem dX3_makeJoined_15 : decode cX3_makeJoined 15 = .ok (.ireturn, 1) := dk_172 (dk_at dksX3_makeJoined_0 15 rfl rfl)
abbrev cX3_neither : ByteArray := prog_18_method_47_code
def yX3_neither : MethodName := ⟨RX3, "neither", "(II)I"⟩
def dkwX3_neither_1 : List UInt8 := [167, 0, 4, 4, 172]
abbrev dktX3_neither_1 : List UInt8 := dkwX3_neither_1 ++ []
def dkwX3_neither_0 : List UInt8 := [42, 180, 0, 13, 27, 184, 0, 123, 153, 0, 18, 42, 180, 0, 13, 28, 184, 0, 123, 153, 0, 7, 3]
abbrev dktX3_neither_0 : List UInt8 := dkwX3_neither_0 ++ dktX3_neither_1
theorem dksX3_neither_0 : cX3_neither.data.toList.drop 0 = dktX3_neither_0 := by decide +kernel
theorem dksX3_neither_1 : cX3_neither.data.toList.drop 23 = dktX3_neither_1 := dk_seg dksX3_neither_0 23 rfl rfl
theorem dX3_neither_0 : decode cX3_neither 0 = .ok (.aload_n 0, 1) := dk_42 (dk_at dksX3_neither_0 0 rfl rfl)
theorem dX3_neither_1 : decode cX3_neither 1 = .ok (.getfield 13, 3) := dk_180 0 13 (dk_at dksX3_neither_0 1 rfl rfl)
theorem dX3_neither_4 : decode cX3_neither 4 = .ok (.iload_n 1, 1) := dk_27 (dk_at dksX3_neither_0 4 rfl rfl)
theorem dX3_neither_5 : decode cX3_neither 5 = .ok (.invokestatic 123, 3) := dk_184 0 123 (dk_at dksX3_neither_0 5 rfl rfl)
theorem dX3_neither_8 : decode cX3_neither 8 = .ok (.ifCond .eq 18, 3) := dk_153 0 18 (dk_at dksX3_neither_0 8 rfl rfl)
theorem dX3_neither_11 : decode cX3_neither 11 = .ok (.aload_n 0, 1) := dk_42 (dk_at dksX3_neither_0 11 rfl rfl)
theorem dX3_neither_12 : decode cX3_neither 12 = .ok (.getfield 13, 3) := dk_180 0 13 (dk_at dksX3_neither_0 12 rfl rfl)
theorem dX3_neither_15 : decode cX3_neither 15 = .ok (.iload_n 2, 1) := dk_28 (dk_at dksX3_neither_0 15 rfl rfl)
theorem dX3_neither_16 : decode cX3_neither 16 = .ok (.invokestatic 123, 3) := dk_184 0 123 (dk_at dksX3_neither_0 16 rfl rfl)
theorem dX3_neither_19 : decode cX3_neither 19 = .ok (.ifCond .eq 7, 3) := dk_153 0 7 (dk_at dksX3_neither_0 19 rfl rfl)
theorem dX3_neither_22 : decode cX3_neither 22 = .ok (.iconst 0, 1) := dk_3 (dk_at dksX3_neither_0 22 rfl rfl)
theorem dX3_neither_23 : decode cX3_neither 23 = .ok (.goto 4, 3) := dk_167 0 4 (dk_at dksX3_neither_1 0 rfl rfl)
theorem dX3_neither_26 : decode cX3_neither 26 = .ok (.iconst 1, 1) := dk_4 (dk_at dksX3_neither_1 3 rfl rfl)
theorem dX3_neither_27 : decode cX3_neither 27 = .ok (.ireturn, 1) := dk_172 (dk_at dksX3_neither_1 4 rfl rfl)
abbrev cX3_makeShared : ByteArray := prog_18_method_49_code
def yX3_makeShared : MethodName := ⟨RX3, "makeShared", "(II)I"⟩
def dkwX3_makeShared_0 : List UInt8 := [42, 42, 27, 28, 182, 0, 194, 5, 6, 27, 28, 3, 182, 0, 190, 172]
abbrev dktX3_makeShared_0 : List UInt8 := dkwX3_makeShared_0 ++ []
theorem dksX3_makeShared_0 : cX3_makeShared.data.toList.drop 0 = dktX3_makeShared_0 := by decide +kernel
theorem dX3_makeShared_0 : decode cX3_makeShared 0 = .ok (.aload_n 0, 1) := dk_42 (dk_at dksX3_makeShared_0 0 rfl rfl)
theorem dX3_makeShared_1 : decode cX3_makeShared 1 = .ok (.aload_n 0, 1) := dk_42 (dk_at dksX3_makeShared_0 1 rfl rfl)
theorem dX3_makeShared_2 : decode cX3_makeShared 2 = .ok (.iload_n 1, 1) := dk_27 (dk_at dksX3_makeShared_0 2 rfl rfl)
theorem dX3_makeShared_3 : decode cX3_makeShared 3 = .ok (.iload_n 2, 1) := dk_28 (dk_at dksX3_makeShared_0 3 rfl rfl)
theorem dX3_makeShared_4 : decode cX3_makeShared 4 = .ok (.invokevirtual 194, 3) := dk_182 0 194 (dk_at dksX3_makeShared_0 4 rfl rfl)
theorem dX3_makeShared_7 : decode cX3_makeShared 7 = .ok (.iconst 2, 1) := dk_5 (dk_at dksX3_makeShared_0 7 rfl rfl)
theorem dX3_makeShared_8 : decode cX3_makeShared 8 = .ok (.iconst 3, 1) := dk_6 (dk_at dksX3_makeShared_0 8 rfl rfl)
theorem dX3_makeShared_9 : decode cX3_makeShared 9 = .ok (.iload_n 1, 1) := dk_27 (dk_at dksX3_makeShared_0 9 rfl rfl)
theorem dX3_makeShared_10 : decode cX3_makeShared 10 = .ok (.iload_n 2, 1) := dk_28 (dk_at dksX3_makeShared_0 10 rfl rfl)
theorem dX3_makeShared_11 : decode cX3_makeShared 11 = .ok (.iconst 0, 1) := dk_3 (dk_at dksX3_makeShared_0 11 rfl rfl)
theorem dX3_makeShared_12 : decode cX3_makeShared 12 = .ok (.invokevirtual 190, 3) := dk_182 0 190 (dk_at dksX3_makeShared_0 12 rfl rfl)
theorem dX3_makeShared_15 : decode cX3_makeShared 15 = .ok (.ireturn, 1) := dk_172 (dk_at dksX3_makeShared_0 15 rfl rfl)
abbrev cX3_makeWithout : ByteArray := prog_18_method_50_code
def yX3_makeWithout : MethodName := ⟨RX3, "makeWithout", "(II)I"⟩
def dkwX3_makeWithout_0 : List UInt8 := [42, 42, 27, 28, 182, 0, 194, 5, 7, 27, 28, 3, 182, 0, 190, 172]
abbrev dktX3_makeWithout_0 : List UInt8 := dkwX3_makeWithout_0 ++ []
theorem dksX3_makeWithout_0 : cX3_makeWithout.data.toList.drop 0 = dktX3_makeWithout_0 := by decide +kernel
theorem dX3_makeWithout_0 : decode cX3_makeWithout 0 = .ok (.aload_n 0, 1) := dk_42 (dk_at dksX3_makeWithout_0 0 rfl rfl)
theorem dX3_makeWithout_1 : decode cX3_makeWithout 1 = .ok (.aload_n 0, 1) := dk_42 (dk_at dksX3_makeWithout_0 1 rfl rfl)
theorem dX3_makeWithout_2 : decode cX3_makeWithout 2 = .ok (.iload_n 1, 1) := dk_27 (dk_at dksX3_makeWithout_0 2 rfl rfl)
theorem dX3_makeWithout_3 : decode cX3_makeWithout 3 = .ok (.iload_n 2, 1) := dk_28 (dk_at dksX3_makeWithout_0 3 rfl rfl)
theorem dX3_makeWithout_4 : decode cX3_makeWithout 4 = .ok (.invokevirtual 194, 3) := dk_182 0 194 (dk_at dksX3_makeWithout_0 4 rfl rfl)
theorem dX3_makeWithout_7 : decode cX3_makeWithout 7 = .ok (.iconst 2, 1) := dk_5 (dk_at dksX3_makeWithout_0 7 rfl rfl)
theorem dX3_makeWithout_8 : decode cX3_makeWithout 8 = .ok (.iconst 4, 1) := dk_7 (dk_at dksX3_makeWithout_0 8 rfl rfl)
theorem dX3_makeWithout_9 : decode cX3_makeWithout 9 = .ok (.iload_n 1, 1) := dk_27 (dk_at dksX3_makeWithout_0 9 rfl rfl)
theorem dX3_makeWithout_10 : decode cX3_makeWithout 10 = .ok (.iload_n 2, 1) := dk_28 (dk_at dksX3_makeWithout_0 10 rfl rfl)
theorem dX3_makeWithout_11 : decode cX3_makeWithout 11 = .ok (.iconst 0, 1) := dk_3 (dk_at dksX3_makeWithout_0 11 rfl rfl)
theorem dX3_makeWithout_12 : decode cX3_makeWithout 12 = .ok (.invokevirtual 190, 3) := dk_182 0 190 (dk_at dksX3_makeWithout_0 12 rfl rfl)
theorem dX3_makeWithout_15 : decode cX3_makeWithout 15 = .ok (.ireturn, 1) := dk_172 (dk_at dksX3_makeWithout_0 15 rfl rfl)
abbrev cX3_makeSieved : ByteArray := prog_18_method_51_code
def yX3_makeSieved : MethodName := ⟨RX3, "makeSieved", "(I)I"⟩
def dkwX3_makeSieved_1 : List UInt8 := [182, 0, 190, 172]
abbrev dktX3_makeSieved_1 : List UInt8 := dkwX3_makeSieved_1 ++ []
def dkwX3_makeSieved_0 : List UInt8 := [42, 42, 180, 0, 13, 27, 184, 0, 123, 153, 0, 7, 3, 167, 0, 4, 4, 5, 8, 27, 3, 3]
abbrev dktX3_makeSieved_0 : List UInt8 := dkwX3_makeSieved_0 ++ dktX3_makeSieved_1
theorem dksX3_makeSieved_0 : cX3_makeSieved.data.toList.drop 0 = dktX3_makeSieved_0 := by decide +kernel
theorem dksX3_makeSieved_1 : cX3_makeSieved.data.toList.drop 22 = dktX3_makeSieved_1 := dk_seg dksX3_makeSieved_0 22 rfl rfl
theorem dX3_makeSieved_0 : decode cX3_makeSieved 0 = .ok (.aload_n 0, 1) := dk_42 (dk_at dksX3_makeSieved_0 0 rfl rfl)
theorem dX3_makeSieved_1 : decode cX3_makeSieved 1 = .ok (.aload_n 0, 1) := dk_42 (dk_at dksX3_makeSieved_0 1 rfl rfl)
theorem dX3_makeSieved_2 : decode cX3_makeSieved 2 = .ok (.getfield 13, 3) := dk_180 0 13 (dk_at dksX3_makeSieved_0 2 rfl rfl)
theorem dX3_makeSieved_5 : decode cX3_makeSieved 5 = .ok (.iload_n 1, 1) := dk_27 (dk_at dksX3_makeSieved_0 5 rfl rfl)
theorem dX3_makeSieved_6 : decode cX3_makeSieved 6 = .ok (.invokestatic 123, 3) := dk_184 0 123 (dk_at dksX3_makeSieved_0 6 rfl rfl)
theorem dX3_makeSieved_9 : decode cX3_makeSieved 9 = .ok (.ifCond .eq 7, 3) := dk_153 0 7 (dk_at dksX3_makeSieved_0 9 rfl rfl)
theorem dX3_makeSieved_12 : decode cX3_makeSieved 12 = .ok (.iconst 0, 1) := dk_3 (dk_at dksX3_makeSieved_0 12 rfl rfl)
theorem dX3_makeSieved_13 : decode cX3_makeSieved 13 = .ok (.goto 4, 3) := dk_167 0 4 (dk_at dksX3_makeSieved_0 13 rfl rfl)
theorem dX3_makeSieved_16 : decode cX3_makeSieved 16 = .ok (.iconst 1, 1) := dk_4 (dk_at dksX3_makeSieved_0 16 rfl rfl)
theorem dX3_makeSieved_17 : decode cX3_makeSieved 17 = .ok (.iconst 2, 1) := dk_5 (dk_at dksX3_makeSieved_0 17 rfl rfl)
theorem dX3_makeSieved_18 : decode cX3_makeSieved 18 = .ok (.iconst 5, 1) := dk_8 (dk_at dksX3_makeSieved_0 18 rfl rfl)
theorem dX3_makeSieved_19 : decode cX3_makeSieved 19 = .ok (.iload_n 1, 1) := dk_27 (dk_at dksX3_makeSieved_0 19 rfl rfl)
theorem dX3_makeSieved_20 : decode cX3_makeSieved 20 = .ok (.iconst 0, 1) := dk_3 (dk_at dksX3_makeSieved_0 20 rfl rfl)
theorem dX3_makeSieved_21 : decode cX3_makeSieved 21 = .ok (.iconst 0, 1) := dk_3 (dk_at dksX3_makeSieved_0 21 rfl rfl)
theorem dX3_makeSieved_22 : decode cX3_makeSieved 22 = .ok (.invokevirtual 190, 3) := dk_182 0 190 (dk_at dksX3_makeSieved_1 0 rfl rfl)
theorem dX3_makeSieved_25 : decode cX3_makeSieved 25 = .ok (.ireturn, 1) := dk_172 (dk_at dksX3_makeSieved_1 3 rfl rfl)
abbrev cX3_makeThinned : ByteArray := prog_18_method_52_code
def yX3_makeThinned : MethodName := ⟨RX3, "makeThinned", "(II)I"⟩
def dkwX3_makeThinned_1 : List UInt8 := [184, 0, 43, 153, 0, 7, 3, 167, 0, 4, 5, 6, 16, 6, 27, 28, 3, 182, 0, 190, 172]
abbrev dktX3_makeThinned_1 : List UInt8 := dkwX3_makeThinned_1 ++ []
def dkwX3_makeThinned_0 : List UInt8 := [42, 42, 180, 0, 13, 27, 184, 0, 123, 154, 0, 7, 4, 167, 0, 20, 28, 133, 10, 20, 0, 102]
abbrev dktX3_makeThinned_0 : List UInt8 := dkwX3_makeThinned_0 ++ dktX3_makeThinned_1
theorem dksX3_makeThinned_0 : cX3_makeThinned.data.toList.drop 0 = dktX3_makeThinned_0 := by decide +kernel
theorem dksX3_makeThinned_1 : cX3_makeThinned.data.toList.drop 22 = dktX3_makeThinned_1 := dk_seg dksX3_makeThinned_0 22 rfl rfl
theorem dX3_makeThinned_0 : decode cX3_makeThinned 0 = .ok (.aload_n 0, 1) := dk_42 (dk_at dksX3_makeThinned_0 0 rfl rfl)
theorem dX3_makeThinned_1 : decode cX3_makeThinned 1 = .ok (.aload_n 0, 1) := dk_42 (dk_at dksX3_makeThinned_0 1 rfl rfl)
theorem dX3_makeThinned_2 : decode cX3_makeThinned 2 = .ok (.getfield 13, 3) := dk_180 0 13 (dk_at dksX3_makeThinned_0 2 rfl rfl)
theorem dX3_makeThinned_5 : decode cX3_makeThinned 5 = .ok (.iload_n 1, 1) := dk_27 (dk_at dksX3_makeThinned_0 5 rfl rfl)
theorem dX3_makeThinned_6 : decode cX3_makeThinned 6 = .ok (.invokestatic 123, 3) := dk_184 0 123 (dk_at dksX3_makeThinned_0 6 rfl rfl)
theorem dX3_makeThinned_9 : decode cX3_makeThinned 9 = .ok (.ifCond .ne 7, 3) := dk_154 0 7 (dk_at dksX3_makeThinned_0 9 rfl rfl)
theorem dX3_makeThinned_12 : decode cX3_makeThinned 12 = .ok (.iconst 1, 1) := dk_4 (dk_at dksX3_makeThinned_0 12 rfl rfl)
theorem dX3_makeThinned_13 : decode cX3_makeThinned 13 = .ok (.goto 20, 3) := dk_167 0 20 (dk_at dksX3_makeThinned_0 13 rfl rfl)
theorem dX3_makeThinned_16 : decode cX3_makeThinned 16 = .ok (.iload_n 2, 1) := dk_28 (dk_at dksX3_makeThinned_0 16 rfl rfl)
theorem dX3_makeThinned_17 : decode cX3_makeThinned 17 = .ok (.i2l, 1) := dk_133 (dk_at dksX3_makeThinned_0 17 rfl rfl)
theorem dX3_makeThinned_18 : decode cX3_makeThinned 18 = .ok (.lconst 1, 1) := dk_10 (dk_at dksX3_makeThinned_0 18 rfl rfl)
theorem dX3_makeThinned_19 : decode cX3_makeThinned 19 = .ok (.ldc2_w 102, 3) := dk_20 0 102 (dk_at dksX3_makeThinned_0 19 rfl rfl)
theorem dX3_makeThinned_22 : decode cX3_makeThinned 22 = .ok (.invokestatic 43, 3) := dk_184 0 43 (dk_at dksX3_makeThinned_1 0 rfl rfl)
theorem dX3_makeThinned_25 : decode cX3_makeThinned 25 = .ok (.ifCond .eq 7, 3) := dk_153 0 7 (dk_at dksX3_makeThinned_1 3 rfl rfl)
theorem dX3_makeThinned_28 : decode cX3_makeThinned 28 = .ok (.iconst 0, 1) := dk_3 (dk_at dksX3_makeThinned_1 6 rfl rfl)
theorem dX3_makeThinned_29 : decode cX3_makeThinned 29 = .ok (.goto 4, 3) := dk_167 0 4 (dk_at dksX3_makeThinned_1 7 rfl rfl)
theorem dX3_makeThinned_32 : decode cX3_makeThinned 32 = .ok (.iconst 2, 1) := dk_5 (dk_at dksX3_makeThinned_1 10 rfl rfl)
theorem dX3_makeThinned_33 : decode cX3_makeThinned 33 = .ok (.iconst 3, 1) := dk_6 (dk_at dksX3_makeThinned_1 11 rfl rfl)
theorem dX3_makeThinned_34 : decode cX3_makeThinned 34 = .ok (.bipush 6, 2) := dk_16 6 (dk_at dksX3_makeThinned_1 12 rfl rfl)
theorem dX3_makeThinned_36 : decode cX3_makeThinned 36 = .ok (.iload_n 1, 1) := dk_27 (dk_at dksX3_makeThinned_1 14 rfl rfl)
theorem dX3_makeThinned_37 : decode cX3_makeThinned 37 = .ok (.iload_n 2, 1) := dk_28 (dk_at dksX3_makeThinned_1 15 rfl rfl)
theorem dX3_makeThinned_38 : decode cX3_makeThinned 38 = .ok (.iconst 0, 1) := dk_3 (dk_at dksX3_makeThinned_1 16 rfl rfl)
theorem dX3_makeThinned_39 : decode cX3_makeThinned 39 = .ok (.invokevirtual 190, 3) := dk_182 0 190 (dk_at dksX3_makeThinned_1 17 rfl rfl)
theorem dX3_makeThinned_42 : decode cX3_makeThinned 42 = .ok (.ireturn, 1) := dk_172 (dk_at dksX3_makeThinned_1 20 rfl rfl)
abbrev cX3_makeAddedUp : ByteArray := prog_18_method_53_code
def yX3_makeAddedUp : MethodName := ⟨RX3, "makeAddedUp", "(I)I"⟩
def dkwX3_makeAddedUp_1 : List UInt8 := [182, 0, 190, 172]
abbrev dktX3_makeAddedUp_1 : List UInt8 := dkwX3_makeAddedUp_1 ++ []
def dkwX3_makeAddedUp_0 : List UInt8 := [42, 42, 180, 0, 13, 27, 184, 0, 123, 153, 0, 7, 3, 167, 0, 4, 4, 5, 16, 7, 27, 3, 3]
abbrev dktX3_makeAddedUp_0 : List UInt8 := dkwX3_makeAddedUp_0 ++ dktX3_makeAddedUp_1
theorem dksX3_makeAddedUp_0 : cX3_makeAddedUp.data.toList.drop 0 = dktX3_makeAddedUp_0 := by decide +kernel
theorem dksX3_makeAddedUp_1 : cX3_makeAddedUp.data.toList.drop 23 = dktX3_makeAddedUp_1 := dk_seg dksX3_makeAddedUp_0 23 rfl rfl
theorem dX3_makeAddedUp_0 : decode cX3_makeAddedUp 0 = .ok (.aload_n 0, 1) := dk_42 (dk_at dksX3_makeAddedUp_0 0 rfl rfl)
theorem dX3_makeAddedUp_1 : decode cX3_makeAddedUp 1 = .ok (.aload_n 0, 1) := dk_42 (dk_at dksX3_makeAddedUp_0 1 rfl rfl)
theorem dX3_makeAddedUp_2 : decode cX3_makeAddedUp 2 = .ok (.getfield 13, 3) := dk_180 0 13 (dk_at dksX3_makeAddedUp_0 2 rfl rfl)
theorem dX3_makeAddedUp_5 : decode cX3_makeAddedUp 5 = .ok (.iload_n 1, 1) := dk_27 (dk_at dksX3_makeAddedUp_0 5 rfl rfl)
theorem dX3_makeAddedUp_6 : decode cX3_makeAddedUp 6 = .ok (.invokestatic 123, 3) := dk_184 0 123 (dk_at dksX3_makeAddedUp_0 6 rfl rfl)
theorem dX3_makeAddedUp_9 : decode cX3_makeAddedUp 9 = .ok (.ifCond .eq 7, 3) := dk_153 0 7 (dk_at dksX3_makeAddedUp_0 9 rfl rfl)
theorem dX3_makeAddedUp_12 : decode cX3_makeAddedUp 12 = .ok (.iconst 0, 1) := dk_3 (dk_at dksX3_makeAddedUp_0 12 rfl rfl)
theorem dX3_makeAddedUp_13 : decode cX3_makeAddedUp 13 = .ok (.goto 4, 3) := dk_167 0 4 (dk_at dksX3_makeAddedUp_0 13 rfl rfl)
theorem dX3_makeAddedUp_16 : decode cX3_makeAddedUp 16 = .ok (.iconst 1, 1) := dk_4 (dk_at dksX3_makeAddedUp_0 16 rfl rfl)
theorem dX3_makeAddedUp_17 : decode cX3_makeAddedUp 17 = .ok (.iconst 2, 1) := dk_5 (dk_at dksX3_makeAddedUp_0 17 rfl rfl)
theorem dX3_makeAddedUp_18 : decode cX3_makeAddedUp 18 = .ok (.bipush 7, 2) := dk_16 7 (dk_at dksX3_makeAddedUp_0 18 rfl rfl)
theorem dX3_makeAddedUp_20 : decode cX3_makeAddedUp 20 = .ok (.iload_n 1, 1) := dk_27 (dk_at dksX3_makeAddedUp_0 20 rfl rfl)
theorem dX3_makeAddedUp_21 : decode cX3_makeAddedUp 21 = .ok (.iconst 0, 1) := dk_3 (dk_at dksX3_makeAddedUp_0 21 rfl rfl)
theorem dX3_makeAddedUp_22 : decode cX3_makeAddedUp 22 = .ok (.iconst 0, 1) := dk_3 (dk_at dksX3_makeAddedUp_0 22 rfl rfl)
theorem dX3_makeAddedUp_23 : decode cX3_makeAddedUp 23 = .ok (.invokevirtual 190, 3) := dk_182 0 190 (dk_at dksX3_makeAddedUp_1 0 rfl rfl)
theorem dX3_makeAddedUp_26 : decode cX3_makeAddedUp 26 = .ok (.ireturn, 1) := dk_172 (dk_at dksX3_makeAddedUp_1 3 rfl rfl)
abbrev cX3_dropLast : ByteArray := prog_18_method_54_code
def yX3_dropLast : MethodName := ⟨RX3, "dropLast", "()I"⟩
def dkwX3_dropLast_1 : List UInt8 := [42, 182, 0, 183, 42, 180, 0, 13, 184, 0, 167, 172]
abbrev dktX3_dropLast_1 : List UInt8 := dkwX3_dropLast_1 ++ []
def dkwX3_dropLast_0 : List UInt8 := [42, 42, 180, 0, 13, 184, 0, 163, 154, 0, 7, 3, 167, 0, 4, 4, 182, 0, 95, 153, 0, 5, 3, 172]
abbrev dktX3_dropLast_0 : List UInt8 := dkwX3_dropLast_0 ++ dktX3_dropLast_1
theorem dksX3_dropLast_0 : cX3_dropLast.data.toList.drop 0 = dktX3_dropLast_0 := by decide +kernel
theorem dksX3_dropLast_1 : cX3_dropLast.data.toList.drop 24 = dktX3_dropLast_1 := dk_seg dksX3_dropLast_0 24 rfl rfl
theorem dX3_dropLast_0 : decode cX3_dropLast 0 = .ok (.aload_n 0, 1) := dk_42 (dk_at dksX3_dropLast_0 0 rfl rfl)
theorem dX3_dropLast_1 : decode cX3_dropLast 1 = .ok (.aload_n 0, 1) := dk_42 (dk_at dksX3_dropLast_0 1 rfl rfl)
theorem dX3_dropLast_2 : decode cX3_dropLast 2 = .ok (.getfield 13, 3) := dk_180 0 13 (dk_at dksX3_dropLast_0 2 rfl rfl)
theorem dX3_dropLast_5 : decode cX3_dropLast 5 = .ok (.invokestatic 163, 3) := dk_184 0 163 (dk_at dksX3_dropLast_0 5 rfl rfl)
theorem dX3_dropLast_8 : decode cX3_dropLast 8 = .ok (.ifCond .ne 7, 3) := dk_154 0 7 (dk_at dksX3_dropLast_0 8 rfl rfl)
theorem dX3_dropLast_11 : decode cX3_dropLast 11 = .ok (.iconst 0, 1) := dk_3 (dk_at dksX3_dropLast_0 11 rfl rfl)
theorem dX3_dropLast_12 : decode cX3_dropLast 12 = .ok (.goto 4, 3) := dk_167 0 4 (dk_at dksX3_dropLast_0 12 rfl rfl)
theorem dX3_dropLast_15 : decode cX3_dropLast 15 = .ok (.iconst 1, 1) := dk_4 (dk_at dksX3_dropLast_0 15 rfl rfl)
theorem dX3_dropLast_16 : decode cX3_dropLast 16 = .ok (.invokevirtual 95, 3) := dk_182 0 95 (dk_at dksX3_dropLast_0 16 rfl rfl)
theorem dX3_dropLast_19 : decode cX3_dropLast 19 = .ok (.ifCond .eq 5, 3) := dk_153 0 5 (dk_at dksX3_dropLast_0 19 rfl rfl)
theorem dX3_dropLast_22 : decode cX3_dropLast 22 = .ok (.iconst 0, 1) := dk_3 (dk_at dksX3_dropLast_0 22 rfl rfl)
theorem dX3_dropLast_23 : decode cX3_dropLast 23 = .ok (.ireturn, 1) := dk_172 (dk_at dksX3_dropLast_0 23 rfl rfl)
theorem dX3_dropLast_24 : decode cX3_dropLast 24 = .ok (.aload_n 0, 1) := dk_42 (dk_at dksX3_dropLast_1 0 rfl rfl)
theorem dX3_dropLast_25 : decode cX3_dropLast 25 = .ok (.invokevirtual 183, 3) := dk_182 0 183 (dk_at dksX3_dropLast_1 1 rfl rfl)
theorem dX3_dropLast_28 : decode cX3_dropLast 28 = .ok (.aload_n 0, 1) := dk_42 (dk_at dksX3_dropLast_1 4 rfl rfl)
theorem dX3_dropLast_29 : decode cX3_dropLast 29 = .ok (.getfield 13, 3) := dk_180 0 13 (dk_at dksX3_dropLast_1 5 rfl rfl)
theorem dX3_dropLast_32 : decode cX3_dropLast 32 = .ok (.invokestatic 167, 3) := dk_184 0 167 (dk_at dksX3_dropLast_1 8 rfl rfl)
theorem dX3_dropLast_35 : decode cX3_dropLast 35 = .ok (.ireturn, 1) := dk_172 (dk_at dksX3_dropLast_1 11 rfl rfl)
abbrev cX3_beginReading : ByteArray := prog_18_method_55_code
def yX3_beginReading : MethodName := ⟨RX3, "beginReading", "(I)I"⟩
def dkwX3_beginReading_2 : List UInt8 := [27, 184, 0, 157, 172]
abbrev dktX3_beginReading_2 : List UInt8 := dkwX3_beginReading_2 ++ []
def dkwX3_beginReading_1 : List UInt8 := [162, 0, 7, 3, 167, 0, 4, 5, 182, 0, 95, 153, 0, 5, 3, 172, 42, 182, 0, 183, 42, 180, 0, 13]
abbrev dktX3_beginReading_1 : List UInt8 := dkwX3_beginReading_1 ++ dktX3_beginReading_2
def dkwX3_beginReading_0 : List UInt8 := [42, 42, 180, 0, 13, 27, 184, 0, 123, 154, 0, 7, 4, 167, 0, 18, 42, 180, 0, 13, 4, 46, 7]
abbrev dktX3_beginReading_0 : List UInt8 := dkwX3_beginReading_0 ++ dktX3_beginReading_1
theorem dksX3_beginReading_0 : cX3_beginReading.data.toList.drop 0 = dktX3_beginReading_0 := by decide +kernel
theorem dksX3_beginReading_1 : cX3_beginReading.data.toList.drop 23 = dktX3_beginReading_1 := dk_seg dksX3_beginReading_0 23 rfl rfl
theorem dksX3_beginReading_2 : cX3_beginReading.data.toList.drop 47 = dktX3_beginReading_2 := dk_seg dksX3_beginReading_1 24 rfl rfl
theorem dX3_beginReading_0 : decode cX3_beginReading 0 = .ok (.aload_n 0, 1) := dk_42 (dk_at dksX3_beginReading_0 0 rfl rfl)
theorem dX3_beginReading_1 : decode cX3_beginReading 1 = .ok (.aload_n 0, 1) := dk_42 (dk_at dksX3_beginReading_0 1 rfl rfl)
theorem dX3_beginReading_2 : decode cX3_beginReading 2 = .ok (.getfield 13, 3) := dk_180 0 13 (dk_at dksX3_beginReading_0 2 rfl rfl)
theorem dX3_beginReading_5 : decode cX3_beginReading 5 = .ok (.iload_n 1, 1) := dk_27 (dk_at dksX3_beginReading_0 5 rfl rfl)
theorem dX3_beginReading_6 : decode cX3_beginReading 6 = .ok (.invokestatic 123, 3) := dk_184 0 123 (dk_at dksX3_beginReading_0 6 rfl rfl)
theorem dX3_beginReading_9 : decode cX3_beginReading 9 = .ok (.ifCond .ne 7, 3) := dk_154 0 7 (dk_at dksX3_beginReading_0 9 rfl rfl)
theorem dX3_beginReading_12 : decode cX3_beginReading 12 = .ok (.iconst 1, 1) := dk_4 (dk_at dksX3_beginReading_0 12 rfl rfl)
theorem dX3_beginReading_13 : decode cX3_beginReading 13 = .ok (.goto 18, 3) := dk_167 0 18 (dk_at dksX3_beginReading_0 13 rfl rfl)
theorem dX3_beginReading_16 : decode cX3_beginReading 16 = .ok (.aload_n 0, 1) := dk_42 (dk_at dksX3_beginReading_0 16 rfl rfl)
theorem dX3_beginReading_17 : decode cX3_beginReading 17 = .ok (.getfield 13, 3) := dk_180 0 13 (dk_at dksX3_beginReading_0 17 rfl rfl)
theorem dX3_beginReading_20 : decode cX3_beginReading 20 = .ok (.iconst 1, 1) := dk_4 (dk_at dksX3_beginReading_0 20 rfl rfl)
theorem dX3_beginReading_21 : decode cX3_beginReading 21 = .ok (.iaload, 1) := dk_46 (dk_at dksX3_beginReading_0 21 rfl rfl)
theorem dX3_beginReading_22 : decode cX3_beginReading 22 = .ok (.iconst 4, 1) := dk_7 (dk_at dksX3_beginReading_0 22 rfl rfl)
theorem dX3_beginReading_23 : decode cX3_beginReading 23 = .ok (.if_icmp .ge 7, 3) := dk_162 0 7 (dk_at dksX3_beginReading_1 0 rfl rfl)
theorem dX3_beginReading_26 : decode cX3_beginReading 26 = .ok (.iconst 0, 1) := dk_3 (dk_at dksX3_beginReading_1 3 rfl rfl)
theorem dX3_beginReading_27 : decode cX3_beginReading 27 = .ok (.goto 4, 3) := dk_167 0 4 (dk_at dksX3_beginReading_1 4 rfl rfl)
theorem dX3_beginReading_30 : decode cX3_beginReading 30 = .ok (.iconst 2, 1) := dk_5 (dk_at dksX3_beginReading_1 7 rfl rfl)
theorem dX3_beginReading_31 : decode cX3_beginReading 31 = .ok (.invokevirtual 95, 3) := dk_182 0 95 (dk_at dksX3_beginReading_1 8 rfl rfl)
theorem dX3_beginReading_34 : decode cX3_beginReading 34 = .ok (.ifCond .eq 5, 3) := dk_153 0 5 (dk_at dksX3_beginReading_1 11 rfl rfl)
theorem dX3_beginReading_37 : decode cX3_beginReading 37 = .ok (.iconst 0, 1) := dk_3 (dk_at dksX3_beginReading_1 14 rfl rfl)
theorem dX3_beginReading_38 : decode cX3_beginReading 38 = .ok (.ireturn, 1) := dk_172 (dk_at dksX3_beginReading_1 15 rfl rfl)
theorem dX3_beginReading_39 : decode cX3_beginReading 39 = .ok (.aload_n 0, 1) := dk_42 (dk_at dksX3_beginReading_1 16 rfl rfl)
theorem dX3_beginReading_40 : decode cX3_beginReading 40 = .ok (.invokevirtual 183, 3) := dk_182 0 183 (dk_at dksX3_beginReading_1 17 rfl rfl)
theorem dX3_beginReading_43 : decode cX3_beginReading 43 = .ok (.aload_n 0, 1) := dk_42 (dk_at dksX3_beginReading_1 20 rfl rfl)
theorem dX3_beginReading_44 : decode cX3_beginReading 44 = .ok (.getfield 13, 3) := dk_180 0 13 (dk_at dksX3_beginReading_1 21 rfl rfl)
theorem dX3_beginReading_47 : decode cX3_beginReading 47 = .ok (.iload_n 1, 1) := dk_27 (dk_at dksX3_beginReading_2 0 rfl rfl)
theorem dX3_beginReading_48 : decode cX3_beginReading 48 = .ok (.invokestatic 157, 3) := dk_184 0 157 (dk_at dksX3_beginReading_2 1 rfl rfl)
theorem dX3_beginReading_51 : decode cX3_beginReading 51 = .ok (.ireturn, 1) := dk_172 (dk_at dksX3_beginReading_2 4 rfl rfl)
abbrev cX3_read : ByteArray := prog_18_method_56_code
def yX3_read : MethodName := ⟨RX3, "read", "(I)I"⟩
def dkwX3_read_2 : List UInt8 := [3, 172, 42, 182, 0, 183, 42, 42, 180, 0, 13, 27, 182, 0, 133, 172]
abbrev dktX3_read_2 : List UInt8 := dkwX3_read_2 ++ []
def dkwX3_read_1 : List UInt8 := [42, 42, 180, 0, 13, 27, 182, 0, 84, 2, 159, 0, 7, 3, 167, 0, 4, 5, 182, 0, 95, 153, 0, 5]
abbrev dktX3_read_1 : List UInt8 := dkwX3_read_1 ++ dktX3_read_2
def dkwX3_read_0 : List UInt8 := [42, 42, 180, 0, 13, 182, 0, 127, 42, 42, 180, 0, 13, 27, 184, 0, 130, 154, 0, 7, 4, 167, 0, 21]
abbrev dktX3_read_0 : List UInt8 := dkwX3_read_0 ++ dktX3_read_1
theorem dksX3_read_0 : cX3_read.data.toList.drop 0 = dktX3_read_0 := by decide +kernel
theorem dksX3_read_1 : cX3_read.data.toList.drop 24 = dktX3_read_1 := dk_seg dksX3_read_0 24 rfl rfl
theorem dksX3_read_2 : cX3_read.data.toList.drop 48 = dktX3_read_2 := dk_seg dksX3_read_1 24 rfl rfl
theorem dX3_read_0 : decode cX3_read 0 = .ok (.aload_n 0, 1) := dk_42 (dk_at dksX3_read_0 0 rfl rfl)
theorem dX3_read_1 : decode cX3_read 1 = .ok (.aload_n 0, 1) := dk_42 (dk_at dksX3_read_0 1 rfl rfl)
theorem dX3_read_2 : decode cX3_read 2 = .ok (.getfield 13, 3) := dk_180 0 13 (dk_at dksX3_read_0 2 rfl rfl)
theorem dX3_read_5 : decode cX3_read 5 = .ok (.invokevirtual 127, 3) := dk_182 0 127 (dk_at dksX3_read_0 5 rfl rfl)
theorem dX3_read_8 : decode cX3_read 8 = .ok (.aload_n 0, 1) := dk_42 (dk_at dksX3_read_0 8 rfl rfl)
theorem dX3_read_9 : decode cX3_read 9 = .ok (.aload_n 0, 1) := dk_42 (dk_at dksX3_read_0 9 rfl rfl)
theorem dX3_read_10 : decode cX3_read 10 = .ok (.getfield 13, 3) := dk_180 0 13 (dk_at dksX3_read_0 10 rfl rfl)
theorem dX3_read_13 : decode cX3_read 13 = .ok (.iload_n 1, 1) := dk_27 (dk_at dksX3_read_0 13 rfl rfl)
theorem dX3_read_14 : decode cX3_read 14 = .ok (.invokestatic 130, 3) := dk_184 0 130 (dk_at dksX3_read_0 14 rfl rfl)
theorem dX3_read_17 : decode cX3_read 17 = .ok (.ifCond .ne 7, 3) := dk_154 0 7 (dk_at dksX3_read_0 17 rfl rfl)
theorem dX3_read_20 : decode cX3_read 20 = .ok (.iconst 1, 1) := dk_4 (dk_at dksX3_read_0 20 rfl rfl)
theorem dX3_read_21 : decode cX3_read 21 = .ok (.goto 21, 3) := dk_167 0 21 (dk_at dksX3_read_0 21 rfl rfl)
theorem dX3_read_24 : decode cX3_read 24 = .ok (.aload_n 0, 1) := dk_42 (dk_at dksX3_read_1 0 rfl rfl)
theorem dX3_read_25 : decode cX3_read 25 = .ok (.aload_n 0, 1) := dk_42 (dk_at dksX3_read_1 1 rfl rfl)
theorem dX3_read_26 : decode cX3_read 26 = .ok (.getfield 13, 3) := dk_180 0 13 (dk_at dksX3_read_1 2 rfl rfl)
theorem dX3_read_29 : decode cX3_read 29 = .ok (.iload_n 1, 1) := dk_27 (dk_at dksX3_read_1 5 rfl rfl)
theorem dX3_read_30 : decode cX3_read 30 = .ok (.invokevirtual 84, 3) := dk_182 0 84 (dk_at dksX3_read_1 6 rfl rfl)
theorem dX3_read_33 : decode cX3_read 33 = .ok (.iconst (-1), 1) := dk_2 (dk_at dksX3_read_1 9 rfl rfl)
theorem dX3_read_34 : decode cX3_read 34 = .ok (.if_icmp .eq 7, 3) := dk_159 0 7 (dk_at dksX3_read_1 10 rfl rfl)
theorem dX3_read_37 : decode cX3_read 37 = .ok (.iconst 0, 1) := dk_3 (dk_at dksX3_read_1 13 rfl rfl)
theorem dX3_read_38 : decode cX3_read 38 = .ok (.goto 4, 3) := dk_167 0 4 (dk_at dksX3_read_1 14 rfl rfl)
theorem dX3_read_41 : decode cX3_read 41 = .ok (.iconst 2, 1) := dk_5 (dk_at dksX3_read_1 17 rfl rfl)
theorem dX3_read_42 : decode cX3_read 42 = .ok (.invokevirtual 95, 3) := dk_182 0 95 (dk_at dksX3_read_1 18 rfl rfl)
theorem dX3_read_45 : decode cX3_read 45 = .ok (.ifCond .eq 5, 3) := dk_153 0 5 (dk_at dksX3_read_1 21 rfl rfl)
theorem dX3_read_48 : decode cX3_read 48 = .ok (.iconst 0, 1) := dk_3 (dk_at dksX3_read_2 0 rfl rfl)
theorem dX3_read_49 : decode cX3_read 49 = .ok (.ireturn, 1) := dk_172 (dk_at dksX3_read_2 1 rfl rfl)
theorem dX3_read_50 : decode cX3_read 50 = .ok (.aload_n 0, 1) := dk_42 (dk_at dksX3_read_2 2 rfl rfl)
theorem dX3_read_51 : decode cX3_read 51 = .ok (.invokevirtual 183, 3) := dk_182 0 183 (dk_at dksX3_read_2 3 rfl rfl)
theorem dX3_read_54 : decode cX3_read 54 = .ok (.aload_n 0, 1) := dk_42 (dk_at dksX3_read_2 6 rfl rfl)
theorem dX3_read_55 : decode cX3_read 55 = .ok (.aload_n 0, 1) := dk_42 (dk_at dksX3_read_2 7 rfl rfl)
theorem dX3_read_56 : decode cX3_read 56 = .ok (.getfield 13, 3) := dk_180 0 13 (dk_at dksX3_read_2 8 rfl rfl)
theorem dX3_read_59 : decode cX3_read 59 = .ok (.iload_n 1, 1) := dk_27 (dk_at dksX3_read_2 11 rfl rfl)
theorem dX3_read_60 : decode cX3_read 60 = .ok (.invokevirtual 133, 3) := dk_182 0 133 (dk_at dksX3_read_2 12 rfl rfl)
theorem dX3_read_63 : decode cX3_read 63 = .ok (.ireturn, 1) := dk_172 (dk_at dksX3_read_2 15 rfl rfl)
abbrev cX3_skip : ByteArray := prog_18_method_57_code
def yX3_skip : MethodName := ⟨RX3, "skip", "(II)I"⟩
def dkwX3_skip_2 : List UInt8 := [182, 0, 127, 42, 182, 0, 183, 42, 42, 180, 0, 13, 27, 28, 182, 0, 136, 172]
abbrev dktX3_skip_2 : List UInt8 := dkwX3_skip_2 ++ []
def dkwX3_skip_1 : List UInt8 := [184, 0, 43, 153, 0, 7, 3, 167, 0, 4, 5, 182, 0, 95, 153, 0, 5, 3, 172, 42, 42, 180, 0, 13]
abbrev dktX3_skip_1 : List UInt8 := dkwX3_skip_1 ++ dktX3_skip_2
def dkwX3_skip_0 : List UInt8 := [42, 42, 180, 0, 13, 27, 184, 0, 130, 154, 0, 7, 4, 167, 0, 20, 28, 133, 10, 20, 0, 188]
abbrev dktX3_skip_0 : List UInt8 := dkwX3_skip_0 ++ dktX3_skip_1
theorem dksX3_skip_0 : cX3_skip.data.toList.drop 0 = dktX3_skip_0 := by decide +kernel
theorem dksX3_skip_1 : cX3_skip.data.toList.drop 22 = dktX3_skip_1 := dk_seg dksX3_skip_0 22 rfl rfl
theorem dksX3_skip_2 : cX3_skip.data.toList.drop 46 = dktX3_skip_2 := dk_seg dksX3_skip_1 24 rfl rfl
theorem dX3_skip_0 : decode cX3_skip 0 = .ok (.aload_n 0, 1) := dk_42 (dk_at dksX3_skip_0 0 rfl rfl)
theorem dX3_skip_1 : decode cX3_skip 1 = .ok (.aload_n 0, 1) := dk_42 (dk_at dksX3_skip_0 1 rfl rfl)
theorem dX3_skip_2 : decode cX3_skip 2 = .ok (.getfield 13, 3) := dk_180 0 13 (dk_at dksX3_skip_0 2 rfl rfl)
theorem dX3_skip_5 : decode cX3_skip 5 = .ok (.iload_n 1, 1) := dk_27 (dk_at dksX3_skip_0 5 rfl rfl)
theorem dX3_skip_6 : decode cX3_skip 6 = .ok (.invokestatic 130, 3) := dk_184 0 130 (dk_at dksX3_skip_0 6 rfl rfl)
theorem dX3_skip_9 : decode cX3_skip 9 = .ok (.ifCond .ne 7, 3) := dk_154 0 7 (dk_at dksX3_skip_0 9 rfl rfl)
theorem dX3_skip_12 : decode cX3_skip 12 = .ok (.iconst 1, 1) := dk_4 (dk_at dksX3_skip_0 12 rfl rfl)
theorem dX3_skip_13 : decode cX3_skip 13 = .ok (.goto 20, 3) := dk_167 0 20 (dk_at dksX3_skip_0 13 rfl rfl)
theorem dX3_skip_16 : decode cX3_skip 16 = .ok (.iload_n 2, 1) := dk_28 (dk_at dksX3_skip_0 16 rfl rfl)
theorem dX3_skip_17 : decode cX3_skip 17 = .ok (.i2l, 1) := dk_133 (dk_at dksX3_skip_0 17 rfl rfl)
theorem dX3_skip_18 : decode cX3_skip 18 = .ok (.lconst 1, 1) := dk_10 (dk_at dksX3_skip_0 18 rfl rfl)
theorem dX3_skip_19 : decode cX3_skip 19 = .ok (.ldc2_w 188, 3) := dk_20 0 188 (dk_at dksX3_skip_0 19 rfl rfl)
theorem dX3_skip_22 : decode cX3_skip 22 = .ok (.invokestatic 43, 3) := dk_184 0 43 (dk_at dksX3_skip_1 0 rfl rfl)
theorem dX3_skip_25 : decode cX3_skip 25 = .ok (.ifCond .eq 7, 3) := dk_153 0 7 (dk_at dksX3_skip_1 3 rfl rfl)
theorem dX3_skip_28 : decode cX3_skip 28 = .ok (.iconst 0, 1) := dk_3 (dk_at dksX3_skip_1 6 rfl rfl)
theorem dX3_skip_29 : decode cX3_skip 29 = .ok (.goto 4, 3) := dk_167 0 4 (dk_at dksX3_skip_1 7 rfl rfl)
theorem dX3_skip_32 : decode cX3_skip 32 = .ok (.iconst 2, 1) := dk_5 (dk_at dksX3_skip_1 10 rfl rfl)
theorem dX3_skip_33 : decode cX3_skip 33 = .ok (.invokevirtual 95, 3) := dk_182 0 95 (dk_at dksX3_skip_1 11 rfl rfl)
theorem dX3_skip_36 : decode cX3_skip 36 = .ok (.ifCond .eq 5, 3) := dk_153 0 5 (dk_at dksX3_skip_1 14 rfl rfl)
theorem dX3_skip_39 : decode cX3_skip 39 = .ok (.iconst 0, 1) := dk_3 (dk_at dksX3_skip_1 17 rfl rfl)
theorem dX3_skip_40 : decode cX3_skip 40 = .ok (.ireturn, 1) := dk_172 (dk_at dksX3_skip_1 18 rfl rfl)
theorem dX3_skip_41 : decode cX3_skip 41 = .ok (.aload_n 0, 1) := dk_42 (dk_at dksX3_skip_1 19 rfl rfl)
theorem dX3_skip_42 : decode cX3_skip 42 = .ok (.aload_n 0, 1) := dk_42 (dk_at dksX3_skip_1 20 rfl rfl)
theorem dX3_skip_43 : decode cX3_skip 43 = .ok (.getfield 13, 3) := dk_180 0 13 (dk_at dksX3_skip_1 21 rfl rfl)
theorem dX3_skip_46 : decode cX3_skip 46 = .ok (.invokevirtual 127, 3) := dk_182 0 127 (dk_at dksX3_skip_2 0 rfl rfl)
theorem dX3_skip_49 : decode cX3_skip 49 = .ok (.aload_n 0, 1) := dk_42 (dk_at dksX3_skip_2 3 rfl rfl)
theorem dX3_skip_50 : decode cX3_skip 50 = .ok (.invokevirtual 183, 3) := dk_182 0 183 (dk_at dksX3_skip_2 4 rfl rfl)
theorem dX3_skip_53 : decode cX3_skip 53 = .ok (.aload_n 0, 1) := dk_42 (dk_at dksX3_skip_2 7 rfl rfl)
theorem dX3_skip_54 : decode cX3_skip 54 = .ok (.aload_n 0, 1) := dk_42 (dk_at dksX3_skip_2 8 rfl rfl)
theorem dX3_skip_55 : decode cX3_skip 55 = .ok (.getfield 13, 3) := dk_180 0 13 (dk_at dksX3_skip_2 9 rfl rfl)
theorem dX3_skip_58 : decode cX3_skip 58 = .ok (.iload_n 1, 1) := dk_27 (dk_at dksX3_skip_2 12 rfl rfl)
theorem dX3_skip_59 : decode cX3_skip 59 = .ok (.iload_n 2, 1) := dk_28 (dk_at dksX3_skip_2 13 rfl rfl)
theorem dX3_skip_60 : decode cX3_skip 60 = .ok (.invokevirtual 136, 3) := dk_182 0 136 (dk_at dksX3_skip_2 14 rfl rfl)
theorem dX3_skip_63 : decode cX3_skip 63 = .ok (.ireturn, 1) := dk_172 (dk_at dksX3_skip_2 17 rfl rfl)
abbrev cX3_goBack : ByteArray := prog_18_method_58_code
def yX3_goBack : MethodName := ⟨RX3, "goBack", "(I)I"⟩
def dkwX3_goBack_1 : List UInt8 := [172, 42, 182, 0, 183, 42, 180, 0, 13, 27, 184, 0, 139, 172]
abbrev dktX3_goBack_1 : List UInt8 := dkwX3_goBack_1 ++ []
def dkwX3_goBack_0 : List UInt8 := [42, 42, 180, 0, 13, 27, 184, 0, 130, 153, 0, 7, 3, 167, 0, 4, 4, 182, 0, 95, 153, 0, 5, 3]
abbrev dktX3_goBack_0 : List UInt8 := dkwX3_goBack_0 ++ dktX3_goBack_1
theorem dksX3_goBack_0 : cX3_goBack.data.toList.drop 0 = dktX3_goBack_0 := by decide +kernel
theorem dksX3_goBack_1 : cX3_goBack.data.toList.drop 24 = dktX3_goBack_1 := dk_seg dksX3_goBack_0 24 rfl rfl
theorem dX3_goBack_0 : decode cX3_goBack 0 = .ok (.aload_n 0, 1) := dk_42 (dk_at dksX3_goBack_0 0 rfl rfl)
theorem dX3_goBack_1 : decode cX3_goBack 1 = .ok (.aload_n 0, 1) := dk_42 (dk_at dksX3_goBack_0 1 rfl rfl)
theorem dX3_goBack_2 : decode cX3_goBack 2 = .ok (.getfield 13, 3) := dk_180 0 13 (dk_at dksX3_goBack_0 2 rfl rfl)
theorem dX3_goBack_5 : decode cX3_goBack 5 = .ok (.iload_n 1, 1) := dk_27 (dk_at dksX3_goBack_0 5 rfl rfl)
theorem dX3_goBack_6 : decode cX3_goBack 6 = .ok (.invokestatic 130, 3) := dk_184 0 130 (dk_at dksX3_goBack_0 6 rfl rfl)
theorem dX3_goBack_9 : decode cX3_goBack 9 = .ok (.ifCond .eq 7, 3) := dk_153 0 7 (dk_at dksX3_goBack_0 9 rfl rfl)
theorem dX3_goBack_12 : decode cX3_goBack 12 = .ok (.iconst 0, 1) := dk_3 (dk_at dksX3_goBack_0 12 rfl rfl)
theorem dX3_goBack_13 : decode cX3_goBack 13 = .ok (.goto 4, 3) := dk_167 0 4 (dk_at dksX3_goBack_0 13 rfl rfl)
theorem dX3_goBack_16 : decode cX3_goBack 16 = .ok (.iconst 1, 1) := dk_4 (dk_at dksX3_goBack_0 16 rfl rfl)
theorem dX3_goBack_17 : decode cX3_goBack 17 = .ok (.invokevirtual 95, 3) := dk_182 0 95 (dk_at dksX3_goBack_0 17 rfl rfl)
theorem dX3_goBack_20 : decode cX3_goBack 20 = .ok (.ifCond .eq 5, 3) := dk_153 0 5 (dk_at dksX3_goBack_0 20 rfl rfl)
theorem dX3_goBack_23 : decode cX3_goBack 23 = .ok (.iconst 0, 1) := dk_3 (dk_at dksX3_goBack_0 23 rfl rfl)
theorem dX3_goBack_24 : decode cX3_goBack 24 = .ok (.ireturn, 1) := dk_172 (dk_at dksX3_goBack_1 0 rfl rfl)
theorem dX3_goBack_25 : decode cX3_goBack 25 = .ok (.aload_n 0, 1) := dk_42 (dk_at dksX3_goBack_1 1 rfl rfl)
theorem dX3_goBack_26 : decode cX3_goBack 26 = .ok (.invokevirtual 183, 3) := dk_182 0 183 (dk_at dksX3_goBack_1 2 rfl rfl)
theorem dX3_goBack_29 : decode cX3_goBack 29 = .ok (.aload_n 0, 1) := dk_42 (dk_at dksX3_goBack_1 5 rfl rfl)
theorem dX3_goBack_30 : decode cX3_goBack 30 = .ok (.getfield 13, 3) := dk_180 0 13 (dk_at dksX3_goBack_1 6 rfl rfl)
theorem dX3_goBack_33 : decode cX3_goBack 33 = .ok (.iload_n 1, 1) := dk_27 (dk_at dksX3_goBack_1 9 rfl rfl)
theorem dX3_goBack_34 : decode cX3_goBack 34 = .ok (.invokestatic 139, 3) := dk_184 0 139 (dk_at dksX3_goBack_1 10 rfl rfl)
theorem dX3_goBack_37 : decode cX3_goBack 37 = .ok (.ireturn, 1) := dk_172 (dk_at dksX3_goBack_1 13 rfl rfl)
abbrev cX3_stopReading : ByteArray := prog_18_method_59_code
def yX3_stopReading : MethodName := ⟨RX3, "stopReading", "(I)I"⟩
def dkwX3_stopReading_1 : List UInt8 := [172, 42, 182, 0, 183, 42, 180, 0, 13, 27, 184, 0, 142, 172]
abbrev dktX3_stopReading_1 : List UInt8 := dkwX3_stopReading_1 ++ []
def dkwX3_stopReading_0 : List UInt8 := [42, 42, 180, 0, 13, 27, 184, 0, 130, 153, 0, 7, 3, 167, 0, 4, 4, 182, 0, 95, 153, 0, 5, 3]
abbrev dktX3_stopReading_0 : List UInt8 := dkwX3_stopReading_0 ++ dktX3_stopReading_1
theorem dksX3_stopReading_0 : cX3_stopReading.data.toList.drop 0 = dktX3_stopReading_0 := by decide +kernel
theorem dksX3_stopReading_1 : cX3_stopReading.data.toList.drop 24 = dktX3_stopReading_1 := dk_seg dksX3_stopReading_0 24 rfl rfl
theorem dX3_stopReading_0 : decode cX3_stopReading 0 = .ok (.aload_n 0, 1) := dk_42 (dk_at dksX3_stopReading_0 0 rfl rfl)
theorem dX3_stopReading_1 : decode cX3_stopReading 1 = .ok (.aload_n 0, 1) := dk_42 (dk_at dksX3_stopReading_0 1 rfl rfl)
theorem dX3_stopReading_2 : decode cX3_stopReading 2 = .ok (.getfield 13, 3) := dk_180 0 13 (dk_at dksX3_stopReading_0 2 rfl rfl)
theorem dX3_stopReading_5 : decode cX3_stopReading 5 = .ok (.iload_n 1, 1) := dk_27 (dk_at dksX3_stopReading_0 5 rfl rfl)
theorem dX3_stopReading_6 : decode cX3_stopReading 6 = .ok (.invokestatic 130, 3) := dk_184 0 130 (dk_at dksX3_stopReading_0 6 rfl rfl)
theorem dX3_stopReading_9 : decode cX3_stopReading 9 = .ok (.ifCond .eq 7, 3) := dk_153 0 7 (dk_at dksX3_stopReading_0 9 rfl rfl)
theorem dX3_stopReading_12 : decode cX3_stopReading 12 = .ok (.iconst 0, 1) := dk_3 (dk_at dksX3_stopReading_0 12 rfl rfl)
theorem dX3_stopReading_13 : decode cX3_stopReading 13 = .ok (.goto 4, 3) := dk_167 0 4 (dk_at dksX3_stopReading_0 13 rfl rfl)
theorem dX3_stopReading_16 : decode cX3_stopReading 16 = .ok (.iconst 1, 1) := dk_4 (dk_at dksX3_stopReading_0 16 rfl rfl)
theorem dX3_stopReading_17 : decode cX3_stopReading 17 = .ok (.invokevirtual 95, 3) := dk_182 0 95 (dk_at dksX3_stopReading_0 17 rfl rfl)
theorem dX3_stopReading_20 : decode cX3_stopReading 20 = .ok (.ifCond .eq 5, 3) := dk_153 0 5 (dk_at dksX3_stopReading_0 20 rfl rfl)
theorem dX3_stopReading_23 : decode cX3_stopReading 23 = .ok (.iconst 0, 1) := dk_3 (dk_at dksX3_stopReading_0 23 rfl rfl)
theorem dX3_stopReading_24 : decode cX3_stopReading 24 = .ok (.ireturn, 1) := dk_172 (dk_at dksX3_stopReading_1 0 rfl rfl)
theorem dX3_stopReading_25 : decode cX3_stopReading 25 = .ok (.aload_n 0, 1) := dk_42 (dk_at dksX3_stopReading_1 1 rfl rfl)
theorem dX3_stopReading_26 : decode cX3_stopReading 26 = .ok (.invokevirtual 183, 3) := dk_182 0 183 (dk_at dksX3_stopReading_1 2 rfl rfl)
theorem dX3_stopReading_29 : decode cX3_stopReading 29 = .ok (.aload_n 0, 1) := dk_42 (dk_at dksX3_stopReading_1 5 rfl rfl)
theorem dX3_stopReading_30 : decode cX3_stopReading 30 = .ok (.getfield 13, 3) := dk_180 0 13 (dk_at dksX3_stopReading_1 6 rfl rfl)
theorem dX3_stopReading_33 : decode cX3_stopReading 33 = .ok (.iload_n 1, 1) := dk_27 (dk_at dksX3_stopReading_1 9 rfl rfl)
theorem dX3_stopReading_34 : decode cX3_stopReading 34 = .ok (.invokestatic 142, 3) := dk_184 0 142 (dk_at dksX3_stopReading_1 10 rfl rfl)
theorem dX3_stopReading_37 : decode cX3_stopReading 37 = .ok (.ireturn, 1) := dk_172 (dk_at dksX3_stopReading_1 13 rfl rfl)
abbrev cX3_undo : ByteArray := prog_18_method_60_code
def yX3_undo : MethodName := ⟨RX3, "undo", "()I"⟩
def dkwX3_undo_2 : List UInt8 := [184, 0, 176, 42, 180, 0, 180, 172]
abbrev dktX3_undo_2 : List UInt8 := dkwX3_undo_2 ++ []
def dkwX3_undo_1 : List UInt8 := [180, 0, 180, 4, 100, 181, 0, 180, 42, 180, 0, 19, 16, 59, 42, 180, 0, 180, 104, 42, 180, 0, 13, 3]
abbrev dktX3_undo_1 : List UInt8 := dkwX3_undo_1 ++ dktX3_undo_2
def dkwX3_undo_0 : List UInt8 := [42, 42, 180, 0, 180, 154, 0, 7, 4, 167, 0, 4, 3, 182, 0, 95, 153, 0, 5, 3, 172, 42, 89]
abbrev dktX3_undo_0 : List UInt8 := dkwX3_undo_0 ++ dktX3_undo_1
theorem dksX3_undo_0 : cX3_undo.data.toList.drop 0 = dktX3_undo_0 := by decide +kernel
theorem dksX3_undo_1 : cX3_undo.data.toList.drop 23 = dktX3_undo_1 := dk_seg dksX3_undo_0 23 rfl rfl
theorem dksX3_undo_2 : cX3_undo.data.toList.drop 47 = dktX3_undo_2 := dk_seg dksX3_undo_1 24 rfl rfl
theorem dX3_undo_0 : decode cX3_undo 0 = .ok (.aload_n 0, 1) := dk_42 (dk_at dksX3_undo_0 0 rfl rfl)
theorem dX3_undo_1 : decode cX3_undo 1 = .ok (.aload_n 0, 1) := dk_42 (dk_at dksX3_undo_0 1 rfl rfl)
theorem dX3_undo_2 : decode cX3_undo 2 = .ok (.getfield 180, 3) := dk_180 0 180 (dk_at dksX3_undo_0 2 rfl rfl)
theorem dX3_undo_5 : decode cX3_undo 5 = .ok (.ifCond .ne 7, 3) := dk_154 0 7 (dk_at dksX3_undo_0 5 rfl rfl)
theorem dX3_undo_8 : decode cX3_undo 8 = .ok (.iconst 1, 1) := dk_4 (dk_at dksX3_undo_0 8 rfl rfl)
theorem dX3_undo_9 : decode cX3_undo 9 = .ok (.goto 4, 3) := dk_167 0 4 (dk_at dksX3_undo_0 9 rfl rfl)
theorem dX3_undo_12 : decode cX3_undo 12 = .ok (.iconst 0, 1) := dk_3 (dk_at dksX3_undo_0 12 rfl rfl)
theorem dX3_undo_13 : decode cX3_undo 13 = .ok (.invokevirtual 95, 3) := dk_182 0 95 (dk_at dksX3_undo_0 13 rfl rfl)
theorem dX3_undo_16 : decode cX3_undo 16 = .ok (.ifCond .eq 5, 3) := dk_153 0 5 (dk_at dksX3_undo_0 16 rfl rfl)
theorem dX3_undo_19 : decode cX3_undo 19 = .ok (.iconst 0, 1) := dk_3 (dk_at dksX3_undo_0 19 rfl rfl)
theorem dX3_undo_20 : decode cX3_undo 20 = .ok (.ireturn, 1) := dk_172 (dk_at dksX3_undo_0 20 rfl rfl)
theorem dX3_undo_21 : decode cX3_undo 21 = .ok (.aload_n 0, 1) := dk_42 (dk_at dksX3_undo_0 21 rfl rfl)
theorem dX3_undo_22 : decode cX3_undo 22 = .ok (.dup, 1) := dk_89 (dk_at dksX3_undo_0 22 rfl rfl)
theorem dX3_undo_23 : decode cX3_undo 23 = .ok (.getfield 180, 3) := dk_180 0 180 (dk_at dksX3_undo_1 0 rfl rfl)
theorem dX3_undo_26 : decode cX3_undo 26 = .ok (.iconst 1, 1) := dk_4 (dk_at dksX3_undo_1 3 rfl rfl)
theorem dX3_undo_27 : decode cX3_undo 27 = .ok (.isub, 1) := dk_100 (dk_at dksX3_undo_1 4 rfl rfl)
theorem dX3_undo_28 : decode cX3_undo 28 = .ok (.putfield 180, 3) := dk_181 0 180 (dk_at dksX3_undo_1 5 rfl rfl)
theorem dX3_undo_31 : decode cX3_undo 31 = .ok (.aload_n 0, 1) := dk_42 (dk_at dksX3_undo_1 8 rfl rfl)
theorem dX3_undo_32 : decode cX3_undo 32 = .ok (.getfield 19, 3) := dk_180 0 19 (dk_at dksX3_undo_1 9 rfl rfl)
theorem dX3_undo_35 : decode cX3_undo 35 = .ok (.bipush 59, 2) := dk_16 59 (dk_at dksX3_undo_1 12 rfl rfl)
theorem dX3_undo_37 : decode cX3_undo 37 = .ok (.aload_n 0, 1) := dk_42 (dk_at dksX3_undo_1 14 rfl rfl)
theorem dX3_undo_38 : decode cX3_undo 38 = .ok (.getfield 180, 3) := dk_180 0 180 (dk_at dksX3_undo_1 15 rfl rfl)
theorem dX3_undo_41 : decode cX3_undo 41 = .ok (.imul, 1) := dk_104 (dk_at dksX3_undo_1 18 rfl rfl)
theorem dX3_undo_42 : decode cX3_undo 42 = .ok (.aload_n 0, 1) := dk_42 (dk_at dksX3_undo_1 19 rfl rfl)
theorem dX3_undo_43 : decode cX3_undo 43 = .ok (.getfield 13, 3) := dk_180 0 13 (dk_at dksX3_undo_1 20 rfl rfl)
theorem dX3_undo_46 : decode cX3_undo 46 = .ok (.iconst 0, 1) := dk_3 (dk_at dksX3_undo_1 23 rfl rfl)
theorem dX3_undo_47 : decode cX3_undo 47 = .ok (.invokestatic 176, 3) := dk_184 0 176 (dk_at dksX3_undo_2 0 rfl rfl)
theorem dX3_undo_50 : decode cX3_undo 50 = .ok (.aload_n 0, 1) := dk_42 (dk_at dksX3_undo_2 3 rfl rfl)
theorem dX3_undo_51 : decode cX3_undo 51 = .ok (.getfield 180, 3) := dk_180 0 180 (dk_at dksX3_undo_2 4 rfl rfl)
theorem dX3_undo_54 : decode cX3_undo 54 = .ok (.ireturn, 1) := dk_172 (dk_at dksX3_undo_2 7 rfl rfl)
abbrev cX3_lists : ByteArray := prog_18_method_61_code
def yX3_lists : MethodName := ⟨RX3, "lists", "()I"⟩
def dkwX3_lists_0 : List UInt8 := [42, 3, 181, 0, 39, 42, 180, 0, 13, 3, 46, 172]
abbrev dktX3_lists_0 : List UInt8 := dkwX3_lists_0 ++ []
theorem dksX3_lists_0 : cX3_lists.data.toList.drop 0 = dktX3_lists_0 := by decide +kernel
theorem dX3_lists_0 : decode cX3_lists 0 = .ok (.aload_n 0, 1) := dk_42 (dk_at dksX3_lists_0 0 rfl rfl)
theorem dX3_lists_1 : decode cX3_lists 1 = .ok (.iconst 0, 1) := dk_3 (dk_at dksX3_lists_0 1 rfl rfl)
theorem dX3_lists_2 : decode cX3_lists 2 = .ok (.putfield 39, 3) := dk_181 0 39 (dk_at dksX3_lists_0 2 rfl rfl)
theorem dX3_lists_5 : decode cX3_lists 5 = .ok (.aload_n 0, 1) := dk_42 (dk_at dksX3_lists_0 5 rfl rfl)
theorem dX3_lists_6 : decode cX3_lists 6 = .ok (.getfield 13, 3) := dk_180 0 13 (dk_at dksX3_lists_0 6 rfl rfl)
theorem dX3_lists_9 : decode cX3_lists 9 = .ok (.iconst 0, 1) := dk_3 (dk_at dksX3_lists_0 9 rfl rfl)
theorem dX3_lists_10 : decode cX3_lists 10 = .ok (.iaload, 1) := dk_46 (dk_at dksX3_lists_0 10 rfl rfl)
theorem dX3_lists_11 : decode cX3_lists 11 = .ok (.ireturn, 1) := dk_172 (dk_at dksX3_lists_0 11 rfl rfl)
abbrev cX3_isMember : ByteArray := prog_18_method_63_code
def yX3_isMember : MethodName := ⟨RX3, "isMember", "(II)Z"⟩
def dkwX3_isMember_0 : List UInt8 := [42, 27, 28, 182, 0, 197, 154, 0, 16, 42, 27, 28, 182, 0, 51, 153, 0, 7, 4, 167, 0, 4, 3, 172]
abbrev dktX3_isMember_0 : List UInt8 := dkwX3_isMember_0 ++ []
theorem dksX3_isMember_0 : cX3_isMember.data.toList.drop 0 = dktX3_isMember_0 := by decide +kernel
theorem dX3_isMember_0 : decode cX3_isMember 0 = .ok (.aload_n 0, 1) := dk_42 (dk_at dksX3_isMember_0 0 rfl rfl)
theorem dX3_isMember_1 : decode cX3_isMember 1 = .ok (.iload_n 1, 1) := dk_27 (dk_at dksX3_isMember_0 1 rfl rfl)
theorem dX3_isMember_2 : decode cX3_isMember 2 = .ok (.iload_n 2, 1) := dk_28 (dk_at dksX3_isMember_0 2 rfl rfl)
theorem dX3_isMember_3 : decode cX3_isMember 3 = .ok (.invokevirtual 197, 3) := dk_182 0 197 (dk_at dksX3_isMember_0 3 rfl rfl)
theorem dX3_isMember_6 : decode cX3_isMember 6 = .ok (.ifCond .ne 16, 3) := dk_154 0 16 (dk_at dksX3_isMember_0 6 rfl rfl)
theorem dX3_isMember_9 : decode cX3_isMember 9 = .ok (.aload_n 0, 1) := dk_42 (dk_at dksX3_isMember_0 9 rfl rfl)
theorem dX3_isMember_10 : decode cX3_isMember 10 = .ok (.iload_n 1, 1) := dk_27 (dk_at dksX3_isMember_0 10 rfl rfl)
theorem dX3_isMember_11 : decode cX3_isMember 11 = .ok (.iload_n 2, 1) := dk_28 (dk_at dksX3_isMember_0 11 rfl rfl)
theorem dX3_isMember_12 : decode cX3_isMember 12 = .ok (.invokevirtual 51, 3) := dk_182 0 51 (dk_at dksX3_isMember_0 12 rfl rfl)
theorem dX3_isMember_15 : decode cX3_isMember 15 = .ok (.ifCond .eq 7, 3) := dk_153 0 7 (dk_at dksX3_isMember_0 15 rfl rfl)
theorem dX3_isMember_18 : decode cX3_isMember 18 = .ok (.iconst 1, 1) := dk_4 (dk_at dksX3_isMember_0 18 rfl rfl)
theorem dX3_isMember_19 : decode cX3_isMember 19 = .ok (.goto 4, 3) := dk_167 0 4 (dk_at dksX3_isMember_0 19 rfl rfl)
theorem dX3_isMember_22 : decode cX3_isMember 22 = .ok (.iconst 0, 1) := dk_3 (dk_at dksX3_isMember_0 22 rfl rfl)
theorem dX3_isMember_23 : decode cX3_isMember 23 = .ok (.ireturn, 1) := dk_172 (dk_at dksX3_isMember_0 23 rfl rfl)
abbrev cX3_wrong : ByteArray := prog_18_method_62_code
def yX3_wrong : MethodName := ⟨RX3, "wrong", "(II)Z"⟩
def dkwX3_wrong_2 : List UInt8 := [182, 0, 127, 29, 172]
abbrev dktX3_wrong_2 : List UInt8 := dkwX3_wrong_2 ++ []
def dkwX3_wrong_1 : List UInt8 := [184, 0, 43, 153, 0, 7, 3, 167, 0, 4, 5, 182, 0, 95, 62, 29, 154, 0, 11, 42, 42, 180, 0, 13]
abbrev dktX3_wrong_1 : List UInt8 := dkwX3_wrong_1 ++ dktX3_wrong_2
def dkwX3_wrong_0 : List UInt8 := [42, 42, 180, 0, 13, 27, 184, 0, 123, 154, 0, 7, 4, 167, 0, 20, 28, 133, 9, 20, 0, 186]
abbrev dktX3_wrong_0 : List UInt8 := dkwX3_wrong_0 ++ dktX3_wrong_1
theorem dksX3_wrong_0 : cX3_wrong.data.toList.drop 0 = dktX3_wrong_0 := by decide +kernel
theorem dksX3_wrong_1 : cX3_wrong.data.toList.drop 22 = dktX3_wrong_1 := dk_seg dksX3_wrong_0 22 rfl rfl
theorem dksX3_wrong_2 : cX3_wrong.data.toList.drop 46 = dktX3_wrong_2 := dk_seg dksX3_wrong_1 24 rfl rfl
theorem dX3_wrong_0 : decode cX3_wrong 0 = .ok (.aload_n 0, 1) := dk_42 (dk_at dksX3_wrong_0 0 rfl rfl)
theorem dX3_wrong_1 : decode cX3_wrong 1 = .ok (.aload_n 0, 1) := dk_42 (dk_at dksX3_wrong_0 1 rfl rfl)
theorem dX3_wrong_2 : decode cX3_wrong 2 = .ok (.getfield 13, 3) := dk_180 0 13 (dk_at dksX3_wrong_0 2 rfl rfl)
theorem dX3_wrong_5 : decode cX3_wrong 5 = .ok (.iload_n 1, 1) := dk_27 (dk_at dksX3_wrong_0 5 rfl rfl)
theorem dX3_wrong_6 : decode cX3_wrong 6 = .ok (.invokestatic 123, 3) := dk_184 0 123 (dk_at dksX3_wrong_0 6 rfl rfl)
theorem dX3_wrong_9 : decode cX3_wrong 9 = .ok (.ifCond .ne 7, 3) := dk_154 0 7 (dk_at dksX3_wrong_0 9 rfl rfl)
theorem dX3_wrong_12 : decode cX3_wrong 12 = .ok (.iconst 1, 1) := dk_4 (dk_at dksX3_wrong_0 12 rfl rfl)
theorem dX3_wrong_13 : decode cX3_wrong 13 = .ok (.goto 20, 3) := dk_167 0 20 (dk_at dksX3_wrong_0 13 rfl rfl)
theorem dX3_wrong_16 : decode cX3_wrong 16 = .ok (.iload_n 2, 1) := dk_28 (dk_at dksX3_wrong_0 16 rfl rfl)
theorem dX3_wrong_17 : decode cX3_wrong 17 = .ok (.i2l, 1) := dk_133 (dk_at dksX3_wrong_0 17 rfl rfl)
theorem dX3_wrong_18 : decode cX3_wrong 18 = .ok (.lconst 0, 1) := dk_9 (dk_at dksX3_wrong_0 18 rfl rfl)
theorem dX3_wrong_19 : decode cX3_wrong 19 = .ok (.ldc2_w 186, 3) := dk_20 0 186 (dk_at dksX3_wrong_0 19 rfl rfl)
theorem dX3_wrong_22 : decode cX3_wrong 22 = .ok (.invokestatic 43, 3) := dk_184 0 43 (dk_at dksX3_wrong_1 0 rfl rfl)
theorem dX3_wrong_25 : decode cX3_wrong 25 = .ok (.ifCond .eq 7, 3) := dk_153 0 7 (dk_at dksX3_wrong_1 3 rfl rfl)
theorem dX3_wrong_28 : decode cX3_wrong 28 = .ok (.iconst 0, 1) := dk_3 (dk_at dksX3_wrong_1 6 rfl rfl)
theorem dX3_wrong_29 : decode cX3_wrong 29 = .ok (.goto 4, 3) := dk_167 0 4 (dk_at dksX3_wrong_1 7 rfl rfl)
theorem dX3_wrong_32 : decode cX3_wrong 32 = .ok (.iconst 2, 1) := dk_5 (dk_at dksX3_wrong_1 10 rfl rfl)
theorem dX3_wrong_33 : decode cX3_wrong 33 = .ok (.invokevirtual 95, 3) := dk_182 0 95 (dk_at dksX3_wrong_1 11 rfl rfl)
theorem dX3_wrong_36 : decode cX3_wrong 36 = .ok (.istore_n 3, 1) := dk_62 (dk_at dksX3_wrong_1 14 rfl rfl)
theorem dX3_wrong_37 : decode cX3_wrong 37 = .ok (.iload_n 3, 1) := dk_29 (dk_at dksX3_wrong_1 15 rfl rfl)
theorem dX3_wrong_38 : decode cX3_wrong 38 = .ok (.ifCond .ne 11, 3) := dk_154 0 11 (dk_at dksX3_wrong_1 16 rfl rfl)
theorem dX3_wrong_41 : decode cX3_wrong 41 = .ok (.aload_n 0, 1) := dk_42 (dk_at dksX3_wrong_1 19 rfl rfl)
theorem dX3_wrong_42 : decode cX3_wrong 42 = .ok (.aload_n 0, 1) := dk_42 (dk_at dksX3_wrong_1 20 rfl rfl)
theorem dX3_wrong_43 : decode cX3_wrong 43 = .ok (.getfield 13, 3) := dk_180 0 13 (dk_at dksX3_wrong_1 21 rfl rfl)
theorem dX3_wrong_46 : decode cX3_wrong 46 = .ok (.invokevirtual 127, 3) := dk_182 0 127 (dk_at dksX3_wrong_2 0 rfl rfl)
theorem dX3_wrong_49 : decode cX3_wrong 49 = .ok (.iload_n 3, 1) := dk_29 (dk_at dksX3_wrong_2 3 rfl rfl)
theorem dX3_wrong_50 : decode cX3_wrong 50 = .ok (.ireturn, 1) := dk_172 (dk_at dksX3_wrong_2 4 rfl rfl)
abbrev cX3_memberByReading : ByteArray := prog_18_method_65_code
def yX3_memberByReading : MethodName := ⟨RX3, "memberByReading", "(II)I"⟩
def dkwX3_memberByReading_0 : List UInt8 := [42, 27, 28, 182, 0, 200, 172]
abbrev dktX3_memberByReading_0 : List UInt8 := dkwX3_memberByReading_0 ++ []
theorem dksX3_memberByReading_0 : cX3_memberByReading.data.toList.drop 0 = dktX3_memberByReading_0 := by decide +kernel
theorem dX3_memberByReading_0 : decode cX3_memberByReading 0 = .ok (.aload_n 0, 1) := dk_42 (dk_at dksX3_memberByReading_0 0 rfl rfl)
theorem dX3_memberByReading_1 : decode cX3_memberByReading 1 = .ok (.iload_n 1, 1) := dk_27 (dk_at dksX3_memberByReading_0 1 rfl rfl)
theorem dX3_memberByReading_2 : decode cX3_memberByReading 2 = .ok (.iload_n 2, 1) := dk_28 (dk_at dksX3_memberByReading_0 2 rfl rfl)
theorem dX3_memberByReading_3 : decode cX3_memberByReading 3 = .ok (.invokevirtual 200, 3) := dk_182 0 200 (dk_at dksX3_memberByReading_0 3 rfl rfl)
theorem dX3_memberByReading_6 : decode cX3_memberByReading 6 = .ok (.ireturn, 1) := dk_172 (dk_at dksX3_memberByReading_0 6 rfl rfl)
abbrev cX3_memberAt : ByteArray := prog_18_method_64_code
def yX3_memberAt : MethodName := ⟨RX3, "memberAt", "(II)I"⟩
def dkwX3_memberAt_1 : List UInt8 := [153, 0, 5, 3, 172, 42, 42, 180, 0, 13, 182, 0, 127, 42, 27, 28, 182, 0, 80, 172]
abbrev dktX3_memberAt_1 : List UInt8 := dkwX3_memberAt_1 ++ []
def dkwX3_memberAt_0 : List UInt8 := [42, 42, 180, 0, 13, 27, 184, 0, 123, 153, 0, 11, 28, 155, 0, 7, 3, 167, 0, 4, 4, 182, 0, 95]
abbrev dktX3_memberAt_0 : List UInt8 := dkwX3_memberAt_0 ++ dktX3_memberAt_1
theorem dksX3_memberAt_0 : cX3_memberAt.data.toList.drop 0 = dktX3_memberAt_0 := by decide +kernel
theorem dksX3_memberAt_1 : cX3_memberAt.data.toList.drop 24 = dktX3_memberAt_1 := dk_seg dksX3_memberAt_0 24 rfl rfl
theorem dX3_memberAt_0 : decode cX3_memberAt 0 = .ok (.aload_n 0, 1) := dk_42 (dk_at dksX3_memberAt_0 0 rfl rfl)
theorem dX3_memberAt_1 : decode cX3_memberAt 1 = .ok (.aload_n 0, 1) := dk_42 (dk_at dksX3_memberAt_0 1 rfl rfl)
theorem dX3_memberAt_2 : decode cX3_memberAt 2 = .ok (.getfield 13, 3) := dk_180 0 13 (dk_at dksX3_memberAt_0 2 rfl rfl)
theorem dX3_memberAt_5 : decode cX3_memberAt 5 = .ok (.iload_n 1, 1) := dk_27 (dk_at dksX3_memberAt_0 5 rfl rfl)
theorem dX3_memberAt_6 : decode cX3_memberAt 6 = .ok (.invokestatic 123, 3) := dk_184 0 123 (dk_at dksX3_memberAt_0 6 rfl rfl)
theorem dX3_memberAt_9 : decode cX3_memberAt 9 = .ok (.ifCond .eq 11, 3) := dk_153 0 11 (dk_at dksX3_memberAt_0 9 rfl rfl)
theorem dX3_memberAt_12 : decode cX3_memberAt 12 = .ok (.iload_n 2, 1) := dk_28 (dk_at dksX3_memberAt_0 12 rfl rfl)
theorem dX3_memberAt_13 : decode cX3_memberAt 13 = .ok (.ifCond .lt 7, 3) := dk_155 0 7 (dk_at dksX3_memberAt_0 13 rfl rfl)
theorem dX3_memberAt_16 : decode cX3_memberAt 16 = .ok (.iconst 0, 1) := dk_3 (dk_at dksX3_memberAt_0 16 rfl rfl)
theorem dX3_memberAt_17 : decode cX3_memberAt 17 = .ok (.goto 4, 3) := dk_167 0 4 (dk_at dksX3_memberAt_0 17 rfl rfl)
theorem dX3_memberAt_20 : decode cX3_memberAt 20 = .ok (.iconst 1, 1) := dk_4 (dk_at dksX3_memberAt_0 20 rfl rfl)
theorem dX3_memberAt_21 : decode cX3_memberAt 21 = .ok (.invokevirtual 95, 3) := dk_182 0 95 (dk_at dksX3_memberAt_0 21 rfl rfl)
theorem dX3_memberAt_24 : decode cX3_memberAt 24 = .ok (.ifCond .eq 5, 3) := dk_153 0 5 (dk_at dksX3_memberAt_1 0 rfl rfl)
theorem dX3_memberAt_27 : decode cX3_memberAt 27 = .ok (.iconst 0, 1) := dk_3 (dk_at dksX3_memberAt_1 3 rfl rfl)
theorem dX3_memberAt_28 : decode cX3_memberAt 28 = .ok (.ireturn, 1) := dk_172 (dk_at dksX3_memberAt_1 4 rfl rfl)
theorem dX3_memberAt_29 : decode cX3_memberAt 29 = .ok (.aload_n 0, 1) := dk_42 (dk_at dksX3_memberAt_1 5 rfl rfl)
theorem dX3_memberAt_30 : decode cX3_memberAt 30 = .ok (.aload_n 0, 1) := dk_42 (dk_at dksX3_memberAt_1 6 rfl rfl)
theorem dX3_memberAt_31 : decode cX3_memberAt 31 = .ok (.getfield 13, 3) := dk_180 0 13 (dk_at dksX3_memberAt_1 7 rfl rfl)
theorem dX3_memberAt_34 : decode cX3_memberAt 34 = .ok (.invokevirtual 127, 3) := dk_182 0 127 (dk_at dksX3_memberAt_1 10 rfl rfl)
theorem dX3_memberAt_37 : decode cX3_memberAt 37 = .ok (.aload_n 0, 1) := dk_42 (dk_at dksX3_memberAt_1 13 rfl rfl)
theorem dX3_memberAt_38 : decode cX3_memberAt 38 = .ok (.iload_n 1, 1) := dk_27 (dk_at dksX3_memberAt_1 14 rfl rfl)
theorem dX3_memberAt_39 : decode cX3_memberAt 39 = .ok (.iload_n 2, 1) := dk_28 (dk_at dksX3_memberAt_1 15 rfl rfl)
theorem dX3_memberAt_40 : decode cX3_memberAt 40 = .ok (.invokevirtual 80, 3) := dk_182 0 80 (dk_at dksX3_memberAt_1 16 rfl rfl)
theorem dX3_memberAt_43 : decode cX3_memberAt 43 = .ok (.ireturn, 1) := dk_172 (dk_at dksX3_memberAt_1 19 rfl rfl)
abbrev cX3_memberByTesting : ByteArray := prog_18_method_66_code
def yX3_memberByTesting : MethodName := ⟨RX3, "memberByTesting", "(II)I"⟩
def dkwX3_memberByTesting_0 : List UInt8 := [42, 27, 28, 182, 0, 200, 172]
abbrev dktX3_memberByTesting_0 : List UInt8 := dkwX3_memberByTesting_0 ++ []
theorem dksX3_memberByTesting_0 : cX3_memberByTesting.data.toList.drop 0 = dktX3_memberByTesting_0 := by decide +kernel
theorem dX3_memberByTesting_0 : decode cX3_memberByTesting 0 = .ok (.aload_n 0, 1) := dk_42 (dk_at dksX3_memberByTesting_0 0 rfl rfl)
theorem dX3_memberByTesting_1 : decode cX3_memberByTesting 1 = .ok (.iload_n 1, 1) := dk_27 (dk_at dksX3_memberByTesting_0 1 rfl rfl)
theorem dX3_memberByTesting_2 : decode cX3_memberByTesting 2 = .ok (.iload_n 2, 1) := dk_28 (dk_at dksX3_memberByTesting_0 2 rfl rfl)
theorem dX3_memberByTesting_3 : decode cX3_memberByTesting 3 = .ok (.invokevirtual 200, 3) := dk_182 0 200 (dk_at dksX3_memberByTesting_0 3 rfl rfl)
theorem dX3_memberByTesting_6 : decode cX3_memberByTesting 6 = .ok (.ireturn, 1) := dk_172 (dk_at dksX3_memberByTesting_0 6 rfl rfl)
abbrev cX3_placeOf : ByteArray := prog_18_method_67_code
def yX3_placeOf : MethodName := ⟨RX3, "placeOf", "(II)I"⟩
def dkwX3_placeOf_1 : List UInt8 := [182, 0, 87, 4, 100, 167, 0, 4, 2, 172]
abbrev dktX3_placeOf_1 : List UInt8 := dkwX3_placeOf_1 ++ []
def dkwX3_placeOf_0 : List UInt8 := [42, 27, 28, 182, 0, 197, 153, 0, 5, 3, 172, 42, 27, 28, 182, 0, 51, 153, 0, 14, 42, 27, 28]
abbrev dktX3_placeOf_0 : List UInt8 := dkwX3_placeOf_0 ++ dktX3_placeOf_1
theorem dksX3_placeOf_0 : cX3_placeOf.data.toList.drop 0 = dktX3_placeOf_0 := by decide +kernel
theorem dksX3_placeOf_1 : cX3_placeOf.data.toList.drop 23 = dktX3_placeOf_1 := dk_seg dksX3_placeOf_0 23 rfl rfl
theorem dX3_placeOf_0 : decode cX3_placeOf 0 = .ok (.aload_n 0, 1) := dk_42 (dk_at dksX3_placeOf_0 0 rfl rfl)
theorem dX3_placeOf_1 : decode cX3_placeOf 1 = .ok (.iload_n 1, 1) := dk_27 (dk_at dksX3_placeOf_0 1 rfl rfl)
theorem dX3_placeOf_2 : decode cX3_placeOf 2 = .ok (.iload_n 2, 1) := dk_28 (dk_at dksX3_placeOf_0 2 rfl rfl)
theorem dX3_placeOf_3 : decode cX3_placeOf 3 = .ok (.invokevirtual 197, 3) := dk_182 0 197 (dk_at dksX3_placeOf_0 3 rfl rfl)
theorem dX3_placeOf_6 : decode cX3_placeOf 6 = .ok (.ifCond .eq 5, 3) := dk_153 0 5 (dk_at dksX3_placeOf_0 6 rfl rfl)
theorem dX3_placeOf_9 : decode cX3_placeOf 9 = .ok (.iconst 0, 1) := dk_3 (dk_at dksX3_placeOf_0 9 rfl rfl)
theorem dX3_placeOf_10 : decode cX3_placeOf 10 = .ok (.ireturn, 1) := dk_172 (dk_at dksX3_placeOf_0 10 rfl rfl)
theorem dX3_placeOf_11 : decode cX3_placeOf 11 = .ok (.aload_n 0, 1) := dk_42 (dk_at dksX3_placeOf_0 11 rfl rfl)
theorem dX3_placeOf_12 : decode cX3_placeOf 12 = .ok (.iload_n 1, 1) := dk_27 (dk_at dksX3_placeOf_0 12 rfl rfl)
theorem dX3_placeOf_13 : decode cX3_placeOf 13 = .ok (.iload_n 2, 1) := dk_28 (dk_at dksX3_placeOf_0 13 rfl rfl)
theorem dX3_placeOf_14 : decode cX3_placeOf 14 = .ok (.invokevirtual 51, 3) := dk_182 0 51 (dk_at dksX3_placeOf_0 14 rfl rfl)
theorem dX3_placeOf_17 : decode cX3_placeOf 17 = .ok (.ifCond .eq 14, 3) := dk_153 0 14 (dk_at dksX3_placeOf_0 17 rfl rfl)
theorem dX3_placeOf_20 : decode cX3_placeOf 20 = .ok (.aload_n 0, 1) := dk_42 (dk_at dksX3_placeOf_0 20 rfl rfl)
theorem dX3_placeOf_21 : decode cX3_placeOf 21 = .ok (.iload_n 1, 1) := dk_27 (dk_at dksX3_placeOf_0 21 rfl rfl)
theorem dX3_placeOf_22 : decode cX3_placeOf 22 = .ok (.iload_n 2, 1) := dk_28 (dk_at dksX3_placeOf_0 22 rfl rfl)
theorem dX3_placeOf_23 : decode cX3_placeOf 23 = .ok (.invokevirtual 87, 3) := dk_182 0 87 (dk_at dksX3_placeOf_1 0 rfl rfl)
theorem dX3_placeOf_26 : decode cX3_placeOf 26 = .ok (.iconst 1, 1) := dk_4 (dk_at dksX3_placeOf_1 3 rfl rfl)
theorem dX3_placeOf_27 : decode cX3_placeOf 27 = .ok (.isub, 1) := dk_100 (dk_at dksX3_placeOf_1 4 rfl rfl)
theorem dX3_placeOf_28 : decode cX3_placeOf 28 = .ok (.goto 4, 3) := dk_167 0 4 (dk_at dksX3_placeOf_1 5 rfl rfl)
theorem dX3_placeOf_31 : decode cX3_placeOf 31 = .ok (.iconst (-1), 1) := dk_2 (dk_at dksX3_placeOf_1 8 rfl rfl)
theorem dX3_placeOf_32 : decode cX3_placeOf 32 = .ok (.ireturn, 1) := dk_172 (dk_at dksX3_placeOf_1 9 rfl rfl)
abbrev cX3_membersUpTo : ByteArray := prog_18_method_68_code
def yX3_membersUpTo : MethodName := ⟨RX3, "membersUpTo", "(II)I"⟩
def dkwX3_membersUpTo_0 : List UInt8 := [42, 27, 28, 182, 0, 197, 153, 0, 7, 3, 167, 0, 9, 42, 27, 28, 182, 0, 87, 172]
abbrev dktX3_membersUpTo_0 : List UInt8 := dkwX3_membersUpTo_0 ++ []
theorem dksX3_membersUpTo_0 : cX3_membersUpTo.data.toList.drop 0 = dktX3_membersUpTo_0 := by decide +kernel
theorem dX3_membersUpTo_0 : decode cX3_membersUpTo 0 = .ok (.aload_n 0, 1) := dk_42 (dk_at dksX3_membersUpTo_0 0 rfl rfl)
theorem dX3_membersUpTo_1 : decode cX3_membersUpTo 1 = .ok (.iload_n 1, 1) := dk_27 (dk_at dksX3_membersUpTo_0 1 rfl rfl)
theorem dX3_membersUpTo_2 : decode cX3_membersUpTo 2 = .ok (.iload_n 2, 1) := dk_28 (dk_at dksX3_membersUpTo_0 2 rfl rfl)
theorem dX3_membersUpTo_3 : decode cX3_membersUpTo 3 = .ok (.invokevirtual 197, 3) := dk_182 0 197 (dk_at dksX3_membersUpTo_0 3 rfl rfl)
theorem dX3_membersUpTo_6 : decode cX3_membersUpTo 6 = .ok (.ifCond .eq 7, 3) := dk_153 0 7 (dk_at dksX3_membersUpTo_0 6 rfl rfl)
theorem dX3_membersUpTo_9 : decode cX3_membersUpTo 9 = .ok (.iconst 0, 1) := dk_3 (dk_at dksX3_membersUpTo_0 9 rfl rfl)
theorem dX3_membersUpTo_10 : decode cX3_membersUpTo 10 = .ok (.goto 9, 3) := dk_167 0 9 (dk_at dksX3_membersUpTo_0 10 rfl rfl)
theorem dX3_membersUpTo_13 : decode cX3_membersUpTo 13 = .ok (.aload_n 0, 1) := dk_42 (dk_at dksX3_membersUpTo_0 13 rfl rfl)
theorem dX3_membersUpTo_14 : decode cX3_membersUpTo 14 = .ok (.iload_n 1, 1) := dk_27 (dk_at dksX3_membersUpTo_0 14 rfl rfl)
theorem dX3_membersUpTo_15 : decode cX3_membersUpTo 15 = .ok (.iload_n 2, 1) := dk_28 (dk_at dksX3_membersUpTo_0 15 rfl rfl)
theorem dX3_membersUpTo_16 : decode cX3_membersUpTo 16 = .ok (.invokevirtual 87, 3) := dk_182 0 87 (dk_at dksX3_membersUpTo_0 16 rfl rfl)
theorem dX3_membersUpTo_19 : decode cX3_membersUpTo 19 = .ok (.ireturn, 1) := dk_172 (dk_at dksX3_membersUpTo_0 19 rfl rfl)
abbrev cX3_lastMember : ByteArray := prog_18_method_69_code
def yX3_lastMember : MethodName := ⟨RX3, "lastMember", "(I)I"⟩
def dkwX3_lastMember_1 : List UInt8 := [182, 0, 80, 172]
abbrev dktX3_lastMember_1 : List UInt8 := dkwX3_lastMember_1 ++ []
def dkwX3_lastMember_0 : List UInt8 := [42, 27, 3, 182, 0, 197, 153, 0, 5, 3, 172, 42, 27, 42, 27, 17, 3, 231, 182, 0, 87, 4, 100]
abbrev dktX3_lastMember_0 : List UInt8 := dkwX3_lastMember_0 ++ dktX3_lastMember_1
theorem dksX3_lastMember_0 : cX3_lastMember.data.toList.drop 0 = dktX3_lastMember_0 := by decide +kernel
theorem dksX3_lastMember_1 : cX3_lastMember.data.toList.drop 23 = dktX3_lastMember_1 := dk_seg dksX3_lastMember_0 23 rfl rfl
theorem dX3_lastMember_0 : decode cX3_lastMember 0 = .ok (.aload_n 0, 1) := dk_42 (dk_at dksX3_lastMember_0 0 rfl rfl)
theorem dX3_lastMember_1 : decode cX3_lastMember 1 = .ok (.iload_n 1, 1) := dk_27 (dk_at dksX3_lastMember_0 1 rfl rfl)
theorem dX3_lastMember_2 : decode cX3_lastMember 2 = .ok (.iconst 0, 1) := dk_3 (dk_at dksX3_lastMember_0 2 rfl rfl)
theorem dX3_lastMember_3 : decode cX3_lastMember 3 = .ok (.invokevirtual 197, 3) := dk_182 0 197 (dk_at dksX3_lastMember_0 3 rfl rfl)
theorem dX3_lastMember_6 : decode cX3_lastMember 6 = .ok (.ifCond .eq 5, 3) := dk_153 0 5 (dk_at dksX3_lastMember_0 6 rfl rfl)
theorem dX3_lastMember_9 : decode cX3_lastMember 9 = .ok (.iconst 0, 1) := dk_3 (dk_at dksX3_lastMember_0 9 rfl rfl)
theorem dX3_lastMember_10 : decode cX3_lastMember 10 = .ok (.ireturn, 1) := dk_172 (dk_at dksX3_lastMember_0 10 rfl rfl)
theorem dX3_lastMember_11 : decode cX3_lastMember 11 = .ok (.aload_n 0, 1) := dk_42 (dk_at dksX3_lastMember_0 11 rfl rfl)
theorem dX3_lastMember_12 : decode cX3_lastMember 12 = .ok (.iload_n 1, 1) := dk_27 (dk_at dksX3_lastMember_0 12 rfl rfl)
theorem dX3_lastMember_13 : decode cX3_lastMember 13 = .ok (.aload_n 0, 1) := dk_42 (dk_at dksX3_lastMember_0 13 rfl rfl)
theorem dX3_lastMember_14 : decode cX3_lastMember 14 = .ok (.iload_n 1, 1) := dk_27 (dk_at dksX3_lastMember_0 14 rfl rfl)
theorem dX3_lastMember_15 : decode cX3_lastMember 15 = .ok (.sipush 999, 3) := dk_17 3 231 (dk_at dksX3_lastMember_0 15 rfl rfl)
theorem dX3_lastMember_18 : decode cX3_lastMember 18 = .ok (.invokevirtual 87, 3) := dk_182 0 87 (dk_at dksX3_lastMember_0 18 rfl rfl)
theorem dX3_lastMember_21 : decode cX3_lastMember 21 = .ok (.iconst 1, 1) := dk_4 (dk_at dksX3_lastMember_0 21 rfl rfl)
theorem dX3_lastMember_22 : decode cX3_lastMember 22 = .ok (.isub, 1) := dk_100 (dk_at dksX3_lastMember_0 22 rfl rfl)
theorem dX3_lastMember_23 : decode cX3_lastMember 23 = .ok (.invokevirtual 80, 3) := dk_182 0 80 (dk_at dksX3_lastMember_1 0 rfl rfl)
theorem dX3_lastMember_26 : decode cX3_lastMember 26 = .ok (.ireturn, 1) := dk_172 (dk_at dksX3_lastMember_1 3 rfl rfl)
abbrev cX3_firstShared : ByteArray := prog_18_method_70_code
def yX3_firstShared : MethodName := ⟨RX3, "firstShared", "(II)I"⟩
def dkwX3_firstShared_2 : List UInt8 := [153, 0, 5, 29, 172, 132, 3, 1, 167, 255, 226, 2, 172]
abbrev dktX3_firstShared_2 : List UInt8 := dkwX3_firstShared_2 ++ []
def dkwX3_firstShared_1 : List UInt8 := [62, 29, 17, 3, 231, 163, 0, 29, 42, 27, 29, 182, 0, 51, 153, 0, 14, 42, 28, 29, 182, 0, 51]
abbrev dktX3_firstShared_1 : List UInt8 := dkwX3_firstShared_1 ++ dktX3_firstShared_2
def dkwX3_firstShared_0 : List UInt8 := [42, 42, 27, 28, 182, 0, 194, 182, 0, 95, 153, 0, 5, 3, 172, 42, 42, 180, 0, 13, 182, 0, 127, 3]
abbrev dktX3_firstShared_0 : List UInt8 := dkwX3_firstShared_0 ++ dktX3_firstShared_1
theorem dksX3_firstShared_0 : cX3_firstShared.data.toList.drop 0 = dktX3_firstShared_0 := by decide +kernel
theorem dksX3_firstShared_1 : cX3_firstShared.data.toList.drop 24 = dktX3_firstShared_1 := dk_seg dksX3_firstShared_0 24 rfl rfl
theorem dksX3_firstShared_2 : cX3_firstShared.data.toList.drop 47 = dktX3_firstShared_2 := dk_seg dksX3_firstShared_1 23 rfl rfl
theorem dX3_firstShared_0 : decode cX3_firstShared 0 = .ok (.aload_n 0, 1) := dk_42 (dk_at dksX3_firstShared_0 0 rfl rfl)
theorem dX3_firstShared_1 : decode cX3_firstShared 1 = .ok (.aload_n 0, 1) := dk_42 (dk_at dksX3_firstShared_0 1 rfl rfl)
theorem dX3_firstShared_2 : decode cX3_firstShared 2 = .ok (.iload_n 1, 1) := dk_27 (dk_at dksX3_firstShared_0 2 rfl rfl)
theorem dX3_firstShared_3 : decode cX3_firstShared 3 = .ok (.iload_n 2, 1) := dk_28 (dk_at dksX3_firstShared_0 3 rfl rfl)
theorem dX3_firstShared_4 : decode cX3_firstShared 4 = .ok (.invokevirtual 194, 3) := dk_182 0 194 (dk_at dksX3_firstShared_0 4 rfl rfl)
theorem dX3_firstShared_7 : decode cX3_firstShared 7 = .ok (.invokevirtual 95, 3) := dk_182 0 95 (dk_at dksX3_firstShared_0 7 rfl rfl)
theorem dX3_firstShared_10 : decode cX3_firstShared 10 = .ok (.ifCond .eq 5, 3) := dk_153 0 5 (dk_at dksX3_firstShared_0 10 rfl rfl)
theorem dX3_firstShared_13 : decode cX3_firstShared 13 = .ok (.iconst 0, 1) := dk_3 (dk_at dksX3_firstShared_0 13 rfl rfl)
theorem dX3_firstShared_14 : decode cX3_firstShared 14 = .ok (.ireturn, 1) := dk_172 (dk_at dksX3_firstShared_0 14 rfl rfl)
theorem dX3_firstShared_15 : decode cX3_firstShared 15 = .ok (.aload_n 0, 1) := dk_42 (dk_at dksX3_firstShared_0 15 rfl rfl)
theorem dX3_firstShared_16 : decode cX3_firstShared 16 = .ok (.aload_n 0, 1) := dk_42 (dk_at dksX3_firstShared_0 16 rfl rfl)
theorem dX3_firstShared_17 : decode cX3_firstShared 17 = .ok (.getfield 13, 3) := dk_180 0 13 (dk_at dksX3_firstShared_0 17 rfl rfl)
theorem dX3_firstShared_20 : decode cX3_firstShared 20 = .ok (.invokevirtual 127, 3) := dk_182 0 127 (dk_at dksX3_firstShared_0 20 rfl rfl)
theorem dX3_firstShared_23 : decode cX3_firstShared 23 = .ok (.iconst 0, 1) := dk_3 (dk_at dksX3_firstShared_0 23 rfl rfl)
theorem dX3_firstShared_24 : decode cX3_firstShared 24 = .ok (.istore_n 3, 1) := dk_62 (dk_at dksX3_firstShared_1 0 rfl rfl)
theorem dX3_firstShared_25 : decode cX3_firstShared 25 = .ok (.iload_n 3, 1) := dk_29 (dk_at dksX3_firstShared_1 1 rfl rfl)
theorem dX3_firstShared_26 : decode cX3_firstShared 26 = .ok (.sipush 999, 3) := dk_17 3 231 (dk_at dksX3_firstShared_1 2 rfl rfl)
theorem dX3_firstShared_29 : decode cX3_firstShared 29 = .ok (.if_icmp .gt 29, 3) := dk_163 0 29 (dk_at dksX3_firstShared_1 5 rfl rfl)
theorem dX3_firstShared_32 : decode cX3_firstShared 32 = .ok (.aload_n 0, 1) := dk_42 (dk_at dksX3_firstShared_1 8 rfl rfl)
theorem dX3_firstShared_33 : decode cX3_firstShared 33 = .ok (.iload_n 1, 1) := dk_27 (dk_at dksX3_firstShared_1 9 rfl rfl)
theorem dX3_firstShared_34 : decode cX3_firstShared 34 = .ok (.iload_n 3, 1) := dk_29 (dk_at dksX3_firstShared_1 10 rfl rfl)
theorem dX3_firstShared_35 : decode cX3_firstShared 35 = .ok (.invokevirtual 51, 3) := dk_182 0 51 (dk_at dksX3_firstShared_1 11 rfl rfl)
theorem dX3_firstShared_38 : decode cX3_firstShared 38 = .ok (.ifCond .eq 14, 3) := dk_153 0 14 (dk_at dksX3_firstShared_1 14 rfl rfl)
theorem dX3_firstShared_41 : decode cX3_firstShared 41 = .ok (.aload_n 0, 1) := dk_42 (dk_at dksX3_firstShared_1 17 rfl rfl)
theorem dX3_firstShared_42 : decode cX3_firstShared 42 = .ok (.iload_n 2, 1) := dk_28 (dk_at dksX3_firstShared_1 18 rfl rfl)
theorem dX3_firstShared_43 : decode cX3_firstShared 43 = .ok (.iload_n 3, 1) := dk_29 (dk_at dksX3_firstShared_1 19 rfl rfl)
theorem dX3_firstShared_44 : decode cX3_firstShared 44 = .ok (.invokevirtual 51, 3) := dk_182 0 51 (dk_at dksX3_firstShared_1 20 rfl rfl)
theorem dX3_firstShared_47 : decode cX3_firstShared 47 = .ok (.ifCond .eq 5, 3) := dk_153 0 5 (dk_at dksX3_firstShared_2 0 rfl rfl)
theorem dX3_firstShared_50 : decode cX3_firstShared 50 = .ok (.iload_n 3, 1) := dk_29 (dk_at dksX3_firstShared_2 3 rfl rfl)
theorem dX3_firstShared_51 : decode cX3_firstShared 51 = .ok (.ireturn, 1) := dk_172 (dk_at dksX3_firstShared_2 4 rfl rfl)
theorem dX3_firstShared_52 : decode cX3_firstShared 52 = .ok (.iinc 3 1, 3) := dk_132 3 1 (dk_at dksX3_firstShared_2 5 rfl rfl)
theorem dX3_firstShared_55 : decode cX3_firstShared 55 = .ok (.goto (-30), 3) := dk_167 255 226 (dk_at dksX3_firstShared_2 8 rfl rfl)
theorem dX3_firstShared_58 : decode cX3_firstShared 58 = .ok (.iconst (-1), 1) := dk_2 (dk_at dksX3_firstShared_2 11 rfl rfl)
theorem dX3_firstShared_59 : decode cX3_firstShared 59 = .ok (.ireturn, 1) := dk_172 (dk_at dksX3_firstShared_2 12 rfl rfl)
abbrev cX3_widestGap : ByteArray := prog_18_method_71_code
def yX3_widestGap : MethodName := ⟨RX3, "widestGap", "(I)I"⟩
def dkwX3_widestGap_2 : List UInt8 := [164, 0, 10, 21, 4, 29, 100, 167, 0, 4, 28, 61, 21, 4, 62, 132, 4, 1, 167, 255, 210, 28, 172]
abbrev dktX3_widestGap_2 : List UInt8 := dkwX3_widestGap_2 ++ []
def dkwX3_widestGap_1 : List UInt8 := [163, 0, 44, 42, 27, 21, 4, 182, 0, 51, 153, 0, 28, 29, 2, 159, 0, 18, 21, 4, 29, 100, 28]
abbrev dktX3_widestGap_1 : List UInt8 := dkwX3_widestGap_1 ++ dktX3_widestGap_2
def dkwX3_widestGap_0 : List UInt8 := [42, 27, 3, 182, 0, 197, 153, 0, 5, 3, 172, 3, 61, 2, 62, 3, 54, 4, 21, 4, 17, 3, 231]
abbrev dktX3_widestGap_0 : List UInt8 := dkwX3_widestGap_0 ++ dktX3_widestGap_1
theorem dksX3_widestGap_0 : cX3_widestGap.data.toList.drop 0 = dktX3_widestGap_0 := by decide +kernel
theorem dksX3_widestGap_1 : cX3_widestGap.data.toList.drop 23 = dktX3_widestGap_1 := dk_seg dksX3_widestGap_0 23 rfl rfl
theorem dksX3_widestGap_2 : cX3_widestGap.data.toList.drop 46 = dktX3_widestGap_2 := dk_seg dksX3_widestGap_1 23 rfl rfl
theorem dX3_widestGap_0 : decode cX3_widestGap 0 = .ok (.aload_n 0, 1) := dk_42 (dk_at dksX3_widestGap_0 0 rfl rfl)
theorem dX3_widestGap_1 : decode cX3_widestGap 1 = .ok (.iload_n 1, 1) := dk_27 (dk_at dksX3_widestGap_0 1 rfl rfl)
theorem dX3_widestGap_2 : decode cX3_widestGap 2 = .ok (.iconst 0, 1) := dk_3 (dk_at dksX3_widestGap_0 2 rfl rfl)
theorem dX3_widestGap_3 : decode cX3_widestGap 3 = .ok (.invokevirtual 197, 3) := dk_182 0 197 (dk_at dksX3_widestGap_0 3 rfl rfl)
theorem dX3_widestGap_6 : decode cX3_widestGap 6 = .ok (.ifCond .eq 5, 3) := dk_153 0 5 (dk_at dksX3_widestGap_0 6 rfl rfl)
theorem dX3_widestGap_9 : decode cX3_widestGap 9 = .ok (.iconst 0, 1) := dk_3 (dk_at dksX3_widestGap_0 9 rfl rfl)
theorem dX3_widestGap_10 : decode cX3_widestGap 10 = .ok (.ireturn, 1) := dk_172 (dk_at dksX3_widestGap_0 10 rfl rfl)
theorem dX3_widestGap_11 : decode cX3_widestGap 11 = .ok (.iconst 0, 1) := dk_3 (dk_at dksX3_widestGap_0 11 rfl rfl)
theorem dX3_widestGap_12 : decode cX3_widestGap 12 = .ok (.istore_n 2, 1) := dk_61 (dk_at dksX3_widestGap_0 12 rfl rfl)
theorem dX3_widestGap_13 : decode cX3_widestGap 13 = .ok (.iconst (-1), 1) := dk_2 (dk_at dksX3_widestGap_0 13 rfl rfl)
theorem dX3_widestGap_14 : decode cX3_widestGap 14 = .ok (.istore_n 3, 1) := dk_62 (dk_at dksX3_widestGap_0 14 rfl rfl)
theorem dX3_widestGap_15 : decode cX3_widestGap 15 = .ok (.iconst 0, 1) := dk_3 (dk_at dksX3_widestGap_0 15 rfl rfl)
theorem dX3_widestGap_16 : decode cX3_widestGap 16 = .ok (.istore 4, 2) := dk_54 4 (dk_at dksX3_widestGap_0 16 rfl rfl)
theorem dX3_widestGap_18 : decode cX3_widestGap 18 = .ok (.iload 4, 2) := dk_21 4 (dk_at dksX3_widestGap_0 18 rfl rfl)
theorem dX3_widestGap_20 : decode cX3_widestGap 20 = .ok (.sipush 999, 3) := dk_17 3 231 (dk_at dksX3_widestGap_0 20 rfl rfl)
theorem dX3_widestGap_23 : decode cX3_widestGap 23 = .ok (.if_icmp .gt 44, 3) := dk_163 0 44 (dk_at dksX3_widestGap_1 0 rfl rfl)
theorem dX3_widestGap_26 : decode cX3_widestGap 26 = .ok (.aload_n 0, 1) := dk_42 (dk_at dksX3_widestGap_1 3 rfl rfl)
theorem dX3_widestGap_27 : decode cX3_widestGap 27 = .ok (.iload_n 1, 1) := dk_27 (dk_at dksX3_widestGap_1 4 rfl rfl)
theorem dX3_widestGap_28 : decode cX3_widestGap 28 = .ok (.iload 4, 2) := dk_21 4 (dk_at dksX3_widestGap_1 5 rfl rfl)
theorem dX3_widestGap_30 : decode cX3_widestGap 30 = .ok (.invokevirtual 51, 3) := dk_182 0 51 (dk_at dksX3_widestGap_1 7 rfl rfl)
theorem dX3_widestGap_33 : decode cX3_widestGap 33 = .ok (.ifCond .eq 28, 3) := dk_153 0 28 (dk_at dksX3_widestGap_1 10 rfl rfl)
theorem dX3_widestGap_36 : decode cX3_widestGap 36 = .ok (.iload_n 3, 1) := dk_29 (dk_at dksX3_widestGap_1 13 rfl rfl)
theorem dX3_widestGap_37 : decode cX3_widestGap 37 = .ok (.iconst (-1), 1) := dk_2 (dk_at dksX3_widestGap_1 14 rfl rfl)
theorem dX3_widestGap_38 : decode cX3_widestGap 38 = .ok (.if_icmp .eq 18, 3) := dk_159 0 18 (dk_at dksX3_widestGap_1 15 rfl rfl)
theorem dX3_widestGap_41 : decode cX3_widestGap 41 = .ok (.iload 4, 2) := dk_21 4 (dk_at dksX3_widestGap_1 18 rfl rfl)
theorem dX3_widestGap_43 : decode cX3_widestGap 43 = .ok (.iload_n 3, 1) := dk_29 (dk_at dksX3_widestGap_1 20 rfl rfl)
theorem dX3_widestGap_44 : decode cX3_widestGap 44 = .ok (.isub, 1) := dk_100 (dk_at dksX3_widestGap_1 21 rfl rfl)
theorem dX3_widestGap_45 : decode cX3_widestGap 45 = .ok (.iload_n 2, 1) := dk_28 (dk_at dksX3_widestGap_1 22 rfl rfl)
theorem dX3_widestGap_46 : decode cX3_widestGap 46 = .ok (.if_icmp .le 10, 3) := dk_164 0 10 (dk_at dksX3_widestGap_2 0 rfl rfl)
theorem dX3_widestGap_49 : decode cX3_widestGap 49 = .ok (.iload 4, 2) := dk_21 4 (dk_at dksX3_widestGap_2 3 rfl rfl)
theorem dX3_widestGap_51 : decode cX3_widestGap 51 = .ok (.iload_n 3, 1) := dk_29 (dk_at dksX3_widestGap_2 5 rfl rfl)
theorem dX3_widestGap_52 : decode cX3_widestGap 52 = .ok (.isub, 1) := dk_100 (dk_at dksX3_widestGap_2 6 rfl rfl)
theorem dX3_widestGap_53 : decode cX3_widestGap 53 = .ok (.goto 4, 3) := dk_167 0 4 (dk_at dksX3_widestGap_2 7 rfl rfl)
theorem dX3_widestGap_56 : decode cX3_widestGap 56 = .ok (.iload_n 2, 1) := dk_28 (dk_at dksX3_widestGap_2 10 rfl rfl)
theorem dX3_widestGap_57 : decode cX3_widestGap 57 = .ok (.istore_n 2, 1) := dk_61 (dk_at dksX3_widestGap_2 11 rfl rfl)
theorem dX3_widestGap_58 : decode cX3_widestGap 58 = .ok (.iload 4, 2) := dk_21 4 (dk_at dksX3_widestGap_2 12 rfl rfl)
theorem dX3_widestGap_60 : decode cX3_widestGap 60 = .ok (.istore_n 3, 1) := dk_62 (dk_at dksX3_widestGap_2 14 rfl rfl)
theorem dX3_widestGap_61 : decode cX3_widestGap 61 = .ok (.iinc 4 1, 3) := dk_132 4 1 (dk_at dksX3_widestGap_2 15 rfl rfl)
theorem dX3_widestGap_64 : decode cX3_widestGap 64 = .ok (.goto (-46), 3) := dk_167 255 210 (dk_at dksX3_widestGap_2 18 rfl rfl)
theorem dX3_widestGap_67 : decode cX3_widestGap 67 = .ok (.iload_n 2, 1) := dk_28 (dk_at dksX3_widestGap_2 21 rfl rfl)
theorem dX3_widestGap_68 : decode cX3_widestGap 68 = .ok (.ireturn, 1) := dk_172 (dk_at dksX3_widestGap_2 22 rfl rfl)
abbrev cX3_readers : ByteArray := prog_18_method_72_code
def yX3_readers : MethodName := ⟨RX3, "readers", "()I"⟩
def dkwX3_readers_0 : List UInt8 := [42, 3, 181, 0, 39, 42, 180, 0, 13, 4, 46, 172]
abbrev dktX3_readers_0 : List UInt8 := dkwX3_readers_0 ++ []
theorem dksX3_readers_0 : cX3_readers.data.toList.drop 0 = dktX3_readers_0 := by decide +kernel
theorem dX3_readers_0 : decode cX3_readers 0 = .ok (.aload_n 0, 1) := dk_42 (dk_at dksX3_readers_0 0 rfl rfl)
theorem dX3_readers_1 : decode cX3_readers 1 = .ok (.iconst 0, 1) := dk_3 (dk_at dksX3_readers_0 1 rfl rfl)
theorem dX3_readers_2 : decode cX3_readers 2 = .ok (.putfield 39, 3) := dk_181 0 39 (dk_at dksX3_readers_0 2 rfl rfl)
theorem dX3_readers_5 : decode cX3_readers 5 = .ok (.aload_n 0, 1) := dk_42 (dk_at dksX3_readers_0 5 rfl rfl)
theorem dX3_readers_6 : decode cX3_readers 6 = .ok (.getfield 13, 3) := dk_180 0 13 (dk_at dksX3_readers_0 6 rfl rfl)
theorem dX3_readers_9 : decode cX3_readers 9 = .ok (.iconst 1, 1) := dk_4 (dk_at dksX3_readers_0 9 rfl rfl)
theorem dX3_readers_10 : decode cX3_readers 10 = .ok (.iaload, 1) := dk_46 (dk_at dksX3_readers_0 10 rfl rfl)
theorem dX3_readers_11 : decode cX3_readers 11 = .ok (.ireturn, 1) := dk_172 (dk_at dksX3_readers_0 11 rfl rfl)
abbrev cX3_listOf : ByteArray := prog_18_method_73_code
def yX3_listOf : MethodName := ⟨RX3, "listOf", "(I)I"⟩
def dkwX3_listOf_1 : List UInt8 := [172, 42, 180, 0, 13, 27, 184, 0, 73, 172]
abbrev dktX3_listOf_1 : List UInt8 := dkwX3_listOf_1 ++ []
def dkwX3_listOf_0 : List UInt8 := [42, 42, 180, 0, 13, 27, 184, 0, 130, 153, 0, 7, 3, 167, 0, 4, 4, 182, 0, 95, 153, 0, 5, 3]
abbrev dktX3_listOf_0 : List UInt8 := dkwX3_listOf_0 ++ dktX3_listOf_1
theorem dksX3_listOf_0 : cX3_listOf.data.toList.drop 0 = dktX3_listOf_0 := by decide +kernel
theorem dksX3_listOf_1 : cX3_listOf.data.toList.drop 24 = dktX3_listOf_1 := dk_seg dksX3_listOf_0 24 rfl rfl
theorem dX3_listOf_0 : decode cX3_listOf 0 = .ok (.aload_n 0, 1) := dk_42 (dk_at dksX3_listOf_0 0 rfl rfl)
theorem dX3_listOf_1 : decode cX3_listOf 1 = .ok (.aload_n 0, 1) := dk_42 (dk_at dksX3_listOf_0 1 rfl rfl)
theorem dX3_listOf_2 : decode cX3_listOf 2 = .ok (.getfield 13, 3) := dk_180 0 13 (dk_at dksX3_listOf_0 2 rfl rfl)
theorem dX3_listOf_5 : decode cX3_listOf 5 = .ok (.iload_n 1, 1) := dk_27 (dk_at dksX3_listOf_0 5 rfl rfl)
theorem dX3_listOf_6 : decode cX3_listOf 6 = .ok (.invokestatic 130, 3) := dk_184 0 130 (dk_at dksX3_listOf_0 6 rfl rfl)
theorem dX3_listOf_9 : decode cX3_listOf 9 = .ok (.ifCond .eq 7, 3) := dk_153 0 7 (dk_at dksX3_listOf_0 9 rfl rfl)
theorem dX3_listOf_12 : decode cX3_listOf 12 = .ok (.iconst 0, 1) := dk_3 (dk_at dksX3_listOf_0 12 rfl rfl)
theorem dX3_listOf_13 : decode cX3_listOf 13 = .ok (.goto 4, 3) := dk_167 0 4 (dk_at dksX3_listOf_0 13 rfl rfl)
theorem dX3_listOf_16 : decode cX3_listOf 16 = .ok (.iconst 1, 1) := dk_4 (dk_at dksX3_listOf_0 16 rfl rfl)
theorem dX3_listOf_17 : decode cX3_listOf 17 = .ok (.invokevirtual 95, 3) := dk_182 0 95 (dk_at dksX3_listOf_0 17 rfl rfl)
theorem dX3_listOf_20 : decode cX3_listOf 20 = .ok (.ifCond .eq 5, 3) := dk_153 0 5 (dk_at dksX3_listOf_0 20 rfl rfl)
theorem dX3_listOf_23 : decode cX3_listOf 23 = .ok (.iconst 0, 1) := dk_3 (dk_at dksX3_listOf_0 23 rfl rfl)
theorem dX3_listOf_24 : decode cX3_listOf 24 = .ok (.ireturn, 1) := dk_172 (dk_at dksX3_listOf_1 0 rfl rfl)
theorem dX3_listOf_25 : decode cX3_listOf 25 = .ok (.aload_n 0, 1) := dk_42 (dk_at dksX3_listOf_1 1 rfl rfl)
theorem dX3_listOf_26 : decode cX3_listOf 26 = .ok (.getfield 13, 3) := dk_180 0 13 (dk_at dksX3_listOf_1 2 rfl rfl)
theorem dX3_listOf_29 : decode cX3_listOf 29 = .ok (.iload_n 1, 1) := dk_27 (dk_at dksX3_listOf_1 5 rfl rfl)
theorem dX3_listOf_30 : decode cX3_listOf 30 = .ok (.invokestatic 73, 3) := dk_184 0 73 (dk_at dksX3_listOf_1 6 rfl rfl)
theorem dX3_listOf_33 : decode cX3_listOf 33 = .ok (.ireturn, 1) := dk_172 (dk_at dksX3_listOf_1 9 rfl rfl)
abbrev cX3_readSoFar : ByteArray := prog_18_method_74_code
def yX3_readSoFar : MethodName := ⟨RX3, "readSoFar", "(I)I"⟩
def dkwX3_readSoFar_1 : List UInt8 := [172, 42, 180, 0, 13, 27, 184, 0, 77, 172]
abbrev dktX3_readSoFar_1 : List UInt8 := dkwX3_readSoFar_1 ++ []
def dkwX3_readSoFar_0 : List UInt8 := [42, 42, 180, 0, 13, 27, 184, 0, 130, 153, 0, 7, 3, 167, 0, 4, 4, 182, 0, 95, 153, 0, 5, 3]
abbrev dktX3_readSoFar_0 : List UInt8 := dkwX3_readSoFar_0 ++ dktX3_readSoFar_1
theorem dksX3_readSoFar_0 : cX3_readSoFar.data.toList.drop 0 = dktX3_readSoFar_0 := by decide +kernel
theorem dksX3_readSoFar_1 : cX3_readSoFar.data.toList.drop 24 = dktX3_readSoFar_1 := dk_seg dksX3_readSoFar_0 24 rfl rfl
theorem dX3_readSoFar_0 : decode cX3_readSoFar 0 = .ok (.aload_n 0, 1) := dk_42 (dk_at dksX3_readSoFar_0 0 rfl rfl)
theorem dX3_readSoFar_1 : decode cX3_readSoFar 1 = .ok (.aload_n 0, 1) := dk_42 (dk_at dksX3_readSoFar_0 1 rfl rfl)
theorem dX3_readSoFar_2 : decode cX3_readSoFar 2 = .ok (.getfield 13, 3) := dk_180 0 13 (dk_at dksX3_readSoFar_0 2 rfl rfl)
theorem dX3_readSoFar_5 : decode cX3_readSoFar 5 = .ok (.iload_n 1, 1) := dk_27 (dk_at dksX3_readSoFar_0 5 rfl rfl)
theorem dX3_readSoFar_6 : decode cX3_readSoFar 6 = .ok (.invokestatic 130, 3) := dk_184 0 130 (dk_at dksX3_readSoFar_0 6 rfl rfl)
theorem dX3_readSoFar_9 : decode cX3_readSoFar 9 = .ok (.ifCond .eq 7, 3) := dk_153 0 7 (dk_at dksX3_readSoFar_0 9 rfl rfl)
theorem dX3_readSoFar_12 : decode cX3_readSoFar 12 = .ok (.iconst 0, 1) := dk_3 (dk_at dksX3_readSoFar_0 12 rfl rfl)
theorem dX3_readSoFar_13 : decode cX3_readSoFar 13 = .ok (.goto 4, 3) := dk_167 0 4 (dk_at dksX3_readSoFar_0 13 rfl rfl)
theorem dX3_readSoFar_16 : decode cX3_readSoFar 16 = .ok (.iconst 1, 1) := dk_4 (dk_at dksX3_readSoFar_0 16 rfl rfl)
theorem dX3_readSoFar_17 : decode cX3_readSoFar 17 = .ok (.invokevirtual 95, 3) := dk_182 0 95 (dk_at dksX3_readSoFar_0 17 rfl rfl)
theorem dX3_readSoFar_20 : decode cX3_readSoFar 20 = .ok (.ifCond .eq 5, 3) := dk_153 0 5 (dk_at dksX3_readSoFar_0 20 rfl rfl)
theorem dX3_readSoFar_23 : decode cX3_readSoFar 23 = .ok (.iconst 0, 1) := dk_3 (dk_at dksX3_readSoFar_0 23 rfl rfl)
theorem dX3_readSoFar_24 : decode cX3_readSoFar 24 = .ok (.ireturn, 1) := dk_172 (dk_at dksX3_readSoFar_1 0 rfl rfl)
theorem dX3_readSoFar_25 : decode cX3_readSoFar 25 = .ok (.aload_n 0, 1) := dk_42 (dk_at dksX3_readSoFar_1 1 rfl rfl)
theorem dX3_readSoFar_26 : decode cX3_readSoFar 26 = .ok (.getfield 13, 3) := dk_180 0 13 (dk_at dksX3_readSoFar_1 2 rfl rfl)
theorem dX3_readSoFar_29 : decode cX3_readSoFar 29 = .ok (.iload_n 1, 1) := dk_27 (dk_at dksX3_readSoFar_1 5 rfl rfl)
theorem dX3_readSoFar_30 : decode cX3_readSoFar 30 = .ok (.invokestatic 77, 3) := dk_184 0 77 (dk_at dksX3_readSoFar_1 6 rfl rfl)
theorem dX3_readSoFar_33 : decode cX3_readSoFar 33 = .ok (.ireturn, 1) := dk_172 (dk_at dksX3_readSoFar_1 9 rfl rfl)
abbrev cX3_nextOf : ByteArray := prog_18_method_75_code
def yX3_nextOf : MethodName := ⟨RX3, "nextOf", "(I)I"⟩
def dkwX3_nextOf_1 : List UInt8 := [172, 42, 42, 180, 0, 13, 182, 0, 127, 42, 42, 180, 0, 13, 27, 182, 0, 84, 172]
abbrev dktX3_nextOf_1 : List UInt8 := dkwX3_nextOf_1 ++ []
def dkwX3_nextOf_0 : List UInt8 := [42, 42, 180, 0, 13, 27, 184, 0, 130, 153, 0, 7, 3, 167, 0, 4, 4, 182, 0, 95, 153, 0, 5, 3]
abbrev dktX3_nextOf_0 : List UInt8 := dkwX3_nextOf_0 ++ dktX3_nextOf_1
theorem dksX3_nextOf_0 : cX3_nextOf.data.toList.drop 0 = dktX3_nextOf_0 := by decide +kernel
theorem dksX3_nextOf_1 : cX3_nextOf.data.toList.drop 24 = dktX3_nextOf_1 := dk_seg dksX3_nextOf_0 24 rfl rfl
theorem dX3_nextOf_0 : decode cX3_nextOf 0 = .ok (.aload_n 0, 1) := dk_42 (dk_at dksX3_nextOf_0 0 rfl rfl)
theorem dX3_nextOf_1 : decode cX3_nextOf 1 = .ok (.aload_n 0, 1) := dk_42 (dk_at dksX3_nextOf_0 1 rfl rfl)
theorem dX3_nextOf_2 : decode cX3_nextOf 2 = .ok (.getfield 13, 3) := dk_180 0 13 (dk_at dksX3_nextOf_0 2 rfl rfl)
theorem dX3_nextOf_5 : decode cX3_nextOf 5 = .ok (.iload_n 1, 1) := dk_27 (dk_at dksX3_nextOf_0 5 rfl rfl)
theorem dX3_nextOf_6 : decode cX3_nextOf 6 = .ok (.invokestatic 130, 3) := dk_184 0 130 (dk_at dksX3_nextOf_0 6 rfl rfl)
theorem dX3_nextOf_9 : decode cX3_nextOf 9 = .ok (.ifCond .eq 7, 3) := dk_153 0 7 (dk_at dksX3_nextOf_0 9 rfl rfl)
theorem dX3_nextOf_12 : decode cX3_nextOf 12 = .ok (.iconst 0, 1) := dk_3 (dk_at dksX3_nextOf_0 12 rfl rfl)
theorem dX3_nextOf_13 : decode cX3_nextOf 13 = .ok (.goto 4, 3) := dk_167 0 4 (dk_at dksX3_nextOf_0 13 rfl rfl)
theorem dX3_nextOf_16 : decode cX3_nextOf 16 = .ok (.iconst 1, 1) := dk_4 (dk_at dksX3_nextOf_0 16 rfl rfl)
theorem dX3_nextOf_17 : decode cX3_nextOf 17 = .ok (.invokevirtual 95, 3) := dk_182 0 95 (dk_at dksX3_nextOf_0 17 rfl rfl)
theorem dX3_nextOf_20 : decode cX3_nextOf 20 = .ok (.ifCond .eq 5, 3) := dk_153 0 5 (dk_at dksX3_nextOf_0 20 rfl rfl)
theorem dX3_nextOf_23 : decode cX3_nextOf 23 = .ok (.iconst 0, 1) := dk_3 (dk_at dksX3_nextOf_0 23 rfl rfl)
theorem dX3_nextOf_24 : decode cX3_nextOf 24 = .ok (.ireturn, 1) := dk_172 (dk_at dksX3_nextOf_1 0 rfl rfl)
theorem dX3_nextOf_25 : decode cX3_nextOf 25 = .ok (.aload_n 0, 1) := dk_42 (dk_at dksX3_nextOf_1 1 rfl rfl)
theorem dX3_nextOf_26 : decode cX3_nextOf 26 = .ok (.aload_n 0, 1) := dk_42 (dk_at dksX3_nextOf_1 2 rfl rfl)
theorem dX3_nextOf_27 : decode cX3_nextOf 27 = .ok (.getfield 13, 3) := dk_180 0 13 (dk_at dksX3_nextOf_1 3 rfl rfl)
theorem dX3_nextOf_30 : decode cX3_nextOf 30 = .ok (.invokevirtual 127, 3) := dk_182 0 127 (dk_at dksX3_nextOf_1 6 rfl rfl)
theorem dX3_nextOf_33 : decode cX3_nextOf 33 = .ok (.aload_n 0, 1) := dk_42 (dk_at dksX3_nextOf_1 9 rfl rfl)
theorem dX3_nextOf_34 : decode cX3_nextOf 34 = .ok (.aload_n 0, 1) := dk_42 (dk_at dksX3_nextOf_1 10 rfl rfl)
theorem dX3_nextOf_35 : decode cX3_nextOf 35 = .ok (.getfield 13, 3) := dk_180 0 13 (dk_at dksX3_nextOf_1 11 rfl rfl)
theorem dX3_nextOf_38 : decode cX3_nextOf 38 = .ok (.iload_n 1, 1) := dk_27 (dk_at dksX3_nextOf_1 14 rfl rfl)
theorem dX3_nextOf_39 : decode cX3_nextOf 39 = .ok (.invokevirtual 84, 3) := dk_182 0 84 (dk_at dksX3_nextOf_1 15 rfl rfl)
theorem dX3_nextOf_42 : decode cX3_nextOf 42 = .ok (.ireturn, 1) := dk_172 (dk_at dksX3_nextOf_1 18 rfl rfl)
abbrev cX3_readings : ByteArray := prog_18_method_76_code
def yX3_readings : MethodName := ⟨RX3, "readings", "()I"⟩
def dkwX3_readings_0 : List UInt8 := [42, 3, 181, 0, 39, 42, 180, 0, 13, 5, 46, 172]
abbrev dktX3_readings_0 : List UInt8 := dkwX3_readings_0 ++ []
theorem dksX3_readings_0 : cX3_readings.data.toList.drop 0 = dktX3_readings_0 := by decide +kernel
theorem dX3_readings_0 : decode cX3_readings 0 = .ok (.aload_n 0, 1) := dk_42 (dk_at dksX3_readings_0 0 rfl rfl)
theorem dX3_readings_1 : decode cX3_readings 1 = .ok (.iconst 0, 1) := dk_3 (dk_at dksX3_readings_0 1 rfl rfl)
theorem dX3_readings_2 : decode cX3_readings 2 = .ok (.putfield 39, 3) := dk_181 0 39 (dk_at dksX3_readings_0 2 rfl rfl)
theorem dX3_readings_5 : decode cX3_readings 5 = .ok (.aload_n 0, 1) := dk_42 (dk_at dksX3_readings_0 5 rfl rfl)
theorem dX3_readings_6 : decode cX3_readings 6 = .ok (.getfield 13, 3) := dk_180 0 13 (dk_at dksX3_readings_0 6 rfl rfl)
theorem dX3_readings_9 : decode cX3_readings 9 = .ok (.iconst 2, 1) := dk_5 (dk_at dksX3_readings_0 9 rfl rfl)
theorem dX3_readings_10 : decode cX3_readings 10 = .ok (.iaload, 1) := dk_46 (dk_at dksX3_readings_0 10 rfl rfl)
theorem dX3_readings_11 : decode cX3_readings 11 = .ok (.ireturn, 1) := dk_172 (dk_at dksX3_readings_0 11 rfl rfl)
abbrev cX3_leastNext : ByteArray := prog_18_method_77_code
def yX3_leastNext : MethodName := ⟨RX3, "leastNext", "()I"⟩
def dkwX3_leastNext_4 : List UInt8 := [172]
abbrev dktX3_leastNext_4 : List UInt8 := dkwX3_leastNext_4 ++ []
def dkwX3_leastNext_3 : List UInt8 := [167, 0, 4, 27, 60, 21, 5, 153, 0, 8, 21, 4, 167, 0, 4, 28, 61, 132, 3, 1, 167, 255, 185, 27]
abbrev dktX3_leastNext_3 : List UInt8 := dkwX3_leastNext_3 ++ dktX3_leastNext_4
def dkwX3_leastNext_2 : List UInt8 := [159, 0, 9, 21, 4, 28, 162, 0, 7, 4, 167, 0, 4, 3, 54, 5, 21, 5, 153, 0, 7, 29]
abbrev dktX3_leastNext_2 : List UInt8 := dkwX3_leastNext_2 ++ dktX3_leastNext_3
def dkwX3_leastNext_1 : List UInt8 := [4, 46, 162, 0, 67, 42, 42, 180, 0, 13, 29, 182, 0, 84, 54, 4, 21, 4, 2, 159, 0, 18, 27, 2]
abbrev dktX3_leastNext_1 : List UInt8 := dkwX3_leastNext_1 ++ dktX3_leastNext_2
def dkwX3_leastNext_0 : List UInt8 := [42, 3, 181, 0, 39, 42, 42, 180, 0, 13, 182, 0, 127, 2, 60, 2, 61, 3, 62, 29, 42, 180, 0, 13]
abbrev dktX3_leastNext_0 : List UInt8 := dkwX3_leastNext_0 ++ dktX3_leastNext_1
theorem dksX3_leastNext_0 : cX3_leastNext.data.toList.drop 0 = dktX3_leastNext_0 := by decide +kernel
theorem dksX3_leastNext_1 : cX3_leastNext.data.toList.drop 24 = dktX3_leastNext_1 := dk_seg dksX3_leastNext_0 24 rfl rfl
theorem dksX3_leastNext_2 : cX3_leastNext.data.toList.drop 48 = dktX3_leastNext_2 := dk_seg dksX3_leastNext_1 24 rfl rfl
theorem dksX3_leastNext_3 : cX3_leastNext.data.toList.drop 70 = dktX3_leastNext_3 := dk_seg dksX3_leastNext_2 22 rfl rfl
theorem dksX3_leastNext_4 : cX3_leastNext.data.toList.drop 94 = dktX3_leastNext_4 := dk_seg dksX3_leastNext_3 24 rfl rfl
theorem dX3_leastNext_0 : decode cX3_leastNext 0 = .ok (.aload_n 0, 1) := dk_42 (dk_at dksX3_leastNext_0 0 rfl rfl)
theorem dX3_leastNext_1 : decode cX3_leastNext 1 = .ok (.iconst 0, 1) := dk_3 (dk_at dksX3_leastNext_0 1 rfl rfl)
theorem dX3_leastNext_2 : decode cX3_leastNext 2 = .ok (.putfield 39, 3) := dk_181 0 39 (dk_at dksX3_leastNext_0 2 rfl rfl)
theorem dX3_leastNext_5 : decode cX3_leastNext 5 = .ok (.aload_n 0, 1) := dk_42 (dk_at dksX3_leastNext_0 5 rfl rfl)
theorem dX3_leastNext_6 : decode cX3_leastNext 6 = .ok (.aload_n 0, 1) := dk_42 (dk_at dksX3_leastNext_0 6 rfl rfl)
theorem dX3_leastNext_7 : decode cX3_leastNext 7 = .ok (.getfield 13, 3) := dk_180 0 13 (dk_at dksX3_leastNext_0 7 rfl rfl)
theorem dX3_leastNext_10 : decode cX3_leastNext 10 = .ok (.invokevirtual 127, 3) := dk_182 0 127 (dk_at dksX3_leastNext_0 10 rfl rfl)
theorem dX3_leastNext_13 : decode cX3_leastNext 13 = .ok (.iconst (-1), 1) := dk_2 (dk_at dksX3_leastNext_0 13 rfl rfl)
theorem dX3_leastNext_14 : decode cX3_leastNext 14 = .ok (.istore_n 1, 1) := dk_60 (dk_at dksX3_leastNext_0 14 rfl rfl)
theorem dX3_leastNext_15 : decode cX3_leastNext 15 = .ok (.iconst (-1), 1) := dk_2 (dk_at dksX3_leastNext_0 15 rfl rfl)
theorem dX3_leastNext_16 : decode cX3_leastNext 16 = .ok (.istore_n 2, 1) := dk_61 (dk_at dksX3_leastNext_0 16 rfl rfl)
theorem dX3_leastNext_17 : decode cX3_leastNext 17 = .ok (.iconst 0, 1) := dk_3 (dk_at dksX3_leastNext_0 17 rfl rfl)
theorem dX3_leastNext_18 : decode cX3_leastNext 18 = .ok (.istore_n 3, 1) := dk_62 (dk_at dksX3_leastNext_0 18 rfl rfl)
theorem dX3_leastNext_19 : decode cX3_leastNext 19 = .ok (.iload_n 3, 1) := dk_29 (dk_at dksX3_leastNext_0 19 rfl rfl)
theorem dX3_leastNext_20 : decode cX3_leastNext 20 = .ok (.aload_n 0, 1) := dk_42 (dk_at dksX3_leastNext_0 20 rfl rfl)
theorem dX3_leastNext_21 : decode cX3_leastNext 21 = .ok (.getfield 13, 3) := dk_180 0 13 (dk_at dksX3_leastNext_0 21 rfl rfl)
theorem dX3_leastNext_24 : decode cX3_leastNext 24 = .ok (.iconst 1, 1) := dk_4 (dk_at dksX3_leastNext_1 0 rfl rfl)
theorem dX3_leastNext_25 : decode cX3_leastNext 25 = .ok (.iaload, 1) := dk_46 (dk_at dksX3_leastNext_1 1 rfl rfl)
theorem dX3_leastNext_26 : decode cX3_leastNext 26 = .ok (.if_icmp .ge 67, 3) := dk_162 0 67 (dk_at dksX3_leastNext_1 2 rfl rfl)
theorem dX3_leastNext_29 : decode cX3_leastNext 29 = .ok (.aload_n 0, 1) := dk_42 (dk_at dksX3_leastNext_1 5 rfl rfl)
theorem dX3_leastNext_30 : decode cX3_leastNext 30 = .ok (.aload_n 0, 1) := dk_42 (dk_at dksX3_leastNext_1 6 rfl rfl)
theorem dX3_leastNext_31 : decode cX3_leastNext 31 = .ok (.getfield 13, 3) := dk_180 0 13 (dk_at dksX3_leastNext_1 7 rfl rfl)
theorem dX3_leastNext_34 : decode cX3_leastNext 34 = .ok (.iload_n 3, 1) := dk_29 (dk_at dksX3_leastNext_1 10 rfl rfl)
theorem dX3_leastNext_35 : decode cX3_leastNext 35 = .ok (.invokevirtual 84, 3) := dk_182 0 84 (dk_at dksX3_leastNext_1 11 rfl rfl)
theorem dX3_leastNext_38 : decode cX3_leastNext 38 = .ok (.istore 4, 2) := dk_54 4 (dk_at dksX3_leastNext_1 14 rfl rfl)
theorem dX3_leastNext_40 : decode cX3_leastNext 40 = .ok (.iload 4, 2) := dk_21 4 (dk_at dksX3_leastNext_1 16 rfl rfl)
theorem dX3_leastNext_42 : decode cX3_leastNext 42 = .ok (.iconst (-1), 1) := dk_2 (dk_at dksX3_leastNext_1 18 rfl rfl)
theorem dX3_leastNext_43 : decode cX3_leastNext 43 = .ok (.if_icmp .eq 18, 3) := dk_159 0 18 (dk_at dksX3_leastNext_1 19 rfl rfl)
theorem dX3_leastNext_46 : decode cX3_leastNext 46 = .ok (.iload_n 1, 1) := dk_27 (dk_at dksX3_leastNext_1 22 rfl rfl)
theorem dX3_leastNext_47 : decode cX3_leastNext 47 = .ok (.iconst (-1), 1) := dk_2 (dk_at dksX3_leastNext_1 23 rfl rfl)
theorem dX3_leastNext_48 : decode cX3_leastNext 48 = .ok (.if_icmp .eq 9, 3) := dk_159 0 9 (dk_at dksX3_leastNext_2 0 rfl rfl)
theorem dX3_leastNext_51 : decode cX3_leastNext 51 = .ok (.iload 4, 2) := dk_21 4 (dk_at dksX3_leastNext_2 3 rfl rfl)
theorem dX3_leastNext_53 : decode cX3_leastNext 53 = .ok (.iload_n 2, 1) := dk_28 (dk_at dksX3_leastNext_2 5 rfl rfl)
theorem dX3_leastNext_54 : decode cX3_leastNext 54 = .ok (.if_icmp .ge 7, 3) := dk_162 0 7 (dk_at dksX3_leastNext_2 6 rfl rfl)
theorem dX3_leastNext_57 : decode cX3_leastNext 57 = .ok (.iconst 1, 1) := dk_4 (dk_at dksX3_leastNext_2 9 rfl rfl)
theorem dX3_leastNext_58 : decode cX3_leastNext 58 = .ok (.goto 4, 3) := dk_167 0 4 (dk_at dksX3_leastNext_2 10 rfl rfl)
theorem dX3_leastNext_61 : decode cX3_leastNext 61 = .ok (.iconst 0, 1) := dk_3 (dk_at dksX3_leastNext_2 13 rfl rfl)
theorem dX3_leastNext_62 : decode cX3_leastNext 62 = .ok (.istore 5, 2) := dk_54 5 (dk_at dksX3_leastNext_2 14 rfl rfl)
theorem dX3_leastNext_64 : decode cX3_leastNext 64 = .ok (.iload 5, 2) := dk_21 5 (dk_at dksX3_leastNext_2 16 rfl rfl)
theorem dX3_leastNext_66 : decode cX3_leastNext 66 = .ok (.ifCond .eq 7, 3) := dk_153 0 7 (dk_at dksX3_leastNext_2 18 rfl rfl)
theorem dX3_leastNext_69 : decode cX3_leastNext 69 = .ok (.iload_n 3, 1) := dk_29 (dk_at dksX3_leastNext_2 21 rfl rfl)
theorem dX3_leastNext_70 : decode cX3_leastNext 70 = .ok (.goto 4, 3) := dk_167 0 4 (dk_at dksX3_leastNext_3 0 rfl rfl)
theorem dX3_leastNext_73 : decode cX3_leastNext 73 = .ok (.iload_n 1, 1) := dk_27 (dk_at dksX3_leastNext_3 3 rfl rfl)
theorem dX3_leastNext_74 : decode cX3_leastNext 74 = .ok (.istore_n 1, 1) := dk_60 (dk_at dksX3_leastNext_3 4 rfl rfl)
theorem dX3_leastNext_75 : decode cX3_leastNext 75 = .ok (.iload 5, 2) := dk_21 5 (dk_at dksX3_leastNext_3 5 rfl rfl)
theorem dX3_leastNext_77 : decode cX3_leastNext 77 = .ok (.ifCond .eq 8, 3) := dk_153 0 8 (dk_at dksX3_leastNext_3 7 rfl rfl)
theorem dX3_leastNext_80 : decode cX3_leastNext 80 = .ok (.iload 4, 2) := dk_21 4 (dk_at dksX3_leastNext_3 10 rfl rfl)
theorem dX3_leastNext_82 : decode cX3_leastNext 82 = .ok (.goto 4, 3) := dk_167 0 4 (dk_at dksX3_leastNext_3 12 rfl rfl)
theorem dX3_leastNext_85 : decode cX3_leastNext 85 = .ok (.iload_n 2, 1) := dk_28 (dk_at dksX3_leastNext_3 15 rfl rfl)
theorem dX3_leastNext_86 : decode cX3_leastNext 86 = .ok (.istore_n 2, 1) := dk_61 (dk_at dksX3_leastNext_3 16 rfl rfl)
theorem dX3_leastNext_87 : decode cX3_leastNext 87 = .ok (.iinc 3 1, 3) := dk_132 3 1 (dk_at dksX3_leastNext_3 17 rfl rfl)
theorem dX3_leastNext_90 : decode cX3_leastNext 90 = .ok (.goto (-71), 3) := dk_167 255 185 (dk_at dksX3_leastNext_3 20 rfl rfl)
theorem dX3_leastNext_93 : decode cX3_leastNext 93 = .ok (.iload_n 1, 1) := dk_27 (dk_at dksX3_leastNext_3 23 rfl rfl)
theorem dX3_leastNext_94 : decode cX3_leastNext 94 = .ok (.ireturn, 1) := dk_172 (dk_at dksX3_leastNext_4 0 rfl rfl)
abbrev cX3_firstOfPairByWalking : ByteArray := prog_18_method_79_code
def yX3_firstOfPairByWalking : MethodName := ⟨RX3, "firstOfPairByWalking", "(I)I"⟩
def dkwX3_firstOfPairByWalking_0 : List UInt8 := [42, 27, 182, 0, 205, 172]
abbrev dktX3_firstOfPairByWalking_0 : List UInt8 := dkwX3_firstOfPairByWalking_0 ++ []
theorem dksX3_firstOfPairByWalking_0 : cX3_firstOfPairByWalking.data.toList.drop 0 = dktX3_firstOfPairByWalking_0 := by decide +kernel
theorem dX3_firstOfPairByWalking_0 : decode cX3_firstOfPairByWalking 0 = .ok (.aload_n 0, 1) := dk_42 (dk_at dksX3_firstOfPairByWalking_0 0 rfl rfl)
theorem dX3_firstOfPairByWalking_1 : decode cX3_firstOfPairByWalking 1 = .ok (.iload_n 1, 1) := dk_27 (dk_at dksX3_firstOfPairByWalking_0 1 rfl rfl)
theorem dX3_firstOfPairByWalking_2 : decode cX3_firstOfPairByWalking 2 = .ok (.invokevirtual 205, 3) := dk_182 0 205 (dk_at dksX3_firstOfPairByWalking_0 2 rfl rfl)
theorem dX3_firstOfPairByWalking_5 : decode cX3_firstOfPairByWalking 5 = .ok (.ireturn, 1) := dk_172 (dk_at dksX3_firstOfPairByWalking_0 5 rfl rfl)
abbrev cX3_firstOfPair : ByteArray := prog_18_method_78_code
def yX3_firstOfPair : MethodName := ⟨RX3, "firstOfPair", "(I)I"⟩
def dkwX3_firstOfPair_1 : List UInt8 := [3, 172, 27, 61, 3, 62, 28, 29, 164, 0, 13, 132, 3, 1, 28, 29, 100, 61, 167, 255, 244, 28, 172]
abbrev dktX3_firstOfPair_1 : List UInt8 := dkwX3_firstOfPair_1 ++ []
def dkwX3_firstOfPair_0 : List UInt8 := [42, 27, 133, 9, 20, 0, 203, 184, 0, 43, 153, 0, 7, 3, 167, 0, 4, 4, 182, 0, 95, 153, 0, 5]
abbrev dktX3_firstOfPair_0 : List UInt8 := dkwX3_firstOfPair_0 ++ dktX3_firstOfPair_1
theorem dksX3_firstOfPair_0 : cX3_firstOfPair.data.toList.drop 0 = dktX3_firstOfPair_0 := by decide +kernel
theorem dksX3_firstOfPair_1 : cX3_firstOfPair.data.toList.drop 24 = dktX3_firstOfPair_1 := dk_seg dksX3_firstOfPair_0 24 rfl rfl
theorem dX3_firstOfPair_0 : decode cX3_firstOfPair 0 = .ok (.aload_n 0, 1) := dk_42 (dk_at dksX3_firstOfPair_0 0 rfl rfl)
theorem dX3_firstOfPair_1 : decode cX3_firstOfPair 1 = .ok (.iload_n 1, 1) := dk_27 (dk_at dksX3_firstOfPair_0 1 rfl rfl)
theorem dX3_firstOfPair_2 : decode cX3_firstOfPair 2 = .ok (.i2l, 1) := dk_133 (dk_at dksX3_firstOfPair_0 2 rfl rfl)
theorem dX3_firstOfPair_3 : decode cX3_firstOfPair 3 = .ok (.lconst 0, 1) := dk_9 (dk_at dksX3_firstOfPair_0 3 rfl rfl)
theorem dX3_firstOfPair_4 : decode cX3_firstOfPair 4 = .ok (.ldc2_w 203, 3) := dk_20 0 203 (dk_at dksX3_firstOfPair_0 4 rfl rfl)
theorem dX3_firstOfPair_7 : decode cX3_firstOfPair 7 = .ok (.invokestatic 43, 3) := dk_184 0 43 (dk_at dksX3_firstOfPair_0 7 rfl rfl)
theorem dX3_firstOfPair_10 : decode cX3_firstOfPair 10 = .ok (.ifCond .eq 7, 3) := dk_153 0 7 (dk_at dksX3_firstOfPair_0 10 rfl rfl)
theorem dX3_firstOfPair_13 : decode cX3_firstOfPair 13 = .ok (.iconst 0, 1) := dk_3 (dk_at dksX3_firstOfPair_0 13 rfl rfl)
theorem dX3_firstOfPair_14 : decode cX3_firstOfPair 14 = .ok (.goto 4, 3) := dk_167 0 4 (dk_at dksX3_firstOfPair_0 14 rfl rfl)
theorem dX3_firstOfPair_17 : decode cX3_firstOfPair 17 = .ok (.iconst 1, 1) := dk_4 (dk_at dksX3_firstOfPair_0 17 rfl rfl)
theorem dX3_firstOfPair_18 : decode cX3_firstOfPair 18 = .ok (.invokevirtual 95, 3) := dk_182 0 95 (dk_at dksX3_firstOfPair_0 18 rfl rfl)
theorem dX3_firstOfPair_21 : decode cX3_firstOfPair 21 = .ok (.ifCond .eq 5, 3) := dk_153 0 5 (dk_at dksX3_firstOfPair_0 21 rfl rfl)
theorem dX3_firstOfPair_24 : decode cX3_firstOfPair 24 = .ok (.iconst 0, 1) := dk_3 (dk_at dksX3_firstOfPair_1 0 rfl rfl)
theorem dX3_firstOfPair_25 : decode cX3_firstOfPair 25 = .ok (.ireturn, 1) := dk_172 (dk_at dksX3_firstOfPair_1 1 rfl rfl)
theorem dX3_firstOfPair_26 : decode cX3_firstOfPair 26 = .ok (.iload_n 1, 1) := dk_27 (dk_at dksX3_firstOfPair_1 2 rfl rfl)
theorem dX3_firstOfPair_27 : decode cX3_firstOfPair 27 = .ok (.istore_n 2, 1) := dk_61 (dk_at dksX3_firstOfPair_1 3 rfl rfl)
theorem dX3_firstOfPair_28 : decode cX3_firstOfPair 28 = .ok (.iconst 0, 1) := dk_3 (dk_at dksX3_firstOfPair_1 4 rfl rfl)
theorem dX3_firstOfPair_29 : decode cX3_firstOfPair 29 = .ok (.istore_n 3, 1) := dk_62 (dk_at dksX3_firstOfPair_1 5 rfl rfl)
theorem dX3_firstOfPair_30 : decode cX3_firstOfPair 30 = .ok (.iload_n 2, 1) := dk_28 (dk_at dksX3_firstOfPair_1 6 rfl rfl)
theorem dX3_firstOfPair_31 : decode cX3_firstOfPair 31 = .ok (.iload_n 3, 1) := dk_29 (dk_at dksX3_firstOfPair_1 7 rfl rfl)
theorem dX3_firstOfPair_32 : decode cX3_firstOfPair 32 = .ok (.if_icmp .le 13, 3) := dk_164 0 13 (dk_at dksX3_firstOfPair_1 8 rfl rfl)
theorem dX3_firstOfPair_35 : decode cX3_firstOfPair 35 = .ok (.iinc 3 1, 3) := dk_132 3 1 (dk_at dksX3_firstOfPair_1 11 rfl rfl)
theorem dX3_firstOfPair_38 : decode cX3_firstOfPair 38 = .ok (.iload_n 2, 1) := dk_28 (dk_at dksX3_firstOfPair_1 14 rfl rfl)
theorem dX3_firstOfPair_39 : decode cX3_firstOfPair 39 = .ok (.iload_n 3, 1) := dk_29 (dk_at dksX3_firstOfPair_1 15 rfl rfl)
theorem dX3_firstOfPair_40 : decode cX3_firstOfPair 40 = .ok (.isub, 1) := dk_100 (dk_at dksX3_firstOfPair_1 16 rfl rfl)
theorem dX3_firstOfPair_41 : decode cX3_firstOfPair 41 = .ok (.istore_n 2, 1) := dk_61 (dk_at dksX3_firstOfPair_1 17 rfl rfl)
theorem dX3_firstOfPair_42 : decode cX3_firstOfPair 42 = .ok (.goto (-12), 3) := dk_167 255 244 (dk_at dksX3_firstOfPair_1 18 rfl rfl)
theorem dX3_firstOfPair_45 : decode cX3_firstOfPair 45 = .ok (.iload_n 2, 1) := dk_28 (dk_at dksX3_firstOfPair_1 21 rfl rfl)
theorem dX3_firstOfPair_46 : decode cX3_firstOfPair 46 = .ok (.ireturn, 1) := dk_172 (dk_at dksX3_firstOfPair_1 22 rfl rfl)
abbrev cX3_firstOfPairByCounting : ByteArray := prog_18_method_80_code
def yX3_firstOfPairByCounting : MethodName := ⟨RX3, "firstOfPairByCounting", "(I)I"⟩
def dkwX3_firstOfPairByCounting_0 : List UInt8 := [42, 27, 182, 0, 205, 172]
abbrev dktX3_firstOfPairByCounting_0 : List UInt8 := dkwX3_firstOfPairByCounting_0 ++ []
theorem dksX3_firstOfPairByCounting_0 : cX3_firstOfPairByCounting.data.toList.drop 0 = dktX3_firstOfPairByCounting_0 := by decide +kernel
theorem dX3_firstOfPairByCounting_0 : decode cX3_firstOfPairByCounting 0 = .ok (.aload_n 0, 1) := dk_42 (dk_at dksX3_firstOfPairByCounting_0 0 rfl rfl)
theorem dX3_firstOfPairByCounting_1 : decode cX3_firstOfPairByCounting 1 = .ok (.iload_n 1, 1) := dk_27 (dk_at dksX3_firstOfPairByCounting_0 1 rfl rfl)
theorem dX3_firstOfPairByCounting_2 : decode cX3_firstOfPairByCounting 2 = .ok (.invokevirtual 205, 3) := dk_182 0 205 (dk_at dksX3_firstOfPairByCounting_0 2 rfl rfl)
theorem dX3_firstOfPairByCounting_5 : decode cX3_firstOfPairByCounting 5 = .ok (.ireturn, 1) := dk_172 (dk_at dksX3_firstOfPairByCounting_0 5 rfl rfl)
abbrev cX3_numberOfPair : ByteArray := prog_18_method_81_code
def yX3_numberOfPair : MethodName := ⟨RX3, "numberOfPair", "(II)I"⟩
def dkwX3_numberOfPair_2 : List UInt8 := [104, 5, 108, 27, 96, 172]
abbrev dktX3_numberOfPair_2 : List UInt8 := dkwX3_numberOfPair_2 ++ []
def dkwX3_numberOfPair_1 : List UInt8 := [153, 0, 7, 3, 167, 0, 4, 4, 182, 0, 95, 153, 0, 5, 3, 172, 27, 28, 96, 27, 28, 96, 4, 96]
abbrev dktX3_numberOfPair_1 : List UInt8 := dkwX3_numberOfPair_1 ++ dktX3_numberOfPair_2
def dkwX3_numberOfPair_0 : List UInt8 := [42, 27, 133, 9, 20, 0, 209, 184, 0, 43, 153, 0, 19, 28, 133, 9, 20, 0, 209, 184, 0, 43]
abbrev dktX3_numberOfPair_0 : List UInt8 := dkwX3_numberOfPair_0 ++ dktX3_numberOfPair_1
theorem dksX3_numberOfPair_0 : cX3_numberOfPair.data.toList.drop 0 = dktX3_numberOfPair_0 := by decide +kernel
theorem dksX3_numberOfPair_1 : cX3_numberOfPair.data.toList.drop 22 = dktX3_numberOfPair_1 := dk_seg dksX3_numberOfPair_0 22 rfl rfl
theorem dksX3_numberOfPair_2 : cX3_numberOfPair.data.toList.drop 46 = dktX3_numberOfPair_2 := dk_seg dksX3_numberOfPair_1 24 rfl rfl
theorem dX3_numberOfPair_0 : decode cX3_numberOfPair 0 = .ok (.aload_n 0, 1) := dk_42 (dk_at dksX3_numberOfPair_0 0 rfl rfl)
theorem dX3_numberOfPair_1 : decode cX3_numberOfPair 1 = .ok (.iload_n 1, 1) := dk_27 (dk_at dksX3_numberOfPair_0 1 rfl rfl)
theorem dX3_numberOfPair_2 : decode cX3_numberOfPair 2 = .ok (.i2l, 1) := dk_133 (dk_at dksX3_numberOfPair_0 2 rfl rfl)
theorem dX3_numberOfPair_3 : decode cX3_numberOfPair 3 = .ok (.lconst 0, 1) := dk_9 (dk_at dksX3_numberOfPair_0 3 rfl rfl)
theorem dX3_numberOfPair_4 : decode cX3_numberOfPair 4 = .ok (.ldc2_w 209, 3) := dk_20 0 209 (dk_at dksX3_numberOfPair_0 4 rfl rfl)
theorem dX3_numberOfPair_7 : decode cX3_numberOfPair 7 = .ok (.invokestatic 43, 3) := dk_184 0 43 (dk_at dksX3_numberOfPair_0 7 rfl rfl)
theorem dX3_numberOfPair_10 : decode cX3_numberOfPair 10 = .ok (.ifCond .eq 19, 3) := dk_153 0 19 (dk_at dksX3_numberOfPair_0 10 rfl rfl)
theorem dX3_numberOfPair_13 : decode cX3_numberOfPair 13 = .ok (.iload_n 2, 1) := dk_28 (dk_at dksX3_numberOfPair_0 13 rfl rfl)
theorem dX3_numberOfPair_14 : decode cX3_numberOfPair 14 = .ok (.i2l, 1) := dk_133 (dk_at dksX3_numberOfPair_0 14 rfl rfl)
theorem dX3_numberOfPair_15 : decode cX3_numberOfPair 15 = .ok (.lconst 0, 1) := dk_9 (dk_at dksX3_numberOfPair_0 15 rfl rfl)
theorem dX3_numberOfPair_16 : decode cX3_numberOfPair 16 = .ok (.ldc2_w 209, 3) := dk_20 0 209 (dk_at dksX3_numberOfPair_0 16 rfl rfl)
theorem dX3_numberOfPair_19 : decode cX3_numberOfPair 19 = .ok (.invokestatic 43, 3) := dk_184 0 43 (dk_at dksX3_numberOfPair_0 19 rfl rfl)
theorem dX3_numberOfPair_22 : decode cX3_numberOfPair 22 = .ok (.ifCond .eq 7, 3) := dk_153 0 7 (dk_at dksX3_numberOfPair_1 0 rfl rfl)
theorem dX3_numberOfPair_25 : decode cX3_numberOfPair 25 = .ok (.iconst 0, 1) := dk_3 (dk_at dksX3_numberOfPair_1 3 rfl rfl)
theorem dX3_numberOfPair_26 : decode cX3_numberOfPair 26 = .ok (.goto 4, 3) := dk_167 0 4 (dk_at dksX3_numberOfPair_1 4 rfl rfl)
theorem dX3_numberOfPair_29 : decode cX3_numberOfPair 29 = .ok (.iconst 1, 1) := dk_4 (dk_at dksX3_numberOfPair_1 7 rfl rfl)
theorem dX3_numberOfPair_30 : decode cX3_numberOfPair 30 = .ok (.invokevirtual 95, 3) := dk_182 0 95 (dk_at dksX3_numberOfPair_1 8 rfl rfl)
theorem dX3_numberOfPair_33 : decode cX3_numberOfPair 33 = .ok (.ifCond .eq 5, 3) := dk_153 0 5 (dk_at dksX3_numberOfPair_1 11 rfl rfl)
theorem dX3_numberOfPair_36 : decode cX3_numberOfPair 36 = .ok (.iconst 0, 1) := dk_3 (dk_at dksX3_numberOfPair_1 14 rfl rfl)
theorem dX3_numberOfPair_37 : decode cX3_numberOfPair 37 = .ok (.ireturn, 1) := dk_172 (dk_at dksX3_numberOfPair_1 15 rfl rfl)
theorem dX3_numberOfPair_38 : decode cX3_numberOfPair 38 = .ok (.iload_n 1, 1) := dk_27 (dk_at dksX3_numberOfPair_1 16 rfl rfl)
theorem dX3_numberOfPair_39 : decode cX3_numberOfPair 39 = .ok (.iload_n 2, 1) := dk_28 (dk_at dksX3_numberOfPair_1 17 rfl rfl)
theorem dX3_numberOfPair_40 : decode cX3_numberOfPair 40 = .ok (.iadd, 1) := dk_96 (dk_at dksX3_numberOfPair_1 18 rfl rfl)
theorem dX3_numberOfPair_41 : decode cX3_numberOfPair 41 = .ok (.iload_n 1, 1) := dk_27 (dk_at dksX3_numberOfPair_1 19 rfl rfl)
theorem dX3_numberOfPair_42 : decode cX3_numberOfPair 42 = .ok (.iload_n 2, 1) := dk_28 (dk_at dksX3_numberOfPair_1 20 rfl rfl)
theorem dX3_numberOfPair_43 : decode cX3_numberOfPair 43 = .ok (.iadd, 1) := dk_96 (dk_at dksX3_numberOfPair_1 21 rfl rfl)
theorem dX3_numberOfPair_44 : decode cX3_numberOfPair 44 = .ok (.iconst 1, 1) := dk_4 (dk_at dksX3_numberOfPair_1 22 rfl rfl)
theorem dX3_numberOfPair_45 : decode cX3_numberOfPair 45 = .ok (.iadd, 1) := dk_96 (dk_at dksX3_numberOfPair_1 23 rfl rfl)
theorem dX3_numberOfPair_46 : decode cX3_numberOfPair 46 = .ok (.imul, 1) := dk_104 (dk_at dksX3_numberOfPair_2 0 rfl rfl)
theorem dX3_numberOfPair_47 : decode cX3_numberOfPair 47 = .ok (.iconst 2, 1) := dk_5 (dk_at dksX3_numberOfPair_2 1 rfl rfl)
theorem dX3_numberOfPair_48 : decode cX3_numberOfPair 48 = .ok (.idiv, 1) := dk_108 (dk_at dksX3_numberOfPair_2 2 rfl rfl)
theorem dX3_numberOfPair_49 : decode cX3_numberOfPair 49 = .ok (.iload_n 1, 1) := dk_27 (dk_at dksX3_numberOfPair_2 3 rfl rfl)
theorem dX3_numberOfPair_50 : decode cX3_numberOfPair 50 = .ok (.iadd, 1) := dk_96 (dk_at dksX3_numberOfPair_2 4 rfl rfl)
theorem dX3_numberOfPair_51 : decode cX3_numberOfPair 51 = .ok (.ireturn, 1) := dk_172 (dk_at dksX3_numberOfPair_2 5 rfl rfl)
abbrev cX3_whyNoDrop : ByteArray := prog_18_method_82_code
def yX3_whyNoDrop : MethodName := ⟨RX3, "whyNoDrop", "()I"⟩
def dkwX3_whyNoDrop_0 : List UInt8 := [42, 3, 181, 0, 39, 42, 180, 0, 13, 184, 0, 163, 172]
abbrev dktX3_whyNoDrop_0 : List UInt8 := dkwX3_whyNoDrop_0 ++ []
theorem dksX3_whyNoDrop_0 : cX3_whyNoDrop.data.toList.drop 0 = dktX3_whyNoDrop_0 := by decide +kernel
theorem dX3_whyNoDrop_0 : decode cX3_whyNoDrop 0 = .ok (.aload_n 0, 1) := dk_42 (dk_at dksX3_whyNoDrop_0 0 rfl rfl)
theorem dX3_whyNoDrop_1 : decode cX3_whyNoDrop 1 = .ok (.iconst 0, 1) := dk_3 (dk_at dksX3_whyNoDrop_0 1 rfl rfl)
theorem dX3_whyNoDrop_2 : decode cX3_whyNoDrop 2 = .ok (.putfield 39, 3) := dk_181 0 39 (dk_at dksX3_whyNoDrop_0 2 rfl rfl)
theorem dX3_whyNoDrop_5 : decode cX3_whyNoDrop 5 = .ok (.aload_n 0, 1) := dk_42 (dk_at dksX3_whyNoDrop_0 5 rfl rfl)
theorem dX3_whyNoDrop_6 : decode cX3_whyNoDrop 6 = .ok (.getfield 13, 3) := dk_180 0 13 (dk_at dksX3_whyNoDrop_0 6 rfl rfl)
theorem dX3_whyNoDrop_9 : decode cX3_whyNoDrop 9 = .ok (.invokestatic 163, 3) := dk_184 0 163 (dk_at dksX3_whyNoDrop_0 9 rfl rfl)
theorem dX3_whyNoDrop_12 : decode cX3_whyNoDrop 12 = .ok (.ireturn, 1) := dk_172 (dk_at dksX3_whyNoDrop_0 12 rfl rfl)
abbrev cX3_membersIfJoined : ByteArray := prog_18_method_83_code
def yX3_membersIfJoined : MethodName := ⟨RX3, "membersIfJoined", "(II)I"⟩
def dkwX3_membersIfJoined_2 : List UInt8 := [28, 21, 4, 182, 0, 51, 153, 0, 7, 4, 167, 0, 4, 3, 96, 62, 132, 4, 1, 167, 255, 217, 29, 172]
abbrev dktX3_membersIfJoined_2 : List UInt8 := dkwX3_membersIfJoined_2 ++ []
def dkwX3_membersIfJoined_1 : List UInt8 := [62, 3, 54, 4, 21, 4, 17, 3, 231, 163, 0, 37, 29, 42, 27, 21, 4, 182, 0, 51, 154, 0, 13, 42]
abbrev dktX3_membersIfJoined_1 : List UInt8 := dkwX3_membersIfJoined_1 ++ dktX3_membersIfJoined_2
def dkwX3_membersIfJoined_0 : List UInt8 := [42, 42, 27, 28, 182, 0, 194, 182, 0, 95, 153, 0, 5, 3, 172, 42, 42, 180, 0, 13, 182, 0, 127, 3]
abbrev dktX3_membersIfJoined_0 : List UInt8 := dkwX3_membersIfJoined_0 ++ dktX3_membersIfJoined_1
theorem dksX3_membersIfJoined_0 : cX3_membersIfJoined.data.toList.drop 0 = dktX3_membersIfJoined_0 := by decide +kernel
theorem dksX3_membersIfJoined_1 : cX3_membersIfJoined.data.toList.drop 24 = dktX3_membersIfJoined_1 := dk_seg dksX3_membersIfJoined_0 24 rfl rfl
theorem dksX3_membersIfJoined_2 : cX3_membersIfJoined.data.toList.drop 48 = dktX3_membersIfJoined_2 := dk_seg dksX3_membersIfJoined_1 24 rfl rfl
theorem dX3_membersIfJoined_0 : decode cX3_membersIfJoined 0 = .ok (.aload_n 0, 1) := dk_42 (dk_at dksX3_membersIfJoined_0 0 rfl rfl)
theorem dX3_membersIfJoined_1 : decode cX3_membersIfJoined 1 = .ok (.aload_n 0, 1) := dk_42 (dk_at dksX3_membersIfJoined_0 1 rfl rfl)
theorem dX3_membersIfJoined_2 : decode cX3_membersIfJoined 2 = .ok (.iload_n 1, 1) := dk_27 (dk_at dksX3_membersIfJoined_0 2 rfl rfl)
theorem dX3_membersIfJoined_3 : decode cX3_membersIfJoined 3 = .ok (.iload_n 2, 1) := dk_28 (dk_at dksX3_membersIfJoined_0 3 rfl rfl)
theorem dX3_membersIfJoined_4 : decode cX3_membersIfJoined 4 = .ok (.invokevirtual 194, 3) := dk_182 0 194 (dk_at dksX3_membersIfJoined_0 4 rfl rfl)
theorem dX3_membersIfJoined_7 : decode cX3_membersIfJoined 7 = .ok (.invokevirtual 95, 3) := dk_182 0 95 (dk_at dksX3_membersIfJoined_0 7 rfl rfl)
theorem dX3_membersIfJoined_10 : decode cX3_membersIfJoined 10 = .ok (.ifCond .eq 5, 3) := dk_153 0 5 (dk_at dksX3_membersIfJoined_0 10 rfl rfl)
theorem dX3_membersIfJoined_13 : decode cX3_membersIfJoined 13 = .ok (.iconst 0, 1) := dk_3 (dk_at dksX3_membersIfJoined_0 13 rfl rfl)
theorem dX3_membersIfJoined_14 : decode cX3_membersIfJoined 14 = .ok (.ireturn, 1) := dk_172 (dk_at dksX3_membersIfJoined_0 14 rfl rfl)
theorem dX3_membersIfJoined_15 : decode cX3_membersIfJoined 15 = .ok (.aload_n 0, 1) := dk_42 (dk_at dksX3_membersIfJoined_0 15 rfl rfl)
theorem dX3_membersIfJoined_16 : decode cX3_membersIfJoined 16 = .ok (.aload_n 0, 1) := dk_42 (dk_at dksX3_membersIfJoined_0 16 rfl rfl)
theorem dX3_membersIfJoined_17 : decode cX3_membersIfJoined 17 = .ok (.getfield 13, 3) := dk_180 0 13 (dk_at dksX3_membersIfJoined_0 17 rfl rfl)
theorem dX3_membersIfJoined_20 : decode cX3_membersIfJoined 20 = .ok (.invokevirtual 127, 3) := dk_182 0 127 (dk_at dksX3_membersIfJoined_0 20 rfl rfl)
theorem dX3_membersIfJoined_23 : decode cX3_membersIfJoined 23 = .ok (.iconst 0, 1) := dk_3 (dk_at dksX3_membersIfJoined_0 23 rfl rfl)
theorem dX3_membersIfJoined_24 : decode cX3_membersIfJoined 24 = .ok (.istore_n 3, 1) := dk_62 (dk_at dksX3_membersIfJoined_1 0 rfl rfl)
theorem dX3_membersIfJoined_25 : decode cX3_membersIfJoined 25 = .ok (.iconst 0, 1) := dk_3 (dk_at dksX3_membersIfJoined_1 1 rfl rfl)
theorem dX3_membersIfJoined_26 : decode cX3_membersIfJoined 26 = .ok (.istore 4, 2) := dk_54 4 (dk_at dksX3_membersIfJoined_1 2 rfl rfl)
theorem dX3_membersIfJoined_28 : decode cX3_membersIfJoined 28 = .ok (.iload 4, 2) := dk_21 4 (dk_at dksX3_membersIfJoined_1 4 rfl rfl)
theorem dX3_membersIfJoined_30 : decode cX3_membersIfJoined 30 = .ok (.sipush 999, 3) := dk_17 3 231 (dk_at dksX3_membersIfJoined_1 6 rfl rfl)
theorem dX3_membersIfJoined_33 : decode cX3_membersIfJoined 33 = .ok (.if_icmp .gt 37, 3) := dk_163 0 37 (dk_at dksX3_membersIfJoined_1 9 rfl rfl)
theorem dX3_membersIfJoined_36 : decode cX3_membersIfJoined 36 = .ok (.iload_n 3, 1) := dk_29 (dk_at dksX3_membersIfJoined_1 12 rfl rfl)
theorem dX3_membersIfJoined_37 : decode cX3_membersIfJoined 37 = .ok (.aload_n 0, 1) := dk_42 (dk_at dksX3_membersIfJoined_1 13 rfl rfl)
theorem dX3_membersIfJoined_38 : decode cX3_membersIfJoined 38 = .ok (.iload_n 1, 1) := dk_27 (dk_at dksX3_membersIfJoined_1 14 rfl rfl)
theorem dX3_membersIfJoined_39 : decode cX3_membersIfJoined 39 = .ok (.iload 4, 2) := dk_21 4 (dk_at dksX3_membersIfJoined_1 15 rfl rfl)
theorem dX3_membersIfJoined_41 : decode cX3_membersIfJoined 41 = .ok (.invokevirtual 51, 3) := dk_182 0 51 (dk_at dksX3_membersIfJoined_1 17 rfl rfl)
theorem dX3_membersIfJoined_44 : decode cX3_membersIfJoined 44 = .ok (.ifCond .ne 13, 3) := dk_154 0 13 (dk_at dksX3_membersIfJoined_1 20 rfl rfl)
theorem dX3_membersIfJoined_47 : decode cX3_membersIfJoined 47 = .ok (.aload_n 0, 1) := dk_42 (dk_at dksX3_membersIfJoined_1 23 rfl rfl)
theorem dX3_membersIfJoined_48 : decode cX3_membersIfJoined 48 = .ok (.iload_n 2, 1) := dk_28 (dk_at dksX3_membersIfJoined_2 0 rfl rfl)
theorem dX3_membersIfJoined_49 : decode cX3_membersIfJoined 49 = .ok (.iload 4, 2) := dk_21 4 (dk_at dksX3_membersIfJoined_2 1 rfl rfl)
theorem dX3_membersIfJoined_51 : decode cX3_membersIfJoined 51 = .ok (.invokevirtual 51, 3) := dk_182 0 51 (dk_at dksX3_membersIfJoined_2 3 rfl rfl)
theorem dX3_membersIfJoined_54 : decode cX3_membersIfJoined 54 = .ok (.ifCond .eq 7, 3) := dk_153 0 7 (dk_at dksX3_membersIfJoined_2 6 rfl rfl)
theorem dX3_membersIfJoined_57 : decode cX3_membersIfJoined 57 = .ok (.iconst 1, 1) := dk_4 (dk_at dksX3_membersIfJoined_2 9 rfl rfl)
theorem dX3_membersIfJoined_58 : decode cX3_membersIfJoined 58 = .ok (.goto 4, 3) := dk_167 0 4 (dk_at dksX3_membersIfJoined_2 10 rfl rfl)
theorem dX3_membersIfJoined_61 : decode cX3_membersIfJoined 61 = .ok (.iconst 0, 1) := dk_3 (dk_at dksX3_membersIfJoined_2 13 rfl rfl)
theorem dX3_membersIfJoined_62 : decode cX3_membersIfJoined 62 = .ok (.iadd, 1) := dk_96 (dk_at dksX3_membersIfJoined_2 14 rfl rfl)
theorem dX3_membersIfJoined_63 : decode cX3_membersIfJoined 63 = .ok (.istore_n 3, 1) := dk_62 (dk_at dksX3_membersIfJoined_2 15 rfl rfl)
theorem dX3_membersIfJoined_64 : decode cX3_membersIfJoined 64 = .ok (.iinc 4 1, 3) := dk_132 4 1 (dk_at dksX3_membersIfJoined_2 16 rfl rfl)
theorem dX3_membersIfJoined_67 : decode cX3_membersIfJoined 67 = .ok (.goto (-39), 3) := dk_167 255 217 (dk_at dksX3_membersIfJoined_2 19 rfl rfl)
theorem dX3_membersIfJoined_70 : decode cX3_membersIfJoined 70 = .ok (.iload_n 3, 1) := dk_29 (dk_at dksX3_membersIfJoined_2 22 rfl rfl)
theorem dX3_membersIfJoined_71 : decode cX3_membersIfJoined 71 = .ok (.ireturn, 1) := dk_172 (dk_at dksX3_membersIfJoined_2 23 rfl rfl)
abbrev cX3_skipsTo : ByteArray := prog_18_method_84_code
def yX3_skipsTo : MethodName := ⟨RX3, "skipsTo", "(II)I"⟩
def dkwX3_skipsTo_5 : List UInt8 := [167, 0, 14, 21, 5, 42, 180, 0, 13, 27, 184, 0, 77, 100, 172]
abbrev dktX3_skipsTo_5 : List UInt8 := dkwX3_skipsTo_5 ++ []
def dkwX3_skipsTo_4 : List UInt8 := [42, 180, 0, 13, 27, 184, 0, 77, 54, 5, 42, 29, 21, 5, 182, 0, 80, 2, 160, 0, 7, 2]
abbrev dktX3_skipsTo_4 : List UInt8 := dkwX3_skipsTo_4 ++ dktX3_skipsTo_5
def dkwX3_skipsTo_3 : List UInt8 := [100, 182, 0, 87, 54, 4, 21, 4, 42, 180, 0, 13, 27, 184, 0, 77, 164, 0, 8, 21, 4, 167, 0, 11]
abbrev dktX3_skipsTo_3 : List UInt8 := dkwX3_skipsTo_3 ++ dktX3_skipsTo_4
def dkwX3_skipsTo_2 : List UInt8 := [182, 0, 127, 42, 180, 0, 13, 27, 184, 0, 73, 62, 28, 154, 0, 7, 3, 167, 0, 11, 42, 29, 28, 4]
abbrev dktX3_skipsTo_2 : List UInt8 := dkwX3_skipsTo_2 ++ dktX3_skipsTo_3
def dkwX3_skipsTo_1 : List UInt8 := [184, 0, 43, 153, 0, 7, 3, 167, 0, 4, 5, 182, 0, 95, 153, 0, 5, 3, 172, 42, 42, 180, 0, 13]
abbrev dktX3_skipsTo_1 : List UInt8 := dkwX3_skipsTo_1 ++ dktX3_skipsTo_2
def dkwX3_skipsTo_0 : List UInt8 := [42, 42, 180, 0, 13, 27, 184, 0, 130, 154, 0, 7, 4, 167, 0, 20, 28, 133, 9, 20, 0, 186]
abbrev dktX3_skipsTo_0 : List UInt8 := dkwX3_skipsTo_0 ++ dktX3_skipsTo_1
theorem dksX3_skipsTo_0 : cX3_skipsTo.data.toList.drop 0 = dktX3_skipsTo_0 := by decide +kernel
theorem dksX3_skipsTo_1 : cX3_skipsTo.data.toList.drop 22 = dktX3_skipsTo_1 := dk_seg dksX3_skipsTo_0 22 rfl rfl
theorem dksX3_skipsTo_2 : cX3_skipsTo.data.toList.drop 46 = dktX3_skipsTo_2 := dk_seg dksX3_skipsTo_1 24 rfl rfl
theorem dksX3_skipsTo_3 : cX3_skipsTo.data.toList.drop 70 = dktX3_skipsTo_3 := dk_seg dksX3_skipsTo_2 24 rfl rfl
theorem dksX3_skipsTo_4 : cX3_skipsTo.data.toList.drop 94 = dktX3_skipsTo_4 := dk_seg dksX3_skipsTo_3 24 rfl rfl
theorem dksX3_skipsTo_5 : cX3_skipsTo.data.toList.drop 116 = dktX3_skipsTo_5 := dk_seg dksX3_skipsTo_4 22 rfl rfl
theorem dX3_skipsTo_0 : decode cX3_skipsTo 0 = .ok (.aload_n 0, 1) := dk_42 (dk_at dksX3_skipsTo_0 0 rfl rfl)
theorem dX3_skipsTo_1 : decode cX3_skipsTo 1 = .ok (.aload_n 0, 1) := dk_42 (dk_at dksX3_skipsTo_0 1 rfl rfl)
theorem dX3_skipsTo_2 : decode cX3_skipsTo 2 = .ok (.getfield 13, 3) := dk_180 0 13 (dk_at dksX3_skipsTo_0 2 rfl rfl)
theorem dX3_skipsTo_5 : decode cX3_skipsTo 5 = .ok (.iload_n 1, 1) := dk_27 (dk_at dksX3_skipsTo_0 5 rfl rfl)
theorem dX3_skipsTo_6 : decode cX3_skipsTo 6 = .ok (.invokestatic 130, 3) := dk_184 0 130 (dk_at dksX3_skipsTo_0 6 rfl rfl)
theorem dX3_skipsTo_9 : decode cX3_skipsTo 9 = .ok (.ifCond .ne 7, 3) := dk_154 0 7 (dk_at dksX3_skipsTo_0 9 rfl rfl)
theorem dX3_skipsTo_12 : decode cX3_skipsTo 12 = .ok (.iconst 1, 1) := dk_4 (dk_at dksX3_skipsTo_0 12 rfl rfl)
theorem dX3_skipsTo_13 : decode cX3_skipsTo 13 = .ok (.goto 20, 3) := dk_167 0 20 (dk_at dksX3_skipsTo_0 13 rfl rfl)
theorem dX3_skipsTo_16 : decode cX3_skipsTo 16 = .ok (.iload_n 2, 1) := dk_28 (dk_at dksX3_skipsTo_0 16 rfl rfl)
theorem dX3_skipsTo_17 : decode cX3_skipsTo 17 = .ok (.i2l, 1) := dk_133 (dk_at dksX3_skipsTo_0 17 rfl rfl)
theorem dX3_skipsTo_18 : decode cX3_skipsTo 18 = .ok (.lconst 0, 1) := dk_9 (dk_at dksX3_skipsTo_0 18 rfl rfl)
theorem dX3_skipsTo_19 : decode cX3_skipsTo 19 = .ok (.ldc2_w 186, 3) := dk_20 0 186 (dk_at dksX3_skipsTo_0 19 rfl rfl)
theorem dX3_skipsTo_22 : decode cX3_skipsTo 22 = .ok (.invokestatic 43, 3) := dk_184 0 43 (dk_at dksX3_skipsTo_1 0 rfl rfl)
theorem dX3_skipsTo_25 : decode cX3_skipsTo 25 = .ok (.ifCond .eq 7, 3) := dk_153 0 7 (dk_at dksX3_skipsTo_1 3 rfl rfl)
theorem dX3_skipsTo_28 : decode cX3_skipsTo 28 = .ok (.iconst 0, 1) := dk_3 (dk_at dksX3_skipsTo_1 6 rfl rfl)
theorem dX3_skipsTo_29 : decode cX3_skipsTo 29 = .ok (.goto 4, 3) := dk_167 0 4 (dk_at dksX3_skipsTo_1 7 rfl rfl)
theorem dX3_skipsTo_32 : decode cX3_skipsTo 32 = .ok (.iconst 2, 1) := dk_5 (dk_at dksX3_skipsTo_1 10 rfl rfl)
theorem dX3_skipsTo_33 : decode cX3_skipsTo 33 = .ok (.invokevirtual 95, 3) := dk_182 0 95 (dk_at dksX3_skipsTo_1 11 rfl rfl)
theorem dX3_skipsTo_36 : decode cX3_skipsTo 36 = .ok (.ifCond .eq 5, 3) := dk_153 0 5 (dk_at dksX3_skipsTo_1 14 rfl rfl)
theorem dX3_skipsTo_39 : decode cX3_skipsTo 39 = .ok (.iconst 0, 1) := dk_3 (dk_at dksX3_skipsTo_1 17 rfl rfl)
theorem dX3_skipsTo_40 : decode cX3_skipsTo 40 = .ok (.ireturn, 1) := dk_172 (dk_at dksX3_skipsTo_1 18 rfl rfl)
theorem dX3_skipsTo_41 : decode cX3_skipsTo 41 = .ok (.aload_n 0, 1) := dk_42 (dk_at dksX3_skipsTo_1 19 rfl rfl)
theorem dX3_skipsTo_42 : decode cX3_skipsTo 42 = .ok (.aload_n 0, 1) := dk_42 (dk_at dksX3_skipsTo_1 20 rfl rfl)
theorem dX3_skipsTo_43 : decode cX3_skipsTo 43 = .ok (.getfield 13, 3) := dk_180 0 13 (dk_at dksX3_skipsTo_1 21 rfl rfl)
theorem dX3_skipsTo_46 : decode cX3_skipsTo 46 = .ok (.invokevirtual 127, 3) := dk_182 0 127 (dk_at dksX3_skipsTo_2 0 rfl rfl)
theorem dX3_skipsTo_49 : decode cX3_skipsTo 49 = .ok (.aload_n 0, 1) := dk_42 (dk_at dksX3_skipsTo_2 3 rfl rfl)
theorem dX3_skipsTo_50 : decode cX3_skipsTo 50 = .ok (.getfield 13, 3) := dk_180 0 13 (dk_at dksX3_skipsTo_2 4 rfl rfl)
theorem dX3_skipsTo_53 : decode cX3_skipsTo 53 = .ok (.iload_n 1, 1) := dk_27 (dk_at dksX3_skipsTo_2 7 rfl rfl)
theorem dX3_skipsTo_54 : decode cX3_skipsTo 54 = .ok (.invokestatic 73, 3) := dk_184 0 73 (dk_at dksX3_skipsTo_2 8 rfl rfl)
theorem dX3_skipsTo_57 : decode cX3_skipsTo 57 = .ok (.istore_n 3, 1) := dk_62 (dk_at dksX3_skipsTo_2 11 rfl rfl)
theorem dX3_skipsTo_58 : decode cX3_skipsTo 58 = .ok (.iload_n 2, 1) := dk_28 (dk_at dksX3_skipsTo_2 12 rfl rfl)
theorem dX3_skipsTo_59 : decode cX3_skipsTo 59 = .ok (.ifCond .ne 7, 3) := dk_154 0 7 (dk_at dksX3_skipsTo_2 13 rfl rfl)
theorem dX3_skipsTo_62 : decode cX3_skipsTo 62 = .ok (.iconst 0, 1) := dk_3 (dk_at dksX3_skipsTo_2 16 rfl rfl)
theorem dX3_skipsTo_63 : decode cX3_skipsTo 63 = .ok (.goto 11, 3) := dk_167 0 11 (dk_at dksX3_skipsTo_2 17 rfl rfl)
theorem dX3_skipsTo_66 : decode cX3_skipsTo 66 = .ok (.aload_n 0, 1) := dk_42 (dk_at dksX3_skipsTo_2 20 rfl rfl)
theorem dX3_skipsTo_67 : decode cX3_skipsTo 67 = .ok (.iload_n 3, 1) := dk_29 (dk_at dksX3_skipsTo_2 21 rfl rfl)
theorem dX3_skipsTo_68 : decode cX3_skipsTo 68 = .ok (.iload_n 2, 1) := dk_28 (dk_at dksX3_skipsTo_2 22 rfl rfl)
theorem dX3_skipsTo_69 : decode cX3_skipsTo 69 = .ok (.iconst 1, 1) := dk_4 (dk_at dksX3_skipsTo_2 23 rfl rfl)
theorem dX3_skipsTo_70 : decode cX3_skipsTo 70 = .ok (.isub, 1) := dk_100 (dk_at dksX3_skipsTo_3 0 rfl rfl)
theorem dX3_skipsTo_71 : decode cX3_skipsTo 71 = .ok (.invokevirtual 87, 3) := dk_182 0 87 (dk_at dksX3_skipsTo_3 1 rfl rfl)
theorem dX3_skipsTo_74 : decode cX3_skipsTo 74 = .ok (.istore 4, 2) := dk_54 4 (dk_at dksX3_skipsTo_3 4 rfl rfl)
theorem dX3_skipsTo_76 : decode cX3_skipsTo 76 = .ok (.iload 4, 2) := dk_21 4 (dk_at dksX3_skipsTo_3 6 rfl rfl)
theorem dX3_skipsTo_78 : decode cX3_skipsTo 78 = .ok (.aload_n 0, 1) := dk_42 (dk_at dksX3_skipsTo_3 8 rfl rfl)
theorem dX3_skipsTo_79 : decode cX3_skipsTo 79 = .ok (.getfield 13, 3) := dk_180 0 13 (dk_at dksX3_skipsTo_3 9 rfl rfl)
theorem dX3_skipsTo_82 : decode cX3_skipsTo 82 = .ok (.iload_n 1, 1) := dk_27 (dk_at dksX3_skipsTo_3 12 rfl rfl)
theorem dX3_skipsTo_83 : decode cX3_skipsTo 83 = .ok (.invokestatic 77, 3) := dk_184 0 77 (dk_at dksX3_skipsTo_3 13 rfl rfl)
theorem dX3_skipsTo_86 : decode cX3_skipsTo 86 = .ok (.if_icmp .le 8, 3) := dk_164 0 8 (dk_at dksX3_skipsTo_3 16 rfl rfl)
theorem dX3_skipsTo_89 : decode cX3_skipsTo 89 = .ok (.iload 4, 2) := dk_21 4 (dk_at dksX3_skipsTo_3 19 rfl rfl)
theorem dX3_skipsTo_91 : decode cX3_skipsTo 91 = .ok (.goto 11, 3) := dk_167 0 11 (dk_at dksX3_skipsTo_3 21 rfl rfl)
theorem dX3_skipsTo_94 : decode cX3_skipsTo 94 = .ok (.aload_n 0, 1) := dk_42 (dk_at dksX3_skipsTo_4 0 rfl rfl)
theorem dX3_skipsTo_95 : decode cX3_skipsTo 95 = .ok (.getfield 13, 3) := dk_180 0 13 (dk_at dksX3_skipsTo_4 1 rfl rfl)
theorem dX3_skipsTo_98 : decode cX3_skipsTo 98 = .ok (.iload_n 1, 1) := dk_27 (dk_at dksX3_skipsTo_4 4 rfl rfl)
theorem dX3_skipsTo_99 : decode cX3_skipsTo 99 = .ok (.invokestatic 77, 3) := dk_184 0 77 (dk_at dksX3_skipsTo_4 5 rfl rfl)
theorem dX3_skipsTo_102 : decode cX3_skipsTo 102 = .ok (.istore 5, 2) := dk_54 5 (dk_at dksX3_skipsTo_4 8 rfl rfl)
theorem dX3_skipsTo_104 : decode cX3_skipsTo 104 = .ok (.aload_n 0, 1) := dk_42 (dk_at dksX3_skipsTo_4 10 rfl rfl)
theorem dX3_skipsTo_105 : decode cX3_skipsTo 105 = .ok (.iload_n 3, 1) := dk_29 (dk_at dksX3_skipsTo_4 11 rfl rfl)
theorem dX3_skipsTo_106 : decode cX3_skipsTo 106 = .ok (.iload 5, 2) := dk_21 5 (dk_at dksX3_skipsTo_4 12 rfl rfl)
theorem dX3_skipsTo_108 : decode cX3_skipsTo 108 = .ok (.invokevirtual 80, 3) := dk_182 0 80 (dk_at dksX3_skipsTo_4 14 rfl rfl)
theorem dX3_skipsTo_111 : decode cX3_skipsTo 111 = .ok (.iconst (-1), 1) := dk_2 (dk_at dksX3_skipsTo_4 17 rfl rfl)
theorem dX3_skipsTo_112 : decode cX3_skipsTo 112 = .ok (.if_icmp .ne 7, 3) := dk_160 0 7 (dk_at dksX3_skipsTo_4 18 rfl rfl)
theorem dX3_skipsTo_115 : decode cX3_skipsTo 115 = .ok (.iconst (-1), 1) := dk_2 (dk_at dksX3_skipsTo_4 21 rfl rfl)
theorem dX3_skipsTo_116 : decode cX3_skipsTo 116 = .ok (.goto 14, 3) := dk_167 0 14 (dk_at dksX3_skipsTo_5 0 rfl rfl)
theorem dX3_skipsTo_119 : decode cX3_skipsTo 119 = .ok (.iload 5, 2) := dk_21 5 (dk_at dksX3_skipsTo_5 3 rfl rfl)
theorem dX3_skipsTo_121 : decode cX3_skipsTo 121 = .ok (.aload_n 0, 1) := dk_42 (dk_at dksX3_skipsTo_5 5 rfl rfl)
theorem dX3_skipsTo_122 : decode cX3_skipsTo 122 = .ok (.getfield 13, 3) := dk_180 0 13 (dk_at dksX3_skipsTo_5 6 rfl rfl)
theorem dX3_skipsTo_125 : decode cX3_skipsTo 125 = .ok (.iload_n 1, 1) := dk_27 (dk_at dksX3_skipsTo_5 9 rfl rfl)
theorem dX3_skipsTo_126 : decode cX3_skipsTo 126 = .ok (.invokestatic 77, 3) := dk_184 0 77 (dk_at dksX3_skipsTo_5 10 rfl rfl)
theorem dX3_skipsTo_129 : decode cX3_skipsTo 129 = .ok (.isub, 1) := dk_100 (dk_at dksX3_skipsTo_5 13 rfl rfl)
theorem dX3_skipsTo_130 : decode cX3_skipsTo 130 = .ok (.ireturn, 1) := dk_172 (dk_at dksX3_skipsTo_5 14 rfl rfl)
abbrev cX3_simulate : ByteArray := prog_18_method_87_code
def yX3_simulate : MethodName := ⟨RX3, "simulate", "(JI)I"⟩
def dkwX3_simulate_5 : List UInt8 := [96, 172]
abbrev dktX3_simulate_5 : List UInt8 := dkwX3_simulate_5 ++ []
def dkwX3_simulate_4 : List UInt8 := [54, 4, 132, 7, 1, 167, 255, 204, 17, 39, 16, 42, 180, 0, 16, 3, 46, 104, 21, 4, 17, 39, 16, 112]
abbrev dktX3_simulate_4 : List UInt8 := dkwX3_simulate_4 ++ dktX3_simulate_5
def dkwX3_simulate_3 : List UInt8 := [54, 8, 21, 4, 42, 42, 180, 0, 16, 21, 8, 16, 16, 112, 21, 8, 16, 16, 108, 182, 0, 221, 96]
abbrev dktX3_simulate_3 : List UInt8 := dkwX3_simulate_3 ++ dktX3_simulate_4
def dkwX3_simulate_2 : List UInt8 := [21, 7, 29, 162, 0, 52, 22, 5, 20, 0, 217, 105, 20, 0, 219, 97, 55, 5, 22, 5, 16, 33, 125, 136]
abbrev dktX3_simulate_2 : List UInt8 := dkwX3_simulate_2 ++ dktX3_simulate_3
def dkwX3_simulate_1 : List UInt8 := [3, 172, 42, 180, 0, 13, 3, 42, 180, 0, 16, 3, 184, 0, 176, 3, 54, 4, 31, 55, 5, 3, 54, 7]
abbrev dktX3_simulate_1 : List UInt8 := dkwX3_simulate_1 ++ dktX3_simulate_2
def dkwX3_simulate_0 : List UInt8 := [42, 29, 133, 10, 20, 0, 215, 184, 0, 43, 153, 0, 7, 3, 167, 0, 4, 4, 182, 0, 95, 153, 0, 5]
abbrev dktX3_simulate_0 : List UInt8 := dkwX3_simulate_0 ++ dktX3_simulate_1
theorem dksX3_simulate_0 : cX3_simulate.data.toList.drop 0 = dktX3_simulate_0 := by decide +kernel
theorem dksX3_simulate_1 : cX3_simulate.data.toList.drop 24 = dktX3_simulate_1 := dk_seg dksX3_simulate_0 24 rfl rfl
theorem dksX3_simulate_2 : cX3_simulate.data.toList.drop 48 = dktX3_simulate_2 := dk_seg dksX3_simulate_1 24 rfl rfl
theorem dksX3_simulate_3 : cX3_simulate.data.toList.drop 72 = dktX3_simulate_3 := dk_seg dksX3_simulate_2 24 rfl rfl
theorem dksX3_simulate_4 : cX3_simulate.data.toList.drop 95 = dktX3_simulate_4 := dk_seg dksX3_simulate_3 23 rfl rfl
theorem dksX3_simulate_5 : cX3_simulate.data.toList.drop 119 = dktX3_simulate_5 := dk_seg dksX3_simulate_4 24 rfl rfl
theorem dX3_simulate_0 : decode cX3_simulate 0 = .ok (.aload_n 0, 1) := dk_42 (dk_at dksX3_simulate_0 0 rfl rfl)
theorem dX3_simulate_1 : decode cX3_simulate 1 = .ok (.iload_n 3, 1) := dk_29 (dk_at dksX3_simulate_0 1 rfl rfl)
theorem dX3_simulate_2 : decode cX3_simulate 2 = .ok (.i2l, 1) := dk_133 (dk_at dksX3_simulate_0 2 rfl rfl)
theorem dX3_simulate_3 : decode cX3_simulate 3 = .ok (.lconst 1, 1) := dk_10 (dk_at dksX3_simulate_0 3 rfl rfl)
theorem dX3_simulate_4 : decode cX3_simulate 4 = .ok (.ldc2_w 215, 3) := dk_20 0 215 (dk_at dksX3_simulate_0 4 rfl rfl)
theorem dX3_simulate_7 : decode cX3_simulate 7 = .ok (.invokestatic 43, 3) := dk_184 0 43 (dk_at dksX3_simulate_0 7 rfl rfl)
theorem dX3_simulate_10 : decode cX3_simulate 10 = .ok (.ifCond .eq 7, 3) := dk_153 0 7 (dk_at dksX3_simulate_0 10 rfl rfl)
theorem dX3_simulate_13 : decode cX3_simulate 13 = .ok (.iconst 0, 1) := dk_3 (dk_at dksX3_simulate_0 13 rfl rfl)
theorem dX3_simulate_14 : decode cX3_simulate 14 = .ok (.goto 4, 3) := dk_167 0 4 (dk_at dksX3_simulate_0 14 rfl rfl)
theorem dX3_simulate_17 : decode cX3_simulate 17 = .ok (.iconst 1, 1) := dk_4 (dk_at dksX3_simulate_0 17 rfl rfl)
theorem dX3_simulate_18 : decode cX3_simulate 18 = .ok (.invokevirtual 95, 3) := dk_182 0 95 (dk_at dksX3_simulate_0 18 rfl rfl)
theorem dX3_simulate_21 : decode cX3_simulate 21 = .ok (.ifCond .eq 5, 3) := dk_153 0 5 (dk_at dksX3_simulate_0 21 rfl rfl)
theorem dX3_simulate_24 : decode cX3_simulate 24 = .ok (.iconst 0, 1) := dk_3 (dk_at dksX3_simulate_1 0 rfl rfl)
theorem dX3_simulate_25 : decode cX3_simulate 25 = .ok (.ireturn, 1) := dk_172 (dk_at dksX3_simulate_1 1 rfl rfl)
theorem dX3_simulate_26 : decode cX3_simulate 26 = .ok (.aload_n 0, 1) := dk_42 (dk_at dksX3_simulate_1 2 rfl rfl)
theorem dX3_simulate_27 : decode cX3_simulate 27 = .ok (.getfield 13, 3) := dk_180 0 13 (dk_at dksX3_simulate_1 3 rfl rfl)
theorem dX3_simulate_30 : decode cX3_simulate 30 = .ok (.iconst 0, 1) := dk_3 (dk_at dksX3_simulate_1 6 rfl rfl)
theorem dX3_simulate_31 : decode cX3_simulate 31 = .ok (.aload_n 0, 1) := dk_42 (dk_at dksX3_simulate_1 7 rfl rfl)
theorem dX3_simulate_32 : decode cX3_simulate 32 = .ok (.getfield 16, 3) := dk_180 0 16 (dk_at dksX3_simulate_1 8 rfl rfl)
theorem dX3_simulate_35 : decode cX3_simulate 35 = .ok (.iconst 0, 1) := dk_3 (dk_at dksX3_simulate_1 11 rfl rfl)
theorem dX3_simulate_36 : decode cX3_simulate 36 = .ok (.invokestatic 176, 3) := dk_184 0 176 (dk_at dksX3_simulate_1 12 rfl rfl)
theorem dX3_simulate_39 : decode cX3_simulate 39 = .ok (.iconst 0, 1) := dk_3 (dk_at dksX3_simulate_1 15 rfl rfl)
theorem dX3_simulate_40 : decode cX3_simulate 40 = .ok (.istore 4, 2) := dk_54 4 (dk_at dksX3_simulate_1 16 rfl rfl)
theorem dX3_simulate_42 : decode cX3_simulate 42 = .ok (.lload_n 1, 1) := dk_31 (dk_at dksX3_simulate_1 18 rfl rfl)
theorem dX3_simulate_43 : decode cX3_simulate 43 = .ok (.lstore 5, 2) := dk_55 5 (dk_at dksX3_simulate_1 19 rfl rfl)
theorem dX3_simulate_45 : decode cX3_simulate 45 = .ok (.iconst 0, 1) := dk_3 (dk_at dksX3_simulate_1 21 rfl rfl)
theorem dX3_simulate_46 : decode cX3_simulate 46 = .ok (.istore 7, 2) := dk_54 7 (dk_at dksX3_simulate_1 22 rfl rfl)
theorem dX3_simulate_48 : decode cX3_simulate 48 = .ok (.iload 7, 2) := dk_21 7 (dk_at dksX3_simulate_2 0 rfl rfl)
theorem dX3_simulate_50 : decode cX3_simulate 50 = .ok (.iload_n 3, 1) := dk_29 (dk_at dksX3_simulate_2 2 rfl rfl)
theorem dX3_simulate_51 : decode cX3_simulate 51 = .ok (.if_icmp .ge 52, 3) := dk_162 0 52 (dk_at dksX3_simulate_2 3 rfl rfl)
theorem dX3_simulate_54 : decode cX3_simulate 54 = .ok (.lload 5, 2) := dk_22 5 (dk_at dksX3_simulate_2 6 rfl rfl)
theorem dX3_simulate_56 : decode cX3_simulate 56 = .ok (.ldc2_w 217, 3) := dk_20 0 217 (dk_at dksX3_simulate_2 8 rfl rfl)
theorem dX3_simulate_59 : decode cX3_simulate 59 = .ok (.lmul, 1) := dk_105 (dk_at dksX3_simulate_2 11 rfl rfl)
theorem dX3_simulate_60 : decode cX3_simulate 60 = .ok (.ldc2_w 219, 3) := dk_20 0 219 (dk_at dksX3_simulate_2 12 rfl rfl)
theorem dX3_simulate_63 : decode cX3_simulate 63 = .ok (.ladd, 1) := dk_97 (dk_at dksX3_simulate_2 15 rfl rfl)
theorem dX3_simulate_64 : decode cX3_simulate 64 = .ok (.lstore 5, 2) := dk_55 5 (dk_at dksX3_simulate_2 16 rfl rfl)
theorem dX3_simulate_66 : decode cX3_simulate 66 = .ok (.lload 5, 2) := dk_22 5 (dk_at dksX3_simulate_2 18 rfl rfl)
theorem dX3_simulate_68 : decode cX3_simulate 68 = .ok (.bipush 33, 2) := dk_16 33 (dk_at dksX3_simulate_2 20 rfl rfl)
theorem dX3_simulate_70 : decode cX3_simulate 70 = .ok (.lushr, 1) := dk_125 (dk_at dksX3_simulate_2 22 rfl rfl)
theorem dX3_simulate_71 : decode cX3_simulate 71 = .ok (.l2i, 1) := dk_136 (dk_at dksX3_simulate_2 23 rfl rfl)
theorem dX3_simulate_72 : decode cX3_simulate 72 = .ok (.istore 8, 2) := dk_54 8 (dk_at dksX3_simulate_3 0 rfl rfl)
theorem dX3_simulate_74 : decode cX3_simulate 74 = .ok (.iload 4, 2) := dk_21 4 (dk_at dksX3_simulate_3 2 rfl rfl)
theorem dX3_simulate_76 : decode cX3_simulate 76 = .ok (.aload_n 0, 1) := dk_42 (dk_at dksX3_simulate_3 4 rfl rfl)
theorem dX3_simulate_77 : decode cX3_simulate 77 = .ok (.aload_n 0, 1) := dk_42 (dk_at dksX3_simulate_3 5 rfl rfl)
theorem dX3_simulate_78 : decode cX3_simulate 78 = .ok (.getfield 16, 3) := dk_180 0 16 (dk_at dksX3_simulate_3 6 rfl rfl)
theorem dX3_simulate_81 : decode cX3_simulate 81 = .ok (.iload 8, 2) := dk_21 8 (dk_at dksX3_simulate_3 9 rfl rfl)
theorem dX3_simulate_83 : decode cX3_simulate 83 = .ok (.bipush 16, 2) := dk_16 16 (dk_at dksX3_simulate_3 11 rfl rfl)
theorem dX3_simulate_85 : decode cX3_simulate 85 = .ok (.irem, 1) := dk_112 (dk_at dksX3_simulate_3 13 rfl rfl)
theorem dX3_simulate_86 : decode cX3_simulate 86 = .ok (.iload 8, 2) := dk_21 8 (dk_at dksX3_simulate_3 14 rfl rfl)
theorem dX3_simulate_88 : decode cX3_simulate 88 = .ok (.bipush 16, 2) := dk_16 16 (dk_at dksX3_simulate_3 16 rfl rfl)
theorem dX3_simulate_90 : decode cX3_simulate 90 = .ok (.idiv, 1) := dk_108 (dk_at dksX3_simulate_3 18 rfl rfl)
theorem dX3_simulate_91 : decode cX3_simulate 91 = .ok (.invokevirtual 221, 3) := dk_182 0 221 (dk_at dksX3_simulate_3 19 rfl rfl)
theorem dX3_simulate_94 : decode cX3_simulate 94 = .ok (.iadd, 1) := dk_96 (dk_at dksX3_simulate_3 22 rfl rfl)
theorem dX3_simulate_95 : decode cX3_simulate 95 = .ok (.istore 4, 2) := dk_54 4 (dk_at dksX3_simulate_4 0 rfl rfl)
theorem dX3_simulate_97 : decode cX3_simulate 97 = .ok (.iinc 7 1, 3) := dk_132 7 1 (dk_at dksX3_simulate_4 2 rfl rfl)
theorem dX3_simulate_100 : decode cX3_simulate 100 = .ok (.goto (-52), 3) := dk_167 255 204 (dk_at dksX3_simulate_4 5 rfl rfl)
theorem dX3_simulate_103 : decode cX3_simulate 103 = .ok (.sipush 10000, 3) := dk_17 39 16 (dk_at dksX3_simulate_4 8 rfl rfl)
theorem dX3_simulate_106 : decode cX3_simulate 106 = .ok (.aload_n 0, 1) := dk_42 (dk_at dksX3_simulate_4 11 rfl rfl)
theorem dX3_simulate_107 : decode cX3_simulate 107 = .ok (.getfield 16, 3) := dk_180 0 16 (dk_at dksX3_simulate_4 12 rfl rfl)
theorem dX3_simulate_110 : decode cX3_simulate 110 = .ok (.iconst 0, 1) := dk_3 (dk_at dksX3_simulate_4 15 rfl rfl)
theorem dX3_simulate_111 : decode cX3_simulate 111 = .ok (.iaload, 1) := dk_46 (dk_at dksX3_simulate_4 16 rfl rfl)
theorem dX3_simulate_112 : decode cX3_simulate 112 = .ok (.imul, 1) := dk_104 (dk_at dksX3_simulate_4 17 rfl rfl)
theorem dX3_simulate_113 : decode cX3_simulate 113 = .ok (.iload 4, 2) := dk_21 4 (dk_at dksX3_simulate_4 18 rfl rfl)
theorem dX3_simulate_115 : decode cX3_simulate 115 = .ok (.sipush 10000, 3) := dk_17 39 16 (dk_at dksX3_simulate_4 20 rfl rfl)
theorem dX3_simulate_118 : decode cX3_simulate 118 = .ok (.irem, 1) := dk_112 (dk_at dksX3_simulate_4 23 rfl rfl)
theorem dX3_simulate_119 : decode cX3_simulate 119 = .ok (.iadd, 1) := dk_96 (dk_at dksX3_simulate_5 0 rfl rfl)
theorem dX3_simulate_120 : decode cX3_simulate 120 = .ok (.ireturn, 1) := dk_172 (dk_at dksX3_simulate_5 1 rfl rfl)
abbrev cX3_turnOf : ByteArray := prog_18_method_86_code
def yX3_turnOf : MethodName := ⟨RX3, "turnOf", "([III)I"⟩
def dkwX3_turnOf_4 : List UInt8 := [182, 0, 84, 2, 160, 0, 7, 3, 167, 0, 11, 42, 43, 29, 7, 112, 182, 0, 133, 172, 3, 172]
abbrev dktX3_turnOf_4 : List UInt8 := dkwX3_turnOf_4 ++ []
def dkwX3_turnOf_3 : List UInt8 := [167, 0, 43, 43, 29, 7, 112, 184, 0, 130, 153, 0, 33, 42, 43, 182, 0, 127, 42, 43, 29, 7, 112]
abbrev dktX3_turnOf_3 : List UInt8 := dkwX3_turnOf_3 ++ dktX3_turnOf_4
def dkwX3_turnOf_2 : List UInt8 := [87, 167, 0, 64, 28, 16, 10, 160, 0, 18, 43, 184, 0, 163, 154, 0, 51, 43, 184, 0, 167, 87]
abbrev dktX3_turnOf_2 : List UInt8 := dkwX3_turnOf_2 ++ dktX3_turnOf_3
def dkwX3_turnOf_1 : List UInt8 := [16, 12, 112, 184, 0, 123, 153, 0, 83, 43, 4, 46, 7, 162, 0, 76, 43, 29, 16, 12, 112, 184, 0, 157]
abbrev dktX3_turnOf_1 : List UInt8 := dkwX3_turnOf_1 ++ dktX3_turnOf_2
def dkwX3_turnOf_0 : List UInt8 := [28, 16, 9, 162, 0, 12, 43, 28, 29, 184, 0, 211, 167, 0, 100, 28, 16, 9, 160, 0, 33, 43, 29]
abbrev dktX3_turnOf_0 : List UInt8 := dkwX3_turnOf_0 ++ dktX3_turnOf_1
theorem dksX3_turnOf_0 : cX3_turnOf.data.toList.drop 0 = dktX3_turnOf_0 := by decide +kernel
theorem dksX3_turnOf_1 : cX3_turnOf.data.toList.drop 23 = dktX3_turnOf_1 := dk_seg dksX3_turnOf_0 23 rfl rfl
theorem dksX3_turnOf_2 : cX3_turnOf.data.toList.drop 47 = dktX3_turnOf_2 := dk_seg dksX3_turnOf_1 24 rfl rfl
theorem dksX3_turnOf_3 : cX3_turnOf.data.toList.drop 69 = dktX3_turnOf_3 := dk_seg dksX3_turnOf_2 22 rfl rfl
theorem dksX3_turnOf_4 : cX3_turnOf.data.toList.drop 92 = dktX3_turnOf_4 := dk_seg dksX3_turnOf_3 23 rfl rfl
theorem dX3_turnOf_0 : decode cX3_turnOf 0 = .ok (.iload_n 2, 1) := dk_28 (dk_at dksX3_turnOf_0 0 rfl rfl)
theorem dX3_turnOf_1 : decode cX3_turnOf 1 = .ok (.bipush 9, 2) := dk_16 9 (dk_at dksX3_turnOf_0 1 rfl rfl)
theorem dX3_turnOf_3 : decode cX3_turnOf 3 = .ok (.if_icmp .ge 12, 3) := dk_162 0 12 (dk_at dksX3_turnOf_0 3 rfl rfl)
theorem dX3_turnOf_6 : decode cX3_turnOf 6 = .ok (.aload_n 1, 1) := dk_43 (dk_at dksX3_turnOf_0 6 rfl rfl)
theorem dX3_turnOf_7 : decode cX3_turnOf 7 = .ok (.iload_n 2, 1) := dk_28 (dk_at dksX3_turnOf_0 7 rfl rfl)
theorem dX3_turnOf_8 : decode cX3_turnOf 8 = .ok (.iload_n 3, 1) := dk_29 (dk_at dksX3_turnOf_0 8 rfl rfl)
theorem dX3_turnOf_9 : decode cX3_turnOf 9 = .ok (.invokestatic 211, 3) := dk_184 0 211 (dk_at dksX3_turnOf_0 9 rfl rfl)
theorem dX3_turnOf_12 : decode cX3_turnOf 12 = .ok (.goto 100, 3) := dk_167 0 100 (dk_at dksX3_turnOf_0 12 rfl rfl)
theorem dX3_turnOf_15 : decode cX3_turnOf 15 = .ok (.iload_n 2, 1) := dk_28 (dk_at dksX3_turnOf_0 15 rfl rfl)
theorem dX3_turnOf_16 : decode cX3_turnOf 16 = .ok (.bipush 9, 2) := dk_16 9 (dk_at dksX3_turnOf_0 16 rfl rfl)
theorem dX3_turnOf_18 : decode cX3_turnOf 18 = .ok (.if_icmp .ne 33, 3) := dk_160 0 33 (dk_at dksX3_turnOf_0 18 rfl rfl)
theorem dX3_turnOf_21 : decode cX3_turnOf 21 = .ok (.aload_n 1, 1) := dk_43 (dk_at dksX3_turnOf_0 21 rfl rfl)
theorem dX3_turnOf_22 : decode cX3_turnOf 22 = .ok (.iload_n 3, 1) := dk_29 (dk_at dksX3_turnOf_0 22 rfl rfl)
theorem dX3_turnOf_23 : decode cX3_turnOf 23 = .ok (.bipush 12, 2) := dk_16 12 (dk_at dksX3_turnOf_1 0 rfl rfl)
theorem dX3_turnOf_25 : decode cX3_turnOf 25 = .ok (.irem, 1) := dk_112 (dk_at dksX3_turnOf_1 2 rfl rfl)
theorem dX3_turnOf_26 : decode cX3_turnOf 26 = .ok (.invokestatic 123, 3) := dk_184 0 123 (dk_at dksX3_turnOf_1 3 rfl rfl)
theorem dX3_turnOf_29 : decode cX3_turnOf 29 = .ok (.ifCond .eq 83, 3) := dk_153 0 83 (dk_at dksX3_turnOf_1 6 rfl rfl)
theorem dX3_turnOf_32 : decode cX3_turnOf 32 = .ok (.aload_n 1, 1) := dk_43 (dk_at dksX3_turnOf_1 9 rfl rfl)
theorem dX3_turnOf_33 : decode cX3_turnOf 33 = .ok (.iconst 1, 1) := dk_4 (dk_at dksX3_turnOf_1 10 rfl rfl)
theorem dX3_turnOf_34 : decode cX3_turnOf 34 = .ok (.iaload, 1) := dk_46 (dk_at dksX3_turnOf_1 11 rfl rfl)
theorem dX3_turnOf_35 : decode cX3_turnOf 35 = .ok (.iconst 4, 1) := dk_7 (dk_at dksX3_turnOf_1 12 rfl rfl)
theorem dX3_turnOf_36 : decode cX3_turnOf 36 = .ok (.if_icmp .ge 76, 3) := dk_162 0 76 (dk_at dksX3_turnOf_1 13 rfl rfl)
theorem dX3_turnOf_39 : decode cX3_turnOf 39 = .ok (.aload_n 1, 1) := dk_43 (dk_at dksX3_turnOf_1 16 rfl rfl)
theorem dX3_turnOf_40 : decode cX3_turnOf 40 = .ok (.iload_n 3, 1) := dk_29 (dk_at dksX3_turnOf_1 17 rfl rfl)
theorem dX3_turnOf_41 : decode cX3_turnOf 41 = .ok (.bipush 12, 2) := dk_16 12 (dk_at dksX3_turnOf_1 18 rfl rfl)
theorem dX3_turnOf_43 : decode cX3_turnOf 43 = .ok (.irem, 1) := dk_112 (dk_at dksX3_turnOf_1 20 rfl rfl)
theorem dX3_turnOf_44 : decode cX3_turnOf 44 = .ok (.invokestatic 157, 3) := dk_184 0 157 (dk_at dksX3_turnOf_1 21 rfl rfl)
theorem dX3_turnOf_47 : decode cX3_turnOf 47 = .ok (.pop, 1) := dk_87 (dk_at dksX3_turnOf_2 0 rfl rfl)
theorem dX3_turnOf_48 : decode cX3_turnOf 48 = .ok (.goto 64, 3) := dk_167 0 64 (dk_at dksX3_turnOf_2 1 rfl rfl)
theorem dX3_turnOf_51 : decode cX3_turnOf 51 = .ok (.iload_n 2, 1) := dk_28 (dk_at dksX3_turnOf_2 4 rfl rfl)
theorem dX3_turnOf_52 : decode cX3_turnOf 52 = .ok (.bipush 10, 2) := dk_16 10 (dk_at dksX3_turnOf_2 5 rfl rfl)
theorem dX3_turnOf_54 : decode cX3_turnOf 54 = .ok (.if_icmp .ne 18, 3) := dk_160 0 18 (dk_at dksX3_turnOf_2 7 rfl rfl)
theorem dX3_turnOf_57 : decode cX3_turnOf 57 = .ok (.aload_n 1, 1) := dk_43 (dk_at dksX3_turnOf_2 10 rfl rfl)
theorem dX3_turnOf_58 : decode cX3_turnOf 58 = .ok (.invokestatic 163, 3) := dk_184 0 163 (dk_at dksX3_turnOf_2 11 rfl rfl)
theorem dX3_turnOf_61 : decode cX3_turnOf 61 = .ok (.ifCond .ne 51, 3) := dk_154 0 51 (dk_at dksX3_turnOf_2 14 rfl rfl)
theorem dX3_turnOf_64 : decode cX3_turnOf 64 = .ok (.aload_n 1, 1) := dk_43 (dk_at dksX3_turnOf_2 17 rfl rfl)
theorem dX3_turnOf_65 : decode cX3_turnOf 65 = .ok (.invokestatic 167, 3) := dk_184 0 167 (dk_at dksX3_turnOf_2 18 rfl rfl)
theorem dX3_turnOf_68 : decode cX3_turnOf 68 = .ok (.pop, 1) := dk_87 (dk_at dksX3_turnOf_2 21 rfl rfl)
theorem dX3_turnOf_69 : decode cX3_turnOf 69 = .ok (.goto 43, 3) := dk_167 0 43 (dk_at dksX3_turnOf_3 0 rfl rfl)
theorem dX3_turnOf_72 : decode cX3_turnOf 72 = .ok (.aload_n 1, 1) := dk_43 (dk_at dksX3_turnOf_3 3 rfl rfl)
theorem dX3_turnOf_73 : decode cX3_turnOf 73 = .ok (.iload_n 3, 1) := dk_29 (dk_at dksX3_turnOf_3 4 rfl rfl)
theorem dX3_turnOf_74 : decode cX3_turnOf 74 = .ok (.iconst 4, 1) := dk_7 (dk_at dksX3_turnOf_3 5 rfl rfl)
theorem dX3_turnOf_75 : decode cX3_turnOf 75 = .ok (.irem, 1) := dk_112 (dk_at dksX3_turnOf_3 6 rfl rfl)
theorem dX3_turnOf_76 : decode cX3_turnOf 76 = .ok (.invokestatic 130, 3) := dk_184 0 130 (dk_at dksX3_turnOf_3 7 rfl rfl)
theorem dX3_turnOf_79 : decode cX3_turnOf 79 = .ok (.ifCond .eq 33, 3) := dk_153 0 33 (dk_at dksX3_turnOf_3 10 rfl rfl)
theorem dX3_turnOf_82 : decode cX3_turnOf 82 = .ok (.aload_n 0, 1) := dk_42 (dk_at dksX3_turnOf_3 13 rfl rfl)
theorem dX3_turnOf_83 : decode cX3_turnOf 83 = .ok (.aload_n 1, 1) := dk_43 (dk_at dksX3_turnOf_3 14 rfl rfl)
theorem dX3_turnOf_84 : decode cX3_turnOf 84 = .ok (.invokevirtual 127, 3) := dk_182 0 127 (dk_at dksX3_turnOf_3 15 rfl rfl)
theorem dX3_turnOf_87 : decode cX3_turnOf 87 = .ok (.aload_n 0, 1) := dk_42 (dk_at dksX3_turnOf_3 18 rfl rfl)
theorem dX3_turnOf_88 : decode cX3_turnOf 88 = .ok (.aload_n 1, 1) := dk_43 (dk_at dksX3_turnOf_3 19 rfl rfl)
theorem dX3_turnOf_89 : decode cX3_turnOf 89 = .ok (.iload_n 3, 1) := dk_29 (dk_at dksX3_turnOf_3 20 rfl rfl)
theorem dX3_turnOf_90 : decode cX3_turnOf 90 = .ok (.iconst 4, 1) := dk_7 (dk_at dksX3_turnOf_3 21 rfl rfl)
theorem dX3_turnOf_91 : decode cX3_turnOf 91 = .ok (.irem, 1) := dk_112 (dk_at dksX3_turnOf_3 22 rfl rfl)
theorem dX3_turnOf_92 : decode cX3_turnOf 92 = .ok (.invokevirtual 84, 3) := dk_182 0 84 (dk_at dksX3_turnOf_4 0 rfl rfl)
theorem dX3_turnOf_95 : decode cX3_turnOf 95 = .ok (.iconst (-1), 1) := dk_2 (dk_at dksX3_turnOf_4 3 rfl rfl)
theorem dX3_turnOf_96 : decode cX3_turnOf 96 = .ok (.if_icmp .ne 7, 3) := dk_160 0 7 (dk_at dksX3_turnOf_4 4 rfl rfl)
theorem dX3_turnOf_99 : decode cX3_turnOf 99 = .ok (.iconst 0, 1) := dk_3 (dk_at dksX3_turnOf_4 7 rfl rfl)
theorem dX3_turnOf_100 : decode cX3_turnOf 100 = .ok (.goto 11, 3) := dk_167 0 11 (dk_at dksX3_turnOf_4 8 rfl rfl)
theorem dX3_turnOf_103 : decode cX3_turnOf 103 = .ok (.aload_n 0, 1) := dk_42 (dk_at dksX3_turnOf_4 11 rfl rfl)
theorem dX3_turnOf_104 : decode cX3_turnOf 104 = .ok (.aload_n 1, 1) := dk_43 (dk_at dksX3_turnOf_4 12 rfl rfl)
theorem dX3_turnOf_105 : decode cX3_turnOf 105 = .ok (.iload_n 3, 1) := dk_29 (dk_at dksX3_turnOf_4 13 rfl rfl)
theorem dX3_turnOf_106 : decode cX3_turnOf 106 = .ok (.iconst 4, 1) := dk_7 (dk_at dksX3_turnOf_4 14 rfl rfl)
theorem dX3_turnOf_107 : decode cX3_turnOf 107 = .ok (.irem, 1) := dk_112 (dk_at dksX3_turnOf_4 15 rfl rfl)
theorem dX3_turnOf_108 : decode cX3_turnOf 108 = .ok (.invokevirtual 133, 3) := dk_182 0 133 (dk_at dksX3_turnOf_4 16 rfl rfl)
theorem dX3_turnOf_111 : decode cX3_turnOf 111 = .ok (.ireturn, 1) := dk_172 (dk_at dksX3_turnOf_4 19 rfl rfl)
theorem dX3_turnOf_112 : decode cX3_turnOf 112 = .ok (.iconst 0, 1) := dk_3 (dk_at dksX3_turnOf_4 20 rfl rfl)
theorem dX3_turnOf_113 : decode cX3_turnOf 113 = .ok (.ireturn, 1) := dk_172 (dk_at dksX3_turnOf_4 21 rfl rfl)
abbrev cX3_turnList : ByteArray := prog_18_method_85_code
def yX3_turnList : MethodName := ⟨RX3, "turnList", "([III)V"⟩
def dkwX3_turnList_5 : List UInt8 := [16, 7, 160, 0, 14, 4, 28, 16, 16, 108, 7, 112, 96, 167, 0, 4, 3, 3, 184, 0, 115, 87, 177]
abbrev dktX3_turnList_5 : List UInt8 := dkwX3_turnList_5 ++ []
def dkwX3_turnList_4 : List UInt8 := [153, 0, 46, 42, 27, 4, 100, 29, 21, 4, 3, 184, 0, 115, 87, 167, 0, 31, 42, 27, 4, 100, 29, 27]
abbrev dktX3_turnList_4 : List UInt8 := dkwX3_turnList_4 ++ dktX3_turnList_5
def dkwX3_turnList_3 : List UInt8 := [6, 112, 96, 3, 184, 0, 115, 87, 167, 0, 61, 27, 16, 6, 162, 0, 27, 42, 21, 4, 184, 0, 123]
abbrev dktX3_turnList_3 : List UInt8 := dkwX3_turnList_3 ++ dktX3_turnList_4
def dkwX3_turnList_2 : List UInt8 := [167, 0, 93, 42, 29, 184, 0, 123, 153, 0, 85, 27, 5, 160, 0, 22, 42, 4, 29, 4, 28, 16, 16, 108]
abbrev dktX3_turnList_2 : List UInt8 := dkwX3_turnList_2 ++ dktX3_turnList_3
def dkwX3_turnList_1 : List UInt8 := [162, 0, 27, 42, 3, 28, 16, 100, 112, 4, 28, 17, 0, 128, 108, 16, 20, 112, 96, 3, 184, 0, 115, 87]
abbrev dktX3_turnList_1 : List UInt8 := dkwX3_turnList_1 ++ dktX3_turnList_2
def dkwX3_turnList_0 : List UInt8 := [28, 16, 12, 112, 62, 28, 16, 16, 108, 16, 12, 112, 54, 4, 42, 184, 0, 111, 154, 0, 4, 177, 27, 5]
abbrev dktX3_turnList_0 : List UInt8 := dkwX3_turnList_0 ++ dktX3_turnList_1
theorem dksX3_turnList_0 : cX3_turnList.data.toList.drop 0 = dktX3_turnList_0 := by decide +kernel
theorem dksX3_turnList_1 : cX3_turnList.data.toList.drop 24 = dktX3_turnList_1 := dk_seg dksX3_turnList_0 24 rfl rfl
theorem dksX3_turnList_2 : cX3_turnList.data.toList.drop 48 = dktX3_turnList_2 := dk_seg dksX3_turnList_1 24 rfl rfl
theorem dksX3_turnList_3 : cX3_turnList.data.toList.drop 72 = dktX3_turnList_3 := dk_seg dksX3_turnList_2 24 rfl rfl
theorem dksX3_turnList_4 : cX3_turnList.data.toList.drop 95 = dktX3_turnList_4 := dk_seg dksX3_turnList_3 23 rfl rfl
theorem dksX3_turnList_5 : cX3_turnList.data.toList.drop 119 = dktX3_turnList_5 := dk_seg dksX3_turnList_4 24 rfl rfl
theorem dX3_turnList_0 : decode cX3_turnList 0 = .ok (.iload_n 2, 1) := dk_28 (dk_at dksX3_turnList_0 0 rfl rfl)
theorem dX3_turnList_1 : decode cX3_turnList 1 = .ok (.bipush 12, 2) := dk_16 12 (dk_at dksX3_turnList_0 1 rfl rfl)
theorem dX3_turnList_3 : decode cX3_turnList 3 = .ok (.irem, 1) := dk_112 (dk_at dksX3_turnList_0 3 rfl rfl)
theorem dX3_turnList_4 : decode cX3_turnList 4 = .ok (.istore_n 3, 1) := dk_62 (dk_at dksX3_turnList_0 4 rfl rfl)
theorem dX3_turnList_5 : decode cX3_turnList 5 = .ok (.iload_n 2, 1) := dk_28 (dk_at dksX3_turnList_0 5 rfl rfl)
theorem dX3_turnList_6 : decode cX3_turnList 6 = .ok (.bipush 16, 2) := dk_16 16 (dk_at dksX3_turnList_0 6 rfl rfl)
theorem dX3_turnList_8 : decode cX3_turnList 8 = .ok (.idiv, 1) := dk_108 (dk_at dksX3_turnList_0 8 rfl rfl)
theorem dX3_turnList_9 : decode cX3_turnList 9 = .ok (.bipush 12, 2) := dk_16 12 (dk_at dksX3_turnList_0 9 rfl rfl)
theorem dX3_turnList_11 : decode cX3_turnList 11 = .ok (.irem, 1) := dk_112 (dk_at dksX3_turnList_0 11 rfl rfl)
theorem dX3_turnList_12 : decode cX3_turnList 12 = .ok (.istore 4, 2) := dk_54 4 (dk_at dksX3_turnList_0 12 rfl rfl)
theorem dX3_turnList_14 : decode cX3_turnList 14 = .ok (.aload_n 0, 1) := dk_42 (dk_at dksX3_turnList_0 14 rfl rfl)
theorem dX3_turnList_15 : decode cX3_turnList 15 = .ok (.invokestatic 111, 3) := dk_184 0 111 (dk_at dksX3_turnList_0 15 rfl rfl)
theorem dX3_turnList_18 : decode cX3_turnList 18 = .ok (.ifCond .ne 4, 3) := dk_154 0 4 (dk_at dksX3_turnList_0 18 rfl rfl)
theorem dX3_turnList_21 : decode cX3_turnList 21 = .ok (.return_, 1) := dk_177 (dk_at dksX3_turnList_0 21 rfl rfl)
theorem dX3_turnList_22 : decode cX3_turnList 22 = .ok (.iload_n 1, 1) := dk_27 (dk_at dksX3_turnList_0 22 rfl rfl)
theorem dX3_turnList_23 : decode cX3_turnList 23 = .ok (.iconst 2, 1) := dk_5 (dk_at dksX3_turnList_0 23 rfl rfl)
theorem dX3_turnList_24 : decode cX3_turnList 24 = .ok (.if_icmp .ge 27, 3) := dk_162 0 27 (dk_at dksX3_turnList_1 0 rfl rfl)
theorem dX3_turnList_27 : decode cX3_turnList 27 = .ok (.aload_n 0, 1) := dk_42 (dk_at dksX3_turnList_1 3 rfl rfl)
theorem dX3_turnList_28 : decode cX3_turnList 28 = .ok (.iconst 0, 1) := dk_3 (dk_at dksX3_turnList_1 4 rfl rfl)
theorem dX3_turnList_29 : decode cX3_turnList 29 = .ok (.iload_n 2, 1) := dk_28 (dk_at dksX3_turnList_1 5 rfl rfl)
theorem dX3_turnList_30 : decode cX3_turnList 30 = .ok (.bipush 100, 2) := dk_16 100 (dk_at dksX3_turnList_1 6 rfl rfl)
theorem dX3_turnList_32 : decode cX3_turnList 32 = .ok (.irem, 1) := dk_112 (dk_at dksX3_turnList_1 8 rfl rfl)
theorem dX3_turnList_33 : decode cX3_turnList 33 = .ok (.iconst 1, 1) := dk_4 (dk_at dksX3_turnList_1 9 rfl rfl)
theorem dX3_turnList_34 : decode cX3_turnList 34 = .ok (.iload_n 2, 1) := dk_28 (dk_at dksX3_turnList_1 10 rfl rfl)
theorem dX3_turnList_35 : decode cX3_turnList 35 = .ok (.sipush 128, 3) := dk_17 0 128 (dk_at dksX3_turnList_1 11 rfl rfl)
theorem dX3_turnList_38 : decode cX3_turnList 38 = .ok (.idiv, 1) := dk_108 (dk_at dksX3_turnList_1 14 rfl rfl)
theorem dX3_turnList_39 : decode cX3_turnList 39 = .ok (.bipush 20, 2) := dk_16 20 (dk_at dksX3_turnList_1 15 rfl rfl)
theorem dX3_turnList_41 : decode cX3_turnList 41 = .ok (.irem, 1) := dk_112 (dk_at dksX3_turnList_1 17 rfl rfl)
theorem dX3_turnList_42 : decode cX3_turnList 42 = .ok (.iadd, 1) := dk_96 (dk_at dksX3_turnList_1 18 rfl rfl)
theorem dX3_turnList_43 : decode cX3_turnList 43 = .ok (.iconst 0, 1) := dk_3 (dk_at dksX3_turnList_1 19 rfl rfl)
theorem dX3_turnList_44 : decode cX3_turnList 44 = .ok (.invokestatic 115, 3) := dk_184 0 115 (dk_at dksX3_turnList_1 20 rfl rfl)
theorem dX3_turnList_47 : decode cX3_turnList 47 = .ok (.pop, 1) := dk_87 (dk_at dksX3_turnList_1 23 rfl rfl)
theorem dX3_turnList_48 : decode cX3_turnList 48 = .ok (.goto 93, 3) := dk_167 0 93 (dk_at dksX3_turnList_2 0 rfl rfl)
theorem dX3_turnList_51 : decode cX3_turnList 51 = .ok (.aload_n 0, 1) := dk_42 (dk_at dksX3_turnList_2 3 rfl rfl)
theorem dX3_turnList_52 : decode cX3_turnList 52 = .ok (.iload_n 3, 1) := dk_29 (dk_at dksX3_turnList_2 4 rfl rfl)
theorem dX3_turnList_53 : decode cX3_turnList 53 = .ok (.invokestatic 123, 3) := dk_184 0 123 (dk_at dksX3_turnList_2 5 rfl rfl)
theorem dX3_turnList_56 : decode cX3_turnList 56 = .ok (.ifCond .eq 85, 3) := dk_153 0 85 (dk_at dksX3_turnList_2 8 rfl rfl)
theorem dX3_turnList_59 : decode cX3_turnList 59 = .ok (.iload_n 1, 1) := dk_27 (dk_at dksX3_turnList_2 11 rfl rfl)
theorem dX3_turnList_60 : decode cX3_turnList 60 = .ok (.iconst 2, 1) := dk_5 (dk_at dksX3_turnList_2 12 rfl rfl)
theorem dX3_turnList_61 : decode cX3_turnList 61 = .ok (.if_icmp .ne 22, 3) := dk_160 0 22 (dk_at dksX3_turnList_2 13 rfl rfl)
theorem dX3_turnList_64 : decode cX3_turnList 64 = .ok (.aload_n 0, 1) := dk_42 (dk_at dksX3_turnList_2 16 rfl rfl)
theorem dX3_turnList_65 : decode cX3_turnList 65 = .ok (.iconst 1, 1) := dk_4 (dk_at dksX3_turnList_2 17 rfl rfl)
theorem dX3_turnList_66 : decode cX3_turnList 66 = .ok (.iload_n 3, 1) := dk_29 (dk_at dksX3_turnList_2 18 rfl rfl)
theorem dX3_turnList_67 : decode cX3_turnList 67 = .ok (.iconst 1, 1) := dk_4 (dk_at dksX3_turnList_2 19 rfl rfl)
theorem dX3_turnList_68 : decode cX3_turnList 68 = .ok (.iload_n 2, 1) := dk_28 (dk_at dksX3_turnList_2 20 rfl rfl)
theorem dX3_turnList_69 : decode cX3_turnList 69 = .ok (.bipush 16, 2) := dk_16 16 (dk_at dksX3_turnList_2 21 rfl rfl)
theorem dX3_turnList_71 : decode cX3_turnList 71 = .ok (.idiv, 1) := dk_108 (dk_at dksX3_turnList_2 23 rfl rfl)
theorem dX3_turnList_72 : decode cX3_turnList 72 = .ok (.iconst 3, 1) := dk_6 (dk_at dksX3_turnList_3 0 rfl rfl)
theorem dX3_turnList_73 : decode cX3_turnList 73 = .ok (.irem, 1) := dk_112 (dk_at dksX3_turnList_3 1 rfl rfl)
theorem dX3_turnList_74 : decode cX3_turnList 74 = .ok (.iadd, 1) := dk_96 (dk_at dksX3_turnList_3 2 rfl rfl)
theorem dX3_turnList_75 : decode cX3_turnList 75 = .ok (.iconst 0, 1) := dk_3 (dk_at dksX3_turnList_3 3 rfl rfl)
theorem dX3_turnList_76 : decode cX3_turnList 76 = .ok (.invokestatic 115, 3) := dk_184 0 115 (dk_at dksX3_turnList_3 4 rfl rfl)
theorem dX3_turnList_79 : decode cX3_turnList 79 = .ok (.pop, 1) := dk_87 (dk_at dksX3_turnList_3 7 rfl rfl)
theorem dX3_turnList_80 : decode cX3_turnList 80 = .ok (.goto 61, 3) := dk_167 0 61 (dk_at dksX3_turnList_3 8 rfl rfl)
theorem dX3_turnList_83 : decode cX3_turnList 83 = .ok (.iload_n 1, 1) := dk_27 (dk_at dksX3_turnList_3 11 rfl rfl)
theorem dX3_turnList_84 : decode cX3_turnList 84 = .ok (.bipush 6, 2) := dk_16 6 (dk_at dksX3_turnList_3 12 rfl rfl)
theorem dX3_turnList_86 : decode cX3_turnList 86 = .ok (.if_icmp .ge 27, 3) := dk_162 0 27 (dk_at dksX3_turnList_3 14 rfl rfl)
theorem dX3_turnList_89 : decode cX3_turnList 89 = .ok (.aload_n 0, 1) := dk_42 (dk_at dksX3_turnList_3 17 rfl rfl)
theorem dX3_turnList_90 : decode cX3_turnList 90 = .ok (.iload 4, 2) := dk_21 4 (dk_at dksX3_turnList_3 18 rfl rfl)
theorem dX3_turnList_92 : decode cX3_turnList 92 = .ok (.invokestatic 123, 3) := dk_184 0 123 (dk_at dksX3_turnList_3 20 rfl rfl)
theorem dX3_turnList_95 : decode cX3_turnList 95 = .ok (.ifCond .eq 46, 3) := dk_153 0 46 (dk_at dksX3_turnList_4 0 rfl rfl)
theorem dX3_turnList_98 : decode cX3_turnList 98 = .ok (.aload_n 0, 1) := dk_42 (dk_at dksX3_turnList_4 3 rfl rfl)
theorem dX3_turnList_99 : decode cX3_turnList 99 = .ok (.iload_n 1, 1) := dk_27 (dk_at dksX3_turnList_4 4 rfl rfl)
theorem dX3_turnList_100 : decode cX3_turnList 100 = .ok (.iconst 1, 1) := dk_4 (dk_at dksX3_turnList_4 5 rfl rfl)
theorem dX3_turnList_101 : decode cX3_turnList 101 = .ok (.isub, 1) := dk_100 (dk_at dksX3_turnList_4 6 rfl rfl)
theorem dX3_turnList_102 : decode cX3_turnList 102 = .ok (.iload_n 3, 1) := dk_29 (dk_at dksX3_turnList_4 7 rfl rfl)
theorem dX3_turnList_103 : decode cX3_turnList 103 = .ok (.iload 4, 2) := dk_21 4 (dk_at dksX3_turnList_4 8 rfl rfl)
theorem dX3_turnList_105 : decode cX3_turnList 105 = .ok (.iconst 0, 1) := dk_3 (dk_at dksX3_turnList_4 10 rfl rfl)
theorem dX3_turnList_106 : decode cX3_turnList 106 = .ok (.invokestatic 115, 3) := dk_184 0 115 (dk_at dksX3_turnList_4 11 rfl rfl)
theorem dX3_turnList_109 : decode cX3_turnList 109 = .ok (.pop, 1) := dk_87 (dk_at dksX3_turnList_4 14 rfl rfl)
theorem dX3_turnList_110 : decode cX3_turnList 110 = .ok (.goto 31, 3) := dk_167 0 31 (dk_at dksX3_turnList_4 15 rfl rfl)
theorem dX3_turnList_113 : decode cX3_turnList 113 = .ok (.aload_n 0, 1) := dk_42 (dk_at dksX3_turnList_4 18 rfl rfl)
theorem dX3_turnList_114 : decode cX3_turnList 114 = .ok (.iload_n 1, 1) := dk_27 (dk_at dksX3_turnList_4 19 rfl rfl)
theorem dX3_turnList_115 : decode cX3_turnList 115 = .ok (.iconst 1, 1) := dk_4 (dk_at dksX3_turnList_4 20 rfl rfl)
theorem dX3_turnList_116 : decode cX3_turnList 116 = .ok (.isub, 1) := dk_100 (dk_at dksX3_turnList_4 21 rfl rfl)
theorem dX3_turnList_117 : decode cX3_turnList 117 = .ok (.iload_n 3, 1) := dk_29 (dk_at dksX3_turnList_4 22 rfl rfl)
theorem dX3_turnList_118 : decode cX3_turnList 118 = .ok (.iload_n 1, 1) := dk_27 (dk_at dksX3_turnList_4 23 rfl rfl)
theorem dX3_turnList_119 : decode cX3_turnList 119 = .ok (.bipush 7, 2) := dk_16 7 (dk_at dksX3_turnList_5 0 rfl rfl)
theorem dX3_turnList_121 : decode cX3_turnList 121 = .ok (.if_icmp .ne 14, 3) := dk_160 0 14 (dk_at dksX3_turnList_5 2 rfl rfl)
theorem dX3_turnList_124 : decode cX3_turnList 124 = .ok (.iconst 1, 1) := dk_4 (dk_at dksX3_turnList_5 5 rfl rfl)
theorem dX3_turnList_125 : decode cX3_turnList 125 = .ok (.iload_n 2, 1) := dk_28 (dk_at dksX3_turnList_5 6 rfl rfl)
theorem dX3_turnList_126 : decode cX3_turnList 126 = .ok (.bipush 16, 2) := dk_16 16 (dk_at dksX3_turnList_5 7 rfl rfl)
theorem dX3_turnList_128 : decode cX3_turnList 128 = .ok (.idiv, 1) := dk_108 (dk_at dksX3_turnList_5 9 rfl rfl)
theorem dX3_turnList_129 : decode cX3_turnList 129 = .ok (.iconst 4, 1) := dk_7 (dk_at dksX3_turnList_5 10 rfl rfl)
theorem dX3_turnList_130 : decode cX3_turnList 130 = .ok (.irem, 1) := dk_112 (dk_at dksX3_turnList_5 11 rfl rfl)
theorem dX3_turnList_131 : decode cX3_turnList 131 = .ok (.iadd, 1) := dk_96 (dk_at dksX3_turnList_5 12 rfl rfl)
theorem dX3_turnList_132 : decode cX3_turnList 132 = .ok (.goto 4, 3) := dk_167 0 4 (dk_at dksX3_turnList_5 13 rfl rfl)
theorem dX3_turnList_135 : decode cX3_turnList 135 = .ok (.iconst 0, 1) := dk_3 (dk_at dksX3_turnList_5 16 rfl rfl)
theorem dX3_turnList_136 : decode cX3_turnList 136 = .ok (.iconst 0, 1) := dk_3 (dk_at dksX3_turnList_5 17 rfl rfl)
theorem dX3_turnList_137 : decode cX3_turnList 137 = .ok (.invokestatic 115, 3) := dk_184 0 115 (dk_at dksX3_turnList_5 18 rfl rfl)
theorem dX3_turnList_140 : decode cX3_turnList 140 = .ok (.pop, 1) := dk_87 (dk_at dksX3_turnList_5 21 rfl rfl)
theorem dX3_turnList_141 : decode cX3_turnList 141 = .ok (.return_, 1) := dk_177 (dk_at dksX3_turnList_5 22 rfl rfl)
abbrev cX3_save : ByteArray := prog_18_method_88_code
def yX3_save : MethodName := ⟨RX3, "save", "(I)I"⟩
def dkwX3_save_2 : List UInt8 := [180, 0, 13, 3, 46, 172]
abbrev dktX3_save_2 : List UInt8 := dkwX3_save_2 ++ []
def dkwX3_save_1 : List UInt8 := [42, 180, 0, 13, 3, 42, 180, 0, 22, 16, 59, 27, 104, 184, 0, 176, 42, 180, 0, 25, 27, 4, 84, 42]
abbrev dktX3_save_1 : List UInt8 := dkwX3_save_1 ++ dktX3_save_2
def dkwX3_save_0 : List UInt8 := [42, 27, 133, 9, 10, 184, 0, 43, 153, 0, 7, 3, 167, 0, 4, 4, 182, 0, 95, 153, 0, 5, 3, 172]
abbrev dktX3_save_0 : List UInt8 := dkwX3_save_0 ++ dktX3_save_1
theorem dksX3_save_0 : cX3_save.data.toList.drop 0 = dktX3_save_0 := by decide +kernel
theorem dksX3_save_1 : cX3_save.data.toList.drop 24 = dktX3_save_1 := dk_seg dksX3_save_0 24 rfl rfl
theorem dksX3_save_2 : cX3_save.data.toList.drop 48 = dktX3_save_2 := dk_seg dksX3_save_1 24 rfl rfl
theorem dX3_save_0 : decode cX3_save 0 = .ok (.aload_n 0, 1) := dk_42 (dk_at dksX3_save_0 0 rfl rfl)
theorem dX3_save_1 : decode cX3_save 1 = .ok (.iload_n 1, 1) := dk_27 (dk_at dksX3_save_0 1 rfl rfl)
theorem dX3_save_2 : decode cX3_save 2 = .ok (.i2l, 1) := dk_133 (dk_at dksX3_save_0 2 rfl rfl)
theorem dX3_save_3 : decode cX3_save 3 = .ok (.lconst 0, 1) := dk_9 (dk_at dksX3_save_0 3 rfl rfl)
theorem dX3_save_4 : decode cX3_save 4 = .ok (.lconst 1, 1) := dk_10 (dk_at dksX3_save_0 4 rfl rfl)
theorem dX3_save_5 : decode cX3_save 5 = .ok (.invokestatic 43, 3) := dk_184 0 43 (dk_at dksX3_save_0 5 rfl rfl)
theorem dX3_save_8 : decode cX3_save 8 = .ok (.ifCond .eq 7, 3) := dk_153 0 7 (dk_at dksX3_save_0 8 rfl rfl)
theorem dX3_save_11 : decode cX3_save 11 = .ok (.iconst 0, 1) := dk_3 (dk_at dksX3_save_0 11 rfl rfl)
theorem dX3_save_12 : decode cX3_save 12 = .ok (.goto 4, 3) := dk_167 0 4 (dk_at dksX3_save_0 12 rfl rfl)
theorem dX3_save_15 : decode cX3_save 15 = .ok (.iconst 1, 1) := dk_4 (dk_at dksX3_save_0 15 rfl rfl)
theorem dX3_save_16 : decode cX3_save 16 = .ok (.invokevirtual 95, 3) := dk_182 0 95 (dk_at dksX3_save_0 16 rfl rfl)
theorem dX3_save_19 : decode cX3_save 19 = .ok (.ifCond .eq 5, 3) := dk_153 0 5 (dk_at dksX3_save_0 19 rfl rfl)
theorem dX3_save_22 : decode cX3_save 22 = .ok (.iconst 0, 1) := dk_3 (dk_at dksX3_save_0 22 rfl rfl)
theorem dX3_save_23 : decode cX3_save 23 = .ok (.ireturn, 1) := dk_172 (dk_at dksX3_save_0 23 rfl rfl)
theorem dX3_save_24 : decode cX3_save 24 = .ok (.aload_n 0, 1) := dk_42 (dk_at dksX3_save_1 0 rfl rfl)
theorem dX3_save_25 : decode cX3_save 25 = .ok (.getfield 13, 3) := dk_180 0 13 (dk_at dksX3_save_1 1 rfl rfl)
theorem dX3_save_28 : decode cX3_save 28 = .ok (.iconst 0, 1) := dk_3 (dk_at dksX3_save_1 4 rfl rfl)
theorem dX3_save_29 : decode cX3_save 29 = .ok (.aload_n 0, 1) := dk_42 (dk_at dksX3_save_1 5 rfl rfl)
theorem dX3_save_30 : decode cX3_save 30 = .ok (.getfield 22, 3) := dk_180 0 22 (dk_at dksX3_save_1 6 rfl rfl)
theorem dX3_save_33 : decode cX3_save 33 = .ok (.bipush 59, 2) := dk_16 59 (dk_at dksX3_save_1 9 rfl rfl)
theorem dX3_save_35 : decode cX3_save 35 = .ok (.iload_n 1, 1) := dk_27 (dk_at dksX3_save_1 11 rfl rfl)
theorem dX3_save_36 : decode cX3_save 36 = .ok (.imul, 1) := dk_104 (dk_at dksX3_save_1 12 rfl rfl)
theorem dX3_save_37 : decode cX3_save 37 = .ok (.invokestatic 176, 3) := dk_184 0 176 (dk_at dksX3_save_1 13 rfl rfl)
theorem dX3_save_40 : decode cX3_save 40 = .ok (.aload_n 0, 1) := dk_42 (dk_at dksX3_save_1 16 rfl rfl)
theorem dX3_save_41 : decode cX3_save 41 = .ok (.getfield 25, 3) := dk_180 0 25 (dk_at dksX3_save_1 17 rfl rfl)
theorem dX3_save_44 : decode cX3_save 44 = .ok (.iload_n 1, 1) := dk_27 (dk_at dksX3_save_1 20 rfl rfl)
theorem dX3_save_45 : decode cX3_save 45 = .ok (.iconst 1, 1) := dk_4 (dk_at dksX3_save_1 21 rfl rfl)
theorem dX3_save_46 : decode cX3_save 46 = .ok (.bastore, 1) := dk_84 (dk_at dksX3_save_1 22 rfl rfl)
theorem dX3_save_47 : decode cX3_save 47 = .ok (.aload_n 0, 1) := dk_42 (dk_at dksX3_save_1 23 rfl rfl)
theorem dX3_save_48 : decode cX3_save 48 = .ok (.getfield 13, 3) := dk_180 0 13 (dk_at dksX3_save_2 0 rfl rfl)
theorem dX3_save_51 : decode cX3_save 51 = .ok (.iconst 0, 1) := dk_3 (dk_at dksX3_save_2 3 rfl rfl)
theorem dX3_save_52 : decode cX3_save 52 = .ok (.iaload, 1) := dk_46 (dk_at dksX3_save_2 4 rfl rfl)
theorem dX3_save_53 : decode cX3_save 53 = .ok (.ireturn, 1) := dk_172 (dk_at dksX3_save_2 5 rfl rfl)
abbrev cX3_restore : ByteArray := prog_18_method_89_code
def yX3_restore : MethodName := ⟨RX3, "restore", "(I)I"⟩
def dkwX3_restore_2 : List UInt8 := [180, 0, 13, 3, 184, 0, 176, 42, 3, 181, 0, 180, 42, 180, 0, 13, 3, 46, 172]
abbrev dktX3_restore_2 : List UInt8 := dkwX3_restore_2 ++ []
def dkwX3_restore_1 : List UInt8 := [5, 167, 0, 4, 3, 182, 0, 95, 153, 0, 5, 3, 172, 42, 180, 0, 22, 16, 59, 27, 104, 42]
abbrev dktX3_restore_1 : List UInt8 := dkwX3_restore_1 ++ dktX3_restore_2
def dkwX3_restore_0 : List UInt8 := [42, 27, 133, 9, 10, 184, 0, 43, 154, 0, 7, 4, 167, 0, 17, 42, 180, 0, 25, 27, 51, 154, 0, 7]
abbrev dktX3_restore_0 : List UInt8 := dkwX3_restore_0 ++ dktX3_restore_1
theorem dksX3_restore_0 : cX3_restore.data.toList.drop 0 = dktX3_restore_0 := by decide +kernel
theorem dksX3_restore_1 : cX3_restore.data.toList.drop 24 = dktX3_restore_1 := dk_seg dksX3_restore_0 24 rfl rfl
theorem dksX3_restore_2 : cX3_restore.data.toList.drop 46 = dktX3_restore_2 := dk_seg dksX3_restore_1 22 rfl rfl
theorem dX3_restore_0 : decode cX3_restore 0 = .ok (.aload_n 0, 1) := dk_42 (dk_at dksX3_restore_0 0 rfl rfl)
theorem dX3_restore_1 : decode cX3_restore 1 = .ok (.iload_n 1, 1) := dk_27 (dk_at dksX3_restore_0 1 rfl rfl)
theorem dX3_restore_2 : decode cX3_restore 2 = .ok (.i2l, 1) := dk_133 (dk_at dksX3_restore_0 2 rfl rfl)
theorem dX3_restore_3 : decode cX3_restore 3 = .ok (.lconst 0, 1) := dk_9 (dk_at dksX3_restore_0 3 rfl rfl)
theorem dX3_restore_4 : decode cX3_restore 4 = .ok (.lconst 1, 1) := dk_10 (dk_at dksX3_restore_0 4 rfl rfl)
theorem dX3_restore_5 : decode cX3_restore 5 = .ok (.invokestatic 43, 3) := dk_184 0 43 (dk_at dksX3_restore_0 5 rfl rfl)
theorem dX3_restore_8 : decode cX3_restore 8 = .ok (.ifCond .ne 7, 3) := dk_154 0 7 (dk_at dksX3_restore_0 8 rfl rfl)
theorem dX3_restore_11 : decode cX3_restore 11 = .ok (.iconst 1, 1) := dk_4 (dk_at dksX3_restore_0 11 rfl rfl)
theorem dX3_restore_12 : decode cX3_restore 12 = .ok (.goto 17, 3) := dk_167 0 17 (dk_at dksX3_restore_0 12 rfl rfl)
theorem dX3_restore_15 : decode cX3_restore 15 = .ok (.aload_n 0, 1) := dk_42 (dk_at dksX3_restore_0 15 rfl rfl)
theorem dX3_restore_16 : decode cX3_restore 16 = .ok (.getfield 25, 3) := dk_180 0 25 (dk_at dksX3_restore_0 16 rfl rfl)
theorem dX3_restore_19 : decode cX3_restore 19 = .ok (.iload_n 1, 1) := dk_27 (dk_at dksX3_restore_0 19 rfl rfl)
theorem dX3_restore_20 : decode cX3_restore 20 = .ok (.baload, 1) := dk_51 (dk_at dksX3_restore_0 20 rfl rfl)
theorem dX3_restore_21 : decode cX3_restore 21 = .ok (.ifCond .ne 7, 3) := dk_154 0 7 (dk_at dksX3_restore_0 21 rfl rfl)
theorem dX3_restore_24 : decode cX3_restore 24 = .ok (.iconst 2, 1) := dk_5 (dk_at dksX3_restore_1 0 rfl rfl)
theorem dX3_restore_25 : decode cX3_restore 25 = .ok (.goto 4, 3) := dk_167 0 4 (dk_at dksX3_restore_1 1 rfl rfl)
theorem dX3_restore_28 : decode cX3_restore 28 = .ok (.iconst 0, 1) := dk_3 (dk_at dksX3_restore_1 4 rfl rfl)
theorem dX3_restore_29 : decode cX3_restore 29 = .ok (.invokevirtual 95, 3) := dk_182 0 95 (dk_at dksX3_restore_1 5 rfl rfl)
theorem dX3_restore_32 : decode cX3_restore 32 = .ok (.ifCond .eq 5, 3) := dk_153 0 5 (dk_at dksX3_restore_1 8 rfl rfl)
theorem dX3_restore_35 : decode cX3_restore 35 = .ok (.iconst 0, 1) := dk_3 (dk_at dksX3_restore_1 11 rfl rfl)
theorem dX3_restore_36 : decode cX3_restore 36 = .ok (.ireturn, 1) := dk_172 (dk_at dksX3_restore_1 12 rfl rfl)
theorem dX3_restore_37 : decode cX3_restore 37 = .ok (.aload_n 0, 1) := dk_42 (dk_at dksX3_restore_1 13 rfl rfl)
theorem dX3_restore_38 : decode cX3_restore 38 = .ok (.getfield 22, 3) := dk_180 0 22 (dk_at dksX3_restore_1 14 rfl rfl)
theorem dX3_restore_41 : decode cX3_restore 41 = .ok (.bipush 59, 2) := dk_16 59 (dk_at dksX3_restore_1 17 rfl rfl)
theorem dX3_restore_43 : decode cX3_restore 43 = .ok (.iload_n 1, 1) := dk_27 (dk_at dksX3_restore_1 19 rfl rfl)
theorem dX3_restore_44 : decode cX3_restore 44 = .ok (.imul, 1) := dk_104 (dk_at dksX3_restore_1 20 rfl rfl)
theorem dX3_restore_45 : decode cX3_restore 45 = .ok (.aload_n 0, 1) := dk_42 (dk_at dksX3_restore_1 21 rfl rfl)
theorem dX3_restore_46 : decode cX3_restore 46 = .ok (.getfield 13, 3) := dk_180 0 13 (dk_at dksX3_restore_2 0 rfl rfl)
theorem dX3_restore_49 : decode cX3_restore 49 = .ok (.iconst 0, 1) := dk_3 (dk_at dksX3_restore_2 3 rfl rfl)
theorem dX3_restore_50 : decode cX3_restore 50 = .ok (.invokestatic 176, 3) := dk_184 0 176 (dk_at dksX3_restore_2 4 rfl rfl)
theorem dX3_restore_53 : decode cX3_restore 53 = .ok (.aload_n 0, 1) := dk_42 (dk_at dksX3_restore_2 7 rfl rfl)
theorem dX3_restore_54 : decode cX3_restore 54 = .ok (.iconst 0, 1) := dk_3 (dk_at dksX3_restore_2 8 rfl rfl)
theorem dX3_restore_55 : decode cX3_restore 55 = .ok (.putfield 180, 3) := dk_181 0 180 (dk_at dksX3_restore_2 9 rfl rfl)
theorem dX3_restore_58 : decode cX3_restore 58 = .ok (.aload_n 0, 1) := dk_42 (dk_at dksX3_restore_2 12 rfl rfl)
theorem dX3_restore_59 : decode cX3_restore 59 = .ok (.getfield 13, 3) := dk_180 0 13 (dk_at dksX3_restore_2 13 rfl rfl)
theorem dX3_restore_62 : decode cX3_restore 62 = .ok (.iconst 0, 1) := dk_3 (dk_at dksX3_restore_2 16 rfl rfl)
theorem dX3_restore_63 : decode cX3_restore 63 = .ok (.iaload, 1) := dk_46 (dk_at dksX3_restore_2 17 rfl rfl)
theorem dX3_restore_64 : decode cX3_restore 64 = .ok (.ireturn, 1) := dk_172 (dk_at dksX3_restore_2 18 rfl rfl)
theorem q59 : (Jvm.Cond.initialized "RuleListsModel") ∈ lw_all := lw_g (lw_at lw_m1 7 rfl) rfl
theorem q352 : (Jvm.Cond.selects "RuleListsModel" ({ cls := "java/lang/Object", name := "getClass", desc := "()Ljava/lang/Class;" } : Jvm.MethodName) ({ cls := "java/lang/Object", name := "getClass", desc := "()Ljava/lang/Class;" } : Jvm.MethodName)) ∈ lw_all := lw_g (lw_at lw_m2 60 rfl) rfl
theorem q1515 : (Jvm.Cond.instantiable "RuleListsModel" (13 : Nat)) ∈ lw_all := lw_g (lw_at lw_m7 23 rfl) rfl
theorem q1517 : (Jvm.Cond.instanceMethod ({ cls := "RuleListsModel", name := "<init>", desc := "()V" } : Jvm.MethodName)) ∈ lw_all := lw_g (lw_at lw_m7 25 rfl) rfl
theorem q1518 : (Jvm.Cond.code ({ cls := "RuleListsModel", name := "<init>", desc := "()V" } : Jvm.MethodName) prog_18_method_1_code (1 : Nat) (Option.none : Option Jvm.ClassFile.FieldType)) ∈ lw_all := lw_g (lw_at lw_m7 26 rfl) rfl
theorem q1519 : (Jvm.Cond.methodLink "RuleListsModel" (1 : Nat) ({ cls := "java/lang/Object", name := "<init>", desc := "()V" } : Jvm.MethodName)) ∈ lw_all := lw_g (lw_at lw_m7 27 rfl) rfl
theorem q1520 : (Jvm.Cond.methodLink "RuleListsModel" (35 : Nat) ({ cls := "RuleListsModel", name := "clear", desc := "([I)V" } : Jvm.MethodName)) ∈ lw_all := lw_g (lw_at lw_m7 28 rfl) rfl
theorem q1521 : (Jvm.Cond.static ({ cls := "RuleListsModel", name := "clear", desc := "([I)V" } : Jvm.MethodName)) ∈ lw_all := lw_g (lw_at lw_m7 29 rfl) rfl
theorem q1522 : (Jvm.Cond.code ({ cls := "RuleListsModel", name := "clear", desc := "([I)V" } : Jvm.MethodName) prog_18_method_6_code (2 : Nat) (Option.none : Option Jvm.ClassFile.FieldType)) ∈ lw_all := lw_g (lw_at lw_m7 30 rfl) rfl
theorem q1523 : (Jvm.Cond.fieldLink "RuleListsModel" (39 : Nat) "RuleListsModel" "refusal" "I") ∈ lw_all := lw_g (lw_at lw_m7 31 rfl) rfl
theorem q1524 : (Jvm.Cond.fieldLink "RuleListsModel" (7 : Nat) "RuleListsModel" "text" "[I") ∈ lw_all := lw_g (lw_at lw_m7 32 rfl) rfl
theorem q1525 : (Jvm.Cond.fieldLink "RuleListsModel" (92 : Nat) "RuleListsModel" "size" "I") ∈ lw_all := lw_g (lw_at lw_m7 33 rfl) rfl
theorem q1526 : (Jvm.Cond.fieldLink "RuleListsModel" (13 : Nat) "RuleListsModel" "now" "[I") ∈ lw_all := lw_g (lw_at lw_m7 34 rfl) rfl
theorem q1527 : (Jvm.Cond.fieldLink "RuleListsModel" (16 : Nat) "RuleListsModel" "trial" "[I") ∈ lw_all := lw_g (lw_at lw_m7 35 rfl) rfl
theorem q1528 : (Jvm.Cond.fieldLink "RuleListsModel" (19 : Nat) "RuleListsModel" "diary" "[I") ∈ lw_all := lw_g (lw_at lw_m7 36 rfl) rfl
theorem q1529 : (Jvm.Cond.fieldLink "RuleListsModel" (180 : Nat) "RuleListsModel" "acts" "I") ∈ lw_all := lw_g (lw_at lw_m7 37 rfl) rfl
theorem q1530 : (Jvm.Cond.fieldLink "RuleListsModel" (22 : Nat) "RuleListsModel" "kept" "[I") ∈ lw_all := lw_g (lw_at lw_m7 38 rfl) rfl
theorem q1531 : (Jvm.Cond.fieldLink "RuleListsModel" (25 : Nat) "RuleListsModel" "isKept" "[Z") ∈ lw_all := lw_g (lw_at lw_m7 39 rfl) rfl
theorem q1532 : (Jvm.Cond.fieldLink "RuleListsModel" (29 : Nat) "RuleListsModel" "has" "[Z") ∈ lw_all := lw_g (lw_at lw_m7 40 rfl) rfl
theorem q1533 : (Jvm.Cond.fieldLink "RuleListsModel" (32 : Nat) "RuleListsModel" "crossed" "[Z") ∈ lw_all := lw_g (lw_at lw_m7 41 rfl) rfl
theorem q1534 : (Jvm.Cond.fieldLink "RuleListsModel" (99 : Nat) "RuleListsModel" "spot" "I") ∈ lw_all := lw_g (lw_at lw_m7 42 rfl) rfl
theorem q1535 : (Jvm.Cond.fieldLink "RuleListsModel" (104 : Nat) "RuleListsModel" "skipped" "I") ∈ lw_all := lw_g (lw_at lw_m7 43 rfl) rfl
theorem q1536 : (Jvm.Cond.lays "RuleListsModel" "RuleListsModel" "refusal" "I") ∈ lw_all := lw_g (lw_at lw_m7 44 rfl) rfl
theorem q1537 : (Jvm.Cond.soleField "RuleListsModel" "refusal") ∈ lw_all := lw_g (lw_at lw_m7 45 rfl) rfl
theorem q1538 : (Jvm.Cond.laysFinal "RuleListsModel" "RuleListsModel" "text" "[I") ∈ lw_all := lw_g (lw_at lw_m7 46 rfl) rfl
theorem q1539 : (Jvm.Cond.soleField "RuleListsModel" "text") ∈ lw_all := lw_g (lw_at lw_m7 47 rfl) rfl
theorem q1540 : (Jvm.Cond.lays "RuleListsModel" "RuleListsModel" "size" "I") ∈ lw_all := lw_g (lw_at lw_m7 48 rfl) rfl
theorem q1541 : (Jvm.Cond.soleField "RuleListsModel" "size") ∈ lw_all := lw_g (lw_at lw_m7 49 rfl) rfl
theorem q1542 : (Jvm.Cond.laysFinal "RuleListsModel" "RuleListsModel" "now" "[I") ∈ lw_all := lw_g (lw_at lw_m7 50 rfl) rfl
theorem q1543 : (Jvm.Cond.soleField "RuleListsModel" "now") ∈ lw_all := lw_g (lw_at lw_m7 51 rfl) rfl
theorem q1544 : (Jvm.Cond.laysFinal "RuleListsModel" "RuleListsModel" "trial" "[I") ∈ lw_all := lw_g (lw_at lw_m7 52 rfl) rfl
theorem q1545 : (Jvm.Cond.soleField "RuleListsModel" "trial") ∈ lw_all := lw_g (lw_at lw_m7 53 rfl) rfl
theorem q1546 : (Jvm.Cond.laysFinal "RuleListsModel" "RuleListsModel" "diary" "[I") ∈ lw_all := lw_g (lw_at lw_m7 54 rfl) rfl
theorem q1547 : (Jvm.Cond.soleField "RuleListsModel" "diary") ∈ lw_all := lw_g (lw_at lw_m7 55 rfl) rfl
theorem q1548 : (Jvm.Cond.lays "RuleListsModel" "RuleListsModel" "acts" "I") ∈ lw_all := lw_g (lw_at lw_m7 56 rfl) rfl
theorem q1549 : (Jvm.Cond.soleField "RuleListsModel" "acts") ∈ lw_all := lw_g (lw_at lw_m7 57 rfl) rfl
theorem q1550 : (Jvm.Cond.laysFinal "RuleListsModel" "RuleListsModel" "kept" "[I") ∈ lw_all := lw_g (lw_at lw_m7 58 rfl) rfl
theorem q1551 : (Jvm.Cond.soleField "RuleListsModel" "kept") ∈ lw_all := lw_g (lw_at lw_m7 59 rfl) rfl
theorem q1552 : (Jvm.Cond.laysFinal "RuleListsModel" "RuleListsModel" "isKept" "[Z") ∈ lw_all := lw_g (lw_at lw_m7 60 rfl) rfl
theorem q1553 : (Jvm.Cond.soleField "RuleListsModel" "isKept") ∈ lw_all := lw_g (lw_at lw_m7 61 rfl) rfl
theorem q1554 : (Jvm.Cond.laysFinal "RuleListsModel" "RuleListsModel" "has" "[Z") ∈ lw_all := lw_g (lw_at lw_m7 62 rfl) rfl
theorem q1555 : (Jvm.Cond.soleField "RuleListsModel" "has") ∈ lw_all := lw_g (lw_at lw_m7 63 rfl) rfl
theorem q1556 : (Jvm.Cond.laysFinal "RuleListsModel" "RuleListsModel" "crossed" "[Z") ∈ lw_all := lw_g (lw_at lw_m7 64 rfl) rfl
theorem q1557 : (Jvm.Cond.soleField "RuleListsModel" "crossed") ∈ lw_all := lw_g (lw_at lw_m7 65 rfl) rfl
theorem q1558 : (Jvm.Cond.lays "RuleListsModel" "RuleListsModel" "spot" "I") ∈ lw_all := lw_g (lw_at lw_m7 66 rfl) rfl
theorem q1559 : (Jvm.Cond.soleField "RuleListsModel" "spot") ∈ lw_all := lw_g (lw_at lw_m7 67 rfl) rfl
theorem q1560 : (Jvm.Cond.lays "RuleListsModel" "RuleListsModel" "skipped" "I") ∈ lw_all := lw_g (lw_at lw_m7 68 rfl) rfl
theorem q1561 : (Jvm.Cond.soleField "RuleListsModel" "skipped") ∈ lw_all := lw_g (lw_at lw_m7 69 rfl) rfl
theorem q1562 : (Jvm.Cond.superclass "RuleListsModel" "java/lang/Object") ∈ lw_all := lw_g (lw_at lw_m7 70 rfl) rfl
theorem q1564 : (Jvm.Cond.instanceMethod ({ cls := "RuleListsModel", name := "thrown", desc := "()I" } : Jvm.MethodName)) ∈ lw_all := lw_g (lw_at lw_m7 72 rfl) rfl
theorem q1565 : (Jvm.Cond.selects "RuleListsModel" ({ cls := "RuleListsModel", name := "thrown", desc := "()I" } : Jvm.MethodName) ({ cls := "RuleListsModel", name := "thrown", desc := "()I" } : Jvm.MethodName)) ∈ lw_all := lw_g (lw_at lw_m7 73 rfl) rfl
theorem q1566 : (Jvm.Cond.code ({ cls := "RuleListsModel", name := "thrown", desc := "()I" } : Jvm.MethodName) prog_18_method_2_code (1 : Nat) (Option.some Jvm.ClassFile.FieldType.int)) ∈ lw_all := lw_g (lw_at lw_m7 74 rfl) rfl
theorem q1568 : (Jvm.Cond.instanceMethod ({ cls := "RuleListsModel", name := "append", desc := "(I)I" } : Jvm.MethodName)) ∈ lw_all := lw_g (lw_at lw_m7 76 rfl) rfl
theorem q1569 : (Jvm.Cond.selects "RuleListsModel" ({ cls := "RuleListsModel", name := "append", desc := "(I)I" } : Jvm.MethodName) ({ cls := "RuleListsModel", name := "append", desc := "(I)I" } : Jvm.MethodName)) ∈ lw_all := lw_g (lw_at lw_m7 77 rfl) rfl
theorem q1570 : (Jvm.Cond.code ({ cls := "RuleListsModel", name := "append", desc := "(I)I" } : Jvm.MethodName) prog_18_method_29_code (2 : Nat) (Option.some Jvm.ClassFile.FieldType.int)) ∈ lw_all := lw_g (lw_at lw_m7 78 rfl) rfl
theorem q1571 : (Jvm.Cond.constantLong "RuleListsModel" (90 : Nat) (255 : Int64)) ∈ lw_all := lw_g (lw_at lw_m7 79 rfl) rfl
theorem q1572 : (Jvm.Cond.methodLink "RuleListsModel" (43 : Nat) ({ cls := "RuleListsModel", name := "in", desc := "(JJJ)Z" } : Jvm.MethodName)) ∈ lw_all := lw_g (lw_at lw_m7 80 rfl) rfl
theorem q1573 : (Jvm.Cond.static ({ cls := "RuleListsModel", name := "in", desc := "(JJJ)Z" } : Jvm.MethodName)) ∈ lw_all := lw_g (lw_at lw_m7 81 rfl) rfl
theorem q1574 : (Jvm.Cond.code ({ cls := "RuleListsModel", name := "in", desc := "(JJJ)Z" } : Jvm.MethodName) prog_18_method_4_code (6 : Nat) (Option.some Jvm.ClassFile.FieldType.boolean)) ∈ lw_all := lw_g (lw_at lw_m7 82 rfl) rfl
theorem q1575 : (Jvm.Cond.methodLink "RuleListsModel" (95 : Nat) ({ cls := "RuleListsModel", name := "refused", desc := "(I)Z" } : Jvm.MethodName)) ∈ lw_all := lw_g (lw_at lw_m7 83 rfl) rfl
theorem q1576 : (Jvm.Cond.privateMethod ({ cls := "RuleListsModel", name := "refused", desc := "(I)Z" } : Jvm.MethodName)) ∈ lw_tbl := lw_at lw_m7 84 rfl
theorem q1577 : (Jvm.Cond.instanceMethod ({ cls := "RuleListsModel", name := "refused", desc := "(I)Z" } : Jvm.MethodName)) ∈ lw_all := lw_g (lw_at lw_m7 85 rfl) rfl
theorem q1578 : (Jvm.Cond.code ({ cls := "RuleListsModel", name := "refused", desc := "(I)Z" } : Jvm.MethodName) prog_18_method_3_code (2 : Nat) (Option.some Jvm.ClassFile.FieldType.boolean)) ∈ lw_all := lw_g (lw_at lw_m7 86 rfl) rfl
theorem q1580 : (Jvm.Cond.instanceMethod ({ cls := "RuleListsModel", name := "clearText", desc := "()I" } : Jvm.MethodName)) ∈ lw_all := lw_g (lw_at lw_m7 88 rfl) rfl
theorem q1581 : (Jvm.Cond.selects "RuleListsModel" ({ cls := "RuleListsModel", name := "clearText", desc := "()I" } : Jvm.MethodName) ({ cls := "RuleListsModel", name := "clearText", desc := "()I" } : Jvm.MethodName)) ∈ lw_all := lw_g (lw_at lw_m7 89 rfl) rfl
theorem q1582 : (Jvm.Cond.code ({ cls := "RuleListsModel", name := "clearText", desc := "()I" } : Jvm.MethodName) prog_18_method_30_code (2 : Nat) (Option.some Jvm.ClassFile.FieldType.int)) ∈ lw_all := lw_g (lw_at lw_m7 90 rfl) rfl
theorem q1584 : (Jvm.Cond.instanceMethod ({ cls := "RuleListsModel", name := "errorPosition", desc := "()I" } : Jvm.MethodName)) ∈ lw_all := lw_g (lw_at lw_m7 92 rfl) rfl
theorem q1585 : (Jvm.Cond.selects "RuleListsModel" ({ cls := "RuleListsModel", name := "errorPosition", desc := "()I" } : Jvm.MethodName) ({ cls := "RuleListsModel", name := "errorPosition", desc := "()I" } : Jvm.MethodName)) ∈ lw_all := lw_g (lw_at lw_m7 93 rfl) rfl
theorem q1586 : (Jvm.Cond.code ({ cls := "RuleListsModel", name := "errorPosition", desc := "()I" } : Jvm.MethodName) prog_18_method_41_code (1 : Nat) (Option.some Jvm.ClassFile.FieldType.int)) ∈ lw_all := lw_g (lw_at lw_m7 94 rfl) rfl
theorem q1587 : (Jvm.Cond.methodLink "RuleListsModel" (173 : Nat) ({ cls := "RuleListsModel", name := "readText", desc := "([I)I" } : Jvm.MethodName)) ∈ lw_all := lw_g (lw_at lw_m7 95 rfl) rfl
theorem q1588 : (Jvm.Cond.privateMethod ({ cls := "RuleListsModel", name := "readText", desc := "([I)I" } : Jvm.MethodName)) ∈ lw_tbl := lw_at lw_m7 96 rfl
theorem q1589 : (Jvm.Cond.instanceMethod ({ cls := "RuleListsModel", name := "readText", desc := "([I)I" } : Jvm.MethodName)) ∈ lw_all := lw_g (lw_at lw_m7 97 rfl) rfl
theorem q1590 : (Jvm.Cond.code ({ cls := "RuleListsModel", name := "readText", desc := "([I)I" } : Jvm.MethodName) prog_18_method_40_code (2 : Nat) (Option.some Jvm.ClassFile.FieldType.int)) ∈ lw_all := lw_g (lw_at lw_m7 98 rfl) rfl
theorem q1591 : (Jvm.Cond.methodLink "RuleListsModel" (170 : Nat) ({ cls := "RuleListsModel", name := "readCommand", desc := "([I)Z" } : Jvm.MethodName)) ∈ lw_all := lw_g (lw_at lw_m7 99 rfl) rfl
theorem q1592 : (Jvm.Cond.privateMethod ({ cls := "RuleListsModel", name := "readCommand", desc := "([I)Z" } : Jvm.MethodName)) ∈ lw_tbl := lw_at lw_m7 100 rfl
theorem q1593 : (Jvm.Cond.instanceMethod ({ cls := "RuleListsModel", name := "readCommand", desc := "([I)Z" } : Jvm.MethodName)) ∈ lw_all := lw_g (lw_at lw_m7 101 rfl) rfl
theorem q1594 : (Jvm.Cond.code ({ cls := "RuleListsModel", name := "readCommand", desc := "([I)Z" } : Jvm.MethodName) prog_18_method_39_code (4 : Nat) (Option.some Jvm.ClassFile.FieldType.boolean)) ∈ lw_all := lw_g (lw_at lw_m7 102 rfl) rfl
theorem q1595 : (Jvm.Cond.methodLink "RuleListsModel" (145 : Nat) ({ cls := "RuleListsModel", name := "readSteps", desc := "([I)Z" } : Jvm.MethodName)) ∈ lw_all := lw_g (lw_at lw_m7 103 rfl) rfl
theorem q1596 : (Jvm.Cond.privateMethod ({ cls := "RuleListsModel", name := "readSteps", desc := "([I)Z" } : Jvm.MethodName)) ∈ lw_tbl := lw_at lw_m7 104 rfl
theorem q1597 : (Jvm.Cond.instanceMethod ({ cls := "RuleListsModel", name := "readSteps", desc := "([I)Z" } : Jvm.MethodName)) ∈ lw_all := lw_g (lw_at lw_m7 105 rfl) rfl
theorem q1598 : (Jvm.Cond.code ({ cls := "RuleListsModel", name := "readSteps", desc := "([I)Z" } : Jvm.MethodName) prog_18_method_34_code (4 : Nat) (Option.some Jvm.ClassFile.FieldType.boolean)) ∈ lw_all := lw_g (lw_at lw_m7 106 rfl) rfl
theorem q1599 : (Jvm.Cond.methodLink "RuleListsModel" (107 : Nat) ({ cls := "RuleListsModel", name := "figures", desc := "(IIII)I" } : Jvm.MethodName)) ∈ lw_all := lw_g (lw_at lw_m7 107 rfl) rfl
theorem q1600 : (Jvm.Cond.privateMethod ({ cls := "RuleListsModel", name := "figures", desc := "(IIII)I" } : Jvm.MethodName)) ∈ lw_tbl := lw_at lw_m7 108 rfl
theorem q1601 : (Jvm.Cond.instanceMethod ({ cls := "RuleListsModel", name := "figures", desc := "(IIII)I" } : Jvm.MethodName)) ∈ lw_all := lw_g (lw_at lw_m7 109 rfl) rfl
theorem q1602 : (Jvm.Cond.code ({ cls := "RuleListsModel", name := "figures", desc := "(IIII)I" } : Jvm.MethodName) prog_18_method_31_code (9 : Nat) (Option.some Jvm.ClassFile.FieldType.int)) ∈ lw_all := lw_g (lw_at lw_m7 110 rfl) rfl
theorem q1603 : (Jvm.Cond.constantLong "RuleListsModel" (102 : Nat) (9 : Int64)) ∈ lw_all := lw_g (lw_at lw_m7 111 rfl) rfl
theorem q1604 : (Jvm.Cond.methodLink "RuleListsModel" (111 : Nat) ({ cls := "RuleListsModel", name := "hasRoom", desc := "([I)Z" } : Jvm.MethodName)) ∈ lw_all := lw_g (lw_at lw_m7 112 rfl) rfl
theorem q1605 : (Jvm.Cond.static ({ cls := "RuleListsModel", name := "hasRoom", desc := "([I)Z" } : Jvm.MethodName)) ∈ lw_all := lw_g (lw_at lw_m7 113 rfl) rfl
theorem q1606 : (Jvm.Cond.code ({ cls := "RuleListsModel", name := "hasRoom", desc := "([I)Z" } : Jvm.MethodName) prog_18_method_33_code (1 : Nat) (Option.some Jvm.ClassFile.FieldType.boolean)) ∈ lw_all := lw_g (lw_at lw_m7 114 rfl) rfl
theorem q1607 : (Jvm.Cond.methodLink "RuleListsModel" (115 : Nat) ({ cls := "RuleListsModel", name := "make", desc := "([IIIII)I" } : Jvm.MethodName)) ∈ lw_all := lw_g (lw_at lw_m7 115 rfl) rfl
theorem q1608 : (Jvm.Cond.static ({ cls := "RuleListsModel", name := "make", desc := "([IIIII)I" } : Jvm.MethodName)) ∈ lw_all := lw_g (lw_at lw_m7 116 rfl) rfl
theorem q1609 : (Jvm.Cond.code ({ cls := "RuleListsModel", name := "make", desc := "([IIIII)I" } : Jvm.MethodName) prog_18_method_21_code (6 : Nat) (Option.some Jvm.ClassFile.FieldType.int)) ∈ lw_all := lw_g (lw_at lw_m7 117 rfl) rfl
theorem q1610 : (Jvm.Cond.methodLink "RuleListsModel" (119 : Nat) ({ cls := "RuleListsModel", name := "done", desc := "(Z)Z" } : Jvm.MethodName)) ∈ lw_all := lw_g (lw_at lw_m7 118 rfl) rfl
theorem q1611 : (Jvm.Cond.privateMethod ({ cls := "RuleListsModel", name := "done", desc := "(Z)Z" } : Jvm.MethodName)) ∈ lw_tbl := lw_at lw_m7 119 rfl
theorem q1612 : (Jvm.Cond.instanceMethod ({ cls := "RuleListsModel", name := "done", desc := "(Z)Z" } : Jvm.MethodName)) ∈ lw_all := lw_g (lw_at lw_m7 120 rfl) rfl
theorem q1613 : (Jvm.Cond.code ({ cls := "RuleListsModel", name := "done", desc := "(Z)Z" } : Jvm.MethodName) prog_18_method_32_code (2 : Nat) (Option.some Jvm.ClassFile.FieldType.boolean)) ∈ lw_all := lw_g (lw_at lw_m7 121 rfl) rfl
theorem q1614 : (Jvm.Cond.methodLink "RuleListsModel" (148 : Nat) ({ cls := "RuleListsModel", name := "readScaled", desc := "([I)Z" } : Jvm.MethodName)) ∈ lw_all := lw_g (lw_at lw_m7 122 rfl) rfl
theorem q1615 : (Jvm.Cond.privateMethod ({ cls := "RuleListsModel", name := "readScaled", desc := "([I)Z" } : Jvm.MethodName)) ∈ lw_tbl := lw_at lw_m7 123 rfl
theorem q1616 : (Jvm.Cond.instanceMethod ({ cls := "RuleListsModel", name := "readScaled", desc := "([I)Z" } : Jvm.MethodName)) ∈ lw_all := lw_g (lw_at lw_m7 124 rfl) rfl
theorem q1617 : (Jvm.Cond.code ({ cls := "RuleListsModel", name := "readScaled", desc := "([I)Z" } : Jvm.MethodName) prog_18_method_35_code (5 : Nat) (Option.some Jvm.ClassFile.FieldType.boolean)) ∈ lw_all := lw_g (lw_at lw_m7 125 rfl) rfl
theorem q1618 : (Jvm.Cond.methodLink "RuleListsModel" (123 : Nat) ({ cls := "RuleListsModel", name := "isList", desc := "([II)Z" } : Jvm.MethodName)) ∈ lw_all := lw_g (lw_at lw_m7 126 rfl) rfl
theorem q1619 : (Jvm.Cond.static ({ cls := "RuleListsModel", name := "isList", desc := "([II)Z" } : Jvm.MethodName)) ∈ lw_all := lw_g (lw_at lw_m7 127 rfl) rfl
theorem q1620 : (Jvm.Cond.code ({ cls := "RuleListsModel", name := "isList", desc := "([II)Z" } : Jvm.MethodName) prog_18_method_8_code (2 : Nat) (Option.some Jvm.ClassFile.FieldType.boolean)) ∈ lw_all := lw_g (lw_at lw_m7 128 rfl) rfl
theorem q1621 : (Jvm.Cond.methodLink "RuleListsModel" (151 : Nat) ({ cls := "RuleListsModel", name := "readJoined", desc := "([II)Z" } : Jvm.MethodName)) ∈ lw_all := lw_g (lw_at lw_m7 129 rfl) rfl
theorem q1622 : (Jvm.Cond.privateMethod ({ cls := "RuleListsModel", name := "readJoined", desc := "([II)Z" } : Jvm.MethodName)) ∈ lw_tbl := lw_at lw_m7 130 rfl
theorem q1623 : (Jvm.Cond.instanceMethod ({ cls := "RuleListsModel", name := "readJoined", desc := "([II)Z" } : Jvm.MethodName)) ∈ lw_all := lw_g (lw_at lw_m7 131 rfl) rfl
theorem q1624 : (Jvm.Cond.code ({ cls := "RuleListsModel", name := "readJoined", desc := "([II)Z" } : Jvm.MethodName) prog_18_method_36_code (5 : Nat) (Option.some Jvm.ClassFile.FieldType.boolean)) ∈ lw_all := lw_g (lw_at lw_m7 132 rfl) rfl
theorem q1625 : (Jvm.Cond.methodLink "RuleListsModel" (154 : Nat) ({ cls := "RuleListsModel", name := "readOne", desc := "([II)Z" } : Jvm.MethodName)) ∈ lw_all := lw_g (lw_at lw_m7 133 rfl) rfl
theorem q1626 : (Jvm.Cond.privateMethod ({ cls := "RuleListsModel", name := "readOne", desc := "([II)Z" } : Jvm.MethodName)) ∈ lw_tbl := lw_at lw_m7 134 rfl
theorem q1627 : (Jvm.Cond.instanceMethod ({ cls := "RuleListsModel", name := "readOne", desc := "([II)Z" } : Jvm.MethodName)) ∈ lw_all := lw_g (lw_at lw_m7 135 rfl) rfl
theorem q1628 : (Jvm.Cond.code ({ cls := "RuleListsModel", name := "readOne", desc := "([II)Z" } : Jvm.MethodName) prog_18_method_37_code (5 : Nat) (Option.some Jvm.ClassFile.FieldType.boolean)) ∈ lw_all := lw_g (lw_at lw_m7 136 rfl) rfl
theorem q1629 : (Jvm.Cond.methodLink "RuleListsModel" (157 : Nat) ({ cls := "RuleListsModel", name := "begin", desc := "([II)I" } : Jvm.MethodName)) ∈ lw_all := lw_g (lw_at lw_m7 137 rfl) rfl
theorem q1630 : (Jvm.Cond.static ({ cls := "RuleListsModel", name := "begin", desc := "([II)I" } : Jvm.MethodName)) ∈ lw_all := lw_g (lw_at lw_m7 138 rfl) rfl
theorem q1631 : (Jvm.Cond.code ({ cls := "RuleListsModel", name := "begin", desc := "([II)I" } : Jvm.MethodName) prog_18_method_24_code (2 : Nat) (Option.some Jvm.ClassFile.FieldType.int)) ∈ lw_all := lw_g (lw_at lw_m7 139 rfl) rfl
theorem q1632 : (Jvm.Cond.methodLink "RuleListsModel" (160 : Nat) ({ cls := "RuleListsModel", name := "readReader", desc := "([II)Z" } : Jvm.MethodName)) ∈ lw_all := lw_g (lw_at lw_m7 140 rfl) rfl
theorem q1633 : (Jvm.Cond.privateMethod ({ cls := "RuleListsModel", name := "readReader", desc := "([II)Z" } : Jvm.MethodName)) ∈ lw_tbl := lw_at lw_m7 141 rfl
theorem q1634 : (Jvm.Cond.instanceMethod ({ cls := "RuleListsModel", name := "readReader", desc := "([II)Z" } : Jvm.MethodName)) ∈ lw_all := lw_g (lw_at lw_m7 142 rfl) rfl
theorem q1635 : (Jvm.Cond.code ({ cls := "RuleListsModel", name := "readReader", desc := "([II)Z" } : Jvm.MethodName) prog_18_method_38_code (5 : Nat) (Option.some Jvm.ClassFile.FieldType.boolean)) ∈ lw_all := lw_g (lw_at lw_m7 143 rfl) rfl
theorem q1636 : (Jvm.Cond.methodLink "RuleListsModel" (127 : Nat) ({ cls := "RuleListsModel", name := "finds", desc := "([I)V" } : Jvm.MethodName)) ∈ lw_all := lw_g (lw_at lw_m7 144 rfl) rfl
theorem q1637 : (Jvm.Cond.privateMethod ({ cls := "RuleListsModel", name := "finds", desc := "([I)V" } : Jvm.MethodName)) ∈ lw_tbl := lw_at lw_m7 145 rfl
theorem q1638 : (Jvm.Cond.instanceMethod ({ cls := "RuleListsModel", name := "finds", desc := "([I)V" } : Jvm.MethodName)) ∈ lw_all := lw_g (lw_at lw_m7 146 rfl) rfl
theorem q1639 : (Jvm.Cond.code ({ cls := "RuleListsModel", name := "finds", desc := "([I)V" } : Jvm.MethodName) prog_18_method_17_code (4 : Nat) (Option.none : Option Jvm.ClassFile.FieldType)) ∈ lw_all := lw_g (lw_at lw_m7 147 rfl) rfl
theorem q1640 : (Jvm.Cond.methodLink "RuleListsModel" (47 : Nat) ({ cls := "RuleListsModel", name := "of", desc := "([III)I" } : Jvm.MethodName)) ∈ lw_all := lw_g (lw_at lw_m7 148 rfl) rfl
theorem q1641 : (Jvm.Cond.static ({ cls := "RuleListsModel", name := "of", desc := "([III)I" } : Jvm.MethodName)) ∈ lw_all := lw_g (lw_at lw_m7 149 rfl) rfl
theorem q1642 : (Jvm.Cond.code ({ cls := "RuleListsModel", name := "of", desc := "([III)I" } : Jvm.MethodName) prog_18_method_7_code (3 : Nat) (Option.some Jvm.ClassFile.FieldType.int)) ∈ lw_all := lw_g (lw_at lw_m7 150 rfl) rfl
theorem q1643 : (Jvm.Cond.constantLong "RuleListsModel" (62 : Nat) (2 : Int64)) ∈ lw_all := lw_g (lw_at lw_m7 151 rfl) rfl
theorem q1644 : (Jvm.Cond.constantLong "RuleListsModel" (64 : Nat) (4 : Int64)) ∈ lw_all := lw_g (lw_at lw_m7 152 rfl) rfl
theorem q1645 : (Jvm.Cond.methodLink "RuleListsModel" (66 : Nat) ({ cls := "RuleListsModel", name := "joins", desc := "([II)V" } : Jvm.MethodName)) ∈ lw_all := lw_g (lw_at lw_m7 153 rfl) rfl
theorem q1646 : (Jvm.Cond.privateMethod ({ cls := "RuleListsModel", name := "joins", desc := "([II)V" } : Jvm.MethodName)) ∈ lw_tbl := lw_at lw_m7 154 rfl
theorem q1647 : (Jvm.Cond.instanceMethod ({ cls := "RuleListsModel", name := "joins", desc := "([II)V" } : Jvm.MethodName)) ∈ lw_all := lw_g (lw_at lw_m7 155 rfl) rfl
theorem q1648 : (Jvm.Cond.code ({ cls := "RuleListsModel", name := "joins", desc := "([II)V" } : Jvm.MethodName) prog_18_method_16_code (6 : Nat) (Option.none : Option Jvm.ClassFile.FieldType)) ∈ lw_all := lw_g (lw_at lw_m7 156 rfl) rfl
theorem q1649 : (Jvm.Cond.methodLink "RuleListsModel" (51 : Nat) ({ cls := "RuleListsModel", name := "member", desc := "(II)Z" } : Jvm.MethodName)) ∈ lw_all := lw_g (lw_at lw_m7 157 rfl) rfl
theorem q1650 : (Jvm.Cond.privateMethod ({ cls := "RuleListsModel", name := "member", desc := "(II)Z" } : Jvm.MethodName)) ∈ lw_tbl := lw_at lw_m7 158 rfl
theorem q1651 : (Jvm.Cond.instanceMethod ({ cls := "RuleListsModel", name := "member", desc := "(II)Z" } : Jvm.MethodName)) ∈ lw_all := lw_g (lw_at lw_m7 159 rfl) rfl
theorem q1652 : (Jvm.Cond.code ({ cls := "RuleListsModel", name := "member", desc := "(II)Z" } : Jvm.MethodName) prog_18_method_12_code (3 : Nat) (Option.some Jvm.ClassFile.FieldType.boolean)) ∈ lw_all := lw_g (lw_at lw_m7 160 rfl) rfl
theorem q1653 : (Jvm.Cond.methodLink "RuleListsModel" (70 : Nat) ({ cls := "RuleListsModel", name := "follows", desc := "([II)V" } : Jvm.MethodName)) ∈ lw_all := lw_g (lw_at lw_m7 161 rfl) rfl
theorem q1654 : (Jvm.Cond.privateMethod ({ cls := "RuleListsModel", name := "follows", desc := "([II)V" } : Jvm.MethodName)) ∈ lw_tbl := lw_at lw_m7 162 rfl
theorem q1655 : (Jvm.Cond.instanceMethod ({ cls := "RuleListsModel", name := "follows", desc := "([II)V" } : Jvm.MethodName)) ∈ lw_all := lw_g (lw_at lw_m7 163 rfl) rfl
theorem q1656 : (Jvm.Cond.code ({ cls := "RuleListsModel", name := "follows", desc := "([II)V" } : Jvm.MethodName) prog_18_method_15_code (7 : Nat) (Option.none : Option Jvm.ClassFile.FieldType)) ∈ lw_all := lw_g (lw_at lw_m7 164 rfl) rfl
theorem q1657 : (Jvm.Cond.methodLink "RuleListsModel" (55 : Nat) ({ cls := "RuleListsModel", name := "adds", desc := "(II)V" } : Jvm.MethodName)) ∈ lw_all := lw_g (lw_at lw_m7 165 rfl) rfl
theorem q1658 : (Jvm.Cond.privateMethod ({ cls := "RuleListsModel", name := "adds", desc := "(II)V" } : Jvm.MethodName)) ∈ lw_tbl := lw_at lw_m7 166 rfl
theorem q1659 : (Jvm.Cond.instanceMethod ({ cls := "RuleListsModel", name := "adds", desc := "(II)V" } : Jvm.MethodName)) ∈ lw_all := lw_g (lw_at lw_m7 167 rfl) rfl
theorem q1660 : (Jvm.Cond.code ({ cls := "RuleListsModel", name := "adds", desc := "(II)V" } : Jvm.MethodName) prog_18_method_13_code (3 : Nat) (Option.none : Option Jvm.ClassFile.FieldType)) ∈ lw_all := lw_g (lw_at lw_m7 168 rfl) rfl
theorem q1661 : (Jvm.Cond.methodLink "RuleListsModel" (59 : Nat) ({ cls := "RuleListsModel", name := "sieves", desc := "(II)V" } : Jvm.MethodName)) ∈ lw_all := lw_g (lw_at lw_m7 169 rfl) rfl
theorem q1662 : (Jvm.Cond.privateMethod ({ cls := "RuleListsModel", name := "sieves", desc := "(II)V" } : Jvm.MethodName)) ∈ lw_tbl := lw_at lw_m7 170 rfl
theorem q1663 : (Jvm.Cond.instanceMethod ({ cls := "RuleListsModel", name := "sieves", desc := "(II)V" } : Jvm.MethodName)) ∈ lw_all := lw_g (lw_at lw_m7 171 rfl) rfl
theorem q1664 : (Jvm.Cond.code ({ cls := "RuleListsModel", name := "sieves", desc := "(II)V" } : Jvm.MethodName) prog_18_method_14_code (4 : Nat) (Option.none : Option Jvm.ClassFile.FieldType)) ∈ lw_all := lw_g (lw_at lw_m7 172 rfl) rfl
theorem q1665 : (Jvm.Cond.methodLink "RuleListsModel" (130 : Nat) ({ cls := "RuleListsModel", name := "isReader", desc := "([II)Z" } : Jvm.MethodName)) ∈ lw_all := lw_g (lw_at lw_m7 173 rfl) rfl
theorem q1666 : (Jvm.Cond.static ({ cls := "RuleListsModel", name := "isReader", desc := "([II)Z" } : Jvm.MethodName)) ∈ lw_all := lw_g (lw_at lw_m7 174 rfl) rfl
theorem q1667 : (Jvm.Cond.code ({ cls := "RuleListsModel", name := "isReader", desc := "([II)Z" } : Jvm.MethodName) prog_18_method_9_code (2 : Nat) (Option.some Jvm.ClassFile.FieldType.boolean)) ∈ lw_all := lw_g (lw_at lw_m7 175 rfl) rfl
theorem q1668 : (Jvm.Cond.methodLink "RuleListsModel" (84 : Nat) ({ cls := "RuleListsModel", name := "next", desc := "([II)I" } : Jvm.MethodName)) ∈ lw_all := lw_g (lw_at lw_m7 176 rfl) rfl
theorem q1669 : (Jvm.Cond.privateMethod ({ cls := "RuleListsModel", name := "next", desc := "([II)I" } : Jvm.MethodName)) ∈ lw_tbl := lw_at lw_m7 177 rfl
theorem q1670 : (Jvm.Cond.instanceMethod ({ cls := "RuleListsModel", name := "next", desc := "([II)I" } : Jvm.MethodName)) ∈ lw_all := lw_g (lw_at lw_m7 178 rfl) rfl
theorem q1671 : (Jvm.Cond.code ({ cls := "RuleListsModel", name := "next", desc := "([II)I" } : Jvm.MethodName) prog_18_method_20_code (3 : Nat) (Option.some Jvm.ClassFile.FieldType.int)) ∈ lw_all := lw_g (lw_at lw_m7 179 rfl) rfl
theorem q1672 : (Jvm.Cond.methodLink "RuleListsModel" (73 : Nat) ({ cls := "RuleListsModel", name := "listOfReader", desc := "([II)I" } : Jvm.MethodName)) ∈ lw_all := lw_g (lw_at lw_m7 180 rfl) rfl
theorem q1673 : (Jvm.Cond.static ({ cls := "RuleListsModel", name := "listOfReader", desc := "([II)I" } : Jvm.MethodName)) ∈ lw_all := lw_g (lw_at lw_m7 181 rfl) rfl
theorem q1674 : (Jvm.Cond.code ({ cls := "RuleListsModel", name := "listOfReader", desc := "([II)I" } : Jvm.MethodName) prog_18_method_10_code (2 : Nat) (Option.some Jvm.ClassFile.FieldType.int)) ∈ lw_all := lw_g (lw_at lw_m7 182 rfl) rfl
theorem q1675 : (Jvm.Cond.methodLink "RuleListsModel" (77 : Nat) ({ cls := "RuleListsModel", name := "readBy", desc := "([II)I" } : Jvm.MethodName)) ∈ lw_all := lw_g (lw_at lw_m7 183 rfl) rfl
theorem q1676 : (Jvm.Cond.static ({ cls := "RuleListsModel", name := "readBy", desc := "([II)I" } : Jvm.MethodName)) ∈ lw_all := lw_g (lw_at lw_m7 184 rfl) rfl
theorem q1677 : (Jvm.Cond.code ({ cls := "RuleListsModel", name := "readBy", desc := "([II)I" } : Jvm.MethodName) prog_18_method_11_code (2 : Nat) (Option.some Jvm.ClassFile.FieldType.int)) ∈ lw_all := lw_g (lw_at lw_m7 185 rfl) rfl
theorem q1678 : (Jvm.Cond.methodLink "RuleListsModel" (80 : Nat) ({ cls := "RuleListsModel", name := "at", desc := "(II)I" } : Jvm.MethodName)) ∈ lw_all := lw_g (lw_at lw_m7 186 rfl) rfl
theorem q1679 : (Jvm.Cond.privateMethod ({ cls := "RuleListsModel", name := "at", desc := "(II)I" } : Jvm.MethodName)) ∈ lw_tbl := lw_at lw_m7 187 rfl
theorem q1680 : (Jvm.Cond.instanceMethod ({ cls := "RuleListsModel", name := "at", desc := "(II)I" } : Jvm.MethodName)) ∈ lw_all := lw_g (lw_at lw_m7 188 rfl) rfl
theorem q1681 : (Jvm.Cond.code ({ cls := "RuleListsModel", name := "at", desc := "(II)I" } : Jvm.MethodName) prog_18_method_19_code (5 : Nat) (Option.some Jvm.ClassFile.FieldType.int)) ∈ lw_all := lw_g (lw_at lw_m7 189 rfl) rfl
theorem q1682 : (Jvm.Cond.methodLink "RuleListsModel" (133 : Nat) ({ cls := "RuleListsModel", name := "readOn", desc := "([II)I" } : Jvm.MethodName)) ∈ lw_all := lw_g (lw_at lw_m7 190 rfl) rfl
theorem q1683 : (Jvm.Cond.privateMethod ({ cls := "RuleListsModel", name := "readOn", desc := "([II)I" } : Jvm.MethodName)) ∈ lw_tbl := lw_at lw_m7 191 rfl
theorem q1684 : (Jvm.Cond.instanceMethod ({ cls := "RuleListsModel", name := "readOn", desc := "([II)I" } : Jvm.MethodName)) ∈ lw_all := lw_g (lw_at lw_m7 192 rfl) rfl
theorem q1685 : (Jvm.Cond.code ({ cls := "RuleListsModel", name := "readOn", desc := "([II)I" } : Jvm.MethodName) prog_18_method_25_code (4 : Nat) (Option.some Jvm.ClassFile.FieldType.int)) ∈ lw_all := lw_g (lw_at lw_m7 193 rfl) rfl
theorem q1686 : (Jvm.Cond.methodLink "RuleListsModel" (136 : Nat) ({ cls := "RuleListsModel", name := "skipOn", desc := "([III)I" } : Jvm.MethodName)) ∈ lw_all := lw_g (lw_at lw_m7 194 rfl) rfl
theorem q1687 : (Jvm.Cond.privateMethod ({ cls := "RuleListsModel", name := "skipOn", desc := "([III)I" } : Jvm.MethodName)) ∈ lw_tbl := lw_at lw_m7 195 rfl
theorem q1688 : (Jvm.Cond.instanceMethod ({ cls := "RuleListsModel", name := "skipOn", desc := "([III)I" } : Jvm.MethodName)) ∈ lw_all := lw_g (lw_at lw_m7 196 rfl) rfl
theorem q1689 : (Jvm.Cond.code ({ cls := "RuleListsModel", name := "skipOn", desc := "([III)I" } : Jvm.MethodName) prog_18_method_26_code (6 : Nat) (Option.some Jvm.ClassFile.FieldType.int)) ∈ lw_all := lw_g (lw_at lw_m7 197 rfl) rfl
theorem q1690 : (Jvm.Cond.methodLink "RuleListsModel" (87 : Nat) ({ cls := "RuleListsModel", name := "countUpTo", desc := "(II)I" } : Jvm.MethodName)) ∈ lw_all := lw_g (lw_at lw_m7 198 rfl) rfl
theorem q1691 : (Jvm.Cond.privateMethod ({ cls := "RuleListsModel", name := "countUpTo", desc := "(II)I" } : Jvm.MethodName)) ∈ lw_tbl := lw_at lw_m7 199 rfl
theorem q1692 : (Jvm.Cond.instanceMethod ({ cls := "RuleListsModel", name := "countUpTo", desc := "(II)I" } : Jvm.MethodName)) ∈ lw_all := lw_g (lw_at lw_m7 200 rfl) rfl
theorem q1693 : (Jvm.Cond.code ({ cls := "RuleListsModel", name := "countUpTo", desc := "(II)I" } : Jvm.MethodName) prog_18_method_18_code (5 : Nat) (Option.some Jvm.ClassFile.FieldType.int)) ∈ lw_all := lw_g (lw_at lw_m7 201 rfl) rfl
theorem q1694 : (Jvm.Cond.methodLink "RuleListsModel" (139 : Nat) ({ cls := "RuleListsModel", name := "backOn", desc := "([II)I" } : Jvm.MethodName)) ∈ lw_all := lw_g (lw_at lw_m7 202 rfl) rfl
theorem q1695 : (Jvm.Cond.static ({ cls := "RuleListsModel", name := "backOn", desc := "([II)I" } : Jvm.MethodName)) ∈ lw_all := lw_g (lw_at lw_m7 203 rfl) rfl
theorem q1696 : (Jvm.Cond.code ({ cls := "RuleListsModel", name := "backOn", desc := "([II)I" } : Jvm.MethodName) prog_18_method_27_code (3 : Nat) (Option.some Jvm.ClassFile.FieldType.int)) ∈ lw_all := lw_g (lw_at lw_m7 204 rfl) rfl
theorem q1697 : (Jvm.Cond.methodLink "RuleListsModel" (142 : Nat) ({ cls := "RuleListsModel", name := "stopOn", desc := "([II)I" } : Jvm.MethodName)) ∈ lw_all := lw_g (lw_at lw_m7 205 rfl) rfl
theorem q1698 : (Jvm.Cond.static ({ cls := "RuleListsModel", name := "stopOn", desc := "([II)I" } : Jvm.MethodName)) ∈ lw_all := lw_g (lw_at lw_m7 206 rfl) rfl
theorem q1699 : (Jvm.Cond.code ({ cls := "RuleListsModel", name := "stopOn", desc := "([II)I" } : Jvm.MethodName) prog_18_method_28_code (3 : Nat) (Option.some Jvm.ClassFile.FieldType.int)) ∈ lw_all := lw_g (lw_at lw_m7 207 rfl) rfl
theorem q1700 : (Jvm.Cond.methodLink "RuleListsModel" (163 : Nat) ({ cls := "RuleListsModel", name := "reason", desc := "([I)I" } : Jvm.MethodName)) ∈ lw_all := lw_g (lw_at lw_m7 208 rfl) rfl
theorem q1701 : (Jvm.Cond.static ({ cls := "RuleListsModel", name := "reason", desc := "([I)I" } : Jvm.MethodName)) ∈ lw_all := lw_g (lw_at lw_m7 209 rfl) rfl
theorem q1702 : (Jvm.Cond.code ({ cls := "RuleListsModel", name := "reason", desc := "([I)I" } : Jvm.MethodName) prog_18_method_22_code (2 : Nat) (Option.some Jvm.ClassFile.FieldType.int)) ∈ lw_all := lw_g (lw_at lw_m7 210 rfl) rfl
theorem q1703 : (Jvm.Cond.methodLink "RuleListsModel" (167 : Nat) ({ cls := "RuleListsModel", name := "drop", desc := "([I)I" } : Jvm.MethodName)) ∈ lw_all := lw_g (lw_at lw_m7 211 rfl) rfl
theorem q1704 : (Jvm.Cond.static ({ cls := "RuleListsModel", name := "drop", desc := "([I)I" } : Jvm.MethodName)) ∈ lw_all := lw_g (lw_at lw_m7 212 rfl) rfl
theorem q1705 : (Jvm.Cond.code ({ cls := "RuleListsModel", name := "drop", desc := "([I)I" } : Jvm.MethodName) prog_18_method_23_code (1 : Nat) (Option.some Jvm.ClassFile.FieldType.int)) ∈ lw_all := lw_g (lw_at lw_m7 213 rfl) rfl
theorem q1707 : (Jvm.Cond.instanceMethod ({ cls := "RuleListsModel", name := "load", desc := "()I" } : Jvm.MethodName)) ∈ lw_all := lw_g (lw_at lw_m7 215 rfl) rfl
theorem q1708 : (Jvm.Cond.selects "RuleListsModel" ({ cls := "RuleListsModel", name := "load", desc := "()I" } : Jvm.MethodName) ({ cls := "RuleListsModel", name := "load", desc := "()I" } : Jvm.MethodName)) ∈ lw_all := lw_g (lw_at lw_m7 216 rfl) rfl
theorem q1709 : (Jvm.Cond.code ({ cls := "RuleListsModel", name := "load", desc := "()I" } : Jvm.MethodName) prog_18_method_42_code (1 : Nat) (Option.some Jvm.ClassFile.FieldType.int)) ∈ lw_all := lw_g (lw_at lw_m7 217 rfl) rfl
theorem q1710 : (Jvm.Cond.methodLink "RuleListsModel" (176 : Nat) ({ cls := "RuleListsModel", name := "copyState", desc := "([II[II)V" } : Jvm.MethodName)) ∈ lw_all := lw_g (lw_at lw_m7 218 rfl) rfl
theorem q1711 : (Jvm.Cond.static ({ cls := "RuleListsModel", name := "copyState", desc := "([II[II)V" } : Jvm.MethodName)) ∈ lw_all := lw_g (lw_at lw_m7 219 rfl) rfl
theorem q1712 : (Jvm.Cond.code ({ cls := "RuleListsModel", name := "copyState", desc := "([II[II)V" } : Jvm.MethodName) prog_18_method_5_code (5 : Nat) (Option.none : Option Jvm.ClassFile.FieldType)) ∈ lw_all := lw_g (lw_at lw_m7 220 rfl) rfl
theorem q1714 : (Jvm.Cond.instanceMethod ({ cls := "RuleListsModel", name := "makeSteps", desc := "(II)I" } : Jvm.MethodName)) ∈ lw_all := lw_g (lw_at lw_m7 222 rfl) rfl
theorem q1715 : (Jvm.Cond.selects "RuleListsModel" ({ cls := "RuleListsModel", name := "makeSteps", desc := "(II)I" } : Jvm.MethodName) ({ cls := "RuleListsModel", name := "makeSteps", desc := "(II)I" } : Jvm.MethodName)) ∈ lw_all := lw_g (lw_at lw_m7 223 rfl) rfl
theorem q1716 : (Jvm.Cond.code ({ cls := "RuleListsModel", name := "makeSteps", desc := "(II)I" } : Jvm.MethodName) prog_18_method_45_code (3 : Nat) (Option.some Jvm.ClassFile.FieldType.int)) ∈ lw_all := lw_g (lw_at lw_m7 224 rfl) rfl
theorem q1717 : (Jvm.Cond.constantLong "RuleListsModel" (186 : Nat) (999 : Int64)) ∈ lw_all := lw_g (lw_at lw_m7 225 rfl) rfl
theorem q1718 : (Jvm.Cond.constantLong "RuleListsModel" (188 : Nat) (99 : Int64)) ∈ lw_all := lw_g (lw_at lw_m7 226 rfl) rfl
theorem q1719 : (Jvm.Cond.methodLink "RuleListsModel" (190 : Nat) ({ cls := "RuleListsModel", name := "makes", desc := "(IIIIII)I" } : Jvm.MethodName)) ∈ lw_all := lw_g (lw_at lw_m7 227 rfl) rfl
theorem q1720 : (Jvm.Cond.privateMethod ({ cls := "RuleListsModel", name := "makes", desc := "(IIIIII)I" } : Jvm.MethodName)) ∈ lw_tbl := lw_at lw_m7 228 rfl
theorem q1721 : (Jvm.Cond.instanceMethod ({ cls := "RuleListsModel", name := "makes", desc := "(IIIIII)I" } : Jvm.MethodName)) ∈ lw_all := lw_g (lw_at lw_m7 229 rfl) rfl
theorem q1722 : (Jvm.Cond.code ({ cls := "RuleListsModel", name := "makes", desc := "(IIIIII)I" } : Jvm.MethodName) prog_18_method_44_code (7 : Nat) (Option.some Jvm.ClassFile.FieldType.int)) ∈ lw_all := lw_g (lw_at lw_m7 230 rfl) rfl
theorem q1723 : (Jvm.Cond.methodLink "RuleListsModel" (183 : Nat) ({ cls := "RuleListsModel", name := "remember", desc := "()V" } : Jvm.MethodName)) ∈ lw_all := lw_g (lw_at lw_m7 231 rfl) rfl
theorem q1724 : (Jvm.Cond.privateMethod ({ cls := "RuleListsModel", name := "remember", desc := "()V" } : Jvm.MethodName)) ∈ lw_tbl := lw_at lw_m7 232 rfl
theorem q1725 : (Jvm.Cond.instanceMethod ({ cls := "RuleListsModel", name := "remember", desc := "()V" } : Jvm.MethodName)) ∈ lw_all := lw_g (lw_at lw_m7 233 rfl) rfl
theorem q1726 : (Jvm.Cond.code ({ cls := "RuleListsModel", name := "remember", desc := "()V" } : Jvm.MethodName) prog_18_method_43_code (2 : Nat) (Option.none : Option Jvm.ClassFile.FieldType)) ∈ lw_all := lw_g (lw_at lw_m7 234 rfl) rfl
theorem q1728 : (Jvm.Cond.instanceMethod ({ cls := "RuleListsModel", name := "makeScaled", desc := "(III)I" } : Jvm.MethodName)) ∈ lw_all := lw_g (lw_at lw_m7 236 rfl) rfl
theorem q1729 : (Jvm.Cond.selects "RuleListsModel" ({ cls := "RuleListsModel", name := "makeScaled", desc := "(III)I" } : Jvm.MethodName) ({ cls := "RuleListsModel", name := "makeScaled", desc := "(III)I" } : Jvm.MethodName)) ∈ lw_all := lw_g (lw_at lw_m7 237 rfl) rfl
theorem q1730 : (Jvm.Cond.code ({ cls := "RuleListsModel", name := "makeScaled", desc := "(III)I" } : Jvm.MethodName) prog_18_method_46_code (4 : Nat) (Option.some Jvm.ClassFile.FieldType.int)) ∈ lw_all := lw_g (lw_at lw_m7 238 rfl) rfl
theorem q1732 : (Jvm.Cond.instanceMethod ({ cls := "RuleListsModel", name := "makeJoined", desc := "(II)I" } : Jvm.MethodName)) ∈ lw_all := lw_g (lw_at lw_m8 0 rfl) rfl
theorem q1733 : (Jvm.Cond.selects "RuleListsModel" ({ cls := "RuleListsModel", name := "makeJoined", desc := "(II)I" } : Jvm.MethodName) ({ cls := "RuleListsModel", name := "makeJoined", desc := "(II)I" } : Jvm.MethodName)) ∈ lw_all := lw_g (lw_at lw_m8 1 rfl) rfl
theorem q1734 : (Jvm.Cond.code ({ cls := "RuleListsModel", name := "makeJoined", desc := "(II)I" } : Jvm.MethodName) prog_18_method_48_code (3 : Nat) (Option.some Jvm.ClassFile.FieldType.int)) ∈ lw_all := lw_g (lw_at lw_m8 2 rfl) rfl
theorem q1735 : (Jvm.Cond.methodLink "RuleListsModel" (194 : Nat) ({ cls := "RuleListsModel", name := "neither", desc := "(II)I" } : Jvm.MethodName)) ∈ lw_all := lw_g (lw_at lw_m8 3 rfl) rfl
theorem q1736 : (Jvm.Cond.privateMethod ({ cls := "RuleListsModel", name := "neither", desc := "(II)I" } : Jvm.MethodName)) ∈ lw_tbl := lw_at lw_m8 4 rfl
theorem q1737 : (Jvm.Cond.instanceMethod ({ cls := "RuleListsModel", name := "neither", desc := "(II)I" } : Jvm.MethodName)) ∈ lw_all := lw_g (lw_at lw_m8 5 rfl) rfl
theorem q1738 : (Jvm.Cond.code ({ cls := "RuleListsModel", name := "neither", desc := "(II)I" } : Jvm.MethodName) prog_18_method_47_code (3 : Nat) (Option.some Jvm.ClassFile.FieldType.int)) ∈ lw_all := lw_g (lw_at lw_m8 6 rfl) rfl
theorem q1740 : (Jvm.Cond.instanceMethod ({ cls := "RuleListsModel", name := "makeShared", desc := "(II)I" } : Jvm.MethodName)) ∈ lw_all := lw_g (lw_at lw_m8 8 rfl) rfl
theorem q1741 : (Jvm.Cond.selects "RuleListsModel" ({ cls := "RuleListsModel", name := "makeShared", desc := "(II)I" } : Jvm.MethodName) ({ cls := "RuleListsModel", name := "makeShared", desc := "(II)I" } : Jvm.MethodName)) ∈ lw_all := lw_g (lw_at lw_m8 9 rfl) rfl
theorem q1742 : (Jvm.Cond.code ({ cls := "RuleListsModel", name := "makeShared", desc := "(II)I" } : Jvm.MethodName) prog_18_method_49_code (3 : Nat) (Option.some Jvm.ClassFile.FieldType.int)) ∈ lw_all := lw_g (lw_at lw_m8 10 rfl) rfl
theorem q1744 : (Jvm.Cond.instanceMethod ({ cls := "RuleListsModel", name := "makeWithout", desc := "(II)I" } : Jvm.MethodName)) ∈ lw_all := lw_g (lw_at lw_m8 12 rfl) rfl
theorem q1745 : (Jvm.Cond.selects "RuleListsModel" ({ cls := "RuleListsModel", name := "makeWithout", desc := "(II)I" } : Jvm.MethodName) ({ cls := "RuleListsModel", name := "makeWithout", desc := "(II)I" } : Jvm.MethodName)) ∈ lw_all := lw_g (lw_at lw_m8 13 rfl) rfl
theorem q1746 : (Jvm.Cond.code ({ cls := "RuleListsModel", name := "makeWithout", desc := "(II)I" } : Jvm.MethodName) prog_18_method_50_code (3 : Nat) (Option.some Jvm.ClassFile.FieldType.int)) ∈ lw_all := lw_g (lw_at lw_m8 14 rfl) rfl
theorem q1748 : (Jvm.Cond.instanceMethod ({ cls := "RuleListsModel", name := "makeSieved", desc := "(I)I" } : Jvm.MethodName)) ∈ lw_all := lw_g (lw_at lw_m8 16 rfl) rfl
theorem q1749 : (Jvm.Cond.selects "RuleListsModel" ({ cls := "RuleListsModel", name := "makeSieved", desc := "(I)I" } : Jvm.MethodName) ({ cls := "RuleListsModel", name := "makeSieved", desc := "(I)I" } : Jvm.MethodName)) ∈ lw_all := lw_g (lw_at lw_m8 17 rfl) rfl
theorem q1750 : (Jvm.Cond.code ({ cls := "RuleListsModel", name := "makeSieved", desc := "(I)I" } : Jvm.MethodName) prog_18_method_51_code (2 : Nat) (Option.some Jvm.ClassFile.FieldType.int)) ∈ lw_all := lw_g (lw_at lw_m8 18 rfl) rfl
theorem q1752 : (Jvm.Cond.instanceMethod ({ cls := "RuleListsModel", name := "makeThinned", desc := "(II)I" } : Jvm.MethodName)) ∈ lw_all := lw_g (lw_at lw_m8 20 rfl) rfl
theorem q1753 : (Jvm.Cond.selects "RuleListsModel" ({ cls := "RuleListsModel", name := "makeThinned", desc := "(II)I" } : Jvm.MethodName) ({ cls := "RuleListsModel", name := "makeThinned", desc := "(II)I" } : Jvm.MethodName)) ∈ lw_all := lw_g (lw_at lw_m8 21 rfl) rfl
theorem q1754 : (Jvm.Cond.code ({ cls := "RuleListsModel", name := "makeThinned", desc := "(II)I" } : Jvm.MethodName) prog_18_method_52_code (3 : Nat) (Option.some Jvm.ClassFile.FieldType.int)) ∈ lw_all := lw_g (lw_at lw_m8 22 rfl) rfl
theorem q1756 : (Jvm.Cond.instanceMethod ({ cls := "RuleListsModel", name := "makeAddedUp", desc := "(I)I" } : Jvm.MethodName)) ∈ lw_all := lw_g (lw_at lw_m8 24 rfl) rfl
theorem q1757 : (Jvm.Cond.selects "RuleListsModel" ({ cls := "RuleListsModel", name := "makeAddedUp", desc := "(I)I" } : Jvm.MethodName) ({ cls := "RuleListsModel", name := "makeAddedUp", desc := "(I)I" } : Jvm.MethodName)) ∈ lw_all := lw_g (lw_at lw_m8 25 rfl) rfl
theorem q1758 : (Jvm.Cond.code ({ cls := "RuleListsModel", name := "makeAddedUp", desc := "(I)I" } : Jvm.MethodName) prog_18_method_53_code (2 : Nat) (Option.some Jvm.ClassFile.FieldType.int)) ∈ lw_all := lw_g (lw_at lw_m8 26 rfl) rfl
theorem q1760 : (Jvm.Cond.instanceMethod ({ cls := "RuleListsModel", name := "dropLast", desc := "()I" } : Jvm.MethodName)) ∈ lw_all := lw_g (lw_at lw_m8 28 rfl) rfl
theorem q1761 : (Jvm.Cond.selects "RuleListsModel" ({ cls := "RuleListsModel", name := "dropLast", desc := "()I" } : Jvm.MethodName) ({ cls := "RuleListsModel", name := "dropLast", desc := "()I" } : Jvm.MethodName)) ∈ lw_all := lw_g (lw_at lw_m8 29 rfl) rfl
theorem q1762 : (Jvm.Cond.code ({ cls := "RuleListsModel", name := "dropLast", desc := "()I" } : Jvm.MethodName) prog_18_method_54_code (1 : Nat) (Option.some Jvm.ClassFile.FieldType.int)) ∈ lw_all := lw_g (lw_at lw_m8 30 rfl) rfl
theorem q1764 : (Jvm.Cond.instanceMethod ({ cls := "RuleListsModel", name := "beginReading", desc := "(I)I" } : Jvm.MethodName)) ∈ lw_all := lw_g (lw_at lw_m8 32 rfl) rfl
theorem q1765 : (Jvm.Cond.selects "RuleListsModel" ({ cls := "RuleListsModel", name := "beginReading", desc := "(I)I" } : Jvm.MethodName) ({ cls := "RuleListsModel", name := "beginReading", desc := "(I)I" } : Jvm.MethodName)) ∈ lw_all := lw_g (lw_at lw_m8 33 rfl) rfl
theorem q1766 : (Jvm.Cond.code ({ cls := "RuleListsModel", name := "beginReading", desc := "(I)I" } : Jvm.MethodName) prog_18_method_55_code (2 : Nat) (Option.some Jvm.ClassFile.FieldType.int)) ∈ lw_all := lw_g (lw_at lw_m8 34 rfl) rfl
theorem q1768 : (Jvm.Cond.instanceMethod ({ cls := "RuleListsModel", name := "read", desc := "(I)I" } : Jvm.MethodName)) ∈ lw_all := lw_g (lw_at lw_m8 36 rfl) rfl
theorem q1769 : (Jvm.Cond.selects "RuleListsModel" ({ cls := "RuleListsModel", name := "read", desc := "(I)I" } : Jvm.MethodName) ({ cls := "RuleListsModel", name := "read", desc := "(I)I" } : Jvm.MethodName)) ∈ lw_all := lw_g (lw_at lw_m8 37 rfl) rfl
theorem q1770 : (Jvm.Cond.code ({ cls := "RuleListsModel", name := "read", desc := "(I)I" } : Jvm.MethodName) prog_18_method_56_code (2 : Nat) (Option.some Jvm.ClassFile.FieldType.int)) ∈ lw_all := lw_g (lw_at lw_m8 38 rfl) rfl
theorem q1772 : (Jvm.Cond.instanceMethod ({ cls := "RuleListsModel", name := "skip", desc := "(II)I" } : Jvm.MethodName)) ∈ lw_all := lw_g (lw_at lw_m8 40 rfl) rfl
theorem q1773 : (Jvm.Cond.selects "RuleListsModel" ({ cls := "RuleListsModel", name := "skip", desc := "(II)I" } : Jvm.MethodName) ({ cls := "RuleListsModel", name := "skip", desc := "(II)I" } : Jvm.MethodName)) ∈ lw_all := lw_g (lw_at lw_m8 41 rfl) rfl
theorem q1774 : (Jvm.Cond.code ({ cls := "RuleListsModel", name := "skip", desc := "(II)I" } : Jvm.MethodName) prog_18_method_57_code (3 : Nat) (Option.some Jvm.ClassFile.FieldType.int)) ∈ lw_all := lw_g (lw_at lw_m8 42 rfl) rfl
theorem q1776 : (Jvm.Cond.instanceMethod ({ cls := "RuleListsModel", name := "goBack", desc := "(I)I" } : Jvm.MethodName)) ∈ lw_all := lw_g (lw_at lw_m8 44 rfl) rfl
theorem q1777 : (Jvm.Cond.selects "RuleListsModel" ({ cls := "RuleListsModel", name := "goBack", desc := "(I)I" } : Jvm.MethodName) ({ cls := "RuleListsModel", name := "goBack", desc := "(I)I" } : Jvm.MethodName)) ∈ lw_all := lw_g (lw_at lw_m8 45 rfl) rfl
theorem q1778 : (Jvm.Cond.code ({ cls := "RuleListsModel", name := "goBack", desc := "(I)I" } : Jvm.MethodName) prog_18_method_58_code (2 : Nat) (Option.some Jvm.ClassFile.FieldType.int)) ∈ lw_all := lw_g (lw_at lw_m8 46 rfl) rfl
theorem q1780 : (Jvm.Cond.instanceMethod ({ cls := "RuleListsModel", name := "stopReading", desc := "(I)I" } : Jvm.MethodName)) ∈ lw_all := lw_g (lw_at lw_m8 48 rfl) rfl
theorem q1781 : (Jvm.Cond.selects "RuleListsModel" ({ cls := "RuleListsModel", name := "stopReading", desc := "(I)I" } : Jvm.MethodName) ({ cls := "RuleListsModel", name := "stopReading", desc := "(I)I" } : Jvm.MethodName)) ∈ lw_all := lw_g (lw_at lw_m8 49 rfl) rfl
theorem q1782 : (Jvm.Cond.code ({ cls := "RuleListsModel", name := "stopReading", desc := "(I)I" } : Jvm.MethodName) prog_18_method_59_code (2 : Nat) (Option.some Jvm.ClassFile.FieldType.int)) ∈ lw_all := lw_g (lw_at lw_m8 50 rfl) rfl
theorem q1784 : (Jvm.Cond.instanceMethod ({ cls := "RuleListsModel", name := "undo", desc := "()I" } : Jvm.MethodName)) ∈ lw_all := lw_g (lw_at lw_m8 52 rfl) rfl
theorem q1785 : (Jvm.Cond.selects "RuleListsModel" ({ cls := "RuleListsModel", name := "undo", desc := "()I" } : Jvm.MethodName) ({ cls := "RuleListsModel", name := "undo", desc := "()I" } : Jvm.MethodName)) ∈ lw_all := lw_g (lw_at lw_m8 53 rfl) rfl
theorem q1786 : (Jvm.Cond.code ({ cls := "RuleListsModel", name := "undo", desc := "()I" } : Jvm.MethodName) prog_18_method_60_code (1 : Nat) (Option.some Jvm.ClassFile.FieldType.int)) ∈ lw_all := lw_g (lw_at lw_m8 54 rfl) rfl
theorem q1788 : (Jvm.Cond.instanceMethod ({ cls := "RuleListsModel", name := "lists", desc := "()I" } : Jvm.MethodName)) ∈ lw_all := lw_g (lw_at lw_m8 56 rfl) rfl
theorem q1789 : (Jvm.Cond.selects "RuleListsModel" ({ cls := "RuleListsModel", name := "lists", desc := "()I" } : Jvm.MethodName) ({ cls := "RuleListsModel", name := "lists", desc := "()I" } : Jvm.MethodName)) ∈ lw_all := lw_g (lw_at lw_m8 57 rfl) rfl
theorem q1790 : (Jvm.Cond.code ({ cls := "RuleListsModel", name := "lists", desc := "()I" } : Jvm.MethodName) prog_18_method_61_code (1 : Nat) (Option.some Jvm.ClassFile.FieldType.int)) ∈ lw_all := lw_g (lw_at lw_m8 58 rfl) rfl
theorem q1792 : (Jvm.Cond.instanceMethod ({ cls := "RuleListsModel", name := "isMember", desc := "(II)Z" } : Jvm.MethodName)) ∈ lw_all := lw_g (lw_at lw_m8 60 rfl) rfl
theorem q1793 : (Jvm.Cond.selects "RuleListsModel" ({ cls := "RuleListsModel", name := "isMember", desc := "(II)Z" } : Jvm.MethodName) ({ cls := "RuleListsModel", name := "isMember", desc := "(II)Z" } : Jvm.MethodName)) ∈ lw_all := lw_g (lw_at lw_m8 61 rfl) rfl
theorem q1794 : (Jvm.Cond.code ({ cls := "RuleListsModel", name := "isMember", desc := "(II)Z" } : Jvm.MethodName) prog_18_method_63_code (3 : Nat) (Option.some Jvm.ClassFile.FieldType.boolean)) ∈ lw_all := lw_g (lw_at lw_m8 62 rfl) rfl
theorem q1795 : (Jvm.Cond.methodLink "RuleListsModel" (197 : Nat) ({ cls := "RuleListsModel", name := "wrong", desc := "(II)Z" } : Jvm.MethodName)) ∈ lw_all := lw_g (lw_at lw_m8 63 rfl) rfl
theorem q1796 : (Jvm.Cond.privateMethod ({ cls := "RuleListsModel", name := "wrong", desc := "(II)Z" } : Jvm.MethodName)) ∈ lw_tbl := lw_at lw_m8 64 rfl
theorem q1797 : (Jvm.Cond.instanceMethod ({ cls := "RuleListsModel", name := "wrong", desc := "(II)Z" } : Jvm.MethodName)) ∈ lw_all := lw_g (lw_at lw_m8 65 rfl) rfl
theorem q1798 : (Jvm.Cond.code ({ cls := "RuleListsModel", name := "wrong", desc := "(II)Z" } : Jvm.MethodName) prog_18_method_62_code (4 : Nat) (Option.some Jvm.ClassFile.FieldType.boolean)) ∈ lw_all := lw_g (lw_at lw_m8 66 rfl) rfl
theorem q1800 : (Jvm.Cond.instanceMethod ({ cls := "RuleListsModel", name := "memberByReading", desc := "(II)I" } : Jvm.MethodName)) ∈ lw_all := lw_g (lw_at lw_m8 68 rfl) rfl
theorem q1801 : (Jvm.Cond.selects "RuleListsModel" ({ cls := "RuleListsModel", name := "memberByReading", desc := "(II)I" } : Jvm.MethodName) ({ cls := "RuleListsModel", name := "memberByReading", desc := "(II)I" } : Jvm.MethodName)) ∈ lw_all := lw_g (lw_at lw_m8 69 rfl) rfl
theorem q1802 : (Jvm.Cond.code ({ cls := "RuleListsModel", name := "memberByReading", desc := "(II)I" } : Jvm.MethodName) prog_18_method_65_code (3 : Nat) (Option.some Jvm.ClassFile.FieldType.int)) ∈ lw_all := lw_g (lw_at lw_m8 70 rfl) rfl
theorem q1803 : (Jvm.Cond.methodLink "RuleListsModel" (200 : Nat) ({ cls := "RuleListsModel", name := "memberAt", desc := "(II)I" } : Jvm.MethodName)) ∈ lw_all := lw_g (lw_at lw_m8 71 rfl) rfl
theorem q1804 : (Jvm.Cond.privateMethod ({ cls := "RuleListsModel", name := "memberAt", desc := "(II)I" } : Jvm.MethodName)) ∈ lw_tbl := lw_at lw_m8 72 rfl
theorem q1805 : (Jvm.Cond.instanceMethod ({ cls := "RuleListsModel", name := "memberAt", desc := "(II)I" } : Jvm.MethodName)) ∈ lw_all := lw_g (lw_at lw_m8 73 rfl) rfl
theorem q1806 : (Jvm.Cond.code ({ cls := "RuleListsModel", name := "memberAt", desc := "(II)I" } : Jvm.MethodName) prog_18_method_64_code (3 : Nat) (Option.some Jvm.ClassFile.FieldType.int)) ∈ lw_all := lw_g (lw_at lw_m8 74 rfl) rfl
theorem q1808 : (Jvm.Cond.instanceMethod ({ cls := "RuleListsModel", name := "memberByTesting", desc := "(II)I" } : Jvm.MethodName)) ∈ lw_all := lw_g (lw_at lw_m8 76 rfl) rfl
theorem q1809 : (Jvm.Cond.selects "RuleListsModel" ({ cls := "RuleListsModel", name := "memberByTesting", desc := "(II)I" } : Jvm.MethodName) ({ cls := "RuleListsModel", name := "memberByTesting", desc := "(II)I" } : Jvm.MethodName)) ∈ lw_all := lw_g (lw_at lw_m8 77 rfl) rfl
theorem q1810 : (Jvm.Cond.code ({ cls := "RuleListsModel", name := "memberByTesting", desc := "(II)I" } : Jvm.MethodName) prog_18_method_66_code (3 : Nat) (Option.some Jvm.ClassFile.FieldType.int)) ∈ lw_all := lw_g (lw_at lw_m8 78 rfl) rfl
theorem q1812 : (Jvm.Cond.instanceMethod ({ cls := "RuleListsModel", name := "placeOf", desc := "(II)I" } : Jvm.MethodName)) ∈ lw_all := lw_g (lw_at lw_m8 80 rfl) rfl
theorem q1813 : (Jvm.Cond.selects "RuleListsModel" ({ cls := "RuleListsModel", name := "placeOf", desc := "(II)I" } : Jvm.MethodName) ({ cls := "RuleListsModel", name := "placeOf", desc := "(II)I" } : Jvm.MethodName)) ∈ lw_all := lw_g (lw_at lw_m8 81 rfl) rfl
theorem q1814 : (Jvm.Cond.code ({ cls := "RuleListsModel", name := "placeOf", desc := "(II)I" } : Jvm.MethodName) prog_18_method_67_code (3 : Nat) (Option.some Jvm.ClassFile.FieldType.int)) ∈ lw_all := lw_g (lw_at lw_m8 82 rfl) rfl
theorem q1816 : (Jvm.Cond.instanceMethod ({ cls := "RuleListsModel", name := "membersUpTo", desc := "(II)I" } : Jvm.MethodName)) ∈ lw_all := lw_g (lw_at lw_m8 84 rfl) rfl
theorem q1817 : (Jvm.Cond.selects "RuleListsModel" ({ cls := "RuleListsModel", name := "membersUpTo", desc := "(II)I" } : Jvm.MethodName) ({ cls := "RuleListsModel", name := "membersUpTo", desc := "(II)I" } : Jvm.MethodName)) ∈ lw_all := lw_g (lw_at lw_m8 85 rfl) rfl
theorem q1818 : (Jvm.Cond.code ({ cls := "RuleListsModel", name := "membersUpTo", desc := "(II)I" } : Jvm.MethodName) prog_18_method_68_code (3 : Nat) (Option.some Jvm.ClassFile.FieldType.int)) ∈ lw_all := lw_g (lw_at lw_m8 86 rfl) rfl
theorem q1820 : (Jvm.Cond.instanceMethod ({ cls := "RuleListsModel", name := "lastMember", desc := "(I)I" } : Jvm.MethodName)) ∈ lw_all := lw_g (lw_at lw_m8 88 rfl) rfl
theorem q1821 : (Jvm.Cond.selects "RuleListsModel" ({ cls := "RuleListsModel", name := "lastMember", desc := "(I)I" } : Jvm.MethodName) ({ cls := "RuleListsModel", name := "lastMember", desc := "(I)I" } : Jvm.MethodName)) ∈ lw_all := lw_g (lw_at lw_m8 89 rfl) rfl
theorem q1822 : (Jvm.Cond.code ({ cls := "RuleListsModel", name := "lastMember", desc := "(I)I" } : Jvm.MethodName) prog_18_method_69_code (2 : Nat) (Option.some Jvm.ClassFile.FieldType.int)) ∈ lw_all := lw_g (lw_at lw_m8 90 rfl) rfl
theorem q1824 : (Jvm.Cond.instanceMethod ({ cls := "RuleListsModel", name := "firstShared", desc := "(II)I" } : Jvm.MethodName)) ∈ lw_all := lw_g (lw_at lw_m8 92 rfl) rfl
theorem q1825 : (Jvm.Cond.selects "RuleListsModel" ({ cls := "RuleListsModel", name := "firstShared", desc := "(II)I" } : Jvm.MethodName) ({ cls := "RuleListsModel", name := "firstShared", desc := "(II)I" } : Jvm.MethodName)) ∈ lw_all := lw_g (lw_at lw_m8 93 rfl) rfl
theorem q1826 : (Jvm.Cond.code ({ cls := "RuleListsModel", name := "firstShared", desc := "(II)I" } : Jvm.MethodName) prog_18_method_70_code (4 : Nat) (Option.some Jvm.ClassFile.FieldType.int)) ∈ lw_all := lw_g (lw_at lw_m8 94 rfl) rfl
theorem q1828 : (Jvm.Cond.instanceMethod ({ cls := "RuleListsModel", name := "widestGap", desc := "(I)I" } : Jvm.MethodName)) ∈ lw_all := lw_g (lw_at lw_m8 96 rfl) rfl
theorem q1829 : (Jvm.Cond.selects "RuleListsModel" ({ cls := "RuleListsModel", name := "widestGap", desc := "(I)I" } : Jvm.MethodName) ({ cls := "RuleListsModel", name := "widestGap", desc := "(I)I" } : Jvm.MethodName)) ∈ lw_all := lw_g (lw_at lw_m8 97 rfl) rfl
theorem q1830 : (Jvm.Cond.code ({ cls := "RuleListsModel", name := "widestGap", desc := "(I)I" } : Jvm.MethodName) prog_18_method_71_code (5 : Nat) (Option.some Jvm.ClassFile.FieldType.int)) ∈ lw_all := lw_g (lw_at lw_m8 98 rfl) rfl
theorem q1832 : (Jvm.Cond.instanceMethod ({ cls := "RuleListsModel", name := "readers", desc := "()I" } : Jvm.MethodName)) ∈ lw_all := lw_g (lw_at lw_m8 100 rfl) rfl
theorem q1833 : (Jvm.Cond.selects "RuleListsModel" ({ cls := "RuleListsModel", name := "readers", desc := "()I" } : Jvm.MethodName) ({ cls := "RuleListsModel", name := "readers", desc := "()I" } : Jvm.MethodName)) ∈ lw_all := lw_g (lw_at lw_m8 101 rfl) rfl
theorem q1834 : (Jvm.Cond.code ({ cls := "RuleListsModel", name := "readers", desc := "()I" } : Jvm.MethodName) prog_18_method_72_code (1 : Nat) (Option.some Jvm.ClassFile.FieldType.int)) ∈ lw_all := lw_g (lw_at lw_m8 102 rfl) rfl
theorem q1836 : (Jvm.Cond.instanceMethod ({ cls := "RuleListsModel", name := "listOf", desc := "(I)I" } : Jvm.MethodName)) ∈ lw_all := lw_g (lw_at lw_m8 104 rfl) rfl
theorem q1837 : (Jvm.Cond.selects "RuleListsModel" ({ cls := "RuleListsModel", name := "listOf", desc := "(I)I" } : Jvm.MethodName) ({ cls := "RuleListsModel", name := "listOf", desc := "(I)I" } : Jvm.MethodName)) ∈ lw_all := lw_g (lw_at lw_m8 105 rfl) rfl
theorem q1838 : (Jvm.Cond.code ({ cls := "RuleListsModel", name := "listOf", desc := "(I)I" } : Jvm.MethodName) prog_18_method_73_code (2 : Nat) (Option.some Jvm.ClassFile.FieldType.int)) ∈ lw_all := lw_g (lw_at lw_m8 106 rfl) rfl
theorem q1840 : (Jvm.Cond.instanceMethod ({ cls := "RuleListsModel", name := "readSoFar", desc := "(I)I" } : Jvm.MethodName)) ∈ lw_all := lw_g (lw_at lw_m8 108 rfl) rfl
theorem q1841 : (Jvm.Cond.selects "RuleListsModel" ({ cls := "RuleListsModel", name := "readSoFar", desc := "(I)I" } : Jvm.MethodName) ({ cls := "RuleListsModel", name := "readSoFar", desc := "(I)I" } : Jvm.MethodName)) ∈ lw_all := lw_g (lw_at lw_m8 109 rfl) rfl
theorem q1842 : (Jvm.Cond.code ({ cls := "RuleListsModel", name := "readSoFar", desc := "(I)I" } : Jvm.MethodName) prog_18_method_74_code (2 : Nat) (Option.some Jvm.ClassFile.FieldType.int)) ∈ lw_all := lw_g (lw_at lw_m8 110 rfl) rfl
theorem q1844 : (Jvm.Cond.instanceMethod ({ cls := "RuleListsModel", name := "nextOf", desc := "(I)I" } : Jvm.MethodName)) ∈ lw_all := lw_g (lw_at lw_m8 112 rfl) rfl
theorem q1845 : (Jvm.Cond.selects "RuleListsModel" ({ cls := "RuleListsModel", name := "nextOf", desc := "(I)I" } : Jvm.MethodName) ({ cls := "RuleListsModel", name := "nextOf", desc := "(I)I" } : Jvm.MethodName)) ∈ lw_all := lw_g (lw_at lw_m8 113 rfl) rfl
theorem q1846 : (Jvm.Cond.code ({ cls := "RuleListsModel", name := "nextOf", desc := "(I)I" } : Jvm.MethodName) prog_18_method_75_code (2 : Nat) (Option.some Jvm.ClassFile.FieldType.int)) ∈ lw_all := lw_g (lw_at lw_m8 114 rfl) rfl
theorem q1848 : (Jvm.Cond.instanceMethod ({ cls := "RuleListsModel", name := "readings", desc := "()I" } : Jvm.MethodName)) ∈ lw_all := lw_g (lw_at lw_m8 116 rfl) rfl
theorem q1849 : (Jvm.Cond.selects "RuleListsModel" ({ cls := "RuleListsModel", name := "readings", desc := "()I" } : Jvm.MethodName) ({ cls := "RuleListsModel", name := "readings", desc := "()I" } : Jvm.MethodName)) ∈ lw_all := lw_g (lw_at lw_m8 117 rfl) rfl
theorem q1850 : (Jvm.Cond.code ({ cls := "RuleListsModel", name := "readings", desc := "()I" } : Jvm.MethodName) prog_18_method_76_code (1 : Nat) (Option.some Jvm.ClassFile.FieldType.int)) ∈ lw_all := lw_g (lw_at lw_m8 118 rfl) rfl
theorem q1852 : (Jvm.Cond.instanceMethod ({ cls := "RuleListsModel", name := "leastNext", desc := "()I" } : Jvm.MethodName)) ∈ lw_all := lw_g (lw_at lw_m8 120 rfl) rfl
theorem q1853 : (Jvm.Cond.selects "RuleListsModel" ({ cls := "RuleListsModel", name := "leastNext", desc := "()I" } : Jvm.MethodName) ({ cls := "RuleListsModel", name := "leastNext", desc := "()I" } : Jvm.MethodName)) ∈ lw_all := lw_g (lw_at lw_m8 121 rfl) rfl
theorem q1854 : (Jvm.Cond.code ({ cls := "RuleListsModel", name := "leastNext", desc := "()I" } : Jvm.MethodName) prog_18_method_77_code (6 : Nat) (Option.some Jvm.ClassFile.FieldType.int)) ∈ lw_all := lw_g (lw_at lw_m8 122 rfl) rfl
theorem q1856 : (Jvm.Cond.instanceMethod ({ cls := "RuleListsModel", name := "firstOfPairByWalking", desc := "(I)I" } : Jvm.MethodName)) ∈ lw_all := lw_g (lw_at lw_m8 124 rfl) rfl
theorem q1857 : (Jvm.Cond.selects "RuleListsModel" ({ cls := "RuleListsModel", name := "firstOfPairByWalking", desc := "(I)I" } : Jvm.MethodName) ({ cls := "RuleListsModel", name := "firstOfPairByWalking", desc := "(I)I" } : Jvm.MethodName)) ∈ lw_all := lw_g (lw_at lw_m8 125 rfl) rfl
theorem q1858 : (Jvm.Cond.code ({ cls := "RuleListsModel", name := "firstOfPairByWalking", desc := "(I)I" } : Jvm.MethodName) prog_18_method_79_code (2 : Nat) (Option.some Jvm.ClassFile.FieldType.int)) ∈ lw_all := lw_g (lw_at lw_m8 126 rfl) rfl
theorem q1859 : (Jvm.Cond.methodLink "RuleListsModel" (205 : Nat) ({ cls := "RuleListsModel", name := "firstOfPair", desc := "(I)I" } : Jvm.MethodName)) ∈ lw_all := lw_g (lw_at lw_m8 127 rfl) rfl
theorem q1860 : (Jvm.Cond.privateMethod ({ cls := "RuleListsModel", name := "firstOfPair", desc := "(I)I" } : Jvm.MethodName)) ∈ lw_tbl := lw_at lw_m8 128 rfl
theorem q1861 : (Jvm.Cond.instanceMethod ({ cls := "RuleListsModel", name := "firstOfPair", desc := "(I)I" } : Jvm.MethodName)) ∈ lw_all := lw_g (lw_at lw_m8 129 rfl) rfl
theorem q1862 : (Jvm.Cond.code ({ cls := "RuleListsModel", name := "firstOfPair", desc := "(I)I" } : Jvm.MethodName) prog_18_method_78_code (4 : Nat) (Option.some Jvm.ClassFile.FieldType.int)) ∈ lw_all := lw_g (lw_at lw_m8 130 rfl) rfl
theorem q1863 : (Jvm.Cond.constantLong "RuleListsModel" (203 : Nat) (99999 : Int64)) ∈ lw_all := lw_g (lw_at lw_m8 131 rfl) rfl
theorem q1865 : (Jvm.Cond.instanceMethod ({ cls := "RuleListsModel", name := "firstOfPairByCounting", desc := "(I)I" } : Jvm.MethodName)) ∈ lw_all := lw_g (lw_at lw_m8 133 rfl) rfl
theorem q1866 : (Jvm.Cond.selects "RuleListsModel" ({ cls := "RuleListsModel", name := "firstOfPairByCounting", desc := "(I)I" } : Jvm.MethodName) ({ cls := "RuleListsModel", name := "firstOfPairByCounting", desc := "(I)I" } : Jvm.MethodName)) ∈ lw_all := lw_g (lw_at lw_m8 134 rfl) rfl
theorem q1867 : (Jvm.Cond.code ({ cls := "RuleListsModel", name := "firstOfPairByCounting", desc := "(I)I" } : Jvm.MethodName) prog_18_method_80_code (2 : Nat) (Option.some Jvm.ClassFile.FieldType.int)) ∈ lw_all := lw_g (lw_at lw_m8 135 rfl) rfl
theorem q1869 : (Jvm.Cond.instanceMethod ({ cls := "RuleListsModel", name := "numberOfPair", desc := "(II)I" } : Jvm.MethodName)) ∈ lw_all := lw_g (lw_at lw_m8 137 rfl) rfl
theorem q1870 : (Jvm.Cond.selects "RuleListsModel" ({ cls := "RuleListsModel", name := "numberOfPair", desc := "(II)I" } : Jvm.MethodName) ({ cls := "RuleListsModel", name := "numberOfPair", desc := "(II)I" } : Jvm.MethodName)) ∈ lw_all := lw_g (lw_at lw_m8 138 rfl) rfl
theorem q1871 : (Jvm.Cond.code ({ cls := "RuleListsModel", name := "numberOfPair", desc := "(II)I" } : Jvm.MethodName) prog_18_method_81_code (3 : Nat) (Option.some Jvm.ClassFile.FieldType.int)) ∈ lw_all := lw_g (lw_at lw_m8 139 rfl) rfl
theorem q1872 : (Jvm.Cond.constantLong "RuleListsModel" (209 : Nat) (200 : Int64)) ∈ lw_all := lw_g (lw_at lw_m8 140 rfl) rfl
theorem q1874 : (Jvm.Cond.instanceMethod ({ cls := "RuleListsModel", name := "whyNoDrop", desc := "()I" } : Jvm.MethodName)) ∈ lw_all := lw_g (lw_at lw_m8 142 rfl) rfl
theorem q1875 : (Jvm.Cond.selects "RuleListsModel" ({ cls := "RuleListsModel", name := "whyNoDrop", desc := "()I" } : Jvm.MethodName) ({ cls := "RuleListsModel", name := "whyNoDrop", desc := "()I" } : Jvm.MethodName)) ∈ lw_all := lw_g (lw_at lw_m8 143 rfl) rfl
theorem q1876 : (Jvm.Cond.code ({ cls := "RuleListsModel", name := "whyNoDrop", desc := "()I" } : Jvm.MethodName) prog_18_method_82_code (1 : Nat) (Option.some Jvm.ClassFile.FieldType.int)) ∈ lw_all := lw_g (lw_at lw_m8 144 rfl) rfl
theorem q1878 : (Jvm.Cond.instanceMethod ({ cls := "RuleListsModel", name := "membersIfJoined", desc := "(II)I" } : Jvm.MethodName)) ∈ lw_all := lw_g (lw_at lw_m8 146 rfl) rfl
theorem q1879 : (Jvm.Cond.selects "RuleListsModel" ({ cls := "RuleListsModel", name := "membersIfJoined", desc := "(II)I" } : Jvm.MethodName) ({ cls := "RuleListsModel", name := "membersIfJoined", desc := "(II)I" } : Jvm.MethodName)) ∈ lw_all := lw_g (lw_at lw_m8 147 rfl) rfl
theorem q1880 : (Jvm.Cond.code ({ cls := "RuleListsModel", name := "membersIfJoined", desc := "(II)I" } : Jvm.MethodName) prog_18_method_83_code (5 : Nat) (Option.some Jvm.ClassFile.FieldType.int)) ∈ lw_all := lw_g (lw_at lw_m8 148 rfl) rfl
theorem q1882 : (Jvm.Cond.instanceMethod ({ cls := "RuleListsModel", name := "skipsTo", desc := "(II)I" } : Jvm.MethodName)) ∈ lw_all := lw_g (lw_at lw_m8 150 rfl) rfl
theorem q1883 : (Jvm.Cond.selects "RuleListsModel" ({ cls := "RuleListsModel", name := "skipsTo", desc := "(II)I" } : Jvm.MethodName) ({ cls := "RuleListsModel", name := "skipsTo", desc := "(II)I" } : Jvm.MethodName)) ∈ lw_all := lw_g (lw_at lw_m8 151 rfl) rfl
theorem q1884 : (Jvm.Cond.code ({ cls := "RuleListsModel", name := "skipsTo", desc := "(II)I" } : Jvm.MethodName) prog_18_method_84_code (6 : Nat) (Option.some Jvm.ClassFile.FieldType.int)) ∈ lw_all := lw_g (lw_at lw_m8 152 rfl) rfl
theorem q1886 : (Jvm.Cond.instanceMethod ({ cls := "RuleListsModel", name := "simulate", desc := "(JI)I" } : Jvm.MethodName)) ∈ lw_all := lw_g (lw_at lw_m8 154 rfl) rfl
theorem q1887 : (Jvm.Cond.selects "RuleListsModel" ({ cls := "RuleListsModel", name := "simulate", desc := "(JI)I" } : Jvm.MethodName) ({ cls := "RuleListsModel", name := "simulate", desc := "(JI)I" } : Jvm.MethodName)) ∈ lw_all := lw_g (lw_at lw_m8 155 rfl) rfl
theorem q1888 : (Jvm.Cond.code ({ cls := "RuleListsModel", name := "simulate", desc := "(JI)I" } : Jvm.MethodName) prog_18_method_87_code (9 : Nat) (Option.some Jvm.ClassFile.FieldType.int)) ∈ lw_all := lw_g (lw_at lw_m8 156 rfl) rfl
theorem q1889 : (Jvm.Cond.constantLong "RuleListsModel" (215 : Nat) (60 : Int64)) ∈ lw_all := lw_g (lw_at lw_m8 157 rfl) rfl
theorem q1890 : (Jvm.Cond.constantLong "RuleListsModel" (217 : Nat) (6364136223846793005 : Int64)) ∈ lw_all := lw_g (lw_at lw_m8 158 rfl) rfl
theorem q1891 : (Jvm.Cond.constantLong "RuleListsModel" (219 : Nat) (1442695040888963407 : Int64)) ∈ lw_all := lw_g (lw_at lw_m8 159 rfl) rfl
theorem q1892 : (Jvm.Cond.methodLink "RuleListsModel" (221 : Nat) ({ cls := "RuleListsModel", name := "turnOf", desc := "([III)I" } : Jvm.MethodName)) ∈ lw_all := lw_g (lw_at lw_m8 160 rfl) rfl
theorem q1893 : (Jvm.Cond.privateMethod ({ cls := "RuleListsModel", name := "turnOf", desc := "([III)I" } : Jvm.MethodName)) ∈ lw_tbl := lw_at lw_m8 161 rfl
theorem q1894 : (Jvm.Cond.instanceMethod ({ cls := "RuleListsModel", name := "turnOf", desc := "([III)I" } : Jvm.MethodName)) ∈ lw_all := lw_g (lw_at lw_m8 162 rfl) rfl
theorem q1895 : (Jvm.Cond.code ({ cls := "RuleListsModel", name := "turnOf", desc := "([III)I" } : Jvm.MethodName) prog_18_method_86_code (4 : Nat) (Option.some Jvm.ClassFile.FieldType.int)) ∈ lw_all := lw_g (lw_at lw_m8 163 rfl) rfl
theorem q1896 : (Jvm.Cond.methodLink "RuleListsModel" (211 : Nat) ({ cls := "RuleListsModel", name := "turnList", desc := "([III)V" } : Jvm.MethodName)) ∈ lw_all := lw_g (lw_at lw_m8 164 rfl) rfl
theorem q1897 : (Jvm.Cond.static ({ cls := "RuleListsModel", name := "turnList", desc := "([III)V" } : Jvm.MethodName)) ∈ lw_all := lw_g (lw_at lw_m8 165 rfl) rfl
theorem q1898 : (Jvm.Cond.code ({ cls := "RuleListsModel", name := "turnList", desc := "([III)V" } : Jvm.MethodName) prog_18_method_85_code (5 : Nat) (Option.none : Option Jvm.ClassFile.FieldType)) ∈ lw_all := lw_g (lw_at lw_m8 166 rfl) rfl
theorem q1900 : (Jvm.Cond.instanceMethod ({ cls := "RuleListsModel", name := "save", desc := "(I)I" } : Jvm.MethodName)) ∈ lw_all := lw_g (lw_at lw_m8 168 rfl) rfl
theorem q1901 : (Jvm.Cond.selects "RuleListsModel" ({ cls := "RuleListsModel", name := "save", desc := "(I)I" } : Jvm.MethodName) ({ cls := "RuleListsModel", name := "save", desc := "(I)I" } : Jvm.MethodName)) ∈ lw_all := lw_g (lw_at lw_m8 169 rfl) rfl
theorem q1902 : (Jvm.Cond.code ({ cls := "RuleListsModel", name := "save", desc := "(I)I" } : Jvm.MethodName) prog_18_method_88_code (2 : Nat) (Option.some Jvm.ClassFile.FieldType.int)) ∈ lw_all := lw_g (lw_at lw_m8 170 rfl) rfl
theorem q1904 : (Jvm.Cond.instanceMethod ({ cls := "RuleListsModel", name := "restore", desc := "(I)I" } : Jvm.MethodName)) ∈ lw_all := lw_g (lw_at lw_m8 172 rfl) rfl
theorem q1905 : (Jvm.Cond.selects "RuleListsModel" ({ cls := "RuleListsModel", name := "restore", desc := "(I)I" } : Jvm.MethodName) ({ cls := "RuleListsModel", name := "restore", desc := "(I)I" } : Jvm.MethodName)) ∈ lw_all := lw_g (lw_at lw_m8 173 rfl) rfl
theorem q1906 : (Jvm.Cond.code ({ cls := "RuleListsModel", name := "restore", desc := "(I)I" } : Jvm.MethodName) prog_18_method_89_code (2 : Nat) (Option.some Jvm.ClassFile.FieldType.int)) ∈ lw_all := lw_g (lw_at lw_m8 174 rfl) rfl
theorem q1925 : (Jvm.Cond.castable "RuleListsModel" "java/lang/Object") ∈ lw_tbl := lw_at lw_m8 193 rfl
theorem in_X3 : ∀ w ∈ wsX30, w ∈ lw_all := lw_in wsX30 [1536, 1538, 1540, 1542, 1544, 1546, 1548, 1550, 1552, 1554, 1556, 1558, 1560] (by decide +kernel) (by decide +kernel)
