/-! RuleLists -/
set_option maxRecDepth 100000
def RX1 : String := "RuleLists"
def TX1 : u_T := fun k => match k with
  | 0 => ("RuleLists", "shelf", "LRuleLists$Shelf;", false)
  | 1 => ("RuleLists", "history", "Ljava/util/Deque;", true)
  | 2 => ("RuleLists", "slots", "[LRuleLists$Shelf;", true)
  | 3 => ("RuleLists", "text", "[C", true)
  | _ => ("RuleLists", "textLength", "I", false)
def tyX1 : Nat → FieldType := fun k => match k with
  | 0 => .object "RuleLists$Shelf"
  | 1 => .object "java/util/Deque"
  | 2 => .array (.object "RuleLists$Shelf")
  | 3 => .array .char
  | _ => .int
abbrev wsX10 : List Cond := u_ws RX1 TX1 5
theorem nmX1 : ∀ a, a < 5 → ∀ b, b < 5 → a ≠ b → (TX1 a).2.1 ≠ (TX1 b).2.1 := by decide +kernel
theorem tyX1_ok : ∀ k, k < 5 → parseFieldDescriptor (TX1 k).2.2.1 = some (tyX1 k) := by decide +kernel
abbrev cX1_init : ByteArray := prog_1_method_9_code
def yX1_init : MethodName := ⟨RX1, "<init>", "()V"⟩
def dkwX1_init_1 : List UInt8 := [181, 0, 36, 42, 5, 189, 0, 26, 181, 0, 40, 42, 16, 120, 188, 5, 181, 0, 44, 177]
abbrev dktX1_init_1 : List UInt8 := dkwX1_init_1 ++ []
def dkwX1_init_0 : List UInt8 := [42, 183, 0, 23, 42, 187, 0, 26, 89, 183, 0, 28, 181, 0, 29, 42, 187, 0, 33, 89, 183, 0, 35]
abbrev dktX1_init_0 : List UInt8 := dkwX1_init_0 ++ dktX1_init_1
theorem dksX1_init_0 : cX1_init.data.toList.drop 0 = dktX1_init_0 := by decide +kernel
theorem dksX1_init_1 : cX1_init.data.toList.drop 23 = dktX1_init_1 := dk_seg dksX1_init_0 23 rfl rfl
theorem dX1_init_0 : decode cX1_init 0 = .ok (.aload_n 0, 1) := dk_42 (dk_at dksX1_init_0 0 rfl rfl)
theorem dX1_init_1 : decode cX1_init 1 = .ok (.invokespecial 23, 3) := dk_183 0 23 (dk_at dksX1_init_0 1 rfl rfl)
theorem dX1_init_4 : decode cX1_init 4 = .ok (.aload_n 0, 1) := dk_42 (dk_at dksX1_init_0 4 rfl rfl)
theorem dX1_init_5 : decode cX1_init 5 = .ok (.new 26, 3) := dk_187 0 26 (dk_at dksX1_init_0 5 rfl rfl)
theorem dX1_init_8 : decode cX1_init 8 = .ok (.dup, 1) := dk_89 (dk_at dksX1_init_0 8 rfl rfl)
theorem dX1_init_9 : decode cX1_init 9 = .ok (.invokespecial 28, 3) := dk_183 0 28 (dk_at dksX1_init_0 9 rfl rfl)
theorem dX1_init_12 : decode cX1_init 12 = .ok (.putfield 29, 3) := dk_181 0 29 (dk_at dksX1_init_0 12 rfl rfl)
theorem dX1_init_15 : decode cX1_init 15 = .ok (.aload_n 0, 1) := dk_42 (dk_at dksX1_init_0 15 rfl rfl)
theorem dX1_init_16 : decode cX1_init 16 = .ok (.new 33, 3) := dk_187 0 33 (dk_at dksX1_init_0 16 rfl rfl)
theorem dX1_init_19 : decode cX1_init 19 = .ok (.dup, 1) := dk_89 (dk_at dksX1_init_0 19 rfl rfl)
theorem dX1_init_20 : decode cX1_init 20 = .ok (.invokespecial 35, 3) := dk_183 0 35 (dk_at dksX1_init_0 20 rfl rfl)
theorem dX1_init_23 : decode cX1_init 23 = .ok (.putfield 36, 3) := dk_181 0 36 (dk_at dksX1_init_1 0 rfl rfl)
theorem dX1_init_26 : decode cX1_init 26 = .ok (.aload_n 0, 1) := dk_42 (dk_at dksX1_init_1 3 rfl rfl)
theorem dX1_init_27 : decode cX1_init 27 = .ok (.iconst 2, 1) := dk_5 (dk_at dksX1_init_1 4 rfl rfl)
theorem dX1_init_28 : decode cX1_init 28 = .ok (.anewarray 26, 3) := dk_189 0 26 (dk_at dksX1_init_1 5 rfl rfl)
theorem dX1_init_31 : decode cX1_init 31 = .ok (.putfield 40, 3) := dk_181 0 40 (dk_at dksX1_init_1 8 rfl rfl)
theorem dX1_init_34 : decode cX1_init 34 = .ok (.aload_n 0, 1) := dk_42 (dk_at dksX1_init_1 11 rfl rfl)
theorem dX1_init_35 : decode cX1_init 35 = .ok (.bipush 120, 2) := dk_16 120 (dk_at dksX1_init_1 12 rfl rfl)
theorem dX1_init_37 : decode cX1_init 37 = .ok (.newarray .char, 2) := dk_188_5 (dk_at dksX1_init_1 14 rfl rfl)
theorem dX1_init_39 : decode cX1_init 39 = .ok (.putfield 44, 3) := dk_181 0 44 (dk_at dksX1_init_1 16 rfl rfl)
theorem dX1_init_42 : decode cX1_init 42 = .ok (.return_, 1) := dk_177 (dk_at dksX1_init_1 19 rfl rfl)
abbrev cX1_clearText : ByteArray := prog_1_method_14_code
def yX1_clearText : MethodName := ⟨RX1, "clearText", "()I"⟩
def dkwX1_clearText_0 : List UInt8 := [42, 180, 0, 86, 60, 42, 3, 181, 0, 86, 27, 172]
abbrev dktX1_clearText_0 : List UInt8 := dkwX1_clearText_0 ++ []
theorem dksX1_clearText_0 : cX1_clearText.data.toList.drop 0 = dktX1_clearText_0 := by decide +kernel
theorem dX1_clearText_0 : decode cX1_clearText 0 = .ok (.aload_n 0, 1) := dk_42 (dk_at dksX1_clearText_0 0 rfl rfl)
theorem dX1_clearText_1 : decode cX1_clearText 1 = .ok (.getfield 86, 3) := dk_180 0 86 (dk_at dksX1_clearText_0 1 rfl rfl)
theorem dX1_clearText_4 : decode cX1_clearText 4 = .ok (.istore_n 1, 1) := dk_60 (dk_at dksX1_clearText_0 4 rfl rfl)
theorem dX1_clearText_5 : decode cX1_clearText 5 = .ok (.aload_n 0, 1) := dk_42 (dk_at dksX1_clearText_0 5 rfl rfl)
theorem dX1_clearText_6 : decode cX1_clearText 6 = .ok (.iconst 0, 1) := dk_3 (dk_at dksX1_clearText_0 6 rfl rfl)
theorem dX1_clearText_7 : decode cX1_clearText 7 = .ok (.putfield 86, 3) := dk_181 0 86 (dk_at dksX1_clearText_0 7 rfl rfl)
theorem dX1_clearText_10 : decode cX1_clearText 10 = .ok (.iload_n 1, 1) := dk_27 (dk_at dksX1_clearText_0 10 rfl rfl)
theorem dX1_clearText_11 : decode cX1_clearText 11 = .ok (.ireturn, 1) := dk_172 (dk_at dksX1_clearText_0 11 rfl rfl)
abbrev cX1_errorPosition : ByteArray := prog_1_method_15_code
def yX1_errorPosition : MethodName := ⟨RX1, "errorPosition", "()I"⟩
def dkwX1_errorPosition_0 : List UInt8 := [187, 0, 93, 89, 42, 180, 0, 44, 42, 180, 0, 86, 183, 0, 95, 182, 0, 98, 172]
abbrev dktX1_errorPosition_0 : List UInt8 := dkwX1_errorPosition_0 ++ []
theorem dksX1_errorPosition_0 : cX1_errorPosition.data.toList.drop 0 = dktX1_errorPosition_0 := by decide +kernel
theorem dX1_errorPosition_0 : decode cX1_errorPosition 0 = .ok (.new 93, 3) := dk_187 0 93 (dk_at dksX1_errorPosition_0 0 rfl rfl)
theorem dX1_errorPosition_3 : decode cX1_errorPosition 3 = .ok (.dup, 1) := dk_89 (dk_at dksX1_errorPosition_0 3 rfl rfl)
theorem dX1_errorPosition_4 : decode cX1_errorPosition 4 = .ok (.aload_n 0, 1) := dk_42 (dk_at dksX1_errorPosition_0 4 rfl rfl)
theorem dX1_errorPosition_5 : decode cX1_errorPosition 5 = .ok (.getfield 44, 3) := dk_180 0 44 (dk_at dksX1_errorPosition_0 5 rfl rfl)
theorem dX1_errorPosition_8 : decode cX1_errorPosition 8 = .ok (.aload_n 0, 1) := dk_42 (dk_at dksX1_errorPosition_0 8 rfl rfl)
theorem dX1_errorPosition_9 : decode cX1_errorPosition 9 = .ok (.getfield 86, 3) := dk_180 0 86 (dk_at dksX1_errorPosition_0 9 rfl rfl)
theorem dX1_errorPosition_12 : decode cX1_errorPosition 12 = .ok (.invokespecial 95, 3) := dk_183 0 95 (dk_at dksX1_errorPosition_0 12 rfl rfl)
theorem dX1_errorPosition_15 : decode cX1_errorPosition 15 = .ok (.invokevirtual 98, 3) := dk_182 0 98 (dk_at dksX1_errorPosition_0 15 rfl rfl)
theorem dX1_errorPosition_18 : decode cX1_errorPosition 18 = .ok (.ireturn, 1) := dk_172 (dk_at dksX1_errorPosition_0 18 rfl rfl)
abbrev cX1_inRange : ByteArray := prog_1_method_1_code
def yX1_inRange : MethodName := ⟨RX1, "inRange", "(III)Z"⟩
def dkwX1_inRange_0 : List UInt8 := [26, 27, 161, 0, 12, 26, 28, 163, 0, 7, 4, 167, 0, 4, 3, 172]
abbrev dktX1_inRange_0 : List UInt8 := dkwX1_inRange_0 ++ []
theorem dksX1_inRange_0 : cX1_inRange.data.toList.drop 0 = dktX1_inRange_0 := by decide +kernel
theorem dX1_inRange_0 : decode cX1_inRange 0 = .ok (.iload_n 0, 1) := dk_26 (dk_at dksX1_inRange_0 0 rfl rfl)
theorem dX1_inRange_1 : decode cX1_inRange 1 = .ok (.iload_n 1, 1) := dk_27 (dk_at dksX1_inRange_0 1 rfl rfl)
theorem dX1_inRange_2 : decode cX1_inRange 2 = .ok (.if_icmp .lt 12, 3) := dk_161 0 12 (dk_at dksX1_inRange_0 2 rfl rfl)
theorem dX1_inRange_5 : decode cX1_inRange 5 = .ok (.iload_n 0, 1) := dk_26 (dk_at dksX1_inRange_0 5 rfl rfl)
theorem dX1_inRange_6 : decode cX1_inRange 6 = .ok (.iload_n 2, 1) := dk_28 (dk_at dksX1_inRange_0 6 rfl rfl)
theorem dX1_inRange_7 : decode cX1_inRange 7 = .ok (.if_icmp .gt 7, 3) := dk_163 0 7 (dk_at dksX1_inRange_0 7 rfl rfl)
theorem dX1_inRange_10 : decode cX1_inRange 10 = .ok (.iconst 1, 1) := dk_4 (dk_at dksX1_inRange_0 10 rfl rfl)
theorem dX1_inRange_11 : decode cX1_inRange 11 = .ok (.goto 4, 3) := dk_167 0 4 (dk_at dksX1_inRange_0 11 rfl rfl)
theorem dX1_inRange_14 : decode cX1_inRange 14 = .ok (.iconst 0, 1) := dk_3 (dk_at dksX1_inRange_0 14 rfl rfl)
theorem dX1_inRange_15 : decode cX1_inRange 15 = .ok (.ireturn, 1) := dk_172 (dk_at dksX1_inRange_0 15 rfl rfl)
abbrev cX1_lists : ByteArray := prog_1_method_33_code
def yX1_lists : MethodName := ⟨RX1, "lists", "()I"⟩
def dkwX1_lists_0 : List UInt8 := [42, 180, 0, 29, 180, 0, 207, 185, 0, 211, 1, 0, 172]
abbrev dktX1_lists_0 : List UInt8 := dkwX1_lists_0 ++ []
theorem dksX1_lists_0 : cX1_lists.data.toList.drop 0 = dktX1_lists_0 := by decide +kernel
theorem dX1_lists_0 : decode cX1_lists 0 = .ok (.aload_n 0, 1) := dk_42 (dk_at dksX1_lists_0 0 rfl rfl)
theorem dX1_lists_1 : decode cX1_lists 1 = .ok (.getfield 29, 3) := dk_180 0 29 (dk_at dksX1_lists_0 1 rfl rfl)
theorem dX1_lists_4 : decode cX1_lists 4 = .ok (.getfield 207, 3) := dk_180 0 207 (dk_at dksX1_lists_0 4 rfl rfl)
theorem dX1_lists_7 : decode cX1_lists 7 = .ok (.invokeinterface 211 1, 5) := by decide +kernel
theorem dX1_lists_12 : decode cX1_lists 12 = .ok (.ireturn, 1) := dk_172 (dk_at dksX1_lists_0 12 rfl rfl)
abbrev cX1_readers : ByteArray := prog_1_method_42_code
def yX1_readers : MethodName := ⟨RX1, "readers", "()I"⟩
def dkwX1_readers_0 : List UInt8 := [42, 180, 0, 29, 180, 0, 238, 185, 0, 211, 1, 0, 172]
abbrev dktX1_readers_0 : List UInt8 := dkwX1_readers_0 ++ []
theorem dksX1_readers_0 : cX1_readers.data.toList.drop 0 = dktX1_readers_0 := by decide +kernel
theorem dX1_readers_0 : decode cX1_readers 0 = .ok (.aload_n 0, 1) := dk_42 (dk_at dksX1_readers_0 0 rfl rfl)
theorem dX1_readers_1 : decode cX1_readers 1 = .ok (.getfield 29, 3) := dk_180 0 29 (dk_at dksX1_readers_0 1 rfl rfl)
theorem dX1_readers_4 : decode cX1_readers 4 = .ok (.getfield 238, 3) := dk_180 0 238 (dk_at dksX1_readers_0 4 rfl rfl)
theorem dX1_readers_7 : decode cX1_readers 7 = .ok (.invokeinterface 211 1, 5) := by decide +kernel
theorem dX1_readers_12 : decode cX1_readers 12 = .ok (.ireturn, 1) := dk_172 (dk_at dksX1_readers_0 12 rfl rfl)
abbrev cX1_readings : ByteArray := prog_1_method_46_code
def yX1_readings : MethodName := ⟨RX1, "readings", "()I"⟩
def dkwX1_readings_0 : List UInt8 := [42, 180, 0, 29, 180, 0, 249, 172]
abbrev dktX1_readings_0 : List UInt8 := dkwX1_readings_0 ++ []
theorem dksX1_readings_0 : cX1_readings.data.toList.drop 0 = dktX1_readings_0 := by decide +kernel
theorem dX1_readings_0 : decode cX1_readings 0 = .ok (.aload_n 0, 1) := dk_42 (dk_at dksX1_readings_0 0 rfl rfl)
theorem dX1_readings_1 : decode cX1_readings 1 = .ok (.getfield 29, 3) := dk_180 0 29 (dk_at dksX1_readings_0 1 rfl rfl)
theorem dX1_readings_4 : decode cX1_readings 4 = .ok (.getfield 249, 3) := dk_180 0 249 (dk_at dksX1_readings_0 4 rfl rfl)
theorem dX1_readings_7 : decode cX1_readings 7 = .ok (.ireturn, 1) := dk_172 (dk_at dksX1_readings_0 7 rfl rfl)
abbrev cX1_leastNext : ByteArray := prog_1_method_47_code
def yX1_leastNext : MethodName := ⟨RX1, "leastNext", "()I"⟩
def dkwX1_leastNext_0 : List UInt8 := [42, 180, 0, 29, 182, 0, 252, 172]
abbrev dktX1_leastNext_0 : List UInt8 := dkwX1_leastNext_0 ++ []
theorem dksX1_leastNext_0 : cX1_leastNext.data.toList.drop 0 = dktX1_leastNext_0 := by decide +kernel
theorem dX1_leastNext_0 : decode cX1_leastNext 0 = .ok (.aload_n 0, 1) := dk_42 (dk_at dksX1_leastNext_0 0 rfl rfl)
theorem dX1_leastNext_1 : decode cX1_leastNext 1 = .ok (.getfield 29, 3) := dk_180 0 29 (dk_at dksX1_leastNext_0 1 rfl rfl)
theorem dX1_leastNext_4 : decode cX1_leastNext 4 = .ok (.invokevirtual 252, 3) := dk_182 0 252 (dk_at dksX1_leastNext_0 4 rfl rfl)
theorem dX1_leastNext_7 : decode cX1_leastNext 7 = .ok (.ireturn, 1) := dk_172 (dk_at dksX1_leastNext_0 7 rfl rfl)
abbrev cX1_whyNoDrop : ByteArray := prog_1_method_51_code
def yX1_whyNoDrop : MethodName := ⟨RX1, "whyNoDrop", "()I"⟩
def dkwX1_whyNoDrop_0 : List UInt8 := [42, 180, 0, 29, 182, 0, 168, 172]
abbrev dktX1_whyNoDrop_0 : List UInt8 := dkwX1_whyNoDrop_0 ++ []
theorem dksX1_whyNoDrop_0 : cX1_whyNoDrop.data.toList.drop 0 = dktX1_whyNoDrop_0 := by decide +kernel
theorem dX1_whyNoDrop_0 : decode cX1_whyNoDrop 0 = .ok (.aload_n 0, 1) := dk_42 (dk_at dksX1_whyNoDrop_0 0 rfl rfl)
theorem dX1_whyNoDrop_1 : decode cX1_whyNoDrop 1 = .ok (.getfield 29, 3) := dk_180 0 29 (dk_at dksX1_whyNoDrop_0 1 rfl rfl)
theorem dX1_whyNoDrop_4 : decode cX1_whyNoDrop 4 = .ok (.invokevirtual 168, 3) := dk_182 0 168 (dk_at dksX1_whyNoDrop_0 4 rfl rfl)
theorem dX1_whyNoDrop_7 : decode cX1_whyNoDrop 7 = .ok (.ireturn, 1) := dk_172 (dk_at dksX1_whyNoDrop_0 7 rfl rfl)
abbrev cX1_append : ByteArray := prog_1_method_13_code
def yX1_append : MethodName := ⟨RX1, "append", "(I)I"⟩
def dkwX1_append_2 : List UInt8 := [181, 0, 86, 42, 180, 0, 86, 172]
abbrev dktX1_append_2 : List UInt8 := dkwX1_append_2 ++ []
def dkwX1_append_1 : List UInt8 := [3, 184, 0, 90, 42, 180, 0, 44, 42, 180, 0, 86, 27, 146, 85, 42, 89, 180, 0, 86, 4, 96]
abbrev dktX1_append_1 : List UInt8 := dkwX1_append_1 ++ dktX1_append_2
def dkwX1_append_0 : List UInt8 := [27, 3, 17, 0, 255, 184, 0, 15, 184, 0, 83, 42, 180, 0, 86, 16, 120, 162, 0, 7, 4, 167, 0, 4]
abbrev dktX1_append_0 : List UInt8 := dkwX1_append_0 ++ dktX1_append_1
theorem dksX1_append_0 : cX1_append.data.toList.drop 0 = dktX1_append_0 := by decide +kernel
theorem dksX1_append_1 : cX1_append.data.toList.drop 24 = dktX1_append_1 := dk_seg dksX1_append_0 24 rfl rfl
theorem dksX1_append_2 : cX1_append.data.toList.drop 46 = dktX1_append_2 := dk_seg dksX1_append_1 22 rfl rfl
theorem dX1_append_0 : decode cX1_append 0 = .ok (.iload_n 1, 1) := dk_27 (dk_at dksX1_append_0 0 rfl rfl)
theorem dX1_append_1 : decode cX1_append 1 = .ok (.iconst 0, 1) := dk_3 (dk_at dksX1_append_0 1 rfl rfl)
theorem dX1_append_2 : decode cX1_append 2 = .ok (.sipush 255, 3) := dk_17 0 255 (dk_at dksX1_append_0 2 rfl rfl)
theorem dX1_append_5 : decode cX1_append 5 = .ok (.invokestatic 15, 3) := dk_184 0 15 (dk_at dksX1_append_0 5 rfl rfl)
theorem dX1_append_8 : decode cX1_append 8 = .ok (.invokestatic 83, 3) := dk_184 0 83 (dk_at dksX1_append_0 8 rfl rfl)
theorem dX1_append_11 : decode cX1_append 11 = .ok (.aload_n 0, 1) := dk_42 (dk_at dksX1_append_0 11 rfl rfl)
theorem dX1_append_12 : decode cX1_append 12 = .ok (.getfield 86, 3) := dk_180 0 86 (dk_at dksX1_append_0 12 rfl rfl)
theorem dX1_append_15 : decode cX1_append 15 = .ok (.bipush 120, 2) := dk_16 120 (dk_at dksX1_append_0 15 rfl rfl)
theorem dX1_append_17 : decode cX1_append 17 = .ok (.if_icmp .ge 7, 3) := dk_162 0 7 (dk_at dksX1_append_0 17 rfl rfl)
theorem dX1_append_20 : decode cX1_append 20 = .ok (.iconst 1, 1) := dk_4 (dk_at dksX1_append_0 20 rfl rfl)
theorem dX1_append_21 : decode cX1_append 21 = .ok (.goto 4, 3) := dk_167 0 4 (dk_at dksX1_append_0 21 rfl rfl)
theorem dX1_append_24 : decode cX1_append 24 = .ok (.iconst 0, 1) := dk_3 (dk_at dksX1_append_1 0 rfl rfl)
theorem dX1_append_25 : decode cX1_append 25 = .ok (.invokestatic 90, 3) := dk_184 0 90 (dk_at dksX1_append_1 1 rfl rfl)
theorem dX1_append_28 : decode cX1_append 28 = .ok (.aload_n 0, 1) := dk_42 (dk_at dksX1_append_1 4 rfl rfl)
theorem dX1_append_29 : decode cX1_append 29 = .ok (.getfield 44, 3) := dk_180 0 44 (dk_at dksX1_append_1 5 rfl rfl)
theorem dX1_append_32 : decode cX1_append 32 = .ok (.aload_n 0, 1) := dk_42 (dk_at dksX1_append_1 8 rfl rfl)
theorem dX1_append_33 : decode cX1_append 33 = .ok (.getfield 86, 3) := dk_180 0 86 (dk_at dksX1_append_1 9 rfl rfl)
theorem dX1_append_36 : decode cX1_append 36 = .ok (.iload_n 1, 1) := dk_27 (dk_at dksX1_append_1 12 rfl rfl)
theorem dX1_append_37 : decode cX1_append 37 = .ok (.i2c, 1) := dk_146 (dk_at dksX1_append_1 13 rfl rfl)
theorem dX1_append_38 : decode cX1_append 38 = .ok (.castore, 1) := dk_85 (dk_at dksX1_append_1 14 rfl rfl)
theorem dX1_append_39 : decode cX1_append 39 = .ok (.aload_n 0, 1) := dk_42 (dk_at dksX1_append_1 15 rfl rfl)
theorem dX1_append_40 : decode cX1_append 40 = .ok (.dup, 1) := dk_89 (dk_at dksX1_append_1 16 rfl rfl)
theorem dX1_append_41 : decode cX1_append 41 = .ok (.getfield 86, 3) := dk_180 0 86 (dk_at dksX1_append_1 17 rfl rfl)
theorem dX1_append_44 : decode cX1_append 44 = .ok (.iconst 1, 1) := dk_4 (dk_at dksX1_append_1 20 rfl rfl)
theorem dX1_append_45 : decode cX1_append 45 = .ok (.iadd, 1) := dk_96 (dk_at dksX1_append_1 21 rfl rfl)
theorem dX1_append_46 : decode cX1_append 46 = .ok (.putfield 86, 3) := dk_181 0 86 (dk_at dksX1_append_2 0 rfl rfl)
theorem dX1_append_49 : decode cX1_append 49 = .ok (.aload_n 0, 1) := dk_42 (dk_at dksX1_append_2 3 rfl rfl)
theorem dX1_append_50 : decode cX1_append 50 = .ok (.getfield 86, 3) := dk_180 0 86 (dk_at dksX1_append_2 4 rfl rfl)
theorem dX1_append_53 : decode cX1_append 53 = .ok (.ireturn, 1) := dk_172 (dk_at dksX1_append_2 7 rfl rfl)
abbrev cX1_requireArgument : ByteArray := prog_1_method_3_code
def yX1_requireArgument : MethodName := ⟨RX1, "requireArgument", "(Z)V"⟩
def dkwX1_requireArgument_0 : List UInt8 := [26, 154, 0, 11, 187, 0, 7, 89, 183, 0, 9, 191, 177]
abbrev dktX1_requireArgument_0 : List UInt8 := dkwX1_requireArgument_0 ++ []
theorem dksX1_requireArgument_0 : cX1_requireArgument.data.toList.drop 0 = dktX1_requireArgument_0 := by decide +kernel
theorem dX1_requireArgument_0 : decode cX1_requireArgument 0 = .ok (.iload_n 0, 1) := dk_26 (dk_at dksX1_requireArgument_0 0 rfl rfl)
theorem dX1_requireArgument_1 : decode cX1_requireArgument 1 = .ok (.ifCond .ne 11, 3) := dk_154 0 11 (dk_at dksX1_requireArgument_0 1 rfl rfl)
theorem dX1_requireArgument_4 : decode cX1_requireArgument 4 = .ok (.new 7, 3) := dk_187 0 7 (dk_at dksX1_requireArgument_0 4 rfl rfl)
theorem dX1_requireArgument_7 : decode cX1_requireArgument 7 = .ok (.dup, 1) := dk_89 (dk_at dksX1_requireArgument_0 7 rfl rfl)
theorem dX1_requireArgument_8 : decode cX1_requireArgument 8 = .ok (.invokespecial 9, 3) := dk_183 0 9 (dk_at dksX1_requireArgument_0 8 rfl rfl)
theorem dX1_requireArgument_11 : decode cX1_requireArgument 11 = .ok (.athrow, 1) := dk_191 (dk_at dksX1_requireArgument_0 11 rfl rfl)
theorem dX1_requireArgument_12 : decode cX1_requireArgument 12 = .ok (.return_, 1) := dk_177 (dk_at dksX1_requireArgument_0 12 rfl rfl)
abbrev cX1_requireState : ByteArray := prog_1_method_4_code
def yX1_requireState : MethodName := ⟨RX1, "requireState", "(Z)V"⟩
def dkwX1_requireState_0 : List UInt8 := [26, 154, 0, 11, 187, 0, 10, 89, 183, 0, 12, 191, 177]
abbrev dktX1_requireState_0 : List UInt8 := dkwX1_requireState_0 ++ []
theorem dksX1_requireState_0 : cX1_requireState.data.toList.drop 0 = dktX1_requireState_0 := by decide +kernel
theorem dX1_requireState_0 : decode cX1_requireState 0 = .ok (.iload_n 0, 1) := dk_26 (dk_at dksX1_requireState_0 0 rfl rfl)
theorem dX1_requireState_1 : decode cX1_requireState 1 = .ok (.ifCond .ne 11, 3) := dk_154 0 11 (dk_at dksX1_requireState_0 1 rfl rfl)
theorem dX1_requireState_4 : decode cX1_requireState 4 = .ok (.new 10, 3) := dk_187 0 10 (dk_at dksX1_requireState_0 4 rfl rfl)
theorem dX1_requireState_7 : decode cX1_requireState 7 = .ok (.dup, 1) := dk_89 (dk_at dksX1_requireState_0 7 rfl rfl)
theorem dX1_requireState_8 : decode cX1_requireState 8 = .ok (.invokespecial 12, 3) := dk_183 0 12 (dk_at dksX1_requireState_0 8 rfl rfl)
theorem dX1_requireState_11 : decode cX1_requireState 11 = .ok (.athrow, 1) := dk_191 (dk_at dksX1_requireState_0 11 rfl rfl)
theorem dX1_requireState_12 : decode cX1_requireState 12 = .ok (.return_, 1) := dk_177 (dk_at dksX1_requireState_0 12 rfl rfl)
abbrev cX1_load : ByteArray := prog_1_method_16_code
def yX1_load : MethodName := ⟨RX1, "load", "()I"⟩
def dkwX1_load_2 : List UInt8 := [185, 0, 102, 1, 0, 42, 180, 0, 40, 3, 1, 83, 42, 180, 0, 40, 4, 1, 83, 43, 180, 0, 105, 172]
abbrev dktX1_load_2 : List UInt8 := dkwX1_load_2 ++ []
def dkwX1_load_1 : List UInt8 := [4, 167, 0, 4, 3, 184, 0, 90, 42, 43, 180, 0, 101, 181, 0, 29, 42, 180, 0, 36]
abbrev dktX1_load_1 : List UInt8 := dkwX1_load_1 ++ dktX1_load_2
def dkwX1_load_0 : List UInt8 := [187, 0, 93, 89, 42, 180, 0, 44, 42, 180, 0, 86, 183, 0, 95, 76, 43, 182, 0, 98, 2, 160, 0, 7]
abbrev dktX1_load_0 : List UInt8 := dkwX1_load_0 ++ dktX1_load_1
theorem dksX1_load_0 : cX1_load.data.toList.drop 0 = dktX1_load_0 := by decide +kernel
theorem dksX1_load_1 : cX1_load.data.toList.drop 24 = dktX1_load_1 := dk_seg dksX1_load_0 24 rfl rfl
theorem dksX1_load_2 : cX1_load.data.toList.drop 44 = dktX1_load_2 := dk_seg dksX1_load_1 20 rfl rfl
theorem dX1_load_0 : decode cX1_load 0 = .ok (.new 93, 3) := dk_187 0 93 (dk_at dksX1_load_0 0 rfl rfl)
theorem dX1_load_3 : decode cX1_load 3 = .ok (.dup, 1) := dk_89 (dk_at dksX1_load_0 3 rfl rfl)
theorem dX1_load_4 : decode cX1_load 4 = .ok (.aload_n 0, 1) := dk_42 (dk_at dksX1_load_0 4 rfl rfl)
theorem dX1_load_5 : decode cX1_load 5 = .ok (.getfield 44, 3) := dk_180 0 44 (dk_at dksX1_load_0 5 rfl rfl)
theorem dX1_load_8 : decode cX1_load 8 = .ok (.aload_n 0, 1) := dk_42 (dk_at dksX1_load_0 8 rfl rfl)
theorem dX1_load_9 : decode cX1_load 9 = .ok (.getfield 86, 3) := dk_180 0 86 (dk_at dksX1_load_0 9 rfl rfl)
theorem dX1_load_12 : decode cX1_load 12 = .ok (.invokespecial 95, 3) := dk_183 0 95 (dk_at dksX1_load_0 12 rfl rfl)
theorem dX1_load_15 : decode cX1_load 15 = .ok (.astore_n 1, 1) := dk_76 (dk_at dksX1_load_0 15 rfl rfl)
theorem dX1_load_16 : decode cX1_load 16 = .ok (.aload_n 1, 1) := dk_43 (dk_at dksX1_load_0 16 rfl rfl)
theorem dX1_load_17 : decode cX1_load 17 = .ok (.invokevirtual 98, 3) := dk_182 0 98 (dk_at dksX1_load_0 17 rfl rfl)
theorem dX1_load_20 : decode cX1_load 20 = .ok (.iconst (-1), 1) := dk_2 (dk_at dksX1_load_0 20 rfl rfl)
theorem dX1_load_21 : decode cX1_load 21 = .ok (.if_icmp .ne 7, 3) := dk_160 0 7 (dk_at dksX1_load_0 21 rfl rfl)
theorem dX1_load_24 : decode cX1_load 24 = .ok (.iconst 1, 1) := dk_4 (dk_at dksX1_load_1 0 rfl rfl)
theorem dX1_load_25 : decode cX1_load 25 = .ok (.goto 4, 3) := dk_167 0 4 (dk_at dksX1_load_1 1 rfl rfl)
theorem dX1_load_28 : decode cX1_load 28 = .ok (.iconst 0, 1) := dk_3 (dk_at dksX1_load_1 4 rfl rfl)
theorem dX1_load_29 : decode cX1_load 29 = .ok (.invokestatic 90, 3) := dk_184 0 90 (dk_at dksX1_load_1 5 rfl rfl)
theorem dX1_load_32 : decode cX1_load 32 = .ok (.aload_n 0, 1) := dk_42 (dk_at dksX1_load_1 8 rfl rfl)
theorem dX1_load_33 : decode cX1_load 33 = .ok (.aload_n 1, 1) := dk_43 (dk_at dksX1_load_1 9 rfl rfl)
theorem dX1_load_34 : decode cX1_load 34 = .ok (.getfield 101, 3) := dk_180 0 101 (dk_at dksX1_load_1 10 rfl rfl)
theorem dX1_load_37 : decode cX1_load 37 = .ok (.putfield 29, 3) := dk_181 0 29 (dk_at dksX1_load_1 13 rfl rfl)
theorem dX1_load_40 : decode cX1_load 40 = .ok (.aload_n 0, 1) := dk_42 (dk_at dksX1_load_1 16 rfl rfl)
theorem dX1_load_41 : decode cX1_load 41 = .ok (.getfield 36, 3) := dk_180 0 36 (dk_at dksX1_load_1 17 rfl rfl)
theorem dX1_load_44 : decode cX1_load 44 = .ok (.invokeinterface 102 1, 5) := by decide +kernel
theorem dX1_load_49 : decode cX1_load 49 = .ok (.aload_n 0, 1) := dk_42 (dk_at dksX1_load_2 5 rfl rfl)
theorem dX1_load_50 : decode cX1_load 50 = .ok (.getfield 40, 3) := dk_180 0 40 (dk_at dksX1_load_2 6 rfl rfl)
theorem dX1_load_53 : decode cX1_load 53 = .ok (.iconst 0, 1) := dk_3 (dk_at dksX1_load_2 9 rfl rfl)
theorem dX1_load_54 : decode cX1_load 54 = .ok (.aconst_null, 1) := dk_1 (dk_at dksX1_load_2 10 rfl rfl)
theorem dX1_load_55 : decode cX1_load 55 = .ok (.aastore, 1) := dk_83 (dk_at dksX1_load_2 11 rfl rfl)
theorem dX1_load_56 : decode cX1_load 56 = .ok (.aload_n 0, 1) := dk_42 (dk_at dksX1_load_2 12 rfl rfl)
theorem dX1_load_57 : decode cX1_load 57 = .ok (.getfield 40, 3) := dk_180 0 40 (dk_at dksX1_load_2 13 rfl rfl)
theorem dX1_load_60 : decode cX1_load 60 = .ok (.iconst 1, 1) := dk_4 (dk_at dksX1_load_2 16 rfl rfl)
theorem dX1_load_61 : decode cX1_load 61 = .ok (.aconst_null, 1) := dk_1 (dk_at dksX1_load_2 17 rfl rfl)
theorem dX1_load_62 : decode cX1_load 62 = .ok (.aastore, 1) := dk_83 (dk_at dksX1_load_2 18 rfl rfl)
theorem dX1_load_63 : decode cX1_load 63 = .ok (.aload_n 1, 1) := dk_43 (dk_at dksX1_load_2 19 rfl rfl)
theorem dX1_load_64 : decode cX1_load 64 = .ok (.getfield 105, 3) := dk_180 0 105 (dk_at dksX1_load_2 20 rfl rfl)
theorem dX1_load_67 : decode cX1_load 67 = .ok (.ireturn, 1) := dk_172 (dk_at dksX1_load_2 23 rfl rfl)
abbrev cX1_makeSteps : ByteArray := prog_1_method_18_code
def yX1_makeSteps : MethodName := ⟨RX1, "makeSteps", "(II)I"⟩
def dkwX1_makeSteps_1 : List UInt8 := [28, 183, 0, 126, 182, 0, 129, 172]
abbrev dktX1_makeSteps_1 : List UInt8 := dkwX1_makeSteps_1 ++ []
def dkwX1_makeSteps_0 : List UInt8 := [27, 28, 184, 0, 116, 184, 0, 83, 42, 180, 0, 29, 182, 0, 120, 184, 0, 90, 42, 187, 0, 124, 89, 27]
abbrev dktX1_makeSteps_0 : List UInt8 := dkwX1_makeSteps_0 ++ dktX1_makeSteps_1
theorem dksX1_makeSteps_0 : cX1_makeSteps.data.toList.drop 0 = dktX1_makeSteps_0 := by decide +kernel
theorem dksX1_makeSteps_1 : cX1_makeSteps.data.toList.drop 24 = dktX1_makeSteps_1 := dk_seg dksX1_makeSteps_0 24 rfl rfl
theorem dX1_makeSteps_0 : decode cX1_makeSteps 0 = .ok (.iload_n 1, 1) := dk_27 (dk_at dksX1_makeSteps_0 0 rfl rfl)
theorem dX1_makeSteps_1 : decode cX1_makeSteps 1 = .ok (.iload_n 2, 1) := dk_28 (dk_at dksX1_makeSteps_0 1 rfl rfl)
theorem dX1_makeSteps_2 : decode cX1_makeSteps 2 = .ok (.invokestatic 116, 3) := dk_184 0 116 (dk_at dksX1_makeSteps_0 2 rfl rfl)
theorem dX1_makeSteps_5 : decode cX1_makeSteps 5 = .ok (.invokestatic 83, 3) := dk_184 0 83 (dk_at dksX1_makeSteps_0 5 rfl rfl)
theorem dX1_makeSteps_8 : decode cX1_makeSteps 8 = .ok (.aload_n 0, 1) := dk_42 (dk_at dksX1_makeSteps_0 8 rfl rfl)
theorem dX1_makeSteps_9 : decode cX1_makeSteps 9 = .ok (.getfield 29, 3) := dk_180 0 29 (dk_at dksX1_makeSteps_0 9 rfl rfl)
theorem dX1_makeSteps_12 : decode cX1_makeSteps 12 = .ok (.invokevirtual 120, 3) := dk_182 0 120 (dk_at dksX1_makeSteps_0 12 rfl rfl)
theorem dX1_makeSteps_15 : decode cX1_makeSteps 15 = .ok (.invokestatic 90, 3) := dk_184 0 90 (dk_at dksX1_makeSteps_0 15 rfl rfl)
theorem dX1_makeSteps_18 : decode cX1_makeSteps 18 = .ok (.aload_n 0, 1) := dk_42 (dk_at dksX1_makeSteps_0 18 rfl rfl)
theorem dX1_makeSteps_19 : decode cX1_makeSteps 19 = .ok (.new 124, 3) := dk_187 0 124 (dk_at dksX1_makeSteps_0 19 rfl rfl)
theorem dX1_makeSteps_22 : decode cX1_makeSteps 22 = .ok (.dup, 1) := dk_89 (dk_at dksX1_makeSteps_0 22 rfl rfl)
theorem dX1_makeSteps_23 : decode cX1_makeSteps 23 = .ok (.iload_n 1, 1) := dk_27 (dk_at dksX1_makeSteps_0 23 rfl rfl)
theorem dX1_makeSteps_24 : decode cX1_makeSteps 24 = .ok (.iload_n 2, 1) := dk_28 (dk_at dksX1_makeSteps_1 0 rfl rfl)
theorem dX1_makeSteps_25 : decode cX1_makeSteps 25 = .ok (.invokespecial 126, 3) := dk_183 0 126 (dk_at dksX1_makeSteps_1 1 rfl rfl)
theorem dX1_makeSteps_28 : decode cX1_makeSteps 28 = .ok (.invokevirtual 129, 3) := dk_182 0 129 (dk_at dksX1_makeSteps_1 4 rfl rfl)
theorem dX1_makeSteps_31 : decode cX1_makeSteps 31 = .ok (.ireturn, 1) := dk_172 (dk_at dksX1_makeSteps_1 7 rfl rfl)
abbrev cX1_isStart : ByteArray := prog_1_method_6_code
def yX1_isStart : MethodName := ⟨RX1, "isStart", "(II)Z"⟩
def dkwX1_isStart_0 : List UInt8 := [26, 184, 0, 19, 153, 0, 17, 27, 4, 16, 99, 184, 0, 15, 153, 0, 7, 4, 167, 0, 4, 3, 172]
abbrev dktX1_isStart_0 : List UInt8 := dkwX1_isStart_0 ++ []
theorem dksX1_isStart_0 : cX1_isStart.data.toList.drop 0 = dktX1_isStart_0 := by decide +kernel
theorem dX1_isStart_0 : decode cX1_isStart 0 = .ok (.iload_n 0, 1) := dk_26 (dk_at dksX1_isStart_0 0 rfl rfl)
theorem dX1_isStart_1 : decode cX1_isStart 1 = .ok (.invokestatic 19, 3) := dk_184 0 19 (dk_at dksX1_isStart_0 1 rfl rfl)
theorem dX1_isStart_4 : decode cX1_isStart 4 = .ok (.ifCond .eq 17, 3) := dk_153 0 17 (dk_at dksX1_isStart_0 4 rfl rfl)
theorem dX1_isStart_7 : decode cX1_isStart 7 = .ok (.iload_n 1, 1) := dk_27 (dk_at dksX1_isStart_0 7 rfl rfl)
theorem dX1_isStart_8 : decode cX1_isStart 8 = .ok (.iconst 1, 1) := dk_4 (dk_at dksX1_isStart_0 8 rfl rfl)
theorem dX1_isStart_9 : decode cX1_isStart 9 = .ok (.bipush 99, 2) := dk_16 99 (dk_at dksX1_isStart_0 9 rfl rfl)
theorem dX1_isStart_11 : decode cX1_isStart 11 = .ok (.invokestatic 15, 3) := dk_184 0 15 (dk_at dksX1_isStart_0 11 rfl rfl)
theorem dX1_isStart_14 : decode cX1_isStart 14 = .ok (.ifCond .eq 7, 3) := dk_153 0 7 (dk_at dksX1_isStart_0 14 rfl rfl)
theorem dX1_isStart_17 : decode cX1_isStart 17 = .ok (.iconst 1, 1) := dk_4 (dk_at dksX1_isStart_0 17 rfl rfl)
theorem dX1_isStart_18 : decode cX1_isStart 18 = .ok (.goto 4, 3) := dk_167 0 4 (dk_at dksX1_isStart_0 18 rfl rfl)
theorem dX1_isStart_21 : decode cX1_isStart 21 = .ok (.iconst 0, 1) := dk_3 (dk_at dksX1_isStart_0 21 rfl rfl)
theorem dX1_isStart_22 : decode cX1_isStart 22 = .ok (.ireturn, 1) := dk_172 (dk_at dksX1_isStart_0 22 rfl rfl)
abbrev cX1_isNumber : ByteArray := prog_1_method_5_code
def yX1_isNumber : MethodName := ⟨RX1, "isNumber", "(I)Z"⟩
def dkwX1_isNumber_0 : List UInt8 := [26, 3, 17, 3, 231, 184, 0, 15, 172]
abbrev dktX1_isNumber_0 : List UInt8 := dkwX1_isNumber_0 ++ []
theorem dksX1_isNumber_0 : cX1_isNumber.data.toList.drop 0 = dktX1_isNumber_0 := by decide +kernel
theorem dX1_isNumber_0 : decode cX1_isNumber 0 = .ok (.iload_n 0, 1) := dk_26 (dk_at dksX1_isNumber_0 0 rfl rfl)
theorem dX1_isNumber_1 : decode cX1_isNumber 1 = .ok (.iconst 0, 1) := dk_3 (dk_at dksX1_isNumber_0 1 rfl rfl)
theorem dX1_isNumber_2 : decode cX1_isNumber 2 = .ok (.sipush 999, 3) := dk_17 3 231 (dk_at dksX1_isNumber_0 2 rfl rfl)
theorem dX1_isNumber_5 : decode cX1_isNumber 5 = .ok (.invokestatic 15, 3) := dk_184 0 15 (dk_at dksX1_isNumber_0 5 rfl rfl)
theorem dX1_isNumber_8 : decode cX1_isNumber 8 = .ok (.ireturn, 1) := dk_172 (dk_at dksX1_isNumber_0 8 rfl rfl)
abbrev cX1_make : ByteArray := prog_1_method_17_code
def yX1_make : MethodName := ⟨RX1, "make", "(LRuleLists$Rule;)I"⟩
def dkwX1_make_0 : List UInt8 := [42, 182, 0, 108, 43, 182, 0, 112, 172]
abbrev dktX1_make_0 : List UInt8 := dkwX1_make_0 ++ []
theorem dksX1_make_0 : cX1_make.data.toList.drop 0 = dktX1_make_0 := by decide +kernel
theorem dX1_make_0 : decode cX1_make 0 = .ok (.aload_n 0, 1) := dk_42 (dk_at dksX1_make_0 0 rfl rfl)
theorem dX1_make_1 : decode cX1_make 1 = .ok (.invokevirtual 108, 3) := dk_182 0 108 (dk_at dksX1_make_0 1 rfl rfl)
theorem dX1_make_4 : decode cX1_make 4 = .ok (.aload_n 1, 1) := dk_43 (dk_at dksX1_make_0 4 rfl rfl)
theorem dX1_make_5 : decode cX1_make 5 = .ok (.invokevirtual 112, 3) := dk_182 0 112 (dk_at dksX1_make_0 5 rfl rfl)
theorem dX1_make_8 : decode cX1_make 8 = .ok (.ireturn, 1) := dk_172 (dk_at dksX1_make_0 8 rfl rfl)
abbrev cX1_act : ByteArray := prog_1_method_10_code
def yX1_act : MethodName := ⟨RX1, "act", "()LRuleLists$Shelf;"⟩
def dkwX1_act_2 : List UInt8 := [183, 0, 62, 181, 0, 29, 42, 180, 0, 29, 176]
abbrev dktX1_act_2 : List UInt8 := dkwX1_act_2 ++ []
def dkwX1_act_1 : List UInt8 := [42, 180, 0, 36, 42, 180, 0, 29, 185, 0, 58, 2, 0, 42, 187, 0, 26, 89, 42, 180, 0, 29]
abbrev dktX1_act_1 : List UInt8 := dkwX1_act_1 ++ dktX1_act_2
def dkwX1_act_0 : List UInt8 := [42, 180, 0, 36, 185, 0, 48, 1, 0, 16, 14, 160, 0, 13, 42, 180, 0, 36, 185, 0, 54, 1, 0, 87]
abbrev dktX1_act_0 : List UInt8 := dkwX1_act_0 ++ dktX1_act_1
theorem dksX1_act_0 : cX1_act.data.toList.drop 0 = dktX1_act_0 := by decide +kernel
theorem dksX1_act_1 : cX1_act.data.toList.drop 24 = dktX1_act_1 := dk_seg dksX1_act_0 24 rfl rfl
theorem dksX1_act_2 : cX1_act.data.toList.drop 46 = dktX1_act_2 := dk_seg dksX1_act_1 22 rfl rfl
theorem dX1_act_0 : decode cX1_act 0 = .ok (.aload_n 0, 1) := dk_42 (dk_at dksX1_act_0 0 rfl rfl)
theorem dX1_act_1 : decode cX1_act 1 = .ok (.getfield 36, 3) := dk_180 0 36 (dk_at dksX1_act_0 1 rfl rfl)
theorem dX1_act_4 : decode cX1_act 4 = .ok (.invokeinterface 48 1, 5) := by decide +kernel
theorem dX1_act_9 : decode cX1_act 9 = .ok (.bipush 14, 2) := dk_16 14 (dk_at dksX1_act_0 9 rfl rfl)
theorem dX1_act_11 : decode cX1_act 11 = .ok (.if_icmp .ne 13, 3) := dk_160 0 13 (dk_at dksX1_act_0 11 rfl rfl)
theorem dX1_act_14 : decode cX1_act 14 = .ok (.aload_n 0, 1) := dk_42 (dk_at dksX1_act_0 14 rfl rfl)
theorem dX1_act_15 : decode cX1_act 15 = .ok (.getfield 36, 3) := dk_180 0 36 (dk_at dksX1_act_0 15 rfl rfl)
theorem dX1_act_18 : decode cX1_act 18 = .ok (.invokeinterface 54 1, 5) := by decide +kernel
theorem dX1_act_23 : decode cX1_act 23 = .ok (.pop, 1) := dk_87 (dk_at dksX1_act_0 23 rfl rfl)
theorem dX1_act_24 : decode cX1_act 24 = .ok (.aload_n 0, 1) := dk_42 (dk_at dksX1_act_1 0 rfl rfl)
theorem dX1_act_25 : decode cX1_act 25 = .ok (.getfield 36, 3) := dk_180 0 36 (dk_at dksX1_act_1 1 rfl rfl)
theorem dX1_act_28 : decode cX1_act 28 = .ok (.aload_n 0, 1) := dk_42 (dk_at dksX1_act_1 4 rfl rfl)
theorem dX1_act_29 : decode cX1_act 29 = .ok (.getfield 29, 3) := dk_180 0 29 (dk_at dksX1_act_1 5 rfl rfl)
theorem dX1_act_32 : decode cX1_act 32 = .ok (.invokeinterface 58 2, 5) := by decide +kernel
theorem dX1_act_37 : decode cX1_act 37 = .ok (.aload_n 0, 1) := dk_42 (dk_at dksX1_act_1 13 rfl rfl)
theorem dX1_act_38 : decode cX1_act 38 = .ok (.new 26, 3) := dk_187 0 26 (dk_at dksX1_act_1 14 rfl rfl)
theorem dX1_act_41 : decode cX1_act 41 = .ok (.dup, 1) := dk_89 (dk_at dksX1_act_1 17 rfl rfl)
theorem dX1_act_42 : decode cX1_act 42 = .ok (.aload_n 0, 1) := dk_42 (dk_at dksX1_act_1 18 rfl rfl)
theorem dX1_act_43 : decode cX1_act 43 = .ok (.getfield 29, 3) := dk_180 0 29 (dk_at dksX1_act_1 19 rfl rfl)
theorem dX1_act_46 : decode cX1_act 46 = .ok (.invokespecial 62, 3) := dk_183 0 62 (dk_at dksX1_act_2 0 rfl rfl)
theorem dX1_act_49 : decode cX1_act 49 = .ok (.putfield 29, 3) := dk_181 0 29 (dk_at dksX1_act_2 3 rfl rfl)
theorem dX1_act_52 : decode cX1_act 52 = .ok (.aload_n 0, 1) := dk_42 (dk_at dksX1_act_2 6 rfl rfl)
theorem dX1_act_53 : decode cX1_act 53 = .ok (.getfield 29, 3) := dk_180 0 29 (dk_at dksX1_act_2 7 rfl rfl)
theorem dX1_act_56 : decode cX1_act 56 = .ok (.areturn, 1) := dk_176 (dk_at dksX1_act_2 10 rfl rfl)
abbrev cX1_makeScaled : ByteArray := prog_1_method_19_code
def yX1_makeScaled : MethodName := ⟨RX1, "makeScaled", "(III)I"⟩
def dkwX1_makeScaled_1 : List UInt8 := [184, 0, 90, 42, 187, 0, 136, 89, 25, 4, 28, 29, 183, 0, 138, 182, 0, 129, 172]
abbrev dktX1_makeScaled_1 : List UInt8 := dkwX1_makeScaled_1 ++ []
def dkwX1_makeScaled_0 : List UInt8 := [42, 27, 182, 0, 130, 58, 4, 28, 29, 184, 0, 133, 184, 0, 83, 42, 180, 0, 29, 182, 0, 120]
abbrev dktX1_makeScaled_0 : List UInt8 := dkwX1_makeScaled_0 ++ dktX1_makeScaled_1
theorem dksX1_makeScaled_0 : cX1_makeScaled.data.toList.drop 0 = dktX1_makeScaled_0 := by decide +kernel
theorem dksX1_makeScaled_1 : cX1_makeScaled.data.toList.drop 22 = dktX1_makeScaled_1 := dk_seg dksX1_makeScaled_0 22 rfl rfl
theorem dX1_makeScaled_0 : decode cX1_makeScaled 0 = .ok (.aload_n 0, 1) := dk_42 (dk_at dksX1_makeScaled_0 0 rfl rfl)
theorem dX1_makeScaled_1 : decode cX1_makeScaled 1 = .ok (.iload_n 1, 1) := dk_27 (dk_at dksX1_makeScaled_0 1 rfl rfl)
theorem dX1_makeScaled_2 : decode cX1_makeScaled 2 = .ok (.invokevirtual 130, 3) := dk_182 0 130 (dk_at dksX1_makeScaled_0 2 rfl rfl)
theorem dX1_makeScaled_5 : decode cX1_makeScaled 5 = .ok (.astore 4, 2) := dk_58 4 (dk_at dksX1_makeScaled_0 5 rfl rfl)
theorem dX1_makeScaled_7 : decode cX1_makeScaled 7 = .ok (.iload_n 2, 1) := dk_28 (dk_at dksX1_makeScaled_0 7 rfl rfl)
theorem dX1_makeScaled_8 : decode cX1_makeScaled 8 = .ok (.iload_n 3, 1) := dk_29 (dk_at dksX1_makeScaled_0 8 rfl rfl)
theorem dX1_makeScaled_9 : decode cX1_makeScaled 9 = .ok (.invokestatic 133, 3) := dk_184 0 133 (dk_at dksX1_makeScaled_0 9 rfl rfl)
theorem dX1_makeScaled_12 : decode cX1_makeScaled 12 = .ok (.invokestatic 83, 3) := dk_184 0 83 (dk_at dksX1_makeScaled_0 12 rfl rfl)
theorem dX1_makeScaled_15 : decode cX1_makeScaled 15 = .ok (.aload_n 0, 1) := dk_42 (dk_at dksX1_makeScaled_0 15 rfl rfl)
theorem dX1_makeScaled_16 : decode cX1_makeScaled 16 = .ok (.getfield 29, 3) := dk_180 0 29 (dk_at dksX1_makeScaled_0 16 rfl rfl)
theorem dX1_makeScaled_19 : decode cX1_makeScaled 19 = .ok (.invokevirtual 120, 3) := dk_182 0 120 (dk_at dksX1_makeScaled_0 19 rfl rfl)
theorem dX1_makeScaled_22 : decode cX1_makeScaled 22 = .ok (.invokestatic 90, 3) := dk_184 0 90 (dk_at dksX1_makeScaled_1 0 rfl rfl)
theorem dX1_makeScaled_25 : decode cX1_makeScaled 25 = .ok (.aload_n 0, 1) := dk_42 (dk_at dksX1_makeScaled_1 3 rfl rfl)
theorem dX1_makeScaled_26 : decode cX1_makeScaled 26 = .ok (.new 136, 3) := dk_187 0 136 (dk_at dksX1_makeScaled_1 4 rfl rfl)
theorem dX1_makeScaled_29 : decode cX1_makeScaled 29 = .ok (.dup, 1) := dk_89 (dk_at dksX1_makeScaled_1 7 rfl rfl)
theorem dX1_makeScaled_30 : decode cX1_makeScaled 30 = .ok (.aload 4, 2) := dk_25 4 (dk_at dksX1_makeScaled_1 8 rfl rfl)
theorem dX1_makeScaled_32 : decode cX1_makeScaled 32 = .ok (.iload_n 2, 1) := dk_28 (dk_at dksX1_makeScaled_1 10 rfl rfl)
theorem dX1_makeScaled_33 : decode cX1_makeScaled 33 = .ok (.iload_n 3, 1) := dk_29 (dk_at dksX1_makeScaled_1 11 rfl rfl)
theorem dX1_makeScaled_34 : decode cX1_makeScaled 34 = .ok (.invokespecial 138, 3) := dk_183 0 138 (dk_at dksX1_makeScaled_1 12 rfl rfl)
theorem dX1_makeScaled_37 : decode cX1_makeScaled 37 = .ok (.invokevirtual 129, 3) := dk_182 0 129 (dk_at dksX1_makeScaled_1 15 rfl rfl)
theorem dX1_makeScaled_40 : decode cX1_makeScaled 40 = .ok (.ireturn, 1) := dk_172 (dk_at dksX1_makeScaled_1 18 rfl rfl)
abbrev cX1_requireList : ByteArray := prog_1_method_11_code
def yX1_requireList : MethodName := ⟨RX1, "requireList", "(I)LRuleLists$Rule;"⟩
def dkwX1_requireList_0 : List UInt8 := [42, 180, 0, 29, 27, 182, 0, 65, 184, 0, 68, 42, 180, 0, 29, 27, 182, 0, 72, 176]
abbrev dktX1_requireList_0 : List UInt8 := dkwX1_requireList_0 ++ []
theorem dksX1_requireList_0 : cX1_requireList.data.toList.drop 0 = dktX1_requireList_0 := by decide +kernel
theorem dX1_requireList_0 : decode cX1_requireList 0 = .ok (.aload_n 0, 1) := dk_42 (dk_at dksX1_requireList_0 0 rfl rfl)
theorem dX1_requireList_1 : decode cX1_requireList 1 = .ok (.getfield 29, 3) := dk_180 0 29 (dk_at dksX1_requireList_0 1 rfl rfl)
theorem dX1_requireList_4 : decode cX1_requireList 4 = .ok (.iload_n 1, 1) := dk_27 (dk_at dksX1_requireList_0 4 rfl rfl)
theorem dX1_requireList_5 : decode cX1_requireList 5 = .ok (.invokevirtual 65, 3) := dk_182 0 65 (dk_at dksX1_requireList_0 5 rfl rfl)
theorem dX1_requireList_8 : decode cX1_requireList 8 = .ok (.invokestatic 68, 3) := dk_184 0 68 (dk_at dksX1_requireList_0 8 rfl rfl)
theorem dX1_requireList_11 : decode cX1_requireList 11 = .ok (.aload_n 0, 1) := dk_42 (dk_at dksX1_requireList_0 11 rfl rfl)
theorem dX1_requireList_12 : decode cX1_requireList 12 = .ok (.getfield 29, 3) := dk_180 0 29 (dk_at dksX1_requireList_0 12 rfl rfl)
theorem dX1_requireList_15 : decode cX1_requireList 15 = .ok (.iload_n 1, 1) := dk_27 (dk_at dksX1_requireList_0 15 rfl rfl)
theorem dX1_requireList_16 : decode cX1_requireList 16 = .ok (.invokevirtual 72, 3) := dk_182 0 72 (dk_at dksX1_requireList_0 16 rfl rfl)
theorem dX1_requireList_19 : decode cX1_requireList 19 = .ok (.areturn, 1) := dk_176 (dk_at dksX1_requireList_0 19 rfl rfl)
abbrev cX1_requirePlace : ByteArray := prog_1_method_2_code
def yX1_requirePlace : MethodName := ⟨RX1, "requirePlace", "(Z)V"⟩
def dkwX1_requirePlace_0 : List UInt8 := [26, 154, 0, 11, 187, 0, 1, 89, 183, 0, 3, 191, 177]
abbrev dktX1_requirePlace_0 : List UInt8 := dkwX1_requirePlace_0 ++ []
theorem dksX1_requirePlace_0 : cX1_requirePlace.data.toList.drop 0 = dktX1_requirePlace_0 := by decide +kernel
theorem dX1_requirePlace_0 : decode cX1_requirePlace 0 = .ok (.iload_n 0, 1) := dk_26 (dk_at dksX1_requirePlace_0 0 rfl rfl)
theorem dX1_requirePlace_1 : decode cX1_requirePlace 1 = .ok (.ifCond .ne 11, 3) := dk_154 0 11 (dk_at dksX1_requirePlace_0 1 rfl rfl)
theorem dX1_requirePlace_4 : decode cX1_requirePlace 4 = .ok (.new 1, 3) := dk_187 0 1 (dk_at dksX1_requirePlace_0 4 rfl rfl)
theorem dX1_requirePlace_7 : decode cX1_requirePlace 7 = .ok (.dup, 1) := dk_89 (dk_at dksX1_requirePlace_0 7 rfl rfl)
theorem dX1_requirePlace_8 : decode cX1_requirePlace 8 = .ok (.invokespecial 3, 3) := dk_183 0 3 (dk_at dksX1_requirePlace_0 8 rfl rfl)
theorem dX1_requirePlace_11 : decode cX1_requirePlace 11 = .ok (.athrow, 1) := dk_191 (dk_at dksX1_requirePlace_0 11 rfl rfl)
theorem dX1_requirePlace_12 : decode cX1_requirePlace 12 = .ok (.return_, 1) := dk_177 (dk_at dksX1_requirePlace_0 12 rfl rfl)
abbrev cX1_isScale : ByteArray := prog_1_method_7_code
def yX1_isScale : MethodName := ⟨RX1, "isScale", "(II)Z"⟩
def dkwX1_isScale_1 : List UInt8 := [3, 172]
abbrev dktX1_isScale_1 : List UInt8 := dkwX1_isScale_1 ++ []
def dkwX1_isScale_0 : List UInt8 := [26, 4, 16, 9, 184, 0, 15, 153, 0, 17, 27, 3, 16, 99, 184, 0, 15, 153, 0, 7, 4, 167, 0, 4]
abbrev dktX1_isScale_0 : List UInt8 := dkwX1_isScale_0 ++ dktX1_isScale_1
theorem dksX1_isScale_0 : cX1_isScale.data.toList.drop 0 = dktX1_isScale_0 := by decide +kernel
theorem dksX1_isScale_1 : cX1_isScale.data.toList.drop 24 = dktX1_isScale_1 := dk_seg dksX1_isScale_0 24 rfl rfl
theorem dX1_isScale_0 : decode cX1_isScale 0 = .ok (.iload_n 0, 1) := dk_26 (dk_at dksX1_isScale_0 0 rfl rfl)
theorem dX1_isScale_1 : decode cX1_isScale 1 = .ok (.iconst 1, 1) := dk_4 (dk_at dksX1_isScale_0 1 rfl rfl)
theorem dX1_isScale_2 : decode cX1_isScale 2 = .ok (.bipush 9, 2) := dk_16 9 (dk_at dksX1_isScale_0 2 rfl rfl)
theorem dX1_isScale_4 : decode cX1_isScale 4 = .ok (.invokestatic 15, 3) := dk_184 0 15 (dk_at dksX1_isScale_0 4 rfl rfl)
theorem dX1_isScale_7 : decode cX1_isScale 7 = .ok (.ifCond .eq 17, 3) := dk_153 0 17 (dk_at dksX1_isScale_0 7 rfl rfl)
theorem dX1_isScale_10 : decode cX1_isScale 10 = .ok (.iload_n 1, 1) := dk_27 (dk_at dksX1_isScale_0 10 rfl rfl)
theorem dX1_isScale_11 : decode cX1_isScale 11 = .ok (.iconst 0, 1) := dk_3 (dk_at dksX1_isScale_0 11 rfl rfl)
theorem dX1_isScale_12 : decode cX1_isScale 12 = .ok (.bipush 99, 2) := dk_16 99 (dk_at dksX1_isScale_0 12 rfl rfl)
theorem dX1_isScale_14 : decode cX1_isScale 14 = .ok (.invokestatic 15, 3) := dk_184 0 15 (dk_at dksX1_isScale_0 14 rfl rfl)
theorem dX1_isScale_17 : decode cX1_isScale 17 = .ok (.ifCond .eq 7, 3) := dk_153 0 7 (dk_at dksX1_isScale_0 17 rfl rfl)
theorem dX1_isScale_20 : decode cX1_isScale 20 = .ok (.iconst 1, 1) := dk_4 (dk_at dksX1_isScale_0 20 rfl rfl)
theorem dX1_isScale_21 : decode cX1_isScale 21 = .ok (.goto 4, 3) := dk_167 0 4 (dk_at dksX1_isScale_0 21 rfl rfl)
theorem dX1_isScale_24 : decode cX1_isScale 24 = .ok (.iconst 0, 1) := dk_3 (dk_at dksX1_isScale_1 0 rfl rfl)
theorem dX1_isScale_25 : decode cX1_isScale 25 = .ok (.ireturn, 1) := dk_172 (dk_at dksX1_isScale_1 1 rfl rfl)
abbrev cX1_makeJoined : ByteArray := prog_1_method_20_code
def yX1_makeJoined : MethodName := ⟨RX1, "makeJoined", "(II)I"⟩
def dkwX1_makeJoined_1 : List UInt8 := [187, 0, 141, 89, 45, 25, 4, 183, 0, 143, 182, 0, 129, 172]
abbrev dktX1_makeJoined_1 : List UInt8 := dkwX1_makeJoined_1 ++ []
def dkwX1_makeJoined_0 : List UInt8 := [42, 27, 182, 0, 130, 78, 42, 28, 182, 0, 130, 58, 4, 42, 180, 0, 29, 182, 0, 120, 184, 0, 90, 42]
abbrev dktX1_makeJoined_0 : List UInt8 := dkwX1_makeJoined_0 ++ dktX1_makeJoined_1
theorem dksX1_makeJoined_0 : cX1_makeJoined.data.toList.drop 0 = dktX1_makeJoined_0 := by decide +kernel
theorem dksX1_makeJoined_1 : cX1_makeJoined.data.toList.drop 24 = dktX1_makeJoined_1 := dk_seg dksX1_makeJoined_0 24 rfl rfl
theorem dX1_makeJoined_0 : decode cX1_makeJoined 0 = .ok (.aload_n 0, 1) := dk_42 (dk_at dksX1_makeJoined_0 0 rfl rfl)
theorem dX1_makeJoined_1 : decode cX1_makeJoined 1 = .ok (.iload_n 1, 1) := dk_27 (dk_at dksX1_makeJoined_0 1 rfl rfl)
theorem dX1_makeJoined_2 : decode cX1_makeJoined 2 = .ok (.invokevirtual 130, 3) := dk_182 0 130 (dk_at dksX1_makeJoined_0 2 rfl rfl)
theorem dX1_makeJoined_5 : decode cX1_makeJoined 5 = .ok (.astore_n 3, 1) := dk_78 (dk_at dksX1_makeJoined_0 5 rfl rfl)
theorem dX1_makeJoined_6 : decode cX1_makeJoined 6 = .ok (.aload_n 0, 1) := dk_42 (dk_at dksX1_makeJoined_0 6 rfl rfl)
theorem dX1_makeJoined_7 : decode cX1_makeJoined 7 = .ok (.iload_n 2, 1) := dk_28 (dk_at dksX1_makeJoined_0 7 rfl rfl)
theorem dX1_makeJoined_8 : decode cX1_makeJoined 8 = .ok (.invokevirtual 130, 3) := dk_182 0 130 (dk_at dksX1_makeJoined_0 8 rfl rfl)
theorem dX1_makeJoined_11 : decode cX1_makeJoined 11 = .ok (.astore 4, 2) := dk_58 4 (dk_at dksX1_makeJoined_0 11 rfl rfl)
theorem dX1_makeJoined_13 : decode cX1_makeJoined 13 = .ok (.aload_n 0, 1) := dk_42 (dk_at dksX1_makeJoined_0 13 rfl rfl)
theorem dX1_makeJoined_14 : decode cX1_makeJoined 14 = .ok (.getfield 29, 3) := dk_180 0 29 (dk_at dksX1_makeJoined_0 14 rfl rfl)
theorem dX1_makeJoined_17 : decode cX1_makeJoined 17 = .ok (.invokevirtual 120, 3) := dk_182 0 120 (dk_at dksX1_makeJoined_0 17 rfl rfl)
theorem dX1_makeJoined_20 : decode cX1_makeJoined 20 = .ok (.invokestatic 90, 3) := dk_184 0 90 (dk_at dksX1_makeJoined_0 20 rfl rfl)
theorem dX1_makeJoined_23 : decode cX1_makeJoined 23 = .ok (.aload_n 0, 1) := dk_42 (dk_at dksX1_makeJoined_0 23 rfl rfl)
theorem dX1_makeJoined_24 : decode cX1_makeJoined 24 = .ok (.new 141, 3) := dk_187 0 141 (dk_at dksX1_makeJoined_1 0 rfl rfl)
theorem dX1_makeJoined_27 : decode cX1_makeJoined 27 = .ok (.dup, 1) := dk_89 (dk_at dksX1_makeJoined_1 3 rfl rfl)
theorem dX1_makeJoined_28 : decode cX1_makeJoined 28 = .ok (.aload_n 3, 1) := dk_45 (dk_at dksX1_makeJoined_1 4 rfl rfl)
theorem dX1_makeJoined_29 : decode cX1_makeJoined 29 = .ok (.aload 4, 2) := dk_25 4 (dk_at dksX1_makeJoined_1 5 rfl rfl)
theorem dX1_makeJoined_31 : decode cX1_makeJoined 31 = .ok (.invokespecial 143, 3) := dk_183 0 143 (dk_at dksX1_makeJoined_1 7 rfl rfl)
theorem dX1_makeJoined_34 : decode cX1_makeJoined 34 = .ok (.invokevirtual 129, 3) := dk_182 0 129 (dk_at dksX1_makeJoined_1 10 rfl rfl)
theorem dX1_makeJoined_37 : decode cX1_makeJoined 37 = .ok (.ireturn, 1) := dk_172 (dk_at dksX1_makeJoined_1 13 rfl rfl)
abbrev cX1_makeShared : ByteArray := prog_1_method_21_code
def yX1_makeShared : MethodName := ⟨RX1, "makeShared", "(II)I"⟩
def dkwX1_makeShared_1 : List UInt8 := [187, 0, 146, 89, 45, 25, 4, 183, 0, 148, 182, 0, 129, 172]
abbrev dktX1_makeShared_1 : List UInt8 := dkwX1_makeShared_1 ++ []
def dkwX1_makeShared_0 : List UInt8 := [42, 27, 182, 0, 130, 78, 42, 28, 182, 0, 130, 58, 4, 42, 180, 0, 29, 182, 0, 120, 184, 0, 90, 42]
abbrev dktX1_makeShared_0 : List UInt8 := dkwX1_makeShared_0 ++ dktX1_makeShared_1
theorem dksX1_makeShared_0 : cX1_makeShared.data.toList.drop 0 = dktX1_makeShared_0 := by decide +kernel
theorem dksX1_makeShared_1 : cX1_makeShared.data.toList.drop 24 = dktX1_makeShared_1 := dk_seg dksX1_makeShared_0 24 rfl rfl
theorem dX1_makeShared_0 : decode cX1_makeShared 0 = .ok (.aload_n 0, 1) := dk_42 (dk_at dksX1_makeShared_0 0 rfl rfl)
theorem dX1_makeShared_1 : decode cX1_makeShared 1 = .ok (.iload_n 1, 1) := dk_27 (dk_at dksX1_makeShared_0 1 rfl rfl)
theorem dX1_makeShared_2 : decode cX1_makeShared 2 = .ok (.invokevirtual 130, 3) := dk_182 0 130 (dk_at dksX1_makeShared_0 2 rfl rfl)
theorem dX1_makeShared_5 : decode cX1_makeShared 5 = .ok (.astore_n 3, 1) := dk_78 (dk_at dksX1_makeShared_0 5 rfl rfl)
theorem dX1_makeShared_6 : decode cX1_makeShared 6 = .ok (.aload_n 0, 1) := dk_42 (dk_at dksX1_makeShared_0 6 rfl rfl)
theorem dX1_makeShared_7 : decode cX1_makeShared 7 = .ok (.iload_n 2, 1) := dk_28 (dk_at dksX1_makeShared_0 7 rfl rfl)
theorem dX1_makeShared_8 : decode cX1_makeShared 8 = .ok (.invokevirtual 130, 3) := dk_182 0 130 (dk_at dksX1_makeShared_0 8 rfl rfl)
theorem dX1_makeShared_11 : decode cX1_makeShared 11 = .ok (.astore 4, 2) := dk_58 4 (dk_at dksX1_makeShared_0 11 rfl rfl)
theorem dX1_makeShared_13 : decode cX1_makeShared 13 = .ok (.aload_n 0, 1) := dk_42 (dk_at dksX1_makeShared_0 13 rfl rfl)
theorem dX1_makeShared_14 : decode cX1_makeShared 14 = .ok (.getfield 29, 3) := dk_180 0 29 (dk_at dksX1_makeShared_0 14 rfl rfl)
theorem dX1_makeShared_17 : decode cX1_makeShared 17 = .ok (.invokevirtual 120, 3) := dk_182 0 120 (dk_at dksX1_makeShared_0 17 rfl rfl)
theorem dX1_makeShared_20 : decode cX1_makeShared 20 = .ok (.invokestatic 90, 3) := dk_184 0 90 (dk_at dksX1_makeShared_0 20 rfl rfl)
theorem dX1_makeShared_23 : decode cX1_makeShared 23 = .ok (.aload_n 0, 1) := dk_42 (dk_at dksX1_makeShared_0 23 rfl rfl)
theorem dX1_makeShared_24 : decode cX1_makeShared 24 = .ok (.new 146, 3) := dk_187 0 146 (dk_at dksX1_makeShared_1 0 rfl rfl)
theorem dX1_makeShared_27 : decode cX1_makeShared 27 = .ok (.dup, 1) := dk_89 (dk_at dksX1_makeShared_1 3 rfl rfl)
theorem dX1_makeShared_28 : decode cX1_makeShared 28 = .ok (.aload_n 3, 1) := dk_45 (dk_at dksX1_makeShared_1 4 rfl rfl)
theorem dX1_makeShared_29 : decode cX1_makeShared 29 = .ok (.aload 4, 2) := dk_25 4 (dk_at dksX1_makeShared_1 5 rfl rfl)
theorem dX1_makeShared_31 : decode cX1_makeShared 31 = .ok (.invokespecial 148, 3) := dk_183 0 148 (dk_at dksX1_makeShared_1 7 rfl rfl)
theorem dX1_makeShared_34 : decode cX1_makeShared 34 = .ok (.invokevirtual 129, 3) := dk_182 0 129 (dk_at dksX1_makeShared_1 10 rfl rfl)
theorem dX1_makeShared_37 : decode cX1_makeShared 37 = .ok (.ireturn, 1) := dk_172 (dk_at dksX1_makeShared_1 13 rfl rfl)
abbrev cX1_makeWithout : ByteArray := prog_1_method_22_code
def yX1_makeWithout : MethodName := ⟨RX1, "makeWithout", "(II)I"⟩
def dkwX1_makeWithout_1 : List UInt8 := [187, 0, 149, 89, 45, 25, 4, 183, 0, 151, 182, 0, 129, 172]
abbrev dktX1_makeWithout_1 : List UInt8 := dkwX1_makeWithout_1 ++ []
def dkwX1_makeWithout_0 : List UInt8 := [42, 27, 182, 0, 130, 78, 42, 28, 182, 0, 130, 58, 4, 42, 180, 0, 29, 182, 0, 120, 184, 0, 90, 42]
abbrev dktX1_makeWithout_0 : List UInt8 := dkwX1_makeWithout_0 ++ dktX1_makeWithout_1
theorem dksX1_makeWithout_0 : cX1_makeWithout.data.toList.drop 0 = dktX1_makeWithout_0 := by decide +kernel
theorem dksX1_makeWithout_1 : cX1_makeWithout.data.toList.drop 24 = dktX1_makeWithout_1 := dk_seg dksX1_makeWithout_0 24 rfl rfl
theorem dX1_makeWithout_0 : decode cX1_makeWithout 0 = .ok (.aload_n 0, 1) := dk_42 (dk_at dksX1_makeWithout_0 0 rfl rfl)
theorem dX1_makeWithout_1 : decode cX1_makeWithout 1 = .ok (.iload_n 1, 1) := dk_27 (dk_at dksX1_makeWithout_0 1 rfl rfl)
theorem dX1_makeWithout_2 : decode cX1_makeWithout 2 = .ok (.invokevirtual 130, 3) := dk_182 0 130 (dk_at dksX1_makeWithout_0 2 rfl rfl)
theorem dX1_makeWithout_5 : decode cX1_makeWithout 5 = .ok (.astore_n 3, 1) := dk_78 (dk_at dksX1_makeWithout_0 5 rfl rfl)
theorem dX1_makeWithout_6 : decode cX1_makeWithout 6 = .ok (.aload_n 0, 1) := dk_42 (dk_at dksX1_makeWithout_0 6 rfl rfl)
theorem dX1_makeWithout_7 : decode cX1_makeWithout 7 = .ok (.iload_n 2, 1) := dk_28 (dk_at dksX1_makeWithout_0 7 rfl rfl)
theorem dX1_makeWithout_8 : decode cX1_makeWithout 8 = .ok (.invokevirtual 130, 3) := dk_182 0 130 (dk_at dksX1_makeWithout_0 8 rfl rfl)
theorem dX1_makeWithout_11 : decode cX1_makeWithout 11 = .ok (.astore 4, 2) := dk_58 4 (dk_at dksX1_makeWithout_0 11 rfl rfl)
theorem dX1_makeWithout_13 : decode cX1_makeWithout 13 = .ok (.aload_n 0, 1) := dk_42 (dk_at dksX1_makeWithout_0 13 rfl rfl)
theorem dX1_makeWithout_14 : decode cX1_makeWithout 14 = .ok (.getfield 29, 3) := dk_180 0 29 (dk_at dksX1_makeWithout_0 14 rfl rfl)
theorem dX1_makeWithout_17 : decode cX1_makeWithout 17 = .ok (.invokevirtual 120, 3) := dk_182 0 120 (dk_at dksX1_makeWithout_0 17 rfl rfl)
theorem dX1_makeWithout_20 : decode cX1_makeWithout 20 = .ok (.invokestatic 90, 3) := dk_184 0 90 (dk_at dksX1_makeWithout_0 20 rfl rfl)
theorem dX1_makeWithout_23 : decode cX1_makeWithout 23 = .ok (.aload_n 0, 1) := dk_42 (dk_at dksX1_makeWithout_0 23 rfl rfl)
theorem dX1_makeWithout_24 : decode cX1_makeWithout 24 = .ok (.new 149, 3) := dk_187 0 149 (dk_at dksX1_makeWithout_1 0 rfl rfl)
theorem dX1_makeWithout_27 : decode cX1_makeWithout 27 = .ok (.dup, 1) := dk_89 (dk_at dksX1_makeWithout_1 3 rfl rfl)
theorem dX1_makeWithout_28 : decode cX1_makeWithout 28 = .ok (.aload_n 3, 1) := dk_45 (dk_at dksX1_makeWithout_1 4 rfl rfl)
theorem dX1_makeWithout_29 : decode cX1_makeWithout 29 = .ok (.aload 4, 2) := dk_25 4 (dk_at dksX1_makeWithout_1 5 rfl rfl)
theorem dX1_makeWithout_31 : decode cX1_makeWithout 31 = .ok (.invokespecial 151, 3) := dk_183 0 151 (dk_at dksX1_makeWithout_1 7 rfl rfl)
theorem dX1_makeWithout_34 : decode cX1_makeWithout 34 = .ok (.invokevirtual 129, 3) := dk_182 0 129 (dk_at dksX1_makeWithout_1 10 rfl rfl)
theorem dX1_makeWithout_37 : decode cX1_makeWithout 37 = .ok (.ireturn, 1) := dk_172 (dk_at dksX1_makeWithout_1 13 rfl rfl)
abbrev cX1_makeSieved : ByteArray := prog_1_method_23_code
def yX1_makeSieved : MethodName := ⟨RX1, "makeSieved", "(I)I"⟩
def dkwX1_makeSieved_1 : List UInt8 := [183, 0, 154, 182, 0, 129, 172]
abbrev dktX1_makeSieved_1 : List UInt8 := dkwX1_makeSieved_1 ++ []
def dkwX1_makeSieved_0 : List UInt8 := [42, 27, 182, 0, 130, 77, 42, 180, 0, 29, 182, 0, 120, 184, 0, 90, 42, 187, 0, 152, 89, 44]
abbrev dktX1_makeSieved_0 : List UInt8 := dkwX1_makeSieved_0 ++ dktX1_makeSieved_1
theorem dksX1_makeSieved_0 : cX1_makeSieved.data.toList.drop 0 = dktX1_makeSieved_0 := by decide +kernel
theorem dksX1_makeSieved_1 : cX1_makeSieved.data.toList.drop 22 = dktX1_makeSieved_1 := dk_seg dksX1_makeSieved_0 22 rfl rfl
theorem dX1_makeSieved_0 : decode cX1_makeSieved 0 = .ok (.aload_n 0, 1) := dk_42 (dk_at dksX1_makeSieved_0 0 rfl rfl)
theorem dX1_makeSieved_1 : decode cX1_makeSieved 1 = .ok (.iload_n 1, 1) := dk_27 (dk_at dksX1_makeSieved_0 1 rfl rfl)
theorem dX1_makeSieved_2 : decode cX1_makeSieved 2 = .ok (.invokevirtual 130, 3) := dk_182 0 130 (dk_at dksX1_makeSieved_0 2 rfl rfl)
theorem dX1_makeSieved_5 : decode cX1_makeSieved 5 = .ok (.astore_n 2, 1) := dk_77 (dk_at dksX1_makeSieved_0 5 rfl rfl)
theorem dX1_makeSieved_6 : decode cX1_makeSieved 6 = .ok (.aload_n 0, 1) := dk_42 (dk_at dksX1_makeSieved_0 6 rfl rfl)
theorem dX1_makeSieved_7 : decode cX1_makeSieved 7 = .ok (.getfield 29, 3) := dk_180 0 29 (dk_at dksX1_makeSieved_0 7 rfl rfl)
theorem dX1_makeSieved_10 : decode cX1_makeSieved 10 = .ok (.invokevirtual 120, 3) := dk_182 0 120 (dk_at dksX1_makeSieved_0 10 rfl rfl)
theorem dX1_makeSieved_13 : decode cX1_makeSieved 13 = .ok (.invokestatic 90, 3) := dk_184 0 90 (dk_at dksX1_makeSieved_0 13 rfl rfl)
theorem dX1_makeSieved_16 : decode cX1_makeSieved 16 = .ok (.aload_n 0, 1) := dk_42 (dk_at dksX1_makeSieved_0 16 rfl rfl)
theorem dX1_makeSieved_17 : decode cX1_makeSieved 17 = .ok (.new 152, 3) := dk_187 0 152 (dk_at dksX1_makeSieved_0 17 rfl rfl)
theorem dX1_makeSieved_20 : decode cX1_makeSieved 20 = .ok (.dup, 1) := dk_89 (dk_at dksX1_makeSieved_0 20 rfl rfl)
theorem dX1_makeSieved_21 : decode cX1_makeSieved 21 = .ok (.aload_n 2, 1) := dk_44 (dk_at dksX1_makeSieved_0 21 rfl rfl)
theorem dX1_makeSieved_22 : decode cX1_makeSieved 22 = .ok (.invokespecial 154, 3) := dk_183 0 154 (dk_at dksX1_makeSieved_1 0 rfl rfl)
theorem dX1_makeSieved_25 : decode cX1_makeSieved 25 = .ok (.invokevirtual 129, 3) := dk_182 0 129 (dk_at dksX1_makeSieved_1 3 rfl rfl)
theorem dX1_makeSieved_28 : decode cX1_makeSieved 28 = .ok (.ireturn, 1) := dk_172 (dk_at dksX1_makeSieved_1 6 rfl rfl)
abbrev cX1_makeThinned : ByteArray := prog_1_method_24_code
def yX1_makeThinned : MethodName := ⟨RX1, "makeThinned", "(II)I"⟩
def dkwX1_makeThinned_1 : List UInt8 := [187, 0, 160, 89, 45, 28, 183, 0, 162, 182, 0, 129, 172]
abbrev dktX1_makeThinned_1 : List UInt8 := dkwX1_makeThinned_1 ++ []
def dkwX1_makeThinned_0 : List UInt8 := [42, 27, 182, 0, 130, 78, 28, 184, 0, 157, 184, 0, 83, 42, 180, 0, 29, 182, 0, 120, 184, 0, 90, 42]
abbrev dktX1_makeThinned_0 : List UInt8 := dkwX1_makeThinned_0 ++ dktX1_makeThinned_1
theorem dksX1_makeThinned_0 : cX1_makeThinned.data.toList.drop 0 = dktX1_makeThinned_0 := by decide +kernel
theorem dksX1_makeThinned_1 : cX1_makeThinned.data.toList.drop 24 = dktX1_makeThinned_1 := dk_seg dksX1_makeThinned_0 24 rfl rfl
theorem dX1_makeThinned_0 : decode cX1_makeThinned 0 = .ok (.aload_n 0, 1) := dk_42 (dk_at dksX1_makeThinned_0 0 rfl rfl)
theorem dX1_makeThinned_1 : decode cX1_makeThinned 1 = .ok (.iload_n 1, 1) := dk_27 (dk_at dksX1_makeThinned_0 1 rfl rfl)
theorem dX1_makeThinned_2 : decode cX1_makeThinned 2 = .ok (.invokevirtual 130, 3) := dk_182 0 130 (dk_at dksX1_makeThinned_0 2 rfl rfl)
theorem dX1_makeThinned_5 : decode cX1_makeThinned 5 = .ok (.astore_n 3, 1) := dk_78 (dk_at dksX1_makeThinned_0 5 rfl rfl)
theorem dX1_makeThinned_6 : decode cX1_makeThinned 6 = .ok (.iload_n 2, 1) := dk_28 (dk_at dksX1_makeThinned_0 6 rfl rfl)
theorem dX1_makeThinned_7 : decode cX1_makeThinned 7 = .ok (.invokestatic 157, 3) := dk_184 0 157 (dk_at dksX1_makeThinned_0 7 rfl rfl)
theorem dX1_makeThinned_10 : decode cX1_makeThinned 10 = .ok (.invokestatic 83, 3) := dk_184 0 83 (dk_at dksX1_makeThinned_0 10 rfl rfl)
theorem dX1_makeThinned_13 : decode cX1_makeThinned 13 = .ok (.aload_n 0, 1) := dk_42 (dk_at dksX1_makeThinned_0 13 rfl rfl)
theorem dX1_makeThinned_14 : decode cX1_makeThinned 14 = .ok (.getfield 29, 3) := dk_180 0 29 (dk_at dksX1_makeThinned_0 14 rfl rfl)
theorem dX1_makeThinned_17 : decode cX1_makeThinned 17 = .ok (.invokevirtual 120, 3) := dk_182 0 120 (dk_at dksX1_makeThinned_0 17 rfl rfl)
theorem dX1_makeThinned_20 : decode cX1_makeThinned 20 = .ok (.invokestatic 90, 3) := dk_184 0 90 (dk_at dksX1_makeThinned_0 20 rfl rfl)
theorem dX1_makeThinned_23 : decode cX1_makeThinned 23 = .ok (.aload_n 0, 1) := dk_42 (dk_at dksX1_makeThinned_0 23 rfl rfl)
theorem dX1_makeThinned_24 : decode cX1_makeThinned 24 = .ok (.new 160, 3) := dk_187 0 160 (dk_at dksX1_makeThinned_1 0 rfl rfl)
theorem dX1_makeThinned_27 : decode cX1_makeThinned 27 = .ok (.dup, 1) := dk_89 (dk_at dksX1_makeThinned_1 3 rfl rfl)
theorem dX1_makeThinned_28 : decode cX1_makeThinned 28 = .ok (.aload_n 3, 1) := dk_45 (dk_at dksX1_makeThinned_1 4 rfl rfl)
theorem dX1_makeThinned_29 : decode cX1_makeThinned 29 = .ok (.iload_n 2, 1) := dk_28 (dk_at dksX1_makeThinned_1 5 rfl rfl)
theorem dX1_makeThinned_30 : decode cX1_makeThinned 30 = .ok (.invokespecial 162, 3) := dk_183 0 162 (dk_at dksX1_makeThinned_1 6 rfl rfl)
theorem dX1_makeThinned_33 : decode cX1_makeThinned 33 = .ok (.invokevirtual 129, 3) := dk_182 0 129 (dk_at dksX1_makeThinned_1 9 rfl rfl)
theorem dX1_makeThinned_36 : decode cX1_makeThinned 36 = .ok (.ireturn, 1) := dk_172 (dk_at dksX1_makeThinned_1 12 rfl rfl)
abbrev cX1_isEvery : ByteArray := prog_1_method_8_code
def yX1_isEvery : MethodName := ⟨RX1, "isEvery", "(I)Z"⟩
def dkwX1_isEvery_0 : List UInt8 := [26, 4, 16, 9, 184, 0, 15, 172]
abbrev dktX1_isEvery_0 : List UInt8 := dkwX1_isEvery_0 ++ []
theorem dksX1_isEvery_0 : cX1_isEvery.data.toList.drop 0 = dktX1_isEvery_0 := by decide +kernel
theorem dX1_isEvery_0 : decode cX1_isEvery 0 = .ok (.iload_n 0, 1) := dk_26 (dk_at dksX1_isEvery_0 0 rfl rfl)
theorem dX1_isEvery_1 : decode cX1_isEvery 1 = .ok (.iconst 1, 1) := dk_4 (dk_at dksX1_isEvery_0 1 rfl rfl)
theorem dX1_isEvery_2 : decode cX1_isEvery 2 = .ok (.bipush 9, 2) := dk_16 9 (dk_at dksX1_isEvery_0 2 rfl rfl)
theorem dX1_isEvery_4 : decode cX1_isEvery 4 = .ok (.invokestatic 15, 3) := dk_184 0 15 (dk_at dksX1_isEvery_0 4 rfl rfl)
theorem dX1_isEvery_7 : decode cX1_isEvery 7 = .ok (.ireturn, 1) := dk_172 (dk_at dksX1_isEvery_0 7 rfl rfl)
abbrev cX1_makeAddedUp : ByteArray := prog_1_method_25_code
def yX1_makeAddedUp : MethodName := ⟨RX1, "makeAddedUp", "(I)I"⟩
def dkwX1_makeAddedUp_1 : List UInt8 := [183, 0, 167, 182, 0, 129, 172]
abbrev dktX1_makeAddedUp_1 : List UInt8 := dkwX1_makeAddedUp_1 ++ []
def dkwX1_makeAddedUp_0 : List UInt8 := [42, 27, 182, 0, 130, 77, 42, 180, 0, 29, 182, 0, 120, 184, 0, 90, 42, 187, 0, 165, 89, 44]
abbrev dktX1_makeAddedUp_0 : List UInt8 := dkwX1_makeAddedUp_0 ++ dktX1_makeAddedUp_1
theorem dksX1_makeAddedUp_0 : cX1_makeAddedUp.data.toList.drop 0 = dktX1_makeAddedUp_0 := by decide +kernel
theorem dksX1_makeAddedUp_1 : cX1_makeAddedUp.data.toList.drop 22 = dktX1_makeAddedUp_1 := dk_seg dksX1_makeAddedUp_0 22 rfl rfl
theorem dX1_makeAddedUp_0 : decode cX1_makeAddedUp 0 = .ok (.aload_n 0, 1) := dk_42 (dk_at dksX1_makeAddedUp_0 0 rfl rfl)
theorem dX1_makeAddedUp_1 : decode cX1_makeAddedUp 1 = .ok (.iload_n 1, 1) := dk_27 (dk_at dksX1_makeAddedUp_0 1 rfl rfl)
theorem dX1_makeAddedUp_2 : decode cX1_makeAddedUp 2 = .ok (.invokevirtual 130, 3) := dk_182 0 130 (dk_at dksX1_makeAddedUp_0 2 rfl rfl)
theorem dX1_makeAddedUp_5 : decode cX1_makeAddedUp 5 = .ok (.astore_n 2, 1) := dk_77 (dk_at dksX1_makeAddedUp_0 5 rfl rfl)
theorem dX1_makeAddedUp_6 : decode cX1_makeAddedUp 6 = .ok (.aload_n 0, 1) := dk_42 (dk_at dksX1_makeAddedUp_0 6 rfl rfl)
theorem dX1_makeAddedUp_7 : decode cX1_makeAddedUp 7 = .ok (.getfield 29, 3) := dk_180 0 29 (dk_at dksX1_makeAddedUp_0 7 rfl rfl)
theorem dX1_makeAddedUp_10 : decode cX1_makeAddedUp 10 = .ok (.invokevirtual 120, 3) := dk_182 0 120 (dk_at dksX1_makeAddedUp_0 10 rfl rfl)
theorem dX1_makeAddedUp_13 : decode cX1_makeAddedUp 13 = .ok (.invokestatic 90, 3) := dk_184 0 90 (dk_at dksX1_makeAddedUp_0 13 rfl rfl)
theorem dX1_makeAddedUp_16 : decode cX1_makeAddedUp 16 = .ok (.aload_n 0, 1) := dk_42 (dk_at dksX1_makeAddedUp_0 16 rfl rfl)
theorem dX1_makeAddedUp_17 : decode cX1_makeAddedUp 17 = .ok (.new 165, 3) := dk_187 0 165 (dk_at dksX1_makeAddedUp_0 17 rfl rfl)
theorem dX1_makeAddedUp_20 : decode cX1_makeAddedUp 20 = .ok (.dup, 1) := dk_89 (dk_at dksX1_makeAddedUp_0 20 rfl rfl)
theorem dX1_makeAddedUp_21 : decode cX1_makeAddedUp 21 = .ok (.aload_n 2, 1) := dk_44 (dk_at dksX1_makeAddedUp_0 21 rfl rfl)
theorem dX1_makeAddedUp_22 : decode cX1_makeAddedUp 22 = .ok (.invokespecial 167, 3) := dk_183 0 167 (dk_at dksX1_makeAddedUp_1 0 rfl rfl)
theorem dX1_makeAddedUp_25 : decode cX1_makeAddedUp 25 = .ok (.invokevirtual 129, 3) := dk_182 0 129 (dk_at dksX1_makeAddedUp_1 3 rfl rfl)
theorem dX1_makeAddedUp_28 : decode cX1_makeAddedUp 28 = .ok (.ireturn, 1) := dk_172 (dk_at dksX1_makeAddedUp_1 6 rfl rfl)
abbrev cX1_dropLast : ByteArray := prog_1_method_26_code
def yX1_dropLast : MethodName := ⟨RX1, "dropLast", "()I"⟩
def dkwX1_dropLast_1 : List UInt8 := [182, 0, 171, 172]
abbrev dktX1_dropLast_1 : List UInt8 := dkwX1_dropLast_1 ++ []
def dkwX1_dropLast_0 : List UInt8 := [42, 180, 0, 29, 182, 0, 168, 154, 0, 7, 4, 167, 0, 4, 3, 184, 0, 90, 42, 182, 0, 108]
abbrev dktX1_dropLast_0 : List UInt8 := dkwX1_dropLast_0 ++ dktX1_dropLast_1
theorem dksX1_dropLast_0 : cX1_dropLast.data.toList.drop 0 = dktX1_dropLast_0 := by decide +kernel
theorem dksX1_dropLast_1 : cX1_dropLast.data.toList.drop 22 = dktX1_dropLast_1 := dk_seg dksX1_dropLast_0 22 rfl rfl
theorem dX1_dropLast_0 : decode cX1_dropLast 0 = .ok (.aload_n 0, 1) := dk_42 (dk_at dksX1_dropLast_0 0 rfl rfl)
theorem dX1_dropLast_1 : decode cX1_dropLast 1 = .ok (.getfield 29, 3) := dk_180 0 29 (dk_at dksX1_dropLast_0 1 rfl rfl)
theorem dX1_dropLast_4 : decode cX1_dropLast 4 = .ok (.invokevirtual 168, 3) := dk_182 0 168 (dk_at dksX1_dropLast_0 4 rfl rfl)
theorem dX1_dropLast_7 : decode cX1_dropLast 7 = .ok (.ifCond .ne 7, 3) := dk_154 0 7 (dk_at dksX1_dropLast_0 7 rfl rfl)
theorem dX1_dropLast_10 : decode cX1_dropLast 10 = .ok (.iconst 1, 1) := dk_4 (dk_at dksX1_dropLast_0 10 rfl rfl)
theorem dX1_dropLast_11 : decode cX1_dropLast 11 = .ok (.goto 4, 3) := dk_167 0 4 (dk_at dksX1_dropLast_0 11 rfl rfl)
theorem dX1_dropLast_14 : decode cX1_dropLast 14 = .ok (.iconst 0, 1) := dk_3 (dk_at dksX1_dropLast_0 14 rfl rfl)
theorem dX1_dropLast_15 : decode cX1_dropLast 15 = .ok (.invokestatic 90, 3) := dk_184 0 90 (dk_at dksX1_dropLast_0 15 rfl rfl)
theorem dX1_dropLast_18 : decode cX1_dropLast 18 = .ok (.aload_n 0, 1) := dk_42 (dk_at dksX1_dropLast_0 18 rfl rfl)
theorem dX1_dropLast_19 : decode cX1_dropLast 19 = .ok (.invokevirtual 108, 3) := dk_182 0 108 (dk_at dksX1_dropLast_0 19 rfl rfl)
theorem dX1_dropLast_22 : decode cX1_dropLast 22 = .ok (.invokevirtual 171, 3) := dk_182 0 171 (dk_at dksX1_dropLast_1 0 rfl rfl)
theorem dX1_dropLast_25 : decode cX1_dropLast 25 = .ok (.ireturn, 1) := dk_172 (dk_at dksX1_dropLast_1 3 rfl rfl)
abbrev cX1_beginReading : ByteArray := prog_1_method_27_code
def yX1_beginReading : MethodName := ⟨RX1, "beginReading", "(I)I"⟩
def dkwX1_beginReading_1 : List UInt8 := [172]
abbrev dktX1_beginReading_1 : List UInt8 := dkwX1_beginReading_1 ++ []
def dkwX1_beginReading_0 : List UInt8 := [42, 27, 182, 0, 130, 77, 42, 180, 0, 29, 182, 0, 174, 184, 0, 90, 42, 182, 0, 108, 27, 182, 0, 177]
abbrev dktX1_beginReading_0 : List UInt8 := dkwX1_beginReading_0 ++ dktX1_beginReading_1
theorem dksX1_beginReading_0 : cX1_beginReading.data.toList.drop 0 = dktX1_beginReading_0 := by decide +kernel
theorem dksX1_beginReading_1 : cX1_beginReading.data.toList.drop 24 = dktX1_beginReading_1 := dk_seg dksX1_beginReading_0 24 rfl rfl
theorem dX1_beginReading_0 : decode cX1_beginReading 0 = .ok (.aload_n 0, 1) := dk_42 (dk_at dksX1_beginReading_0 0 rfl rfl)
theorem dX1_beginReading_1 : decode cX1_beginReading 1 = .ok (.iload_n 1, 1) := dk_27 (dk_at dksX1_beginReading_0 1 rfl rfl)
theorem dX1_beginReading_2 : decode cX1_beginReading 2 = .ok (.invokevirtual 130, 3) := dk_182 0 130 (dk_at dksX1_beginReading_0 2 rfl rfl)
theorem dX1_beginReading_5 : decode cX1_beginReading 5 = .ok (.astore_n 2, 1) := dk_77 (dk_at dksX1_beginReading_0 5 rfl rfl)
theorem dX1_beginReading_6 : decode cX1_beginReading 6 = .ok (.aload_n 0, 1) := dk_42 (dk_at dksX1_beginReading_0 6 rfl rfl)
theorem dX1_beginReading_7 : decode cX1_beginReading 7 = .ok (.getfield 29, 3) := dk_180 0 29 (dk_at dksX1_beginReading_0 7 rfl rfl)
theorem dX1_beginReading_10 : decode cX1_beginReading 10 = .ok (.invokevirtual 174, 3) := dk_182 0 174 (dk_at dksX1_beginReading_0 10 rfl rfl)
theorem dX1_beginReading_13 : decode cX1_beginReading 13 = .ok (.invokestatic 90, 3) := dk_184 0 90 (dk_at dksX1_beginReading_0 13 rfl rfl)
theorem dX1_beginReading_16 : decode cX1_beginReading 16 = .ok (.aload_n 0, 1) := dk_42 (dk_at dksX1_beginReading_0 16 rfl rfl)
theorem dX1_beginReading_17 : decode cX1_beginReading 17 = .ok (.invokevirtual 108, 3) := dk_182 0 108 (dk_at dksX1_beginReading_0 17 rfl rfl)
theorem dX1_beginReading_20 : decode cX1_beginReading 20 = .ok (.iload_n 1, 1) := dk_27 (dk_at dksX1_beginReading_0 20 rfl rfl)
theorem dX1_beginReading_21 : decode cX1_beginReading 21 = .ok (.invokevirtual 177, 3) := dk_182 0 177 (dk_at dksX1_beginReading_0 21 rfl rfl)
theorem dX1_beginReading_24 : decode cX1_beginReading 24 = .ok (.ireturn, 1) := dk_172 (dk_at dksX1_beginReading_1 0 rfl rfl)
abbrev cX1_read : ByteArray := prog_1_method_28_code
def yX1_read : MethodName := ⟨RX1, "read", "(I)I"⟩
def dkwX1_read_1 : List UInt8 := [42, 182, 0, 108, 77, 44, 44, 27, 182, 0, 79, 182, 0, 188, 172]
abbrev dktX1_read_1 : List UInt8 := dkwX1_read_1 ++ []
def dkwX1_read_0 : List UInt8 := [42, 180, 0, 29, 42, 27, 182, 0, 181, 182, 0, 184, 2, 159, 0, 7, 4, 167, 0, 4, 3, 184, 0, 90]
abbrev dktX1_read_0 : List UInt8 := dkwX1_read_0 ++ dktX1_read_1
theorem dksX1_read_0 : cX1_read.data.toList.drop 0 = dktX1_read_0 := by decide +kernel
theorem dksX1_read_1 : cX1_read.data.toList.drop 24 = dktX1_read_1 := dk_seg dksX1_read_0 24 rfl rfl
theorem dX1_read_0 : decode cX1_read 0 = .ok (.aload_n 0, 1) := dk_42 (dk_at dksX1_read_0 0 rfl rfl)
theorem dX1_read_1 : decode cX1_read 1 = .ok (.getfield 29, 3) := dk_180 0 29 (dk_at dksX1_read_0 1 rfl rfl)
theorem dX1_read_4 : decode cX1_read 4 = .ok (.aload_n 0, 1) := dk_42 (dk_at dksX1_read_0 4 rfl rfl)
theorem dX1_read_5 : decode cX1_read 5 = .ok (.iload_n 1, 1) := dk_27 (dk_at dksX1_read_0 5 rfl rfl)
theorem dX1_read_6 : decode cX1_read 6 = .ok (.invokevirtual 181, 3) := dk_182 0 181 (dk_at dksX1_read_0 6 rfl rfl)
theorem dX1_read_9 : decode cX1_read 9 = .ok (.invokevirtual 184, 3) := dk_182 0 184 (dk_at dksX1_read_0 9 rfl rfl)
theorem dX1_read_12 : decode cX1_read 12 = .ok (.iconst (-1), 1) := dk_2 (dk_at dksX1_read_0 12 rfl rfl)
theorem dX1_read_13 : decode cX1_read 13 = .ok (.if_icmp .eq 7, 3) := dk_159 0 7 (dk_at dksX1_read_0 13 rfl rfl)
theorem dX1_read_16 : decode cX1_read 16 = .ok (.iconst 1, 1) := dk_4 (dk_at dksX1_read_0 16 rfl rfl)
theorem dX1_read_17 : decode cX1_read 17 = .ok (.goto 4, 3) := dk_167 0 4 (dk_at dksX1_read_0 17 rfl rfl)
theorem dX1_read_20 : decode cX1_read 20 = .ok (.iconst 0, 1) := dk_3 (dk_at dksX1_read_0 20 rfl rfl)
theorem dX1_read_21 : decode cX1_read 21 = .ok (.invokestatic 90, 3) := dk_184 0 90 (dk_at dksX1_read_0 21 rfl rfl)
theorem dX1_read_24 : decode cX1_read 24 = .ok (.aload_n 0, 1) := dk_42 (dk_at dksX1_read_1 0 rfl rfl)
theorem dX1_read_25 : decode cX1_read 25 = .ok (.invokevirtual 108, 3) := dk_182 0 108 (dk_at dksX1_read_1 1 rfl rfl)
theorem dX1_read_28 : decode cX1_read 28 = .ok (.astore_n 2, 1) := dk_77 (dk_at dksX1_read_1 4 rfl rfl)
theorem dX1_read_29 : decode cX1_read 29 = .ok (.aload_n 2, 1) := dk_44 (dk_at dksX1_read_1 5 rfl rfl)
theorem dX1_read_30 : decode cX1_read 30 = .ok (.aload_n 2, 1) := dk_44 (dk_at dksX1_read_1 6 rfl rfl)
theorem dX1_read_31 : decode cX1_read 31 = .ok (.iload_n 1, 1) := dk_27 (dk_at dksX1_read_1 7 rfl rfl)
theorem dX1_read_32 : decode cX1_read 32 = .ok (.invokevirtual 79, 3) := dk_182 0 79 (dk_at dksX1_read_1 8 rfl rfl)
theorem dX1_read_35 : decode cX1_read 35 = .ok (.invokevirtual 188, 3) := dk_182 0 188 (dk_at dksX1_read_1 11 rfl rfl)
theorem dX1_read_38 : decode cX1_read 38 = .ok (.ireturn, 1) := dk_172 (dk_at dksX1_read_1 14 rfl rfl)
abbrev cX1_requireReader : ByteArray := prog_1_method_12_code
def yX1_requireReader : MethodName := ⟨RX1, "requireReader", "(I)LRuleLists$Reader;"⟩
def dkwX1_requireReader_0 : List UInt8 := [42, 180, 0, 29, 27, 182, 0, 76, 184, 0, 68, 42, 180, 0, 29, 27, 182, 0, 79, 176]
abbrev dktX1_requireReader_0 : List UInt8 := dkwX1_requireReader_0 ++ []
theorem dksX1_requireReader_0 : cX1_requireReader.data.toList.drop 0 = dktX1_requireReader_0 := by decide +kernel
theorem dX1_requireReader_0 : decode cX1_requireReader 0 = .ok (.aload_n 0, 1) := dk_42 (dk_at dksX1_requireReader_0 0 rfl rfl)
theorem dX1_requireReader_1 : decode cX1_requireReader 1 = .ok (.getfield 29, 3) := dk_180 0 29 (dk_at dksX1_requireReader_0 1 rfl rfl)
theorem dX1_requireReader_4 : decode cX1_requireReader 4 = .ok (.iload_n 1, 1) := dk_27 (dk_at dksX1_requireReader_0 4 rfl rfl)
theorem dX1_requireReader_5 : decode cX1_requireReader 5 = .ok (.invokevirtual 76, 3) := dk_182 0 76 (dk_at dksX1_requireReader_0 5 rfl rfl)
theorem dX1_requireReader_8 : decode cX1_requireReader 8 = .ok (.invokestatic 68, 3) := dk_184 0 68 (dk_at dksX1_requireReader_0 8 rfl rfl)
theorem dX1_requireReader_11 : decode cX1_requireReader 11 = .ok (.aload_n 0, 1) := dk_42 (dk_at dksX1_requireReader_0 11 rfl rfl)
theorem dX1_requireReader_12 : decode cX1_requireReader 12 = .ok (.getfield 29, 3) := dk_180 0 29 (dk_at dksX1_requireReader_0 12 rfl rfl)
theorem dX1_requireReader_15 : decode cX1_requireReader 15 = .ok (.iload_n 1, 1) := dk_27 (dk_at dksX1_requireReader_0 15 rfl rfl)
theorem dX1_requireReader_16 : decode cX1_requireReader 16 = .ok (.invokevirtual 79, 3) := dk_182 0 79 (dk_at dksX1_requireReader_0 16 rfl rfl)
theorem dX1_requireReader_19 : decode cX1_requireReader 19 = .ok (.areturn, 1) := dk_176 (dk_at dksX1_requireReader_0 19 rfl rfl)
abbrev cX1_skip : ByteArray := prog_1_method_29_code
def yX1_skip : MethodName := ⟨RX1, "skip", "(II)I"⟩
def dkwX1_skip_1 : List UInt8 := [25, 4, 27, 182, 0, 79, 28, 182, 0, 191, 172]
abbrev dktX1_skip_1 : List UInt8 := dkwX1_skip_1 ++ []
def dkwX1_skip_0 : List UInt8 := [42, 27, 182, 0, 181, 78, 28, 4, 16, 99, 184, 0, 15, 184, 0, 83, 42, 182, 0, 108, 58, 4, 25, 4]
abbrev dktX1_skip_0 : List UInt8 := dkwX1_skip_0 ++ dktX1_skip_1
theorem dksX1_skip_0 : cX1_skip.data.toList.drop 0 = dktX1_skip_0 := by decide +kernel
theorem dksX1_skip_1 : cX1_skip.data.toList.drop 24 = dktX1_skip_1 := dk_seg dksX1_skip_0 24 rfl rfl
theorem dX1_skip_0 : decode cX1_skip 0 = .ok (.aload_n 0, 1) := dk_42 (dk_at dksX1_skip_0 0 rfl rfl)
theorem dX1_skip_1 : decode cX1_skip 1 = .ok (.iload_n 1, 1) := dk_27 (dk_at dksX1_skip_0 1 rfl rfl)
theorem dX1_skip_2 : decode cX1_skip 2 = .ok (.invokevirtual 181, 3) := dk_182 0 181 (dk_at dksX1_skip_0 2 rfl rfl)
theorem dX1_skip_5 : decode cX1_skip 5 = .ok (.astore_n 3, 1) := dk_78 (dk_at dksX1_skip_0 5 rfl rfl)
theorem dX1_skip_6 : decode cX1_skip 6 = .ok (.iload_n 2, 1) := dk_28 (dk_at dksX1_skip_0 6 rfl rfl)
theorem dX1_skip_7 : decode cX1_skip 7 = .ok (.iconst 1, 1) := dk_4 (dk_at dksX1_skip_0 7 rfl rfl)
theorem dX1_skip_8 : decode cX1_skip 8 = .ok (.bipush 99, 2) := dk_16 99 (dk_at dksX1_skip_0 8 rfl rfl)
theorem dX1_skip_10 : decode cX1_skip 10 = .ok (.invokestatic 15, 3) := dk_184 0 15 (dk_at dksX1_skip_0 10 rfl rfl)
theorem dX1_skip_13 : decode cX1_skip 13 = .ok (.invokestatic 83, 3) := dk_184 0 83 (dk_at dksX1_skip_0 13 rfl rfl)
theorem dX1_skip_16 : decode cX1_skip 16 = .ok (.aload_n 0, 1) := dk_42 (dk_at dksX1_skip_0 16 rfl rfl)
theorem dX1_skip_17 : decode cX1_skip 17 = .ok (.invokevirtual 108, 3) := dk_182 0 108 (dk_at dksX1_skip_0 17 rfl rfl)
theorem dX1_skip_20 : decode cX1_skip 20 = .ok (.astore 4, 2) := dk_58 4 (dk_at dksX1_skip_0 20 rfl rfl)
theorem dX1_skip_22 : decode cX1_skip 22 = .ok (.aload 4, 2) := dk_25 4 (dk_at dksX1_skip_0 22 rfl rfl)
theorem dX1_skip_24 : decode cX1_skip 24 = .ok (.aload 4, 2) := dk_25 4 (dk_at dksX1_skip_1 0 rfl rfl)
theorem dX1_skip_26 : decode cX1_skip 26 = .ok (.iload_n 1, 1) := dk_27 (dk_at dksX1_skip_1 2 rfl rfl)
theorem dX1_skip_27 : decode cX1_skip 27 = .ok (.invokevirtual 79, 3) := dk_182 0 79 (dk_at dksX1_skip_1 3 rfl rfl)
theorem dX1_skip_30 : decode cX1_skip 30 = .ok (.iload_n 2, 1) := dk_28 (dk_at dksX1_skip_1 6 rfl rfl)
theorem dX1_skip_31 : decode cX1_skip 31 = .ok (.invokevirtual 191, 3) := dk_182 0 191 (dk_at dksX1_skip_1 7 rfl rfl)
theorem dX1_skip_34 : decode cX1_skip 34 = .ok (.ireturn, 1) := dk_172 (dk_at dksX1_skip_1 10 rfl rfl)
abbrev cX1_goBack : ByteArray := prog_1_method_30_code
def yX1_goBack : MethodName := ⟨RX1, "goBack", "(I)I"⟩
def dkwX1_goBack_0 : List UInt8 := [42, 27, 182, 0, 181, 77, 42, 182, 0, 108, 78, 45, 45, 27, 182, 0, 79, 182, 0, 195, 172]
abbrev dktX1_goBack_0 : List UInt8 := dkwX1_goBack_0 ++ []
theorem dksX1_goBack_0 : cX1_goBack.data.toList.drop 0 = dktX1_goBack_0 := by decide +kernel
theorem dX1_goBack_0 : decode cX1_goBack 0 = .ok (.aload_n 0, 1) := dk_42 (dk_at dksX1_goBack_0 0 rfl rfl)
theorem dX1_goBack_1 : decode cX1_goBack 1 = .ok (.iload_n 1, 1) := dk_27 (dk_at dksX1_goBack_0 1 rfl rfl)
theorem dX1_goBack_2 : decode cX1_goBack 2 = .ok (.invokevirtual 181, 3) := dk_182 0 181 (dk_at dksX1_goBack_0 2 rfl rfl)
theorem dX1_goBack_5 : decode cX1_goBack 5 = .ok (.astore_n 2, 1) := dk_77 (dk_at dksX1_goBack_0 5 rfl rfl)
theorem dX1_goBack_6 : decode cX1_goBack 6 = .ok (.aload_n 0, 1) := dk_42 (dk_at dksX1_goBack_0 6 rfl rfl)
theorem dX1_goBack_7 : decode cX1_goBack 7 = .ok (.invokevirtual 108, 3) := dk_182 0 108 (dk_at dksX1_goBack_0 7 rfl rfl)
theorem dX1_goBack_10 : decode cX1_goBack 10 = .ok (.astore_n 3, 1) := dk_78 (dk_at dksX1_goBack_0 10 rfl rfl)
theorem dX1_goBack_11 : decode cX1_goBack 11 = .ok (.aload_n 3, 1) := dk_45 (dk_at dksX1_goBack_0 11 rfl rfl)
theorem dX1_goBack_12 : decode cX1_goBack 12 = .ok (.aload_n 3, 1) := dk_45 (dk_at dksX1_goBack_0 12 rfl rfl)
theorem dX1_goBack_13 : decode cX1_goBack 13 = .ok (.iload_n 1, 1) := dk_27 (dk_at dksX1_goBack_0 13 rfl rfl)
theorem dX1_goBack_14 : decode cX1_goBack 14 = .ok (.invokevirtual 79, 3) := dk_182 0 79 (dk_at dksX1_goBack_0 14 rfl rfl)
theorem dX1_goBack_17 : decode cX1_goBack 17 = .ok (.invokevirtual 195, 3) := dk_182 0 195 (dk_at dksX1_goBack_0 17 rfl rfl)
theorem dX1_goBack_20 : decode cX1_goBack 20 = .ok (.ireturn, 1) := dk_172 (dk_at dksX1_goBack_0 20 rfl rfl)
abbrev cX1_stopReading : ByteArray := prog_1_method_31_code
def yX1_stopReading : MethodName := ⟨RX1, "stopReading", "(I)I"⟩
def dkwX1_stopReading_0 : List UInt8 := [42, 27, 182, 0, 181, 77, 42, 182, 0, 108, 27, 182, 0, 198, 172]
abbrev dktX1_stopReading_0 : List UInt8 := dkwX1_stopReading_0 ++ []
theorem dksX1_stopReading_0 : cX1_stopReading.data.toList.drop 0 = dktX1_stopReading_0 := by decide +kernel
theorem dX1_stopReading_0 : decode cX1_stopReading 0 = .ok (.aload_n 0, 1) := dk_42 (dk_at dksX1_stopReading_0 0 rfl rfl)
theorem dX1_stopReading_1 : decode cX1_stopReading 1 = .ok (.iload_n 1, 1) := dk_27 (dk_at dksX1_stopReading_0 1 rfl rfl)
theorem dX1_stopReading_2 : decode cX1_stopReading 2 = .ok (.invokevirtual 181, 3) := dk_182 0 181 (dk_at dksX1_stopReading_0 2 rfl rfl)
theorem dX1_stopReading_5 : decode cX1_stopReading 5 = .ok (.astore_n 2, 1) := dk_77 (dk_at dksX1_stopReading_0 5 rfl rfl)
theorem dX1_stopReading_6 : decode cX1_stopReading 6 = .ok (.aload_n 0, 1) := dk_42 (dk_at dksX1_stopReading_0 6 rfl rfl)
theorem dX1_stopReading_7 : decode cX1_stopReading 7 = .ok (.invokevirtual 108, 3) := dk_182 0 108 (dk_at dksX1_stopReading_0 7 rfl rfl)
theorem dX1_stopReading_10 : decode cX1_stopReading 10 = .ok (.iload_n 1, 1) := dk_27 (dk_at dksX1_stopReading_0 10 rfl rfl)
theorem dX1_stopReading_11 : decode cX1_stopReading 11 = .ok (.invokevirtual 198, 3) := dk_182 0 198 (dk_at dksX1_stopReading_0 11 rfl rfl)
theorem dX1_stopReading_14 : decode cX1_stopReading 14 = .ok (.ireturn, 1) := dk_172 (dk_at dksX1_stopReading_0 14 rfl rfl)
abbrev cX1_undo : ByteArray := prog_1_method_32_code
def yX1_undo : MethodName := ⟨RX1, "undo", "()I"⟩
def dkwX1_undo_1 : List UInt8 := [180, 0, 36, 185, 0, 204, 1, 0, 192, 0, 26, 181, 0, 29, 42, 180, 0, 36, 185, 0, 48, 1, 0, 172]
abbrev dktX1_undo_1 : List UInt8 := dkwX1_undo_1 ++ []
def dkwX1_undo_0 : List UInt8 := [42, 180, 0, 36, 185, 0, 201, 1, 0, 154, 0, 7, 4, 167, 0, 4, 3, 184, 0, 90, 42, 42]
abbrev dktX1_undo_0 : List UInt8 := dkwX1_undo_0 ++ dktX1_undo_1
theorem dksX1_undo_0 : cX1_undo.data.toList.drop 0 = dktX1_undo_0 := by decide +kernel
theorem dksX1_undo_1 : cX1_undo.data.toList.drop 22 = dktX1_undo_1 := dk_seg dksX1_undo_0 22 rfl rfl
theorem dX1_undo_0 : decode cX1_undo 0 = .ok (.aload_n 0, 1) := dk_42 (dk_at dksX1_undo_0 0 rfl rfl)
theorem dX1_undo_1 : decode cX1_undo 1 = .ok (.getfield 36, 3) := dk_180 0 36 (dk_at dksX1_undo_0 1 rfl rfl)
theorem dX1_undo_4 : decode cX1_undo 4 = .ok (.invokeinterface 201 1, 5) := by decide +kernel
theorem dX1_undo_9 : decode cX1_undo 9 = .ok (.ifCond .ne 7, 3) := dk_154 0 7 (dk_at dksX1_undo_0 9 rfl rfl)
theorem dX1_undo_12 : decode cX1_undo 12 = .ok (.iconst 1, 1) := dk_4 (dk_at dksX1_undo_0 12 rfl rfl)
theorem dX1_undo_13 : decode cX1_undo 13 = .ok (.goto 4, 3) := dk_167 0 4 (dk_at dksX1_undo_0 13 rfl rfl)
theorem dX1_undo_16 : decode cX1_undo 16 = .ok (.iconst 0, 1) := dk_3 (dk_at dksX1_undo_0 16 rfl rfl)
theorem dX1_undo_17 : decode cX1_undo 17 = .ok (.invokestatic 90, 3) := dk_184 0 90 (dk_at dksX1_undo_0 17 rfl rfl)
theorem dX1_undo_20 : decode cX1_undo 20 = .ok (.aload_n 0, 1) := dk_42 (dk_at dksX1_undo_0 20 rfl rfl)
theorem dX1_undo_21 : decode cX1_undo 21 = .ok (.aload_n 0, 1) := dk_42 (dk_at dksX1_undo_0 21 rfl rfl)
theorem dX1_undo_22 : decode cX1_undo 22 = .ok (.getfield 36, 3) := dk_180 0 36 (dk_at dksX1_undo_1 0 rfl rfl)
theorem dX1_undo_25 : decode cX1_undo 25 = .ok (.invokeinterface 204 1, 5) := by decide +kernel
theorem dX1_undo_30 : decode cX1_undo 30 = .ok (.checkcast 26, 3) := dk_192 0 26 (dk_at dksX1_undo_1 8 rfl rfl)
theorem dX1_undo_33 : decode cX1_undo 33 = .ok (.putfield 29, 3) := dk_181 0 29 (dk_at dksX1_undo_1 11 rfl rfl)
theorem dX1_undo_36 : decode cX1_undo 36 = .ok (.aload_n 0, 1) := dk_42 (dk_at dksX1_undo_1 14 rfl rfl)
theorem dX1_undo_37 : decode cX1_undo 37 = .ok (.getfield 36, 3) := dk_180 0 36 (dk_at dksX1_undo_1 15 rfl rfl)
theorem dX1_undo_40 : decode cX1_undo 40 = .ok (.invokeinterface 48 1, 5) := by decide +kernel
theorem dX1_undo_45 : decode cX1_undo 45 = .ok (.ireturn, 1) := dk_172 (dk_at dksX1_undo_1 23 rfl rfl)
abbrev cX1_isMember : ByteArray := prog_1_method_34_code
def yX1_isMember : MethodName := ⟨RX1, "isMember", "(II)Z"⟩
def dkwX1_isMember_0 : List UInt8 := [42, 27, 182, 0, 130, 78, 28, 184, 0, 19, 184, 0, 83, 45, 28, 182, 0, 214, 172]
abbrev dktX1_isMember_0 : List UInt8 := dkwX1_isMember_0 ++ []
theorem dksX1_isMember_0 : cX1_isMember.data.toList.drop 0 = dktX1_isMember_0 := by decide +kernel
theorem dX1_isMember_0 : decode cX1_isMember 0 = .ok (.aload_n 0, 1) := dk_42 (dk_at dksX1_isMember_0 0 rfl rfl)
theorem dX1_isMember_1 : decode cX1_isMember 1 = .ok (.iload_n 1, 1) := dk_27 (dk_at dksX1_isMember_0 1 rfl rfl)
theorem dX1_isMember_2 : decode cX1_isMember 2 = .ok (.invokevirtual 130, 3) := dk_182 0 130 (dk_at dksX1_isMember_0 2 rfl rfl)
theorem dX1_isMember_5 : decode cX1_isMember 5 = .ok (.astore_n 3, 1) := dk_78 (dk_at dksX1_isMember_0 5 rfl rfl)
theorem dX1_isMember_6 : decode cX1_isMember 6 = .ok (.iload_n 2, 1) := dk_28 (dk_at dksX1_isMember_0 6 rfl rfl)
theorem dX1_isMember_7 : decode cX1_isMember 7 = .ok (.invokestatic 19, 3) := dk_184 0 19 (dk_at dksX1_isMember_0 7 rfl rfl)
theorem dX1_isMember_10 : decode cX1_isMember 10 = .ok (.invokestatic 83, 3) := dk_184 0 83 (dk_at dksX1_isMember_0 10 rfl rfl)
theorem dX1_isMember_13 : decode cX1_isMember 13 = .ok (.aload_n 3, 1) := dk_45 (dk_at dksX1_isMember_0 13 rfl rfl)
theorem dX1_isMember_14 : decode cX1_isMember 14 = .ok (.iload_n 2, 1) := dk_28 (dk_at dksX1_isMember_0 14 rfl rfl)
theorem dX1_isMember_15 : decode cX1_isMember 15 = .ok (.invokevirtual 214, 3) := dk_182 0 214 (dk_at dksX1_isMember_0 15 rfl rfl)
theorem dX1_isMember_18 : decode cX1_isMember 18 = .ok (.ireturn, 1) := dk_172 (dk_at dksX1_isMember_0 18 rfl rfl)
abbrev cX1_memberByReading : ByteArray := prog_1_method_35_code
def yX1_memberByReading : MethodName := ⟨RX1, "memberByReading", "(II)I"⟩
def dkwX1_memberByReading_1 : List UInt8 := [180, 0, 29, 27, 28, 182, 0, 219, 172]
abbrev dktX1_memberByReading_1 : List UInt8 := dkwX1_memberByReading_1 ++ []
def dkwX1_memberByReading_0 : List UInt8 := [42, 180, 0, 29, 27, 182, 0, 65, 153, 0, 11, 28, 155, 0, 7, 4, 167, 0, 4, 3, 184, 0, 68, 42]
abbrev dktX1_memberByReading_0 : List UInt8 := dkwX1_memberByReading_0 ++ dktX1_memberByReading_1
theorem dksX1_memberByReading_0 : cX1_memberByReading.data.toList.drop 0 = dktX1_memberByReading_0 := by decide +kernel
theorem dksX1_memberByReading_1 : cX1_memberByReading.data.toList.drop 24 = dktX1_memberByReading_1 := dk_seg dksX1_memberByReading_0 24 rfl rfl
theorem dX1_memberByReading_0 : decode cX1_memberByReading 0 = .ok (.aload_n 0, 1) := dk_42 (dk_at dksX1_memberByReading_0 0 rfl rfl)
theorem dX1_memberByReading_1 : decode cX1_memberByReading 1 = .ok (.getfield 29, 3) := dk_180 0 29 (dk_at dksX1_memberByReading_0 1 rfl rfl)
theorem dX1_memberByReading_4 : decode cX1_memberByReading 4 = .ok (.iload_n 1, 1) := dk_27 (dk_at dksX1_memberByReading_0 4 rfl rfl)
theorem dX1_memberByReading_5 : decode cX1_memberByReading 5 = .ok (.invokevirtual 65, 3) := dk_182 0 65 (dk_at dksX1_memberByReading_0 5 rfl rfl)
theorem dX1_memberByReading_8 : decode cX1_memberByReading 8 = .ok (.ifCond .eq 11, 3) := dk_153 0 11 (dk_at dksX1_memberByReading_0 8 rfl rfl)
theorem dX1_memberByReading_11 : decode cX1_memberByReading 11 = .ok (.iload_n 2, 1) := dk_28 (dk_at dksX1_memberByReading_0 11 rfl rfl)
theorem dX1_memberByReading_12 : decode cX1_memberByReading 12 = .ok (.ifCond .lt 7, 3) := dk_155 0 7 (dk_at dksX1_memberByReading_0 12 rfl rfl)
theorem dX1_memberByReading_15 : decode cX1_memberByReading 15 = .ok (.iconst 1, 1) := dk_4 (dk_at dksX1_memberByReading_0 15 rfl rfl)
theorem dX1_memberByReading_16 : decode cX1_memberByReading 16 = .ok (.goto 4, 3) := dk_167 0 4 (dk_at dksX1_memberByReading_0 16 rfl rfl)
theorem dX1_memberByReading_19 : decode cX1_memberByReading 19 = .ok (.iconst 0, 1) := dk_3 (dk_at dksX1_memberByReading_0 19 rfl rfl)
theorem dX1_memberByReading_20 : decode cX1_memberByReading 20 = .ok (.invokestatic 68, 3) := dk_184 0 68 (dk_at dksX1_memberByReading_0 20 rfl rfl)
theorem dX1_memberByReading_23 : decode cX1_memberByReading 23 = .ok (.aload_n 0, 1) := dk_42 (dk_at dksX1_memberByReading_0 23 rfl rfl)
theorem dX1_memberByReading_24 : decode cX1_memberByReading 24 = .ok (.getfield 29, 3) := dk_180 0 29 (dk_at dksX1_memberByReading_1 0 rfl rfl)
theorem dX1_memberByReading_27 : decode cX1_memberByReading 27 = .ok (.iload_n 1, 1) := dk_27 (dk_at dksX1_memberByReading_1 3 rfl rfl)
theorem dX1_memberByReading_28 : decode cX1_memberByReading 28 = .ok (.iload_n 2, 1) := dk_28 (dk_at dksX1_memberByReading_1 4 rfl rfl)
theorem dX1_memberByReading_29 : decode cX1_memberByReading 29 = .ok (.invokevirtual 219, 3) := dk_182 0 219 (dk_at dksX1_memberByReading_1 5 rfl rfl)
theorem dX1_memberByReading_32 : decode cX1_memberByReading 32 = .ok (.ireturn, 1) := dk_172 (dk_at dksX1_memberByReading_1 8 rfl rfl)
abbrev cX1_memberByTesting : ByteArray := prog_1_method_36_code
def yX1_memberByTesting : MethodName := ⟨RX1, "memberByTesting", "(II)I"⟩
def dkwX1_memberByTesting_1 : List UInt8 := [180, 0, 29, 27, 28, 182, 0, 223, 172]
abbrev dktX1_memberByTesting_1 : List UInt8 := dkwX1_memberByTesting_1 ++ []
def dkwX1_memberByTesting_0 : List UInt8 := [42, 180, 0, 29, 27, 182, 0, 65, 153, 0, 11, 28, 155, 0, 7, 4, 167, 0, 4, 3, 184, 0, 68, 42]
abbrev dktX1_memberByTesting_0 : List UInt8 := dkwX1_memberByTesting_0 ++ dktX1_memberByTesting_1
theorem dksX1_memberByTesting_0 : cX1_memberByTesting.data.toList.drop 0 = dktX1_memberByTesting_0 := by decide +kernel
theorem dksX1_memberByTesting_1 : cX1_memberByTesting.data.toList.drop 24 = dktX1_memberByTesting_1 := dk_seg dksX1_memberByTesting_0 24 rfl rfl
theorem dX1_memberByTesting_0 : decode cX1_memberByTesting 0 = .ok (.aload_n 0, 1) := dk_42 (dk_at dksX1_memberByTesting_0 0 rfl rfl)
theorem dX1_memberByTesting_1 : decode cX1_memberByTesting 1 = .ok (.getfield 29, 3) := dk_180 0 29 (dk_at dksX1_memberByTesting_0 1 rfl rfl)
theorem dX1_memberByTesting_4 : decode cX1_memberByTesting 4 = .ok (.iload_n 1, 1) := dk_27 (dk_at dksX1_memberByTesting_0 4 rfl rfl)
theorem dX1_memberByTesting_5 : decode cX1_memberByTesting 5 = .ok (.invokevirtual 65, 3) := dk_182 0 65 (dk_at dksX1_memberByTesting_0 5 rfl rfl)
theorem dX1_memberByTesting_8 : decode cX1_memberByTesting 8 = .ok (.ifCond .eq 11, 3) := dk_153 0 11 (dk_at dksX1_memberByTesting_0 8 rfl rfl)
theorem dX1_memberByTesting_11 : decode cX1_memberByTesting 11 = .ok (.iload_n 2, 1) := dk_28 (dk_at dksX1_memberByTesting_0 11 rfl rfl)
theorem dX1_memberByTesting_12 : decode cX1_memberByTesting 12 = .ok (.ifCond .lt 7, 3) := dk_155 0 7 (dk_at dksX1_memberByTesting_0 12 rfl rfl)
theorem dX1_memberByTesting_15 : decode cX1_memberByTesting 15 = .ok (.iconst 1, 1) := dk_4 (dk_at dksX1_memberByTesting_0 15 rfl rfl)
theorem dX1_memberByTesting_16 : decode cX1_memberByTesting 16 = .ok (.goto 4, 3) := dk_167 0 4 (dk_at dksX1_memberByTesting_0 16 rfl rfl)
theorem dX1_memberByTesting_19 : decode cX1_memberByTesting 19 = .ok (.iconst 0, 1) := dk_3 (dk_at dksX1_memberByTesting_0 19 rfl rfl)
theorem dX1_memberByTesting_20 : decode cX1_memberByTesting 20 = .ok (.invokestatic 68, 3) := dk_184 0 68 (dk_at dksX1_memberByTesting_0 20 rfl rfl)
theorem dX1_memberByTesting_23 : decode cX1_memberByTesting 23 = .ok (.aload_n 0, 1) := dk_42 (dk_at dksX1_memberByTesting_0 23 rfl rfl)
theorem dX1_memberByTesting_24 : decode cX1_memberByTesting 24 = .ok (.getfield 29, 3) := dk_180 0 29 (dk_at dksX1_memberByTesting_1 0 rfl rfl)
theorem dX1_memberByTesting_27 : decode cX1_memberByTesting 27 = .ok (.iload_n 1, 1) := dk_27 (dk_at dksX1_memberByTesting_1 3 rfl rfl)
theorem dX1_memberByTesting_28 : decode cX1_memberByTesting 28 = .ok (.iload_n 2, 1) := dk_28 (dk_at dksX1_memberByTesting_1 4 rfl rfl)
theorem dX1_memberByTesting_29 : decode cX1_memberByTesting 29 = .ok (.invokevirtual 223, 3) := dk_182 0 223 (dk_at dksX1_memberByTesting_1 5 rfl rfl)
theorem dX1_memberByTesting_32 : decode cX1_memberByTesting 32 = .ok (.ireturn, 1) := dk_172 (dk_at dksX1_memberByTesting_1 8 rfl rfl)
abbrev cX1_placeOf : ByteArray := prog_1_method_37_code
def yX1_placeOf : MethodName := ⟨RX1, "placeOf", "(II)I"⟩
def dkwX1_placeOf_1 : List UInt8 := [180, 0, 29, 27, 28, 182, 0, 226, 4, 100, 167, 0, 4, 2, 172]
abbrev dktX1_placeOf_1 : List UInt8 := dkwX1_placeOf_1 ++ []
def dkwX1_placeOf_0 : List UInt8 := [42, 27, 182, 0, 130, 78, 28, 184, 0, 19, 184, 0, 83, 45, 28, 182, 0, 214, 153, 0, 17, 42]
abbrev dktX1_placeOf_0 : List UInt8 := dkwX1_placeOf_0 ++ dktX1_placeOf_1
theorem dksX1_placeOf_0 : cX1_placeOf.data.toList.drop 0 = dktX1_placeOf_0 := by decide +kernel
theorem dksX1_placeOf_1 : cX1_placeOf.data.toList.drop 22 = dktX1_placeOf_1 := dk_seg dksX1_placeOf_0 22 rfl rfl
theorem dX1_placeOf_0 : decode cX1_placeOf 0 = .ok (.aload_n 0, 1) := dk_42 (dk_at dksX1_placeOf_0 0 rfl rfl)
theorem dX1_placeOf_1 : decode cX1_placeOf 1 = .ok (.iload_n 1, 1) := dk_27 (dk_at dksX1_placeOf_0 1 rfl rfl)
theorem dX1_placeOf_2 : decode cX1_placeOf 2 = .ok (.invokevirtual 130, 3) := dk_182 0 130 (dk_at dksX1_placeOf_0 2 rfl rfl)
theorem dX1_placeOf_5 : decode cX1_placeOf 5 = .ok (.astore_n 3, 1) := dk_78 (dk_at dksX1_placeOf_0 5 rfl rfl)
theorem dX1_placeOf_6 : decode cX1_placeOf 6 = .ok (.iload_n 2, 1) := dk_28 (dk_at dksX1_placeOf_0 6 rfl rfl)
theorem dX1_placeOf_7 : decode cX1_placeOf 7 = .ok (.invokestatic 19, 3) := dk_184 0 19 (dk_at dksX1_placeOf_0 7 rfl rfl)
theorem dX1_placeOf_10 : decode cX1_placeOf 10 = .ok (.invokestatic 83, 3) := dk_184 0 83 (dk_at dksX1_placeOf_0 10 rfl rfl)
theorem dX1_placeOf_13 : decode cX1_placeOf 13 = .ok (.aload_n 3, 1) := dk_45 (dk_at dksX1_placeOf_0 13 rfl rfl)
theorem dX1_placeOf_14 : decode cX1_placeOf 14 = .ok (.iload_n 2, 1) := dk_28 (dk_at dksX1_placeOf_0 14 rfl rfl)
theorem dX1_placeOf_15 : decode cX1_placeOf 15 = .ok (.invokevirtual 214, 3) := dk_182 0 214 (dk_at dksX1_placeOf_0 15 rfl rfl)
theorem dX1_placeOf_18 : decode cX1_placeOf 18 = .ok (.ifCond .eq 17, 3) := dk_153 0 17 (dk_at dksX1_placeOf_0 18 rfl rfl)
theorem dX1_placeOf_21 : decode cX1_placeOf 21 = .ok (.aload_n 0, 1) := dk_42 (dk_at dksX1_placeOf_0 21 rfl rfl)
theorem dX1_placeOf_22 : decode cX1_placeOf 22 = .ok (.getfield 29, 3) := dk_180 0 29 (dk_at dksX1_placeOf_1 0 rfl rfl)
theorem dX1_placeOf_25 : decode cX1_placeOf 25 = .ok (.iload_n 1, 1) := dk_27 (dk_at dksX1_placeOf_1 3 rfl rfl)
theorem dX1_placeOf_26 : decode cX1_placeOf 26 = .ok (.iload_n 2, 1) := dk_28 (dk_at dksX1_placeOf_1 4 rfl rfl)
theorem dX1_placeOf_27 : decode cX1_placeOf 27 = .ok (.invokevirtual 226, 3) := dk_182 0 226 (dk_at dksX1_placeOf_1 5 rfl rfl)
theorem dX1_placeOf_30 : decode cX1_placeOf 30 = .ok (.iconst 1, 1) := dk_4 (dk_at dksX1_placeOf_1 8 rfl rfl)
theorem dX1_placeOf_31 : decode cX1_placeOf 31 = .ok (.isub, 1) := dk_100 (dk_at dksX1_placeOf_1 9 rfl rfl)
theorem dX1_placeOf_32 : decode cX1_placeOf 32 = .ok (.goto 4, 3) := dk_167 0 4 (dk_at dksX1_placeOf_1 10 rfl rfl)
theorem dX1_placeOf_35 : decode cX1_placeOf 35 = .ok (.iconst (-1), 1) := dk_2 (dk_at dksX1_placeOf_1 13 rfl rfl)
theorem dX1_placeOf_36 : decode cX1_placeOf 36 = .ok (.ireturn, 1) := dk_172 (dk_at dksX1_placeOf_1 14 rfl rfl)
abbrev cX1_membersUpTo : ByteArray := prog_1_method_38_code
def yX1_membersUpTo : MethodName := ⟨RX1, "membersUpTo", "(II)I"⟩
def dkwX1_membersUpTo_0 : List UInt8 := [42, 27, 182, 0, 130, 78, 28, 184, 0, 19, 184, 0, 83, 42, 180, 0, 29, 27, 28, 182, 0, 226, 172]
abbrev dktX1_membersUpTo_0 : List UInt8 := dkwX1_membersUpTo_0 ++ []
theorem dksX1_membersUpTo_0 : cX1_membersUpTo.data.toList.drop 0 = dktX1_membersUpTo_0 := by decide +kernel
theorem dX1_membersUpTo_0 : decode cX1_membersUpTo 0 = .ok (.aload_n 0, 1) := dk_42 (dk_at dksX1_membersUpTo_0 0 rfl rfl)
theorem dX1_membersUpTo_1 : decode cX1_membersUpTo 1 = .ok (.iload_n 1, 1) := dk_27 (dk_at dksX1_membersUpTo_0 1 rfl rfl)
theorem dX1_membersUpTo_2 : decode cX1_membersUpTo 2 = .ok (.invokevirtual 130, 3) := dk_182 0 130 (dk_at dksX1_membersUpTo_0 2 rfl rfl)
theorem dX1_membersUpTo_5 : decode cX1_membersUpTo 5 = .ok (.astore_n 3, 1) := dk_78 (dk_at dksX1_membersUpTo_0 5 rfl rfl)
theorem dX1_membersUpTo_6 : decode cX1_membersUpTo 6 = .ok (.iload_n 2, 1) := dk_28 (dk_at dksX1_membersUpTo_0 6 rfl rfl)
theorem dX1_membersUpTo_7 : decode cX1_membersUpTo 7 = .ok (.invokestatic 19, 3) := dk_184 0 19 (dk_at dksX1_membersUpTo_0 7 rfl rfl)
theorem dX1_membersUpTo_10 : decode cX1_membersUpTo 10 = .ok (.invokestatic 83, 3) := dk_184 0 83 (dk_at dksX1_membersUpTo_0 10 rfl rfl)
theorem dX1_membersUpTo_13 : decode cX1_membersUpTo 13 = .ok (.aload_n 0, 1) := dk_42 (dk_at dksX1_membersUpTo_0 13 rfl rfl)
theorem dX1_membersUpTo_14 : decode cX1_membersUpTo 14 = .ok (.getfield 29, 3) := dk_180 0 29 (dk_at dksX1_membersUpTo_0 14 rfl rfl)
theorem dX1_membersUpTo_17 : decode cX1_membersUpTo 17 = .ok (.iload_n 1, 1) := dk_27 (dk_at dksX1_membersUpTo_0 17 rfl rfl)
theorem dX1_membersUpTo_18 : decode cX1_membersUpTo 18 = .ok (.iload_n 2, 1) := dk_28 (dk_at dksX1_membersUpTo_0 18 rfl rfl)
theorem dX1_membersUpTo_19 : decode cX1_membersUpTo 19 = .ok (.invokevirtual 226, 3) := dk_182 0 226 (dk_at dksX1_membersUpTo_0 19 rfl rfl)
theorem dX1_membersUpTo_22 : decode cX1_membersUpTo 22 = .ok (.ireturn, 1) := dk_172 (dk_at dksX1_membersUpTo_0 22 rfl rfl)
abbrev cX1_lastMember : ByteArray := prog_1_method_39_code
def yX1_lastMember : MethodName := ⟨RX1, "lastMember", "(I)I"⟩
def dkwX1_lastMember_0 : List UInt8 := [42, 27, 182, 0, 130, 77, 42, 180, 0, 29, 27, 182, 0, 229, 172]
abbrev dktX1_lastMember_0 : List UInt8 := dkwX1_lastMember_0 ++ []
theorem dksX1_lastMember_0 : cX1_lastMember.data.toList.drop 0 = dktX1_lastMember_0 := by decide +kernel
theorem dX1_lastMember_0 : decode cX1_lastMember 0 = .ok (.aload_n 0, 1) := dk_42 (dk_at dksX1_lastMember_0 0 rfl rfl)
theorem dX1_lastMember_1 : decode cX1_lastMember 1 = .ok (.iload_n 1, 1) := dk_27 (dk_at dksX1_lastMember_0 1 rfl rfl)
theorem dX1_lastMember_2 : decode cX1_lastMember 2 = .ok (.invokevirtual 130, 3) := dk_182 0 130 (dk_at dksX1_lastMember_0 2 rfl rfl)
theorem dX1_lastMember_5 : decode cX1_lastMember 5 = .ok (.astore_n 2, 1) := dk_77 (dk_at dksX1_lastMember_0 5 rfl rfl)
theorem dX1_lastMember_6 : decode cX1_lastMember 6 = .ok (.aload_n 0, 1) := dk_42 (dk_at dksX1_lastMember_0 6 rfl rfl)
theorem dX1_lastMember_7 : decode cX1_lastMember 7 = .ok (.getfield 29, 3) := dk_180 0 29 (dk_at dksX1_lastMember_0 7 rfl rfl)
theorem dX1_lastMember_10 : decode cX1_lastMember 10 = .ok (.iload_n 1, 1) := dk_27 (dk_at dksX1_lastMember_0 10 rfl rfl)
theorem dX1_lastMember_11 : decode cX1_lastMember 11 = .ok (.invokevirtual 229, 3) := dk_182 0 229 (dk_at dksX1_lastMember_0 11 rfl rfl)
theorem dX1_lastMember_14 : decode cX1_lastMember 14 = .ok (.ireturn, 1) := dk_172 (dk_at dksX1_lastMember_0 14 rfl rfl)
abbrev cX1_firstShared : ByteArray := prog_1_method_40_code
def yX1_firstShared : MethodName := ⟨RX1, "firstShared", "(II)I"⟩
def dkwX1_firstShared_1 : List UInt8 := [167, 0, 4, 3, 184, 0, 68, 42, 180, 0, 29, 27, 28, 182, 0, 232, 172]
abbrev dktX1_firstShared_1 : List UInt8 := dkwX1_firstShared_1 ++ []
def dkwX1_firstShared_0 : List UInt8 := [42, 180, 0, 29, 27, 182, 0, 65, 153, 0, 18, 42, 180, 0, 29, 28, 182, 0, 65, 153, 0, 7, 4]
abbrev dktX1_firstShared_0 : List UInt8 := dkwX1_firstShared_0 ++ dktX1_firstShared_1
theorem dksX1_firstShared_0 : cX1_firstShared.data.toList.drop 0 = dktX1_firstShared_0 := by decide +kernel
theorem dksX1_firstShared_1 : cX1_firstShared.data.toList.drop 23 = dktX1_firstShared_1 := dk_seg dksX1_firstShared_0 23 rfl rfl
theorem dX1_firstShared_0 : decode cX1_firstShared 0 = .ok (.aload_n 0, 1) := dk_42 (dk_at dksX1_firstShared_0 0 rfl rfl)
theorem dX1_firstShared_1 : decode cX1_firstShared 1 = .ok (.getfield 29, 3) := dk_180 0 29 (dk_at dksX1_firstShared_0 1 rfl rfl)
theorem dX1_firstShared_4 : decode cX1_firstShared 4 = .ok (.iload_n 1, 1) := dk_27 (dk_at dksX1_firstShared_0 4 rfl rfl)
theorem dX1_firstShared_5 : decode cX1_firstShared 5 = .ok (.invokevirtual 65, 3) := dk_182 0 65 (dk_at dksX1_firstShared_0 5 rfl rfl)
theorem dX1_firstShared_8 : decode cX1_firstShared 8 = .ok (.ifCond .eq 18, 3) := dk_153 0 18 (dk_at dksX1_firstShared_0 8 rfl rfl)
theorem dX1_firstShared_11 : decode cX1_firstShared 11 = .ok (.aload_n 0, 1) := dk_42 (dk_at dksX1_firstShared_0 11 rfl rfl)
theorem dX1_firstShared_12 : decode cX1_firstShared 12 = .ok (.getfield 29, 3) := dk_180 0 29 (dk_at dksX1_firstShared_0 12 rfl rfl)
theorem dX1_firstShared_15 : decode cX1_firstShared 15 = .ok (.iload_n 2, 1) := dk_28 (dk_at dksX1_firstShared_0 15 rfl rfl)
theorem dX1_firstShared_16 : decode cX1_firstShared 16 = .ok (.invokevirtual 65, 3) := dk_182 0 65 (dk_at dksX1_firstShared_0 16 rfl rfl)
theorem dX1_firstShared_19 : decode cX1_firstShared 19 = .ok (.ifCond .eq 7, 3) := dk_153 0 7 (dk_at dksX1_firstShared_0 19 rfl rfl)
theorem dX1_firstShared_22 : decode cX1_firstShared 22 = .ok (.iconst 1, 1) := dk_4 (dk_at dksX1_firstShared_0 22 rfl rfl)
theorem dX1_firstShared_23 : decode cX1_firstShared 23 = .ok (.goto 4, 3) := dk_167 0 4 (dk_at dksX1_firstShared_1 0 rfl rfl)
theorem dX1_firstShared_26 : decode cX1_firstShared 26 = .ok (.iconst 0, 1) := dk_3 (dk_at dksX1_firstShared_1 3 rfl rfl)
theorem dX1_firstShared_27 : decode cX1_firstShared 27 = .ok (.invokestatic 68, 3) := dk_184 0 68 (dk_at dksX1_firstShared_1 4 rfl rfl)
theorem dX1_firstShared_30 : decode cX1_firstShared 30 = .ok (.aload_n 0, 1) := dk_42 (dk_at dksX1_firstShared_1 7 rfl rfl)
theorem dX1_firstShared_31 : decode cX1_firstShared 31 = .ok (.getfield 29, 3) := dk_180 0 29 (dk_at dksX1_firstShared_1 8 rfl rfl)
theorem dX1_firstShared_34 : decode cX1_firstShared 34 = .ok (.iload_n 1, 1) := dk_27 (dk_at dksX1_firstShared_1 11 rfl rfl)
theorem dX1_firstShared_35 : decode cX1_firstShared 35 = .ok (.iload_n 2, 1) := dk_28 (dk_at dksX1_firstShared_1 12 rfl rfl)
theorem dX1_firstShared_36 : decode cX1_firstShared 36 = .ok (.invokevirtual 232, 3) := dk_182 0 232 (dk_at dksX1_firstShared_1 13 rfl rfl)
theorem dX1_firstShared_39 : decode cX1_firstShared 39 = .ok (.ireturn, 1) := dk_172 (dk_at dksX1_firstShared_1 16 rfl rfl)
abbrev cX1_widestGap : ByteArray := prog_1_method_41_code
def yX1_widestGap : MethodName := ⟨RX1, "widestGap", "(I)I"⟩
def dkwX1_widestGap_0 : List UInt8 := [42, 27, 182, 0, 130, 77, 42, 180, 0, 29, 27, 182, 0, 235, 172]
abbrev dktX1_widestGap_0 : List UInt8 := dkwX1_widestGap_0 ++ []
theorem dksX1_widestGap_0 : cX1_widestGap.data.toList.drop 0 = dktX1_widestGap_0 := by decide +kernel
theorem dX1_widestGap_0 : decode cX1_widestGap 0 = .ok (.aload_n 0, 1) := dk_42 (dk_at dksX1_widestGap_0 0 rfl rfl)
theorem dX1_widestGap_1 : decode cX1_widestGap 1 = .ok (.iload_n 1, 1) := dk_27 (dk_at dksX1_widestGap_0 1 rfl rfl)
theorem dX1_widestGap_2 : decode cX1_widestGap 2 = .ok (.invokevirtual 130, 3) := dk_182 0 130 (dk_at dksX1_widestGap_0 2 rfl rfl)
theorem dX1_widestGap_5 : decode cX1_widestGap 5 = .ok (.astore_n 2, 1) := dk_77 (dk_at dksX1_widestGap_0 5 rfl rfl)
theorem dX1_widestGap_6 : decode cX1_widestGap 6 = .ok (.aload_n 0, 1) := dk_42 (dk_at dksX1_widestGap_0 6 rfl rfl)
theorem dX1_widestGap_7 : decode cX1_widestGap 7 = .ok (.getfield 29, 3) := dk_180 0 29 (dk_at dksX1_widestGap_0 7 rfl rfl)
theorem dX1_widestGap_10 : decode cX1_widestGap 10 = .ok (.iload_n 1, 1) := dk_27 (dk_at dksX1_widestGap_0 10 rfl rfl)
theorem dX1_widestGap_11 : decode cX1_widestGap 11 = .ok (.invokevirtual 235, 3) := dk_182 0 235 (dk_at dksX1_widestGap_0 11 rfl rfl)
theorem dX1_widestGap_14 : decode cX1_widestGap 14 = .ok (.ireturn, 1) := dk_172 (dk_at dksX1_widestGap_0 14 rfl rfl)
abbrev cX1_listOf : ByteArray := prog_1_method_43_code
def yX1_listOf : MethodName := ⟨RX1, "listOf", "(I)I"⟩
def dkwX1_listOf_0 : List UInt8 := [42, 27, 182, 0, 181, 180, 0, 241, 172]
abbrev dktX1_listOf_0 : List UInt8 := dkwX1_listOf_0 ++ []
theorem dksX1_listOf_0 : cX1_listOf.data.toList.drop 0 = dktX1_listOf_0 := by decide +kernel
theorem dX1_listOf_0 : decode cX1_listOf 0 = .ok (.aload_n 0, 1) := dk_42 (dk_at dksX1_listOf_0 0 rfl rfl)
theorem dX1_listOf_1 : decode cX1_listOf 1 = .ok (.iload_n 1, 1) := dk_27 (dk_at dksX1_listOf_0 1 rfl rfl)
theorem dX1_listOf_2 : decode cX1_listOf 2 = .ok (.invokevirtual 181, 3) := dk_182 0 181 (dk_at dksX1_listOf_0 2 rfl rfl)
theorem dX1_listOf_5 : decode cX1_listOf 5 = .ok (.getfield 241, 3) := dk_180 0 241 (dk_at dksX1_listOf_0 5 rfl rfl)
theorem dX1_listOf_8 : decode cX1_listOf 8 = .ok (.ireturn, 1) := dk_172 (dk_at dksX1_listOf_0 8 rfl rfl)
abbrev cX1_readSoFar : ByteArray := prog_1_method_44_code
def yX1_readSoFar : MethodName := ⟨RX1, "readSoFar", "(I)I"⟩
def dkwX1_readSoFar_0 : List UInt8 := [42, 27, 182, 0, 181, 180, 0, 246, 172]
abbrev dktX1_readSoFar_0 : List UInt8 := dkwX1_readSoFar_0 ++ []
theorem dksX1_readSoFar_0 : cX1_readSoFar.data.toList.drop 0 = dktX1_readSoFar_0 := by decide +kernel
theorem dX1_readSoFar_0 : decode cX1_readSoFar 0 = .ok (.aload_n 0, 1) := dk_42 (dk_at dksX1_readSoFar_0 0 rfl rfl)
theorem dX1_readSoFar_1 : decode cX1_readSoFar 1 = .ok (.iload_n 1, 1) := dk_27 (dk_at dksX1_readSoFar_0 1 rfl rfl)
theorem dX1_readSoFar_2 : decode cX1_readSoFar 2 = .ok (.invokevirtual 181, 3) := dk_182 0 181 (dk_at dksX1_readSoFar_0 2 rfl rfl)
theorem dX1_readSoFar_5 : decode cX1_readSoFar 5 = .ok (.getfield 246, 3) := dk_180 0 246 (dk_at dksX1_readSoFar_0 5 rfl rfl)
theorem dX1_readSoFar_8 : decode cX1_readSoFar 8 = .ok (.ireturn, 1) := dk_172 (dk_at dksX1_readSoFar_0 8 rfl rfl)
abbrev cX1_nextOf : ByteArray := prog_1_method_45_code
def yX1_nextOf : MethodName := ⟨RX1, "nextOf", "(I)I"⟩
def dkwX1_nextOf_0 : List UInt8 := [42, 180, 0, 29, 42, 27, 182, 0, 181, 182, 0, 184, 172]
abbrev dktX1_nextOf_0 : List UInt8 := dkwX1_nextOf_0 ++ []
theorem dksX1_nextOf_0 : cX1_nextOf.data.toList.drop 0 = dktX1_nextOf_0 := by decide +kernel
theorem dX1_nextOf_0 : decode cX1_nextOf 0 = .ok (.aload_n 0, 1) := dk_42 (dk_at dksX1_nextOf_0 0 rfl rfl)
theorem dX1_nextOf_1 : decode cX1_nextOf 1 = .ok (.getfield 29, 3) := dk_180 0 29 (dk_at dksX1_nextOf_0 1 rfl rfl)
theorem dX1_nextOf_4 : decode cX1_nextOf 4 = .ok (.aload_n 0, 1) := dk_42 (dk_at dksX1_nextOf_0 4 rfl rfl)
theorem dX1_nextOf_5 : decode cX1_nextOf 5 = .ok (.iload_n 1, 1) := dk_27 (dk_at dksX1_nextOf_0 5 rfl rfl)
theorem dX1_nextOf_6 : decode cX1_nextOf 6 = .ok (.invokevirtual 181, 3) := dk_182 0 181 (dk_at dksX1_nextOf_0 6 rfl rfl)
theorem dX1_nextOf_9 : decode cX1_nextOf 9 = .ok (.invokevirtual 184, 3) := dk_182 0 184 (dk_at dksX1_nextOf_0 9 rfl rfl)
theorem dX1_nextOf_12 : decode cX1_nextOf 12 = .ok (.ireturn, 1) := dk_172 (dk_at dksX1_nextOf_0 12 rfl rfl)
abbrev cX1_firstOfPairByWalking : ByteArray := prog_1_method_48_code
def yX1_firstOfPairByWalking : MethodName := ⟨RX1, "firstOfPairByWalking", "(I)I"⟩
def dkwX1_firstOfPairByWalking_2 : List UInt8 := [167, 0, 6, 29, 4, 100, 62, 132, 4, 1, 167, 255, 215, 28, 172]
abbrev dktX1_firstOfPairByWalking_2 : List UInt8 := dkwX1_firstOfPairByWalking_2 ++ []
def dkwX1_firstOfPairByWalking_1 : List UInt8 := [29, 96, 54, 5, 29, 154, 0, 7, 3, 167, 0, 6, 28, 4, 96, 61, 29, 154, 0, 10, 21, 5, 4, 96]
abbrev dktX1_firstOfPairByWalking_1 : List UInt8 := dkwX1_firstOfPairByWalking_1 ++ dktX1_firstOfPairByWalking_2
def dkwX1_firstOfPairByWalking_0 : List UInt8 := [27, 3, 18, 255, 184, 0, 15, 184, 0, 83, 3, 61, 3, 62, 3, 54, 4, 21, 4, 27, 162, 0, 41, 28]
abbrev dktX1_firstOfPairByWalking_0 : List UInt8 := dkwX1_firstOfPairByWalking_0 ++ dktX1_firstOfPairByWalking_1
theorem dksX1_firstOfPairByWalking_0 : cX1_firstOfPairByWalking.data.toList.drop 0 = dktX1_firstOfPairByWalking_0 := by decide +kernel
theorem dksX1_firstOfPairByWalking_1 : cX1_firstOfPairByWalking.data.toList.drop 24 = dktX1_firstOfPairByWalking_1 := dk_seg dksX1_firstOfPairByWalking_0 24 rfl rfl
theorem dksX1_firstOfPairByWalking_2 : cX1_firstOfPairByWalking.data.toList.drop 48 = dktX1_firstOfPairByWalking_2 := dk_seg dksX1_firstOfPairByWalking_1 24 rfl rfl
theorem dX1_firstOfPairByWalking_0 : decode cX1_firstOfPairByWalking 0 = .ok (.iload_n 1, 1) := dk_27 (dk_at dksX1_firstOfPairByWalking_0 0 rfl rfl)
theorem dX1_firstOfPairByWalking_1 : decode cX1_firstOfPairByWalking 1 = .ok (.iconst 0, 1) := dk_3 (dk_at dksX1_firstOfPairByWalking_0 1 rfl rfl)
theorem dX1_firstOfPairByWalking_2 : decode cX1_firstOfPairByWalking 2 = .ok (.ldc 255, 2) := dk_18 255 (dk_at dksX1_firstOfPairByWalking_0 2 rfl rfl)
theorem dX1_firstOfPairByWalking_4 : decode cX1_firstOfPairByWalking 4 = .ok (.invokestatic 15, 3) := dk_184 0 15 (dk_at dksX1_firstOfPairByWalking_0 4 rfl rfl)
theorem dX1_firstOfPairByWalking_7 : decode cX1_firstOfPairByWalking 7 = .ok (.invokestatic 83, 3) := dk_184 0 83 (dk_at dksX1_firstOfPairByWalking_0 7 rfl rfl)
theorem dX1_firstOfPairByWalking_10 : decode cX1_firstOfPairByWalking 10 = .ok (.iconst 0, 1) := dk_3 (dk_at dksX1_firstOfPairByWalking_0 10 rfl rfl)
theorem dX1_firstOfPairByWalking_11 : decode cX1_firstOfPairByWalking 11 = .ok (.istore_n 2, 1) := dk_61 (dk_at dksX1_firstOfPairByWalking_0 11 rfl rfl)
theorem dX1_firstOfPairByWalking_12 : decode cX1_firstOfPairByWalking 12 = .ok (.iconst 0, 1) := dk_3 (dk_at dksX1_firstOfPairByWalking_0 12 rfl rfl)
theorem dX1_firstOfPairByWalking_13 : decode cX1_firstOfPairByWalking 13 = .ok (.istore_n 3, 1) := dk_62 (dk_at dksX1_firstOfPairByWalking_0 13 rfl rfl)
theorem dX1_firstOfPairByWalking_14 : decode cX1_firstOfPairByWalking 14 = .ok (.iconst 0, 1) := dk_3 (dk_at dksX1_firstOfPairByWalking_0 14 rfl rfl)
theorem dX1_firstOfPairByWalking_15 : decode cX1_firstOfPairByWalking 15 = .ok (.istore 4, 2) := dk_54 4 (dk_at dksX1_firstOfPairByWalking_0 15 rfl rfl)
theorem dX1_firstOfPairByWalking_17 : decode cX1_firstOfPairByWalking 17 = .ok (.iload 4, 2) := dk_21 4 (dk_at dksX1_firstOfPairByWalking_0 17 rfl rfl)
theorem dX1_firstOfPairByWalking_19 : decode cX1_firstOfPairByWalking 19 = .ok (.iload_n 1, 1) := dk_27 (dk_at dksX1_firstOfPairByWalking_0 19 rfl rfl)
theorem dX1_firstOfPairByWalking_20 : decode cX1_firstOfPairByWalking 20 = .ok (.if_icmp .ge 41, 3) := dk_162 0 41 (dk_at dksX1_firstOfPairByWalking_0 20 rfl rfl)
theorem dX1_firstOfPairByWalking_23 : decode cX1_firstOfPairByWalking 23 = .ok (.iload_n 2, 1) := dk_28 (dk_at dksX1_firstOfPairByWalking_0 23 rfl rfl)
theorem dX1_firstOfPairByWalking_24 : decode cX1_firstOfPairByWalking 24 = .ok (.iload_n 3, 1) := dk_29 (dk_at dksX1_firstOfPairByWalking_1 0 rfl rfl)
theorem dX1_firstOfPairByWalking_25 : decode cX1_firstOfPairByWalking 25 = .ok (.iadd, 1) := dk_96 (dk_at dksX1_firstOfPairByWalking_1 1 rfl rfl)
theorem dX1_firstOfPairByWalking_26 : decode cX1_firstOfPairByWalking 26 = .ok (.istore 5, 2) := dk_54 5 (dk_at dksX1_firstOfPairByWalking_1 2 rfl rfl)
theorem dX1_firstOfPairByWalking_28 : decode cX1_firstOfPairByWalking 28 = .ok (.iload_n 3, 1) := dk_29 (dk_at dksX1_firstOfPairByWalking_1 4 rfl rfl)
theorem dX1_firstOfPairByWalking_29 : decode cX1_firstOfPairByWalking 29 = .ok (.ifCond .ne 7, 3) := dk_154 0 7 (dk_at dksX1_firstOfPairByWalking_1 5 rfl rfl)
theorem dX1_firstOfPairByWalking_32 : decode cX1_firstOfPairByWalking 32 = .ok (.iconst 0, 1) := dk_3 (dk_at dksX1_firstOfPairByWalking_1 8 rfl rfl)
theorem dX1_firstOfPairByWalking_33 : decode cX1_firstOfPairByWalking 33 = .ok (.goto 6, 3) := dk_167 0 6 (dk_at dksX1_firstOfPairByWalking_1 9 rfl rfl)
theorem dX1_firstOfPairByWalking_36 : decode cX1_firstOfPairByWalking 36 = .ok (.iload_n 2, 1) := dk_28 (dk_at dksX1_firstOfPairByWalking_1 12 rfl rfl)
theorem dX1_firstOfPairByWalking_37 : decode cX1_firstOfPairByWalking 37 = .ok (.iconst 1, 1) := dk_4 (dk_at dksX1_firstOfPairByWalking_1 13 rfl rfl)
theorem dX1_firstOfPairByWalking_38 : decode cX1_firstOfPairByWalking 38 = .ok (.iadd, 1) := dk_96 (dk_at dksX1_firstOfPairByWalking_1 14 rfl rfl)
theorem dX1_firstOfPairByWalking_39 : decode cX1_firstOfPairByWalking 39 = .ok (.istore_n 2, 1) := dk_61 (dk_at dksX1_firstOfPairByWalking_1 15 rfl rfl)
theorem dX1_firstOfPairByWalking_40 : decode cX1_firstOfPairByWalking 40 = .ok (.iload_n 3, 1) := dk_29 (dk_at dksX1_firstOfPairByWalking_1 16 rfl rfl)
theorem dX1_firstOfPairByWalking_41 : decode cX1_firstOfPairByWalking 41 = .ok (.ifCond .ne 10, 3) := dk_154 0 10 (dk_at dksX1_firstOfPairByWalking_1 17 rfl rfl)
theorem dX1_firstOfPairByWalking_44 : decode cX1_firstOfPairByWalking 44 = .ok (.iload 5, 2) := dk_21 5 (dk_at dksX1_firstOfPairByWalking_1 20 rfl rfl)
theorem dX1_firstOfPairByWalking_46 : decode cX1_firstOfPairByWalking 46 = .ok (.iconst 1, 1) := dk_4 (dk_at dksX1_firstOfPairByWalking_1 22 rfl rfl)
theorem dX1_firstOfPairByWalking_47 : decode cX1_firstOfPairByWalking 47 = .ok (.iadd, 1) := dk_96 (dk_at dksX1_firstOfPairByWalking_1 23 rfl rfl)
theorem dX1_firstOfPairByWalking_48 : decode cX1_firstOfPairByWalking 48 = .ok (.goto 6, 3) := dk_167 0 6 (dk_at dksX1_firstOfPairByWalking_2 0 rfl rfl)
theorem dX1_firstOfPairByWalking_51 : decode cX1_firstOfPairByWalking 51 = .ok (.iload_n 3, 1) := dk_29 (dk_at dksX1_firstOfPairByWalking_2 3 rfl rfl)
theorem dX1_firstOfPairByWalking_52 : decode cX1_firstOfPairByWalking 52 = .ok (.iconst 1, 1) := dk_4 (dk_at dksX1_firstOfPairByWalking_2 4 rfl rfl)
theorem dX1_firstOfPairByWalking_53 : decode cX1_firstOfPairByWalking 53 = .ok (.isub, 1) := dk_100 (dk_at dksX1_firstOfPairByWalking_2 5 rfl rfl)
theorem dX1_firstOfPairByWalking_54 : decode cX1_firstOfPairByWalking 54 = .ok (.istore_n 3, 1) := dk_62 (dk_at dksX1_firstOfPairByWalking_2 6 rfl rfl)
theorem dX1_firstOfPairByWalking_55 : decode cX1_firstOfPairByWalking 55 = .ok (.iinc 4 1, 3) := dk_132 4 1 (dk_at dksX1_firstOfPairByWalking_2 7 rfl rfl)
theorem dX1_firstOfPairByWalking_58 : decode cX1_firstOfPairByWalking 58 = .ok (.goto (-41), 3) := dk_167 255 215 (dk_at dksX1_firstOfPairByWalking_2 10 rfl rfl)
theorem dX1_firstOfPairByWalking_61 : decode cX1_firstOfPairByWalking 61 = .ok (.iload_n 2, 1) := dk_28 (dk_at dksX1_firstOfPairByWalking_2 13 rfl rfl)
theorem dX1_firstOfPairByWalking_62 : decode cX1_firstOfPairByWalking 62 = .ok (.ireturn, 1) := dk_172 (dk_at dksX1_firstOfPairByWalking_2 14 rfl rfl)
abbrev cX1_firstOfPairByCounting : ByteArray := prog_1_method_49_code
def yX1_firstOfPairByCounting : MethodName := ⟨RX1, "firstOfPairByCounting", "(I)I"⟩
def dkwX1_firstOfPairByCounting_1 : List UInt8 := [163, 0, 9, 132, 2, 1, 167, 255, 240, 27, 28, 28, 4, 96, 104, 5, 108, 100, 172]
abbrev dktX1_firstOfPairByCounting_1 : List UInt8 := dkwX1_firstOfPairByCounting_1 ++ []
def dkwX1_firstOfPairByCounting_0 : List UInt8 := [27, 3, 18, 255, 184, 0, 15, 184, 0, 83, 3, 61, 28, 4, 96, 28, 5, 96, 104, 5, 108, 27]
abbrev dktX1_firstOfPairByCounting_0 : List UInt8 := dkwX1_firstOfPairByCounting_0 ++ dktX1_firstOfPairByCounting_1
theorem dksX1_firstOfPairByCounting_0 : cX1_firstOfPairByCounting.data.toList.drop 0 = dktX1_firstOfPairByCounting_0 := by decide +kernel
theorem dksX1_firstOfPairByCounting_1 : cX1_firstOfPairByCounting.data.toList.drop 22 = dktX1_firstOfPairByCounting_1 := dk_seg dksX1_firstOfPairByCounting_0 22 rfl rfl
theorem dX1_firstOfPairByCounting_0 : decode cX1_firstOfPairByCounting 0 = .ok (.iload_n 1, 1) := dk_27 (dk_at dksX1_firstOfPairByCounting_0 0 rfl rfl)
theorem dX1_firstOfPairByCounting_1 : decode cX1_firstOfPairByCounting 1 = .ok (.iconst 0, 1) := dk_3 (dk_at dksX1_firstOfPairByCounting_0 1 rfl rfl)
theorem dX1_firstOfPairByCounting_2 : decode cX1_firstOfPairByCounting 2 = .ok (.ldc 255, 2) := dk_18 255 (dk_at dksX1_firstOfPairByCounting_0 2 rfl rfl)
theorem dX1_firstOfPairByCounting_4 : decode cX1_firstOfPairByCounting 4 = .ok (.invokestatic 15, 3) := dk_184 0 15 (dk_at dksX1_firstOfPairByCounting_0 4 rfl rfl)
theorem dX1_firstOfPairByCounting_7 : decode cX1_firstOfPairByCounting 7 = .ok (.invokestatic 83, 3) := dk_184 0 83 (dk_at dksX1_firstOfPairByCounting_0 7 rfl rfl)
theorem dX1_firstOfPairByCounting_10 : decode cX1_firstOfPairByCounting 10 = .ok (.iconst 0, 1) := dk_3 (dk_at dksX1_firstOfPairByCounting_0 10 rfl rfl)
theorem dX1_firstOfPairByCounting_11 : decode cX1_firstOfPairByCounting 11 = .ok (.istore_n 2, 1) := dk_61 (dk_at dksX1_firstOfPairByCounting_0 11 rfl rfl)
theorem dX1_firstOfPairByCounting_12 : decode cX1_firstOfPairByCounting 12 = .ok (.iload_n 2, 1) := dk_28 (dk_at dksX1_firstOfPairByCounting_0 12 rfl rfl)
theorem dX1_firstOfPairByCounting_13 : decode cX1_firstOfPairByCounting 13 = .ok (.iconst 1, 1) := dk_4 (dk_at dksX1_firstOfPairByCounting_0 13 rfl rfl)
theorem dX1_firstOfPairByCounting_14 : decode cX1_firstOfPairByCounting 14 = .ok (.iadd, 1) := dk_96 (dk_at dksX1_firstOfPairByCounting_0 14 rfl rfl)
theorem dX1_firstOfPairByCounting_15 : decode cX1_firstOfPairByCounting 15 = .ok (.iload_n 2, 1) := dk_28 (dk_at dksX1_firstOfPairByCounting_0 15 rfl rfl)
theorem dX1_firstOfPairByCounting_16 : decode cX1_firstOfPairByCounting 16 = .ok (.iconst 2, 1) := dk_5 (dk_at dksX1_firstOfPairByCounting_0 16 rfl rfl)
theorem dX1_firstOfPairByCounting_17 : decode cX1_firstOfPairByCounting 17 = .ok (.iadd, 1) := dk_96 (dk_at dksX1_firstOfPairByCounting_0 17 rfl rfl)
theorem dX1_firstOfPairByCounting_18 : decode cX1_firstOfPairByCounting 18 = .ok (.imul, 1) := dk_104 (dk_at dksX1_firstOfPairByCounting_0 18 rfl rfl)
theorem dX1_firstOfPairByCounting_19 : decode cX1_firstOfPairByCounting 19 = .ok (.iconst 2, 1) := dk_5 (dk_at dksX1_firstOfPairByCounting_0 19 rfl rfl)
theorem dX1_firstOfPairByCounting_20 : decode cX1_firstOfPairByCounting 20 = .ok (.idiv, 1) := dk_108 (dk_at dksX1_firstOfPairByCounting_0 20 rfl rfl)
theorem dX1_firstOfPairByCounting_21 : decode cX1_firstOfPairByCounting 21 = .ok (.iload_n 1, 1) := dk_27 (dk_at dksX1_firstOfPairByCounting_0 21 rfl rfl)
theorem dX1_firstOfPairByCounting_22 : decode cX1_firstOfPairByCounting 22 = .ok (.if_icmp .gt 9, 3) := dk_163 0 9 (dk_at dksX1_firstOfPairByCounting_1 0 rfl rfl)
theorem dX1_firstOfPairByCounting_25 : decode cX1_firstOfPairByCounting 25 = .ok (.iinc 2 1, 3) := dk_132 2 1 (dk_at dksX1_firstOfPairByCounting_1 3 rfl rfl)
theorem dX1_firstOfPairByCounting_28 : decode cX1_firstOfPairByCounting 28 = .ok (.goto (-16), 3) := dk_167 255 240 (dk_at dksX1_firstOfPairByCounting_1 6 rfl rfl)
theorem dX1_firstOfPairByCounting_31 : decode cX1_firstOfPairByCounting 31 = .ok (.iload_n 1, 1) := dk_27 (dk_at dksX1_firstOfPairByCounting_1 9 rfl rfl)
theorem dX1_firstOfPairByCounting_32 : decode cX1_firstOfPairByCounting 32 = .ok (.iload_n 2, 1) := dk_28 (dk_at dksX1_firstOfPairByCounting_1 10 rfl rfl)
theorem dX1_firstOfPairByCounting_33 : decode cX1_firstOfPairByCounting 33 = .ok (.iload_n 2, 1) := dk_28 (dk_at dksX1_firstOfPairByCounting_1 11 rfl rfl)
theorem dX1_firstOfPairByCounting_34 : decode cX1_firstOfPairByCounting 34 = .ok (.iconst 1, 1) := dk_4 (dk_at dksX1_firstOfPairByCounting_1 12 rfl rfl)
theorem dX1_firstOfPairByCounting_35 : decode cX1_firstOfPairByCounting 35 = .ok (.iadd, 1) := dk_96 (dk_at dksX1_firstOfPairByCounting_1 13 rfl rfl)
theorem dX1_firstOfPairByCounting_36 : decode cX1_firstOfPairByCounting 36 = .ok (.imul, 1) := dk_104 (dk_at dksX1_firstOfPairByCounting_1 14 rfl rfl)
theorem dX1_firstOfPairByCounting_37 : decode cX1_firstOfPairByCounting 37 = .ok (.iconst 2, 1) := dk_5 (dk_at dksX1_firstOfPairByCounting_1 15 rfl rfl)
theorem dX1_firstOfPairByCounting_38 : decode cX1_firstOfPairByCounting 38 = .ok (.idiv, 1) := dk_108 (dk_at dksX1_firstOfPairByCounting_1 16 rfl rfl)
theorem dX1_firstOfPairByCounting_39 : decode cX1_firstOfPairByCounting 39 = .ok (.isub, 1) := dk_100 (dk_at dksX1_firstOfPairByCounting_1 17 rfl rfl)
theorem dX1_firstOfPairByCounting_40 : decode cX1_firstOfPairByCounting 40 = .ok (.ireturn, 1) := dk_172 (dk_at dksX1_firstOfPairByCounting_1 18 rfl rfl)
abbrev cX1_numberOfPair : ByteArray := prog_1_method_50_code
def yX1_numberOfPair : MethodName := ⟨RX1, "numberOfPair", "(II)I"⟩
def dkwX1_numberOfPair_1 : List UInt8 := [167, 0, 4, 3, 184, 0, 83, 27, 28, 96, 62, 29, 29, 4, 96, 104, 5, 108, 27, 96, 172]
abbrev dktX1_numberOfPair_1 : List UInt8 := dkwX1_numberOfPair_1 ++ []
def dkwX1_numberOfPair_0 : List UInt8 := [27, 3, 17, 0, 200, 184, 0, 15, 153, 0, 18, 28, 3, 17, 0, 200, 184, 0, 15, 153, 0, 7, 4]
abbrev dktX1_numberOfPair_0 : List UInt8 := dkwX1_numberOfPair_0 ++ dktX1_numberOfPair_1
theorem dksX1_numberOfPair_0 : cX1_numberOfPair.data.toList.drop 0 = dktX1_numberOfPair_0 := by decide +kernel
theorem dksX1_numberOfPair_1 : cX1_numberOfPair.data.toList.drop 23 = dktX1_numberOfPair_1 := dk_seg dksX1_numberOfPair_0 23 rfl rfl
theorem dX1_numberOfPair_0 : decode cX1_numberOfPair 0 = .ok (.iload_n 1, 1) := dk_27 (dk_at dksX1_numberOfPair_0 0 rfl rfl)
theorem dX1_numberOfPair_1 : decode cX1_numberOfPair 1 = .ok (.iconst 0, 1) := dk_3 (dk_at dksX1_numberOfPair_0 1 rfl rfl)
theorem dX1_numberOfPair_2 : decode cX1_numberOfPair 2 = .ok (.sipush 200, 3) := dk_17 0 200 (dk_at dksX1_numberOfPair_0 2 rfl rfl)
theorem dX1_numberOfPair_5 : decode cX1_numberOfPair 5 = .ok (.invokestatic 15, 3) := dk_184 0 15 (dk_at dksX1_numberOfPair_0 5 rfl rfl)
theorem dX1_numberOfPair_8 : decode cX1_numberOfPair 8 = .ok (.ifCond .eq 18, 3) := dk_153 0 18 (dk_at dksX1_numberOfPair_0 8 rfl rfl)
theorem dX1_numberOfPair_11 : decode cX1_numberOfPair 11 = .ok (.iload_n 2, 1) := dk_28 (dk_at dksX1_numberOfPair_0 11 rfl rfl)
theorem dX1_numberOfPair_12 : decode cX1_numberOfPair 12 = .ok (.iconst 0, 1) := dk_3 (dk_at dksX1_numberOfPair_0 12 rfl rfl)
theorem dX1_numberOfPair_13 : decode cX1_numberOfPair 13 = .ok (.sipush 200, 3) := dk_17 0 200 (dk_at dksX1_numberOfPair_0 13 rfl rfl)
theorem dX1_numberOfPair_16 : decode cX1_numberOfPair 16 = .ok (.invokestatic 15, 3) := dk_184 0 15 (dk_at dksX1_numberOfPair_0 16 rfl rfl)
theorem dX1_numberOfPair_19 : decode cX1_numberOfPair 19 = .ok (.ifCond .eq 7, 3) := dk_153 0 7 (dk_at dksX1_numberOfPair_0 19 rfl rfl)
theorem dX1_numberOfPair_22 : decode cX1_numberOfPair 22 = .ok (.iconst 1, 1) := dk_4 (dk_at dksX1_numberOfPair_0 22 rfl rfl)
theorem dX1_numberOfPair_23 : decode cX1_numberOfPair 23 = .ok (.goto 4, 3) := dk_167 0 4 (dk_at dksX1_numberOfPair_1 0 rfl rfl)
theorem dX1_numberOfPair_26 : decode cX1_numberOfPair 26 = .ok (.iconst 0, 1) := dk_3 (dk_at dksX1_numberOfPair_1 3 rfl rfl)
theorem dX1_numberOfPair_27 : decode cX1_numberOfPair 27 = .ok (.invokestatic 83, 3) := dk_184 0 83 (dk_at dksX1_numberOfPair_1 4 rfl rfl)
theorem dX1_numberOfPair_30 : decode cX1_numberOfPair 30 = .ok (.iload_n 1, 1) := dk_27 (dk_at dksX1_numberOfPair_1 7 rfl rfl)
theorem dX1_numberOfPair_31 : decode cX1_numberOfPair 31 = .ok (.iload_n 2, 1) := dk_28 (dk_at dksX1_numberOfPair_1 8 rfl rfl)
theorem dX1_numberOfPair_32 : decode cX1_numberOfPair 32 = .ok (.iadd, 1) := dk_96 (dk_at dksX1_numberOfPair_1 9 rfl rfl)
theorem dX1_numberOfPair_33 : decode cX1_numberOfPair 33 = .ok (.istore_n 3, 1) := dk_62 (dk_at dksX1_numberOfPair_1 10 rfl rfl)
theorem dX1_numberOfPair_34 : decode cX1_numberOfPair 34 = .ok (.iload_n 3, 1) := dk_29 (dk_at dksX1_numberOfPair_1 11 rfl rfl)
theorem dX1_numberOfPair_35 : decode cX1_numberOfPair 35 = .ok (.iload_n 3, 1) := dk_29 (dk_at dksX1_numberOfPair_1 12 rfl rfl)
theorem dX1_numberOfPair_36 : decode cX1_numberOfPair 36 = .ok (.iconst 1, 1) := dk_4 (dk_at dksX1_numberOfPair_1 13 rfl rfl)
theorem dX1_numberOfPair_37 : decode cX1_numberOfPair 37 = .ok (.iadd, 1) := dk_96 (dk_at dksX1_numberOfPair_1 14 rfl rfl)
theorem dX1_numberOfPair_38 : decode cX1_numberOfPair 38 = .ok (.imul, 1) := dk_104 (dk_at dksX1_numberOfPair_1 15 rfl rfl)
theorem dX1_numberOfPair_39 : decode cX1_numberOfPair 39 = .ok (.iconst 2, 1) := dk_5 (dk_at dksX1_numberOfPair_1 16 rfl rfl)
theorem dX1_numberOfPair_40 : decode cX1_numberOfPair 40 = .ok (.idiv, 1) := dk_108 (dk_at dksX1_numberOfPair_1 17 rfl rfl)
theorem dX1_numberOfPair_41 : decode cX1_numberOfPair 41 = .ok (.iload_n 1, 1) := dk_27 (dk_at dksX1_numberOfPair_1 18 rfl rfl)
theorem dX1_numberOfPair_42 : decode cX1_numberOfPair 42 = .ok (.iadd, 1) := dk_96 (dk_at dksX1_numberOfPair_1 19 rfl rfl)
theorem dX1_numberOfPair_43 : decode cX1_numberOfPair 43 = .ok (.ireturn, 1) := dk_172 (dk_at dksX1_numberOfPair_1 20 rfl rfl)
abbrev cX1_membersIfJoined : ByteArray := prog_1_method_52_code
def yX1_membersIfJoined : MethodName := ⟨RX1, "membersIfJoined", "(II)I"⟩
def dkwX1_membersIfJoined_1 : List UInt8 := [167, 0, 4, 3, 184, 0, 68, 42, 180, 0, 29, 27, 28, 182, 1, 0, 172]
abbrev dktX1_membersIfJoined_1 : List UInt8 := dkwX1_membersIfJoined_1 ++ []
def dkwX1_membersIfJoined_0 : List UInt8 := [42, 180, 0, 29, 27, 182, 0, 65, 153, 0, 18, 42, 180, 0, 29, 28, 182, 0, 65, 153, 0, 7, 4]
abbrev dktX1_membersIfJoined_0 : List UInt8 := dkwX1_membersIfJoined_0 ++ dktX1_membersIfJoined_1
theorem dksX1_membersIfJoined_0 : cX1_membersIfJoined.data.toList.drop 0 = dktX1_membersIfJoined_0 := by decide +kernel
theorem dksX1_membersIfJoined_1 : cX1_membersIfJoined.data.toList.drop 23 = dktX1_membersIfJoined_1 := dk_seg dksX1_membersIfJoined_0 23 rfl rfl
theorem dX1_membersIfJoined_0 : decode cX1_membersIfJoined 0 = .ok (.aload_n 0, 1) := dk_42 (dk_at dksX1_membersIfJoined_0 0 rfl rfl)
theorem dX1_membersIfJoined_1 : decode cX1_membersIfJoined 1 = .ok (.getfield 29, 3) := dk_180 0 29 (dk_at dksX1_membersIfJoined_0 1 rfl rfl)
theorem dX1_membersIfJoined_4 : decode cX1_membersIfJoined 4 = .ok (.iload_n 1, 1) := dk_27 (dk_at dksX1_membersIfJoined_0 4 rfl rfl)
theorem dX1_membersIfJoined_5 : decode cX1_membersIfJoined 5 = .ok (.invokevirtual 65, 3) := dk_182 0 65 (dk_at dksX1_membersIfJoined_0 5 rfl rfl)
theorem dX1_membersIfJoined_8 : decode cX1_membersIfJoined 8 = .ok (.ifCond .eq 18, 3) := dk_153 0 18 (dk_at dksX1_membersIfJoined_0 8 rfl rfl)
theorem dX1_membersIfJoined_11 : decode cX1_membersIfJoined 11 = .ok (.aload_n 0, 1) := dk_42 (dk_at dksX1_membersIfJoined_0 11 rfl rfl)
theorem dX1_membersIfJoined_12 : decode cX1_membersIfJoined 12 = .ok (.getfield 29, 3) := dk_180 0 29 (dk_at dksX1_membersIfJoined_0 12 rfl rfl)
theorem dX1_membersIfJoined_15 : decode cX1_membersIfJoined 15 = .ok (.iload_n 2, 1) := dk_28 (dk_at dksX1_membersIfJoined_0 15 rfl rfl)
theorem dX1_membersIfJoined_16 : decode cX1_membersIfJoined 16 = .ok (.invokevirtual 65, 3) := dk_182 0 65 (dk_at dksX1_membersIfJoined_0 16 rfl rfl)
theorem dX1_membersIfJoined_19 : decode cX1_membersIfJoined 19 = .ok (.ifCond .eq 7, 3) := dk_153 0 7 (dk_at dksX1_membersIfJoined_0 19 rfl rfl)
theorem dX1_membersIfJoined_22 : decode cX1_membersIfJoined 22 = .ok (.iconst 1, 1) := dk_4 (dk_at dksX1_membersIfJoined_0 22 rfl rfl)
theorem dX1_membersIfJoined_23 : decode cX1_membersIfJoined 23 = .ok (.goto 4, 3) := dk_167 0 4 (dk_at dksX1_membersIfJoined_1 0 rfl rfl)
theorem dX1_membersIfJoined_26 : decode cX1_membersIfJoined 26 = .ok (.iconst 0, 1) := dk_3 (dk_at dksX1_membersIfJoined_1 3 rfl rfl)
theorem dX1_membersIfJoined_27 : decode cX1_membersIfJoined 27 = .ok (.invokestatic 68, 3) := dk_184 0 68 (dk_at dksX1_membersIfJoined_1 4 rfl rfl)
theorem dX1_membersIfJoined_30 : decode cX1_membersIfJoined 30 = .ok (.aload_n 0, 1) := dk_42 (dk_at dksX1_membersIfJoined_1 7 rfl rfl)
theorem dX1_membersIfJoined_31 : decode cX1_membersIfJoined 31 = .ok (.getfield 29, 3) := dk_180 0 29 (dk_at dksX1_membersIfJoined_1 8 rfl rfl)
theorem dX1_membersIfJoined_34 : decode cX1_membersIfJoined 34 = .ok (.iload_n 1, 1) := dk_27 (dk_at dksX1_membersIfJoined_1 11 rfl rfl)
theorem dX1_membersIfJoined_35 : decode cX1_membersIfJoined 35 = .ok (.iload_n 2, 1) := dk_28 (dk_at dksX1_membersIfJoined_1 12 rfl rfl)
theorem dX1_membersIfJoined_36 : decode cX1_membersIfJoined 36 = .ok (.invokevirtual 256, 3) := dk_182 1 0 (dk_at dksX1_membersIfJoined_1 13 rfl rfl)
theorem dX1_membersIfJoined_39 : decode cX1_membersIfJoined 39 = .ok (.ireturn, 1) := dk_172 (dk_at dksX1_membersIfJoined_1 16 rfl rfl)
abbrev cX1_skipsTo : ByteArray := prog_1_method_53_code
def yX1_skipsTo : MethodName := ⟨RX1, "skipsTo", "(II)I"⟩
def dkwX1_skipsTo_0 : List UInt8 := [42, 27, 182, 0, 181, 78, 28, 184, 0, 19, 184, 0, 83, 42, 180, 0, 29, 45, 28, 182, 1, 3, 172]
abbrev dktX1_skipsTo_0 : List UInt8 := dkwX1_skipsTo_0 ++ []
theorem dksX1_skipsTo_0 : cX1_skipsTo.data.toList.drop 0 = dktX1_skipsTo_0 := by decide +kernel
theorem dX1_skipsTo_0 : decode cX1_skipsTo 0 = .ok (.aload_n 0, 1) := dk_42 (dk_at dksX1_skipsTo_0 0 rfl rfl)
theorem dX1_skipsTo_1 : decode cX1_skipsTo 1 = .ok (.iload_n 1, 1) := dk_27 (dk_at dksX1_skipsTo_0 1 rfl rfl)
theorem dX1_skipsTo_2 : decode cX1_skipsTo 2 = .ok (.invokevirtual 181, 3) := dk_182 0 181 (dk_at dksX1_skipsTo_0 2 rfl rfl)
theorem dX1_skipsTo_5 : decode cX1_skipsTo 5 = .ok (.astore_n 3, 1) := dk_78 (dk_at dksX1_skipsTo_0 5 rfl rfl)
theorem dX1_skipsTo_6 : decode cX1_skipsTo 6 = .ok (.iload_n 2, 1) := dk_28 (dk_at dksX1_skipsTo_0 6 rfl rfl)
theorem dX1_skipsTo_7 : decode cX1_skipsTo 7 = .ok (.invokestatic 19, 3) := dk_184 0 19 (dk_at dksX1_skipsTo_0 7 rfl rfl)
theorem dX1_skipsTo_10 : decode cX1_skipsTo 10 = .ok (.invokestatic 83, 3) := dk_184 0 83 (dk_at dksX1_skipsTo_0 10 rfl rfl)
theorem dX1_skipsTo_13 : decode cX1_skipsTo 13 = .ok (.aload_n 0, 1) := dk_42 (dk_at dksX1_skipsTo_0 13 rfl rfl)
theorem dX1_skipsTo_14 : decode cX1_skipsTo 14 = .ok (.getfield 29, 3) := dk_180 0 29 (dk_at dksX1_skipsTo_0 14 rfl rfl)
theorem dX1_skipsTo_17 : decode cX1_skipsTo 17 = .ok (.aload_n 3, 1) := dk_45 (dk_at dksX1_skipsTo_0 17 rfl rfl)
theorem dX1_skipsTo_18 : decode cX1_skipsTo 18 = .ok (.iload_n 2, 1) := dk_28 (dk_at dksX1_skipsTo_0 18 rfl rfl)
theorem dX1_skipsTo_19 : decode cX1_skipsTo 19 = .ok (.invokevirtual 259, 3) := dk_182 1 3 (dk_at dksX1_skipsTo_0 19 rfl rfl)
theorem dX1_skipsTo_22 : decode cX1_skipsTo 22 = .ok (.ireturn, 1) := dk_172 (dk_at dksX1_skipsTo_0 22 rfl rfl)
abbrev cX1_simulate : ByteArray := prog_1_method_56_code
def yX1_simulate : MethodName := ⟨RX1, "simulate", "(JI)I"⟩
def dkwX1_simulate_3 : List UInt8 := [17, 39, 16, 25, 4, 180, 0, 207, 185, 0, 211, 1, 0, 104, 21, 7, 17, 39, 16, 112, 96, 172]
abbrev dktX1_simulate_3 : List UInt8 := dkwX1_simulate_3 ++ []
def dkwX1_simulate_2 : List UInt8 := [55, 5, 21, 7, 25, 4, 22, 5, 16, 33, 125, 136, 184, 1, 14, 96, 54, 7, 132, 8, 1, 167, 255, 219]
abbrev dktX1_simulate_2 : List UInt8 := dkwX1_simulate_2 ++ dktX1_simulate_3
def dkwX1_simulate_1 : List UInt8 := [55, 5, 3, 54, 7, 3, 54, 8, 21, 8, 29, 162, 0, 37, 22, 5, 20, 1, 10, 105, 20, 1, 12, 97]
abbrev dktX1_simulate_1 : List UInt8 := dkwX1_simulate_1 ++ dktX1_simulate_2
def dkwX1_simulate_0 : List UInt8 := [29, 4, 16, 60, 184, 0, 15, 184, 0, 83, 187, 0, 26, 89, 42, 180, 0, 29, 183, 0, 62, 58, 4, 31]
abbrev dktX1_simulate_0 : List UInt8 := dkwX1_simulate_0 ++ dktX1_simulate_1
theorem dksX1_simulate_0 : cX1_simulate.data.toList.drop 0 = dktX1_simulate_0 := by decide +kernel
theorem dksX1_simulate_1 : cX1_simulate.data.toList.drop 24 = dktX1_simulate_1 := dk_seg dksX1_simulate_0 24 rfl rfl
theorem dksX1_simulate_2 : cX1_simulate.data.toList.drop 48 = dktX1_simulate_2 := dk_seg dksX1_simulate_1 24 rfl rfl
theorem dksX1_simulate_3 : cX1_simulate.data.toList.drop 72 = dktX1_simulate_3 := dk_seg dksX1_simulate_2 24 rfl rfl
theorem dX1_simulate_0 : decode cX1_simulate 0 = .ok (.iload_n 3, 1) := dk_29 (dk_at dksX1_simulate_0 0 rfl rfl)
theorem dX1_simulate_1 : decode cX1_simulate 1 = .ok (.iconst 1, 1) := dk_4 (dk_at dksX1_simulate_0 1 rfl rfl)
theorem dX1_simulate_2 : decode cX1_simulate 2 = .ok (.bipush 60, 2) := dk_16 60 (dk_at dksX1_simulate_0 2 rfl rfl)
theorem dX1_simulate_4 : decode cX1_simulate 4 = .ok (.invokestatic 15, 3) := dk_184 0 15 (dk_at dksX1_simulate_0 4 rfl rfl)
theorem dX1_simulate_7 : decode cX1_simulate 7 = .ok (.invokestatic 83, 3) := dk_184 0 83 (dk_at dksX1_simulate_0 7 rfl rfl)
theorem dX1_simulate_10 : decode cX1_simulate 10 = .ok (.new 26, 3) := dk_187 0 26 (dk_at dksX1_simulate_0 10 rfl rfl)
theorem dX1_simulate_13 : decode cX1_simulate 13 = .ok (.dup, 1) := dk_89 (dk_at dksX1_simulate_0 13 rfl rfl)
theorem dX1_simulate_14 : decode cX1_simulate 14 = .ok (.aload_n 0, 1) := dk_42 (dk_at dksX1_simulate_0 14 rfl rfl)
theorem dX1_simulate_15 : decode cX1_simulate 15 = .ok (.getfield 29, 3) := dk_180 0 29 (dk_at dksX1_simulate_0 15 rfl rfl)
theorem dX1_simulate_18 : decode cX1_simulate 18 = .ok (.invokespecial 62, 3) := dk_183 0 62 (dk_at dksX1_simulate_0 18 rfl rfl)
theorem dX1_simulate_21 : decode cX1_simulate 21 = .ok (.astore 4, 2) := dk_58 4 (dk_at dksX1_simulate_0 21 rfl rfl)
theorem dX1_simulate_23 : decode cX1_simulate 23 = .ok (.lload_n 1, 1) := dk_31 (dk_at dksX1_simulate_0 23 rfl rfl)
theorem dX1_simulate_24 : decode cX1_simulate 24 = .ok (.lstore 5, 2) := dk_55 5 (dk_at dksX1_simulate_1 0 rfl rfl)
theorem dX1_simulate_26 : decode cX1_simulate 26 = .ok (.iconst 0, 1) := dk_3 (dk_at dksX1_simulate_1 2 rfl rfl)
theorem dX1_simulate_27 : decode cX1_simulate 27 = .ok (.istore 7, 2) := dk_54 7 (dk_at dksX1_simulate_1 3 rfl rfl)
theorem dX1_simulate_29 : decode cX1_simulate 29 = .ok (.iconst 0, 1) := dk_3 (dk_at dksX1_simulate_1 5 rfl rfl)
theorem dX1_simulate_30 : decode cX1_simulate 30 = .ok (.istore 8, 2) := dk_54 8 (dk_at dksX1_simulate_1 6 rfl rfl)
theorem dX1_simulate_32 : decode cX1_simulate 32 = .ok (.iload 8, 2) := dk_21 8 (dk_at dksX1_simulate_1 8 rfl rfl)
theorem dX1_simulate_34 : decode cX1_simulate 34 = .ok (.iload_n 3, 1) := dk_29 (dk_at dksX1_simulate_1 10 rfl rfl)
theorem dX1_simulate_35 : decode cX1_simulate 35 = .ok (.if_icmp .ge 37, 3) := dk_162 0 37 (dk_at dksX1_simulate_1 11 rfl rfl)
theorem dX1_simulate_38 : decode cX1_simulate 38 = .ok (.lload 5, 2) := dk_22 5 (dk_at dksX1_simulate_1 14 rfl rfl)
theorem dX1_simulate_40 : decode cX1_simulate 40 = .ok (.ldc2_w 266, 3) := dk_20 1 10 (dk_at dksX1_simulate_1 16 rfl rfl)
theorem dX1_simulate_43 : decode cX1_simulate 43 = .ok (.lmul, 1) := dk_105 (dk_at dksX1_simulate_1 19 rfl rfl)
theorem dX1_simulate_44 : decode cX1_simulate 44 = .ok (.ldc2_w 268, 3) := dk_20 1 12 (dk_at dksX1_simulate_1 20 rfl rfl)
theorem dX1_simulate_47 : decode cX1_simulate 47 = .ok (.ladd, 1) := dk_97 (dk_at dksX1_simulate_1 23 rfl rfl)
theorem dX1_simulate_48 : decode cX1_simulate 48 = .ok (.lstore 5, 2) := dk_55 5 (dk_at dksX1_simulate_2 0 rfl rfl)
theorem dX1_simulate_50 : decode cX1_simulate 50 = .ok (.iload 7, 2) := dk_21 7 (dk_at dksX1_simulate_2 2 rfl rfl)
theorem dX1_simulate_52 : decode cX1_simulate 52 = .ok (.aload 4, 2) := dk_25 4 (dk_at dksX1_simulate_2 4 rfl rfl)
theorem dX1_simulate_54 : decode cX1_simulate 54 = .ok (.lload 5, 2) := dk_22 5 (dk_at dksX1_simulate_2 6 rfl rfl)
theorem dX1_simulate_56 : decode cX1_simulate 56 = .ok (.bipush 33, 2) := dk_16 33 (dk_at dksX1_simulate_2 8 rfl rfl)
theorem dX1_simulate_58 : decode cX1_simulate 58 = .ok (.lushr, 1) := dk_125 (dk_at dksX1_simulate_2 10 rfl rfl)
theorem dX1_simulate_59 : decode cX1_simulate 59 = .ok (.l2i, 1) := dk_136 (dk_at dksX1_simulate_2 11 rfl rfl)
theorem dX1_simulate_60 : decode cX1_simulate 60 = .ok (.invokestatic 270, 3) := dk_184 1 14 (dk_at dksX1_simulate_2 12 rfl rfl)
theorem dX1_simulate_63 : decode cX1_simulate 63 = .ok (.iadd, 1) := dk_96 (dk_at dksX1_simulate_2 15 rfl rfl)
theorem dX1_simulate_64 : decode cX1_simulate 64 = .ok (.istore 7, 2) := dk_54 7 (dk_at dksX1_simulate_2 16 rfl rfl)
theorem dX1_simulate_66 : decode cX1_simulate 66 = .ok (.iinc 8 1, 3) := dk_132 8 1 (dk_at dksX1_simulate_2 18 rfl rfl)
theorem dX1_simulate_69 : decode cX1_simulate 69 = .ok (.goto (-37), 3) := dk_167 255 219 (dk_at dksX1_simulate_2 21 rfl rfl)
theorem dX1_simulate_72 : decode cX1_simulate 72 = .ok (.sipush 10000, 3) := dk_17 39 16 (dk_at dksX1_simulate_3 0 rfl rfl)
theorem dX1_simulate_75 : decode cX1_simulate 75 = .ok (.aload 4, 2) := dk_25 4 (dk_at dksX1_simulate_3 3 rfl rfl)
theorem dX1_simulate_77 : decode cX1_simulate 77 = .ok (.getfield 207, 3) := dk_180 0 207 (dk_at dksX1_simulate_3 5 rfl rfl)
theorem dX1_simulate_80 : decode cX1_simulate 80 = .ok (.invokeinterface 211 1, 5) := by decide +kernel
theorem dX1_simulate_85 : decode cX1_simulate 85 = .ok (.imul, 1) := dk_104 (dk_at dksX1_simulate_3 13 rfl rfl)
theorem dX1_simulate_86 : decode cX1_simulate 86 = .ok (.iload 7, 2) := dk_21 7 (dk_at dksX1_simulate_3 14 rfl rfl)
theorem dX1_simulate_88 : decode cX1_simulate 88 = .ok (.sipush 10000, 3) := dk_17 39 16 (dk_at dksX1_simulate_3 16 rfl rfl)
theorem dX1_simulate_91 : decode cX1_simulate 91 = .ok (.irem, 1) := dk_112 (dk_at dksX1_simulate_3 19 rfl rfl)
theorem dX1_simulate_92 : decode cX1_simulate 92 = .ok (.iadd, 1) := dk_96 (dk_at dksX1_simulate_3 20 rfl rfl)
theorem dX1_simulate_93 : decode cX1_simulate 93 = .ok (.ireturn, 1) := dk_172 (dk_at dksX1_simulate_3 21 rfl rfl)
abbrev cX1_stir : ByteArray := prog_1_method_55_code
def yX1_stir : MethodName := ⟨RX1, "stir", "(LRuleLists$Shelf;I)I"⟩
def dkwX1_stir_7 : List UInt8 := [182, 0, 79, 182, 0, 188, 167, 0, 4, 3, 172]
abbrev dktX1_stir_7 : List UInt8 := dkwX1_stir_7 ++ []
def dkwX1_stir_6 : List UInt8 := [182, 0, 184, 2, 159, 0, 7, 4, 167, 0, 4, 3, 54, 5, 21, 5, 153, 0, 17, 42, 42, 28, 7, 112]
abbrev dktX1_stir_6 : List UInt8 := dkwX1_stir_6 ++ dktX1_stir_7
def dkwX1_stir_5 : List UInt8 := [54, 4, 3, 172, 42, 28, 7, 112, 182, 0, 76, 153, 0, 22, 42, 42, 28, 7, 112, 182, 0, 79]
abbrev dktX1_stir_5 : List UInt8 := dkwX1_stir_5 ++ dktX1_stir_6
def dkwX1_stir_4 : List UInt8 := [3, 172, 29, 16, 10, 160, 0, 22, 42, 182, 0, 168, 154, 0, 10, 42, 182, 0, 171, 167, 0, 4, 3]
abbrev dktX1_stir_4 : List UInt8 := dkwX1_stir_4 ++ dktX1_stir_5
def dkwX1_stir_3 : List UInt8 := [153, 0, 21, 42, 182, 0, 174, 153, 0, 14, 42, 28, 16, 12, 112, 182, 0, 177, 167, 0, 4, 3, 54, 4]
abbrev dktX1_stir_3 : List UInt8 := dkwX1_stir_3 ++ dktX1_stir_4
def dkwX1_stir_2 : List UInt8 := [42, 25, 5, 182, 0, 112, 54, 4, 3, 172, 29, 16, 9, 160, 0, 37, 42, 28, 16, 12, 112, 182, 0, 65]
abbrev dktX1_stir_2 : List UInt8 := dkwX1_stir_2 ++ dktX1_stir_3
def dkwX1_stir_1 : List UInt8 := [153, 0, 12, 42, 29, 28, 184, 1, 6, 167, 0, 4, 1, 58, 5, 25, 5, 199, 0, 7, 3, 167, 0, 9]
abbrev dktX1_stir_1 : List UInt8 := dkwX1_stir_1 ++ dktX1_stir_2
def dkwX1_stir_0 : List UInt8 := [27, 16, 16, 108, 61, 27, 16, 16, 112, 62, 3, 54, 4, 29, 16, 9, 162, 0, 41, 42, 182, 0, 120]
abbrev dktX1_stir_0 : List UInt8 := dkwX1_stir_0 ++ dktX1_stir_1
theorem dksX1_stir_0 : cX1_stir.data.toList.drop 0 = dktX1_stir_0 := by decide +kernel
theorem dksX1_stir_1 : cX1_stir.data.toList.drop 23 = dktX1_stir_1 := dk_seg dksX1_stir_0 23 rfl rfl
theorem dksX1_stir_2 : cX1_stir.data.toList.drop 47 = dktX1_stir_2 := dk_seg dksX1_stir_1 24 rfl rfl
theorem dksX1_stir_3 : cX1_stir.data.toList.drop 71 = dktX1_stir_3 := dk_seg dksX1_stir_2 24 rfl rfl
theorem dksX1_stir_4 : cX1_stir.data.toList.drop 95 = dktX1_stir_4 := dk_seg dksX1_stir_3 24 rfl rfl
theorem dksX1_stir_5 : cX1_stir.data.toList.drop 118 = dktX1_stir_5 := dk_seg dksX1_stir_4 23 rfl rfl
theorem dksX1_stir_6 : cX1_stir.data.toList.drop 140 = dktX1_stir_6 := dk_seg dksX1_stir_5 22 rfl rfl
theorem dksX1_stir_7 : cX1_stir.data.toList.drop 164 = dktX1_stir_7 := dk_seg dksX1_stir_6 24 rfl rfl
theorem dX1_stir_0 : decode cX1_stir 0 = .ok (.iload_n 1, 1) := dk_27 (dk_at dksX1_stir_0 0 rfl rfl)
theorem dX1_stir_1 : decode cX1_stir 1 = .ok (.bipush 16, 2) := dk_16 16 (dk_at dksX1_stir_0 1 rfl rfl)
theorem dX1_stir_3 : decode cX1_stir 3 = .ok (.idiv, 1) := dk_108 (dk_at dksX1_stir_0 3 rfl rfl)
theorem dX1_stir_4 : decode cX1_stir 4 = .ok (.istore_n 2, 1) := dk_61 (dk_at dksX1_stir_0 4 rfl rfl)
theorem dX1_stir_5 : decode cX1_stir 5 = .ok (.iload_n 1, 1) := dk_27 (dk_at dksX1_stir_0 5 rfl rfl)
theorem dX1_stir_6 : decode cX1_stir 6 = .ok (.bipush 16, 2) := dk_16 16 (dk_at dksX1_stir_0 6 rfl rfl)
theorem dX1_stir_8 : decode cX1_stir 8 = .ok (.irem, 1) := dk_112 (dk_at dksX1_stir_0 8 rfl rfl)
theorem dX1_stir_9 : decode cX1_stir 9 = .ok (.istore_n 3, 1) := dk_62 (dk_at dksX1_stir_0 9 rfl rfl)
theorem dX1_stir_10 : decode cX1_stir 10 = .ok (.iconst 0, 1) := dk_3 (dk_at dksX1_stir_0 10 rfl rfl)
theorem dX1_stir_11 : decode cX1_stir 11 = .ok (.istore 4, 2) := dk_54 4 (dk_at dksX1_stir_0 11 rfl rfl)
theorem dX1_stir_13 : decode cX1_stir 13 = .ok (.iload_n 3, 1) := dk_29 (dk_at dksX1_stir_0 13 rfl rfl)
theorem dX1_stir_14 : decode cX1_stir 14 = .ok (.bipush 9, 2) := dk_16 9 (dk_at dksX1_stir_0 14 rfl rfl)
theorem dX1_stir_16 : decode cX1_stir 16 = .ok (.if_icmp .ge 41, 3) := dk_162 0 41 (dk_at dksX1_stir_0 16 rfl rfl)
theorem dX1_stir_19 : decode cX1_stir 19 = .ok (.aload_n 0, 1) := dk_42 (dk_at dksX1_stir_0 19 rfl rfl)
theorem dX1_stir_20 : decode cX1_stir 20 = .ok (.invokevirtual 120, 3) := dk_182 0 120 (dk_at dksX1_stir_0 20 rfl rfl)
theorem dX1_stir_23 : decode cX1_stir 23 = .ok (.ifCond .eq 12, 3) := dk_153 0 12 (dk_at dksX1_stir_1 0 rfl rfl)
theorem dX1_stir_26 : decode cX1_stir 26 = .ok (.aload_n 0, 1) := dk_42 (dk_at dksX1_stir_1 3 rfl rfl)
theorem dX1_stir_27 : decode cX1_stir 27 = .ok (.iload_n 3, 1) := dk_29 (dk_at dksX1_stir_1 4 rfl rfl)
theorem dX1_stir_28 : decode cX1_stir 28 = .ok (.iload_n 2, 1) := dk_28 (dk_at dksX1_stir_1 5 rfl rfl)
theorem dX1_stir_29 : decode cX1_stir 29 = .ok (.invokestatic 262, 3) := dk_184 1 6 (dk_at dksX1_stir_1 6 rfl rfl)
theorem dX1_stir_32 : decode cX1_stir 32 = .ok (.goto 4, 3) := dk_167 0 4 (dk_at dksX1_stir_1 9 rfl rfl)
theorem dX1_stir_35 : decode cX1_stir 35 = .ok (.aconst_null, 1) := dk_1 (dk_at dksX1_stir_1 12 rfl rfl)
theorem dX1_stir_36 : decode cX1_stir 36 = .ok (.astore 5, 2) := dk_58 5 (dk_at dksX1_stir_1 13 rfl rfl)
theorem dX1_stir_38 : decode cX1_stir 38 = .ok (.aload 5, 2) := dk_25 5 (dk_at dksX1_stir_1 15 rfl rfl)
theorem dX1_stir_40 : decode cX1_stir 40 = .ok (.ifnonnull 7, 3) := dk_199 0 7 (dk_at dksX1_stir_1 17 rfl rfl)
theorem dX1_stir_43 : decode cX1_stir 43 = .ok (.iconst 0, 1) := dk_3 (dk_at dksX1_stir_1 20 rfl rfl)
theorem dX1_stir_44 : decode cX1_stir 44 = .ok (.goto 9, 3) := dk_167 0 9 (dk_at dksX1_stir_1 21 rfl rfl)
theorem dX1_stir_47 : decode cX1_stir 47 = .ok (.aload_n 0, 1) := dk_42 (dk_at dksX1_stir_2 0 rfl rfl)
theorem dX1_stir_48 : decode cX1_stir 48 = .ok (.aload 5, 2) := dk_25 5 (dk_at dksX1_stir_2 1 rfl rfl)
theorem dX1_stir_50 : decode cX1_stir 50 = .ok (.invokevirtual 112, 3) := dk_182 0 112 (dk_at dksX1_stir_2 3 rfl rfl)
theorem dX1_stir_53 : decode cX1_stir 53 = .ok (.istore 4, 2) := dk_54 4 (dk_at dksX1_stir_2 6 rfl rfl)
theorem dX1_stir_55 : decode cX1_stir 55 = .ok (.iconst 0, 1) := dk_3 (dk_at dksX1_stir_2 8 rfl rfl)
theorem dX1_stir_56 : decode cX1_stir 56 = .ok (.ireturn, 1) := dk_172 (dk_at dksX1_stir_2 9 rfl rfl)
theorem dX1_stir_57 : decode cX1_stir 57 = .ok (.iload_n 3, 1) := dk_29 (dk_at dksX1_stir_2 10 rfl rfl)
theorem dX1_stir_58 : decode cX1_stir 58 = .ok (.bipush 9, 2) := dk_16 9 (dk_at dksX1_stir_2 11 rfl rfl)
theorem dX1_stir_60 : decode cX1_stir 60 = .ok (.if_icmp .ne 37, 3) := dk_160 0 37 (dk_at dksX1_stir_2 13 rfl rfl)
theorem dX1_stir_63 : decode cX1_stir 63 = .ok (.aload_n 0, 1) := dk_42 (dk_at dksX1_stir_2 16 rfl rfl)
theorem dX1_stir_64 : decode cX1_stir 64 = .ok (.iload_n 2, 1) := dk_28 (dk_at dksX1_stir_2 17 rfl rfl)
theorem dX1_stir_65 : decode cX1_stir 65 = .ok (.bipush 12, 2) := dk_16 12 (dk_at dksX1_stir_2 18 rfl rfl)
theorem dX1_stir_67 : decode cX1_stir 67 = .ok (.irem, 1) := dk_112 (dk_at dksX1_stir_2 20 rfl rfl)
theorem dX1_stir_68 : decode cX1_stir 68 = .ok (.invokevirtual 65, 3) := dk_182 0 65 (dk_at dksX1_stir_2 21 rfl rfl)
theorem dX1_stir_71 : decode cX1_stir 71 = .ok (.ifCond .eq 21, 3) := dk_153 0 21 (dk_at dksX1_stir_3 0 rfl rfl)
theorem dX1_stir_74 : decode cX1_stir 74 = .ok (.aload_n 0, 1) := dk_42 (dk_at dksX1_stir_3 3 rfl rfl)
theorem dX1_stir_75 : decode cX1_stir 75 = .ok (.invokevirtual 174, 3) := dk_182 0 174 (dk_at dksX1_stir_3 4 rfl rfl)
theorem dX1_stir_78 : decode cX1_stir 78 = .ok (.ifCond .eq 14, 3) := dk_153 0 14 (dk_at dksX1_stir_3 7 rfl rfl)
theorem dX1_stir_81 : decode cX1_stir 81 = .ok (.aload_n 0, 1) := dk_42 (dk_at dksX1_stir_3 10 rfl rfl)
theorem dX1_stir_82 : decode cX1_stir 82 = .ok (.iload_n 2, 1) := dk_28 (dk_at dksX1_stir_3 11 rfl rfl)
theorem dX1_stir_83 : decode cX1_stir 83 = .ok (.bipush 12, 2) := dk_16 12 (dk_at dksX1_stir_3 12 rfl rfl)
theorem dX1_stir_85 : decode cX1_stir 85 = .ok (.irem, 1) := dk_112 (dk_at dksX1_stir_3 14 rfl rfl)
theorem dX1_stir_86 : decode cX1_stir 86 = .ok (.invokevirtual 177, 3) := dk_182 0 177 (dk_at dksX1_stir_3 15 rfl rfl)
theorem dX1_stir_89 : decode cX1_stir 89 = .ok (.goto 4, 3) := dk_167 0 4 (dk_at dksX1_stir_3 18 rfl rfl)
theorem dX1_stir_92 : decode cX1_stir 92 = .ok (.iconst 0, 1) := dk_3 (dk_at dksX1_stir_3 21 rfl rfl)
theorem dX1_stir_93 : decode cX1_stir 93 = .ok (.istore 4, 2) := dk_54 4 (dk_at dksX1_stir_3 22 rfl rfl)
theorem dX1_stir_95 : decode cX1_stir 95 = .ok (.iconst 0, 1) := dk_3 (dk_at dksX1_stir_4 0 rfl rfl)
theorem dX1_stir_96 : decode cX1_stir 96 = .ok (.ireturn, 1) := dk_172 (dk_at dksX1_stir_4 1 rfl rfl)
theorem dX1_stir_97 : decode cX1_stir 97 = .ok (.iload_n 3, 1) := dk_29 (dk_at dksX1_stir_4 2 rfl rfl)
theorem dX1_stir_98 : decode cX1_stir 98 = .ok (.bipush 10, 2) := dk_16 10 (dk_at dksX1_stir_4 3 rfl rfl)
theorem dX1_stir_100 : decode cX1_stir 100 = .ok (.if_icmp .ne 22, 3) := dk_160 0 22 (dk_at dksX1_stir_4 5 rfl rfl)
theorem dX1_stir_103 : decode cX1_stir 103 = .ok (.aload_n 0, 1) := dk_42 (dk_at dksX1_stir_4 8 rfl rfl)
theorem dX1_stir_104 : decode cX1_stir 104 = .ok (.invokevirtual 168, 3) := dk_182 0 168 (dk_at dksX1_stir_4 9 rfl rfl)
theorem dX1_stir_107 : decode cX1_stir 107 = .ok (.ifCond .ne 10, 3) := dk_154 0 10 (dk_at dksX1_stir_4 12 rfl rfl)
theorem dX1_stir_110 : decode cX1_stir 110 = .ok (.aload_n 0, 1) := dk_42 (dk_at dksX1_stir_4 15 rfl rfl)
theorem dX1_stir_111 : decode cX1_stir 111 = .ok (.invokevirtual 171, 3) := dk_182 0 171 (dk_at dksX1_stir_4 16 rfl rfl)
theorem dX1_stir_114 : decode cX1_stir 114 = .ok (.goto 4, 3) := dk_167 0 4 (dk_at dksX1_stir_4 19 rfl rfl)
theorem dX1_stir_117 : decode cX1_stir 117 = .ok (.iconst 0, 1) := dk_3 (dk_at dksX1_stir_4 22 rfl rfl)
theorem dX1_stir_118 : decode cX1_stir 118 = .ok (.istore 4, 2) := dk_54 4 (dk_at dksX1_stir_5 0 rfl rfl)
theorem dX1_stir_120 : decode cX1_stir 120 = .ok (.iconst 0, 1) := dk_3 (dk_at dksX1_stir_5 2 rfl rfl)
theorem dX1_stir_121 : decode cX1_stir 121 = .ok (.ireturn, 1) := dk_172 (dk_at dksX1_stir_5 3 rfl rfl)
theorem dX1_stir_122 : decode cX1_stir 122 = .ok (.aload_n 0, 1) := dk_42 (dk_at dksX1_stir_5 4 rfl rfl)
theorem dX1_stir_123 : decode cX1_stir 123 = .ok (.iload_n 2, 1) := dk_28 (dk_at dksX1_stir_5 5 rfl rfl)
theorem dX1_stir_124 : decode cX1_stir 124 = .ok (.iconst 4, 1) := dk_7 (dk_at dksX1_stir_5 6 rfl rfl)
theorem dX1_stir_125 : decode cX1_stir 125 = .ok (.irem, 1) := dk_112 (dk_at dksX1_stir_5 7 rfl rfl)
theorem dX1_stir_126 : decode cX1_stir 126 = .ok (.invokevirtual 76, 3) := dk_182 0 76 (dk_at dksX1_stir_5 8 rfl rfl)
theorem dX1_stir_129 : decode cX1_stir 129 = .ok (.ifCond .eq 22, 3) := dk_153 0 22 (dk_at dksX1_stir_5 11 rfl rfl)
theorem dX1_stir_132 : decode cX1_stir 132 = .ok (.aload_n 0, 1) := dk_42 (dk_at dksX1_stir_5 14 rfl rfl)
theorem dX1_stir_133 : decode cX1_stir 133 = .ok (.aload_n 0, 1) := dk_42 (dk_at dksX1_stir_5 15 rfl rfl)
theorem dX1_stir_134 : decode cX1_stir 134 = .ok (.iload_n 2, 1) := dk_28 (dk_at dksX1_stir_5 16 rfl rfl)
theorem dX1_stir_135 : decode cX1_stir 135 = .ok (.iconst 4, 1) := dk_7 (dk_at dksX1_stir_5 17 rfl rfl)
theorem dX1_stir_136 : decode cX1_stir 136 = .ok (.irem, 1) := dk_112 (dk_at dksX1_stir_5 18 rfl rfl)
theorem dX1_stir_137 : decode cX1_stir 137 = .ok (.invokevirtual 79, 3) := dk_182 0 79 (dk_at dksX1_stir_5 19 rfl rfl)
theorem dX1_stir_140 : decode cX1_stir 140 = .ok (.invokevirtual 184, 3) := dk_182 0 184 (dk_at dksX1_stir_6 0 rfl rfl)
theorem dX1_stir_143 : decode cX1_stir 143 = .ok (.iconst (-1), 1) := dk_2 (dk_at dksX1_stir_6 3 rfl rfl)
theorem dX1_stir_144 : decode cX1_stir 144 = .ok (.if_icmp .eq 7, 3) := dk_159 0 7 (dk_at dksX1_stir_6 4 rfl rfl)
theorem dX1_stir_147 : decode cX1_stir 147 = .ok (.iconst 1, 1) := dk_4 (dk_at dksX1_stir_6 7 rfl rfl)
theorem dX1_stir_148 : decode cX1_stir 148 = .ok (.goto 4, 3) := dk_167 0 4 (dk_at dksX1_stir_6 8 rfl rfl)
theorem dX1_stir_151 : decode cX1_stir 151 = .ok (.iconst 0, 1) := dk_3 (dk_at dksX1_stir_6 11 rfl rfl)
theorem dX1_stir_152 : decode cX1_stir 152 = .ok (.istore 5, 2) := dk_54 5 (dk_at dksX1_stir_6 12 rfl rfl)
theorem dX1_stir_154 : decode cX1_stir 154 = .ok (.iload 5, 2) := dk_21 5 (dk_at dksX1_stir_6 14 rfl rfl)
theorem dX1_stir_156 : decode cX1_stir 156 = .ok (.ifCond .eq 17, 3) := dk_153 0 17 (dk_at dksX1_stir_6 16 rfl rfl)
theorem dX1_stir_159 : decode cX1_stir 159 = .ok (.aload_n 0, 1) := dk_42 (dk_at dksX1_stir_6 19 rfl rfl)
theorem dX1_stir_160 : decode cX1_stir 160 = .ok (.aload_n 0, 1) := dk_42 (dk_at dksX1_stir_6 20 rfl rfl)
theorem dX1_stir_161 : decode cX1_stir 161 = .ok (.iload_n 2, 1) := dk_28 (dk_at dksX1_stir_6 21 rfl rfl)
theorem dX1_stir_162 : decode cX1_stir 162 = .ok (.iconst 4, 1) := dk_7 (dk_at dksX1_stir_6 22 rfl rfl)
theorem dX1_stir_163 : decode cX1_stir 163 = .ok (.irem, 1) := dk_112 (dk_at dksX1_stir_6 23 rfl rfl)
theorem dX1_stir_164 : decode cX1_stir 164 = .ok (.invokevirtual 79, 3) := dk_182 0 79 (dk_at dksX1_stir_7 0 rfl rfl)
theorem dX1_stir_167 : decode cX1_stir 167 = .ok (.invokevirtual 188, 3) := dk_182 0 188 (dk_at dksX1_stir_7 3 rfl rfl)
theorem dX1_stir_170 : decode cX1_stir 170 = .ok (.goto 4, 3) := dk_167 0 4 (dk_at dksX1_stir_7 6 rfl rfl)
theorem dX1_stir_173 : decode cX1_stir 173 = .ok (.iconst 0, 1) := dk_3 (dk_at dksX1_stir_7 9 rfl rfl)
theorem dX1_stir_174 : decode cX1_stir 174 = .ok (.ireturn, 1) := dk_172 (dk_at dksX1_stir_7 10 rfl rfl)
abbrev cX1_made : ByteArray := prog_1_method_54_code
def yX1_made : MethodName := ⟨RX1, "made", "(LRuleLists$Shelf;II)LRuleLists$Rule;"⟩
def dkwX1_made_9 : List UInt8 := [16, 16, 108, 7, 112, 96, 183, 0, 162, 167, 0, 12, 187, 0, 165, 89, 25, 5, 183, 0, 167, 176]
abbrev dktX1_made_9 : List UInt8 := dkwX1_made_9 ++ []
def dkwX1_made_8 : List UInt8 := [167, 0, 44, 187, 0, 152, 89, 25, 5, 183, 0, 154, 167, 0, 32, 187, 0, 160, 89, 25, 5, 4, 28]
abbrev dktX1_made_8 : List UInt8 := dkwX1_made_8 ++ dktX1_made_9
def dkwX1_made_7 : List UInt8 := [182, 0, 72, 183, 0, 148, 167, 0, 62, 187, 0, 149, 89, 25, 5, 42, 21, 4, 182, 0, 72, 183, 0, 151]
abbrev dktX1_made_7 : List UInt8 := dkwX1_made_7 ++ dktX1_made_8
def dkwX1_made_6 : List UInt8 := [89, 25, 5, 42, 21, 4, 182, 0, 72, 183, 0, 143, 167, 0, 80, 187, 0, 146, 89, 25, 5, 42, 21, 4]
abbrev dktX1_made_6 : List UInt8 := dkwX1_made_6 ++ dktX1_made_7
def dkwX1_made_5 : List UInt8 := [187, 0, 136, 89, 25, 5, 4, 28, 16, 16, 108, 6, 112, 96, 3, 183, 0, 138, 167, 0, 98, 187, 0, 141]
abbrev dktX1_made_5 : List UInt8 := dkwX1_made_5 ++ dktX1_made_6
def dkwX1_made_4 : List UInt8 := [170, 0, 0, 0, 144, 0, 0, 0, 2, 0, 0, 0, 7, 0, 0, 0, 37, 0, 0, 0, 58, 0, 0, 0, 76, 0, 0, 0, 94, 0, 0, 0, 112, 0, 0, 0, 124]
abbrev dktX1_made_4 : List UInt8 := dkwX1_made_4 ++ dktX1_made_5
def dkwX1_made_3 : List UInt8 := [176, 42, 29, 182, 0, 72, 58, 5, 27]
abbrev dktX1_made_3 : List UInt8 := dkwX1_made_3 ++ dktX1_made_4
def dkwX1_made_2 : List UInt8 := [153, 0, 23, 27, 5, 164, 0, 20, 27, 16, 6, 162, 0, 14, 42, 21, 4, 182, 0, 65, 154, 0, 5, 1]
abbrev dktX1_made_2 : List UInt8 := dkwX1_made_2 ++ dktX1_made_3
def dkwX1_made_1 : List UInt8 := [16, 100, 112, 4, 28, 17, 0, 128, 108, 16, 20, 112, 96, 183, 0, 126, 176, 42, 29, 182, 0, 65]
abbrev dktX1_made_1 : List UInt8 := dkwX1_made_1 ++ dktX1_made_2
def dkwX1_made_0 : List UInt8 := [28, 16, 12, 112, 62, 28, 16, 16, 108, 16, 12, 112, 54, 4, 27, 5, 162, 0, 25, 187, 0, 124, 89, 28]
abbrev dktX1_made_0 : List UInt8 := dkwX1_made_0 ++ dktX1_made_1
theorem dksX1_made_0 : cX1_made.data.toList.drop 0 = dktX1_made_0 := by decide +kernel
theorem dksX1_made_1 : cX1_made.data.toList.drop 24 = dktX1_made_1 := dk_seg dksX1_made_0 24 rfl rfl
theorem dksX1_made_2 : cX1_made.data.toList.drop 46 = dktX1_made_2 := dk_seg dksX1_made_1 22 rfl rfl
theorem dksX1_made_3 : cX1_made.data.toList.drop 70 = dktX1_made_3 := dk_seg dksX1_made_2 24 rfl rfl
theorem dksX1_made_4 : cX1_made.data.toList.drop 79 = dktX1_made_4 := dk_seg dksX1_made_3 9 rfl rfl
theorem dksX1_made_5 : cX1_made.data.toList.drop 116 = dktX1_made_5 := dk_seg dksX1_made_4 37 rfl rfl
theorem dksX1_made_6 : cX1_made.data.toList.drop 140 = dktX1_made_6 := dk_seg dksX1_made_5 24 rfl rfl
theorem dksX1_made_7 : cX1_made.data.toList.drop 164 = dktX1_made_7 := dk_seg dksX1_made_6 24 rfl rfl
theorem dksX1_made_8 : cX1_made.data.toList.drop 188 = dktX1_made_8 := dk_seg dksX1_made_7 24 rfl rfl
theorem dksX1_made_9 : cX1_made.data.toList.drop 211 = dktX1_made_9 := dk_seg dksX1_made_8 23 rfl rfl
theorem dX1_made_0 : decode cX1_made 0 = .ok (.iload_n 2, 1) := dk_28 (dk_at dksX1_made_0 0 rfl rfl)
theorem dX1_made_1 : decode cX1_made 1 = .ok (.bipush 12, 2) := dk_16 12 (dk_at dksX1_made_0 1 rfl rfl)
theorem dX1_made_3 : decode cX1_made 3 = .ok (.irem, 1) := dk_112 (dk_at dksX1_made_0 3 rfl rfl)
theorem dX1_made_4 : decode cX1_made 4 = .ok (.istore_n 3, 1) := dk_62 (dk_at dksX1_made_0 4 rfl rfl)
theorem dX1_made_5 : decode cX1_made 5 = .ok (.iload_n 2, 1) := dk_28 (dk_at dksX1_made_0 5 rfl rfl)
theorem dX1_made_6 : decode cX1_made 6 = .ok (.bipush 16, 2) := dk_16 16 (dk_at dksX1_made_0 6 rfl rfl)
theorem dX1_made_8 : decode cX1_made 8 = .ok (.idiv, 1) := dk_108 (dk_at dksX1_made_0 8 rfl rfl)
theorem dX1_made_9 : decode cX1_made 9 = .ok (.bipush 12, 2) := dk_16 12 (dk_at dksX1_made_0 9 rfl rfl)
theorem dX1_made_11 : decode cX1_made 11 = .ok (.irem, 1) := dk_112 (dk_at dksX1_made_0 11 rfl rfl)
theorem dX1_made_12 : decode cX1_made 12 = .ok (.istore 4, 2) := dk_54 4 (dk_at dksX1_made_0 12 rfl rfl)
theorem dX1_made_14 : decode cX1_made 14 = .ok (.iload_n 1, 1) := dk_27 (dk_at dksX1_made_0 14 rfl rfl)
theorem dX1_made_15 : decode cX1_made 15 = .ok (.iconst 2, 1) := dk_5 (dk_at dksX1_made_0 15 rfl rfl)
theorem dX1_made_16 : decode cX1_made 16 = .ok (.if_icmp .ge 25, 3) := dk_162 0 25 (dk_at dksX1_made_0 16 rfl rfl)
theorem dX1_made_19 : decode cX1_made 19 = .ok (.new 124, 3) := dk_187 0 124 (dk_at dksX1_made_0 19 rfl rfl)
theorem dX1_made_22 : decode cX1_made 22 = .ok (.dup, 1) := dk_89 (dk_at dksX1_made_0 22 rfl rfl)
theorem dX1_made_23 : decode cX1_made 23 = .ok (.iload_n 2, 1) := dk_28 (dk_at dksX1_made_0 23 rfl rfl)
theorem dX1_made_24 : decode cX1_made 24 = .ok (.bipush 100, 2) := dk_16 100 (dk_at dksX1_made_1 0 rfl rfl)
theorem dX1_made_26 : decode cX1_made 26 = .ok (.irem, 1) := dk_112 (dk_at dksX1_made_1 2 rfl rfl)
theorem dX1_made_27 : decode cX1_made 27 = .ok (.iconst 1, 1) := dk_4 (dk_at dksX1_made_1 3 rfl rfl)
theorem dX1_made_28 : decode cX1_made 28 = .ok (.iload_n 2, 1) := dk_28 (dk_at dksX1_made_1 4 rfl rfl)
theorem dX1_made_29 : decode cX1_made 29 = .ok (.sipush 128, 3) := dk_17 0 128 (dk_at dksX1_made_1 5 rfl rfl)
theorem dX1_made_32 : decode cX1_made 32 = .ok (.idiv, 1) := dk_108 (dk_at dksX1_made_1 8 rfl rfl)
theorem dX1_made_33 : decode cX1_made 33 = .ok (.bipush 20, 2) := dk_16 20 (dk_at dksX1_made_1 9 rfl rfl)
theorem dX1_made_35 : decode cX1_made 35 = .ok (.irem, 1) := dk_112 (dk_at dksX1_made_1 11 rfl rfl)
theorem dX1_made_36 : decode cX1_made 36 = .ok (.iadd, 1) := dk_96 (dk_at dksX1_made_1 12 rfl rfl)
theorem dX1_made_37 : decode cX1_made 37 = .ok (.invokespecial 126, 3) := dk_183 0 126 (dk_at dksX1_made_1 13 rfl rfl)
theorem dX1_made_40 : decode cX1_made 40 = .ok (.areturn, 1) := dk_176 (dk_at dksX1_made_1 16 rfl rfl)
theorem dX1_made_41 : decode cX1_made 41 = .ok (.aload_n 0, 1) := dk_42 (dk_at dksX1_made_1 17 rfl rfl)
theorem dX1_made_42 : decode cX1_made 42 = .ok (.iload_n 3, 1) := dk_29 (dk_at dksX1_made_1 18 rfl rfl)
theorem dX1_made_43 : decode cX1_made 43 = .ok (.invokevirtual 65, 3) := dk_182 0 65 (dk_at dksX1_made_1 19 rfl rfl)
theorem dX1_made_46 : decode cX1_made 46 = .ok (.ifCond .eq 23, 3) := dk_153 0 23 (dk_at dksX1_made_2 0 rfl rfl)
theorem dX1_made_49 : decode cX1_made 49 = .ok (.iload_n 1, 1) := dk_27 (dk_at dksX1_made_2 3 rfl rfl)
theorem dX1_made_50 : decode cX1_made 50 = .ok (.iconst 2, 1) := dk_5 (dk_at dksX1_made_2 4 rfl rfl)
theorem dX1_made_51 : decode cX1_made 51 = .ok (.if_icmp .le 20, 3) := dk_164 0 20 (dk_at dksX1_made_2 5 rfl rfl)
theorem dX1_made_54 : decode cX1_made 54 = .ok (.iload_n 1, 1) := dk_27 (dk_at dksX1_made_2 8 rfl rfl)
theorem dX1_made_55 : decode cX1_made 55 = .ok (.bipush 6, 2) := dk_16 6 (dk_at dksX1_made_2 9 rfl rfl)
theorem dX1_made_57 : decode cX1_made 57 = .ok (.if_icmp .ge 14, 3) := dk_162 0 14 (dk_at dksX1_made_2 11 rfl rfl)
theorem dX1_made_60 : decode cX1_made 60 = .ok (.aload_n 0, 1) := dk_42 (dk_at dksX1_made_2 14 rfl rfl)
theorem dX1_made_61 : decode cX1_made 61 = .ok (.iload 4, 2) := dk_21 4 (dk_at dksX1_made_2 15 rfl rfl)
theorem dX1_made_63 : decode cX1_made 63 = .ok (.invokevirtual 65, 3) := dk_182 0 65 (dk_at dksX1_made_2 17 rfl rfl)
theorem dX1_made_66 : decode cX1_made 66 = .ok (.ifCond .ne 5, 3) := dk_154 0 5 (dk_at dksX1_made_2 20 rfl rfl)
theorem dX1_made_69 : decode cX1_made 69 = .ok (.aconst_null, 1) := dk_1 (dk_at dksX1_made_2 23 rfl rfl)
theorem dX1_made_70 : decode cX1_made 70 = .ok (.areturn, 1) := dk_176 (dk_at dksX1_made_3 0 rfl rfl)
theorem dX1_made_71 : decode cX1_made 71 = .ok (.aload_n 0, 1) := dk_42 (dk_at dksX1_made_3 1 rfl rfl)
theorem dX1_made_72 : decode cX1_made 72 = .ok (.iload_n 3, 1) := dk_29 (dk_at dksX1_made_3 2 rfl rfl)
theorem dX1_made_73 : decode cX1_made 73 = .ok (.invokevirtual 72, 3) := dk_182 0 72 (dk_at dksX1_made_3 3 rfl rfl)
theorem dX1_made_76 : decode cX1_made 76 = .ok (.astore 5, 2) := dk_58 5 (dk_at dksX1_made_3 6 rfl rfl)
theorem dX1_made_78 : decode cX1_made 78 = .ok (.iload_n 1, 1) := dk_27 (dk_at dksX1_made_3 8 rfl rfl)
theorem dX1_made_79 : decode cX1_made 79 = .ok (.tableswitch 144 2 7 #[37, 58, 76, 94, 112, 124], 37) := by decide +kernel
theorem dX1_made_116 : decode cX1_made 116 = .ok (.new 136, 3) := dk_187 0 136 (dk_at dksX1_made_5 0 rfl rfl)
theorem dX1_made_119 : decode cX1_made 119 = .ok (.dup, 1) := dk_89 (dk_at dksX1_made_5 3 rfl rfl)
theorem dX1_made_120 : decode cX1_made 120 = .ok (.aload 5, 2) := dk_25 5 (dk_at dksX1_made_5 4 rfl rfl)
theorem dX1_made_122 : decode cX1_made 122 = .ok (.iconst 1, 1) := dk_4 (dk_at dksX1_made_5 6 rfl rfl)
theorem dX1_made_123 : decode cX1_made 123 = .ok (.iload_n 2, 1) := dk_28 (dk_at dksX1_made_5 7 rfl rfl)
theorem dX1_made_124 : decode cX1_made 124 = .ok (.bipush 16, 2) := dk_16 16 (dk_at dksX1_made_5 8 rfl rfl)
theorem dX1_made_126 : decode cX1_made 126 = .ok (.idiv, 1) := dk_108 (dk_at dksX1_made_5 10 rfl rfl)
theorem dX1_made_127 : decode cX1_made 127 = .ok (.iconst 3, 1) := dk_6 (dk_at dksX1_made_5 11 rfl rfl)
theorem dX1_made_128 : decode cX1_made 128 = .ok (.irem, 1) := dk_112 (dk_at dksX1_made_5 12 rfl rfl)
theorem dX1_made_129 : decode cX1_made 129 = .ok (.iadd, 1) := dk_96 (dk_at dksX1_made_5 13 rfl rfl)
theorem dX1_made_130 : decode cX1_made 130 = .ok (.iconst 0, 1) := dk_3 (dk_at dksX1_made_5 14 rfl rfl)
theorem dX1_made_131 : decode cX1_made 131 = .ok (.invokespecial 138, 3) := dk_183 0 138 (dk_at dksX1_made_5 15 rfl rfl)
theorem dX1_made_134 : decode cX1_made 134 = .ok (.goto 98, 3) := dk_167 0 98 (dk_at dksX1_made_5 18 rfl rfl)
theorem dX1_made_137 : decode cX1_made 137 = .ok (.new 141, 3) := dk_187 0 141 (dk_at dksX1_made_5 21 rfl rfl)
theorem dX1_made_140 : decode cX1_made 140 = .ok (.dup, 1) := dk_89 (dk_at dksX1_made_6 0 rfl rfl)
theorem dX1_made_141 : decode cX1_made 141 = .ok (.aload 5, 2) := dk_25 5 (dk_at dksX1_made_6 1 rfl rfl)
theorem dX1_made_143 : decode cX1_made 143 = .ok (.aload_n 0, 1) := dk_42 (dk_at dksX1_made_6 3 rfl rfl)
theorem dX1_made_144 : decode cX1_made 144 = .ok (.iload 4, 2) := dk_21 4 (dk_at dksX1_made_6 4 rfl rfl)
theorem dX1_made_146 : decode cX1_made 146 = .ok (.invokevirtual 72, 3) := dk_182 0 72 (dk_at dksX1_made_6 6 rfl rfl)
theorem dX1_made_149 : decode cX1_made 149 = .ok (.invokespecial 143, 3) := dk_183 0 143 (dk_at dksX1_made_6 9 rfl rfl)
theorem dX1_made_152 : decode cX1_made 152 = .ok (.goto 80, 3) := dk_167 0 80 (dk_at dksX1_made_6 12 rfl rfl)
theorem dX1_made_155 : decode cX1_made 155 = .ok (.new 146, 3) := dk_187 0 146 (dk_at dksX1_made_6 15 rfl rfl)
theorem dX1_made_158 : decode cX1_made 158 = .ok (.dup, 1) := dk_89 (dk_at dksX1_made_6 18 rfl rfl)
theorem dX1_made_159 : decode cX1_made 159 = .ok (.aload 5, 2) := dk_25 5 (dk_at dksX1_made_6 19 rfl rfl)
theorem dX1_made_161 : decode cX1_made 161 = .ok (.aload_n 0, 1) := dk_42 (dk_at dksX1_made_6 21 rfl rfl)
theorem dX1_made_162 : decode cX1_made 162 = .ok (.iload 4, 2) := dk_21 4 (dk_at dksX1_made_6 22 rfl rfl)
theorem dX1_made_164 : decode cX1_made 164 = .ok (.invokevirtual 72, 3) := dk_182 0 72 (dk_at dksX1_made_7 0 rfl rfl)
theorem dX1_made_167 : decode cX1_made 167 = .ok (.invokespecial 148, 3) := dk_183 0 148 (dk_at dksX1_made_7 3 rfl rfl)
theorem dX1_made_170 : decode cX1_made 170 = .ok (.goto 62, 3) := dk_167 0 62 (dk_at dksX1_made_7 6 rfl rfl)
theorem dX1_made_173 : decode cX1_made 173 = .ok (.new 149, 3) := dk_187 0 149 (dk_at dksX1_made_7 9 rfl rfl)
theorem dX1_made_176 : decode cX1_made 176 = .ok (.dup, 1) := dk_89 (dk_at dksX1_made_7 12 rfl rfl)
theorem dX1_made_177 : decode cX1_made 177 = .ok (.aload 5, 2) := dk_25 5 (dk_at dksX1_made_7 13 rfl rfl)
theorem dX1_made_179 : decode cX1_made 179 = .ok (.aload_n 0, 1) := dk_42 (dk_at dksX1_made_7 15 rfl rfl)
theorem dX1_made_180 : decode cX1_made 180 = .ok (.iload 4, 2) := dk_21 4 (dk_at dksX1_made_7 16 rfl rfl)
theorem dX1_made_182 : decode cX1_made 182 = .ok (.invokevirtual 72, 3) := dk_182 0 72 (dk_at dksX1_made_7 18 rfl rfl)
theorem dX1_made_185 : decode cX1_made 185 = .ok (.invokespecial 151, 3) := dk_183 0 151 (dk_at dksX1_made_7 21 rfl rfl)
theorem dX1_made_188 : decode cX1_made 188 = .ok (.goto 44, 3) := dk_167 0 44 (dk_at dksX1_made_8 0 rfl rfl)
theorem dX1_made_191 : decode cX1_made 191 = .ok (.new 152, 3) := dk_187 0 152 (dk_at dksX1_made_8 3 rfl rfl)
theorem dX1_made_194 : decode cX1_made 194 = .ok (.dup, 1) := dk_89 (dk_at dksX1_made_8 6 rfl rfl)
theorem dX1_made_195 : decode cX1_made 195 = .ok (.aload 5, 2) := dk_25 5 (dk_at dksX1_made_8 7 rfl rfl)
theorem dX1_made_197 : decode cX1_made 197 = .ok (.invokespecial 154, 3) := dk_183 0 154 (dk_at dksX1_made_8 9 rfl rfl)
theorem dX1_made_200 : decode cX1_made 200 = .ok (.goto 32, 3) := dk_167 0 32 (dk_at dksX1_made_8 12 rfl rfl)
theorem dX1_made_203 : decode cX1_made 203 = .ok (.new 160, 3) := dk_187 0 160 (dk_at dksX1_made_8 15 rfl rfl)
theorem dX1_made_206 : decode cX1_made 206 = .ok (.dup, 1) := dk_89 (dk_at dksX1_made_8 18 rfl rfl)
theorem dX1_made_207 : decode cX1_made 207 = .ok (.aload 5, 2) := dk_25 5 (dk_at dksX1_made_8 19 rfl rfl)
theorem dX1_made_209 : decode cX1_made 209 = .ok (.iconst 1, 1) := dk_4 (dk_at dksX1_made_8 21 rfl rfl)
theorem dX1_made_210 : decode cX1_made 210 = .ok (.iload_n 2, 1) := dk_28 (dk_at dksX1_made_8 22 rfl rfl)
theorem dX1_made_211 : decode cX1_made 211 = .ok (.bipush 16, 2) := dk_16 16 (dk_at dksX1_made_9 0 rfl rfl)
theorem dX1_made_213 : decode cX1_made 213 = .ok (.idiv, 1) := dk_108 (dk_at dksX1_made_9 2 rfl rfl)
theorem dX1_made_214 : decode cX1_made 214 = .ok (.iconst 4, 1) := dk_7 (dk_at dksX1_made_9 3 rfl rfl)
theorem dX1_made_215 : decode cX1_made 215 = .ok (.irem, 1) := dk_112 (dk_at dksX1_made_9 4 rfl rfl)
theorem dX1_made_216 : decode cX1_made 216 = .ok (.iadd, 1) := dk_96 (dk_at dksX1_made_9 5 rfl rfl)
theorem dX1_made_217 : decode cX1_made 217 = .ok (.invokespecial 162, 3) := dk_183 0 162 (dk_at dksX1_made_9 6 rfl rfl)
theorem dX1_made_220 : decode cX1_made 220 = .ok (.goto 12, 3) := dk_167 0 12 (dk_at dksX1_made_9 9 rfl rfl)
theorem dX1_made_223 : decode cX1_made 223 = .ok (.new 165, 3) := dk_187 0 165 (dk_at dksX1_made_9 12 rfl rfl)
theorem dX1_made_226 : decode cX1_made 226 = .ok (.dup, 1) := dk_89 (dk_at dksX1_made_9 15 rfl rfl)
theorem dX1_made_227 : decode cX1_made 227 = .ok (.aload 5, 2) := dk_25 5 (dk_at dksX1_made_9 16 rfl rfl)
theorem dX1_made_229 : decode cX1_made 229 = .ok (.invokespecial 167, 3) := dk_183 0 167 (dk_at dksX1_made_9 18 rfl rfl)
theorem dX1_made_232 : decode cX1_made 232 = .ok (.areturn, 1) := dk_176 (dk_at dksX1_made_9 21 rfl rfl)
abbrev cX1_save : ByteArray := prog_1_method_57_code
def yX1_save : MethodName := ⟨RX1, "save", "(I)I"⟩
def dkwX1_save_1 : List UInt8 := [183, 0, 62, 83, 42, 180, 0, 29, 180, 0, 207, 185, 0, 211, 1, 0, 172]
abbrev dktX1_save_1 : List UInt8 := dkwX1_save_1 ++ []
def dkwX1_save_0 : List UInt8 := [27, 3, 4, 184, 0, 15, 184, 0, 68, 42, 180, 0, 40, 27, 187, 0, 26, 89, 42, 180, 0, 29]
abbrev dktX1_save_0 : List UInt8 := dkwX1_save_0 ++ dktX1_save_1
theorem dksX1_save_0 : cX1_save.data.toList.drop 0 = dktX1_save_0 := by decide +kernel
theorem dksX1_save_1 : cX1_save.data.toList.drop 22 = dktX1_save_1 := dk_seg dksX1_save_0 22 rfl rfl
theorem dX1_save_0 : decode cX1_save 0 = .ok (.iload_n 1, 1) := dk_27 (dk_at dksX1_save_0 0 rfl rfl)
theorem dX1_save_1 : decode cX1_save 1 = .ok (.iconst 0, 1) := dk_3 (dk_at dksX1_save_0 1 rfl rfl)
theorem dX1_save_2 : decode cX1_save 2 = .ok (.iconst 1, 1) := dk_4 (dk_at dksX1_save_0 2 rfl rfl)
theorem dX1_save_3 : decode cX1_save 3 = .ok (.invokestatic 15, 3) := dk_184 0 15 (dk_at dksX1_save_0 3 rfl rfl)
theorem dX1_save_6 : decode cX1_save 6 = .ok (.invokestatic 68, 3) := dk_184 0 68 (dk_at dksX1_save_0 6 rfl rfl)
theorem dX1_save_9 : decode cX1_save 9 = .ok (.aload_n 0, 1) := dk_42 (dk_at dksX1_save_0 9 rfl rfl)
theorem dX1_save_10 : decode cX1_save 10 = .ok (.getfield 40, 3) := dk_180 0 40 (dk_at dksX1_save_0 10 rfl rfl)
theorem dX1_save_13 : decode cX1_save 13 = .ok (.iload_n 1, 1) := dk_27 (dk_at dksX1_save_0 13 rfl rfl)
theorem dX1_save_14 : decode cX1_save 14 = .ok (.new 26, 3) := dk_187 0 26 (dk_at dksX1_save_0 14 rfl rfl)
theorem dX1_save_17 : decode cX1_save 17 = .ok (.dup, 1) := dk_89 (dk_at dksX1_save_0 17 rfl rfl)
theorem dX1_save_18 : decode cX1_save 18 = .ok (.aload_n 0, 1) := dk_42 (dk_at dksX1_save_0 18 rfl rfl)
theorem dX1_save_19 : decode cX1_save 19 = .ok (.getfield 29, 3) := dk_180 0 29 (dk_at dksX1_save_0 19 rfl rfl)
theorem dX1_save_22 : decode cX1_save 22 = .ok (.invokespecial 62, 3) := dk_183 0 62 (dk_at dksX1_save_1 0 rfl rfl)
theorem dX1_save_25 : decode cX1_save 25 = .ok (.aastore, 1) := dk_83 (dk_at dksX1_save_1 3 rfl rfl)
theorem dX1_save_26 : decode cX1_save 26 = .ok (.aload_n 0, 1) := dk_42 (dk_at dksX1_save_1 4 rfl rfl)
theorem dX1_save_27 : decode cX1_save 27 = .ok (.getfield 29, 3) := dk_180 0 29 (dk_at dksX1_save_1 5 rfl rfl)
theorem dX1_save_30 : decode cX1_save 30 = .ok (.getfield 207, 3) := dk_180 0 207 (dk_at dksX1_save_1 8 rfl rfl)
theorem dX1_save_33 : decode cX1_save 33 = .ok (.invokeinterface 211 1, 5) := by decide +kernel
theorem dX1_save_38 : decode cX1_save 38 = .ok (.ireturn, 1) := dk_172 (dk_at dksX1_save_1 16 rfl rfl)
abbrev cX1_restore : ByteArray := prog_1_method_58_code
def yX1_restore : MethodName := ⟨RX1, "restore", "(I)I"⟩
def dkwX1_restore_2 : List UInt8 := [185, 0, 102, 1, 0, 42, 180, 0, 29, 180, 0, 207, 185, 0, 211, 1, 0, 172]
abbrev dktX1_restore_2 : List UInt8 := dkwX1_restore_2 ++ []
def dkwX1_restore_1 : List UInt8 := [184, 0, 90, 42, 187, 0, 26, 89, 42, 180, 0, 40, 27, 50, 183, 0, 62, 181, 0, 29, 42, 180, 0, 36]
abbrev dktX1_restore_1 : List UInt8 := dkwX1_restore_1 ++ dktX1_restore_2
def dkwX1_restore_0 : List UInt8 := [27, 3, 4, 184, 0, 15, 184, 0, 68, 42, 180, 0, 40, 27, 50, 198, 0, 7, 4, 167, 0, 4, 3]
abbrev dktX1_restore_0 : List UInt8 := dkwX1_restore_0 ++ dktX1_restore_1
theorem dksX1_restore_0 : cX1_restore.data.toList.drop 0 = dktX1_restore_0 := by decide +kernel
theorem dksX1_restore_1 : cX1_restore.data.toList.drop 23 = dktX1_restore_1 := dk_seg dksX1_restore_0 23 rfl rfl
theorem dksX1_restore_2 : cX1_restore.data.toList.drop 47 = dktX1_restore_2 := dk_seg dksX1_restore_1 24 rfl rfl
theorem dX1_restore_0 : decode cX1_restore 0 = .ok (.iload_n 1, 1) := dk_27 (dk_at dksX1_restore_0 0 rfl rfl)
theorem dX1_restore_1 : decode cX1_restore 1 = .ok (.iconst 0, 1) := dk_3 (dk_at dksX1_restore_0 1 rfl rfl)
theorem dX1_restore_2 : decode cX1_restore 2 = .ok (.iconst 1, 1) := dk_4 (dk_at dksX1_restore_0 2 rfl rfl)
theorem dX1_restore_3 : decode cX1_restore 3 = .ok (.invokestatic 15, 3) := dk_184 0 15 (dk_at dksX1_restore_0 3 rfl rfl)
theorem dX1_restore_6 : decode cX1_restore 6 = .ok (.invokestatic 68, 3) := dk_184 0 68 (dk_at dksX1_restore_0 6 rfl rfl)
theorem dX1_restore_9 : decode cX1_restore 9 = .ok (.aload_n 0, 1) := dk_42 (dk_at dksX1_restore_0 9 rfl rfl)
theorem dX1_restore_10 : decode cX1_restore 10 = .ok (.getfield 40, 3) := dk_180 0 40 (dk_at dksX1_restore_0 10 rfl rfl)
theorem dX1_restore_13 : decode cX1_restore 13 = .ok (.iload_n 1, 1) := dk_27 (dk_at dksX1_restore_0 13 rfl rfl)
theorem dX1_restore_14 : decode cX1_restore 14 = .ok (.aaload, 1) := dk_50 (dk_at dksX1_restore_0 14 rfl rfl)
theorem dX1_restore_15 : decode cX1_restore 15 = .ok (.ifnull 7, 3) := dk_198 0 7 (dk_at dksX1_restore_0 15 rfl rfl)
theorem dX1_restore_18 : decode cX1_restore 18 = .ok (.iconst 1, 1) := dk_4 (dk_at dksX1_restore_0 18 rfl rfl)
theorem dX1_restore_19 : decode cX1_restore 19 = .ok (.goto 4, 3) := dk_167 0 4 (dk_at dksX1_restore_0 19 rfl rfl)
theorem dX1_restore_22 : decode cX1_restore 22 = .ok (.iconst 0, 1) := dk_3 (dk_at dksX1_restore_0 22 rfl rfl)
theorem dX1_restore_23 : decode cX1_restore 23 = .ok (.invokestatic 90, 3) := dk_184 0 90 (dk_at dksX1_restore_1 0 rfl rfl)
theorem dX1_restore_26 : decode cX1_restore 26 = .ok (.aload_n 0, 1) := dk_42 (dk_at dksX1_restore_1 3 rfl rfl)
theorem dX1_restore_27 : decode cX1_restore 27 = .ok (.new 26, 3) := dk_187 0 26 (dk_at dksX1_restore_1 4 rfl rfl)
theorem dX1_restore_30 : decode cX1_restore 30 = .ok (.dup, 1) := dk_89 (dk_at dksX1_restore_1 7 rfl rfl)
theorem dX1_restore_31 : decode cX1_restore 31 = .ok (.aload_n 0, 1) := dk_42 (dk_at dksX1_restore_1 8 rfl rfl)
theorem dX1_restore_32 : decode cX1_restore 32 = .ok (.getfield 40, 3) := dk_180 0 40 (dk_at dksX1_restore_1 9 rfl rfl)
theorem dX1_restore_35 : decode cX1_restore 35 = .ok (.iload_n 1, 1) := dk_27 (dk_at dksX1_restore_1 12 rfl rfl)
theorem dX1_restore_36 : decode cX1_restore 36 = .ok (.aaload, 1) := dk_50 (dk_at dksX1_restore_1 13 rfl rfl)
theorem dX1_restore_37 : decode cX1_restore 37 = .ok (.invokespecial 62, 3) := dk_183 0 62 (dk_at dksX1_restore_1 14 rfl rfl)
theorem dX1_restore_40 : decode cX1_restore 40 = .ok (.putfield 29, 3) := dk_181 0 29 (dk_at dksX1_restore_1 17 rfl rfl)
theorem dX1_restore_43 : decode cX1_restore 43 = .ok (.aload_n 0, 1) := dk_42 (dk_at dksX1_restore_1 20 rfl rfl)
theorem dX1_restore_44 : decode cX1_restore 44 = .ok (.getfield 36, 3) := dk_180 0 36 (dk_at dksX1_restore_1 21 rfl rfl)
theorem dX1_restore_47 : decode cX1_restore 47 = .ok (.invokeinterface 102 1, 5) := by decide +kernel
theorem dX1_restore_52 : decode cX1_restore 52 = .ok (.aload_n 0, 1) := dk_42 (dk_at dksX1_restore_2 5 rfl rfl)
theorem dX1_restore_53 : decode cX1_restore 53 = .ok (.getfield 29, 3) := dk_180 0 29 (dk_at dksX1_restore_2 6 rfl rfl)
theorem dX1_restore_56 : decode cX1_restore 56 = .ok (.getfield 207, 3) := dk_180 0 207 (dk_at dksX1_restore_2 9 rfl rfl)
theorem dX1_restore_59 : decode cX1_restore 59 = .ok (.invokeinterface 211 1, 5) := by decide +kernel
theorem dX1_restore_64 : decode cX1_restore 64 = .ok (.ireturn, 1) := dk_172 (dk_at dksX1_restore_2 17 rfl rfl)
theorem q53 : (Jvm.Cond.initialized "RuleLists") ∈ lw_all := lw_g (lw_at lw_m1 1 rfl) rfl
theorem q92 : (Jvm.Cond.instantiable "RuleLists" (5 : Nat)) ∈ lw_all := lw_g (lw_at lw_m1 40 rfl) rfl
theorem q94 : (Jvm.Cond.instanceMethod ({ cls := "RuleLists", name := "<init>", desc := "()V" } : Jvm.MethodName)) ∈ lw_all := lw_g (lw_at lw_m1 42 rfl) rfl
theorem q95 : (Jvm.Cond.code ({ cls := "RuleLists", name := "<init>", desc := "()V" } : Jvm.MethodName) prog_1_method_9_code (1 : Nat) (Option.none : Option Jvm.ClassFile.FieldType)) ∈ lw_all := lw_g (lw_at lw_m1 43 rfl) rfl
theorem q96 : (Jvm.Cond.methodLink "RuleLists" (23 : Nat) ({ cls := "java/lang/Object", name := "<init>", desc := "()V" } : Jvm.MethodName)) ∈ lw_all := lw_g (lw_at lw_m1 44 rfl) rfl
theorem q99 : (Jvm.Cond.classLink "RuleLists" (26 : Nat) "RuleLists$Shelf") ∈ lw_all := lw_g (lw_at lw_m1 47 rfl) rfl
theorem q101 : (Jvm.Cond.methodLink "RuleLists" (28 : Nat) ({ cls := "RuleLists$Shelf", name := "<init>", desc := "()V" } : Jvm.MethodName)) ∈ lw_all := lw_g (lw_at lw_m1 49 rfl) rfl
theorem q132 : (Jvm.Cond.fieldLinkNest "RuleLists" (207 : Nat) "RuleLists$Shelf" "rules" "Ljava/util/List;" "RuleLists") ∈ lw_tbl := lw_at lw_m1 80 rfl
theorem q134 : (Jvm.Cond.fieldLinkNest "RuleLists" (238 : Nat) "RuleLists$Shelf" "readers" "Ljava/util/List;" "RuleLists") ∈ lw_tbl := lw_at lw_m1 82 rfl
theorem q136 : (Jvm.Cond.fieldLinkNest "RuleLists" (249 : Nat) "RuleLists$Shelf" "readings" "I" "RuleLists") ∈ lw_tbl := lw_at lw_m1 84 rfl
theorem q144 : (Jvm.Cond.classLink "RuleLists" (33 : Nat) "java/util/ArrayDeque") ∈ lw_all := lw_g (lw_at lw_m1 92 rfl) rfl
theorem q146 : (Jvm.Cond.methodLink "RuleLists" (35 : Nat) ({ cls := "java/util/ArrayDeque", name := "<init>", desc := "()V" } : Jvm.MethodName)) ∈ lw_all := lw_g (lw_at lw_m1 94 rfl) rfl
theorem q163 : (Jvm.Cond.fieldLink "RuleLists" (29 : Nat) "RuleLists" "shelf" "LRuleLists$Shelf;") ∈ lw_all := lw_g (lw_at lw_m1 111 rfl) rfl
theorem q164 : (Jvm.Cond.fieldLink "RuleLists" (36 : Nat) "RuleLists" "history" "Ljava/util/Deque;") ∈ lw_all := lw_g (lw_at lw_m1 112 rfl) rfl
theorem q165 : (Jvm.Cond.fieldLink "RuleLists" (40 : Nat) "RuleLists" "slots" "[LRuleLists$Shelf;") ∈ lw_all := lw_g (lw_at lw_m1 113 rfl) rfl
theorem q166 : (Jvm.Cond.fieldLink "RuleLists" (44 : Nat) "RuleLists" "text" "[C") ∈ lw_all := lw_g (lw_at lw_m1 114 rfl) rfl
theorem q167 : (Jvm.Cond.fieldLink "RuleLists" (86 : Nat) "RuleLists" "textLength" "I") ∈ lw_all := lw_g (lw_at lw_m1 115 rfl) rfl
theorem q168 : (Jvm.Cond.lays "RuleLists" "RuleLists" "shelf" "LRuleLists$Shelf;") ∈ lw_all := lw_g (lw_at lw_m1 116 rfl) rfl
theorem q169 : (Jvm.Cond.soleField "RuleLists" "shelf") ∈ lw_all := lw_g (lw_at lw_m1 117 rfl) rfl
theorem q170 : (Jvm.Cond.laysFinal "RuleLists" "RuleLists" "history" "Ljava/util/Deque;") ∈ lw_all := lw_g (lw_at lw_m1 118 rfl) rfl
theorem q171 : (Jvm.Cond.soleField "RuleLists" "history") ∈ lw_all := lw_g (lw_at lw_m1 119 rfl) rfl
theorem q172 : (Jvm.Cond.laysFinal "RuleLists" "RuleLists" "slots" "[LRuleLists$Shelf;") ∈ lw_all := lw_g (lw_at lw_m1 120 rfl) rfl
theorem q173 : (Jvm.Cond.soleField "RuleLists" "slots") ∈ lw_all := lw_g (lw_at lw_m1 121 rfl) rfl
theorem q174 : (Jvm.Cond.laysFinal "RuleLists" "RuleLists" "text" "[C") ∈ lw_all := lw_g (lw_at lw_m1 122 rfl) rfl
theorem q175 : (Jvm.Cond.soleField "RuleLists" "text") ∈ lw_all := lw_g (lw_at lw_m1 123 rfl) rfl
theorem q176 : (Jvm.Cond.lays "RuleLists" "RuleLists" "textLength" "I") ∈ lw_all := lw_g (lw_at lw_m1 124 rfl) rfl
theorem q177 : (Jvm.Cond.soleField "RuleLists" "textLength") ∈ lw_all := lw_g (lw_at lw_m1 125 rfl) rfl
theorem q178 : (Jvm.Cond.superclass "RuleLists" "java/lang/Object") ∈ lw_all := lw_g (lw_at lw_m1 126 rfl) rfl
theorem q181 : (Jvm.Cond.instanceMethod ({ cls := "RuleLists", name := "clearText", desc := "()I" } : Jvm.MethodName)) ∈ lw_all := lw_g (lw_at lw_m1 129 rfl) rfl
theorem q182 : (Jvm.Cond.selects "RuleLists" ({ cls := "RuleLists", name := "clearText", desc := "()I" } : Jvm.MethodName) ({ cls := "RuleLists", name := "clearText", desc := "()I" } : Jvm.MethodName)) ∈ lw_all := lw_g (lw_at lw_m1 130 rfl) rfl
theorem q183 : (Jvm.Cond.code ({ cls := "RuleLists", name := "clearText", desc := "()I" } : Jvm.MethodName) prog_1_method_14_code (2 : Nat) (Option.some Jvm.ClassFile.FieldType.int)) ∈ lw_all := lw_g (lw_at lw_m1 131 rfl) rfl
theorem q185 : (Jvm.Cond.instanceMethod ({ cls := "RuleLists", name := "errorPosition", desc := "()I" } : Jvm.MethodName)) ∈ lw_all := lw_g (lw_at lw_m1 133 rfl) rfl
theorem q186 : (Jvm.Cond.selects "RuleLists" ({ cls := "RuleLists", name := "errorPosition", desc := "()I" } : Jvm.MethodName) ({ cls := "RuleLists", name := "errorPosition", desc := "()I" } : Jvm.MethodName)) ∈ lw_all := lw_g (lw_at lw_m1 134 rfl) rfl
theorem q187 : (Jvm.Cond.code ({ cls := "RuleLists", name := "errorPosition", desc := "()I" } : Jvm.MethodName) prog_1_method_15_code (1 : Nat) (Option.some Jvm.ClassFile.FieldType.int)) ∈ lw_all := lw_g (lw_at lw_m1 135 rfl) rfl
theorem q188 : (Jvm.Cond.classLink "RuleLists" (93 : Nat) "RuleLists$Parser") ∈ lw_all := lw_g (lw_at lw_m1 136 rfl) rfl
theorem q190 : (Jvm.Cond.methodLink "RuleLists" (95 : Nat) ({ cls := "RuleLists$Parser", name := "<init>", desc := "([CI)V" } : Jvm.MethodName)) ∈ lw_all := lw_g (lw_at lw_m1 138 rfl) rfl
theorem q199 : (Jvm.Cond.fieldLinkNest "RuleLists" (101 : Nat) "RuleLists$Parser" "shelf" "LRuleLists$Shelf;" "RuleLists") ∈ lw_tbl := lw_at lw_m1 147 rfl
theorem q203 : (Jvm.Cond.fieldLinkNest "RuleLists" (105 : Nat) "RuleLists$Parser" "skipped" "I" "RuleLists") ∈ lw_tbl := lw_at lw_m1 151 rfl
theorem q217 : (Jvm.Cond.methodLink "RuleLists" (98 : Nat) ({ cls := "RuleLists$Parser", name := "parse", desc := "()I" } : Jvm.MethodName)) ∈ lw_all := lw_g (lw_at lw_m1 165 rfl) rfl
theorem q245 : (Jvm.Cond.static ({ cls := "RuleLists", name := "inRange", desc := "(III)Z" } : Jvm.MethodName)) ∈ lw_all := lw_g (lw_at lw_m1 193 rfl) rfl
theorem q246 : (Jvm.Cond.code ({ cls := "RuleLists", name := "inRange", desc := "(III)Z" } : Jvm.MethodName) prog_1_method_1_code (3 : Nat) (Option.some Jvm.ClassFile.FieldType.boolean)) ∈ lw_all := lw_g (lw_at lw_m1 194 rfl) rfl
theorem q339 : (Jvm.Cond.selects "RuleLists" ({ cls := "java/lang/Object", name := "getClass", desc := "()Ljava/lang/Class;" } : Jvm.MethodName) ({ cls := "java/lang/Object", name := "getClass", desc := "()Ljava/lang/Class;" } : Jvm.MethodName)) ∈ lw_all := lw_g (lw_at lw_m2 47 rfl) rfl
theorem q582 : (Jvm.Cond.fieldLinkNest "RuleLists" (241 : Nat) "RuleLists$Reader" "list" "I" "RuleLists") ∈ lw_tbl := lw_at lw_m3 50 rfl
theorem q585 : (Jvm.Cond.fieldLinkNest "RuleLists" (246 : Nat) "RuleLists$Reader" "soFar" "I" "RuleLists") ∈ lw_tbl := lw_at lw_m3 53 rfl
theorem q776 : (Jvm.Cond.instanceMethod ({ cls := "RuleLists", name := "lists", desc := "()I" } : Jvm.MethodName)) ∈ lw_all := lw_g (lw_at lw_m4 4 rfl) rfl
theorem q777 : (Jvm.Cond.selects "RuleLists" ({ cls := "RuleLists", name := "lists", desc := "()I" } : Jvm.MethodName) ({ cls := "RuleLists", name := "lists", desc := "()I" } : Jvm.MethodName)) ∈ lw_all := lw_g (lw_at lw_m4 5 rfl) rfl
theorem q778 : (Jvm.Cond.code ({ cls := "RuleLists", name := "lists", desc := "()I" } : Jvm.MethodName) prog_1_method_33_code (1 : Nat) (Option.some Jvm.ClassFile.FieldType.int)) ∈ lw_all := lw_g (lw_at lw_m4 6 rfl) rfl
theorem q779 : (Jvm.Cond.interfaceEntry "RuleLists" (211 : Nat)) ∈ lw_tbl := lw_at lw_m4 7 rfl
theorem q780 : (Jvm.Cond.methodLink "RuleLists" (211 : Nat) ({ cls := "java/util/List", name := "size", desc := "()I" } : Jvm.MethodName)) ∈ lw_all := lw_g (lw_at lw_m4 8 rfl) rfl
theorem q782 : (Jvm.Cond.instanceMethod ({ cls := "RuleLists", name := "readers", desc := "()I" } : Jvm.MethodName)) ∈ lw_all := lw_g (lw_at lw_m4 10 rfl) rfl
theorem q783 : (Jvm.Cond.selects "RuleLists" ({ cls := "RuleLists", name := "readers", desc := "()I" } : Jvm.MethodName) ({ cls := "RuleLists", name := "readers", desc := "()I" } : Jvm.MethodName)) ∈ lw_all := lw_g (lw_at lw_m4 11 rfl) rfl
theorem q784 : (Jvm.Cond.code ({ cls := "RuleLists", name := "readers", desc := "()I" } : Jvm.MethodName) prog_1_method_42_code (1 : Nat) (Option.some Jvm.ClassFile.FieldType.int)) ∈ lw_all := lw_g (lw_at lw_m4 12 rfl) rfl
theorem q786 : (Jvm.Cond.instanceMethod ({ cls := "RuleLists", name := "readings", desc := "()I" } : Jvm.MethodName)) ∈ lw_all := lw_g (lw_at lw_m4 14 rfl) rfl
theorem q787 : (Jvm.Cond.selects "RuleLists" ({ cls := "RuleLists", name := "readings", desc := "()I" } : Jvm.MethodName) ({ cls := "RuleLists", name := "readings", desc := "()I" } : Jvm.MethodName)) ∈ lw_all := lw_g (lw_at lw_m4 15 rfl) rfl
theorem q788 : (Jvm.Cond.code ({ cls := "RuleLists", name := "readings", desc := "()I" } : Jvm.MethodName) prog_1_method_46_code (1 : Nat) (Option.some Jvm.ClassFile.FieldType.int)) ∈ lw_all := lw_g (lw_at lw_m4 16 rfl) rfl
theorem q790 : (Jvm.Cond.instanceMethod ({ cls := "RuleLists", name := "leastNext", desc := "()I" } : Jvm.MethodName)) ∈ lw_all := lw_g (lw_at lw_m4 18 rfl) rfl
theorem q791 : (Jvm.Cond.selects "RuleLists" ({ cls := "RuleLists", name := "leastNext", desc := "()I" } : Jvm.MethodName) ({ cls := "RuleLists", name := "leastNext", desc := "()I" } : Jvm.MethodName)) ∈ lw_all := lw_g (lw_at lw_m4 19 rfl) rfl
theorem q792 : (Jvm.Cond.code ({ cls := "RuleLists", name := "leastNext", desc := "()I" } : Jvm.MethodName) prog_1_method_47_code (1 : Nat) (Option.some Jvm.ClassFile.FieldType.int)) ∈ lw_all := lw_g (lw_at lw_m4 20 rfl) rfl
theorem q793 : (Jvm.Cond.methodLink "RuleLists" (252 : Nat) ({ cls := "RuleLists$Shelf", name := "leastNext", desc := "()I" } : Jvm.MethodName)) ∈ lw_all := lw_g (lw_at lw_m4 21 rfl) rfl
theorem q798 : (Jvm.Cond.instanceMethod ({ cls := "RuleLists", name := "whyNoDrop", desc := "()I" } : Jvm.MethodName)) ∈ lw_all := lw_g (lw_at lw_m4 26 rfl) rfl
theorem q799 : (Jvm.Cond.selects "RuleLists" ({ cls := "RuleLists", name := "whyNoDrop", desc := "()I" } : Jvm.MethodName) ({ cls := "RuleLists", name := "whyNoDrop", desc := "()I" } : Jvm.MethodName)) ∈ lw_all := lw_g (lw_at lw_m4 27 rfl) rfl
theorem q800 : (Jvm.Cond.code ({ cls := "RuleLists", name := "whyNoDrop", desc := "()I" } : Jvm.MethodName) prog_1_method_51_code (1 : Nat) (Option.some Jvm.ClassFile.FieldType.int)) ∈ lw_all := lw_g (lw_at lw_m4 28 rfl) rfl
theorem q801 : (Jvm.Cond.methodLink "RuleLists" (168 : Nat) ({ cls := "RuleLists$Shelf", name := "whyNoDrop", desc := "()I" } : Jvm.MethodName)) ∈ lw_all := lw_g (lw_at lw_m4 29 rfl) rfl
theorem q808 : (Jvm.Cond.instanceMethod ({ cls := "RuleLists", name := "append", desc := "(I)I" } : Jvm.MethodName)) ∈ lw_all := lw_g (lw_at lw_m4 36 rfl) rfl
theorem q809 : (Jvm.Cond.selects "RuleLists" ({ cls := "RuleLists", name := "append", desc := "(I)I" } : Jvm.MethodName) ({ cls := "RuleLists", name := "append", desc := "(I)I" } : Jvm.MethodName)) ∈ lw_all := lw_g (lw_at lw_m4 37 rfl) rfl
theorem q810 : (Jvm.Cond.code ({ cls := "RuleLists", name := "append", desc := "(I)I" } : Jvm.MethodName) prog_1_method_13_code (2 : Nat) (Option.some Jvm.ClassFile.FieldType.int)) ∈ lw_all := lw_g (lw_at lw_m4 38 rfl) rfl
theorem q811 : (Jvm.Cond.methodLink "RuleLists" (15 : Nat) ({ cls := "RuleLists", name := "inRange", desc := "(III)Z" } : Jvm.MethodName)) ∈ lw_all := lw_g (lw_at lw_m4 39 rfl) rfl
theorem q812 : (Jvm.Cond.methodLink "RuleLists" (83 : Nat) ({ cls := "RuleLists", name := "requireArgument", desc := "(Z)V" } : Jvm.MethodName)) ∈ lw_all := lw_g (lw_at lw_m4 40 rfl) rfl
theorem q813 : (Jvm.Cond.static ({ cls := "RuleLists", name := "requireArgument", desc := "(Z)V" } : Jvm.MethodName)) ∈ lw_all := lw_g (lw_at lw_m4 41 rfl) rfl
theorem q814 : (Jvm.Cond.code ({ cls := "RuleLists", name := "requireArgument", desc := "(Z)V" } : Jvm.MethodName) prog_1_method_3_code (1 : Nat) (Option.none : Option Jvm.ClassFile.FieldType)) ∈ lw_all := lw_g (lw_at lw_m4 42 rfl) rfl
theorem q815 : (Jvm.Cond.classLink "RuleLists" (7 : Nat) "java/lang/IllegalArgumentException") ∈ lw_all := lw_g (lw_at lw_m4 43 rfl) rfl
theorem q857 : (Jvm.Cond.methodLink "RuleLists" (9 : Nat) ({ cls := "java/lang/IllegalArgumentException", name := "<init>", desc := "()V" } : Jvm.MethodName)) ∈ lw_all := lw_g (lw_at lw_m4 85 rfl) rfl
theorem q880 : (Jvm.Cond.methodLink "RuleLists" (90 : Nat) ({ cls := "RuleLists", name := "requireState", desc := "(Z)V" } : Jvm.MethodName)) ∈ lw_all := lw_g (lw_at lw_m4 108 rfl) rfl
theorem q881 : (Jvm.Cond.static ({ cls := "RuleLists", name := "requireState", desc := "(Z)V" } : Jvm.MethodName)) ∈ lw_all := lw_g (lw_at lw_m4 109 rfl) rfl
theorem q882 : (Jvm.Cond.code ({ cls := "RuleLists", name := "requireState", desc := "(Z)V" } : Jvm.MethodName) prog_1_method_4_code (1 : Nat) (Option.none : Option Jvm.ClassFile.FieldType)) ∈ lw_all := lw_g (lw_at lw_m4 110 rfl) rfl
theorem q883 : (Jvm.Cond.classLink "RuleLists" (10 : Nat) "java/lang/IllegalStateException") ∈ lw_all := lw_g (lw_at lw_m4 111 rfl) rfl
theorem q892 : (Jvm.Cond.methodLink "RuleLists" (12 : Nat) ({ cls := "java/lang/IllegalStateException", name := "<init>", desc := "()V" } : Jvm.MethodName)) ∈ lw_all := lw_g (lw_at lw_m4 120 rfl) rfl
theorem q902 : (Jvm.Cond.instanceMethod ({ cls := "RuleLists", name := "load", desc := "()I" } : Jvm.MethodName)) ∈ lw_all := lw_g (lw_at lw_m4 130 rfl) rfl
theorem q903 : (Jvm.Cond.selects "RuleLists" ({ cls := "RuleLists", name := "load", desc := "()I" } : Jvm.MethodName) ({ cls := "RuleLists", name := "load", desc := "()I" } : Jvm.MethodName)) ∈ lw_all := lw_g (lw_at lw_m4 131 rfl) rfl
theorem q904 : (Jvm.Cond.code ({ cls := "RuleLists", name := "load", desc := "()I" } : Jvm.MethodName) prog_1_method_16_code (2 : Nat) (Option.some Jvm.ClassFile.FieldType.int)) ∈ lw_all := lw_g (lw_at lw_m4 132 rfl) rfl
theorem q905 : (Jvm.Cond.interfaceEntry "RuleLists" (102 : Nat)) ∈ lw_tbl := lw_at lw_m4 133 rfl
theorem q921 : (Jvm.Cond.instanceMethod ({ cls := "RuleLists", name := "makeSteps", desc := "(II)I" } : Jvm.MethodName)) ∈ lw_all := lw_g (lw_at lw_m4 149 rfl) rfl
theorem q922 : (Jvm.Cond.selects "RuleLists" ({ cls := "RuleLists", name := "makeSteps", desc := "(II)I" } : Jvm.MethodName) ({ cls := "RuleLists", name := "makeSteps", desc := "(II)I" } : Jvm.MethodName)) ∈ lw_all := lw_g (lw_at lw_m4 150 rfl) rfl
theorem q923 : (Jvm.Cond.code ({ cls := "RuleLists", name := "makeSteps", desc := "(II)I" } : Jvm.MethodName) prog_1_method_18_code (3 : Nat) (Option.some Jvm.ClassFile.FieldType.int)) ∈ lw_all := lw_g (lw_at lw_m4 151 rfl) rfl
theorem q924 : (Jvm.Cond.methodLink "RuleLists" (116 : Nat) ({ cls := "RuleLists", name := "isStart", desc := "(II)Z" } : Jvm.MethodName)) ∈ lw_all := lw_g (lw_at lw_m4 152 rfl) rfl
theorem q925 : (Jvm.Cond.static ({ cls := "RuleLists", name := "isStart", desc := "(II)Z" } : Jvm.MethodName)) ∈ lw_all := lw_g (lw_at lw_m4 153 rfl) rfl
theorem q926 : (Jvm.Cond.code ({ cls := "RuleLists", name := "isStart", desc := "(II)Z" } : Jvm.MethodName) prog_1_method_6_code (2 : Nat) (Option.some Jvm.ClassFile.FieldType.boolean)) ∈ lw_all := lw_g (lw_at lw_m4 154 rfl) rfl
theorem q927 : (Jvm.Cond.methodLink "RuleLists" (19 : Nat) ({ cls := "RuleLists", name := "isNumber", desc := "(I)Z" } : Jvm.MethodName)) ∈ lw_all := lw_g (lw_at lw_m4 155 rfl) rfl
theorem q928 : (Jvm.Cond.static ({ cls := "RuleLists", name := "isNumber", desc := "(I)Z" } : Jvm.MethodName)) ∈ lw_all := lw_g (lw_at lw_m4 156 rfl) rfl
theorem q929 : (Jvm.Cond.code ({ cls := "RuleLists", name := "isNumber", desc := "(I)Z" } : Jvm.MethodName) prog_1_method_5_code (1 : Nat) (Option.some Jvm.ClassFile.FieldType.boolean)) ∈ lw_all := lw_g (lw_at lw_m4 157 rfl) rfl
theorem q930 : (Jvm.Cond.methodLink "RuleLists" (120 : Nat) ({ cls := "RuleLists$Shelf", name := "hasRoom", desc := "()Z" } : Jvm.MethodName)) ∈ lw_all := lw_g (lw_at lw_m4 158 rfl) rfl
theorem q931 : (Jvm.Cond.classLink "RuleLists" (124 : Nat) "RuleLists$Steps") ∈ lw_all := lw_g (lw_at lw_m4 159 rfl) rfl
theorem q932 : (Jvm.Cond.methodLink "RuleLists" (126 : Nat) ({ cls := "RuleLists$Steps", name := "<init>", desc := "(II)V" } : Jvm.MethodName)) ∈ lw_all := lw_g (lw_at lw_m4 160 rfl) rfl
theorem q933 : (Jvm.Cond.methodLink "RuleLists" (129 : Nat) ({ cls := "RuleLists", name := "make", desc := "(LRuleLists$Rule;)I" } : Jvm.MethodName)) ∈ lw_all := lw_g (lw_at lw_m4 161 rfl) rfl
theorem q934 : (Jvm.Cond.privateMethod ({ cls := "RuleLists", name := "make", desc := "(LRuleLists$Rule;)I" } : Jvm.MethodName)) ∈ lw_tbl := lw_at lw_m4 162 rfl
theorem q935 : (Jvm.Cond.instanceMethod ({ cls := "RuleLists", name := "make", desc := "(LRuleLists$Rule;)I" } : Jvm.MethodName)) ∈ lw_all := lw_g (lw_at lw_m4 163 rfl) rfl
theorem q936 : (Jvm.Cond.code ({ cls := "RuleLists", name := "make", desc := "(LRuleLists$Rule;)I" } : Jvm.MethodName) prog_1_method_17_code (2 : Nat) (Option.some Jvm.ClassFile.FieldType.int)) ∈ lw_all := lw_g (lw_at lw_m4 164 rfl) rfl
theorem q937 : (Jvm.Cond.methodLink "RuleLists" (108 : Nat) ({ cls := "RuleLists", name := "act", desc := "()LRuleLists$Shelf;" } : Jvm.MethodName)) ∈ lw_all := lw_g (lw_at lw_m4 165 rfl) rfl
theorem q938 : (Jvm.Cond.privateMethod ({ cls := "RuleLists", name := "act", desc := "()LRuleLists$Shelf;" } : Jvm.MethodName)) ∈ lw_tbl := lw_at lw_m4 166 rfl
theorem q939 : (Jvm.Cond.instanceMethod ({ cls := "RuleLists", name := "act", desc := "()LRuleLists$Shelf;" } : Jvm.MethodName)) ∈ lw_all := lw_g (lw_at lw_m4 167 rfl) rfl
theorem q940 : (Jvm.Cond.code ({ cls := "RuleLists", name := "act", desc := "()LRuleLists$Shelf;" } : Jvm.MethodName) prog_1_method_10_code (1 : Nat) (Option.some (Jvm.ClassFile.FieldType.object "RuleLists$Shelf"))) ∈ lw_all := lw_g (lw_at lw_m4 168 rfl) rfl
theorem q941 : (Jvm.Cond.interfaceEntry "RuleLists" (48 : Nat)) ∈ lw_tbl := lw_at lw_m4 169 rfl
theorem q942 : (Jvm.Cond.methodLink "RuleLists" (48 : Nat) ({ cls := "java/util/Deque", name := "size", desc := "()I" } : Jvm.MethodName)) ∈ lw_all := lw_g (lw_at lw_m4 170 rfl) rfl
theorem q953 : (Jvm.Cond.interfaceEntry "RuleLists" (54 : Nat)) ∈ lw_tbl := lw_at lw_m4 181 rfl
theorem q954 : (Jvm.Cond.methodLink "RuleLists" (54 : Nat) ({ cls := "java/util/Deque", name := "removeFirst", desc := "()Ljava/lang/Object;" } : Jvm.MethodName)) ∈ lw_all := lw_g (lw_at lw_m4 182 rfl) rfl
theorem q972 : (Jvm.Cond.interfaceEntry "RuleLists" (58 : Nat)) ∈ lw_tbl := lw_at lw_m4 200 rfl
theorem q973 : (Jvm.Cond.methodLink "RuleLists" (58 : Nat) ({ cls := "java/util/Deque", name := "addLast", desc := "(Ljava/lang/Object;)V" } : Jvm.MethodName)) ∈ lw_all := lw_g (lw_at lw_m4 201 rfl) rfl
theorem q1007 : (Jvm.Cond.methodLink "RuleLists" (62 : Nat) ({ cls := "RuleLists$Shelf", name := "<init>", desc := "(LRuleLists$Shelf;)V" } : Jvm.MethodName)) ∈ lw_all := lw_g (lw_at lw_m4 235 rfl) rfl
theorem q1014 : (Jvm.Cond.methodLink "RuleLists" (112 : Nat) ({ cls := "RuleLists$Shelf", name := "make", desc := "(LRuleLists$Rule;)I" } : Jvm.MethodName)) ∈ lw_all := lw_g (lw_at lw_m5 2 rfl) rfl
theorem q1044 : (Jvm.Cond.instanceMethod ({ cls := "RuleLists", name := "makeScaled", desc := "(III)I" } : Jvm.MethodName)) ∈ lw_all := lw_g (lw_at lw_m5 32 rfl) rfl
theorem q1045 : (Jvm.Cond.selects "RuleLists" ({ cls := "RuleLists", name := "makeScaled", desc := "(III)I" } : Jvm.MethodName) ({ cls := "RuleLists", name := "makeScaled", desc := "(III)I" } : Jvm.MethodName)) ∈ lw_all := lw_g (lw_at lw_m5 33 rfl) rfl
theorem q1046 : (Jvm.Cond.code ({ cls := "RuleLists", name := "makeScaled", desc := "(III)I" } : Jvm.MethodName) prog_1_method_19_code (5 : Nat) (Option.some Jvm.ClassFile.FieldType.int)) ∈ lw_all := lw_g (lw_at lw_m5 34 rfl) rfl
theorem q1047 : (Jvm.Cond.methodLink "RuleLists" (130 : Nat) ({ cls := "RuleLists", name := "requireList", desc := "(I)LRuleLists$Rule;" } : Jvm.MethodName)) ∈ lw_all := lw_g (lw_at lw_m5 35 rfl) rfl
theorem q1048 : (Jvm.Cond.privateMethod ({ cls := "RuleLists", name := "requireList", desc := "(I)LRuleLists$Rule;" } : Jvm.MethodName)) ∈ lw_tbl := lw_at lw_m5 36 rfl
theorem q1049 : (Jvm.Cond.instanceMethod ({ cls := "RuleLists", name := "requireList", desc := "(I)LRuleLists$Rule;" } : Jvm.MethodName)) ∈ lw_all := lw_g (lw_at lw_m5 37 rfl) rfl
theorem q1050 : (Jvm.Cond.code ({ cls := "RuleLists", name := "requireList", desc := "(I)LRuleLists$Rule;" } : Jvm.MethodName) prog_1_method_11_code (2 : Nat) (Option.some (Jvm.ClassFile.FieldType.object "RuleLists$Rule"))) ∈ lw_all := lw_g (lw_at lw_m5 38 rfl) rfl
theorem q1051 : (Jvm.Cond.methodLink "RuleLists" (65 : Nat) ({ cls := "RuleLists$Shelf", name := "isList", desc := "(I)Z" } : Jvm.MethodName)) ∈ lw_all := lw_g (lw_at lw_m5 39 rfl) rfl
theorem q1052 : (Jvm.Cond.methodLink "RuleLists" (68 : Nat) ({ cls := "RuleLists", name := "requirePlace", desc := "(Z)V" } : Jvm.MethodName)) ∈ lw_all := lw_g (lw_at lw_m5 40 rfl) rfl
theorem q1053 : (Jvm.Cond.static ({ cls := "RuleLists", name := "requirePlace", desc := "(Z)V" } : Jvm.MethodName)) ∈ lw_all := lw_g (lw_at lw_m5 41 rfl) rfl
theorem q1054 : (Jvm.Cond.code ({ cls := "RuleLists", name := "requirePlace", desc := "(Z)V" } : Jvm.MethodName) prog_1_method_2_code (1 : Nat) (Option.none : Option Jvm.ClassFile.FieldType)) ∈ lw_all := lw_g (lw_at lw_m5 42 rfl) rfl
theorem q1055 : (Jvm.Cond.classLink "RuleLists" (1 : Nat) "java/lang/IndexOutOfBoundsException") ∈ lw_all := lw_g (lw_at lw_m5 43 rfl) rfl
theorem q1064 : (Jvm.Cond.methodLink "RuleLists" (3 : Nat) ({ cls := "java/lang/IndexOutOfBoundsException", name := "<init>", desc := "()V" } : Jvm.MethodName)) ∈ lw_all := lw_g (lw_at lw_m5 52 rfl) rfl
theorem q1070 : (Jvm.Cond.methodLink "RuleLists" (72 : Nat) ({ cls := "RuleLists$Shelf", name := "rule", desc := "(I)LRuleLists$Rule;" } : Jvm.MethodName)) ∈ lw_all := lw_g (lw_at lw_m5 58 rfl) rfl
theorem q1071 : (Jvm.Cond.methodLink "RuleLists" (133 : Nat) ({ cls := "RuleLists", name := "isScale", desc := "(II)Z" } : Jvm.MethodName)) ∈ lw_all := lw_g (lw_at lw_m5 59 rfl) rfl
theorem q1072 : (Jvm.Cond.static ({ cls := "RuleLists", name := "isScale", desc := "(II)Z" } : Jvm.MethodName)) ∈ lw_all := lw_g (lw_at lw_m5 60 rfl) rfl
theorem q1073 : (Jvm.Cond.code ({ cls := "RuleLists", name := "isScale", desc := "(II)Z" } : Jvm.MethodName) prog_1_method_7_code (2 : Nat) (Option.some Jvm.ClassFile.FieldType.boolean)) ∈ lw_all := lw_g (lw_at lw_m5 61 rfl) rfl
theorem q1074 : (Jvm.Cond.classLink "RuleLists" (136 : Nat) "RuleLists$Scaled") ∈ lw_all := lw_g (lw_at lw_m5 62 rfl) rfl
theorem q1075 : (Jvm.Cond.methodLink "RuleLists" (138 : Nat) ({ cls := "RuleLists$Scaled", name := "<init>", desc := "(LRuleLists$Rule;II)V" } : Jvm.MethodName)) ∈ lw_all := lw_g (lw_at lw_m5 63 rfl) rfl
theorem q1080 : (Jvm.Cond.instanceMethod ({ cls := "RuleLists", name := "makeJoined", desc := "(II)I" } : Jvm.MethodName)) ∈ lw_all := lw_g (lw_at lw_m5 68 rfl) rfl
theorem q1081 : (Jvm.Cond.selects "RuleLists" ({ cls := "RuleLists", name := "makeJoined", desc := "(II)I" } : Jvm.MethodName) ({ cls := "RuleLists", name := "makeJoined", desc := "(II)I" } : Jvm.MethodName)) ∈ lw_all := lw_g (lw_at lw_m5 69 rfl) rfl
theorem q1082 : (Jvm.Cond.code ({ cls := "RuleLists", name := "makeJoined", desc := "(II)I" } : Jvm.MethodName) prog_1_method_20_code (5 : Nat) (Option.some Jvm.ClassFile.FieldType.int)) ∈ lw_all := lw_g (lw_at lw_m5 70 rfl) rfl
theorem q1083 : (Jvm.Cond.classLink "RuleLists" (141 : Nat) "RuleLists$Joined") ∈ lw_all := lw_g (lw_at lw_m5 71 rfl) rfl
theorem q1084 : (Jvm.Cond.methodLink "RuleLists" (143 : Nat) ({ cls := "RuleLists$Joined", name := "<init>", desc := "(LRuleLists$Rule;LRuleLists$Rule;)V" } : Jvm.MethodName)) ∈ lw_all := lw_g (lw_at lw_m5 72 rfl) rfl
theorem q1089 : (Jvm.Cond.instanceMethod ({ cls := "RuleLists", name := "makeShared", desc := "(II)I" } : Jvm.MethodName)) ∈ lw_all := lw_g (lw_at lw_m5 77 rfl) rfl
theorem q1090 : (Jvm.Cond.selects "RuleLists" ({ cls := "RuleLists", name := "makeShared", desc := "(II)I" } : Jvm.MethodName) ({ cls := "RuleLists", name := "makeShared", desc := "(II)I" } : Jvm.MethodName)) ∈ lw_all := lw_g (lw_at lw_m5 78 rfl) rfl
theorem q1091 : (Jvm.Cond.code ({ cls := "RuleLists", name := "makeShared", desc := "(II)I" } : Jvm.MethodName) prog_1_method_21_code (5 : Nat) (Option.some Jvm.ClassFile.FieldType.int)) ∈ lw_all := lw_g (lw_at lw_m5 79 rfl) rfl
theorem q1092 : (Jvm.Cond.classLink "RuleLists" (146 : Nat) "RuleLists$Shared") ∈ lw_all := lw_g (lw_at lw_m5 80 rfl) rfl
theorem q1093 : (Jvm.Cond.methodLink "RuleLists" (148 : Nat) ({ cls := "RuleLists$Shared", name := "<init>", desc := "(LRuleLists$Rule;LRuleLists$Rule;)V" } : Jvm.MethodName)) ∈ lw_all := lw_g (lw_at lw_m5 81 rfl) rfl
theorem q1098 : (Jvm.Cond.instanceMethod ({ cls := "RuleLists", name := "makeWithout", desc := "(II)I" } : Jvm.MethodName)) ∈ lw_all := lw_g (lw_at lw_m5 86 rfl) rfl
theorem q1099 : (Jvm.Cond.selects "RuleLists" ({ cls := "RuleLists", name := "makeWithout", desc := "(II)I" } : Jvm.MethodName) ({ cls := "RuleLists", name := "makeWithout", desc := "(II)I" } : Jvm.MethodName)) ∈ lw_all := lw_g (lw_at lw_m5 87 rfl) rfl
theorem q1100 : (Jvm.Cond.code ({ cls := "RuleLists", name := "makeWithout", desc := "(II)I" } : Jvm.MethodName) prog_1_method_22_code (5 : Nat) (Option.some Jvm.ClassFile.FieldType.int)) ∈ lw_all := lw_g (lw_at lw_m5 88 rfl) rfl
theorem q1101 : (Jvm.Cond.classLink "RuleLists" (149 : Nat) "RuleLists$Without") ∈ lw_all := lw_g (lw_at lw_m5 89 rfl) rfl
theorem q1102 : (Jvm.Cond.methodLink "RuleLists" (151 : Nat) ({ cls := "RuleLists$Without", name := "<init>", desc := "(LRuleLists$Rule;LRuleLists$Rule;)V" } : Jvm.MethodName)) ∈ lw_all := lw_g (lw_at lw_m5 90 rfl) rfl
theorem q1107 : (Jvm.Cond.instanceMethod ({ cls := "RuleLists", name := "makeSieved", desc := "(I)I" } : Jvm.MethodName)) ∈ lw_all := lw_g (lw_at lw_m5 95 rfl) rfl
theorem q1108 : (Jvm.Cond.selects "RuleLists" ({ cls := "RuleLists", name := "makeSieved", desc := "(I)I" } : Jvm.MethodName) ({ cls := "RuleLists", name := "makeSieved", desc := "(I)I" } : Jvm.MethodName)) ∈ lw_all := lw_g (lw_at lw_m5 96 rfl) rfl
theorem q1109 : (Jvm.Cond.code ({ cls := "RuleLists", name := "makeSieved", desc := "(I)I" } : Jvm.MethodName) prog_1_method_23_code (3 : Nat) (Option.some Jvm.ClassFile.FieldType.int)) ∈ lw_all := lw_g (lw_at lw_m5 97 rfl) rfl
theorem q1110 : (Jvm.Cond.classLink "RuleLists" (152 : Nat) "RuleLists$Sieved") ∈ lw_all := lw_g (lw_at lw_m5 98 rfl) rfl
theorem q1111 : (Jvm.Cond.methodLink "RuleLists" (154 : Nat) ({ cls := "RuleLists$Sieved", name := "<init>", desc := "(LRuleLists$Rule;)V" } : Jvm.MethodName)) ∈ lw_all := lw_g (lw_at lw_m5 99 rfl) rfl
theorem q1116 : (Jvm.Cond.instanceMethod ({ cls := "RuleLists", name := "makeThinned", desc := "(II)I" } : Jvm.MethodName)) ∈ lw_all := lw_g (lw_at lw_m5 104 rfl) rfl
theorem q1117 : (Jvm.Cond.selects "RuleLists" ({ cls := "RuleLists", name := "makeThinned", desc := "(II)I" } : Jvm.MethodName) ({ cls := "RuleLists", name := "makeThinned", desc := "(II)I" } : Jvm.MethodName)) ∈ lw_all := lw_g (lw_at lw_m5 105 rfl) rfl
theorem q1118 : (Jvm.Cond.code ({ cls := "RuleLists", name := "makeThinned", desc := "(II)I" } : Jvm.MethodName) prog_1_method_24_code (4 : Nat) (Option.some Jvm.ClassFile.FieldType.int)) ∈ lw_all := lw_g (lw_at lw_m5 106 rfl) rfl
theorem q1119 : (Jvm.Cond.methodLink "RuleLists" (157 : Nat) ({ cls := "RuleLists", name := "isEvery", desc := "(I)Z" } : Jvm.MethodName)) ∈ lw_all := lw_g (lw_at lw_m5 107 rfl) rfl
theorem q1120 : (Jvm.Cond.static ({ cls := "RuleLists", name := "isEvery", desc := "(I)Z" } : Jvm.MethodName)) ∈ lw_all := lw_g (lw_at lw_m5 108 rfl) rfl
theorem q1121 : (Jvm.Cond.code ({ cls := "RuleLists", name := "isEvery", desc := "(I)Z" } : Jvm.MethodName) prog_1_method_8_code (1 : Nat) (Option.some Jvm.ClassFile.FieldType.boolean)) ∈ lw_all := lw_g (lw_at lw_m5 109 rfl) rfl
theorem q1122 : (Jvm.Cond.classLink "RuleLists" (160 : Nat) "RuleLists$Thinned") ∈ lw_all := lw_g (lw_at lw_m5 110 rfl) rfl
theorem q1123 : (Jvm.Cond.methodLink "RuleLists" (162 : Nat) ({ cls := "RuleLists$Thinned", name := "<init>", desc := "(LRuleLists$Rule;I)V" } : Jvm.MethodName)) ∈ lw_all := lw_g (lw_at lw_m5 111 rfl) rfl
theorem q1128 : (Jvm.Cond.instanceMethod ({ cls := "RuleLists", name := "makeAddedUp", desc := "(I)I" } : Jvm.MethodName)) ∈ lw_all := lw_g (lw_at lw_m5 116 rfl) rfl
theorem q1129 : (Jvm.Cond.selects "RuleLists" ({ cls := "RuleLists", name := "makeAddedUp", desc := "(I)I" } : Jvm.MethodName) ({ cls := "RuleLists", name := "makeAddedUp", desc := "(I)I" } : Jvm.MethodName)) ∈ lw_all := lw_g (lw_at lw_m5 117 rfl) rfl
theorem q1130 : (Jvm.Cond.code ({ cls := "RuleLists", name := "makeAddedUp", desc := "(I)I" } : Jvm.MethodName) prog_1_method_25_code (3 : Nat) (Option.some Jvm.ClassFile.FieldType.int)) ∈ lw_all := lw_g (lw_at lw_m5 118 rfl) rfl
theorem q1131 : (Jvm.Cond.classLink "RuleLists" (165 : Nat) "RuleLists$AddedUp") ∈ lw_all := lw_g (lw_at lw_m5 119 rfl) rfl
theorem q1132 : (Jvm.Cond.methodLink "RuleLists" (167 : Nat) ({ cls := "RuleLists$AddedUp", name := "<init>", desc := "(LRuleLists$Rule;)V" } : Jvm.MethodName)) ∈ lw_all := lw_g (lw_at lw_m5 120 rfl) rfl
theorem q1137 : (Jvm.Cond.instanceMethod ({ cls := "RuleLists", name := "dropLast", desc := "()I" } : Jvm.MethodName)) ∈ lw_all := lw_g (lw_at lw_m5 125 rfl) rfl
theorem q1138 : (Jvm.Cond.selects "RuleLists" ({ cls := "RuleLists", name := "dropLast", desc := "()I" } : Jvm.MethodName) ({ cls := "RuleLists", name := "dropLast", desc := "()I" } : Jvm.MethodName)) ∈ lw_all := lw_g (lw_at lw_m5 126 rfl) rfl
theorem q1139 : (Jvm.Cond.code ({ cls := "RuleLists", name := "dropLast", desc := "()I" } : Jvm.MethodName) prog_1_method_26_code (1 : Nat) (Option.some Jvm.ClassFile.FieldType.int)) ∈ lw_all := lw_g (lw_at lw_m5 127 rfl) rfl
theorem q1140 : (Jvm.Cond.methodLink "RuleLists" (171 : Nat) ({ cls := "RuleLists$Shelf", name := "dropLast", desc := "()I" } : Jvm.MethodName)) ∈ lw_all := lw_g (lw_at lw_m5 128 rfl) rfl
theorem q1145 : (Jvm.Cond.instanceMethod ({ cls := "RuleLists", name := "beginReading", desc := "(I)I" } : Jvm.MethodName)) ∈ lw_all := lw_g (lw_at lw_m5 133 rfl) rfl
theorem q1146 : (Jvm.Cond.selects "RuleLists" ({ cls := "RuleLists", name := "beginReading", desc := "(I)I" } : Jvm.MethodName) ({ cls := "RuleLists", name := "beginReading", desc := "(I)I" } : Jvm.MethodName)) ∈ lw_all := lw_g (lw_at lw_m5 134 rfl) rfl
theorem q1147 : (Jvm.Cond.code ({ cls := "RuleLists", name := "beginReading", desc := "(I)I" } : Jvm.MethodName) prog_1_method_27_code (3 : Nat) (Option.some Jvm.ClassFile.FieldType.int)) ∈ lw_all := lw_g (lw_at lw_m5 135 rfl) rfl
theorem q1148 : (Jvm.Cond.methodLink "RuleLists" (174 : Nat) ({ cls := "RuleLists$Shelf", name := "hasReaderRoom", desc := "()Z" } : Jvm.MethodName)) ∈ lw_all := lw_g (lw_at lw_m5 136 rfl) rfl
theorem q1149 : (Jvm.Cond.methodLink "RuleLists" (177 : Nat) ({ cls := "RuleLists$Shelf", name := "begin", desc := "(I)I" } : Jvm.MethodName)) ∈ lw_all := lw_g (lw_at lw_m5 137 rfl) rfl
theorem q1154 : (Jvm.Cond.instanceMethod ({ cls := "RuleLists", name := "read", desc := "(I)I" } : Jvm.MethodName)) ∈ lw_all := lw_g (lw_at lw_m5 142 rfl) rfl
theorem q1155 : (Jvm.Cond.selects "RuleLists" ({ cls := "RuleLists", name := "read", desc := "(I)I" } : Jvm.MethodName) ({ cls := "RuleLists", name := "read", desc := "(I)I" } : Jvm.MethodName)) ∈ lw_all := lw_g (lw_at lw_m5 143 rfl) rfl
theorem q1156 : (Jvm.Cond.code ({ cls := "RuleLists", name := "read", desc := "(I)I" } : Jvm.MethodName) prog_1_method_28_code (3 : Nat) (Option.some Jvm.ClassFile.FieldType.int)) ∈ lw_all := lw_g (lw_at lw_m5 144 rfl) rfl
theorem q1157 : (Jvm.Cond.methodLink "RuleLists" (181 : Nat) ({ cls := "RuleLists", name := "requireReader", desc := "(I)LRuleLists$Reader;" } : Jvm.MethodName)) ∈ lw_all := lw_g (lw_at lw_m5 145 rfl) rfl
theorem q1158 : (Jvm.Cond.privateMethod ({ cls := "RuleLists", name := "requireReader", desc := "(I)LRuleLists$Reader;" } : Jvm.MethodName)) ∈ lw_tbl := lw_at lw_m5 146 rfl
theorem q1159 : (Jvm.Cond.instanceMethod ({ cls := "RuleLists", name := "requireReader", desc := "(I)LRuleLists$Reader;" } : Jvm.MethodName)) ∈ lw_all := lw_g (lw_at lw_m5 147 rfl) rfl
theorem q1160 : (Jvm.Cond.code ({ cls := "RuleLists", name := "requireReader", desc := "(I)LRuleLists$Reader;" } : Jvm.MethodName) prog_1_method_12_code (2 : Nat) (Option.some (Jvm.ClassFile.FieldType.object "RuleLists$Reader"))) ∈ lw_all := lw_g (lw_at lw_m5 148 rfl) rfl
theorem q1161 : (Jvm.Cond.methodLink "RuleLists" (76 : Nat) ({ cls := "RuleLists$Shelf", name := "isReader", desc := "(I)Z" } : Jvm.MethodName)) ∈ lw_all := lw_g (lw_at lw_m5 149 rfl) rfl
theorem q1162 : (Jvm.Cond.methodLink "RuleLists" (79 : Nat) ({ cls := "RuleLists$Shelf", name := "reader", desc := "(I)LRuleLists$Reader;" } : Jvm.MethodName)) ∈ lw_all := lw_g (lw_at lw_m5 150 rfl) rfl
theorem q1163 : (Jvm.Cond.methodLink "RuleLists" (184 : Nat) ({ cls := "RuleLists$Shelf", name := "nextOf", desc := "(LRuleLists$Reader;)I" } : Jvm.MethodName)) ∈ lw_all := lw_g (lw_at lw_m5 151 rfl) rfl
theorem q1164 : (Jvm.Cond.methodLink "RuleLists" (188 : Nat) ({ cls := "RuleLists$Shelf", name := "read", desc := "(LRuleLists$Reader;)I" } : Jvm.MethodName)) ∈ lw_all := lw_g (lw_at lw_m5 152 rfl) rfl
theorem q1169 : (Jvm.Cond.instanceMethod ({ cls := "RuleLists", name := "skip", desc := "(II)I" } : Jvm.MethodName)) ∈ lw_all := lw_g (lw_at lw_m5 157 rfl) rfl
theorem q1170 : (Jvm.Cond.selects "RuleLists" ({ cls := "RuleLists", name := "skip", desc := "(II)I" } : Jvm.MethodName) ({ cls := "RuleLists", name := "skip", desc := "(II)I" } : Jvm.MethodName)) ∈ lw_all := lw_g (lw_at lw_m5 158 rfl) rfl
theorem q1171 : (Jvm.Cond.code ({ cls := "RuleLists", name := "skip", desc := "(II)I" } : Jvm.MethodName) prog_1_method_29_code (5 : Nat) (Option.some Jvm.ClassFile.FieldType.int)) ∈ lw_all := lw_g (lw_at lw_m5 159 rfl) rfl
theorem q1172 : (Jvm.Cond.methodLink "RuleLists" (191 : Nat) ({ cls := "RuleLists$Shelf", name := "skip", desc := "(LRuleLists$Reader;I)I" } : Jvm.MethodName)) ∈ lw_all := lw_g (lw_at lw_m5 160 rfl) rfl
theorem q1177 : (Jvm.Cond.instanceMethod ({ cls := "RuleLists", name := "goBack", desc := "(I)I" } : Jvm.MethodName)) ∈ lw_all := lw_g (lw_at lw_m5 165 rfl) rfl
theorem q1178 : (Jvm.Cond.selects "RuleLists" ({ cls := "RuleLists", name := "goBack", desc := "(I)I" } : Jvm.MethodName) ({ cls := "RuleLists", name := "goBack", desc := "(I)I" } : Jvm.MethodName)) ∈ lw_all := lw_g (lw_at lw_m5 166 rfl) rfl
theorem q1179 : (Jvm.Cond.code ({ cls := "RuleLists", name := "goBack", desc := "(I)I" } : Jvm.MethodName) prog_1_method_30_code (4 : Nat) (Option.some Jvm.ClassFile.FieldType.int)) ∈ lw_all := lw_g (lw_at lw_m5 167 rfl) rfl
theorem q1180 : (Jvm.Cond.methodLink "RuleLists" (195 : Nat) ({ cls := "RuleLists$Shelf", name := "goBack", desc := "(LRuleLists$Reader;)I" } : Jvm.MethodName)) ∈ lw_all := lw_g (lw_at lw_m5 168 rfl) rfl
theorem q1185 : (Jvm.Cond.instanceMethod ({ cls := "RuleLists", name := "stopReading", desc := "(I)I" } : Jvm.MethodName)) ∈ lw_all := lw_g (lw_at lw_m5 173 rfl) rfl
theorem q1186 : (Jvm.Cond.selects "RuleLists" ({ cls := "RuleLists", name := "stopReading", desc := "(I)I" } : Jvm.MethodName) ({ cls := "RuleLists", name := "stopReading", desc := "(I)I" } : Jvm.MethodName)) ∈ lw_all := lw_g (lw_at lw_m5 174 rfl) rfl
theorem q1187 : (Jvm.Cond.code ({ cls := "RuleLists", name := "stopReading", desc := "(I)I" } : Jvm.MethodName) prog_1_method_31_code (3 : Nat) (Option.some Jvm.ClassFile.FieldType.int)) ∈ lw_all := lw_g (lw_at lw_m5 175 rfl) rfl
theorem q1188 : (Jvm.Cond.methodLink "RuleLists" (198 : Nat) ({ cls := "RuleLists$Shelf", name := "stop", desc := "(I)I" } : Jvm.MethodName)) ∈ lw_all := lw_g (lw_at lw_m5 176 rfl) rfl
theorem q1193 : (Jvm.Cond.instanceMethod ({ cls := "RuleLists", name := "undo", desc := "()I" } : Jvm.MethodName)) ∈ lw_all := lw_g (lw_at lw_m5 181 rfl) rfl
theorem q1194 : (Jvm.Cond.selects "RuleLists" ({ cls := "RuleLists", name := "undo", desc := "()I" } : Jvm.MethodName) ({ cls := "RuleLists", name := "undo", desc := "()I" } : Jvm.MethodName)) ∈ lw_all := lw_g (lw_at lw_m5 182 rfl) rfl
theorem q1195 : (Jvm.Cond.code ({ cls := "RuleLists", name := "undo", desc := "()I" } : Jvm.MethodName) prog_1_method_32_code (1 : Nat) (Option.some Jvm.ClassFile.FieldType.int)) ∈ lw_all := lw_g (lw_at lw_m5 183 rfl) rfl
theorem q1196 : (Jvm.Cond.interfaceEntry "RuleLists" (201 : Nat)) ∈ lw_tbl := lw_at lw_m5 184 rfl
theorem q1204 : (Jvm.Cond.interfaceEntry "RuleLists" (204 : Nat)) ∈ lw_tbl := lw_at lw_m5 192 rfl
theorem q1205 : (Jvm.Cond.methodLink "RuleLists" (204 : Nat) ({ cls := "java/util/Deque", name := "removeLast", desc := "()Ljava/lang/Object;" } : Jvm.MethodName)) ∈ lw_all := lw_g (lw_at lw_m5 193 rfl) rfl
theorem q1224 : (Jvm.Cond.instanceMethod ({ cls := "RuleLists", name := "isMember", desc := "(II)Z" } : Jvm.MethodName)) ∈ lw_all := lw_g (lw_at lw_m5 212 rfl) rfl
theorem q1225 : (Jvm.Cond.selects "RuleLists" ({ cls := "RuleLists", name := "isMember", desc := "(II)Z" } : Jvm.MethodName) ({ cls := "RuleLists", name := "isMember", desc := "(II)Z" } : Jvm.MethodName)) ∈ lw_all := lw_g (lw_at lw_m5 213 rfl) rfl
theorem q1226 : (Jvm.Cond.code ({ cls := "RuleLists", name := "isMember", desc := "(II)Z" } : Jvm.MethodName) prog_1_method_34_code (4 : Nat) (Option.some Jvm.ClassFile.FieldType.boolean)) ∈ lw_all := lw_g (lw_at lw_m5 214 rfl) rfl
theorem q1227 : (Jvm.Cond.methodLink "RuleLists" (214 : Nat) ({ cls := "RuleLists$Rule", name := "has", desc := "(I)Z" } : Jvm.MethodName)) ∈ lw_all := lw_g (lw_at lw_m5 215 rfl) rfl
theorem q1278 : (Jvm.Cond.instanceMethod ({ cls := "RuleLists", name := "memberByReading", desc := "(II)I" } : Jvm.MethodName)) ∈ lw_all := lw_g (lw_at lw_m6 26 rfl) rfl
theorem q1279 : (Jvm.Cond.selects "RuleLists" ({ cls := "RuleLists", name := "memberByReading", desc := "(II)I" } : Jvm.MethodName) ({ cls := "RuleLists", name := "memberByReading", desc := "(II)I" } : Jvm.MethodName)) ∈ lw_all := lw_g (lw_at lw_m6 27 rfl) rfl
theorem q1280 : (Jvm.Cond.code ({ cls := "RuleLists", name := "memberByReading", desc := "(II)I" } : Jvm.MethodName) prog_1_method_35_code (3 : Nat) (Option.some Jvm.ClassFile.FieldType.int)) ∈ lw_all := lw_g (lw_at lw_m6 28 rfl) rfl
theorem q1281 : (Jvm.Cond.methodLink "RuleLists" (219 : Nat) ({ cls := "RuleLists$Shelf", name := "byReading", desc := "(II)I" } : Jvm.MethodName)) ∈ lw_all := lw_g (lw_at lw_m6 29 rfl) rfl
theorem q1286 : (Jvm.Cond.instanceMethod ({ cls := "RuleLists", name := "memberByTesting", desc := "(II)I" } : Jvm.MethodName)) ∈ lw_all := lw_g (lw_at lw_m6 34 rfl) rfl
theorem q1287 : (Jvm.Cond.selects "RuleLists" ({ cls := "RuleLists", name := "memberByTesting", desc := "(II)I" } : Jvm.MethodName) ({ cls := "RuleLists", name := "memberByTesting", desc := "(II)I" } : Jvm.MethodName)) ∈ lw_all := lw_g (lw_at lw_m6 35 rfl) rfl
theorem q1288 : (Jvm.Cond.code ({ cls := "RuleLists", name := "memberByTesting", desc := "(II)I" } : Jvm.MethodName) prog_1_method_36_code (3 : Nat) (Option.some Jvm.ClassFile.FieldType.int)) ∈ lw_all := lw_g (lw_at lw_m6 36 rfl) rfl
theorem q1289 : (Jvm.Cond.methodLink "RuleLists" (223 : Nat) ({ cls := "RuleLists$Shelf", name := "byTesting", desc := "(II)I" } : Jvm.MethodName)) ∈ lw_all := lw_g (lw_at lw_m6 37 rfl) rfl
theorem q1298 : (Jvm.Cond.instanceMethod ({ cls := "RuleLists", name := "placeOf", desc := "(II)I" } : Jvm.MethodName)) ∈ lw_all := lw_g (lw_at lw_m6 46 rfl) rfl
theorem q1299 : (Jvm.Cond.selects "RuleLists" ({ cls := "RuleLists", name := "placeOf", desc := "(II)I" } : Jvm.MethodName) ({ cls := "RuleLists", name := "placeOf", desc := "(II)I" } : Jvm.MethodName)) ∈ lw_all := lw_g (lw_at lw_m6 47 rfl) rfl
theorem q1300 : (Jvm.Cond.code ({ cls := "RuleLists", name := "placeOf", desc := "(II)I" } : Jvm.MethodName) prog_1_method_37_code (4 : Nat) (Option.some Jvm.ClassFile.FieldType.int)) ∈ lw_all := lw_g (lw_at lw_m6 48 rfl) rfl
theorem q1301 : (Jvm.Cond.methodLink "RuleLists" (226 : Nat) ({ cls := "RuleLists$Shelf", name := "upTo", desc := "(II)I" } : Jvm.MethodName)) ∈ lw_all := lw_g (lw_at lw_m6 49 rfl) rfl
theorem q1309 : (Jvm.Cond.instanceMethod ({ cls := "RuleLists", name := "membersUpTo", desc := "(II)I" } : Jvm.MethodName)) ∈ lw_all := lw_g (lw_at lw_m6 57 rfl) rfl
theorem q1310 : (Jvm.Cond.selects "RuleLists" ({ cls := "RuleLists", name := "membersUpTo", desc := "(II)I" } : Jvm.MethodName) ({ cls := "RuleLists", name := "membersUpTo", desc := "(II)I" } : Jvm.MethodName)) ∈ lw_all := lw_g (lw_at lw_m6 58 rfl) rfl
theorem q1311 : (Jvm.Cond.code ({ cls := "RuleLists", name := "membersUpTo", desc := "(II)I" } : Jvm.MethodName) prog_1_method_38_code (4 : Nat) (Option.some Jvm.ClassFile.FieldType.int)) ∈ lw_all := lw_g (lw_at lw_m6 59 rfl) rfl
theorem q1316 : (Jvm.Cond.instanceMethod ({ cls := "RuleLists", name := "lastMember", desc := "(I)I" } : Jvm.MethodName)) ∈ lw_all := lw_g (lw_at lw_m6 64 rfl) rfl
theorem q1317 : (Jvm.Cond.selects "RuleLists" ({ cls := "RuleLists", name := "lastMember", desc := "(I)I" } : Jvm.MethodName) ({ cls := "RuleLists", name := "lastMember", desc := "(I)I" } : Jvm.MethodName)) ∈ lw_all := lw_g (lw_at lw_m6 65 rfl) rfl
theorem q1318 : (Jvm.Cond.code ({ cls := "RuleLists", name := "lastMember", desc := "(I)I" } : Jvm.MethodName) prog_1_method_39_code (3 : Nat) (Option.some Jvm.ClassFile.FieldType.int)) ∈ lw_all := lw_g (lw_at lw_m6 66 rfl) rfl
theorem q1319 : (Jvm.Cond.methodLink "RuleLists" (229 : Nat) ({ cls := "RuleLists$Shelf", name := "last", desc := "(I)I" } : Jvm.MethodName)) ∈ lw_all := lw_g (lw_at lw_m6 67 rfl) rfl
theorem q1401 : (Jvm.Cond.instanceMethod ({ cls := "RuleLists", name := "firstShared", desc := "(II)I" } : Jvm.MethodName)) ∈ lw_all := lw_g (lw_at lw_m6 149 rfl) rfl
theorem q1402 : (Jvm.Cond.selects "RuleLists" ({ cls := "RuleLists", name := "firstShared", desc := "(II)I" } : Jvm.MethodName) ({ cls := "RuleLists", name := "firstShared", desc := "(II)I" } : Jvm.MethodName)) ∈ lw_all := lw_g (lw_at lw_m6 150 rfl) rfl
theorem q1403 : (Jvm.Cond.code ({ cls := "RuleLists", name := "firstShared", desc := "(II)I" } : Jvm.MethodName) prog_1_method_40_code (3 : Nat) (Option.some Jvm.ClassFile.FieldType.int)) ∈ lw_all := lw_g (lw_at lw_m6 151 rfl) rfl
theorem q1404 : (Jvm.Cond.methodLink "RuleLists" (232 : Nat) ({ cls := "RuleLists$Shelf", name := "firstShared", desc := "(II)I" } : Jvm.MethodName)) ∈ lw_all := lw_g (lw_at lw_m6 152 rfl) rfl
theorem q1412 : (Jvm.Cond.instanceMethod ({ cls := "RuleLists", name := "widestGap", desc := "(I)I" } : Jvm.MethodName)) ∈ lw_all := lw_g (lw_at lw_m6 160 rfl) rfl
theorem q1413 : (Jvm.Cond.selects "RuleLists" ({ cls := "RuleLists", name := "widestGap", desc := "(I)I" } : Jvm.MethodName) ({ cls := "RuleLists", name := "widestGap", desc := "(I)I" } : Jvm.MethodName)) ∈ lw_all := lw_g (lw_at lw_m6 161 rfl) rfl
theorem q1414 : (Jvm.Cond.code ({ cls := "RuleLists", name := "widestGap", desc := "(I)I" } : Jvm.MethodName) prog_1_method_41_code (3 : Nat) (Option.some Jvm.ClassFile.FieldType.int)) ∈ lw_all := lw_g (lw_at lw_m6 162 rfl) rfl
theorem q1415 : (Jvm.Cond.methodLink "RuleLists" (235 : Nat) ({ cls := "RuleLists$Shelf", name := "widestGap", desc := "(I)I" } : Jvm.MethodName)) ∈ lw_all := lw_g (lw_at lw_m6 163 rfl) rfl
theorem q1424 : (Jvm.Cond.instanceMethod ({ cls := "RuleLists", name := "listOf", desc := "(I)I" } : Jvm.MethodName)) ∈ lw_all := lw_g (lw_at lw_m6 172 rfl) rfl
theorem q1425 : (Jvm.Cond.selects "RuleLists" ({ cls := "RuleLists", name := "listOf", desc := "(I)I" } : Jvm.MethodName) ({ cls := "RuleLists", name := "listOf", desc := "(I)I" } : Jvm.MethodName)) ∈ lw_all := lw_g (lw_at lw_m6 173 rfl) rfl
theorem q1426 : (Jvm.Cond.code ({ cls := "RuleLists", name := "listOf", desc := "(I)I" } : Jvm.MethodName) prog_1_method_43_code (2 : Nat) (Option.some Jvm.ClassFile.FieldType.int)) ∈ lw_all := lw_g (lw_at lw_m6 174 rfl) rfl
theorem q1431 : (Jvm.Cond.instanceMethod ({ cls := "RuleLists", name := "readSoFar", desc := "(I)I" } : Jvm.MethodName)) ∈ lw_all := lw_g (lw_at lw_m6 179 rfl) rfl
theorem q1432 : (Jvm.Cond.selects "RuleLists" ({ cls := "RuleLists", name := "readSoFar", desc := "(I)I" } : Jvm.MethodName) ({ cls := "RuleLists", name := "readSoFar", desc := "(I)I" } : Jvm.MethodName)) ∈ lw_all := lw_g (lw_at lw_m6 180 rfl) rfl
theorem q1433 : (Jvm.Cond.code ({ cls := "RuleLists", name := "readSoFar", desc := "(I)I" } : Jvm.MethodName) prog_1_method_44_code (2 : Nat) (Option.some Jvm.ClassFile.FieldType.int)) ∈ lw_all := lw_g (lw_at lw_m6 181 rfl) rfl
theorem q1438 : (Jvm.Cond.instanceMethod ({ cls := "RuleLists", name := "nextOf", desc := "(I)I" } : Jvm.MethodName)) ∈ lw_all := lw_g (lw_at lw_m6 186 rfl) rfl
theorem q1439 : (Jvm.Cond.selects "RuleLists" ({ cls := "RuleLists", name := "nextOf", desc := "(I)I" } : Jvm.MethodName) ({ cls := "RuleLists", name := "nextOf", desc := "(I)I" } : Jvm.MethodName)) ∈ lw_all := lw_g (lw_at lw_m6 187 rfl) rfl
theorem q1440 : (Jvm.Cond.code ({ cls := "RuleLists", name := "nextOf", desc := "(I)I" } : Jvm.MethodName) prog_1_method_45_code (2 : Nat) (Option.some Jvm.ClassFile.FieldType.int)) ∈ lw_all := lw_g (lw_at lw_m6 188 rfl) rfl
theorem q1445 : (Jvm.Cond.instanceMethod ({ cls := "RuleLists", name := "firstOfPairByWalking", desc := "(I)I" } : Jvm.MethodName)) ∈ lw_all := lw_g (lw_at lw_m6 193 rfl) rfl
theorem q1446 : (Jvm.Cond.selects "RuleLists" ({ cls := "RuleLists", name := "firstOfPairByWalking", desc := "(I)I" } : Jvm.MethodName) ({ cls := "RuleLists", name := "firstOfPairByWalking", desc := "(I)I" } : Jvm.MethodName)) ∈ lw_all := lw_g (lw_at lw_m6 194 rfl) rfl
theorem q1447 : (Jvm.Cond.code ({ cls := "RuleLists", name := "firstOfPairByWalking", desc := "(I)I" } : Jvm.MethodName) prog_1_method_48_code (6 : Nat) (Option.some Jvm.ClassFile.FieldType.int)) ∈ lw_all := lw_g (lw_at lw_m6 195 rfl) rfl
theorem q1448 : (Jvm.Cond.constant "RuleLists" (255 : Nat) (99999 : Int32)) ∈ lw_all := lw_g (lw_at lw_m6 196 rfl) rfl
theorem q1453 : (Jvm.Cond.instanceMethod ({ cls := "RuleLists", name := "firstOfPairByCounting", desc := "(I)I" } : Jvm.MethodName)) ∈ lw_all := lw_g (lw_at lw_m6 201 rfl) rfl
theorem q1454 : (Jvm.Cond.selects "RuleLists" ({ cls := "RuleLists", name := "firstOfPairByCounting", desc := "(I)I" } : Jvm.MethodName) ({ cls := "RuleLists", name := "firstOfPairByCounting", desc := "(I)I" } : Jvm.MethodName)) ∈ lw_all := lw_g (lw_at lw_m6 202 rfl) rfl
theorem q1455 : (Jvm.Cond.code ({ cls := "RuleLists", name := "firstOfPairByCounting", desc := "(I)I" } : Jvm.MethodName) prog_1_method_49_code (3 : Nat) (Option.some Jvm.ClassFile.FieldType.int)) ∈ lw_all := lw_g (lw_at lw_m6 203 rfl) rfl
theorem q1460 : (Jvm.Cond.instanceMethod ({ cls := "RuleLists", name := "numberOfPair", desc := "(II)I" } : Jvm.MethodName)) ∈ lw_all := lw_g (lw_at lw_m6 208 rfl) rfl
theorem q1461 : (Jvm.Cond.selects "RuleLists" ({ cls := "RuleLists", name := "numberOfPair", desc := "(II)I" } : Jvm.MethodName) ({ cls := "RuleLists", name := "numberOfPair", desc := "(II)I" } : Jvm.MethodName)) ∈ lw_all := lw_g (lw_at lw_m6 209 rfl) rfl
theorem q1462 : (Jvm.Cond.code ({ cls := "RuleLists", name := "numberOfPair", desc := "(II)I" } : Jvm.MethodName) prog_1_method_50_code (4 : Nat) (Option.some Jvm.ClassFile.FieldType.int)) ∈ lw_all := lw_g (lw_at lw_m6 210 rfl) rfl
theorem q1467 : (Jvm.Cond.instanceMethod ({ cls := "RuleLists", name := "membersIfJoined", desc := "(II)I" } : Jvm.MethodName)) ∈ lw_all := lw_g (lw_at lw_m6 215 rfl) rfl
theorem q1468 : (Jvm.Cond.selects "RuleLists" ({ cls := "RuleLists", name := "membersIfJoined", desc := "(II)I" } : Jvm.MethodName) ({ cls := "RuleLists", name := "membersIfJoined", desc := "(II)I" } : Jvm.MethodName)) ∈ lw_all := lw_g (lw_at lw_m6 216 rfl) rfl
theorem q1469 : (Jvm.Cond.code ({ cls := "RuleLists", name := "membersIfJoined", desc := "(II)I" } : Jvm.MethodName) prog_1_method_52_code (3 : Nat) (Option.some Jvm.ClassFile.FieldType.int)) ∈ lw_all := lw_g (lw_at lw_m6 217 rfl) rfl
theorem q1470 : (Jvm.Cond.methodLink "RuleLists" (256 : Nat) ({ cls := "RuleLists$Shelf", name := "ifJoined", desc := "(II)I" } : Jvm.MethodName)) ∈ lw_all := lw_g (lw_at lw_m6 218 rfl) rfl
theorem q1478 : (Jvm.Cond.instanceMethod ({ cls := "RuleLists", name := "skipsTo", desc := "(II)I" } : Jvm.MethodName)) ∈ lw_all := lw_g (lw_at lw_m6 226 rfl) rfl
theorem q1479 : (Jvm.Cond.selects "RuleLists" ({ cls := "RuleLists", name := "skipsTo", desc := "(II)I" } : Jvm.MethodName) ({ cls := "RuleLists", name := "skipsTo", desc := "(II)I" } : Jvm.MethodName)) ∈ lw_all := lw_g (lw_at lw_m6 227 rfl) rfl
theorem q1480 : (Jvm.Cond.code ({ cls := "RuleLists", name := "skipsTo", desc := "(II)I" } : Jvm.MethodName) prog_1_method_53_code (4 : Nat) (Option.some Jvm.ClassFile.FieldType.int)) ∈ lw_all := lw_g (lw_at lw_m6 228 rfl) rfl
theorem q1481 : (Jvm.Cond.methodLink "RuleLists" (259 : Nat) ({ cls := "RuleLists$Shelf", name := "skipsTo", desc := "(LRuleLists$Reader;I)I" } : Jvm.MethodName)) ∈ lw_all := lw_g (lw_at lw_m6 229 rfl) rfl
theorem q1489 : (Jvm.Cond.instanceMethod ({ cls := "RuleLists", name := "simulate", desc := "(JI)I" } : Jvm.MethodName)) ∈ lw_all := lw_g (lw_at lw_m6 237 rfl) rfl
theorem q1490 : (Jvm.Cond.selects "RuleLists" ({ cls := "RuleLists", name := "simulate", desc := "(JI)I" } : Jvm.MethodName) ({ cls := "RuleLists", name := "simulate", desc := "(JI)I" } : Jvm.MethodName)) ∈ lw_all := lw_g (lw_at lw_m6 238 rfl) rfl
theorem q1491 : (Jvm.Cond.code ({ cls := "RuleLists", name := "simulate", desc := "(JI)I" } : Jvm.MethodName) prog_1_method_56_code (9 : Nat) (Option.some Jvm.ClassFile.FieldType.int)) ∈ lw_all := lw_g (lw_at lw_m6 239 rfl) rfl
theorem q1492 : (Jvm.Cond.constantLong "RuleLists" (266 : Nat) (6364136223846793005 : Int64)) ∈ lw_all := lw_g (lw_at lw_m7 0 rfl) rfl
theorem q1493 : (Jvm.Cond.constantLong "RuleLists" (268 : Nat) (1442695040888963407 : Int64)) ∈ lw_all := lw_g (lw_at lw_m7 1 rfl) rfl
theorem q1494 : (Jvm.Cond.methodLink "RuleLists" (270 : Nat) ({ cls := "RuleLists", name := "stir", desc := "(LRuleLists$Shelf;I)I" } : Jvm.MethodName)) ∈ lw_all := lw_g (lw_at lw_m7 2 rfl) rfl
theorem q1495 : (Jvm.Cond.static ({ cls := "RuleLists", name := "stir", desc := "(LRuleLists$Shelf;I)I" } : Jvm.MethodName)) ∈ lw_all := lw_g (lw_at lw_m7 3 rfl) rfl
theorem q1496 : (Jvm.Cond.code ({ cls := "RuleLists", name := "stir", desc := "(LRuleLists$Shelf;I)I" } : Jvm.MethodName) prog_1_method_55_code (6 : Nat) (Option.some Jvm.ClassFile.FieldType.int)) ∈ lw_all := lw_g (lw_at lw_m7 4 rfl) rfl
theorem q1497 : (Jvm.Cond.methodLink "RuleLists" (262 : Nat) ({ cls := "RuleLists", name := "made", desc := "(LRuleLists$Shelf;II)LRuleLists$Rule;" } : Jvm.MethodName)) ∈ lw_all := lw_g (lw_at lw_m7 5 rfl) rfl
theorem q1498 : (Jvm.Cond.static ({ cls := "RuleLists", name := "made", desc := "(LRuleLists$Shelf;II)LRuleLists$Rule;" } : Jvm.MethodName)) ∈ lw_all := lw_g (lw_at lw_m7 6 rfl) rfl
theorem q1499 : (Jvm.Cond.code ({ cls := "RuleLists", name := "made", desc := "(LRuleLists$Shelf;II)LRuleLists$Rule;" } : Jvm.MethodName) prog_1_method_54_code (6 : Nat) (Option.some (Jvm.ClassFile.FieldType.object "RuleLists$Rule"))) ∈ lw_all := lw_g (lw_at lw_m7 7 rfl) rfl
theorem q1504 : (Jvm.Cond.instanceMethod ({ cls := "RuleLists", name := "save", desc := "(I)I" } : Jvm.MethodName)) ∈ lw_all := lw_g (lw_at lw_m7 12 rfl) rfl
theorem q1505 : (Jvm.Cond.selects "RuleLists" ({ cls := "RuleLists", name := "save", desc := "(I)I" } : Jvm.MethodName) ({ cls := "RuleLists", name := "save", desc := "(I)I" } : Jvm.MethodName)) ∈ lw_all := lw_g (lw_at lw_m7 13 rfl) rfl
theorem q1506 : (Jvm.Cond.code ({ cls := "RuleLists", name := "save", desc := "(I)I" } : Jvm.MethodName) prog_1_method_57_code (2 : Nat) (Option.some Jvm.ClassFile.FieldType.int)) ∈ lw_all := lw_g (lw_at lw_m7 14 rfl) rfl
theorem q1511 : (Jvm.Cond.instanceMethod ({ cls := "RuleLists", name := "restore", desc := "(I)I" } : Jvm.MethodName)) ∈ lw_all := lw_g (lw_at lw_m7 19 rfl) rfl
theorem q1512 : (Jvm.Cond.selects "RuleLists" ({ cls := "RuleLists", name := "restore", desc := "(I)I" } : Jvm.MethodName) ({ cls := "RuleLists", name := "restore", desc := "(I)I" } : Jvm.MethodName)) ∈ lw_all := lw_g (lw_at lw_m7 20 rfl) rfl
theorem q1513 : (Jvm.Cond.code ({ cls := "RuleLists", name := "restore", desc := "(I)I" } : Jvm.MethodName) prog_1_method_58_code (2 : Nat) (Option.some Jvm.ClassFile.FieldType.int)) ∈ lw_all := lw_g (lw_at lw_m7 21 rfl) rfl
theorem q1922 : (Jvm.Cond.castable "RuleLists" "java/lang/Object") ∈ lw_tbl := lw_at lw_m8 190 rfl
theorem in_X1 : ∀ w ∈ wsX10, w ∈ lw_all := lw_in wsX10 [168, 170, 172, 174, 176] (by decide +kernel) (by decide +kernel)

/-! RuleLists$Shelf -/
set_option maxRecDepth 100000
def RX2 : String := "RuleLists$Shelf"
def TX2 : u_T := fun k => match k with
  | 0 => ("RuleLists$Shelf", "rules", "Ljava/util/List;", true)
  | 1 => ("RuleLists$Shelf", "readers", "Ljava/util/List;", true)
  | _ => ("RuleLists$Shelf", "readings", "I", false)
def tyX2 : Nat → FieldType := fun k => match k with
  | 0 => .object "java/util/List"
  | 1 => .object "java/util/List"
  | _ => .int
abbrev wsX20 : List Cond := u_ws RX2 TX2 3
theorem nmX2 : ∀ a, a < 3 → ∀ b, b < 3 → a ≠ b → (TX2 a).2.1 ≠ (TX2 b).2.1 := by decide +kernel
theorem tyX2_ok : ∀ k, k < 3 → parseFieldDescriptor (TX2 k).2.2.1 = some (tyX2 k) := by decide +kernel
abbrev cX2_init : ByteArray := prog_11_method_1_code
def yX2_init : MethodName := ⟨RX2, "<init>", "()V"⟩
def dkwX2_init_1 : List UInt8 := [181, 0, 18, 177]
abbrev dktX2_init_1 : List UInt8 := dkwX2_init_1 ++ []
def dkwX2_init_0 : List UInt8 := [42, 183, 0, 3, 42, 187, 0, 9, 89, 183, 0, 11, 181, 0, 12, 42, 187, 0, 9, 89, 183, 0, 11]
abbrev dktX2_init_0 : List UInt8 := dkwX2_init_0 ++ dktX2_init_1
theorem dksX2_init_0 : cX2_init.data.toList.drop 0 = dktX2_init_0 := by decide +kernel
theorem dksX2_init_1 : cX2_init.data.toList.drop 23 = dktX2_init_1 := dk_seg dksX2_init_0 23 rfl rfl
theorem dX2_init_0 : decode cX2_init 0 = .ok (.aload_n 0, 1) := dk_42 (dk_at dksX2_init_0 0 rfl rfl)
theorem dX2_init_1 : decode cX2_init 1 = .ok (.invokespecial 3, 3) := dk_183 0 3 (dk_at dksX2_init_0 1 rfl rfl)
theorem dX2_init_4 : decode cX2_init 4 = .ok (.aload_n 0, 1) := dk_42 (dk_at dksX2_init_0 4 rfl rfl)
theorem dX2_init_5 : decode cX2_init 5 = .ok (.new 9, 3) := dk_187 0 9 (dk_at dksX2_init_0 5 rfl rfl)
theorem dX2_init_8 : decode cX2_init 8 = .ok (.dup, 1) := dk_89 (dk_at dksX2_init_0 8 rfl rfl)
theorem dX2_init_9 : decode cX2_init 9 = .ok (.invokespecial 11, 3) := dk_183 0 11 (dk_at dksX2_init_0 9 rfl rfl)
theorem dX2_init_12 : decode cX2_init 12 = .ok (.putfield 12, 3) := dk_181 0 12 (dk_at dksX2_init_0 12 rfl rfl)
theorem dX2_init_15 : decode cX2_init 15 = .ok (.aload_n 0, 1) := dk_42 (dk_at dksX2_init_0 15 rfl rfl)
theorem dX2_init_16 : decode cX2_init 16 = .ok (.new 9, 3) := dk_187 0 9 (dk_at dksX2_init_0 16 rfl rfl)
theorem dX2_init_19 : decode cX2_init 19 = .ok (.dup, 1) := dk_89 (dk_at dksX2_init_0 19 rfl rfl)
theorem dX2_init_20 : decode cX2_init 20 = .ok (.invokespecial 11, 3) := dk_183 0 11 (dk_at dksX2_init_0 20 rfl rfl)
theorem dX2_init_23 : decode cX2_init 23 = .ok (.putfield 18, 3) := dk_181 0 18 (dk_at dksX2_init_1 0 rfl rfl)
theorem dX2_init_26 : decode cX2_init 26 = .ok (.return_, 1) := dk_177 (dk_at dksX2_init_1 3 rfl rfl)
abbrev cX2_hasRoom : ByteArray := prog_11_method_7_code
def yX2_hasRoom : MethodName := ⟨RX2, "hasRoom", "()Z"⟩
def dkwX2_hasRoom_0 : List UInt8 := [42, 180, 0, 12, 185, 0, 21, 1, 0, 16, 12, 162, 0, 7, 4, 167, 0, 4, 3, 172]
abbrev dktX2_hasRoom_0 : List UInt8 := dkwX2_hasRoom_0 ++ []
theorem dksX2_hasRoom_0 : cX2_hasRoom.data.toList.drop 0 = dktX2_hasRoom_0 := by decide +kernel
theorem dX2_hasRoom_0 : decode cX2_hasRoom 0 = .ok (.aload_n 0, 1) := dk_42 (dk_at dksX2_hasRoom_0 0 rfl rfl)
theorem dX2_hasRoom_1 : decode cX2_hasRoom 1 = .ok (.getfield 12, 3) := dk_180 0 12 (dk_at dksX2_hasRoom_0 1 rfl rfl)
theorem dX2_hasRoom_4 : decode cX2_hasRoom 4 = .ok (.invokeinterface 21 1, 5) := by decide +kernel
theorem dX2_hasRoom_9 : decode cX2_hasRoom 9 = .ok (.bipush 12, 2) := dk_16 12 (dk_at dksX2_hasRoom_0 9 rfl rfl)
theorem dX2_hasRoom_11 : decode cX2_hasRoom 11 = .ok (.if_icmp .ge 7, 3) := dk_162 0 7 (dk_at dksX2_hasRoom_0 11 rfl rfl)
theorem dX2_hasRoom_14 : decode cX2_hasRoom 14 = .ok (.iconst 1, 1) := dk_4 (dk_at dksX2_hasRoom_0 14 rfl rfl)
theorem dX2_hasRoom_15 : decode cX2_hasRoom 15 = .ok (.goto 4, 3) := dk_167 0 4 (dk_at dksX2_hasRoom_0 15 rfl rfl)
theorem dX2_hasRoom_18 : decode cX2_hasRoom 18 = .ok (.iconst 0, 1) := dk_3 (dk_at dksX2_hasRoom_0 18 rfl rfl)
theorem dX2_hasRoom_19 : decode cX2_hasRoom 19 = .ok (.ireturn, 1) := dk_172 (dk_at dksX2_hasRoom_0 19 rfl rfl)
abbrev cX2_make : ByteArray := prog_11_method_8_code
def yX2_make : MethodName := ⟨RX2, "make", "(LRuleLists$Rule;)I"⟩
def dkwX2_make_0 : List UInt8 := [42, 180, 0, 12, 43, 185, 0, 33, 2, 0, 87, 42, 180, 0, 12, 185, 0, 21, 1, 0, 4, 100, 172]
abbrev dktX2_make_0 : List UInt8 := dkwX2_make_0 ++ []
theorem dksX2_make_0 : cX2_make.data.toList.drop 0 = dktX2_make_0 := by decide +kernel
theorem dX2_make_0 : decode cX2_make 0 = .ok (.aload_n 0, 1) := dk_42 (dk_at dksX2_make_0 0 rfl rfl)
theorem dX2_make_1 : decode cX2_make 1 = .ok (.getfield 12, 3) := dk_180 0 12 (dk_at dksX2_make_0 1 rfl rfl)
theorem dX2_make_4 : decode cX2_make 4 = .ok (.aload_n 1, 1) := dk_43 (dk_at dksX2_make_0 4 rfl rfl)
theorem dX2_make_5 : decode cX2_make 5 = .ok (.invokeinterface 33 2, 5) := by decide +kernel
theorem dX2_make_10 : decode cX2_make 10 = .ok (.pop, 1) := dk_87 (dk_at dksX2_make_0 10 rfl rfl)
theorem dX2_make_11 : decode cX2_make 11 = .ok (.aload_n 0, 1) := dk_42 (dk_at dksX2_make_0 11 rfl rfl)
theorem dX2_make_12 : decode cX2_make 12 = .ok (.getfield 12, 3) := dk_180 0 12 (dk_at dksX2_make_0 12 rfl rfl)
theorem dX2_make_15 : decode cX2_make 15 = .ok (.invokeinterface 21 1, 5) := by decide +kernel
theorem dX2_make_20 : decode cX2_make 20 = .ok (.iconst 1, 1) := dk_4 (dk_at dksX2_make_0 20 rfl rfl)
theorem dX2_make_21 : decode cX2_make 21 = .ok (.isub, 1) := dk_100 (dk_at dksX2_make_0 21 rfl rfl)
theorem dX2_make_22 : decode cX2_make 22 = .ok (.ireturn, 1) := dk_172 (dk_at dksX2_make_0 22 rfl rfl)
abbrev cX2_isList : ByteArray := prog_11_method_3_code
def yX2_isList : MethodName := ⟨RX2, "isList", "(I)Z"⟩
def dkwX2_isList_0 : List UInt8 := [27, 3, 42, 180, 0, 12, 185, 0, 21, 1, 0, 4, 100, 184, 0, 46, 172]
abbrev dktX2_isList_0 : List UInt8 := dkwX2_isList_0 ++ []
theorem dksX2_isList_0 : cX2_isList.data.toList.drop 0 = dktX2_isList_0 := by decide +kernel
theorem dX2_isList_0 : decode cX2_isList 0 = .ok (.iload_n 1, 1) := dk_27 (dk_at dksX2_isList_0 0 rfl rfl)
theorem dX2_isList_1 : decode cX2_isList 1 = .ok (.iconst 0, 1) := dk_3 (dk_at dksX2_isList_0 1 rfl rfl)
theorem dX2_isList_2 : decode cX2_isList 2 = .ok (.aload_n 0, 1) := dk_42 (dk_at dksX2_isList_0 2 rfl rfl)
theorem dX2_isList_3 : decode cX2_isList 3 = .ok (.getfield 12, 3) := dk_180 0 12 (dk_at dksX2_isList_0 3 rfl rfl)
theorem dX2_isList_6 : decode cX2_isList 6 = .ok (.invokeinterface 21 1, 5) := by decide +kernel
theorem dX2_isList_11 : decode cX2_isList 11 = .ok (.iconst 1, 1) := dk_4 (dk_at dksX2_isList_0 11 rfl rfl)
theorem dX2_isList_12 : decode cX2_isList 12 = .ok (.isub, 1) := dk_100 (dk_at dksX2_isList_0 12 rfl rfl)
theorem dX2_isList_13 : decode cX2_isList 13 = .ok (.invokestatic 46, 3) := dk_184 0 46 (dk_at dksX2_isList_0 13 rfl rfl)
theorem dX2_isList_16 : decode cX2_isList 16 = .ok (.ireturn, 1) := dk_172 (dk_at dksX2_isList_0 16 rfl rfl)
abbrev cX2_rule : ByteArray := prog_11_method_5_code
def yX2_rule : MethodName := ⟨RX2, "rule", "(I)LRuleLists$Rule;"⟩
def dkwX2_rule_0 : List UInt8 := [42, 180, 0, 12, 27, 185, 0, 27, 2, 0, 192, 0, 31, 176]
abbrev dktX2_rule_0 : List UInt8 := dkwX2_rule_0 ++ []
theorem dksX2_rule_0 : cX2_rule.data.toList.drop 0 = dktX2_rule_0 := by decide +kernel
theorem dX2_rule_0 : decode cX2_rule 0 = .ok (.aload_n 0, 1) := dk_42 (dk_at dksX2_rule_0 0 rfl rfl)
theorem dX2_rule_1 : decode cX2_rule 1 = .ok (.getfield 12, 3) := dk_180 0 12 (dk_at dksX2_rule_0 1 rfl rfl)
theorem dX2_rule_4 : decode cX2_rule 4 = .ok (.iload_n 1, 1) := dk_27 (dk_at dksX2_rule_0 4 rfl rfl)
theorem dX2_rule_5 : decode cX2_rule 5 = .ok (.invokeinterface 27 2, 5) := by decide +kernel
theorem dX2_rule_10 : decode cX2_rule 10 = .ok (.checkcast 31, 3) := dk_192 0 31 (dk_at dksX2_rule_0 10 rfl rfl)
theorem dX2_rule_13 : decode cX2_rule 13 = .ok (.areturn, 1) := dk_176 (dk_at dksX2_rule_0 13 rfl rfl)
abbrev cX2_hasReaderRoom : ByteArray := prog_11_method_18_code
def yX2_hasReaderRoom : MethodName := ⟨RX2, "hasReaderRoom", "()Z"⟩
def dkwX2_hasReaderRoom_0 : List UInt8 := [42, 180, 0, 18, 185, 0, 21, 1, 0, 7, 162, 0, 7, 4, 167, 0, 4, 3, 172]
abbrev dktX2_hasReaderRoom_0 : List UInt8 := dkwX2_hasReaderRoom_0 ++ []
theorem dksX2_hasReaderRoom_0 : cX2_hasReaderRoom.data.toList.drop 0 = dktX2_hasReaderRoom_0 := by decide +kernel
theorem dX2_hasReaderRoom_0 : decode cX2_hasReaderRoom 0 = .ok (.aload_n 0, 1) := dk_42 (dk_at dksX2_hasReaderRoom_0 0 rfl rfl)
theorem dX2_hasReaderRoom_1 : decode cX2_hasReaderRoom 1 = .ok (.getfield 18, 3) := dk_180 0 18 (dk_at dksX2_hasReaderRoom_0 1 rfl rfl)
theorem dX2_hasReaderRoom_4 : decode cX2_hasReaderRoom 4 = .ok (.invokeinterface 21 1, 5) := by decide +kernel
theorem dX2_hasReaderRoom_9 : decode cX2_hasReaderRoom 9 = .ok (.iconst 4, 1) := dk_7 (dk_at dksX2_hasReaderRoom_0 9 rfl rfl)
theorem dX2_hasReaderRoom_10 : decode cX2_hasReaderRoom 10 = .ok (.if_icmp .ge 7, 3) := dk_162 0 7 (dk_at dksX2_hasReaderRoom_0 10 rfl rfl)
theorem dX2_hasReaderRoom_13 : decode cX2_hasReaderRoom 13 = .ok (.iconst 1, 1) := dk_4 (dk_at dksX2_hasReaderRoom_0 13 rfl rfl)
theorem dX2_hasReaderRoom_14 : decode cX2_hasReaderRoom 14 = .ok (.goto 4, 3) := dk_167 0 4 (dk_at dksX2_hasReaderRoom_0 14 rfl rfl)
theorem dX2_hasReaderRoom_17 : decode cX2_hasReaderRoom 17 = .ok (.iconst 0, 1) := dk_3 (dk_at dksX2_hasReaderRoom_0 17 rfl rfl)
theorem dX2_hasReaderRoom_18 : decode cX2_hasReaderRoom 18 = .ok (.ireturn, 1) := dk_172 (dk_at dksX2_hasReaderRoom_0 18 rfl rfl)
abbrev cX2_begin : ByteArray := prog_11_method_19_code
def yX2_begin : MethodName := ⟨RX2, "begin", "(I)I"⟩
def dkwX2_begin_1 : List UInt8 := [185, 0, 21, 1, 0, 4, 100, 172]
abbrev dktX2_begin_1 : List UInt8 := dkwX2_begin_1 ++ []
def dkwX2_begin_0 : List UInt8 := [42, 180, 0, 18, 187, 0, 37, 89, 27, 183, 0, 100, 185, 0, 33, 2, 0, 87, 42, 180, 0, 18]
abbrev dktX2_begin_0 : List UInt8 := dkwX2_begin_0 ++ dktX2_begin_1
theorem dksX2_begin_0 : cX2_begin.data.toList.drop 0 = dktX2_begin_0 := by decide +kernel
theorem dksX2_begin_1 : cX2_begin.data.toList.drop 22 = dktX2_begin_1 := dk_seg dksX2_begin_0 22 rfl rfl
theorem dX2_begin_0 : decode cX2_begin 0 = .ok (.aload_n 0, 1) := dk_42 (dk_at dksX2_begin_0 0 rfl rfl)
theorem dX2_begin_1 : decode cX2_begin 1 = .ok (.getfield 18, 3) := dk_180 0 18 (dk_at dksX2_begin_0 1 rfl rfl)
theorem dX2_begin_4 : decode cX2_begin 4 = .ok (.new 37, 3) := dk_187 0 37 (dk_at dksX2_begin_0 4 rfl rfl)
theorem dX2_begin_7 : decode cX2_begin 7 = .ok (.dup, 1) := dk_89 (dk_at dksX2_begin_0 7 rfl rfl)
theorem dX2_begin_8 : decode cX2_begin 8 = .ok (.iload_n 1, 1) := dk_27 (dk_at dksX2_begin_0 8 rfl rfl)
theorem dX2_begin_9 : decode cX2_begin 9 = .ok (.invokespecial 100, 3) := dk_183 0 100 (dk_at dksX2_begin_0 9 rfl rfl)
theorem dX2_begin_12 : decode cX2_begin 12 = .ok (.invokeinterface 33 2, 5) := by decide +kernel
theorem dX2_begin_17 : decode cX2_begin 17 = .ok (.pop, 1) := dk_87 (dk_at dksX2_begin_0 17 rfl rfl)
theorem dX2_begin_18 : decode cX2_begin 18 = .ok (.aload_n 0, 1) := dk_42 (dk_at dksX2_begin_0 18 rfl rfl)
theorem dX2_begin_19 : decode cX2_begin 19 = .ok (.getfield 18, 3) := dk_180 0 18 (dk_at dksX2_begin_0 19 rfl rfl)
theorem dX2_begin_22 : decode cX2_begin 22 = .ok (.invokeinterface 21 1, 5) := by decide +kernel
theorem dX2_begin_27 : decode cX2_begin 27 = .ok (.iconst 1, 1) := dk_4 (dk_at dksX2_begin_1 5 rfl rfl)
theorem dX2_begin_28 : decode cX2_begin 28 = .ok (.isub, 1) := dk_100 (dk_at dksX2_begin_1 6 rfl rfl)
theorem dX2_begin_29 : decode cX2_begin 29 = .ok (.ireturn, 1) := dk_172 (dk_at dksX2_begin_1 7 rfl rfl)
abbrev cX2_whyNoDrop : ByteArray := prog_11_method_9_code
def yX2_whyNoDrop : MethodName := ⟨RX2, "whyNoDrop", "()I"⟩
def dkwX2_whyNoDrop_3 : List UInt8 := [153, 0, 7, 5, 167, 0, 4, 3, 172]
abbrev dktX2_whyNoDrop_3 : List UInt8 := dkwX2_whyNoDrop_3 ++ []
def dkwX2_whyNoDrop_2 : List UInt8 := [185, 0, 21, 1, 0, 4, 100, 160, 0, 7, 4, 167, 0, 4, 3, 60, 132, 2, 1, 167, 255, 208, 27]
abbrev dktX2_whyNoDrop_2 : List UInt8 := dkwX2_whyNoDrop_2 ++ dktX2_whyNoDrop_3
def dkwX2_whyNoDrop_1 : List UInt8 := [185, 0, 21, 1, 0, 162, 0, 41, 27, 154, 0, 25, 42, 28, 182, 0, 54, 180, 0, 58, 42, 180, 0, 12]
abbrev dktX2_whyNoDrop_1 : List UInt8 := dkwX2_whyNoDrop_1 ++ dktX2_whyNoDrop_2
def dkwX2_whyNoDrop_0 : List UInt8 := [42, 180, 0, 12, 185, 0, 50, 1, 0, 153, 0, 5, 4, 172, 3, 60, 3, 61, 28, 42, 180, 0, 18]
abbrev dktX2_whyNoDrop_0 : List UInt8 := dkwX2_whyNoDrop_0 ++ dktX2_whyNoDrop_1
theorem dksX2_whyNoDrop_0 : cX2_whyNoDrop.data.toList.drop 0 = dktX2_whyNoDrop_0 := by decide +kernel
theorem dksX2_whyNoDrop_1 : cX2_whyNoDrop.data.toList.drop 23 = dktX2_whyNoDrop_1 := dk_seg dksX2_whyNoDrop_0 23 rfl rfl
theorem dksX2_whyNoDrop_2 : cX2_whyNoDrop.data.toList.drop 47 = dktX2_whyNoDrop_2 := dk_seg dksX2_whyNoDrop_1 24 rfl rfl
theorem dksX2_whyNoDrop_3 : cX2_whyNoDrop.data.toList.drop 70 = dktX2_whyNoDrop_3 := dk_seg dksX2_whyNoDrop_2 23 rfl rfl
theorem dX2_whyNoDrop_0 : decode cX2_whyNoDrop 0 = .ok (.aload_n 0, 1) := dk_42 (dk_at dksX2_whyNoDrop_0 0 rfl rfl)
theorem dX2_whyNoDrop_1 : decode cX2_whyNoDrop 1 = .ok (.getfield 12, 3) := dk_180 0 12 (dk_at dksX2_whyNoDrop_0 1 rfl rfl)
theorem dX2_whyNoDrop_4 : decode cX2_whyNoDrop 4 = .ok (.invokeinterface 50 1, 5) := by decide +kernel
theorem dX2_whyNoDrop_9 : decode cX2_whyNoDrop 9 = .ok (.ifCond .eq 5, 3) := dk_153 0 5 (dk_at dksX2_whyNoDrop_0 9 rfl rfl)
theorem dX2_whyNoDrop_12 : decode cX2_whyNoDrop 12 = .ok (.iconst 1, 1) := dk_4 (dk_at dksX2_whyNoDrop_0 12 rfl rfl)
theorem dX2_whyNoDrop_13 : decode cX2_whyNoDrop 13 = .ok (.ireturn, 1) := dk_172 (dk_at dksX2_whyNoDrop_0 13 rfl rfl)
theorem dX2_whyNoDrop_14 : decode cX2_whyNoDrop 14 = .ok (.iconst 0, 1) := dk_3 (dk_at dksX2_whyNoDrop_0 14 rfl rfl)
theorem dX2_whyNoDrop_15 : decode cX2_whyNoDrop 15 = .ok (.istore_n 1, 1) := dk_60 (dk_at dksX2_whyNoDrop_0 15 rfl rfl)
theorem dX2_whyNoDrop_16 : decode cX2_whyNoDrop 16 = .ok (.iconst 0, 1) := dk_3 (dk_at dksX2_whyNoDrop_0 16 rfl rfl)
theorem dX2_whyNoDrop_17 : decode cX2_whyNoDrop 17 = .ok (.istore_n 2, 1) := dk_61 (dk_at dksX2_whyNoDrop_0 17 rfl rfl)
theorem dX2_whyNoDrop_18 : decode cX2_whyNoDrop 18 = .ok (.iload_n 2, 1) := dk_28 (dk_at dksX2_whyNoDrop_0 18 rfl rfl)
theorem dX2_whyNoDrop_19 : decode cX2_whyNoDrop 19 = .ok (.aload_n 0, 1) := dk_42 (dk_at dksX2_whyNoDrop_0 19 rfl rfl)
theorem dX2_whyNoDrop_20 : decode cX2_whyNoDrop 20 = .ok (.getfield 18, 3) := dk_180 0 18 (dk_at dksX2_whyNoDrop_0 20 rfl rfl)
theorem dX2_whyNoDrop_23 : decode cX2_whyNoDrop 23 = .ok (.invokeinterface 21 1, 5) := by decide +kernel
theorem dX2_whyNoDrop_28 : decode cX2_whyNoDrop 28 = .ok (.if_icmp .ge 41, 3) := dk_162 0 41 (dk_at dksX2_whyNoDrop_1 5 rfl rfl)
theorem dX2_whyNoDrop_31 : decode cX2_whyNoDrop 31 = .ok (.iload_n 1, 1) := dk_27 (dk_at dksX2_whyNoDrop_1 8 rfl rfl)
theorem dX2_whyNoDrop_32 : decode cX2_whyNoDrop 32 = .ok (.ifCond .ne 25, 3) := dk_154 0 25 (dk_at dksX2_whyNoDrop_1 9 rfl rfl)
theorem dX2_whyNoDrop_35 : decode cX2_whyNoDrop 35 = .ok (.aload_n 0, 1) := dk_42 (dk_at dksX2_whyNoDrop_1 12 rfl rfl)
theorem dX2_whyNoDrop_36 : decode cX2_whyNoDrop 36 = .ok (.iload_n 2, 1) := dk_28 (dk_at dksX2_whyNoDrop_1 13 rfl rfl)
theorem dX2_whyNoDrop_37 : decode cX2_whyNoDrop 37 = .ok (.invokevirtual 54, 3) := dk_182 0 54 (dk_at dksX2_whyNoDrop_1 14 rfl rfl)
theorem dX2_whyNoDrop_40 : decode cX2_whyNoDrop 40 = .ok (.getfield 58, 3) := dk_180 0 58 (dk_at dksX2_whyNoDrop_1 17 rfl rfl)
theorem dX2_whyNoDrop_43 : decode cX2_whyNoDrop 43 = .ok (.aload_n 0, 1) := dk_42 (dk_at dksX2_whyNoDrop_1 20 rfl rfl)
theorem dX2_whyNoDrop_44 : decode cX2_whyNoDrop 44 = .ok (.getfield 12, 3) := dk_180 0 12 (dk_at dksX2_whyNoDrop_1 21 rfl rfl)
theorem dX2_whyNoDrop_47 : decode cX2_whyNoDrop 47 = .ok (.invokeinterface 21 1, 5) := by decide +kernel
theorem dX2_whyNoDrop_52 : decode cX2_whyNoDrop 52 = .ok (.iconst 1, 1) := dk_4 (dk_at dksX2_whyNoDrop_2 5 rfl rfl)
theorem dX2_whyNoDrop_53 : decode cX2_whyNoDrop 53 = .ok (.isub, 1) := dk_100 (dk_at dksX2_whyNoDrop_2 6 rfl rfl)
theorem dX2_whyNoDrop_54 : decode cX2_whyNoDrop 54 = .ok (.if_icmp .ne 7, 3) := dk_160 0 7 (dk_at dksX2_whyNoDrop_2 7 rfl rfl)
theorem dX2_whyNoDrop_57 : decode cX2_whyNoDrop 57 = .ok (.iconst 1, 1) := dk_4 (dk_at dksX2_whyNoDrop_2 10 rfl rfl)
theorem dX2_whyNoDrop_58 : decode cX2_whyNoDrop 58 = .ok (.goto 4, 3) := dk_167 0 4 (dk_at dksX2_whyNoDrop_2 11 rfl rfl)
theorem dX2_whyNoDrop_61 : decode cX2_whyNoDrop 61 = .ok (.iconst 0, 1) := dk_3 (dk_at dksX2_whyNoDrop_2 14 rfl rfl)
theorem dX2_whyNoDrop_62 : decode cX2_whyNoDrop 62 = .ok (.istore_n 1, 1) := dk_60 (dk_at dksX2_whyNoDrop_2 15 rfl rfl)
theorem dX2_whyNoDrop_63 : decode cX2_whyNoDrop 63 = .ok (.iinc 2 1, 3) := dk_132 2 1 (dk_at dksX2_whyNoDrop_2 16 rfl rfl)
theorem dX2_whyNoDrop_66 : decode cX2_whyNoDrop 66 = .ok (.goto (-48), 3) := dk_167 255 208 (dk_at dksX2_whyNoDrop_2 19 rfl rfl)
theorem dX2_whyNoDrop_69 : decode cX2_whyNoDrop 69 = .ok (.iload_n 1, 1) := dk_27 (dk_at dksX2_whyNoDrop_2 22 rfl rfl)
theorem dX2_whyNoDrop_70 : decode cX2_whyNoDrop 70 = .ok (.ifCond .eq 7, 3) := dk_153 0 7 (dk_at dksX2_whyNoDrop_3 0 rfl rfl)
theorem dX2_whyNoDrop_73 : decode cX2_whyNoDrop 73 = .ok (.iconst 2, 1) := dk_5 (dk_at dksX2_whyNoDrop_3 3 rfl rfl)
theorem dX2_whyNoDrop_74 : decode cX2_whyNoDrop 74 = .ok (.goto 4, 3) := dk_167 0 4 (dk_at dksX2_whyNoDrop_3 4 rfl rfl)
theorem dX2_whyNoDrop_77 : decode cX2_whyNoDrop 77 = .ok (.iconst 0, 1) := dk_3 (dk_at dksX2_whyNoDrop_3 7 rfl rfl)
theorem dX2_whyNoDrop_78 : decode cX2_whyNoDrop 78 = .ok (.ireturn, 1) := dk_172 (dk_at dksX2_whyNoDrop_3 8 rfl rfl)
abbrev cX2_reader : ByteArray := prog_11_method_6_code
def yX2_reader : MethodName := ⟨RX2, "reader", "(I)LRuleLists$Reader;"⟩
def dkwX2_reader_0 : List UInt8 := [42, 180, 0, 18, 27, 185, 0, 27, 2, 0, 192, 0, 37, 176]
abbrev dktX2_reader_0 : List UInt8 := dkwX2_reader_0 ++ []
theorem dksX2_reader_0 : cX2_reader.data.toList.drop 0 = dktX2_reader_0 := by decide +kernel
theorem dX2_reader_0 : decode cX2_reader 0 = .ok (.aload_n 0, 1) := dk_42 (dk_at dksX2_reader_0 0 rfl rfl)
theorem dX2_reader_1 : decode cX2_reader 1 = .ok (.getfield 18, 3) := dk_180 0 18 (dk_at dksX2_reader_0 1 rfl rfl)
theorem dX2_reader_4 : decode cX2_reader 4 = .ok (.iload_n 1, 1) := dk_27 (dk_at dksX2_reader_0 4 rfl rfl)
theorem dX2_reader_5 : decode cX2_reader 5 = .ok (.invokeinterface 27 2, 5) := by decide +kernel
theorem dX2_reader_10 : decode cX2_reader 10 = .ok (.checkcast 37, 3) := dk_192 0 37 (dk_at dksX2_reader_0 10 rfl rfl)
theorem dX2_reader_13 : decode cX2_reader 13 = .ok (.areturn, 1) := dk_176 (dk_at dksX2_reader_0 13 rfl rfl)
abbrev cX2_dropLast : ByteArray := prog_11_method_10_code
def yX2_dropLast : MethodName := ⟨RX2, "dropLast", "()I"⟩
def dkwX2_dropLast_1 : List UInt8 := [42, 180, 0, 12, 185, 0, 21, 1, 0, 172]
abbrev dktX2_dropLast_1 : List UInt8 := dkwX2_dropLast_1 ++ []
def dkwX2_dropLast_0 : List UInt8 := [42, 180, 0, 12, 42, 180, 0, 12, 185, 0, 21, 1, 0, 4, 100, 185, 0, 61, 2, 0, 192, 0, 31, 76]
abbrev dktX2_dropLast_0 : List UInt8 := dkwX2_dropLast_0 ++ dktX2_dropLast_1
theorem dksX2_dropLast_0 : cX2_dropLast.data.toList.drop 0 = dktX2_dropLast_0 := by decide +kernel
theorem dksX2_dropLast_1 : cX2_dropLast.data.toList.drop 24 = dktX2_dropLast_1 := dk_seg dksX2_dropLast_0 24 rfl rfl
theorem dX2_dropLast_0 : decode cX2_dropLast 0 = .ok (.aload_n 0, 1) := dk_42 (dk_at dksX2_dropLast_0 0 rfl rfl)
theorem dX2_dropLast_1 : decode cX2_dropLast 1 = .ok (.getfield 12, 3) := dk_180 0 12 (dk_at dksX2_dropLast_0 1 rfl rfl)
theorem dX2_dropLast_4 : decode cX2_dropLast 4 = .ok (.aload_n 0, 1) := dk_42 (dk_at dksX2_dropLast_0 4 rfl rfl)
theorem dX2_dropLast_5 : decode cX2_dropLast 5 = .ok (.getfield 12, 3) := dk_180 0 12 (dk_at dksX2_dropLast_0 5 rfl rfl)
theorem dX2_dropLast_8 : decode cX2_dropLast 8 = .ok (.invokeinterface 21 1, 5) := by decide +kernel
theorem dX2_dropLast_13 : decode cX2_dropLast 13 = .ok (.iconst 1, 1) := dk_4 (dk_at dksX2_dropLast_0 13 rfl rfl)
theorem dX2_dropLast_14 : decode cX2_dropLast 14 = .ok (.isub, 1) := dk_100 (dk_at dksX2_dropLast_0 14 rfl rfl)
theorem dX2_dropLast_15 : decode cX2_dropLast 15 = .ok (.invokeinterface 61 2, 5) := by decide +kernel
theorem dX2_dropLast_20 : decode cX2_dropLast 20 = .ok (.checkcast 31, 3) := dk_192 0 31 (dk_at dksX2_dropLast_0 20 rfl rfl)
theorem dX2_dropLast_23 : decode cX2_dropLast 23 = .ok (.astore_n 1, 1) := dk_76 (dk_at dksX2_dropLast_0 23 rfl rfl)
theorem dX2_dropLast_24 : decode cX2_dropLast 24 = .ok (.aload_n 0, 1) := dk_42 (dk_at dksX2_dropLast_1 0 rfl rfl)
theorem dX2_dropLast_25 : decode cX2_dropLast 25 = .ok (.getfield 12, 3) := dk_180 0 12 (dk_at dksX2_dropLast_1 1 rfl rfl)
theorem dX2_dropLast_28 : decode cX2_dropLast 28 = .ok (.invokeinterface 21 1, 5) := by decide +kernel
theorem dX2_dropLast_33 : decode cX2_dropLast 33 = .ok (.ireturn, 1) := dk_172 (dk_at dksX2_dropLast_1 9 rfl rfl)
abbrev cX2_isReader : ByteArray := prog_11_method_4_code
def yX2_isReader : MethodName := ⟨RX2, "isReader", "(I)Z"⟩
def dkwX2_isReader_0 : List UInt8 := [27, 3, 42, 180, 0, 18, 185, 0, 21, 1, 0, 4, 100, 184, 0, 46, 172]
abbrev dktX2_isReader_0 : List UInt8 := dkwX2_isReader_0 ++ []
theorem dksX2_isReader_0 : cX2_isReader.data.toList.drop 0 = dktX2_isReader_0 := by decide +kernel
theorem dX2_isReader_0 : decode cX2_isReader 0 = .ok (.iload_n 1, 1) := dk_27 (dk_at dksX2_isReader_0 0 rfl rfl)
theorem dX2_isReader_1 : decode cX2_isReader 1 = .ok (.iconst 0, 1) := dk_3 (dk_at dksX2_isReader_0 1 rfl rfl)
theorem dX2_isReader_2 : decode cX2_isReader 2 = .ok (.aload_n 0, 1) := dk_42 (dk_at dksX2_isReader_0 2 rfl rfl)
theorem dX2_isReader_3 : decode cX2_isReader 3 = .ok (.getfield 18, 3) := dk_180 0 18 (dk_at dksX2_isReader_0 3 rfl rfl)
theorem dX2_isReader_6 : decode cX2_isReader 6 = .ok (.invokeinterface 21 1, 5) := by decide +kernel
theorem dX2_isReader_11 : decode cX2_isReader 11 = .ok (.iconst 1, 1) := dk_4 (dk_at dksX2_isReader_0 11 rfl rfl)
theorem dX2_isReader_12 : decode cX2_isReader 12 = .ok (.isub, 1) := dk_100 (dk_at dksX2_isReader_0 12 rfl rfl)
theorem dX2_isReader_13 : decode cX2_isReader 13 = .ok (.invokestatic 46, 3) := dk_184 0 46 (dk_at dksX2_isReader_0 13 rfl rfl)
theorem dX2_isReader_16 : decode cX2_isReader 16 = .ok (.ireturn, 1) := dk_172 (dk_at dksX2_isReader_0 16 rfl rfl)
abbrev cX2_nextOf : ByteArray := prog_11_method_20_code
def yX2_nextOf : MethodName := ⟨RX2, "nextOf", "(LRuleLists$Reader;)I"⟩
def dkwX2_nextOf_0 : List UInt8 := [42, 43, 180, 0, 58, 43, 180, 0, 103, 182, 0, 106, 172]
abbrev dktX2_nextOf_0 : List UInt8 := dkwX2_nextOf_0 ++ []
theorem dksX2_nextOf_0 : cX2_nextOf.data.toList.drop 0 = dktX2_nextOf_0 := by decide +kernel
theorem dX2_nextOf_0 : decode cX2_nextOf 0 = .ok (.aload_n 0, 1) := dk_42 (dk_at dksX2_nextOf_0 0 rfl rfl)
theorem dX2_nextOf_1 : decode cX2_nextOf 1 = .ok (.aload_n 1, 1) := dk_43 (dk_at dksX2_nextOf_0 1 rfl rfl)
theorem dX2_nextOf_2 : decode cX2_nextOf 2 = .ok (.getfield 58, 3) := dk_180 0 58 (dk_at dksX2_nextOf_0 2 rfl rfl)
theorem dX2_nextOf_5 : decode cX2_nextOf 5 = .ok (.aload_n 1, 1) := dk_43 (dk_at dksX2_nextOf_0 5 rfl rfl)
theorem dX2_nextOf_6 : decode cX2_nextOf 6 = .ok (.getfield 103, 3) := dk_180 0 103 (dk_at dksX2_nextOf_0 6 rfl rfl)
theorem dX2_nextOf_9 : decode cX2_nextOf 9 = .ok (.invokevirtual 106, 3) := dk_182 0 106 (dk_at dksX2_nextOf_0 9 rfl rfl)
theorem dX2_nextOf_12 : decode cX2_nextOf 12 = .ok (.ireturn, 1) := dk_172 (dk_at dksX2_nextOf_0 12 rfl rfl)
abbrev cX2_byReading : ByteArray := prog_11_method_11_code
def yX2_byReading : MethodName := ⟨RX2, "byReading", "(II)I"⟩
def dkwX2_byReading_0 : List UInt8 := [42, 27, 182, 0, 64, 28, 182, 0, 68, 62, 29, 17, 3, 231, 164, 0, 7, 2, 167, 0, 4, 29, 172]
abbrev dktX2_byReading_0 : List UInt8 := dkwX2_byReading_0 ++ []
theorem dksX2_byReading_0 : cX2_byReading.data.toList.drop 0 = dktX2_byReading_0 := by decide +kernel
theorem dX2_byReading_0 : decode cX2_byReading 0 = .ok (.aload_n 0, 1) := dk_42 (dk_at dksX2_byReading_0 0 rfl rfl)
theorem dX2_byReading_1 : decode cX2_byReading 1 = .ok (.iload_n 1, 1) := dk_27 (dk_at dksX2_byReading_0 1 rfl rfl)
theorem dX2_byReading_2 : decode cX2_byReading 2 = .ok (.invokevirtual 64, 3) := dk_182 0 64 (dk_at dksX2_byReading_0 2 rfl rfl)
theorem dX2_byReading_5 : decode cX2_byReading 5 = .ok (.iload_n 2, 1) := dk_28 (dk_at dksX2_byReading_0 5 rfl rfl)
theorem dX2_byReading_6 : decode cX2_byReading 6 = .ok (.invokevirtual 68, 3) := dk_182 0 68 (dk_at dksX2_byReading_0 6 rfl rfl)
theorem dX2_byReading_9 : decode cX2_byReading 9 = .ok (.istore_n 3, 1) := dk_62 (dk_at dksX2_byReading_0 9 rfl rfl)
theorem dX2_byReading_10 : decode cX2_byReading 10 = .ok (.iload_n 3, 1) := dk_29 (dk_at dksX2_byReading_0 10 rfl rfl)
theorem dX2_byReading_11 : decode cX2_byReading 11 = .ok (.sipush 999, 3) := dk_17 3 231 (dk_at dksX2_byReading_0 11 rfl rfl)
theorem dX2_byReading_14 : decode cX2_byReading 14 = .ok (.if_icmp .le 7, 3) := dk_164 0 7 (dk_at dksX2_byReading_0 14 rfl rfl)
theorem dX2_byReading_17 : decode cX2_byReading 17 = .ok (.iconst (-1), 1) := dk_2 (dk_at dksX2_byReading_0 17 rfl rfl)
theorem dX2_byReading_18 : decode cX2_byReading 18 = .ok (.goto 4, 3) := dk_167 0 4 (dk_at dksX2_byReading_0 18 rfl rfl)
theorem dX2_byReading_21 : decode cX2_byReading 21 = .ok (.iload_n 3, 1) := dk_29 (dk_at dksX2_byReading_0 21 rfl rfl)
theorem dX2_byReading_22 : decode cX2_byReading 22 = .ok (.ireturn, 1) := dk_172 (dk_at dksX2_byReading_0 22 rfl rfl)
abbrev cX2_read : ByteArray := prog_11_method_21_code
def yX2_read : MethodName := ⟨RX2, "read", "(LRuleLists$Reader;)I"⟩
def dkwX2_read_1 : List UInt8 := [181, 0, 42, 28, 172]
abbrev dktX2_read_1 : List UInt8 := dkwX2_read_1 ++ []
def dkwX2_read_0 : List UInt8 := [42, 43, 182, 0, 109, 61, 43, 89, 180, 0, 103, 4, 96, 181, 0, 103, 42, 89, 180, 0, 42, 4, 96]
abbrev dktX2_read_0 : List UInt8 := dkwX2_read_0 ++ dktX2_read_1
theorem dksX2_read_0 : cX2_read.data.toList.drop 0 = dktX2_read_0 := by decide +kernel
theorem dksX2_read_1 : cX2_read.data.toList.drop 23 = dktX2_read_1 := dk_seg dksX2_read_0 23 rfl rfl
theorem dX2_read_0 : decode cX2_read 0 = .ok (.aload_n 0, 1) := dk_42 (dk_at dksX2_read_0 0 rfl rfl)
theorem dX2_read_1 : decode cX2_read 1 = .ok (.aload_n 1, 1) := dk_43 (dk_at dksX2_read_0 1 rfl rfl)
theorem dX2_read_2 : decode cX2_read 2 = .ok (.invokevirtual 109, 3) := dk_182 0 109 (dk_at dksX2_read_0 2 rfl rfl)
theorem dX2_read_5 : decode cX2_read 5 = .ok (.istore_n 2, 1) := dk_61 (dk_at dksX2_read_0 5 rfl rfl)
theorem dX2_read_6 : decode cX2_read 6 = .ok (.aload_n 1, 1) := dk_43 (dk_at dksX2_read_0 6 rfl rfl)
theorem dX2_read_7 : decode cX2_read 7 = .ok (.dup, 1) := dk_89 (dk_at dksX2_read_0 7 rfl rfl)
theorem dX2_read_8 : decode cX2_read 8 = .ok (.getfield 103, 3) := dk_180 0 103 (dk_at dksX2_read_0 8 rfl rfl)
theorem dX2_read_11 : decode cX2_read 11 = .ok (.iconst 1, 1) := dk_4 (dk_at dksX2_read_0 11 rfl rfl)
theorem dX2_read_12 : decode cX2_read 12 = .ok (.iadd, 1) := dk_96 (dk_at dksX2_read_0 12 rfl rfl)
theorem dX2_read_13 : decode cX2_read 13 = .ok (.putfield 103, 3) := dk_181 0 103 (dk_at dksX2_read_0 13 rfl rfl)
theorem dX2_read_16 : decode cX2_read 16 = .ok (.aload_n 0, 1) := dk_42 (dk_at dksX2_read_0 16 rfl rfl)
theorem dX2_read_17 : decode cX2_read 17 = .ok (.dup, 1) := dk_89 (dk_at dksX2_read_0 17 rfl rfl)
theorem dX2_read_18 : decode cX2_read 18 = .ok (.getfield 42, 3) := dk_180 0 42 (dk_at dksX2_read_0 18 rfl rfl)
theorem dX2_read_21 : decode cX2_read 21 = .ok (.iconst 1, 1) := dk_4 (dk_at dksX2_read_0 21 rfl rfl)
theorem dX2_read_22 : decode cX2_read 22 = .ok (.iadd, 1) := dk_96 (dk_at dksX2_read_0 22 rfl rfl)
theorem dX2_read_23 : decode cX2_read 23 = .ok (.putfield 42, 3) := dk_181 0 42 (dk_at dksX2_read_1 0 rfl rfl)
theorem dX2_read_26 : decode cX2_read 26 = .ok (.iload_n 2, 1) := dk_28 (dk_at dksX2_read_1 3 rfl rfl)
theorem dX2_read_27 : decode cX2_read 27 = .ok (.ireturn, 1) := dk_172 (dk_at dksX2_read_1 4 rfl rfl)
abbrev cX2_skip : ByteArray := prog_11_method_22_code
def yX2_skip : MethodName := ⟨RX2, "skip", "(LRuleLists$Reader;I)I"⟩
def dkwX2_skip_1 : List UInt8 := [181, 0, 103, 132, 3, 1, 167, 255, 229, 29, 172]
abbrev dktX2_skip_1 : List UInt8 := dkwX2_skip_1 ++ []
def dkwX2_skip_0 : List UInt8 := [3, 62, 29, 28, 162, 0, 28, 42, 43, 182, 0, 109, 2, 159, 0, 19, 43, 89, 180, 0, 103, 4, 96]
abbrev dktX2_skip_0 : List UInt8 := dkwX2_skip_0 ++ dktX2_skip_1
theorem dksX2_skip_0 : cX2_skip.data.toList.drop 0 = dktX2_skip_0 := by decide +kernel
theorem dksX2_skip_1 : cX2_skip.data.toList.drop 23 = dktX2_skip_1 := dk_seg dksX2_skip_0 23 rfl rfl
theorem dX2_skip_0 : decode cX2_skip 0 = .ok (.iconst 0, 1) := dk_3 (dk_at dksX2_skip_0 0 rfl rfl)
theorem dX2_skip_1 : decode cX2_skip 1 = .ok (.istore_n 3, 1) := dk_62 (dk_at dksX2_skip_0 1 rfl rfl)
theorem dX2_skip_2 : decode cX2_skip 2 = .ok (.iload_n 3, 1) := dk_29 (dk_at dksX2_skip_0 2 rfl rfl)
theorem dX2_skip_3 : decode cX2_skip 3 = .ok (.iload_n 2, 1) := dk_28 (dk_at dksX2_skip_0 3 rfl rfl)
theorem dX2_skip_4 : decode cX2_skip 4 = .ok (.if_icmp .ge 28, 3) := dk_162 0 28 (dk_at dksX2_skip_0 4 rfl rfl)
theorem dX2_skip_7 : decode cX2_skip 7 = .ok (.aload_n 0, 1) := dk_42 (dk_at dksX2_skip_0 7 rfl rfl)
theorem dX2_skip_8 : decode cX2_skip 8 = .ok (.aload_n 1, 1) := dk_43 (dk_at dksX2_skip_0 8 rfl rfl)
theorem dX2_skip_9 : decode cX2_skip 9 = .ok (.invokevirtual 109, 3) := dk_182 0 109 (dk_at dksX2_skip_0 9 rfl rfl)
theorem dX2_skip_12 : decode cX2_skip 12 = .ok (.iconst (-1), 1) := dk_2 (dk_at dksX2_skip_0 12 rfl rfl)
theorem dX2_skip_13 : decode cX2_skip 13 = .ok (.if_icmp .eq 19, 3) := dk_159 0 19 (dk_at dksX2_skip_0 13 rfl rfl)
theorem dX2_skip_16 : decode cX2_skip 16 = .ok (.aload_n 1, 1) := dk_43 (dk_at dksX2_skip_0 16 rfl rfl)
theorem dX2_skip_17 : decode cX2_skip 17 = .ok (.dup, 1) := dk_89 (dk_at dksX2_skip_0 17 rfl rfl)
theorem dX2_skip_18 : decode cX2_skip 18 = .ok (.getfield 103, 3) := dk_180 0 103 (dk_at dksX2_skip_0 18 rfl rfl)
theorem dX2_skip_21 : decode cX2_skip 21 = .ok (.iconst 1, 1) := dk_4 (dk_at dksX2_skip_0 21 rfl rfl)
theorem dX2_skip_22 : decode cX2_skip 22 = .ok (.iadd, 1) := dk_96 (dk_at dksX2_skip_0 22 rfl rfl)
theorem dX2_skip_23 : decode cX2_skip 23 = .ok (.putfield 103, 3) := dk_181 0 103 (dk_at dksX2_skip_1 0 rfl rfl)
theorem dX2_skip_26 : decode cX2_skip 26 = .ok (.iinc 3 1, 3) := dk_132 3 1 (dk_at dksX2_skip_1 3 rfl rfl)
theorem dX2_skip_29 : decode cX2_skip 29 = .ok (.goto (-27), 3) := dk_167 255 229 (dk_at dksX2_skip_1 6 rfl rfl)
theorem dX2_skip_32 : decode cX2_skip 32 = .ok (.iload_n 3, 1) := dk_29 (dk_at dksX2_skip_1 9 rfl rfl)
theorem dX2_skip_33 : decode cX2_skip 33 = .ok (.ireturn, 1) := dk_172 (dk_at dksX2_skip_1 10 rfl rfl)
abbrev cX2_goBack : ByteArray := prog_11_method_23_code
def yX2_goBack : MethodName := ⟨RX2, "goBack", "(LRuleLists$Reader;)I"⟩
def dkwX2_goBack_0 : List UInt8 := [43, 180, 0, 103, 61, 43, 3, 181, 0, 103, 28, 172]
abbrev dktX2_goBack_0 : List UInt8 := dkwX2_goBack_0 ++ []
theorem dksX2_goBack_0 : cX2_goBack.data.toList.drop 0 = dktX2_goBack_0 := by decide +kernel
theorem dX2_goBack_0 : decode cX2_goBack 0 = .ok (.aload_n 1, 1) := dk_43 (dk_at dksX2_goBack_0 0 rfl rfl)
theorem dX2_goBack_1 : decode cX2_goBack 1 = .ok (.getfield 103, 3) := dk_180 0 103 (dk_at dksX2_goBack_0 1 rfl rfl)
theorem dX2_goBack_4 : decode cX2_goBack 4 = .ok (.istore_n 2, 1) := dk_61 (dk_at dksX2_goBack_0 4 rfl rfl)
theorem dX2_goBack_5 : decode cX2_goBack 5 = .ok (.aload_n 1, 1) := dk_43 (dk_at dksX2_goBack_0 5 rfl rfl)
theorem dX2_goBack_6 : decode cX2_goBack 6 = .ok (.iconst 0, 1) := dk_3 (dk_at dksX2_goBack_0 6 rfl rfl)
theorem dX2_goBack_7 : decode cX2_goBack 7 = .ok (.putfield 103, 3) := dk_181 0 103 (dk_at dksX2_goBack_0 7 rfl rfl)
theorem dX2_goBack_10 : decode cX2_goBack 10 = .ok (.iload_n 2, 1) := dk_28 (dk_at dksX2_goBack_0 10 rfl rfl)
theorem dX2_goBack_11 : decode cX2_goBack 11 = .ok (.ireturn, 1) := dk_172 (dk_at dksX2_goBack_0 11 rfl rfl)
abbrev cX2_stop : ByteArray := prog_11_method_24_code
def yX2_stop : MethodName := ⟨RX2, "stop", "(I)I"⟩
def dkwX2_stop_0 : List UInt8 := [42, 180, 0, 18, 27, 185, 0, 61, 2, 0, 192, 0, 37, 77, 42, 180, 0, 18, 185, 0, 21, 1, 0, 172]
abbrev dktX2_stop_0 : List UInt8 := dkwX2_stop_0 ++ []
theorem dksX2_stop_0 : cX2_stop.data.toList.drop 0 = dktX2_stop_0 := by decide +kernel
theorem dX2_stop_0 : decode cX2_stop 0 = .ok (.aload_n 0, 1) := dk_42 (dk_at dksX2_stop_0 0 rfl rfl)
theorem dX2_stop_1 : decode cX2_stop 1 = .ok (.getfield 18, 3) := dk_180 0 18 (dk_at dksX2_stop_0 1 rfl rfl)
theorem dX2_stop_4 : decode cX2_stop 4 = .ok (.iload_n 1, 1) := dk_27 (dk_at dksX2_stop_0 4 rfl rfl)
theorem dX2_stop_5 : decode cX2_stop 5 = .ok (.invokeinterface 61 2, 5) := by decide +kernel
theorem dX2_stop_10 : decode cX2_stop 10 = .ok (.checkcast 37, 3) := dk_192 0 37 (dk_at dksX2_stop_0 10 rfl rfl)
theorem dX2_stop_13 : decode cX2_stop 13 = .ok (.astore_n 2, 1) := dk_77 (dk_at dksX2_stop_0 13 rfl rfl)
theorem dX2_stop_14 : decode cX2_stop 14 = .ok (.aload_n 0, 1) := dk_42 (dk_at dksX2_stop_0 14 rfl rfl)
theorem dX2_stop_15 : decode cX2_stop 15 = .ok (.getfield 18, 3) := dk_180 0 18 (dk_at dksX2_stop_0 15 rfl rfl)
theorem dX2_stop_18 : decode cX2_stop 18 = .ok (.invokeinterface 21 1, 5) := by decide +kernel
theorem dX2_stop_23 : decode cX2_stop 23 = .ok (.ireturn, 1) := dk_172 (dk_at dksX2_stop_0 23 rfl rfl)
abbrev cX2_leastNext : ByteArray := prog_11_method_25_code
def yX2_leastNext : MethodName := ⟨RX2, "leastNext", "()I"⟩
def dkwX2_leastNext_3 : List UInt8 := [28, 61, 132, 3, 1, 167, 255, 187, 27, 172]
abbrev dktX2_leastNext_3 : List UInt8 := dkwX2_leastNext_3 ++ []
def dkwX2_leastNext_2 : List UInt8 := [3, 54, 5, 21, 5, 153, 0, 7, 29, 167, 0, 4, 27, 60, 21, 5, 153, 0, 8, 21, 4, 167, 0, 4]
abbrev dktX2_leastNext_2 : List UInt8 := dkwX2_leastNext_2 ++ dktX2_leastNext_3
def dkwX2_leastNext_1 : List UInt8 := [182, 0, 54, 182, 0, 109, 54, 4, 21, 4, 2, 159, 0, 13, 21, 4, 28, 162, 0, 7, 4, 167, 0, 4]
abbrev dktX2_leastNext_1 : List UInt8 := dkwX2_leastNext_1 ++ dktX2_leastNext_2
def dkwX2_leastNext_0 : List UInt8 := [2, 60, 17, 3, 232, 61, 3, 62, 29, 42, 180, 0, 18, 185, 0, 21, 1, 0, 162, 0, 62, 42, 42, 29]
abbrev dktX2_leastNext_0 : List UInt8 := dkwX2_leastNext_0 ++ dktX2_leastNext_1
theorem dksX2_leastNext_0 : cX2_leastNext.data.toList.drop 0 = dktX2_leastNext_0 := by decide +kernel
theorem dksX2_leastNext_1 : cX2_leastNext.data.toList.drop 24 = dktX2_leastNext_1 := dk_seg dksX2_leastNext_0 24 rfl rfl
theorem dksX2_leastNext_2 : cX2_leastNext.data.toList.drop 48 = dktX2_leastNext_2 := dk_seg dksX2_leastNext_1 24 rfl rfl
theorem dksX2_leastNext_3 : cX2_leastNext.data.toList.drop 72 = dktX2_leastNext_3 := dk_seg dksX2_leastNext_2 24 rfl rfl
theorem dX2_leastNext_0 : decode cX2_leastNext 0 = .ok (.iconst (-1), 1) := dk_2 (dk_at dksX2_leastNext_0 0 rfl rfl)
theorem dX2_leastNext_1 : decode cX2_leastNext 1 = .ok (.istore_n 1, 1) := dk_60 (dk_at dksX2_leastNext_0 1 rfl rfl)
theorem dX2_leastNext_2 : decode cX2_leastNext 2 = .ok (.sipush 1000, 3) := dk_17 3 232 (dk_at dksX2_leastNext_0 2 rfl rfl)
theorem dX2_leastNext_5 : decode cX2_leastNext 5 = .ok (.istore_n 2, 1) := dk_61 (dk_at dksX2_leastNext_0 5 rfl rfl)
theorem dX2_leastNext_6 : decode cX2_leastNext 6 = .ok (.iconst 0, 1) := dk_3 (dk_at dksX2_leastNext_0 6 rfl rfl)
theorem dX2_leastNext_7 : decode cX2_leastNext 7 = .ok (.istore_n 3, 1) := dk_62 (dk_at dksX2_leastNext_0 7 rfl rfl)
theorem dX2_leastNext_8 : decode cX2_leastNext 8 = .ok (.iload_n 3, 1) := dk_29 (dk_at dksX2_leastNext_0 8 rfl rfl)
theorem dX2_leastNext_9 : decode cX2_leastNext 9 = .ok (.aload_n 0, 1) := dk_42 (dk_at dksX2_leastNext_0 9 rfl rfl)
theorem dX2_leastNext_10 : decode cX2_leastNext 10 = .ok (.getfield 18, 3) := dk_180 0 18 (dk_at dksX2_leastNext_0 10 rfl rfl)
theorem dX2_leastNext_13 : decode cX2_leastNext 13 = .ok (.invokeinterface 21 1, 5) := by decide +kernel
theorem dX2_leastNext_18 : decode cX2_leastNext 18 = .ok (.if_icmp .ge 62, 3) := dk_162 0 62 (dk_at dksX2_leastNext_0 18 rfl rfl)
theorem dX2_leastNext_21 : decode cX2_leastNext 21 = .ok (.aload_n 0, 1) := dk_42 (dk_at dksX2_leastNext_0 21 rfl rfl)
theorem dX2_leastNext_22 : decode cX2_leastNext 22 = .ok (.aload_n 0, 1) := dk_42 (dk_at dksX2_leastNext_0 22 rfl rfl)
theorem dX2_leastNext_23 : decode cX2_leastNext 23 = .ok (.iload_n 3, 1) := dk_29 (dk_at dksX2_leastNext_0 23 rfl rfl)
theorem dX2_leastNext_24 : decode cX2_leastNext 24 = .ok (.invokevirtual 54, 3) := dk_182 0 54 (dk_at dksX2_leastNext_1 0 rfl rfl)
theorem dX2_leastNext_27 : decode cX2_leastNext 27 = .ok (.invokevirtual 109, 3) := dk_182 0 109 (dk_at dksX2_leastNext_1 3 rfl rfl)
theorem dX2_leastNext_30 : decode cX2_leastNext 30 = .ok (.istore 4, 2) := dk_54 4 (dk_at dksX2_leastNext_1 6 rfl rfl)
theorem dX2_leastNext_32 : decode cX2_leastNext 32 = .ok (.iload 4, 2) := dk_21 4 (dk_at dksX2_leastNext_1 8 rfl rfl)
theorem dX2_leastNext_34 : decode cX2_leastNext 34 = .ok (.iconst (-1), 1) := dk_2 (dk_at dksX2_leastNext_1 10 rfl rfl)
theorem dX2_leastNext_35 : decode cX2_leastNext 35 = .ok (.if_icmp .eq 13, 3) := dk_159 0 13 (dk_at dksX2_leastNext_1 11 rfl rfl)
theorem dX2_leastNext_38 : decode cX2_leastNext 38 = .ok (.iload 4, 2) := dk_21 4 (dk_at dksX2_leastNext_1 14 rfl rfl)
theorem dX2_leastNext_40 : decode cX2_leastNext 40 = .ok (.iload_n 2, 1) := dk_28 (dk_at dksX2_leastNext_1 16 rfl rfl)
theorem dX2_leastNext_41 : decode cX2_leastNext 41 = .ok (.if_icmp .ge 7, 3) := dk_162 0 7 (dk_at dksX2_leastNext_1 17 rfl rfl)
theorem dX2_leastNext_44 : decode cX2_leastNext 44 = .ok (.iconst 1, 1) := dk_4 (dk_at dksX2_leastNext_1 20 rfl rfl)
theorem dX2_leastNext_45 : decode cX2_leastNext 45 = .ok (.goto 4, 3) := dk_167 0 4 (dk_at dksX2_leastNext_1 21 rfl rfl)
theorem dX2_leastNext_48 : decode cX2_leastNext 48 = .ok (.iconst 0, 1) := dk_3 (dk_at dksX2_leastNext_2 0 rfl rfl)
theorem dX2_leastNext_49 : decode cX2_leastNext 49 = .ok (.istore 5, 2) := dk_54 5 (dk_at dksX2_leastNext_2 1 rfl rfl)
theorem dX2_leastNext_51 : decode cX2_leastNext 51 = .ok (.iload 5, 2) := dk_21 5 (dk_at dksX2_leastNext_2 3 rfl rfl)
theorem dX2_leastNext_53 : decode cX2_leastNext 53 = .ok (.ifCond .eq 7, 3) := dk_153 0 7 (dk_at dksX2_leastNext_2 5 rfl rfl)
theorem dX2_leastNext_56 : decode cX2_leastNext 56 = .ok (.iload_n 3, 1) := dk_29 (dk_at dksX2_leastNext_2 8 rfl rfl)
theorem dX2_leastNext_57 : decode cX2_leastNext 57 = .ok (.goto 4, 3) := dk_167 0 4 (dk_at dksX2_leastNext_2 9 rfl rfl)
theorem dX2_leastNext_60 : decode cX2_leastNext 60 = .ok (.iload_n 1, 1) := dk_27 (dk_at dksX2_leastNext_2 12 rfl rfl)
theorem dX2_leastNext_61 : decode cX2_leastNext 61 = .ok (.istore_n 1, 1) := dk_60 (dk_at dksX2_leastNext_2 13 rfl rfl)
theorem dX2_leastNext_62 : decode cX2_leastNext 62 = .ok (.iload 5, 2) := dk_21 5 (dk_at dksX2_leastNext_2 14 rfl rfl)
theorem dX2_leastNext_64 : decode cX2_leastNext 64 = .ok (.ifCond .eq 8, 3) := dk_153 0 8 (dk_at dksX2_leastNext_2 16 rfl rfl)
theorem dX2_leastNext_67 : decode cX2_leastNext 67 = .ok (.iload 4, 2) := dk_21 4 (dk_at dksX2_leastNext_2 19 rfl rfl)
theorem dX2_leastNext_69 : decode cX2_leastNext 69 = .ok (.goto 4, 3) := dk_167 0 4 (dk_at dksX2_leastNext_2 21 rfl rfl)
theorem dX2_leastNext_72 : decode cX2_leastNext 72 = .ok (.iload_n 2, 1) := dk_28 (dk_at dksX2_leastNext_3 0 rfl rfl)
theorem dX2_leastNext_73 : decode cX2_leastNext 73 = .ok (.istore_n 2, 1) := dk_61 (dk_at dksX2_leastNext_3 1 rfl rfl)
theorem dX2_leastNext_74 : decode cX2_leastNext 74 = .ok (.iinc 3 1, 3) := dk_132 3 1 (dk_at dksX2_leastNext_3 2 rfl rfl)
theorem dX2_leastNext_77 : decode cX2_leastNext 77 = .ok (.goto (-69), 3) := dk_167 255 187 (dk_at dksX2_leastNext_3 5 rfl rfl)
theorem dX2_leastNext_80 : decode cX2_leastNext 80 = .ok (.iload_n 1, 1) := dk_27 (dk_at dksX2_leastNext_3 8 rfl rfl)
theorem dX2_leastNext_81 : decode cX2_leastNext 81 = .ok (.ireturn, 1) := dk_172 (dk_at dksX2_leastNext_3 9 rfl rfl)
abbrev cX2_init_2 : ByteArray := prog_11_method_2_code
def yX2_init_2 : MethodName := ⟨RX2, "<init>", "(LRuleLists$Shelf;)V"⟩
def dkwX2_init_2_5 : List UInt8 := [167, 255, 210, 42, 43, 180, 0, 42, 181, 0, 42, 177]
abbrev dktX2_init_2_5 : List UInt8 := dkwX2_init_2_5 ++ []
def dkwX2_init_2_4 : List UInt8 := [180, 0, 18, 28, 185, 0, 27, 2, 0, 192, 0, 37, 183, 0, 39, 185, 0, 33, 2, 0, 87, 132, 2, 1]
abbrev dktX2_init_2_4 : List UInt8 := dkwX2_init_2_4 ++ dktX2_init_2_5
def dkwX2_init_2_3 : List UInt8 := [3, 61, 28, 43, 180, 0, 18, 185, 0, 21, 1, 0, 162, 0, 39, 42, 180, 0, 18, 187, 0, 37, 89, 43]
abbrev dktX2_init_2_3 : List UInt8 := dkwX2_init_2_3 ++ dktX2_init_2_4
def dkwX2_init_2_2 : List UInt8 := [180, 0, 12, 28, 185, 0, 27, 2, 0, 192, 0, 31, 185, 0, 33, 2, 0, 87, 132, 2, 1, 167, 255, 217]
abbrev dktX2_init_2_2 : List UInt8 := dkwX2_init_2_2 ++ dktX2_init_2_3
def dkwX2_init_2_1 : List UInt8 := [181, 0, 18, 3, 61, 28, 43, 180, 0, 12, 185, 0, 21, 1, 0, 162, 0, 32, 42, 180, 0, 12, 43]
abbrev dktX2_init_2_1 : List UInt8 := dkwX2_init_2_1 ++ dktX2_init_2_2
def dkwX2_init_2_0 : List UInt8 := [42, 183, 0, 3, 42, 187, 0, 9, 89, 183, 0, 11, 181, 0, 12, 42, 187, 0, 9, 89, 183, 0, 11]
abbrev dktX2_init_2_0 : List UInt8 := dkwX2_init_2_0 ++ dktX2_init_2_1
theorem dksX2_init_2_0 : cX2_init_2.data.toList.drop 0 = dktX2_init_2_0 := by decide +kernel
theorem dksX2_init_2_1 : cX2_init_2.data.toList.drop 23 = dktX2_init_2_1 := dk_seg dksX2_init_2_0 23 rfl rfl
theorem dksX2_init_2_2 : cX2_init_2.data.toList.drop 46 = dktX2_init_2_2 := dk_seg dksX2_init_2_1 23 rfl rfl
theorem dksX2_init_2_3 : cX2_init_2.data.toList.drop 70 = dktX2_init_2_3 := dk_seg dksX2_init_2_2 24 rfl rfl
theorem dksX2_init_2_4 : cX2_init_2.data.toList.drop 94 = dktX2_init_2_4 := dk_seg dksX2_init_2_3 24 rfl rfl
theorem dksX2_init_2_5 : cX2_init_2.data.toList.drop 118 = dktX2_init_2_5 := dk_seg dksX2_init_2_4 24 rfl rfl
theorem dX2_init_2_0 : decode cX2_init_2 0 = .ok (.aload_n 0, 1) := dk_42 (dk_at dksX2_init_2_0 0 rfl rfl)
theorem dX2_init_2_1 : decode cX2_init_2 1 = .ok (.invokespecial 3, 3) := dk_183 0 3 (dk_at dksX2_init_2_0 1 rfl rfl)
theorem dX2_init_2_4 : decode cX2_init_2 4 = .ok (.aload_n 0, 1) := dk_42 (dk_at dksX2_init_2_0 4 rfl rfl)
theorem dX2_init_2_5 : decode cX2_init_2 5 = .ok (.new 9, 3) := dk_187 0 9 (dk_at dksX2_init_2_0 5 rfl rfl)
theorem dX2_init_2_8 : decode cX2_init_2 8 = .ok (.dup, 1) := dk_89 (dk_at dksX2_init_2_0 8 rfl rfl)
theorem dX2_init_2_9 : decode cX2_init_2 9 = .ok (.invokespecial 11, 3) := dk_183 0 11 (dk_at dksX2_init_2_0 9 rfl rfl)
theorem dX2_init_2_12 : decode cX2_init_2 12 = .ok (.putfield 12, 3) := dk_181 0 12 (dk_at dksX2_init_2_0 12 rfl rfl)
theorem dX2_init_2_15 : decode cX2_init_2 15 = .ok (.aload_n 0, 1) := dk_42 (dk_at dksX2_init_2_0 15 rfl rfl)
theorem dX2_init_2_16 : decode cX2_init_2 16 = .ok (.new 9, 3) := dk_187 0 9 (dk_at dksX2_init_2_0 16 rfl rfl)
theorem dX2_init_2_19 : decode cX2_init_2 19 = .ok (.dup, 1) := dk_89 (dk_at dksX2_init_2_0 19 rfl rfl)
theorem dX2_init_2_20 : decode cX2_init_2 20 = .ok (.invokespecial 11, 3) := dk_183 0 11 (dk_at dksX2_init_2_0 20 rfl rfl)
theorem dX2_init_2_23 : decode cX2_init_2 23 = .ok (.putfield 18, 3) := dk_181 0 18 (dk_at dksX2_init_2_1 0 rfl rfl)
theorem dX2_init_2_26 : decode cX2_init_2 26 = .ok (.iconst 0, 1) := dk_3 (dk_at dksX2_init_2_1 3 rfl rfl)
theorem dX2_init_2_27 : decode cX2_init_2 27 = .ok (.istore_n 2, 1) := dk_61 (dk_at dksX2_init_2_1 4 rfl rfl)
theorem dX2_init_2_28 : decode cX2_init_2 28 = .ok (.iload_n 2, 1) := dk_28 (dk_at dksX2_init_2_1 5 rfl rfl)
theorem dX2_init_2_29 : decode cX2_init_2 29 = .ok (.aload_n 1, 1) := dk_43 (dk_at dksX2_init_2_1 6 rfl rfl)
theorem dX2_init_2_30 : decode cX2_init_2 30 = .ok (.getfield 12, 3) := dk_180 0 12 (dk_at dksX2_init_2_1 7 rfl rfl)
theorem dX2_init_2_33 : decode cX2_init_2 33 = .ok (.invokeinterface 21 1, 5) := by decide +kernel
theorem dX2_init_2_38 : decode cX2_init_2 38 = .ok (.if_icmp .ge 32, 3) := dk_162 0 32 (dk_at dksX2_init_2_1 15 rfl rfl)
theorem dX2_init_2_41 : decode cX2_init_2 41 = .ok (.aload_n 0, 1) := dk_42 (dk_at dksX2_init_2_1 18 rfl rfl)
theorem dX2_init_2_42 : decode cX2_init_2 42 = .ok (.getfield 12, 3) := dk_180 0 12 (dk_at dksX2_init_2_1 19 rfl rfl)
theorem dX2_init_2_45 : decode cX2_init_2 45 = .ok (.aload_n 1, 1) := dk_43 (dk_at dksX2_init_2_1 22 rfl rfl)
theorem dX2_init_2_46 : decode cX2_init_2 46 = .ok (.getfield 12, 3) := dk_180 0 12 (dk_at dksX2_init_2_2 0 rfl rfl)
theorem dX2_init_2_49 : decode cX2_init_2 49 = .ok (.iload_n 2, 1) := dk_28 (dk_at dksX2_init_2_2 3 rfl rfl)
theorem dX2_init_2_50 : decode cX2_init_2 50 = .ok (.invokeinterface 27 2, 5) := by decide +kernel
theorem dX2_init_2_55 : decode cX2_init_2 55 = .ok (.checkcast 31, 3) := dk_192 0 31 (dk_at dksX2_init_2_2 9 rfl rfl)
theorem dX2_init_2_58 : decode cX2_init_2 58 = .ok (.invokeinterface 33 2, 5) := by decide +kernel
theorem dX2_init_2_63 : decode cX2_init_2 63 = .ok (.pop, 1) := dk_87 (dk_at dksX2_init_2_2 17 rfl rfl)
theorem dX2_init_2_64 : decode cX2_init_2 64 = .ok (.iinc 2 1, 3) := dk_132 2 1 (dk_at dksX2_init_2_2 18 rfl rfl)
theorem dX2_init_2_67 : decode cX2_init_2 67 = .ok (.goto (-39), 3) := dk_167 255 217 (dk_at dksX2_init_2_2 21 rfl rfl)
theorem dX2_init_2_70 : decode cX2_init_2 70 = .ok (.iconst 0, 1) := dk_3 (dk_at dksX2_init_2_3 0 rfl rfl)
theorem dX2_init_2_71 : decode cX2_init_2 71 = .ok (.istore_n 2, 1) := dk_61 (dk_at dksX2_init_2_3 1 rfl rfl)
theorem dX2_init_2_72 : decode cX2_init_2 72 = .ok (.iload_n 2, 1) := dk_28 (dk_at dksX2_init_2_3 2 rfl rfl)
theorem dX2_init_2_73 : decode cX2_init_2 73 = .ok (.aload_n 1, 1) := dk_43 (dk_at dksX2_init_2_3 3 rfl rfl)
theorem dX2_init_2_74 : decode cX2_init_2 74 = .ok (.getfield 18, 3) := dk_180 0 18 (dk_at dksX2_init_2_3 4 rfl rfl)
theorem dX2_init_2_77 : decode cX2_init_2 77 = .ok (.invokeinterface 21 1, 5) := by decide +kernel
theorem dX2_init_2_82 : decode cX2_init_2 82 = .ok (.if_icmp .ge 39, 3) := dk_162 0 39 (dk_at dksX2_init_2_3 12 rfl rfl)
theorem dX2_init_2_85 : decode cX2_init_2 85 = .ok (.aload_n 0, 1) := dk_42 (dk_at dksX2_init_2_3 15 rfl rfl)
theorem dX2_init_2_86 : decode cX2_init_2 86 = .ok (.getfield 18, 3) := dk_180 0 18 (dk_at dksX2_init_2_3 16 rfl rfl)
theorem dX2_init_2_89 : decode cX2_init_2 89 = .ok (.new 37, 3) := dk_187 0 37 (dk_at dksX2_init_2_3 19 rfl rfl)
theorem dX2_init_2_92 : decode cX2_init_2 92 = .ok (.dup, 1) := dk_89 (dk_at dksX2_init_2_3 22 rfl rfl)
theorem dX2_init_2_93 : decode cX2_init_2 93 = .ok (.aload_n 1, 1) := dk_43 (dk_at dksX2_init_2_3 23 rfl rfl)
theorem dX2_init_2_94 : decode cX2_init_2 94 = .ok (.getfield 18, 3) := dk_180 0 18 (dk_at dksX2_init_2_4 0 rfl rfl)
theorem dX2_init_2_97 : decode cX2_init_2 97 = .ok (.iload_n 2, 1) := dk_28 (dk_at dksX2_init_2_4 3 rfl rfl)
theorem dX2_init_2_98 : decode cX2_init_2 98 = .ok (.invokeinterface 27 2, 5) := by decide +kernel
theorem dX2_init_2_103 : decode cX2_init_2 103 = .ok (.checkcast 37, 3) := dk_192 0 37 (dk_at dksX2_init_2_4 9 rfl rfl)
theorem dX2_init_2_106 : decode cX2_init_2 106 = .ok (.invokespecial 39, 3) := dk_183 0 39 (dk_at dksX2_init_2_4 12 rfl rfl)
theorem dX2_init_2_109 : decode cX2_init_2 109 = .ok (.invokeinterface 33 2, 5) := by decide +kernel
theorem dX2_init_2_114 : decode cX2_init_2 114 = .ok (.pop, 1) := dk_87 (dk_at dksX2_init_2_4 20 rfl rfl)
theorem dX2_init_2_115 : decode cX2_init_2 115 = .ok (.iinc 2 1, 3) := dk_132 2 1 (dk_at dksX2_init_2_4 21 rfl rfl)
theorem dX2_init_2_118 : decode cX2_init_2 118 = .ok (.goto (-46), 3) := dk_167 255 210 (dk_at dksX2_init_2_5 0 rfl rfl)
theorem dX2_init_2_121 : decode cX2_init_2 121 = .ok (.aload_n 0, 1) := dk_42 (dk_at dksX2_init_2_5 3 rfl rfl)
theorem dX2_init_2_122 : decode cX2_init_2 122 = .ok (.aload_n 1, 1) := dk_43 (dk_at dksX2_init_2_5 4 rfl rfl)
theorem dX2_init_2_123 : decode cX2_init_2 123 = .ok (.getfield 42, 3) := dk_180 0 42 (dk_at dksX2_init_2_5 5 rfl rfl)
theorem dX2_init_2_126 : decode cX2_init_2 126 = .ok (.putfield 42, 3) := dk_181 0 42 (dk_at dksX2_init_2_5 8 rfl rfl)
theorem dX2_init_2_129 : decode cX2_init_2 129 = .ok (.return_, 1) := dk_177 (dk_at dksX2_init_2_5 11 rfl rfl)
abbrev cX2_byTesting : ByteArray := prog_11_method_12_code
def yX2_byTesting : MethodName := ⟨RX2, "byTesting", "(II)I"⟩
def dkwX2_byTesting_1 : List UInt8 := [153, 0, 13, 29, 154, 0, 6, 21, 4, 172, 132, 3, 255, 132, 4, 1, 167, 255, 222, 2, 172]
abbrev dktX2_byTesting_1 : List UInt8 := dkwX2_byTesting_1 ++ []
def dkwX2_byTesting_0 : List UInt8 := [28, 62, 3, 54, 4, 21, 4, 17, 3, 231, 163, 0, 32, 42, 27, 182, 0, 64, 21, 4, 182, 0, 72]
abbrev dktX2_byTesting_0 : List UInt8 := dkwX2_byTesting_0 ++ dktX2_byTesting_1
theorem dksX2_byTesting_0 : cX2_byTesting.data.toList.drop 0 = dktX2_byTesting_0 := by decide +kernel
theorem dksX2_byTesting_1 : cX2_byTesting.data.toList.drop 23 = dktX2_byTesting_1 := dk_seg dksX2_byTesting_0 23 rfl rfl
theorem dX2_byTesting_0 : decode cX2_byTesting 0 = .ok (.iload_n 2, 1) := dk_28 (dk_at dksX2_byTesting_0 0 rfl rfl)
theorem dX2_byTesting_1 : decode cX2_byTesting 1 = .ok (.istore_n 3, 1) := dk_62 (dk_at dksX2_byTesting_0 1 rfl rfl)
theorem dX2_byTesting_2 : decode cX2_byTesting 2 = .ok (.iconst 0, 1) := dk_3 (dk_at dksX2_byTesting_0 2 rfl rfl)
theorem dX2_byTesting_3 : decode cX2_byTesting 3 = .ok (.istore 4, 2) := dk_54 4 (dk_at dksX2_byTesting_0 3 rfl rfl)
theorem dX2_byTesting_5 : decode cX2_byTesting 5 = .ok (.iload 4, 2) := dk_21 4 (dk_at dksX2_byTesting_0 5 rfl rfl)
theorem dX2_byTesting_7 : decode cX2_byTesting 7 = .ok (.sipush 999, 3) := dk_17 3 231 (dk_at dksX2_byTesting_0 7 rfl rfl)
theorem dX2_byTesting_10 : decode cX2_byTesting 10 = .ok (.if_icmp .gt 32, 3) := dk_163 0 32 (dk_at dksX2_byTesting_0 10 rfl rfl)
theorem dX2_byTesting_13 : decode cX2_byTesting 13 = .ok (.aload_n 0, 1) := dk_42 (dk_at dksX2_byTesting_0 13 rfl rfl)
theorem dX2_byTesting_14 : decode cX2_byTesting 14 = .ok (.iload_n 1, 1) := dk_27 (dk_at dksX2_byTesting_0 14 rfl rfl)
theorem dX2_byTesting_15 : decode cX2_byTesting 15 = .ok (.invokevirtual 64, 3) := dk_182 0 64 (dk_at dksX2_byTesting_0 15 rfl rfl)
theorem dX2_byTesting_18 : decode cX2_byTesting 18 = .ok (.iload 4, 2) := dk_21 4 (dk_at dksX2_byTesting_0 18 rfl rfl)
theorem dX2_byTesting_20 : decode cX2_byTesting 20 = .ok (.invokevirtual 72, 3) := dk_182 0 72 (dk_at dksX2_byTesting_0 20 rfl rfl)
theorem dX2_byTesting_23 : decode cX2_byTesting 23 = .ok (.ifCond .eq 13, 3) := dk_153 0 13 (dk_at dksX2_byTesting_1 0 rfl rfl)
theorem dX2_byTesting_26 : decode cX2_byTesting 26 = .ok (.iload_n 3, 1) := dk_29 (dk_at dksX2_byTesting_1 3 rfl rfl)
theorem dX2_byTesting_27 : decode cX2_byTesting 27 = .ok (.ifCond .ne 6, 3) := dk_154 0 6 (dk_at dksX2_byTesting_1 4 rfl rfl)
theorem dX2_byTesting_30 : decode cX2_byTesting 30 = .ok (.iload 4, 2) := dk_21 4 (dk_at dksX2_byTesting_1 7 rfl rfl)
theorem dX2_byTesting_32 : decode cX2_byTesting 32 = .ok (.ireturn, 1) := dk_172 (dk_at dksX2_byTesting_1 9 rfl rfl)
theorem dX2_byTesting_33 : decode cX2_byTesting 33 = .ok (.iinc 3 (-1), 3) := dk_132 3 255 (dk_at dksX2_byTesting_1 10 rfl rfl)
theorem dX2_byTesting_36 : decode cX2_byTesting 36 = .ok (.iinc 4 1, 3) := dk_132 4 1 (dk_at dksX2_byTesting_1 13 rfl rfl)
theorem dX2_byTesting_39 : decode cX2_byTesting 39 = .ok (.goto (-34), 3) := dk_167 255 222 (dk_at dksX2_byTesting_1 16 rfl rfl)
theorem dX2_byTesting_42 : decode cX2_byTesting 42 = .ok (.iconst (-1), 1) := dk_2 (dk_at dksX2_byTesting_1 19 rfl rfl)
theorem dX2_byTesting_43 : decode cX2_byTesting 43 = .ok (.ireturn, 1) := dk_172 (dk_at dksX2_byTesting_1 20 rfl rfl)
abbrev cX2_upTo : ByteArray := prog_11_method_13_code
def yX2_upTo : MethodName := ⟨RX2, "upTo", "(II)I"⟩
def dkwX2_upTo_0 : List UInt8 := [3, 62, 42, 27, 182, 0, 64, 29, 182, 0, 68, 28, 163, 0, 9, 132, 3, 1, 167, 255, 240, 29, 172]
abbrev dktX2_upTo_0 : List UInt8 := dkwX2_upTo_0 ++ []
theorem dksX2_upTo_0 : cX2_upTo.data.toList.drop 0 = dktX2_upTo_0 := by decide +kernel
theorem dX2_upTo_0 : decode cX2_upTo 0 = .ok (.iconst 0, 1) := dk_3 (dk_at dksX2_upTo_0 0 rfl rfl)
theorem dX2_upTo_1 : decode cX2_upTo 1 = .ok (.istore_n 3, 1) := dk_62 (dk_at dksX2_upTo_0 1 rfl rfl)
theorem dX2_upTo_2 : decode cX2_upTo 2 = .ok (.aload_n 0, 1) := dk_42 (dk_at dksX2_upTo_0 2 rfl rfl)
theorem dX2_upTo_3 : decode cX2_upTo 3 = .ok (.iload_n 1, 1) := dk_27 (dk_at dksX2_upTo_0 3 rfl rfl)
theorem dX2_upTo_4 : decode cX2_upTo 4 = .ok (.invokevirtual 64, 3) := dk_182 0 64 (dk_at dksX2_upTo_0 4 rfl rfl)
theorem dX2_upTo_7 : decode cX2_upTo 7 = .ok (.iload_n 3, 1) := dk_29 (dk_at dksX2_upTo_0 7 rfl rfl)
theorem dX2_upTo_8 : decode cX2_upTo 8 = .ok (.invokevirtual 68, 3) := dk_182 0 68 (dk_at dksX2_upTo_0 8 rfl rfl)
theorem dX2_upTo_11 : decode cX2_upTo 11 = .ok (.iload_n 2, 1) := dk_28 (dk_at dksX2_upTo_0 11 rfl rfl)
theorem dX2_upTo_12 : decode cX2_upTo 12 = .ok (.if_icmp .gt 9, 3) := dk_163 0 9 (dk_at dksX2_upTo_0 12 rfl rfl)
theorem dX2_upTo_15 : decode cX2_upTo 15 = .ok (.iinc 3 1, 3) := dk_132 3 1 (dk_at dksX2_upTo_0 15 rfl rfl)
theorem dX2_upTo_18 : decode cX2_upTo 18 = .ok (.goto (-16), 3) := dk_167 255 240 (dk_at dksX2_upTo_0 18 rfl rfl)
theorem dX2_upTo_21 : decode cX2_upTo 21 = .ok (.iload_n 3, 1) := dk_29 (dk_at dksX2_upTo_0 21 rfl rfl)
theorem dX2_upTo_22 : decode cX2_upTo 22 = .ok (.ireturn, 1) := dk_172 (dk_at dksX2_upTo_0 22 rfl rfl)
abbrev cX2_last : ByteArray := prog_11_method_14_code
def yX2_last : MethodName := ⟨RX2, "last", "(I)I"⟩
def dkwX2_last_1 : List UInt8 := [185, 0, 85, 1, 0, 192, 0, 89, 182, 0, 91, 54, 4, 21, 4, 61, 167, 255, 230, 28, 172]
abbrev dktX2_last_1 : List UInt8 := dkwX2_last_1 ++ []
def dkwX2_last_0 : List UInt8 := [2, 61, 42, 27, 182, 0, 64, 182, 0, 76, 78, 45, 185, 0, 80, 1, 0, 153, 0, 23, 45]
abbrev dktX2_last_0 : List UInt8 := dkwX2_last_0 ++ dktX2_last_1
theorem dksX2_last_0 : cX2_last.data.toList.drop 0 = dktX2_last_0 := by decide +kernel
theorem dksX2_last_1 : cX2_last.data.toList.drop 21 = dktX2_last_1 := dk_seg dksX2_last_0 21 rfl rfl
theorem dX2_last_0 : decode cX2_last 0 = .ok (.iconst (-1), 1) := dk_2 (dk_at dksX2_last_0 0 rfl rfl)
theorem dX2_last_1 : decode cX2_last 1 = .ok (.istore_n 2, 1) := dk_61 (dk_at dksX2_last_0 1 rfl rfl)
theorem dX2_last_2 : decode cX2_last 2 = .ok (.aload_n 0, 1) := dk_42 (dk_at dksX2_last_0 2 rfl rfl)
theorem dX2_last_3 : decode cX2_last 3 = .ok (.iload_n 1, 1) := dk_27 (dk_at dksX2_last_0 3 rfl rfl)
theorem dX2_last_4 : decode cX2_last 4 = .ok (.invokevirtual 64, 3) := dk_182 0 64 (dk_at dksX2_last_0 4 rfl rfl)
theorem dX2_last_7 : decode cX2_last 7 = .ok (.invokevirtual 76, 3) := dk_182 0 76 (dk_at dksX2_last_0 7 rfl rfl)
theorem dX2_last_10 : decode cX2_last 10 = .ok (.astore_n 3, 1) := dk_78 (dk_at dksX2_last_0 10 rfl rfl)
theorem dX2_last_11 : decode cX2_last 11 = .ok (.aload_n 3, 1) := dk_45 (dk_at dksX2_last_0 11 rfl rfl)
theorem dX2_last_12 : decode cX2_last 12 = .ok (.invokeinterface 80 1, 5) := by decide +kernel
theorem dX2_last_17 : decode cX2_last 17 = .ok (.ifCond .eq 23, 3) := dk_153 0 23 (dk_at dksX2_last_0 17 rfl rfl)
theorem dX2_last_20 : decode cX2_last 20 = .ok (.aload_n 3, 1) := dk_45 (dk_at dksX2_last_0 20 rfl rfl)
theorem dX2_last_21 : decode cX2_last 21 = .ok (.invokeinterface 85 1, 5) := by decide +kernel
theorem dX2_last_26 : decode cX2_last 26 = .ok (.checkcast 89, 3) := dk_192 0 89 (dk_at dksX2_last_1 5 rfl rfl)
theorem dX2_last_29 : decode cX2_last 29 = .ok (.invokevirtual 91, 3) := dk_182 0 91 (dk_at dksX2_last_1 8 rfl rfl)
theorem dX2_last_32 : decode cX2_last 32 = .ok (.istore 4, 2) := dk_54 4 (dk_at dksX2_last_1 11 rfl rfl)
theorem dX2_last_34 : decode cX2_last 34 = .ok (.iload 4, 2) := dk_21 4 (dk_at dksX2_last_1 13 rfl rfl)
theorem dX2_last_36 : decode cX2_last 36 = .ok (.istore_n 2, 1) := dk_61 (dk_at dksX2_last_1 15 rfl rfl)
theorem dX2_last_37 : decode cX2_last 37 = .ok (.goto (-26), 3) := dk_167 255 230 (dk_at dksX2_last_1 16 rfl rfl)
theorem dX2_last_40 : decode cX2_last 40 = .ok (.iload_n 2, 1) := dk_28 (dk_at dksX2_last_1 19 rfl rfl)
theorem dX2_last_41 : decode cX2_last 41 = .ok (.ireturn, 1) := dk_172 (dk_at dksX2_last_1 20 rfl rfl)
abbrev cX2_firstShared : ByteArray := prog_11_method_15_code
def yX2_firstShared : MethodName := ⟨RX2, "firstShared", "(II)I"⟩
def dkwX2_firstShared_1 : List UInt8 := [182, 0, 64, 29, 182, 0, 72, 153, 0, 5, 29, 172, 132, 3, 1, 167, 255, 220, 2, 172]
abbrev dktX2_firstShared_1 : List UInt8 := dkwX2_firstShared_1 ++ []
def dkwX2_firstShared_0 : List UInt8 := [3, 62, 29, 17, 3, 231, 163, 0, 35, 42, 27, 182, 0, 64, 29, 182, 0, 72, 153, 0, 17, 42, 28]
abbrev dktX2_firstShared_0 : List UInt8 := dkwX2_firstShared_0 ++ dktX2_firstShared_1
theorem dksX2_firstShared_0 : cX2_firstShared.data.toList.drop 0 = dktX2_firstShared_0 := by decide +kernel
theorem dksX2_firstShared_1 : cX2_firstShared.data.toList.drop 23 = dktX2_firstShared_1 := dk_seg dksX2_firstShared_0 23 rfl rfl
theorem dX2_firstShared_0 : decode cX2_firstShared 0 = .ok (.iconst 0, 1) := dk_3 (dk_at dksX2_firstShared_0 0 rfl rfl)
theorem dX2_firstShared_1 : decode cX2_firstShared 1 = .ok (.istore_n 3, 1) := dk_62 (dk_at dksX2_firstShared_0 1 rfl rfl)
theorem dX2_firstShared_2 : decode cX2_firstShared 2 = .ok (.iload_n 3, 1) := dk_29 (dk_at dksX2_firstShared_0 2 rfl rfl)
theorem dX2_firstShared_3 : decode cX2_firstShared 3 = .ok (.sipush 999, 3) := dk_17 3 231 (dk_at dksX2_firstShared_0 3 rfl rfl)
theorem dX2_firstShared_6 : decode cX2_firstShared 6 = .ok (.if_icmp .gt 35, 3) := dk_163 0 35 (dk_at dksX2_firstShared_0 6 rfl rfl)
theorem dX2_firstShared_9 : decode cX2_firstShared 9 = .ok (.aload_n 0, 1) := dk_42 (dk_at dksX2_firstShared_0 9 rfl rfl)
theorem dX2_firstShared_10 : decode cX2_firstShared 10 = .ok (.iload_n 1, 1) := dk_27 (dk_at dksX2_firstShared_0 10 rfl rfl)
theorem dX2_firstShared_11 : decode cX2_firstShared 11 = .ok (.invokevirtual 64, 3) := dk_182 0 64 (dk_at dksX2_firstShared_0 11 rfl rfl)
theorem dX2_firstShared_14 : decode cX2_firstShared 14 = .ok (.iload_n 3, 1) := dk_29 (dk_at dksX2_firstShared_0 14 rfl rfl)
theorem dX2_firstShared_15 : decode cX2_firstShared 15 = .ok (.invokevirtual 72, 3) := dk_182 0 72 (dk_at dksX2_firstShared_0 15 rfl rfl)
theorem dX2_firstShared_18 : decode cX2_firstShared 18 = .ok (.ifCond .eq 17, 3) := dk_153 0 17 (dk_at dksX2_firstShared_0 18 rfl rfl)
theorem dX2_firstShared_21 : decode cX2_firstShared 21 = .ok (.aload_n 0, 1) := dk_42 (dk_at dksX2_firstShared_0 21 rfl rfl)
theorem dX2_firstShared_22 : decode cX2_firstShared 22 = .ok (.iload_n 2, 1) := dk_28 (dk_at dksX2_firstShared_0 22 rfl rfl)
theorem dX2_firstShared_23 : decode cX2_firstShared 23 = .ok (.invokevirtual 64, 3) := dk_182 0 64 (dk_at dksX2_firstShared_1 0 rfl rfl)
theorem dX2_firstShared_26 : decode cX2_firstShared 26 = .ok (.iload_n 3, 1) := dk_29 (dk_at dksX2_firstShared_1 3 rfl rfl)
theorem dX2_firstShared_27 : decode cX2_firstShared 27 = .ok (.invokevirtual 72, 3) := dk_182 0 72 (dk_at dksX2_firstShared_1 4 rfl rfl)
theorem dX2_firstShared_30 : decode cX2_firstShared 30 = .ok (.ifCond .eq 5, 3) := dk_153 0 5 (dk_at dksX2_firstShared_1 7 rfl rfl)
theorem dX2_firstShared_33 : decode cX2_firstShared 33 = .ok (.iload_n 3, 1) := dk_29 (dk_at dksX2_firstShared_1 10 rfl rfl)
theorem dX2_firstShared_34 : decode cX2_firstShared 34 = .ok (.ireturn, 1) := dk_172 (dk_at dksX2_firstShared_1 11 rfl rfl)
theorem dX2_firstShared_35 : decode cX2_firstShared 35 = .ok (.iinc 3 1, 3) := dk_132 3 1 (dk_at dksX2_firstShared_1 12 rfl rfl)
theorem dX2_firstShared_38 : decode cX2_firstShared 38 = .ok (.goto (-36), 3) := dk_167 255 220 (dk_at dksX2_firstShared_1 15 rfl rfl)
theorem dX2_firstShared_41 : decode cX2_firstShared 41 = .ok (.iconst (-1), 1) := dk_2 (dk_at dksX2_firstShared_1 18 rfl rfl)
theorem dX2_firstShared_42 : decode cX2_firstShared 42 = .ok (.ireturn, 1) := dk_172 (dk_at dksX2_firstShared_1 19 rfl rfl)
abbrev cX2_widestGap : ByteArray := prog_11_method_16_code
def yX2_widestGap : MethodName := ⟨RX2, "widestGap", "(I)I"⟩
def dkwX2_widestGap_2 : List UInt8 := [28, 21, 5, 29, 100, 184, 0, 94, 61, 21, 5, 62, 167, 255, 210, 28, 172]
abbrev dktX2_widestGap_2 : List UInt8 := dkwX2_widestGap_2 ++ []
def dkwX2_widestGap_1 : List UInt8 := [25, 4, 185, 0, 85, 1, 0, 192, 0, 89, 182, 0, 91, 54, 5, 29, 2, 160, 0, 7, 3, 167, 0, 11]
abbrev dktX2_widestGap_1 : List UInt8 := dkwX2_widestGap_1 ++ dktX2_widestGap_2
def dkwX2_widestGap_0 : List UInt8 := [3, 61, 2, 62, 42, 27, 182, 0, 64, 182, 0, 76, 58, 4, 25, 4, 185, 0, 80, 1, 0, 153, 0, 42]
abbrev dktX2_widestGap_0 : List UInt8 := dkwX2_widestGap_0 ++ dktX2_widestGap_1
theorem dksX2_widestGap_0 : cX2_widestGap.data.toList.drop 0 = dktX2_widestGap_0 := by decide +kernel
theorem dksX2_widestGap_1 : cX2_widestGap.data.toList.drop 24 = dktX2_widestGap_1 := dk_seg dksX2_widestGap_0 24 rfl rfl
theorem dksX2_widestGap_2 : cX2_widestGap.data.toList.drop 48 = dktX2_widestGap_2 := dk_seg dksX2_widestGap_1 24 rfl rfl
theorem dX2_widestGap_0 : decode cX2_widestGap 0 = .ok (.iconst 0, 1) := dk_3 (dk_at dksX2_widestGap_0 0 rfl rfl)
theorem dX2_widestGap_1 : decode cX2_widestGap 1 = .ok (.istore_n 2, 1) := dk_61 (dk_at dksX2_widestGap_0 1 rfl rfl)
theorem dX2_widestGap_2 : decode cX2_widestGap 2 = .ok (.iconst (-1), 1) := dk_2 (dk_at dksX2_widestGap_0 2 rfl rfl)
theorem dX2_widestGap_3 : decode cX2_widestGap 3 = .ok (.istore_n 3, 1) := dk_62 (dk_at dksX2_widestGap_0 3 rfl rfl)
theorem dX2_widestGap_4 : decode cX2_widestGap 4 = .ok (.aload_n 0, 1) := dk_42 (dk_at dksX2_widestGap_0 4 rfl rfl)
theorem dX2_widestGap_5 : decode cX2_widestGap 5 = .ok (.iload_n 1, 1) := dk_27 (dk_at dksX2_widestGap_0 5 rfl rfl)
theorem dX2_widestGap_6 : decode cX2_widestGap 6 = .ok (.invokevirtual 64, 3) := dk_182 0 64 (dk_at dksX2_widestGap_0 6 rfl rfl)
theorem dX2_widestGap_9 : decode cX2_widestGap 9 = .ok (.invokevirtual 76, 3) := dk_182 0 76 (dk_at dksX2_widestGap_0 9 rfl rfl)
theorem dX2_widestGap_12 : decode cX2_widestGap 12 = .ok (.astore 4, 2) := dk_58 4 (dk_at dksX2_widestGap_0 12 rfl rfl)
theorem dX2_widestGap_14 : decode cX2_widestGap 14 = .ok (.aload 4, 2) := dk_25 4 (dk_at dksX2_widestGap_0 14 rfl rfl)
theorem dX2_widestGap_16 : decode cX2_widestGap 16 = .ok (.invokeinterface 80 1, 5) := by decide +kernel
theorem dX2_widestGap_21 : decode cX2_widestGap 21 = .ok (.ifCond .eq 42, 3) := dk_153 0 42 (dk_at dksX2_widestGap_0 21 rfl rfl)
theorem dX2_widestGap_24 : decode cX2_widestGap 24 = .ok (.aload 4, 2) := dk_25 4 (dk_at dksX2_widestGap_1 0 rfl rfl)
theorem dX2_widestGap_26 : decode cX2_widestGap 26 = .ok (.invokeinterface 85 1, 5) := by decide +kernel
theorem dX2_widestGap_31 : decode cX2_widestGap 31 = .ok (.checkcast 89, 3) := dk_192 0 89 (dk_at dksX2_widestGap_1 7 rfl rfl)
theorem dX2_widestGap_34 : decode cX2_widestGap 34 = .ok (.invokevirtual 91, 3) := dk_182 0 91 (dk_at dksX2_widestGap_1 10 rfl rfl)
theorem dX2_widestGap_37 : decode cX2_widestGap 37 = .ok (.istore 5, 2) := dk_54 5 (dk_at dksX2_widestGap_1 13 rfl rfl)
theorem dX2_widestGap_39 : decode cX2_widestGap 39 = .ok (.iload_n 3, 1) := dk_29 (dk_at dksX2_widestGap_1 15 rfl rfl)
theorem dX2_widestGap_40 : decode cX2_widestGap 40 = .ok (.iconst (-1), 1) := dk_2 (dk_at dksX2_widestGap_1 16 rfl rfl)
theorem dX2_widestGap_41 : decode cX2_widestGap 41 = .ok (.if_icmp .ne 7, 3) := dk_160 0 7 (dk_at dksX2_widestGap_1 17 rfl rfl)
theorem dX2_widestGap_44 : decode cX2_widestGap 44 = .ok (.iconst 0, 1) := dk_3 (dk_at dksX2_widestGap_1 20 rfl rfl)
theorem dX2_widestGap_45 : decode cX2_widestGap 45 = .ok (.goto 11, 3) := dk_167 0 11 (dk_at dksX2_widestGap_1 21 rfl rfl)
theorem dX2_widestGap_48 : decode cX2_widestGap 48 = .ok (.iload_n 2, 1) := dk_28 (dk_at dksX2_widestGap_2 0 rfl rfl)
theorem dX2_widestGap_49 : decode cX2_widestGap 49 = .ok (.iload 5, 2) := dk_21 5 (dk_at dksX2_widestGap_2 1 rfl rfl)
theorem dX2_widestGap_51 : decode cX2_widestGap 51 = .ok (.iload_n 3, 1) := dk_29 (dk_at dksX2_widestGap_2 3 rfl rfl)
theorem dX2_widestGap_52 : decode cX2_widestGap 52 = .ok (.isub, 1) := dk_100 (dk_at dksX2_widestGap_2 4 rfl rfl)
theorem dX2_widestGap_53 : decode cX2_widestGap 53 = .ok (.invokestatic 94, 3) := dk_184 0 94 (dk_at dksX2_widestGap_2 5 rfl rfl)
theorem dX2_widestGap_56 : decode cX2_widestGap 56 = .ok (.istore_n 2, 1) := dk_61 (dk_at dksX2_widestGap_2 8 rfl rfl)
theorem dX2_widestGap_57 : decode cX2_widestGap 57 = .ok (.iload 5, 2) := dk_21 5 (dk_at dksX2_widestGap_2 9 rfl rfl)
theorem dX2_widestGap_59 : decode cX2_widestGap 59 = .ok (.istore_n 3, 1) := dk_62 (dk_at dksX2_widestGap_2 11 rfl rfl)
theorem dX2_widestGap_60 : decode cX2_widestGap 60 = .ok (.goto (-46), 3) := dk_167 255 210 (dk_at dksX2_widestGap_2 12 rfl rfl)
theorem dX2_widestGap_63 : decode cX2_widestGap 63 = .ok (.iload_n 2, 1) := dk_28 (dk_at dksX2_widestGap_2 15 rfl rfl)
theorem dX2_widestGap_64 : decode cX2_widestGap 64 = .ok (.ireturn, 1) := dk_172 (dk_at dksX2_widestGap_2 16 rfl rfl)
abbrev cX2_ifJoined : ByteArray := prog_11_method_17_code
def yX2_ifJoined : MethodName := ⟨RX2, "ifJoined", "(II)I"⟩
def dkwX2_ifJoined_2 : List UInt8 := [132, 4, 1, 167, 255, 211, 29, 172]
abbrev dktX2_ifJoined_2 : List UInt8 := dkwX2_ifJoined_2 ++ []
def dkwX2_ifJoined_1 : List UInt8 := [154, 0, 16, 42, 28, 182, 0, 64, 21, 4, 182, 0, 72, 153, 0, 7, 4, 167, 0, 4, 3, 96, 62]
abbrev dktX2_ifJoined_1 : List UInt8 := dkwX2_ifJoined_1 ++ dktX2_ifJoined_2
def dkwX2_ifJoined_0 : List UInt8 := [3, 62, 3, 54, 4, 21, 4, 17, 3, 231, 163, 0, 43, 29, 42, 27, 182, 0, 64, 21, 4, 182, 0, 72]
abbrev dktX2_ifJoined_0 : List UInt8 := dkwX2_ifJoined_0 ++ dktX2_ifJoined_1
theorem dksX2_ifJoined_0 : cX2_ifJoined.data.toList.drop 0 = dktX2_ifJoined_0 := by decide +kernel
theorem dksX2_ifJoined_1 : cX2_ifJoined.data.toList.drop 24 = dktX2_ifJoined_1 := dk_seg dksX2_ifJoined_0 24 rfl rfl
theorem dksX2_ifJoined_2 : cX2_ifJoined.data.toList.drop 47 = dktX2_ifJoined_2 := dk_seg dksX2_ifJoined_1 23 rfl rfl
theorem dX2_ifJoined_0 : decode cX2_ifJoined 0 = .ok (.iconst 0, 1) := dk_3 (dk_at dksX2_ifJoined_0 0 rfl rfl)
theorem dX2_ifJoined_1 : decode cX2_ifJoined 1 = .ok (.istore_n 3, 1) := dk_62 (dk_at dksX2_ifJoined_0 1 rfl rfl)
theorem dX2_ifJoined_2 : decode cX2_ifJoined 2 = .ok (.iconst 0, 1) := dk_3 (dk_at dksX2_ifJoined_0 2 rfl rfl)
theorem dX2_ifJoined_3 : decode cX2_ifJoined 3 = .ok (.istore 4, 2) := dk_54 4 (dk_at dksX2_ifJoined_0 3 rfl rfl)
theorem dX2_ifJoined_5 : decode cX2_ifJoined 5 = .ok (.iload 4, 2) := dk_21 4 (dk_at dksX2_ifJoined_0 5 rfl rfl)
theorem dX2_ifJoined_7 : decode cX2_ifJoined 7 = .ok (.sipush 999, 3) := dk_17 3 231 (dk_at dksX2_ifJoined_0 7 rfl rfl)
theorem dX2_ifJoined_10 : decode cX2_ifJoined 10 = .ok (.if_icmp .gt 43, 3) := dk_163 0 43 (dk_at dksX2_ifJoined_0 10 rfl rfl)
theorem dX2_ifJoined_13 : decode cX2_ifJoined 13 = .ok (.iload_n 3, 1) := dk_29 (dk_at dksX2_ifJoined_0 13 rfl rfl)
theorem dX2_ifJoined_14 : decode cX2_ifJoined 14 = .ok (.aload_n 0, 1) := dk_42 (dk_at dksX2_ifJoined_0 14 rfl rfl)
theorem dX2_ifJoined_15 : decode cX2_ifJoined 15 = .ok (.iload_n 1, 1) := dk_27 (dk_at dksX2_ifJoined_0 15 rfl rfl)
theorem dX2_ifJoined_16 : decode cX2_ifJoined 16 = .ok (.invokevirtual 64, 3) := dk_182 0 64 (dk_at dksX2_ifJoined_0 16 rfl rfl)
theorem dX2_ifJoined_19 : decode cX2_ifJoined 19 = .ok (.iload 4, 2) := dk_21 4 (dk_at dksX2_ifJoined_0 19 rfl rfl)
theorem dX2_ifJoined_21 : decode cX2_ifJoined 21 = .ok (.invokevirtual 72, 3) := dk_182 0 72 (dk_at dksX2_ifJoined_0 21 rfl rfl)
theorem dX2_ifJoined_24 : decode cX2_ifJoined 24 = .ok (.ifCond .ne 16, 3) := dk_154 0 16 (dk_at dksX2_ifJoined_1 0 rfl rfl)
theorem dX2_ifJoined_27 : decode cX2_ifJoined 27 = .ok (.aload_n 0, 1) := dk_42 (dk_at dksX2_ifJoined_1 3 rfl rfl)
theorem dX2_ifJoined_28 : decode cX2_ifJoined 28 = .ok (.iload_n 2, 1) := dk_28 (dk_at dksX2_ifJoined_1 4 rfl rfl)
theorem dX2_ifJoined_29 : decode cX2_ifJoined 29 = .ok (.invokevirtual 64, 3) := dk_182 0 64 (dk_at dksX2_ifJoined_1 5 rfl rfl)
theorem dX2_ifJoined_32 : decode cX2_ifJoined 32 = .ok (.iload 4, 2) := dk_21 4 (dk_at dksX2_ifJoined_1 8 rfl rfl)
theorem dX2_ifJoined_34 : decode cX2_ifJoined 34 = .ok (.invokevirtual 72, 3) := dk_182 0 72 (dk_at dksX2_ifJoined_1 10 rfl rfl)
theorem dX2_ifJoined_37 : decode cX2_ifJoined 37 = .ok (.ifCond .eq 7, 3) := dk_153 0 7 (dk_at dksX2_ifJoined_1 13 rfl rfl)
theorem dX2_ifJoined_40 : decode cX2_ifJoined 40 = .ok (.iconst 1, 1) := dk_4 (dk_at dksX2_ifJoined_1 16 rfl rfl)
theorem dX2_ifJoined_41 : decode cX2_ifJoined 41 = .ok (.goto 4, 3) := dk_167 0 4 (dk_at dksX2_ifJoined_1 17 rfl rfl)
theorem dX2_ifJoined_44 : decode cX2_ifJoined 44 = .ok (.iconst 0, 1) := dk_3 (dk_at dksX2_ifJoined_1 20 rfl rfl)
theorem dX2_ifJoined_45 : decode cX2_ifJoined 45 = .ok (.iadd, 1) := dk_96 (dk_at dksX2_ifJoined_1 21 rfl rfl)
theorem dX2_ifJoined_46 : decode cX2_ifJoined 46 = .ok (.istore_n 3, 1) := dk_62 (dk_at dksX2_ifJoined_1 22 rfl rfl)
theorem dX2_ifJoined_47 : decode cX2_ifJoined 47 = .ok (.iinc 4 1, 3) := dk_132 4 1 (dk_at dksX2_ifJoined_2 0 rfl rfl)
theorem dX2_ifJoined_50 : decode cX2_ifJoined 50 = .ok (.goto (-45), 3) := dk_167 255 211 (dk_at dksX2_ifJoined_2 3 rfl rfl)
theorem dX2_ifJoined_53 : decode cX2_ifJoined 53 = .ok (.iload_n 3, 1) := dk_29 (dk_at dksX2_ifJoined_2 6 rfl rfl)
theorem dX2_ifJoined_54 : decode cX2_ifJoined 54 = .ok (.ireturn, 1) := dk_172 (dk_at dksX2_ifJoined_2 7 rfl rfl)
abbrev cX2_skipsTo : ByteArray := prog_11_method_26_code
def yX2_skipsTo : MethodName := ⟨RX2, "skipsTo", "(LRuleLists$Reader;I)I"⟩
def dkwX2_skipsTo_2 : List UInt8 := [17, 3, 231, 164, 0, 7, 2, 167, 0, 4, 29, 172]
abbrev dktX2_skipsTo_2 : List UInt8 := dkwX2_skipsTo_2 ++ []
def dkwX2_skipsTo_1 : List UInt8 := [132, 3, 1, 167, 255, 232, 42, 43, 180, 0, 58, 182, 0, 64, 43, 180, 0, 103, 29, 96, 182, 0, 68]
abbrev dktX2_skipsTo_1 : List UInt8 := dkwX2_skipsTo_1 ++ dktX2_skipsTo_2
def dkwX2_skipsTo_0 : List UInt8 := [3, 62, 42, 43, 180, 0, 58, 182, 0, 64, 43, 180, 0, 103, 29, 96, 182, 0, 68, 28, 162, 0, 9]
abbrev dktX2_skipsTo_0 : List UInt8 := dkwX2_skipsTo_0 ++ dktX2_skipsTo_1
theorem dksX2_skipsTo_0 : cX2_skipsTo.data.toList.drop 0 = dktX2_skipsTo_0 := by decide +kernel
theorem dksX2_skipsTo_1 : cX2_skipsTo.data.toList.drop 23 = dktX2_skipsTo_1 := dk_seg dksX2_skipsTo_0 23 rfl rfl
theorem dksX2_skipsTo_2 : cX2_skipsTo.data.toList.drop 46 = dktX2_skipsTo_2 := dk_seg dksX2_skipsTo_1 23 rfl rfl
theorem dX2_skipsTo_0 : decode cX2_skipsTo 0 = .ok (.iconst 0, 1) := dk_3 (dk_at dksX2_skipsTo_0 0 rfl rfl)
theorem dX2_skipsTo_1 : decode cX2_skipsTo 1 = .ok (.istore_n 3, 1) := dk_62 (dk_at dksX2_skipsTo_0 1 rfl rfl)
theorem dX2_skipsTo_2 : decode cX2_skipsTo 2 = .ok (.aload_n 0, 1) := dk_42 (dk_at dksX2_skipsTo_0 2 rfl rfl)
theorem dX2_skipsTo_3 : decode cX2_skipsTo 3 = .ok (.aload_n 1, 1) := dk_43 (dk_at dksX2_skipsTo_0 3 rfl rfl)
theorem dX2_skipsTo_4 : decode cX2_skipsTo 4 = .ok (.getfield 58, 3) := dk_180 0 58 (dk_at dksX2_skipsTo_0 4 rfl rfl)
theorem dX2_skipsTo_7 : decode cX2_skipsTo 7 = .ok (.invokevirtual 64, 3) := dk_182 0 64 (dk_at dksX2_skipsTo_0 7 rfl rfl)
theorem dX2_skipsTo_10 : decode cX2_skipsTo 10 = .ok (.aload_n 1, 1) := dk_43 (dk_at dksX2_skipsTo_0 10 rfl rfl)
theorem dX2_skipsTo_11 : decode cX2_skipsTo 11 = .ok (.getfield 103, 3) := dk_180 0 103 (dk_at dksX2_skipsTo_0 11 rfl rfl)
theorem dX2_skipsTo_14 : decode cX2_skipsTo 14 = .ok (.iload_n 3, 1) := dk_29 (dk_at dksX2_skipsTo_0 14 rfl rfl)
theorem dX2_skipsTo_15 : decode cX2_skipsTo 15 = .ok (.iadd, 1) := dk_96 (dk_at dksX2_skipsTo_0 15 rfl rfl)
theorem dX2_skipsTo_16 : decode cX2_skipsTo 16 = .ok (.invokevirtual 68, 3) := dk_182 0 68 (dk_at dksX2_skipsTo_0 16 rfl rfl)
theorem dX2_skipsTo_19 : decode cX2_skipsTo 19 = .ok (.iload_n 2, 1) := dk_28 (dk_at dksX2_skipsTo_0 19 rfl rfl)
theorem dX2_skipsTo_20 : decode cX2_skipsTo 20 = .ok (.if_icmp .ge 9, 3) := dk_162 0 9 (dk_at dksX2_skipsTo_0 20 rfl rfl)
theorem dX2_skipsTo_23 : decode cX2_skipsTo 23 = .ok (.iinc 3 1, 3) := dk_132 3 1 (dk_at dksX2_skipsTo_1 0 rfl rfl)
theorem dX2_skipsTo_26 : decode cX2_skipsTo 26 = .ok (.goto (-24), 3) := dk_167 255 232 (dk_at dksX2_skipsTo_1 3 rfl rfl)
theorem dX2_skipsTo_29 : decode cX2_skipsTo 29 = .ok (.aload_n 0, 1) := dk_42 (dk_at dksX2_skipsTo_1 6 rfl rfl)
theorem dX2_skipsTo_30 : decode cX2_skipsTo 30 = .ok (.aload_n 1, 1) := dk_43 (dk_at dksX2_skipsTo_1 7 rfl rfl)
theorem dX2_skipsTo_31 : decode cX2_skipsTo 31 = .ok (.getfield 58, 3) := dk_180 0 58 (dk_at dksX2_skipsTo_1 8 rfl rfl)
theorem dX2_skipsTo_34 : decode cX2_skipsTo 34 = .ok (.invokevirtual 64, 3) := dk_182 0 64 (dk_at dksX2_skipsTo_1 11 rfl rfl)
theorem dX2_skipsTo_37 : decode cX2_skipsTo 37 = .ok (.aload_n 1, 1) := dk_43 (dk_at dksX2_skipsTo_1 14 rfl rfl)
theorem dX2_skipsTo_38 : decode cX2_skipsTo 38 = .ok (.getfield 103, 3) := dk_180 0 103 (dk_at dksX2_skipsTo_1 15 rfl rfl)
theorem dX2_skipsTo_41 : decode cX2_skipsTo 41 = .ok (.iload_n 3, 1) := dk_29 (dk_at dksX2_skipsTo_1 18 rfl rfl)
theorem dX2_skipsTo_42 : decode cX2_skipsTo 42 = .ok (.iadd, 1) := dk_96 (dk_at dksX2_skipsTo_1 19 rfl rfl)
theorem dX2_skipsTo_43 : decode cX2_skipsTo 43 = .ok (.invokevirtual 68, 3) := dk_182 0 68 (dk_at dksX2_skipsTo_1 20 rfl rfl)
theorem dX2_skipsTo_46 : decode cX2_skipsTo 46 = .ok (.sipush 999, 3) := dk_17 3 231 (dk_at dksX2_skipsTo_2 0 rfl rfl)
theorem dX2_skipsTo_49 : decode cX2_skipsTo 49 = .ok (.if_icmp .le 7, 3) := dk_164 0 7 (dk_at dksX2_skipsTo_2 3 rfl rfl)
theorem dX2_skipsTo_52 : decode cX2_skipsTo 52 = .ok (.iconst (-1), 1) := dk_2 (dk_at dksX2_skipsTo_2 6 rfl rfl)
theorem dX2_skipsTo_53 : decode cX2_skipsTo 53 = .ok (.goto 4, 3) := dk_167 0 4 (dk_at dksX2_skipsTo_2 7 rfl rfl)
theorem dX2_skipsTo_56 : decode cX2_skipsTo 56 = .ok (.iload_n 3, 1) := dk_29 (dk_at dksX2_skipsTo_2 10 rfl rfl)
theorem dX2_skipsTo_57 : decode cX2_skipsTo 57 = .ok (.ireturn, 1) := dk_172 (dk_at dksX2_skipsTo_2 11 rfl rfl)
theorem q54 : (Jvm.Cond.initialized "RuleLists$Shelf") ∈ lw_all := lw_g (lw_at lw_m1 2 rfl) rfl
theorem q100 : (Jvm.Cond.instantiable "RuleLists$Shelf" (3 : Nat)) ∈ lw_all := lw_g (lw_at lw_m1 48 rfl) rfl
theorem q102 : (Jvm.Cond.instanceMethod ({ cls := "RuleLists$Shelf", name := "<init>", desc := "()V" } : Jvm.MethodName)) ∈ lw_all := lw_g (lw_at lw_m1 50 rfl) rfl
theorem q103 : (Jvm.Cond.code ({ cls := "RuleLists$Shelf", name := "<init>", desc := "()V" } : Jvm.MethodName) prog_11_method_1_code (1 : Nat) (Option.none : Option Jvm.ClassFile.FieldType)) ∈ lw_all := lw_g (lw_at lw_m1 51 rfl) rfl
theorem q104 : (Jvm.Cond.methodLink "RuleLists$Shelf" (3 : Nat) ({ cls := "java/lang/Object", name := "<init>", desc := "()V" } : Jvm.MethodName)) ∈ lw_all := lw_g (lw_at lw_m1 52 rfl) rfl
theorem q105 : (Jvm.Cond.classLink "RuleLists$Shelf" (9 : Nat) "java/util/ArrayList") ∈ lw_all := lw_g (lw_at lw_m1 53 rfl) rfl
theorem q107 : (Jvm.Cond.methodLink "RuleLists$Shelf" (11 : Nat) ({ cls := "java/util/ArrayList", name := "<init>", desc := "()V" } : Jvm.MethodName)) ∈ lw_all := lw_g (lw_at lw_m1 55 rfl) rfl
theorem q131 : (Jvm.Cond.fieldLink "RuleLists$Shelf" (12 : Nat) "RuleLists$Shelf" "rules" "Ljava/util/List;") ∈ lw_all := lw_g (lw_at lw_m1 79 rfl) rfl
theorem q133 : (Jvm.Cond.fieldLink "RuleLists$Shelf" (18 : Nat) "RuleLists$Shelf" "readers" "Ljava/util/List;") ∈ lw_all := lw_g (lw_at lw_m1 81 rfl) rfl
theorem q135 : (Jvm.Cond.fieldLink "RuleLists$Shelf" (42 : Nat) "RuleLists$Shelf" "readings" "I") ∈ lw_all := lw_g (lw_at lw_m1 83 rfl) rfl
theorem q137 : (Jvm.Cond.laysFinal "RuleLists$Shelf" "RuleLists$Shelf" "rules" "Ljava/util/List;") ∈ lw_all := lw_g (lw_at lw_m1 85 rfl) rfl
theorem q138 : (Jvm.Cond.soleField "RuleLists$Shelf" "rules") ∈ lw_all := lw_g (lw_at lw_m1 86 rfl) rfl
theorem q139 : (Jvm.Cond.laysFinal "RuleLists$Shelf" "RuleLists$Shelf" "readers" "Ljava/util/List;") ∈ lw_all := lw_g (lw_at lw_m1 87 rfl) rfl
theorem q140 : (Jvm.Cond.soleField "RuleLists$Shelf" "readers") ∈ lw_all := lw_g (lw_at lw_m1 88 rfl) rfl
theorem q141 : (Jvm.Cond.lays "RuleLists$Shelf" "RuleLists$Shelf" "readings" "I") ∈ lw_all := lw_g (lw_at lw_m1 89 rfl) rfl
theorem q142 : (Jvm.Cond.soleField "RuleLists$Shelf" "readings") ∈ lw_all := lw_g (lw_at lw_m1 90 rfl) rfl
theorem q143 : (Jvm.Cond.superclass "RuleLists$Shelf" "java/lang/Object") ∈ lw_all := lw_g (lw_at lw_m1 91 rfl) rfl
theorem q252 : (Jvm.Cond.instanceMethod ({ cls := "RuleLists$Shelf", name := "hasRoom", desc := "()Z" } : Jvm.MethodName)) ∈ lw_all := lw_g (lw_at lw_m1 200 rfl) rfl
theorem q253 : (Jvm.Cond.selects "RuleLists$Shelf" ({ cls := "RuleLists$Shelf", name := "hasRoom", desc := "()Z" } : Jvm.MethodName) ({ cls := "RuleLists$Shelf", name := "hasRoom", desc := "()Z" } : Jvm.MethodName)) ∈ lw_all := lw_g (lw_at lw_m1 201 rfl) rfl
theorem q254 : (Jvm.Cond.code ({ cls := "RuleLists$Shelf", name := "hasRoom", desc := "()Z" } : Jvm.MethodName) prog_11_method_7_code (1 : Nat) (Option.some Jvm.ClassFile.FieldType.boolean)) ∈ lw_all := lw_g (lw_at lw_m1 202 rfl) rfl
theorem q255 : (Jvm.Cond.interfaceEntry "RuleLists$Shelf" (21 : Nat)) ∈ lw_tbl := lw_at lw_m1 203 rfl
theorem q256 : (Jvm.Cond.methodLink "RuleLists$Shelf" (21 : Nat) ({ cls := "java/util/List", name := "size", desc := "()I" } : Jvm.MethodName)) ∈ lw_all := lw_g (lw_at lw_m1 204 rfl) rfl
theorem q299 : (Jvm.Cond.instanceMethod ({ cls := "RuleLists$Shelf", name := "make", desc := "(LRuleLists$Rule;)I" } : Jvm.MethodName)) ∈ lw_all := lw_g (lw_at lw_m2 7 rfl) rfl
theorem q300 : (Jvm.Cond.selects "RuleLists$Shelf" ({ cls := "RuleLists$Shelf", name := "make", desc := "(LRuleLists$Rule;)I" } : Jvm.MethodName) ({ cls := "RuleLists$Shelf", name := "make", desc := "(LRuleLists$Rule;)I" } : Jvm.MethodName)) ∈ lw_all := lw_g (lw_at lw_m2 8 rfl) rfl
theorem q301 : (Jvm.Cond.code ({ cls := "RuleLists$Shelf", name := "make", desc := "(LRuleLists$Rule;)I" } : Jvm.MethodName) prog_11_method_8_code (2 : Nat) (Option.some Jvm.ClassFile.FieldType.int)) ∈ lw_all := lw_g (lw_at lw_m2 9 rfl) rfl
theorem q302 : (Jvm.Cond.interfaceEntry "RuleLists$Shelf" (33 : Nat)) ∈ lw_tbl := lw_at lw_m2 10 rfl
theorem q303 : (Jvm.Cond.methodLink "RuleLists$Shelf" (33 : Nat) ({ cls := "java/util/List", name := "add", desc := "(Ljava/lang/Object;)Z" } : Jvm.MethodName)) ∈ lw_all := lw_g (lw_at lw_m2 11 rfl) rfl
theorem q347 : (Jvm.Cond.selects "RuleLists$Shelf" ({ cls := "java/lang/Object", name := "getClass", desc := "()Ljava/lang/Class;" } : Jvm.MethodName) ({ cls := "java/lang/Object", name := "getClass", desc := "()Ljava/lang/Class;" } : Jvm.MethodName)) ∈ lw_all := lw_g (lw_at lw_m2 55 rfl) rfl
theorem q383 : (Jvm.Cond.instanceMethod ({ cls := "RuleLists$Shelf", name := "isList", desc := "(I)Z" } : Jvm.MethodName)) ∈ lw_all := lw_g (lw_at lw_m2 91 rfl) rfl
theorem q384 : (Jvm.Cond.selects "RuleLists$Shelf" ({ cls := "RuleLists$Shelf", name := "isList", desc := "(I)Z" } : Jvm.MethodName) ({ cls := "RuleLists$Shelf", name := "isList", desc := "(I)Z" } : Jvm.MethodName)) ∈ lw_all := lw_g (lw_at lw_m2 92 rfl) rfl
theorem q385 : (Jvm.Cond.code ({ cls := "RuleLists$Shelf", name := "isList", desc := "(I)Z" } : Jvm.MethodName) prog_11_method_3_code (2 : Nat) (Option.some Jvm.ClassFile.FieldType.boolean)) ∈ lw_all := lw_g (lw_at lw_m2 93 rfl) rfl
theorem q386 : (Jvm.Cond.methodLinkNest "RuleLists$Shelf" (46 : Nat) ({ cls := "RuleLists", name := "inRange", desc := "(III)Z" } : Jvm.MethodName) "RuleLists") ∈ lw_tbl := lw_at lw_m2 94 rfl
theorem q390 : (Jvm.Cond.instanceMethod ({ cls := "RuleLists$Shelf", name := "rule", desc := "(I)LRuleLists$Rule;" } : Jvm.MethodName)) ∈ lw_all := lw_g (lw_at lw_m2 98 rfl) rfl
theorem q391 : (Jvm.Cond.selects "RuleLists$Shelf" ({ cls := "RuleLists$Shelf", name := "rule", desc := "(I)LRuleLists$Rule;" } : Jvm.MethodName) ({ cls := "RuleLists$Shelf", name := "rule", desc := "(I)LRuleLists$Rule;" } : Jvm.MethodName)) ∈ lw_all := lw_g (lw_at lw_m2 99 rfl) rfl
theorem q392 : (Jvm.Cond.code ({ cls := "RuleLists$Shelf", name := "rule", desc := "(I)LRuleLists$Rule;" } : Jvm.MethodName) prog_11_method_5_code (2 : Nat) (Option.some (Jvm.ClassFile.FieldType.object "RuleLists$Rule"))) ∈ lw_all := lw_g (lw_at lw_m2 100 rfl) rfl
theorem q393 : (Jvm.Cond.interfaceEntry "RuleLists$Shelf" (27 : Nat)) ∈ lw_tbl := lw_at lw_m2 101 rfl
theorem q394 : (Jvm.Cond.methodLink "RuleLists$Shelf" (27 : Nat) ({ cls := "java/util/List", name := "get", desc := "(I)Ljava/lang/Object;" } : Jvm.MethodName)) ∈ lw_all := lw_g (lw_at lw_m2 102 rfl) rfl
theorem q412 : (Jvm.Cond.classLink "RuleLists$Shelf" (31 : Nat) "RuleLists$Rule") ∈ lw_all := lw_g (lw_at lw_m2 120 rfl) rfl
theorem q567 : (Jvm.Cond.instanceMethod ({ cls := "RuleLists$Shelf", name := "hasReaderRoom", desc := "()Z" } : Jvm.MethodName)) ∈ lw_all := lw_g (lw_at lw_m3 35 rfl) rfl
theorem q568 : (Jvm.Cond.selects "RuleLists$Shelf" ({ cls := "RuleLists$Shelf", name := "hasReaderRoom", desc := "()Z" } : Jvm.MethodName) ({ cls := "RuleLists$Shelf", name := "hasReaderRoom", desc := "()Z" } : Jvm.MethodName)) ∈ lw_all := lw_g (lw_at lw_m3 36 rfl) rfl
theorem q569 : (Jvm.Cond.code ({ cls := "RuleLists$Shelf", name := "hasReaderRoom", desc := "()Z" } : Jvm.MethodName) prog_11_method_18_code (1 : Nat) (Option.some Jvm.ClassFile.FieldType.boolean)) ∈ lw_all := lw_g (lw_at lw_m3 37 rfl) rfl
theorem q571 : (Jvm.Cond.instanceMethod ({ cls := "RuleLists$Shelf", name := "begin", desc := "(I)I" } : Jvm.MethodName)) ∈ lw_all := lw_g (lw_at lw_m3 39 rfl) rfl
theorem q572 : (Jvm.Cond.selects "RuleLists$Shelf" ({ cls := "RuleLists$Shelf", name := "begin", desc := "(I)I" } : Jvm.MethodName) ({ cls := "RuleLists$Shelf", name := "begin", desc := "(I)I" } : Jvm.MethodName)) ∈ lw_all := lw_g (lw_at lw_m3 40 rfl) rfl
theorem q573 : (Jvm.Cond.code ({ cls := "RuleLists$Shelf", name := "begin", desc := "(I)I" } : Jvm.MethodName) prog_11_method_19_code (2 : Nat) (Option.some Jvm.ClassFile.FieldType.int)) ∈ lw_all := lw_g (lw_at lw_m3 41 rfl) rfl
theorem q574 : (Jvm.Cond.classLink "RuleLists$Shelf" (37 : Nat) "RuleLists$Reader") ∈ lw_all := lw_g (lw_at lw_m3 42 rfl) rfl
theorem q576 : (Jvm.Cond.methodLink "RuleLists$Shelf" (100 : Nat) ({ cls := "RuleLists$Reader", name := "<init>", desc := "(I)V" } : Jvm.MethodName)) ∈ lw_all := lw_g (lw_at lw_m3 44 rfl) rfl
theorem q581 : (Jvm.Cond.fieldLinkNest "RuleLists$Shelf" (58 : Nat) "RuleLists$Reader" "list" "I" "RuleLists") ∈ lw_tbl := lw_at lw_m3 49 rfl
theorem q584 : (Jvm.Cond.fieldLinkNest "RuleLists$Shelf" (103 : Nat) "RuleLists$Reader" "soFar" "I" "RuleLists") ∈ lw_tbl := lw_at lw_m3 52 rfl
theorem q592 : (Jvm.Cond.instanceMethod ({ cls := "RuleLists$Shelf", name := "whyNoDrop", desc := "()I" } : Jvm.MethodName)) ∈ lw_all := lw_g (lw_at lw_m3 60 rfl) rfl
theorem q593 : (Jvm.Cond.selects "RuleLists$Shelf" ({ cls := "RuleLists$Shelf", name := "whyNoDrop", desc := "()I" } : Jvm.MethodName) ({ cls := "RuleLists$Shelf", name := "whyNoDrop", desc := "()I" } : Jvm.MethodName)) ∈ lw_all := lw_g (lw_at lw_m3 61 rfl) rfl
theorem q594 : (Jvm.Cond.code ({ cls := "RuleLists$Shelf", name := "whyNoDrop", desc := "()I" } : Jvm.MethodName) prog_11_method_9_code (3 : Nat) (Option.some Jvm.ClassFile.FieldType.int)) ∈ lw_all := lw_g (lw_at lw_m3 62 rfl) rfl
theorem q595 : (Jvm.Cond.interfaceEntry "RuleLists$Shelf" (50 : Nat)) ∈ lw_tbl := lw_at lw_m3 63 rfl
theorem q596 : (Jvm.Cond.methodLink "RuleLists$Shelf" (50 : Nat) ({ cls := "java/util/List", name := "isEmpty", desc := "()Z" } : Jvm.MethodName)) ∈ lw_all := lw_g (lw_at lw_m3 64 rfl) rfl
theorem q604 : (Jvm.Cond.methodLink "RuleLists$Shelf" (54 : Nat) ({ cls := "RuleLists$Shelf", name := "reader", desc := "(I)LRuleLists$Reader;" } : Jvm.MethodName)) ∈ lw_all := lw_g (lw_at lw_m3 72 rfl) rfl
theorem q605 : (Jvm.Cond.instanceMethod ({ cls := "RuleLists$Shelf", name := "reader", desc := "(I)LRuleLists$Reader;" } : Jvm.MethodName)) ∈ lw_all := lw_g (lw_at lw_m3 73 rfl) rfl
theorem q606 : (Jvm.Cond.selects "RuleLists$Shelf" ({ cls := "RuleLists$Shelf", name := "reader", desc := "(I)LRuleLists$Reader;" } : Jvm.MethodName) ({ cls := "RuleLists$Shelf", name := "reader", desc := "(I)LRuleLists$Reader;" } : Jvm.MethodName)) ∈ lw_all := lw_g (lw_at lw_m3 74 rfl) rfl
theorem q607 : (Jvm.Cond.code ({ cls := "RuleLists$Shelf", name := "reader", desc := "(I)LRuleLists$Reader;" } : Jvm.MethodName) prog_11_method_6_code (2 : Nat) (Option.some (Jvm.ClassFile.FieldType.object "RuleLists$Reader"))) ∈ lw_all := lw_g (lw_at lw_m3 75 rfl) rfl
theorem q609 : (Jvm.Cond.instanceMethod ({ cls := "RuleLists$Shelf", name := "dropLast", desc := "()I" } : Jvm.MethodName)) ∈ lw_all := lw_g (lw_at lw_m3 77 rfl) rfl
theorem q610 : (Jvm.Cond.selects "RuleLists$Shelf" ({ cls := "RuleLists$Shelf", name := "dropLast", desc := "()I" } : Jvm.MethodName) ({ cls := "RuleLists$Shelf", name := "dropLast", desc := "()I" } : Jvm.MethodName)) ∈ lw_all := lw_g (lw_at lw_m3 78 rfl) rfl
theorem q611 : (Jvm.Cond.code ({ cls := "RuleLists$Shelf", name := "dropLast", desc := "()I" } : Jvm.MethodName) prog_11_method_10_code (2 : Nat) (Option.some Jvm.ClassFile.FieldType.int)) ∈ lw_all := lw_g (lw_at lw_m3 79 rfl) rfl
theorem q612 : (Jvm.Cond.interfaceEntry "RuleLists$Shelf" (61 : Nat)) ∈ lw_tbl := lw_at lw_m3 80 rfl
theorem q613 : (Jvm.Cond.methodLink "RuleLists$Shelf" (61 : Nat) ({ cls := "java/util/List", name := "remove", desc := "(I)Ljava/lang/Object;" } : Jvm.MethodName)) ∈ lw_all := lw_g (lw_at lw_m3 81 rfl) rfl
theorem q635 : (Jvm.Cond.instanceMethod ({ cls := "RuleLists$Shelf", name := "isReader", desc := "(I)Z" } : Jvm.MethodName)) ∈ lw_all := lw_g (lw_at lw_m3 103 rfl) rfl
theorem q636 : (Jvm.Cond.selects "RuleLists$Shelf" ({ cls := "RuleLists$Shelf", name := "isReader", desc := "(I)Z" } : Jvm.MethodName) ({ cls := "RuleLists$Shelf", name := "isReader", desc := "(I)Z" } : Jvm.MethodName)) ∈ lw_all := lw_g (lw_at lw_m3 104 rfl) rfl
theorem q637 : (Jvm.Cond.code ({ cls := "RuleLists$Shelf", name := "isReader", desc := "(I)Z" } : Jvm.MethodName) prog_11_method_4_code (2 : Nat) (Option.some Jvm.ClassFile.FieldType.boolean)) ∈ lw_all := lw_g (lw_at lw_m3 105 rfl) rfl
theorem q640 : (Jvm.Cond.instanceMethod ({ cls := "RuleLists$Shelf", name := "nextOf", desc := "(LRuleLists$Reader;)I" } : Jvm.MethodName)) ∈ lw_all := lw_g (lw_at lw_m3 108 rfl) rfl
theorem q641 : (Jvm.Cond.selects "RuleLists$Shelf" ({ cls := "RuleLists$Shelf", name := "nextOf", desc := "(LRuleLists$Reader;)I" } : Jvm.MethodName) ({ cls := "RuleLists$Shelf", name := "nextOf", desc := "(LRuleLists$Reader;)I" } : Jvm.MethodName)) ∈ lw_all := lw_g (lw_at lw_m3 109 rfl) rfl
theorem q642 : (Jvm.Cond.code ({ cls := "RuleLists$Shelf", name := "nextOf", desc := "(LRuleLists$Reader;)I" } : Jvm.MethodName) prog_11_method_20_code (2 : Nat) (Option.some Jvm.ClassFile.FieldType.int)) ∈ lw_all := lw_g (lw_at lw_m3 110 rfl) rfl
theorem q643 : (Jvm.Cond.methodLink "RuleLists$Shelf" (106 : Nat) ({ cls := "RuleLists$Shelf", name := "byReading", desc := "(II)I" } : Jvm.MethodName)) ∈ lw_all := lw_g (lw_at lw_m3 111 rfl) rfl
theorem q644 : (Jvm.Cond.instanceMethod ({ cls := "RuleLists$Shelf", name := "byReading", desc := "(II)I" } : Jvm.MethodName)) ∈ lw_all := lw_g (lw_at lw_m3 112 rfl) rfl
theorem q645 : (Jvm.Cond.selects "RuleLists$Shelf" ({ cls := "RuleLists$Shelf", name := "byReading", desc := "(II)I" } : Jvm.MethodName) ({ cls := "RuleLists$Shelf", name := "byReading", desc := "(II)I" } : Jvm.MethodName)) ∈ lw_all := lw_g (lw_at lw_m3 113 rfl) rfl
theorem q646 : (Jvm.Cond.code ({ cls := "RuleLists$Shelf", name := "byReading", desc := "(II)I" } : Jvm.MethodName) prog_11_method_11_code (4 : Nat) (Option.some Jvm.ClassFile.FieldType.int)) ∈ lw_all := lw_g (lw_at lw_m3 114 rfl) rfl
theorem q647 : (Jvm.Cond.methodLink "RuleLists$Shelf" (64 : Nat) ({ cls := "RuleLists$Shelf", name := "rule", desc := "(I)LRuleLists$Rule;" } : Jvm.MethodName)) ∈ lw_all := lw_g (lw_at lw_m3 115 rfl) rfl
theorem q648 : (Jvm.Cond.methodLink "RuleLists$Shelf" (68 : Nat) ({ cls := "RuleLists$Rule", name := "member", desc := "(I)I" } : Jvm.MethodName)) ∈ lw_all := lw_g (lw_at lw_m3 116 rfl) rfl
theorem q759 : (Jvm.Cond.instanceMethod ({ cls := "RuleLists$Shelf", name := "read", desc := "(LRuleLists$Reader;)I" } : Jvm.MethodName)) ∈ lw_all := lw_g (lw_at lw_m3 227 rfl) rfl
theorem q760 : (Jvm.Cond.selects "RuleLists$Shelf" ({ cls := "RuleLists$Shelf", name := "read", desc := "(LRuleLists$Reader;)I" } : Jvm.MethodName) ({ cls := "RuleLists$Shelf", name := "read", desc := "(LRuleLists$Reader;)I" } : Jvm.MethodName)) ∈ lw_all := lw_g (lw_at lw_m3 228 rfl) rfl
theorem q761 : (Jvm.Cond.code ({ cls := "RuleLists$Shelf", name := "read", desc := "(LRuleLists$Reader;)I" } : Jvm.MethodName) prog_11_method_21_code (3 : Nat) (Option.some Jvm.ClassFile.FieldType.int)) ∈ lw_all := lw_g (lw_at lw_m3 229 rfl) rfl
theorem q762 : (Jvm.Cond.methodLink "RuleLists$Shelf" (109 : Nat) ({ cls := "RuleLists$Shelf", name := "nextOf", desc := "(LRuleLists$Reader;)I" } : Jvm.MethodName)) ∈ lw_all := lw_g (lw_at lw_m3 230 rfl) rfl
theorem q764 : (Jvm.Cond.instanceMethod ({ cls := "RuleLists$Shelf", name := "skip", desc := "(LRuleLists$Reader;I)I" } : Jvm.MethodName)) ∈ lw_all := lw_g (lw_at lw_m3 232 rfl) rfl
theorem q765 : (Jvm.Cond.selects "RuleLists$Shelf" ({ cls := "RuleLists$Shelf", name := "skip", desc := "(LRuleLists$Reader;I)I" } : Jvm.MethodName) ({ cls := "RuleLists$Shelf", name := "skip", desc := "(LRuleLists$Reader;I)I" } : Jvm.MethodName)) ∈ lw_all := lw_g (lw_at lw_m3 233 rfl) rfl
theorem q766 : (Jvm.Cond.code ({ cls := "RuleLists$Shelf", name := "skip", desc := "(LRuleLists$Reader;I)I" } : Jvm.MethodName) prog_11_method_22_code (4 : Nat) (Option.some Jvm.ClassFile.FieldType.int)) ∈ lw_all := lw_g (lw_at lw_m3 234 rfl) rfl
theorem q768 : (Jvm.Cond.instanceMethod ({ cls := "RuleLists$Shelf", name := "goBack", desc := "(LRuleLists$Reader;)I" } : Jvm.MethodName)) ∈ lw_all := lw_g (lw_at lw_m3 236 rfl) rfl
theorem q769 : (Jvm.Cond.selects "RuleLists$Shelf" ({ cls := "RuleLists$Shelf", name := "goBack", desc := "(LRuleLists$Reader;)I" } : Jvm.MethodName) ({ cls := "RuleLists$Shelf", name := "goBack", desc := "(LRuleLists$Reader;)I" } : Jvm.MethodName)) ∈ lw_all := lw_g (lw_at lw_m3 237 rfl) rfl
theorem q770 : (Jvm.Cond.code ({ cls := "RuleLists$Shelf", name := "goBack", desc := "(LRuleLists$Reader;)I" } : Jvm.MethodName) prog_11_method_23_code (3 : Nat) (Option.some Jvm.ClassFile.FieldType.int)) ∈ lw_all := lw_g (lw_at lw_m3 238 rfl) rfl
theorem q772 : (Jvm.Cond.instanceMethod ({ cls := "RuleLists$Shelf", name := "stop", desc := "(I)I" } : Jvm.MethodName)) ∈ lw_all := lw_g (lw_at lw_m4 0 rfl) rfl
theorem q773 : (Jvm.Cond.selects "RuleLists$Shelf" ({ cls := "RuleLists$Shelf", name := "stop", desc := "(I)I" } : Jvm.MethodName) ({ cls := "RuleLists$Shelf", name := "stop", desc := "(I)I" } : Jvm.MethodName)) ∈ lw_all := lw_g (lw_at lw_m4 1 rfl) rfl
theorem q774 : (Jvm.Cond.code ({ cls := "RuleLists$Shelf", name := "stop", desc := "(I)I" } : Jvm.MethodName) prog_11_method_24_code (3 : Nat) (Option.some Jvm.ClassFile.FieldType.int)) ∈ lw_all := lw_g (lw_at lw_m4 2 rfl) rfl
theorem q794 : (Jvm.Cond.instanceMethod ({ cls := "RuleLists$Shelf", name := "leastNext", desc := "()I" } : Jvm.MethodName)) ∈ lw_all := lw_g (lw_at lw_m4 22 rfl) rfl
theorem q795 : (Jvm.Cond.selects "RuleLists$Shelf" ({ cls := "RuleLists$Shelf", name := "leastNext", desc := "()I" } : Jvm.MethodName) ({ cls := "RuleLists$Shelf", name := "leastNext", desc := "()I" } : Jvm.MethodName)) ∈ lw_all := lw_g (lw_at lw_m4 23 rfl) rfl
theorem q796 : (Jvm.Cond.code ({ cls := "RuleLists$Shelf", name := "leastNext", desc := "()I" } : Jvm.MethodName) prog_11_method_25_code (6 : Nat) (Option.some Jvm.ClassFile.FieldType.int)) ∈ lw_all := lw_g (lw_at lw_m4 24 rfl) rfl
theorem q1008 : (Jvm.Cond.instanceMethod ({ cls := "RuleLists$Shelf", name := "<init>", desc := "(LRuleLists$Shelf;)V" } : Jvm.MethodName)) ∈ lw_all := lw_g (lw_at lw_m4 236 rfl) rfl
theorem q1009 : (Jvm.Cond.code ({ cls := "RuleLists$Shelf", name := "<init>", desc := "(LRuleLists$Shelf;)V" } : Jvm.MethodName) prog_11_method_2_code (3 : Nat) (Option.none : Option Jvm.ClassFile.FieldType)) ∈ lw_all := lw_g (lw_at lw_m4 237 rfl) rfl
theorem q1010 : (Jvm.Cond.methodLink "RuleLists$Shelf" (39 : Nat) ({ cls := "RuleLists$Reader", name := "<init>", desc := "(LRuleLists$Reader;)V" } : Jvm.MethodName)) ∈ lw_all := lw_g (lw_at lw_m4 238 rfl) rfl
theorem q1290 : (Jvm.Cond.instanceMethod ({ cls := "RuleLists$Shelf", name := "byTesting", desc := "(II)I" } : Jvm.MethodName)) ∈ lw_all := lw_g (lw_at lw_m6 38 rfl) rfl
theorem q1291 : (Jvm.Cond.selects "RuleLists$Shelf" ({ cls := "RuleLists$Shelf", name := "byTesting", desc := "(II)I" } : Jvm.MethodName) ({ cls := "RuleLists$Shelf", name := "byTesting", desc := "(II)I" } : Jvm.MethodName)) ∈ lw_all := lw_g (lw_at lw_m6 39 rfl) rfl
theorem q1292 : (Jvm.Cond.code ({ cls := "RuleLists$Shelf", name := "byTesting", desc := "(II)I" } : Jvm.MethodName) prog_11_method_12_code (5 : Nat) (Option.some Jvm.ClassFile.FieldType.int)) ∈ lw_all := lw_g (lw_at lw_m6 40 rfl) rfl
theorem q1293 : (Jvm.Cond.methodLink "RuleLists$Shelf" (72 : Nat) ({ cls := "RuleLists$Rule", name := "has", desc := "(I)Z" } : Jvm.MethodName)) ∈ lw_all := lw_g (lw_at lw_m6 41 rfl) rfl
theorem q1302 : (Jvm.Cond.instanceMethod ({ cls := "RuleLists$Shelf", name := "upTo", desc := "(II)I" } : Jvm.MethodName)) ∈ lw_all := lw_g (lw_at lw_m6 50 rfl) rfl
theorem q1303 : (Jvm.Cond.selects "RuleLists$Shelf" ({ cls := "RuleLists$Shelf", name := "upTo", desc := "(II)I" } : Jvm.MethodName) ({ cls := "RuleLists$Shelf", name := "upTo", desc := "(II)I" } : Jvm.MethodName)) ∈ lw_all := lw_g (lw_at lw_m6 51 rfl) rfl
theorem q1304 : (Jvm.Cond.code ({ cls := "RuleLists$Shelf", name := "upTo", desc := "(II)I" } : Jvm.MethodName) prog_11_method_13_code (4 : Nat) (Option.some Jvm.ClassFile.FieldType.int)) ∈ lw_all := lw_g (lw_at lw_m6 52 rfl) rfl
theorem q1320 : (Jvm.Cond.instanceMethod ({ cls := "RuleLists$Shelf", name := "last", desc := "(I)I" } : Jvm.MethodName)) ∈ lw_all := lw_g (lw_at lw_m6 68 rfl) rfl
theorem q1321 : (Jvm.Cond.selects "RuleLists$Shelf" ({ cls := "RuleLists$Shelf", name := "last", desc := "(I)I" } : Jvm.MethodName) ({ cls := "RuleLists$Shelf", name := "last", desc := "(I)I" } : Jvm.MethodName)) ∈ lw_all := lw_g (lw_at lw_m6 69 rfl) rfl
theorem q1322 : (Jvm.Cond.code ({ cls := "RuleLists$Shelf", name := "last", desc := "(I)I" } : Jvm.MethodName) prog_11_method_14_code (5 : Nat) (Option.some Jvm.ClassFile.FieldType.int)) ∈ lw_all := lw_g (lw_at lw_m6 70 rfl) rfl
theorem q1323 : (Jvm.Cond.methodLink "RuleLists$Shelf" (76 : Nat) ({ cls := "RuleLists$Rule", name := "iterator", desc := "()Ljava/util/Iterator;" } : Jvm.MethodName)) ∈ lw_all := lw_g (lw_at lw_m6 71 rfl) rfl
theorem q1348 : (Jvm.Cond.interfaceEntry "RuleLists$Shelf" (80 : Nat)) ∈ lw_tbl := lw_at lw_m6 96 rfl
theorem q1349 : (Jvm.Cond.methodLink "RuleLists$Shelf" (80 : Nat) ({ cls := "java/util/Iterator", name := "hasNext", desc := "()Z" } : Jvm.MethodName)) ∈ lw_all := lw_g (lw_at lw_m6 97 rfl) rfl
theorem q1359 : (Jvm.Cond.interfaceEntry "RuleLists$Shelf" (85 : Nat)) ∈ lw_tbl := lw_at lw_m6 107 rfl
theorem q1360 : (Jvm.Cond.methodLink "RuleLists$Shelf" (85 : Nat) ({ cls := "java/util/Iterator", name := "next", desc := "()Ljava/lang/Object;" } : Jvm.MethodName)) ∈ lw_all := lw_g (lw_at lw_m6 108 rfl) rfl
theorem q1392 : (Jvm.Cond.classLink "RuleLists$Shelf" (89 : Nat) "java/lang/Integer") ∈ lw_all := lw_g (lw_at lw_m6 140 rfl) rfl
theorem q1393 : (Jvm.Cond.methodLink "RuleLists$Shelf" (91 : Nat) ({ cls := "java/lang/Integer", name := "intValue", desc := "()I" } : Jvm.MethodName)) ∈ lw_all := lw_g (lw_at lw_m6 141 rfl) rfl
theorem q1405 : (Jvm.Cond.instanceMethod ({ cls := "RuleLists$Shelf", name := "firstShared", desc := "(II)I" } : Jvm.MethodName)) ∈ lw_all := lw_g (lw_at lw_m6 153 rfl) rfl
theorem q1406 : (Jvm.Cond.selects "RuleLists$Shelf" ({ cls := "RuleLists$Shelf", name := "firstShared", desc := "(II)I" } : Jvm.MethodName) ({ cls := "RuleLists$Shelf", name := "firstShared", desc := "(II)I" } : Jvm.MethodName)) ∈ lw_all := lw_g (lw_at lw_m6 154 rfl) rfl
theorem q1407 : (Jvm.Cond.code ({ cls := "RuleLists$Shelf", name := "firstShared", desc := "(II)I" } : Jvm.MethodName) prog_11_method_15_code (4 : Nat) (Option.some Jvm.ClassFile.FieldType.int)) ∈ lw_all := lw_g (lw_at lw_m6 155 rfl) rfl
theorem q1416 : (Jvm.Cond.instanceMethod ({ cls := "RuleLists$Shelf", name := "widestGap", desc := "(I)I" } : Jvm.MethodName)) ∈ lw_all := lw_g (lw_at lw_m6 164 rfl) rfl
theorem q1417 : (Jvm.Cond.selects "RuleLists$Shelf" ({ cls := "RuleLists$Shelf", name := "widestGap", desc := "(I)I" } : Jvm.MethodName) ({ cls := "RuleLists$Shelf", name := "widestGap", desc := "(I)I" } : Jvm.MethodName)) ∈ lw_all := lw_g (lw_at lw_m6 165 rfl) rfl
theorem q1418 : (Jvm.Cond.code ({ cls := "RuleLists$Shelf", name := "widestGap", desc := "(I)I" } : Jvm.MethodName) prog_11_method_16_code (6 : Nat) (Option.some Jvm.ClassFile.FieldType.int)) ∈ lw_all := lw_g (lw_at lw_m6 166 rfl) rfl
theorem q1419 : (Jvm.Cond.methodLink "RuleLists$Shelf" (94 : Nat) ({ cls := "java/lang/Math", name := "max", desc := "(II)I" } : Jvm.MethodName)) ∈ lw_all := lw_g (lw_at lw_m6 167 rfl) rfl
theorem q1471 : (Jvm.Cond.instanceMethod ({ cls := "RuleLists$Shelf", name := "ifJoined", desc := "(II)I" } : Jvm.MethodName)) ∈ lw_all := lw_g (lw_at lw_m6 219 rfl) rfl
theorem q1472 : (Jvm.Cond.selects "RuleLists$Shelf" ({ cls := "RuleLists$Shelf", name := "ifJoined", desc := "(II)I" } : Jvm.MethodName) ({ cls := "RuleLists$Shelf", name := "ifJoined", desc := "(II)I" } : Jvm.MethodName)) ∈ lw_all := lw_g (lw_at lw_m6 220 rfl) rfl
theorem q1473 : (Jvm.Cond.code ({ cls := "RuleLists$Shelf", name := "ifJoined", desc := "(II)I" } : Jvm.MethodName) prog_11_method_17_code (5 : Nat) (Option.some Jvm.ClassFile.FieldType.int)) ∈ lw_all := lw_g (lw_at lw_m6 221 rfl) rfl
theorem q1482 : (Jvm.Cond.instanceMethod ({ cls := "RuleLists$Shelf", name := "skipsTo", desc := "(LRuleLists$Reader;I)I" } : Jvm.MethodName)) ∈ lw_all := lw_g (lw_at lw_m6 230 rfl) rfl
theorem q1483 : (Jvm.Cond.selects "RuleLists$Shelf" ({ cls := "RuleLists$Shelf", name := "skipsTo", desc := "(LRuleLists$Reader;I)I" } : Jvm.MethodName) ({ cls := "RuleLists$Shelf", name := "skipsTo", desc := "(LRuleLists$Reader;I)I" } : Jvm.MethodName)) ∈ lw_all := lw_g (lw_at lw_m6 231 rfl) rfl
theorem q1484 : (Jvm.Cond.code ({ cls := "RuleLists$Shelf", name := "skipsTo", desc := "(LRuleLists$Reader;I)I" } : Jvm.MethodName) prog_11_method_26_code (4 : Nat) (Option.some Jvm.ClassFile.FieldType.int)) ∈ lw_all := lw_g (lw_at lw_m6 232 rfl) rfl
theorem q1921 : (Jvm.Cond.castable "RuleLists$Shelf" "java/lang/Object") ∈ lw_tbl := lw_at lw_m8 189 rfl
theorem in_X2 : ∀ w ∈ wsX20, w ∈ lw_all := lw_in wsX20 [137, 139, 141] (by decide +kernel) (by decide +kernel)

/-! RuleLists$Parser -/
set_option maxRecDepth 100000
def RX4 : String := "RuleLists$Parser"
def TX4 : u_T := fun k => match k with
  | 0 => ("RuleLists$Parser", "text", "[C", true)
  | 1 => ("RuleLists$Parser", "length", "I", true)
  | 2 => ("RuleLists$Parser", "shelf", "LRuleLists$Shelf;", true)
  | 3 => ("RuleLists$Parser", "at", "I", false)
  | 4 => ("RuleLists$Parser", "good", "Z", false)
  | _ => ("RuleLists$Parser", "skipped", "I", false)
def tyX4 : Nat → FieldType := fun k => match k with
  | 0 => .array .char
  | 1 => .int
  | 2 => .object "RuleLists$Shelf"
  | 3 => .int
  | 4 => .boolean
  | _ => .int
abbrev wsX40 : List Cond := u_ws RX4 TX4 6
theorem nmX4 : ∀ a, a < 6 → ∀ b, b < 6 → a ≠ b → (TX4 a).2.1 ≠ (TX4 b).2.1 := by decide +kernel
theorem tyX4_ok : ∀ k, k < 6 → parseFieldDescriptor (TX4 k).2.2.1 = some (tyX4 k) := by decide +kernel
abbrev cX4_init : ByteArray := prog_6_method_1_code
def yX4_init : MethodName := ⟨RX4, "<init>", "([CI)V"⟩
def dkwX4_init_1 : List UInt8 := [181, 0, 22, 42, 28, 181, 0, 26, 177]
abbrev dktX4_init_1 : List UInt8 := dkwX4_init_1 ++ []
def dkwX4_init_0 : List UInt8 := [42, 183, 0, 3, 42, 187, 0, 9, 89, 183, 0, 11, 181, 0, 12, 42, 4, 181, 0, 18, 42, 43]
abbrev dktX4_init_0 : List UInt8 := dkwX4_init_0 ++ dktX4_init_1
theorem dksX4_init_0 : cX4_init.data.toList.drop 0 = dktX4_init_0 := by decide +kernel
theorem dksX4_init_1 : cX4_init.data.toList.drop 22 = dktX4_init_1 := dk_seg dksX4_init_0 22 rfl rfl
theorem dX4_init_0 : decode cX4_init 0 = .ok (.aload_n 0, 1) := dk_42 (dk_at dksX4_init_0 0 rfl rfl)
theorem dX4_init_1 : decode cX4_init 1 = .ok (.invokespecial 3, 3) := dk_183 0 3 (dk_at dksX4_init_0 1 rfl rfl)
theorem dX4_init_4 : decode cX4_init 4 = .ok (.aload_n 0, 1) := dk_42 (dk_at dksX4_init_0 4 rfl rfl)
theorem dX4_init_5 : decode cX4_init 5 = .ok (.new 9, 3) := dk_187 0 9 (dk_at dksX4_init_0 5 rfl rfl)
theorem dX4_init_8 : decode cX4_init 8 = .ok (.dup, 1) := dk_89 (dk_at dksX4_init_0 8 rfl rfl)
theorem dX4_init_9 : decode cX4_init 9 = .ok (.invokespecial 11, 3) := dk_183 0 11 (dk_at dksX4_init_0 9 rfl rfl)
theorem dX4_init_12 : decode cX4_init 12 = .ok (.putfield 12, 3) := dk_181 0 12 (dk_at dksX4_init_0 12 rfl rfl)
theorem dX4_init_15 : decode cX4_init 15 = .ok (.aload_n 0, 1) := dk_42 (dk_at dksX4_init_0 15 rfl rfl)
theorem dX4_init_16 : decode cX4_init 16 = .ok (.iconst 1, 1) := dk_4 (dk_at dksX4_init_0 16 rfl rfl)
theorem dX4_init_17 : decode cX4_init 17 = .ok (.putfield 18, 3) := dk_181 0 18 (dk_at dksX4_init_0 17 rfl rfl)
theorem dX4_init_20 : decode cX4_init 20 = .ok (.aload_n 0, 1) := dk_42 (dk_at dksX4_init_0 20 rfl rfl)
theorem dX4_init_21 : decode cX4_init 21 = .ok (.aload_n 1, 1) := dk_43 (dk_at dksX4_init_0 21 rfl rfl)
theorem dX4_init_22 : decode cX4_init 22 = .ok (.putfield 22, 3) := dk_181 0 22 (dk_at dksX4_init_1 0 rfl rfl)
theorem dX4_init_25 : decode cX4_init 25 = .ok (.aload_n 0, 1) := dk_42 (dk_at dksX4_init_1 3 rfl rfl)
theorem dX4_init_26 : decode cX4_init 26 = .ok (.iload_n 2, 1) := dk_28 (dk_at dksX4_init_1 4 rfl rfl)
theorem dX4_init_27 : decode cX4_init 27 = .ok (.putfield 26, 3) := dk_181 0 26 (dk_at dksX4_init_1 5 rfl rfl)
theorem dX4_init_30 : decode cX4_init 30 = .ok (.return_, 1) := dk_177 (dk_at dksX4_init_1 8 rfl rfl)
abbrev cX4_parse : ByteArray := prog_6_method_16_code
def yX4_parse : MethodName := ⟨RX4, "parse", "()I"⟩
def dkwX4_parse_3 : List UInt8 := [180, 0, 18, 153, 0, 7, 2, 167, 0, 7, 42, 180, 0, 30, 172]
abbrev dktX4_parse_3 : List UInt8 := dkwX4_parse_3 ++ []
def dkwX4_parse_2 : List UInt8 := [182, 0, 41, 42, 180, 0, 18, 153, 0, 11, 42, 27, 182, 0, 173, 167, 0, 4, 3, 61, 167, 255, 208, 42]
abbrev dktX4_parse_2 : List UInt8 := dkwX4_parse_2 ++ dktX4_parse_3
def dkwX4_parse_1 : List UInt8 := [153, 0, 47, 42, 180, 0, 30, 42, 180, 0, 26, 162, 0, 36, 42, 182, 0, 33, 60, 42, 27, 184, 0, 169]
abbrev dktX4_parse_1 : List UInt8 := dkwX4_parse_1 ++ dktX4_parse_2
def dkwX4_parse_0 : List UInt8 := [42, 42, 182, 0, 33, 16, 76, 160, 0, 7, 4, 167, 0, 4, 3, 182, 0, 41, 42, 180, 0, 18]
abbrev dktX4_parse_0 : List UInt8 := dkwX4_parse_0 ++ dktX4_parse_1
theorem dksX4_parse_0 : cX4_parse.data.toList.drop 0 = dktX4_parse_0 := by decide +kernel
theorem dksX4_parse_1 : cX4_parse.data.toList.drop 22 = dktX4_parse_1 := dk_seg dksX4_parse_0 22 rfl rfl
theorem dksX4_parse_2 : cX4_parse.data.toList.drop 46 = dktX4_parse_2 := dk_seg dksX4_parse_1 24 rfl rfl
theorem dksX4_parse_3 : cX4_parse.data.toList.drop 70 = dktX4_parse_3 := dk_seg dksX4_parse_2 24 rfl rfl
theorem dX4_parse_0 : decode cX4_parse 0 = .ok (.aload_n 0, 1) := dk_42 (dk_at dksX4_parse_0 0 rfl rfl)
theorem dX4_parse_1 : decode cX4_parse 1 = .ok (.aload_n 0, 1) := dk_42 (dk_at dksX4_parse_0 1 rfl rfl)
theorem dX4_parse_2 : decode cX4_parse 2 = .ok (.invokevirtual 33, 3) := dk_182 0 33 (dk_at dksX4_parse_0 2 rfl rfl)
theorem dX4_parse_5 : decode cX4_parse 5 = .ok (.bipush 76, 2) := dk_16 76 (dk_at dksX4_parse_0 5 rfl rfl)
theorem dX4_parse_7 : decode cX4_parse 7 = .ok (.if_icmp .ne 7, 3) := dk_160 0 7 (dk_at dksX4_parse_0 7 rfl rfl)
theorem dX4_parse_10 : decode cX4_parse 10 = .ok (.iconst 1, 1) := dk_4 (dk_at dksX4_parse_0 10 rfl rfl)
theorem dX4_parse_11 : decode cX4_parse 11 = .ok (.goto 4, 3) := dk_167 0 4 (dk_at dksX4_parse_0 11 rfl rfl)
theorem dX4_parse_14 : decode cX4_parse 14 = .ok (.iconst 0, 1) := dk_3 (dk_at dksX4_parse_0 14 rfl rfl)
theorem dX4_parse_15 : decode cX4_parse 15 = .ok (.invokevirtual 41, 3) := dk_182 0 41 (dk_at dksX4_parse_0 15 rfl rfl)
theorem dX4_parse_18 : decode cX4_parse 18 = .ok (.aload_n 0, 1) := dk_42 (dk_at dksX4_parse_0 18 rfl rfl)
theorem dX4_parse_19 : decode cX4_parse 19 = .ok (.getfield 18, 3) := dk_180 0 18 (dk_at dksX4_parse_0 19 rfl rfl)
theorem dX4_parse_22 : decode cX4_parse 22 = .ok (.ifCond .eq 47, 3) := dk_153 0 47 (dk_at dksX4_parse_1 0 rfl rfl)
theorem dX4_parse_25 : decode cX4_parse 25 = .ok (.aload_n 0, 1) := dk_42 (dk_at dksX4_parse_1 3 rfl rfl)
theorem dX4_parse_26 : decode cX4_parse 26 = .ok (.getfield 30, 3) := dk_180 0 30 (dk_at dksX4_parse_1 4 rfl rfl)
theorem dX4_parse_29 : decode cX4_parse 29 = .ok (.aload_n 0, 1) := dk_42 (dk_at dksX4_parse_1 7 rfl rfl)
theorem dX4_parse_30 : decode cX4_parse 30 = .ok (.getfield 26, 3) := dk_180 0 26 (dk_at dksX4_parse_1 8 rfl rfl)
theorem dX4_parse_33 : decode cX4_parse 33 = .ok (.if_icmp .ge 36, 3) := dk_162 0 36 (dk_at dksX4_parse_1 11 rfl rfl)
theorem dX4_parse_36 : decode cX4_parse 36 = .ok (.aload_n 0, 1) := dk_42 (dk_at dksX4_parse_1 14 rfl rfl)
theorem dX4_parse_37 : decode cX4_parse 37 = .ok (.invokevirtual 33, 3) := dk_182 0 33 (dk_at dksX4_parse_1 15 rfl rfl)
theorem dX4_parse_40 : decode cX4_parse 40 = .ok (.istore_n 1, 1) := dk_60 (dk_at dksX4_parse_1 18 rfl rfl)
theorem dX4_parse_41 : decode cX4_parse 41 = .ok (.aload_n 0, 1) := dk_42 (dk_at dksX4_parse_1 19 rfl rfl)
theorem dX4_parse_42 : decode cX4_parse 42 = .ok (.iload_n 1, 1) := dk_27 (dk_at dksX4_parse_1 20 rfl rfl)
theorem dX4_parse_43 : decode cX4_parse 43 = .ok (.invokestatic 169, 3) := dk_184 0 169 (dk_at dksX4_parse_1 21 rfl rfl)
theorem dX4_parse_46 : decode cX4_parse 46 = .ok (.invokevirtual 41, 3) := dk_182 0 41 (dk_at dksX4_parse_2 0 rfl rfl)
theorem dX4_parse_49 : decode cX4_parse 49 = .ok (.aload_n 0, 1) := dk_42 (dk_at dksX4_parse_2 3 rfl rfl)
theorem dX4_parse_50 : decode cX4_parse 50 = .ok (.getfield 18, 3) := dk_180 0 18 (dk_at dksX4_parse_2 4 rfl rfl)
theorem dX4_parse_53 : decode cX4_parse 53 = .ok (.ifCond .eq 11, 3) := dk_153 0 11 (dk_at dksX4_parse_2 7 rfl rfl)
theorem dX4_parse_56 : decode cX4_parse 56 = .ok (.aload_n 0, 1) := dk_42 (dk_at dksX4_parse_2 10 rfl rfl)
theorem dX4_parse_57 : decode cX4_parse 57 = .ok (.iload_n 1, 1) := dk_27 (dk_at dksX4_parse_2 11 rfl rfl)
theorem dX4_parse_58 : decode cX4_parse 58 = .ok (.invokevirtual 173, 3) := dk_182 0 173 (dk_at dksX4_parse_2 12 rfl rfl)
theorem dX4_parse_61 : decode cX4_parse 61 = .ok (.goto 4, 3) := dk_167 0 4 (dk_at dksX4_parse_2 15 rfl rfl)
theorem dX4_parse_64 : decode cX4_parse 64 = .ok (.iconst 0, 1) := dk_3 (dk_at dksX4_parse_2 18 rfl rfl)
theorem dX4_parse_65 : decode cX4_parse 65 = .ok (.istore_n 2, 1) := dk_61 (dk_at dksX4_parse_2 19 rfl rfl)
theorem dX4_parse_66 : decode cX4_parse 66 = .ok (.goto (-48), 3) := dk_167 255 208 (dk_at dksX4_parse_2 20 rfl rfl)
theorem dX4_parse_69 : decode cX4_parse 69 = .ok (.aload_n 0, 1) := dk_42 (dk_at dksX4_parse_2 23 rfl rfl)
theorem dX4_parse_70 : decode cX4_parse 70 = .ok (.getfield 18, 3) := dk_180 0 18 (dk_at dksX4_parse_3 0 rfl rfl)
theorem dX4_parse_73 : decode cX4_parse 73 = .ok (.ifCond .eq 7, 3) := dk_153 0 7 (dk_at dksX4_parse_3 3 rfl rfl)
theorem dX4_parse_76 : decode cX4_parse 76 = .ok (.iconst (-1), 1) := dk_2 (dk_at dksX4_parse_3 6 rfl rfl)
theorem dX4_parse_77 : decode cX4_parse 77 = .ok (.goto 7, 3) := dk_167 0 7 (dk_at dksX4_parse_3 7 rfl rfl)
theorem dX4_parse_80 : decode cX4_parse 80 = .ok (.aload_n 0, 1) := dk_42 (dk_at dksX4_parse_3 10 rfl rfl)
theorem dX4_parse_81 : decode cX4_parse 81 = .ok (.getfield 30, 3) := dk_180 0 30 (dk_at dksX4_parse_3 11 rfl rfl)
theorem dX4_parse_84 : decode cX4_parse 84 = .ok (.ireturn, 1) := dk_172 (dk_at dksX4_parse_3 14 rfl rfl)
abbrev cX4_here : ByteArray := prog_6_method_2_code
def yX4_here : MethodName := ⟨RX4, "here", "()C"⟩
def dkwX4_here_1 : List UInt8 := [16, 32, 172]
abbrev dktX4_here_1 : List UInt8 := dkwX4_here_1 ++ []
def dkwX4_here_0 : List UInt8 := [42, 180, 0, 30, 42, 180, 0, 26, 162, 0, 15, 42, 180, 0, 22, 42, 180, 0, 30, 52, 167, 0, 5]
abbrev dktX4_here_0 : List UInt8 := dkwX4_here_0 ++ dktX4_here_1
theorem dksX4_here_0 : cX4_here.data.toList.drop 0 = dktX4_here_0 := by decide +kernel
theorem dksX4_here_1 : cX4_here.data.toList.drop 23 = dktX4_here_1 := dk_seg dksX4_here_0 23 rfl rfl
theorem dX4_here_0 : decode cX4_here 0 = .ok (.aload_n 0, 1) := dk_42 (dk_at dksX4_here_0 0 rfl rfl)
theorem dX4_here_1 : decode cX4_here 1 = .ok (.getfield 30, 3) := dk_180 0 30 (dk_at dksX4_here_0 1 rfl rfl)
theorem dX4_here_4 : decode cX4_here 4 = .ok (.aload_n 0, 1) := dk_42 (dk_at dksX4_here_0 4 rfl rfl)
theorem dX4_here_5 : decode cX4_here 5 = .ok (.getfield 26, 3) := dk_180 0 26 (dk_at dksX4_here_0 5 rfl rfl)
theorem dX4_here_8 : decode cX4_here 8 = .ok (.if_icmp .ge 15, 3) := dk_162 0 15 (dk_at dksX4_here_0 8 rfl rfl)
theorem dX4_here_11 : decode cX4_here 11 = .ok (.aload_n 0, 1) := dk_42 (dk_at dksX4_here_0 11 rfl rfl)
theorem dX4_here_12 : decode cX4_here 12 = .ok (.getfield 22, 3) := dk_180 0 22 (dk_at dksX4_here_0 12 rfl rfl)
theorem dX4_here_15 : decode cX4_here 15 = .ok (.aload_n 0, 1) := dk_42 (dk_at dksX4_here_0 15 rfl rfl)
theorem dX4_here_16 : decode cX4_here 16 = .ok (.getfield 30, 3) := dk_180 0 30 (dk_at dksX4_here_0 16 rfl rfl)
theorem dX4_here_19 : decode cX4_here 19 = .ok (.caload, 1) := dk_52 (dk_at dksX4_here_0 19 rfl rfl)
theorem dX4_here_20 : decode cX4_here 20 = .ok (.goto 5, 3) := dk_167 0 5 (dk_at dksX4_here_0 20 rfl rfl)
theorem dX4_here_23 : decode cX4_here 23 = .ok (.bipush 32, 2) := dk_16 32 (dk_at dksX4_here_1 0 rfl rfl)
theorem dX4_here_25 : decode cX4_here 25 = .ok (.ireturn, 1) := dk_172 (dk_at dksX4_here_1 2 rfl rfl)
abbrev cX4_take : ByteArray := prog_6_method_3_code
def yX4_take : MethodName := ⟨RX4, "take", "(Z)V"⟩
def dkwX4_take_1 : List UInt8 := [180, 0, 30, 42, 180, 0, 18, 153, 0, 7, 4, 167, 0, 4, 3, 96, 181, 0, 30, 177]
abbrev dktX4_take_1 : List UInt8 := dkwX4_take_1 ++ []
def dkwX4_take_0 : List UInt8 := [42, 42, 180, 0, 18, 153, 0, 11, 27, 153, 0, 7, 4, 167, 0, 4, 3, 181, 0, 18, 42, 89]
abbrev dktX4_take_0 : List UInt8 := dkwX4_take_0 ++ dktX4_take_1
theorem dksX4_take_0 : cX4_take.data.toList.drop 0 = dktX4_take_0 := by decide +kernel
theorem dksX4_take_1 : cX4_take.data.toList.drop 22 = dktX4_take_1 := dk_seg dksX4_take_0 22 rfl rfl
theorem dX4_take_0 : decode cX4_take 0 = .ok (.aload_n 0, 1) := dk_42 (dk_at dksX4_take_0 0 rfl rfl)
theorem dX4_take_1 : decode cX4_take 1 = .ok (.aload_n 0, 1) := dk_42 (dk_at dksX4_take_0 1 rfl rfl)
theorem dX4_take_2 : decode cX4_take 2 = .ok (.getfield 18, 3) := dk_180 0 18 (dk_at dksX4_take_0 2 rfl rfl)
theorem dX4_take_5 : decode cX4_take 5 = .ok (.ifCond .eq 11, 3) := dk_153 0 11 (dk_at dksX4_take_0 5 rfl rfl)
theorem dX4_take_8 : decode cX4_take 8 = .ok (.iload_n 1, 1) := dk_27 (dk_at dksX4_take_0 8 rfl rfl)
theorem dX4_take_9 : decode cX4_take 9 = .ok (.ifCond .eq 7, 3) := dk_153 0 7 (dk_at dksX4_take_0 9 rfl rfl)
theorem dX4_take_12 : decode cX4_take 12 = .ok (.iconst 1, 1) := dk_4 (dk_at dksX4_take_0 12 rfl rfl)
theorem dX4_take_13 : decode cX4_take 13 = .ok (.goto 4, 3) := dk_167 0 4 (dk_at dksX4_take_0 13 rfl rfl)
theorem dX4_take_16 : decode cX4_take 16 = .ok (.iconst 0, 1) := dk_3 (dk_at dksX4_take_0 16 rfl rfl)
theorem dX4_take_17 : decode cX4_take 17 = .ok (.putfield 18, 3) := dk_181 0 18 (dk_at dksX4_take_0 17 rfl rfl)
theorem dX4_take_20 : decode cX4_take 20 = .ok (.aload_n 0, 1) := dk_42 (dk_at dksX4_take_0 20 rfl rfl)
theorem dX4_take_21 : decode cX4_take 21 = .ok (.dup, 1) := dk_89 (dk_at dksX4_take_0 21 rfl rfl)
theorem dX4_take_22 : decode cX4_take 22 = .ok (.getfield 30, 3) := dk_180 0 30 (dk_at dksX4_take_1 0 rfl rfl)
theorem dX4_take_25 : decode cX4_take 25 = .ok (.aload_n 0, 1) := dk_42 (dk_at dksX4_take_1 3 rfl rfl)
theorem dX4_take_26 : decode cX4_take 26 = .ok (.getfield 18, 3) := dk_180 0 18 (dk_at dksX4_take_1 4 rfl rfl)
theorem dX4_take_29 : decode cX4_take 29 = .ok (.ifCond .eq 7, 3) := dk_153 0 7 (dk_at dksX4_take_1 7 rfl rfl)
theorem dX4_take_32 : decode cX4_take 32 = .ok (.iconst 1, 1) := dk_4 (dk_at dksX4_take_1 10 rfl rfl)
theorem dX4_take_33 : decode cX4_take 33 = .ok (.goto 4, 3) := dk_167 0 4 (dk_at dksX4_take_1 11 rfl rfl)
theorem dX4_take_36 : decode cX4_take 36 = .ok (.iconst 0, 1) := dk_3 (dk_at dksX4_take_1 14 rfl rfl)
theorem dX4_take_37 : decode cX4_take 37 = .ok (.iadd, 1) := dk_96 (dk_at dksX4_take_1 15 rfl rfl)
theorem dX4_take_38 : decode cX4_take 38 = .ok (.putfield 30, 3) := dk_181 0 30 (dk_at dksX4_take_1 16 rfl rfl)
theorem dX4_take_41 : decode cX4_take 41 = .ok (.return_, 1) := dk_177 (dk_at dksX4_take_1 19 rfl rfl)
abbrev cX4_isCommand : ByteArray := prog_6_method_15_code
def yX4_isCommand : MethodName := ⟨RX4, "isCommand", "(C)Z"⟩
def dkwX4_isCommand_4 : List UInt8 := [167, 0, 4, 3, 172]
abbrev dktX4_isCommand_4 : List UInt8 := dkwX4_isCommand_4 ++ []
def dkwX4_isCommand_3 : List UInt8 := [16, 107, 159, 0, 21, 26, 16, 122, 159, 0, 15, 26, 16, 113, 159, 0, 9, 26, 16, 100, 160, 0, 7, 4]
abbrev dktX4_isCommand_3 : List UInt8 := dkwX4_isCommand_3 ++ dktX4_isCommand_4
def dkwX4_isCommand_2 : List UInt8 := [4, 167, 0, 4, 3, 60, 27, 154, 0, 39, 26, 16, 114, 159, 0, 33, 26, 16, 110, 159, 0, 27, 26]
abbrev dktX4_isCommand_2 : List UInt8 := dkwX4_isCommand_2 ++ dktX4_isCommand_3
def dkwX4_isCommand_1 : List UInt8 := [26, 16, 119, 159, 0, 21, 26, 16, 118, 159, 0, 15, 26, 16, 101, 159, 0, 9, 26, 16, 117, 160, 0, 7]
abbrev dktX4_isCommand_1 : List UInt8 := dkwX4_isCommand_1 ++ dktX4_isCommand_2
def dkwX4_isCommand_0 : List UInt8 := [26, 16, 115, 159, 0, 45, 26, 16, 120, 159, 0, 39, 26, 16, 106, 159, 0, 33, 26, 16, 104, 159, 0, 27]
abbrev dktX4_isCommand_0 : List UInt8 := dkwX4_isCommand_0 ++ dktX4_isCommand_1
theorem dksX4_isCommand_0 : cX4_isCommand.data.toList.drop 0 = dktX4_isCommand_0 := by decide +kernel
theorem dksX4_isCommand_1 : cX4_isCommand.data.toList.drop 24 = dktX4_isCommand_1 := dk_seg dksX4_isCommand_0 24 rfl rfl
theorem dksX4_isCommand_2 : cX4_isCommand.data.toList.drop 48 = dktX4_isCommand_2 := dk_seg dksX4_isCommand_1 24 rfl rfl
theorem dksX4_isCommand_3 : cX4_isCommand.data.toList.drop 71 = dktX4_isCommand_3 := dk_seg dksX4_isCommand_2 23 rfl rfl
theorem dksX4_isCommand_4 : cX4_isCommand.data.toList.drop 95 = dktX4_isCommand_4 := dk_seg dksX4_isCommand_3 24 rfl rfl
theorem dX4_isCommand_0 : decode cX4_isCommand 0 = .ok (.iload_n 0, 1) := dk_26 (dk_at dksX4_isCommand_0 0 rfl rfl)
theorem dX4_isCommand_1 : decode cX4_isCommand 1 = .ok (.bipush 115, 2) := dk_16 115 (dk_at dksX4_isCommand_0 1 rfl rfl)
theorem dX4_isCommand_3 : decode cX4_isCommand 3 = .ok (.if_icmp .eq 45, 3) := dk_159 0 45 (dk_at dksX4_isCommand_0 3 rfl rfl)
theorem dX4_isCommand_6 : decode cX4_isCommand 6 = .ok (.iload_n 0, 1) := dk_26 (dk_at dksX4_isCommand_0 6 rfl rfl)
theorem dX4_isCommand_7 : decode cX4_isCommand 7 = .ok (.bipush 120, 2) := dk_16 120 (dk_at dksX4_isCommand_0 7 rfl rfl)
theorem dX4_isCommand_9 : decode cX4_isCommand 9 = .ok (.if_icmp .eq 39, 3) := dk_159 0 39 (dk_at dksX4_isCommand_0 9 rfl rfl)
theorem dX4_isCommand_12 : decode cX4_isCommand 12 = .ok (.iload_n 0, 1) := dk_26 (dk_at dksX4_isCommand_0 12 rfl rfl)
theorem dX4_isCommand_13 : decode cX4_isCommand 13 = .ok (.bipush 106, 2) := dk_16 106 (dk_at dksX4_isCommand_0 13 rfl rfl)
theorem dX4_isCommand_15 : decode cX4_isCommand 15 = .ok (.if_icmp .eq 33, 3) := dk_159 0 33 (dk_at dksX4_isCommand_0 15 rfl rfl)
theorem dX4_isCommand_18 : decode cX4_isCommand 18 = .ok (.iload_n 0, 1) := dk_26 (dk_at dksX4_isCommand_0 18 rfl rfl)
theorem dX4_isCommand_19 : decode cX4_isCommand 19 = .ok (.bipush 104, 2) := dk_16 104 (dk_at dksX4_isCommand_0 19 rfl rfl)
theorem dX4_isCommand_21 : decode cX4_isCommand 21 = .ok (.if_icmp .eq 27, 3) := dk_159 0 27 (dk_at dksX4_isCommand_0 21 rfl rfl)
theorem dX4_isCommand_24 : decode cX4_isCommand 24 = .ok (.iload_n 0, 1) := dk_26 (dk_at dksX4_isCommand_1 0 rfl rfl)
theorem dX4_isCommand_25 : decode cX4_isCommand 25 = .ok (.bipush 119, 2) := dk_16 119 (dk_at dksX4_isCommand_1 1 rfl rfl)
theorem dX4_isCommand_27 : decode cX4_isCommand 27 = .ok (.if_icmp .eq 21, 3) := dk_159 0 21 (dk_at dksX4_isCommand_1 3 rfl rfl)
theorem dX4_isCommand_30 : decode cX4_isCommand 30 = .ok (.iload_n 0, 1) := dk_26 (dk_at dksX4_isCommand_1 6 rfl rfl)
theorem dX4_isCommand_31 : decode cX4_isCommand 31 = .ok (.bipush 118, 2) := dk_16 118 (dk_at dksX4_isCommand_1 7 rfl rfl)
theorem dX4_isCommand_33 : decode cX4_isCommand 33 = .ok (.if_icmp .eq 15, 3) := dk_159 0 15 (dk_at dksX4_isCommand_1 9 rfl rfl)
theorem dX4_isCommand_36 : decode cX4_isCommand 36 = .ok (.iload_n 0, 1) := dk_26 (dk_at dksX4_isCommand_1 12 rfl rfl)
theorem dX4_isCommand_37 : decode cX4_isCommand 37 = .ok (.bipush 101, 2) := dk_16 101 (dk_at dksX4_isCommand_1 13 rfl rfl)
theorem dX4_isCommand_39 : decode cX4_isCommand 39 = .ok (.if_icmp .eq 9, 3) := dk_159 0 9 (dk_at dksX4_isCommand_1 15 rfl rfl)
theorem dX4_isCommand_42 : decode cX4_isCommand 42 = .ok (.iload_n 0, 1) := dk_26 (dk_at dksX4_isCommand_1 18 rfl rfl)
theorem dX4_isCommand_43 : decode cX4_isCommand 43 = .ok (.bipush 117, 2) := dk_16 117 (dk_at dksX4_isCommand_1 19 rfl rfl)
theorem dX4_isCommand_45 : decode cX4_isCommand 45 = .ok (.if_icmp .ne 7, 3) := dk_160 0 7 (dk_at dksX4_isCommand_1 21 rfl rfl)
theorem dX4_isCommand_48 : decode cX4_isCommand 48 = .ok (.iconst 1, 1) := dk_4 (dk_at dksX4_isCommand_2 0 rfl rfl)
theorem dX4_isCommand_49 : decode cX4_isCommand 49 = .ok (.goto 4, 3) := dk_167 0 4 (dk_at dksX4_isCommand_2 1 rfl rfl)
theorem dX4_isCommand_52 : decode cX4_isCommand 52 = .ok (.iconst 0, 1) := dk_3 (dk_at dksX4_isCommand_2 4 rfl rfl)
theorem dX4_isCommand_53 : decode cX4_isCommand 53 = .ok (.istore_n 1, 1) := dk_60 (dk_at dksX4_isCommand_2 5 rfl rfl)
theorem dX4_isCommand_54 : decode cX4_isCommand 54 = .ok (.iload_n 1, 1) := dk_27 (dk_at dksX4_isCommand_2 6 rfl rfl)
theorem dX4_isCommand_55 : decode cX4_isCommand 55 = .ok (.ifCond .ne 39, 3) := dk_154 0 39 (dk_at dksX4_isCommand_2 7 rfl rfl)
theorem dX4_isCommand_58 : decode cX4_isCommand 58 = .ok (.iload_n 0, 1) := dk_26 (dk_at dksX4_isCommand_2 10 rfl rfl)
theorem dX4_isCommand_59 : decode cX4_isCommand 59 = .ok (.bipush 114, 2) := dk_16 114 (dk_at dksX4_isCommand_2 11 rfl rfl)
theorem dX4_isCommand_61 : decode cX4_isCommand 61 = .ok (.if_icmp .eq 33, 3) := dk_159 0 33 (dk_at dksX4_isCommand_2 13 rfl rfl)
theorem dX4_isCommand_64 : decode cX4_isCommand 64 = .ok (.iload_n 0, 1) := dk_26 (dk_at dksX4_isCommand_2 16 rfl rfl)
theorem dX4_isCommand_65 : decode cX4_isCommand 65 = .ok (.bipush 110, 2) := dk_16 110 (dk_at dksX4_isCommand_2 17 rfl rfl)
theorem dX4_isCommand_67 : decode cX4_isCommand 67 = .ok (.if_icmp .eq 27, 3) := dk_159 0 27 (dk_at dksX4_isCommand_2 19 rfl rfl)
theorem dX4_isCommand_70 : decode cX4_isCommand 70 = .ok (.iload_n 0, 1) := dk_26 (dk_at dksX4_isCommand_2 22 rfl rfl)
theorem dX4_isCommand_71 : decode cX4_isCommand 71 = .ok (.bipush 107, 2) := dk_16 107 (dk_at dksX4_isCommand_3 0 rfl rfl)
theorem dX4_isCommand_73 : decode cX4_isCommand 73 = .ok (.if_icmp .eq 21, 3) := dk_159 0 21 (dk_at dksX4_isCommand_3 2 rfl rfl)
theorem dX4_isCommand_76 : decode cX4_isCommand 76 = .ok (.iload_n 0, 1) := dk_26 (dk_at dksX4_isCommand_3 5 rfl rfl)
theorem dX4_isCommand_77 : decode cX4_isCommand 77 = .ok (.bipush 122, 2) := dk_16 122 (dk_at dksX4_isCommand_3 6 rfl rfl)
theorem dX4_isCommand_79 : decode cX4_isCommand 79 = .ok (.if_icmp .eq 15, 3) := dk_159 0 15 (dk_at dksX4_isCommand_3 8 rfl rfl)
theorem dX4_isCommand_82 : decode cX4_isCommand 82 = .ok (.iload_n 0, 1) := dk_26 (dk_at dksX4_isCommand_3 11 rfl rfl)
theorem dX4_isCommand_83 : decode cX4_isCommand 83 = .ok (.bipush 113, 2) := dk_16 113 (dk_at dksX4_isCommand_3 12 rfl rfl)
theorem dX4_isCommand_85 : decode cX4_isCommand 85 = .ok (.if_icmp .eq 9, 3) := dk_159 0 9 (dk_at dksX4_isCommand_3 14 rfl rfl)
theorem dX4_isCommand_88 : decode cX4_isCommand 88 = .ok (.iload_n 0, 1) := dk_26 (dk_at dksX4_isCommand_3 17 rfl rfl)
theorem dX4_isCommand_89 : decode cX4_isCommand 89 = .ok (.bipush 100, 2) := dk_16 100 (dk_at dksX4_isCommand_3 18 rfl rfl)
theorem dX4_isCommand_91 : decode cX4_isCommand 91 = .ok (.if_icmp .ne 7, 3) := dk_160 0 7 (dk_at dksX4_isCommand_3 20 rfl rfl)
theorem dX4_isCommand_94 : decode cX4_isCommand 94 = .ok (.iconst 1, 1) := dk_4 (dk_at dksX4_isCommand_3 23 rfl rfl)
theorem dX4_isCommand_95 : decode cX4_isCommand 95 = .ok (.goto 4, 3) := dk_167 0 4 (dk_at dksX4_isCommand_4 0 rfl rfl)
theorem dX4_isCommand_98 : decode cX4_isCommand 98 = .ok (.iconst 0, 1) := dk_3 (dk_at dksX4_isCommand_4 3 rfl rfl)
theorem dX4_isCommand_99 : decode cX4_isCommand 99 = .ok (.ireturn, 1) := dk_172 (dk_at dksX4_isCommand_4 4 rfl rfl)
abbrev cX4_command : ByteArray := prog_6_method_14_code
def yX4_command : MethodName := ⟨RX4, "command", "(C)I"⟩
def dkwX4_command_7 : List UInt8 := [172]
abbrev dktX4_command_7 : List UInt8 := dkwX4_command_7 ++ []
def dkwX4_command_6 : List UInt8 := [3, 182, 0, 59, 153, 0, 13, 42, 180, 0, 12, 182, 0, 163, 167, 0, 4, 3, 172, 42, 27, 182, 0, 166]
abbrev dktX4_command_6 : List UInt8 := dkwX4_command_6 ++ dktX4_command_7
def dkwX4_command_5 : List UInt8 := [28, 182, 0, 157, 167, 0, 4, 3, 172, 42, 42, 180, 0, 12, 182, 0, 160, 154, 0, 7, 4, 167, 0, 4]
abbrev dktX4_command_5 : List UInt8 := dkwX4_command_5 ++ dktX4_command_6
def dkwX4_command_4 : List UInt8 := [180, 0, 12, 182, 0, 154, 153, 0, 7, 4, 167, 0, 4, 3, 182, 0, 59, 153, 0, 14, 42, 180, 0, 12]
abbrev dktX4_command_4 : List UInt8 := dkwX4_command_4 ++ dktX4_command_5
def dkwX4_command_3 : List UInt8 := [182, 0, 72, 61, 42, 42, 180, 0, 18, 153, 0, 28, 42, 180, 0, 12, 28, 182, 0, 76, 153, 0, 17, 42]
abbrev dktX4_command_3 : List UInt8 := dkwX4_command_3 ++ dktX4_command_4
def dkwX4_command_2 : List UInt8 := [42, 182, 0, 141, 172, 42, 182, 0, 144, 172, 42, 27, 182, 0, 147, 172, 42, 27, 182, 0, 151, 172, 42]
abbrev dktX4_command_2 : List UInt8 := dkwX4_command_2 ++ dktX4_command_3
def dkwX4_command_1 : List UInt8 := [170, 0, 0, 0, 0, 0, 213, 0, 0, 0, 100, 0, 0, 0, 120, 0, 0, 0, 179, 0, 0, 0, 115, 0, 0, 0, 213, 0, 0, 0, 213, 0, 0, 0, 109, 0, 0, 0, 213, 0, 0, 0, 109, 0, 0, 0, 213, 0, 0, 0, 213, 0, 0, 0, 213, 0, 0, 0, 213, 0, 0, 0, 213, 0, 0, 0, 213, 0, 0, 0, 213, 0, 0, 0, 121, 0, 0, 0, 99, 0, 0, 0, 213, 0, 0, 0, 115, 0, 0, 0, 115, 0, 0, 0, 109, 0, 0, 0, 104]
abbrev dktX4_command_1 : List UInt8 := dkwX4_command_1 ++ dktX4_command_2
def dkwX4_command_0 : List UInt8 := [27]
abbrev dktX4_command_0 : List UInt8 := dkwX4_command_0 ++ dktX4_command_1
theorem dksX4_command_0 : cX4_command.data.toList.drop 0 = dktX4_command_0 := by decide +kernel
theorem dksX4_command_1 : cX4_command.data.toList.drop 1 = dktX4_command_1 := dk_seg dksX4_command_0 1 rfl rfl
theorem dksX4_command_2 : cX4_command.data.toList.drop 100 = dktX4_command_2 := dk_seg dksX4_command_1 99 rfl rfl
theorem dksX4_command_3 : cX4_command.data.toList.drop 123 = dktX4_command_3 := dk_seg dksX4_command_2 23 rfl rfl
theorem dksX4_command_4 : cX4_command.data.toList.drop 147 = dktX4_command_4 := dk_seg dksX4_command_3 24 rfl rfl
theorem dksX4_command_5 : cX4_command.data.toList.drop 171 = dktX4_command_5 := dk_seg dksX4_command_4 24 rfl rfl
theorem dksX4_command_6 : cX4_command.data.toList.drop 195 = dktX4_command_6 := dk_seg dksX4_command_5 24 rfl rfl
theorem dksX4_command_7 : cX4_command.data.toList.drop 219 = dktX4_command_7 := dk_seg dksX4_command_6 24 rfl rfl
theorem dX4_command_0 : decode cX4_command 0 = .ok (.iload_n 1, 1) := dk_27 (dk_at dksX4_command_0 0 rfl rfl)
theorem dX4_command_1 : decode cX4_command 1 = .ok (.tableswitch 213 100 120 #[179, 115, 213, 213, 109, 213, 109, 213, 213, 213, 213, 213, 213, 213, 121, 99, 213, 115, 115, 109, 104], 99) := by decide +kernel
theorem dX4_command_100 : decode cX4_command 100 = .ok (.aload_n 0, 1) := dk_42 (dk_at dksX4_command_2 0 rfl rfl)
theorem dX4_command_101 : decode cX4_command 101 = .ok (.invokevirtual 141, 3) := dk_182 0 141 (dk_at dksX4_command_2 1 rfl rfl)
theorem dX4_command_104 : decode cX4_command 104 = .ok (.ireturn, 1) := dk_172 (dk_at dksX4_command_2 4 rfl rfl)
theorem dX4_command_105 : decode cX4_command 105 = .ok (.aload_n 0, 1) := dk_42 (dk_at dksX4_command_2 5 rfl rfl)
theorem dX4_command_106 : decode cX4_command 106 = .ok (.invokevirtual 144, 3) := dk_182 0 144 (dk_at dksX4_command_2 6 rfl rfl)
theorem dX4_command_109 : decode cX4_command 109 = .ok (.ireturn, 1) := dk_172 (dk_at dksX4_command_2 9 rfl rfl)
theorem dX4_command_110 : decode cX4_command 110 = .ok (.aload_n 0, 1) := dk_42 (dk_at dksX4_command_2 10 rfl rfl)
theorem dX4_command_111 : decode cX4_command 111 = .ok (.iload_n 1, 1) := dk_27 (dk_at dksX4_command_2 11 rfl rfl)
theorem dX4_command_112 : decode cX4_command 112 = .ok (.invokevirtual 147, 3) := dk_182 0 147 (dk_at dksX4_command_2 12 rfl rfl)
theorem dX4_command_115 : decode cX4_command 115 = .ok (.ireturn, 1) := dk_172 (dk_at dksX4_command_2 15 rfl rfl)
theorem dX4_command_116 : decode cX4_command 116 = .ok (.aload_n 0, 1) := dk_42 (dk_at dksX4_command_2 16 rfl rfl)
theorem dX4_command_117 : decode cX4_command 117 = .ok (.iload_n 1, 1) := dk_27 (dk_at dksX4_command_2 17 rfl rfl)
theorem dX4_command_118 : decode cX4_command 118 = .ok (.invokevirtual 151, 3) := dk_182 0 151 (dk_at dksX4_command_2 18 rfl rfl)
theorem dX4_command_121 : decode cX4_command 121 = .ok (.ireturn, 1) := dk_172 (dk_at dksX4_command_2 21 rfl rfl)
theorem dX4_command_122 : decode cX4_command 122 = .ok (.aload_n 0, 1) := dk_42 (dk_at dksX4_command_2 22 rfl rfl)
theorem dX4_command_123 : decode cX4_command 123 = .ok (.invokevirtual 72, 3) := dk_182 0 72 (dk_at dksX4_command_3 0 rfl rfl)
theorem dX4_command_126 : decode cX4_command 126 = .ok (.istore_n 2, 1) := dk_61 (dk_at dksX4_command_3 3 rfl rfl)
theorem dX4_command_127 : decode cX4_command 127 = .ok (.aload_n 0, 1) := dk_42 (dk_at dksX4_command_3 4 rfl rfl)
theorem dX4_command_128 : decode cX4_command 128 = .ok (.aload_n 0, 1) := dk_42 (dk_at dksX4_command_3 5 rfl rfl)
theorem dX4_command_129 : decode cX4_command 129 = .ok (.getfield 18, 3) := dk_180 0 18 (dk_at dksX4_command_3 6 rfl rfl)
theorem dX4_command_132 : decode cX4_command 132 = .ok (.ifCond .eq 28, 3) := dk_153 0 28 (dk_at dksX4_command_3 9 rfl rfl)
theorem dX4_command_135 : decode cX4_command 135 = .ok (.aload_n 0, 1) := dk_42 (dk_at dksX4_command_3 12 rfl rfl)
theorem dX4_command_136 : decode cX4_command 136 = .ok (.getfield 12, 3) := dk_180 0 12 (dk_at dksX4_command_3 13 rfl rfl)
theorem dX4_command_139 : decode cX4_command 139 = .ok (.iload_n 2, 1) := dk_28 (dk_at dksX4_command_3 16 rfl rfl)
theorem dX4_command_140 : decode cX4_command 140 = .ok (.invokevirtual 76, 3) := dk_182 0 76 (dk_at dksX4_command_3 17 rfl rfl)
theorem dX4_command_143 : decode cX4_command 143 = .ok (.ifCond .eq 17, 3) := dk_153 0 17 (dk_at dksX4_command_3 20 rfl rfl)
theorem dX4_command_146 : decode cX4_command 146 = .ok (.aload_n 0, 1) := dk_42 (dk_at dksX4_command_3 23 rfl rfl)
theorem dX4_command_147 : decode cX4_command 147 = .ok (.getfield 12, 3) := dk_180 0 12 (dk_at dksX4_command_4 0 rfl rfl)
theorem dX4_command_150 : decode cX4_command 150 = .ok (.invokevirtual 154, 3) := dk_182 0 154 (dk_at dksX4_command_4 3 rfl rfl)
theorem dX4_command_153 : decode cX4_command 153 = .ok (.ifCond .eq 7, 3) := dk_153 0 7 (dk_at dksX4_command_4 6 rfl rfl)
theorem dX4_command_156 : decode cX4_command 156 = .ok (.iconst 1, 1) := dk_4 (dk_at dksX4_command_4 9 rfl rfl)
theorem dX4_command_157 : decode cX4_command 157 = .ok (.goto 4, 3) := dk_167 0 4 (dk_at dksX4_command_4 10 rfl rfl)
theorem dX4_command_160 : decode cX4_command 160 = .ok (.iconst 0, 1) := dk_3 (dk_at dksX4_command_4 13 rfl rfl)
theorem dX4_command_161 : decode cX4_command 161 = .ok (.invokevirtual 59, 3) := dk_182 0 59 (dk_at dksX4_command_4 14 rfl rfl)
theorem dX4_command_164 : decode cX4_command 164 = .ok (.ifCond .eq 14, 3) := dk_153 0 14 (dk_at dksX4_command_4 17 rfl rfl)
theorem dX4_command_167 : decode cX4_command 167 = .ok (.aload_n 0, 1) := dk_42 (dk_at dksX4_command_4 20 rfl rfl)
theorem dX4_command_168 : decode cX4_command 168 = .ok (.getfield 12, 3) := dk_180 0 12 (dk_at dksX4_command_4 21 rfl rfl)
theorem dX4_command_171 : decode cX4_command 171 = .ok (.iload_n 2, 1) := dk_28 (dk_at dksX4_command_5 0 rfl rfl)
theorem dX4_command_172 : decode cX4_command 172 = .ok (.invokevirtual 157, 3) := dk_182 0 157 (dk_at dksX4_command_5 1 rfl rfl)
theorem dX4_command_175 : decode cX4_command 175 = .ok (.goto 4, 3) := dk_167 0 4 (dk_at dksX4_command_5 4 rfl rfl)
theorem dX4_command_178 : decode cX4_command 178 = .ok (.iconst 0, 1) := dk_3 (dk_at dksX4_command_5 7 rfl rfl)
theorem dX4_command_179 : decode cX4_command 179 = .ok (.ireturn, 1) := dk_172 (dk_at dksX4_command_5 8 rfl rfl)
theorem dX4_command_180 : decode cX4_command 180 = .ok (.aload_n 0, 1) := dk_42 (dk_at dksX4_command_5 9 rfl rfl)
theorem dX4_command_181 : decode cX4_command 181 = .ok (.aload_n 0, 1) := dk_42 (dk_at dksX4_command_5 10 rfl rfl)
theorem dX4_command_182 : decode cX4_command 182 = .ok (.getfield 12, 3) := dk_180 0 12 (dk_at dksX4_command_5 11 rfl rfl)
theorem dX4_command_185 : decode cX4_command 185 = .ok (.invokevirtual 160, 3) := dk_182 0 160 (dk_at dksX4_command_5 14 rfl rfl)
theorem dX4_command_188 : decode cX4_command 188 = .ok (.ifCond .ne 7, 3) := dk_154 0 7 (dk_at dksX4_command_5 17 rfl rfl)
theorem dX4_command_191 : decode cX4_command 191 = .ok (.iconst 1, 1) := dk_4 (dk_at dksX4_command_5 20 rfl rfl)
theorem dX4_command_192 : decode cX4_command 192 = .ok (.goto 4, 3) := dk_167 0 4 (dk_at dksX4_command_5 21 rfl rfl)
theorem dX4_command_195 : decode cX4_command 195 = .ok (.iconst 0, 1) := dk_3 (dk_at dksX4_command_6 0 rfl rfl)
theorem dX4_command_196 : decode cX4_command 196 = .ok (.invokevirtual 59, 3) := dk_182 0 59 (dk_at dksX4_command_6 1 rfl rfl)
theorem dX4_command_199 : decode cX4_command 199 = .ok (.ifCond .eq 13, 3) := dk_153 0 13 (dk_at dksX4_command_6 4 rfl rfl)
theorem dX4_command_202 : decode cX4_command 202 = .ok (.aload_n 0, 1) := dk_42 (dk_at dksX4_command_6 7 rfl rfl)
theorem dX4_command_203 : decode cX4_command 203 = .ok (.getfield 12, 3) := dk_180 0 12 (dk_at dksX4_command_6 8 rfl rfl)
theorem dX4_command_206 : decode cX4_command 206 = .ok (.invokevirtual 163, 3) := dk_182 0 163 (dk_at dksX4_command_6 11 rfl rfl)
theorem dX4_command_209 : decode cX4_command 209 = .ok (.goto 4, 3) := dk_167 0 4 (dk_at dksX4_command_6 14 rfl rfl)
theorem dX4_command_212 : decode cX4_command 212 = .ok (.iconst 0, 1) := dk_3 (dk_at dksX4_command_6 17 rfl rfl)
theorem dX4_command_213 : decode cX4_command 213 = .ok (.ireturn, 1) := dk_172 (dk_at dksX4_command_6 18 rfl rfl)
theorem dX4_command_214 : decode cX4_command 214 = .ok (.aload_n 0, 1) := dk_42 (dk_at dksX4_command_6 19 rfl rfl)
theorem dX4_command_215 : decode cX4_command 215 = .ok (.iload_n 1, 1) := dk_27 (dk_at dksX4_command_6 20 rfl rfl)
theorem dX4_command_216 : decode cX4_command 216 = .ok (.invokevirtual 166, 3) := dk_182 0 166 (dk_at dksX4_command_6 21 rfl rfl)
theorem dX4_command_219 : decode cX4_command 219 = .ok (.ireturn, 1) := dk_172 (dk_at dksX4_command_7 0 rfl rfl)
abbrev cX4_steps : ByteArray := prog_6_method_9_code
def yX4_steps : MethodName := ⟨RX4, "steps", "()I"⟩
def dkwX4_steps_2 : List UInt8 := [187, 0, 63, 89, 27, 28, 183, 0, 65, 182, 0, 68, 167, 0, 4, 3, 172]
abbrev dktX4_steps_2 : List UInt8 := dkwX4_steps_2 ++ []
def dkwX4_steps_1 : List UInt8 := [182, 0, 49, 61, 42, 42, 180, 0, 12, 182, 0, 55, 182, 0, 59, 153, 0, 22, 42, 180, 0, 12]
abbrev dktX4_steps_1 : List UInt8 := dkwX4_steps_1 ++ dktX4_steps_2
def dkwX4_steps_0 : List UInt8 := [16, 100, 42, 3, 16, 9, 182, 0, 45, 104, 42, 3, 16, 99, 182, 0, 49, 96, 60, 42, 4, 16, 99]
abbrev dktX4_steps_0 : List UInt8 := dkwX4_steps_0 ++ dktX4_steps_1
theorem dksX4_steps_0 : cX4_steps.data.toList.drop 0 = dktX4_steps_0 := by decide +kernel
theorem dksX4_steps_1 : cX4_steps.data.toList.drop 23 = dktX4_steps_1 := dk_seg dksX4_steps_0 23 rfl rfl
theorem dksX4_steps_2 : cX4_steps.data.toList.drop 45 = dktX4_steps_2 := dk_seg dksX4_steps_1 22 rfl rfl
theorem dX4_steps_0 : decode cX4_steps 0 = .ok (.bipush 100, 2) := dk_16 100 (dk_at dksX4_steps_0 0 rfl rfl)
theorem dX4_steps_2 : decode cX4_steps 2 = .ok (.aload_n 0, 1) := dk_42 (dk_at dksX4_steps_0 2 rfl rfl)
theorem dX4_steps_3 : decode cX4_steps 3 = .ok (.iconst 0, 1) := dk_3 (dk_at dksX4_steps_0 3 rfl rfl)
theorem dX4_steps_4 : decode cX4_steps 4 = .ok (.bipush 9, 2) := dk_16 9 (dk_at dksX4_steps_0 4 rfl rfl)
theorem dX4_steps_6 : decode cX4_steps 6 = .ok (.invokevirtual 45, 3) := dk_182 0 45 (dk_at dksX4_steps_0 6 rfl rfl)
theorem dX4_steps_9 : decode cX4_steps 9 = .ok (.imul, 1) := dk_104 (dk_at dksX4_steps_0 9 rfl rfl)
theorem dX4_steps_10 : decode cX4_steps 10 = .ok (.aload_n 0, 1) := dk_42 (dk_at dksX4_steps_0 10 rfl rfl)
theorem dX4_steps_11 : decode cX4_steps 11 = .ok (.iconst 0, 1) := dk_3 (dk_at dksX4_steps_0 11 rfl rfl)
theorem dX4_steps_12 : decode cX4_steps 12 = .ok (.bipush 99, 2) := dk_16 99 (dk_at dksX4_steps_0 12 rfl rfl)
theorem dX4_steps_14 : decode cX4_steps 14 = .ok (.invokevirtual 49, 3) := dk_182 0 49 (dk_at dksX4_steps_0 14 rfl rfl)
theorem dX4_steps_17 : decode cX4_steps 17 = .ok (.iadd, 1) := dk_96 (dk_at dksX4_steps_0 17 rfl rfl)
theorem dX4_steps_18 : decode cX4_steps 18 = .ok (.istore_n 1, 1) := dk_60 (dk_at dksX4_steps_0 18 rfl rfl)
theorem dX4_steps_19 : decode cX4_steps 19 = .ok (.aload_n 0, 1) := dk_42 (dk_at dksX4_steps_0 19 rfl rfl)
theorem dX4_steps_20 : decode cX4_steps 20 = .ok (.iconst 1, 1) := dk_4 (dk_at dksX4_steps_0 20 rfl rfl)
theorem dX4_steps_21 : decode cX4_steps 21 = .ok (.bipush 99, 2) := dk_16 99 (dk_at dksX4_steps_0 21 rfl rfl)
theorem dX4_steps_23 : decode cX4_steps 23 = .ok (.invokevirtual 49, 3) := dk_182 0 49 (dk_at dksX4_steps_1 0 rfl rfl)
theorem dX4_steps_26 : decode cX4_steps 26 = .ok (.istore_n 2, 1) := dk_61 (dk_at dksX4_steps_1 3 rfl rfl)
theorem dX4_steps_27 : decode cX4_steps 27 = .ok (.aload_n 0, 1) := dk_42 (dk_at dksX4_steps_1 4 rfl rfl)
theorem dX4_steps_28 : decode cX4_steps 28 = .ok (.aload_n 0, 1) := dk_42 (dk_at dksX4_steps_1 5 rfl rfl)
theorem dX4_steps_29 : decode cX4_steps 29 = .ok (.getfield 12, 3) := dk_180 0 12 (dk_at dksX4_steps_1 6 rfl rfl)
theorem dX4_steps_32 : decode cX4_steps 32 = .ok (.invokevirtual 55, 3) := dk_182 0 55 (dk_at dksX4_steps_1 9 rfl rfl)
theorem dX4_steps_35 : decode cX4_steps 35 = .ok (.invokevirtual 59, 3) := dk_182 0 59 (dk_at dksX4_steps_1 12 rfl rfl)
theorem dX4_steps_38 : decode cX4_steps 38 = .ok (.ifCond .eq 22, 3) := dk_153 0 22 (dk_at dksX4_steps_1 15 rfl rfl)
theorem dX4_steps_41 : decode cX4_steps 41 = .ok (.aload_n 0, 1) := dk_42 (dk_at dksX4_steps_1 18 rfl rfl)
theorem dX4_steps_42 : decode cX4_steps 42 = .ok (.getfield 12, 3) := dk_180 0 12 (dk_at dksX4_steps_1 19 rfl rfl)
theorem dX4_steps_45 : decode cX4_steps 45 = .ok (.new 63, 3) := dk_187 0 63 (dk_at dksX4_steps_2 0 rfl rfl)
theorem dX4_steps_48 : decode cX4_steps 48 = .ok (.dup, 1) := dk_89 (dk_at dksX4_steps_2 3 rfl rfl)
theorem dX4_steps_49 : decode cX4_steps 49 = .ok (.iload_n 1, 1) := dk_27 (dk_at dksX4_steps_2 4 rfl rfl)
theorem dX4_steps_50 : decode cX4_steps 50 = .ok (.iload_n 2, 1) := dk_28 (dk_at dksX4_steps_2 5 rfl rfl)
theorem dX4_steps_51 : decode cX4_steps 51 = .ok (.invokespecial 65, 3) := dk_183 0 65 (dk_at dksX4_steps_2 6 rfl rfl)
theorem dX4_steps_54 : decode cX4_steps 54 = .ok (.invokevirtual 68, 3) := dk_182 0 68 (dk_at dksX4_steps_2 9 rfl rfl)
theorem dX4_steps_57 : decode cX4_steps 57 = .ok (.goto 4, 3) := dk_167 0 4 (dk_at dksX4_steps_2 12 rfl rfl)
theorem dX4_steps_60 : decode cX4_steps 60 = .ok (.iconst 0, 1) := dk_3 (dk_at dksX4_steps_2 15 rfl rfl)
theorem dX4_steps_61 : decode cX4_steps 61 = .ok (.ireturn, 1) := dk_172 (dk_at dksX4_steps_2 16 rfl rfl)
abbrev cX4_digit : ByteArray := prog_6_method_4_code
def yX4_digit : MethodName := ⟨RX4, "digit", "(II)I"⟩
def dkwX4_digit_1 : List UInt8 := [153, 0, 7, 29, 167, 0, 4, 27, 172]
abbrev dktX4_digit_1 : List UInt8 := dkwX4_digit_1 ++ []
def dkwX4_digit_0 : List UInt8 := [42, 182, 0, 33, 16, 48, 100, 62, 42, 29, 27, 28, 184, 0, 37, 182, 0, 41, 42, 180, 0, 18]
abbrev dktX4_digit_0 : List UInt8 := dkwX4_digit_0 ++ dktX4_digit_1
theorem dksX4_digit_0 : cX4_digit.data.toList.drop 0 = dktX4_digit_0 := by decide +kernel
theorem dksX4_digit_1 : cX4_digit.data.toList.drop 22 = dktX4_digit_1 := dk_seg dksX4_digit_0 22 rfl rfl
theorem dX4_digit_0 : decode cX4_digit 0 = .ok (.aload_n 0, 1) := dk_42 (dk_at dksX4_digit_0 0 rfl rfl)
theorem dX4_digit_1 : decode cX4_digit 1 = .ok (.invokevirtual 33, 3) := dk_182 0 33 (dk_at dksX4_digit_0 1 rfl rfl)
theorem dX4_digit_4 : decode cX4_digit 4 = .ok (.bipush 48, 2) := dk_16 48 (dk_at dksX4_digit_0 4 rfl rfl)
theorem dX4_digit_6 : decode cX4_digit 6 = .ok (.isub, 1) := dk_100 (dk_at dksX4_digit_0 6 rfl rfl)
theorem dX4_digit_7 : decode cX4_digit 7 = .ok (.istore_n 3, 1) := dk_62 (dk_at dksX4_digit_0 7 rfl rfl)
theorem dX4_digit_8 : decode cX4_digit 8 = .ok (.aload_n 0, 1) := dk_42 (dk_at dksX4_digit_0 8 rfl rfl)
theorem dX4_digit_9 : decode cX4_digit 9 = .ok (.iload_n 3, 1) := dk_29 (dk_at dksX4_digit_0 9 rfl rfl)
theorem dX4_digit_10 : decode cX4_digit 10 = .ok (.iload_n 1, 1) := dk_27 (dk_at dksX4_digit_0 10 rfl rfl)
theorem dX4_digit_11 : decode cX4_digit 11 = .ok (.iload_n 2, 1) := dk_28 (dk_at dksX4_digit_0 11 rfl rfl)
theorem dX4_digit_12 : decode cX4_digit 12 = .ok (.invokestatic 37, 3) := dk_184 0 37 (dk_at dksX4_digit_0 12 rfl rfl)
theorem dX4_digit_15 : decode cX4_digit 15 = .ok (.invokevirtual 41, 3) := dk_182 0 41 (dk_at dksX4_digit_0 15 rfl rfl)
theorem dX4_digit_18 : decode cX4_digit 18 = .ok (.aload_n 0, 1) := dk_42 (dk_at dksX4_digit_0 18 rfl rfl)
theorem dX4_digit_19 : decode cX4_digit 19 = .ok (.getfield 18, 3) := dk_180 0 18 (dk_at dksX4_digit_0 19 rfl rfl)
theorem dX4_digit_22 : decode cX4_digit 22 = .ok (.ifCond .eq 7, 3) := dk_153 0 7 (dk_at dksX4_digit_1 0 rfl rfl)
theorem dX4_digit_25 : decode cX4_digit 25 = .ok (.iload_n 3, 1) := dk_29 (dk_at dksX4_digit_1 3 rfl rfl)
theorem dX4_digit_26 : decode cX4_digit 26 = .ok (.goto 4, 3) := dk_167 0 4 (dk_at dksX4_digit_1 4 rfl rfl)
theorem dX4_digit_29 : decode cX4_digit 29 = .ok (.iload_n 1, 1) := dk_27 (dk_at dksX4_digit_1 7 rfl rfl)
theorem dX4_digit_30 : decode cX4_digit 30 = .ok (.ireturn, 1) := dk_172 (dk_at dksX4_digit_1 8 rfl rfl)
abbrev cX4_two : ByteArray := prog_6_method_5_code
def yX4_two : MethodName := ⟨RX4, "two", "(II)I"⟩
def dkwX4_two_1 : List UInt8 := [29, 28, 16, 10, 108, 160, 0, 10, 28, 16, 10, 112, 167, 0, 5, 16, 9, 182, 0, 45, 96, 172]
abbrev dktX4_two_1 : List UInt8 := dkwX4_two_1 ++ []
def dkwX4_two_0 : List UInt8 := [42, 3, 28, 16, 10, 108, 182, 0, 45, 62, 16, 10, 29, 104, 42, 29, 154, 0, 7, 27, 167, 0, 4, 3]
abbrev dktX4_two_0 : List UInt8 := dkwX4_two_0 ++ dktX4_two_1
theorem dksX4_two_0 : cX4_two.data.toList.drop 0 = dktX4_two_0 := by decide +kernel
theorem dksX4_two_1 : cX4_two.data.toList.drop 24 = dktX4_two_1 := dk_seg dksX4_two_0 24 rfl rfl
theorem dX4_two_0 : decode cX4_two 0 = .ok (.aload_n 0, 1) := dk_42 (dk_at dksX4_two_0 0 rfl rfl)
theorem dX4_two_1 : decode cX4_two 1 = .ok (.iconst 0, 1) := dk_3 (dk_at dksX4_two_0 1 rfl rfl)
theorem dX4_two_2 : decode cX4_two 2 = .ok (.iload_n 2, 1) := dk_28 (dk_at dksX4_two_0 2 rfl rfl)
theorem dX4_two_3 : decode cX4_two 3 = .ok (.bipush 10, 2) := dk_16 10 (dk_at dksX4_two_0 3 rfl rfl)
theorem dX4_two_5 : decode cX4_two 5 = .ok (.idiv, 1) := dk_108 (dk_at dksX4_two_0 5 rfl rfl)
theorem dX4_two_6 : decode cX4_two 6 = .ok (.invokevirtual 45, 3) := dk_182 0 45 (dk_at dksX4_two_0 6 rfl rfl)
theorem dX4_two_9 : decode cX4_two 9 = .ok (.istore_n 3, 1) := dk_62 (dk_at dksX4_two_0 9 rfl rfl)
theorem dX4_two_10 : decode cX4_two 10 = .ok (.bipush 10, 2) := dk_16 10 (dk_at dksX4_two_0 10 rfl rfl)
theorem dX4_two_12 : decode cX4_two 12 = .ok (.iload_n 3, 1) := dk_29 (dk_at dksX4_two_0 12 rfl rfl)
theorem dX4_two_13 : decode cX4_two 13 = .ok (.imul, 1) := dk_104 (dk_at dksX4_two_0 13 rfl rfl)
theorem dX4_two_14 : decode cX4_two 14 = .ok (.aload_n 0, 1) := dk_42 (dk_at dksX4_two_0 14 rfl rfl)
theorem dX4_two_15 : decode cX4_two 15 = .ok (.iload_n 3, 1) := dk_29 (dk_at dksX4_two_0 15 rfl rfl)
theorem dX4_two_16 : decode cX4_two 16 = .ok (.ifCond .ne 7, 3) := dk_154 0 7 (dk_at dksX4_two_0 16 rfl rfl)
theorem dX4_two_19 : decode cX4_two 19 = .ok (.iload_n 1, 1) := dk_27 (dk_at dksX4_two_0 19 rfl rfl)
theorem dX4_two_20 : decode cX4_two 20 = .ok (.goto 4, 3) := dk_167 0 4 (dk_at dksX4_two_0 20 rfl rfl)
theorem dX4_two_23 : decode cX4_two 23 = .ok (.iconst 0, 1) := dk_3 (dk_at dksX4_two_0 23 rfl rfl)
theorem dX4_two_24 : decode cX4_two 24 = .ok (.iload_n 3, 1) := dk_29 (dk_at dksX4_two_1 0 rfl rfl)
theorem dX4_two_25 : decode cX4_two 25 = .ok (.iload_n 2, 1) := dk_28 (dk_at dksX4_two_1 1 rfl rfl)
theorem dX4_two_26 : decode cX4_two 26 = .ok (.bipush 10, 2) := dk_16 10 (dk_at dksX4_two_1 2 rfl rfl)
theorem dX4_two_28 : decode cX4_two 28 = .ok (.idiv, 1) := dk_108 (dk_at dksX4_two_1 4 rfl rfl)
theorem dX4_two_29 : decode cX4_two 29 = .ok (.if_icmp .ne 10, 3) := dk_160 0 10 (dk_at dksX4_two_1 5 rfl rfl)
theorem dX4_two_32 : decode cX4_two 32 = .ok (.iload_n 2, 1) := dk_28 (dk_at dksX4_two_1 8 rfl rfl)
theorem dX4_two_33 : decode cX4_two 33 = .ok (.bipush 10, 2) := dk_16 10 (dk_at dksX4_two_1 9 rfl rfl)
theorem dX4_two_35 : decode cX4_two 35 = .ok (.irem, 1) := dk_112 (dk_at dksX4_two_1 11 rfl rfl)
theorem dX4_two_36 : decode cX4_two 36 = .ok (.goto 5, 3) := dk_167 0 5 (dk_at dksX4_two_1 12 rfl rfl)
theorem dX4_two_39 : decode cX4_two 39 = .ok (.bipush 9, 2) := dk_16 9 (dk_at dksX4_two_1 15 rfl rfl)
theorem dX4_two_41 : decode cX4_two 41 = .ok (.invokevirtual 45, 3) := dk_182 0 45 (dk_at dksX4_two_1 17 rfl rfl)
theorem dX4_two_44 : decode cX4_two 44 = .ok (.iadd, 1) := dk_96 (dk_at dksX4_two_1 20 rfl rfl)
theorem dX4_two_45 : decode cX4_two 45 = .ok (.ireturn, 1) := dk_172 (dk_at dksX4_two_1 21 rfl rfl)
abbrev cX4_goes : ByteArray := prog_6_method_8_code
def yX4_goes : MethodName := ⟨RX4, "goes", "(Z)Z"⟩
def dkwX4_goes_1 : List UInt8 := [181, 0, 52, 42, 180, 0, 18, 153, 0, 11, 27, 153, 0, 7, 4, 167, 0, 4, 3, 172]
abbrev dktX4_goes_1 : List UInt8 := dkwX4_goes_1 ++ []
def dkwX4_goes_0 : List UInt8 := [42, 89, 180, 0, 52, 42, 180, 0, 18, 153, 0, 11, 27, 154, 0, 7, 4, 167, 0, 4, 3, 96]
abbrev dktX4_goes_0 : List UInt8 := dkwX4_goes_0 ++ dktX4_goes_1
theorem dksX4_goes_0 : cX4_goes.data.toList.drop 0 = dktX4_goes_0 := by decide +kernel
theorem dksX4_goes_1 : cX4_goes.data.toList.drop 22 = dktX4_goes_1 := dk_seg dksX4_goes_0 22 rfl rfl
theorem dX4_goes_0 : decode cX4_goes 0 = .ok (.aload_n 0, 1) := dk_42 (dk_at dksX4_goes_0 0 rfl rfl)
theorem dX4_goes_1 : decode cX4_goes 1 = .ok (.dup, 1) := dk_89 (dk_at dksX4_goes_0 1 rfl rfl)
theorem dX4_goes_2 : decode cX4_goes 2 = .ok (.getfield 52, 3) := dk_180 0 52 (dk_at dksX4_goes_0 2 rfl rfl)
theorem dX4_goes_5 : decode cX4_goes 5 = .ok (.aload_n 0, 1) := dk_42 (dk_at dksX4_goes_0 5 rfl rfl)
theorem dX4_goes_6 : decode cX4_goes 6 = .ok (.getfield 18, 3) := dk_180 0 18 (dk_at dksX4_goes_0 6 rfl rfl)
theorem dX4_goes_9 : decode cX4_goes 9 = .ok (.ifCond .eq 11, 3) := dk_153 0 11 (dk_at dksX4_goes_0 9 rfl rfl)
theorem dX4_goes_12 : decode cX4_goes 12 = .ok (.iload_n 1, 1) := dk_27 (dk_at dksX4_goes_0 12 rfl rfl)
theorem dX4_goes_13 : decode cX4_goes 13 = .ok (.ifCond .ne 7, 3) := dk_154 0 7 (dk_at dksX4_goes_0 13 rfl rfl)
theorem dX4_goes_16 : decode cX4_goes 16 = .ok (.iconst 1, 1) := dk_4 (dk_at dksX4_goes_0 16 rfl rfl)
theorem dX4_goes_17 : decode cX4_goes 17 = .ok (.goto 4, 3) := dk_167 0 4 (dk_at dksX4_goes_0 17 rfl rfl)
theorem dX4_goes_20 : decode cX4_goes 20 = .ok (.iconst 0, 1) := dk_3 (dk_at dksX4_goes_0 20 rfl rfl)
theorem dX4_goes_21 : decode cX4_goes 21 = .ok (.iadd, 1) := dk_96 (dk_at dksX4_goes_0 21 rfl rfl)
theorem dX4_goes_22 : decode cX4_goes 22 = .ok (.putfield 52, 3) := dk_181 0 52 (dk_at dksX4_goes_1 0 rfl rfl)
theorem dX4_goes_25 : decode cX4_goes 25 = .ok (.aload_n 0, 1) := dk_42 (dk_at dksX4_goes_1 3 rfl rfl)
theorem dX4_goes_26 : decode cX4_goes 26 = .ok (.getfield 18, 3) := dk_180 0 18 (dk_at dksX4_goes_1 4 rfl rfl)
theorem dX4_goes_29 : decode cX4_goes 29 = .ok (.ifCond .eq 11, 3) := dk_153 0 11 (dk_at dksX4_goes_1 7 rfl rfl)
theorem dX4_goes_32 : decode cX4_goes 32 = .ok (.iload_n 1, 1) := dk_27 (dk_at dksX4_goes_1 10 rfl rfl)
theorem dX4_goes_33 : decode cX4_goes 33 = .ok (.ifCond .eq 7, 3) := dk_153 0 7 (dk_at dksX4_goes_1 11 rfl rfl)
theorem dX4_goes_36 : decode cX4_goes 36 = .ok (.iconst 1, 1) := dk_4 (dk_at dksX4_goes_1 14 rfl rfl)
theorem dX4_goes_37 : decode cX4_goes 37 = .ok (.goto 4, 3) := dk_167 0 4 (dk_at dksX4_goes_1 15 rfl rfl)
theorem dX4_goes_40 : decode cX4_goes 40 = .ok (.iconst 0, 1) := dk_3 (dk_at dksX4_goes_1 18 rfl rfl)
theorem dX4_goes_41 : decode cX4_goes 41 = .ok (.ireturn, 1) := dk_172 (dk_at dksX4_goes_1 19 rfl rfl)
abbrev cX4_scaled : ByteArray := prog_6_method_10_code
def yX4_scaled : MethodName := ⟨RX4, "scaled", "()I"⟩
def dkwX4_scaled_3 : List UInt8 := [180, 0, 12, 27, 182, 0, 82, 28, 29, 183, 0, 86, 182, 0, 68, 167, 0, 4, 3, 172]
abbrev dktX4_scaled_3 : List UInt8 := dkwX4_scaled_3 ++ []
def dkwX4_scaled_2 : List UInt8 := [153, 0, 7, 4, 167, 0, 4, 3, 182, 0, 59, 153, 0, 30, 42, 180, 0, 12, 187, 0, 80, 89, 42]
abbrev dktX4_scaled_2 : List UInt8 := dkwX4_scaled_2 ++ dktX4_scaled_3
def dkwX4_scaled_1 : List UInt8 := [180, 0, 18, 153, 0, 28, 42, 180, 0, 12, 27, 182, 0, 76, 153, 0, 17, 42, 180, 0, 12, 182, 0, 55]
abbrev dktX4_scaled_1 : List UInt8 := dkwX4_scaled_1 ++ dktX4_scaled_2
def dkwX4_scaled_0 : List UInt8 := [42, 182, 0, 72, 60, 42, 4, 16, 9, 182, 0, 45, 61, 42, 3, 16, 99, 182, 0, 49, 62, 42, 42]
abbrev dktX4_scaled_0 : List UInt8 := dkwX4_scaled_0 ++ dktX4_scaled_1
theorem dksX4_scaled_0 : cX4_scaled.data.toList.drop 0 = dktX4_scaled_0 := by decide +kernel
theorem dksX4_scaled_1 : cX4_scaled.data.toList.drop 23 = dktX4_scaled_1 := dk_seg dksX4_scaled_0 23 rfl rfl
theorem dksX4_scaled_2 : cX4_scaled.data.toList.drop 47 = dktX4_scaled_2 := dk_seg dksX4_scaled_1 24 rfl rfl
theorem dksX4_scaled_3 : cX4_scaled.data.toList.drop 70 = dktX4_scaled_3 := dk_seg dksX4_scaled_2 23 rfl rfl
theorem dX4_scaled_0 : decode cX4_scaled 0 = .ok (.aload_n 0, 1) := dk_42 (dk_at dksX4_scaled_0 0 rfl rfl)
theorem dX4_scaled_1 : decode cX4_scaled 1 = .ok (.invokevirtual 72, 3) := dk_182 0 72 (dk_at dksX4_scaled_0 1 rfl rfl)
theorem dX4_scaled_4 : decode cX4_scaled 4 = .ok (.istore_n 1, 1) := dk_60 (dk_at dksX4_scaled_0 4 rfl rfl)
theorem dX4_scaled_5 : decode cX4_scaled 5 = .ok (.aload_n 0, 1) := dk_42 (dk_at dksX4_scaled_0 5 rfl rfl)
theorem dX4_scaled_6 : decode cX4_scaled 6 = .ok (.iconst 1, 1) := dk_4 (dk_at dksX4_scaled_0 6 rfl rfl)
theorem dX4_scaled_7 : decode cX4_scaled 7 = .ok (.bipush 9, 2) := dk_16 9 (dk_at dksX4_scaled_0 7 rfl rfl)
theorem dX4_scaled_9 : decode cX4_scaled 9 = .ok (.invokevirtual 45, 3) := dk_182 0 45 (dk_at dksX4_scaled_0 9 rfl rfl)
theorem dX4_scaled_12 : decode cX4_scaled 12 = .ok (.istore_n 2, 1) := dk_61 (dk_at dksX4_scaled_0 12 rfl rfl)
theorem dX4_scaled_13 : decode cX4_scaled 13 = .ok (.aload_n 0, 1) := dk_42 (dk_at dksX4_scaled_0 13 rfl rfl)
theorem dX4_scaled_14 : decode cX4_scaled 14 = .ok (.iconst 0, 1) := dk_3 (dk_at dksX4_scaled_0 14 rfl rfl)
theorem dX4_scaled_15 : decode cX4_scaled 15 = .ok (.bipush 99, 2) := dk_16 99 (dk_at dksX4_scaled_0 15 rfl rfl)
theorem dX4_scaled_17 : decode cX4_scaled 17 = .ok (.invokevirtual 49, 3) := dk_182 0 49 (dk_at dksX4_scaled_0 17 rfl rfl)
theorem dX4_scaled_20 : decode cX4_scaled 20 = .ok (.istore_n 3, 1) := dk_62 (dk_at dksX4_scaled_0 20 rfl rfl)
theorem dX4_scaled_21 : decode cX4_scaled 21 = .ok (.aload_n 0, 1) := dk_42 (dk_at dksX4_scaled_0 21 rfl rfl)
theorem dX4_scaled_22 : decode cX4_scaled 22 = .ok (.aload_n 0, 1) := dk_42 (dk_at dksX4_scaled_0 22 rfl rfl)
theorem dX4_scaled_23 : decode cX4_scaled 23 = .ok (.getfield 18, 3) := dk_180 0 18 (dk_at dksX4_scaled_1 0 rfl rfl)
theorem dX4_scaled_26 : decode cX4_scaled 26 = .ok (.ifCond .eq 28, 3) := dk_153 0 28 (dk_at dksX4_scaled_1 3 rfl rfl)
theorem dX4_scaled_29 : decode cX4_scaled 29 = .ok (.aload_n 0, 1) := dk_42 (dk_at dksX4_scaled_1 6 rfl rfl)
theorem dX4_scaled_30 : decode cX4_scaled 30 = .ok (.getfield 12, 3) := dk_180 0 12 (dk_at dksX4_scaled_1 7 rfl rfl)
theorem dX4_scaled_33 : decode cX4_scaled 33 = .ok (.iload_n 1, 1) := dk_27 (dk_at dksX4_scaled_1 10 rfl rfl)
theorem dX4_scaled_34 : decode cX4_scaled 34 = .ok (.invokevirtual 76, 3) := dk_182 0 76 (dk_at dksX4_scaled_1 11 rfl rfl)
theorem dX4_scaled_37 : decode cX4_scaled 37 = .ok (.ifCond .eq 17, 3) := dk_153 0 17 (dk_at dksX4_scaled_1 14 rfl rfl)
theorem dX4_scaled_40 : decode cX4_scaled 40 = .ok (.aload_n 0, 1) := dk_42 (dk_at dksX4_scaled_1 17 rfl rfl)
theorem dX4_scaled_41 : decode cX4_scaled 41 = .ok (.getfield 12, 3) := dk_180 0 12 (dk_at dksX4_scaled_1 18 rfl rfl)
theorem dX4_scaled_44 : decode cX4_scaled 44 = .ok (.invokevirtual 55, 3) := dk_182 0 55 (dk_at dksX4_scaled_1 21 rfl rfl)
theorem dX4_scaled_47 : decode cX4_scaled 47 = .ok (.ifCond .eq 7, 3) := dk_153 0 7 (dk_at dksX4_scaled_2 0 rfl rfl)
theorem dX4_scaled_50 : decode cX4_scaled 50 = .ok (.iconst 1, 1) := dk_4 (dk_at dksX4_scaled_2 3 rfl rfl)
theorem dX4_scaled_51 : decode cX4_scaled 51 = .ok (.goto 4, 3) := dk_167 0 4 (dk_at dksX4_scaled_2 4 rfl rfl)
theorem dX4_scaled_54 : decode cX4_scaled 54 = .ok (.iconst 0, 1) := dk_3 (dk_at dksX4_scaled_2 7 rfl rfl)
theorem dX4_scaled_55 : decode cX4_scaled 55 = .ok (.invokevirtual 59, 3) := dk_182 0 59 (dk_at dksX4_scaled_2 8 rfl rfl)
theorem dX4_scaled_58 : decode cX4_scaled 58 = .ok (.ifCond .eq 30, 3) := dk_153 0 30 (dk_at dksX4_scaled_2 11 rfl rfl)
theorem dX4_scaled_61 : decode cX4_scaled 61 = .ok (.aload_n 0, 1) := dk_42 (dk_at dksX4_scaled_2 14 rfl rfl)
theorem dX4_scaled_62 : decode cX4_scaled 62 = .ok (.getfield 12, 3) := dk_180 0 12 (dk_at dksX4_scaled_2 15 rfl rfl)
theorem dX4_scaled_65 : decode cX4_scaled 65 = .ok (.new 80, 3) := dk_187 0 80 (dk_at dksX4_scaled_2 18 rfl rfl)
theorem dX4_scaled_68 : decode cX4_scaled 68 = .ok (.dup, 1) := dk_89 (dk_at dksX4_scaled_2 21 rfl rfl)
theorem dX4_scaled_69 : decode cX4_scaled 69 = .ok (.aload_n 0, 1) := dk_42 (dk_at dksX4_scaled_2 22 rfl rfl)
theorem dX4_scaled_70 : decode cX4_scaled 70 = .ok (.getfield 12, 3) := dk_180 0 12 (dk_at dksX4_scaled_3 0 rfl rfl)
theorem dX4_scaled_73 : decode cX4_scaled 73 = .ok (.iload_n 1, 1) := dk_27 (dk_at dksX4_scaled_3 3 rfl rfl)
theorem dX4_scaled_74 : decode cX4_scaled 74 = .ok (.invokevirtual 82, 3) := dk_182 0 82 (dk_at dksX4_scaled_3 4 rfl rfl)
theorem dX4_scaled_77 : decode cX4_scaled 77 = .ok (.iload_n 2, 1) := dk_28 (dk_at dksX4_scaled_3 7 rfl rfl)
theorem dX4_scaled_78 : decode cX4_scaled 78 = .ok (.iload_n 3, 1) := dk_29 (dk_at dksX4_scaled_3 8 rfl rfl)
theorem dX4_scaled_79 : decode cX4_scaled 79 = .ok (.invokespecial 86, 3) := dk_183 0 86 (dk_at dksX4_scaled_3 9 rfl rfl)
theorem dX4_scaled_82 : decode cX4_scaled 82 = .ok (.invokevirtual 68, 3) := dk_182 0 68 (dk_at dksX4_scaled_3 12 rfl rfl)
theorem dX4_scaled_85 : decode cX4_scaled 85 = .ok (.goto 4, 3) := dk_167 0 4 (dk_at dksX4_scaled_3 15 rfl rfl)
theorem dX4_scaled_88 : decode cX4_scaled 88 = .ok (.iconst 0, 1) := dk_3 (dk_at dksX4_scaled_3 18 rfl rfl)
theorem dX4_scaled_89 : decode cX4_scaled 89 = .ok (.ireturn, 1) := dk_172 (dk_at dksX4_scaled_3 19 rfl rfl)
abbrev cX4_listNumber : ByteArray := prog_6_method_6_code
def yX4_listNumber : MethodName := ⟨RX4, "listNumber", "()I"⟩
def dkwX4_listNumber_0 : List UInt8 := [42, 3, 16, 11, 182, 0, 49, 172]
abbrev dktX4_listNumber_0 : List UInt8 := dkwX4_listNumber_0 ++ []
theorem dksX4_listNumber_0 : cX4_listNumber.data.toList.drop 0 = dktX4_listNumber_0 := by decide +kernel
theorem dX4_listNumber_0 : decode cX4_listNumber 0 = .ok (.aload_n 0, 1) := dk_42 (dk_at dksX4_listNumber_0 0 rfl rfl)
theorem dX4_listNumber_1 : decode cX4_listNumber 1 = .ok (.iconst 0, 1) := dk_3 (dk_at dksX4_listNumber_0 1 rfl rfl)
theorem dX4_listNumber_2 : decode cX4_listNumber 2 = .ok (.bipush 11, 2) := dk_16 11 (dk_at dksX4_listNumber_0 2 rfl rfl)
theorem dX4_listNumber_4 : decode cX4_listNumber 4 = .ok (.invokevirtual 49, 3) := dk_182 0 49 (dk_at dksX4_listNumber_0 4 rfl rfl)
theorem dX4_listNumber_7 : decode cX4_listNumber 7 = .ok (.ireturn, 1) := dk_172 (dk_at dksX4_listNumber_0 7 rfl rfl)
abbrev cX4_ofTwo : ByteArray := prog_6_method_11_code
def yX4_ofTwo : MethodName := ⟨RX4, "ofTwo", "(C)I"⟩
def dkwX4_ofTwo_6 : List UInt8 := [172]
abbrev dktX4_ofTwo_6 : List UInt8 := dkwX4_ofTwo_6 ++ []
def dkwX4_ofTwo_5 : List UInt8 := [25, 4, 25, 5, 183, 0, 96, 167, 0, 14, 187, 0, 97, 89, 25, 4, 25, 5, 183, 0, 99, 182, 0, 68]
abbrev dktX4_ofTwo_5 : List UInt8 := dkwX4_ofTwo_5 ++ dktX4_ofTwo_6
def dkwX4_ofTwo_4 : List UInt8 := [187, 0, 89, 89, 25, 4, 25, 5, 183, 0, 91, 167, 0, 34, 27, 16, 104, 160, 0, 17, 187, 0, 94, 89]
abbrev dktX4_ofTwo_4 : List UInt8 := dkwX4_ofTwo_4 ++ dktX4_ofTwo_5
def dkwX4_ofTwo_3 : List UInt8 := [58, 4, 42, 180, 0, 12, 29, 182, 0, 82, 58, 5, 42, 180, 0, 12, 27, 16, 106, 160, 0, 17]
abbrev dktX4_ofTwo_3 : List UInt8 := dkwX4_ofTwo_3 ++ dktX4_ofTwo_4
def dkwX4_ofTwo_2 : List UInt8 := [153, 0, 7, 4, 167, 0, 4, 3, 182, 0, 59, 154, 0, 5, 3, 172, 42, 180, 0, 12, 28, 182, 0, 82]
abbrev dktX4_ofTwo_2 : List UInt8 := dkwX4_ofTwo_2 ++ dktX4_ofTwo_3
def dkwX4_ofTwo_1 : List UInt8 := [182, 0, 76, 153, 0, 28, 42, 180, 0, 12, 29, 182, 0, 76, 153, 0, 17, 42, 180, 0, 12, 182, 0, 55]
abbrev dktX4_ofTwo_1 : List UInt8 := dkwX4_ofTwo_1 ++ dktX4_ofTwo_2
def dkwX4_ofTwo_0 : List UInt8 := [42, 182, 0, 72, 61, 42, 182, 0, 72, 62, 42, 42, 180, 0, 18, 153, 0, 39, 42, 180, 0, 12, 28]
abbrev dktX4_ofTwo_0 : List UInt8 := dkwX4_ofTwo_0 ++ dktX4_ofTwo_1
theorem dksX4_ofTwo_0 : cX4_ofTwo.data.toList.drop 0 = dktX4_ofTwo_0 := by decide +kernel
theorem dksX4_ofTwo_1 : cX4_ofTwo.data.toList.drop 23 = dktX4_ofTwo_1 := dk_seg dksX4_ofTwo_0 23 rfl rfl
theorem dksX4_ofTwo_2 : cX4_ofTwo.data.toList.drop 47 = dktX4_ofTwo_2 := dk_seg dksX4_ofTwo_1 24 rfl rfl
theorem dksX4_ofTwo_3 : cX4_ofTwo.data.toList.drop 71 = dktX4_ofTwo_3 := dk_seg dksX4_ofTwo_2 24 rfl rfl
theorem dksX4_ofTwo_4 : cX4_ofTwo.data.toList.drop 93 = dktX4_ofTwo_4 := dk_seg dksX4_ofTwo_3 22 rfl rfl
theorem dksX4_ofTwo_5 : cX4_ofTwo.data.toList.drop 117 = dktX4_ofTwo_5 := dk_seg dksX4_ofTwo_4 24 rfl rfl
theorem dksX4_ofTwo_6 : cX4_ofTwo.data.toList.drop 141 = dktX4_ofTwo_6 := dk_seg dksX4_ofTwo_5 24 rfl rfl
theorem dX4_ofTwo_0 : decode cX4_ofTwo 0 = .ok (.aload_n 0, 1) := dk_42 (dk_at dksX4_ofTwo_0 0 rfl rfl)
theorem dX4_ofTwo_1 : decode cX4_ofTwo 1 = .ok (.invokevirtual 72, 3) := dk_182 0 72 (dk_at dksX4_ofTwo_0 1 rfl rfl)
theorem dX4_ofTwo_4 : decode cX4_ofTwo 4 = .ok (.istore_n 2, 1) := dk_61 (dk_at dksX4_ofTwo_0 4 rfl rfl)
theorem dX4_ofTwo_5 : decode cX4_ofTwo 5 = .ok (.aload_n 0, 1) := dk_42 (dk_at dksX4_ofTwo_0 5 rfl rfl)
theorem dX4_ofTwo_6 : decode cX4_ofTwo 6 = .ok (.invokevirtual 72, 3) := dk_182 0 72 (dk_at dksX4_ofTwo_0 6 rfl rfl)
theorem dX4_ofTwo_9 : decode cX4_ofTwo 9 = .ok (.istore_n 3, 1) := dk_62 (dk_at dksX4_ofTwo_0 9 rfl rfl)
theorem dX4_ofTwo_10 : decode cX4_ofTwo 10 = .ok (.aload_n 0, 1) := dk_42 (dk_at dksX4_ofTwo_0 10 rfl rfl)
theorem dX4_ofTwo_11 : decode cX4_ofTwo 11 = .ok (.aload_n 0, 1) := dk_42 (dk_at dksX4_ofTwo_0 11 rfl rfl)
theorem dX4_ofTwo_12 : decode cX4_ofTwo 12 = .ok (.getfield 18, 3) := dk_180 0 18 (dk_at dksX4_ofTwo_0 12 rfl rfl)
theorem dX4_ofTwo_15 : decode cX4_ofTwo 15 = .ok (.ifCond .eq 39, 3) := dk_153 0 39 (dk_at dksX4_ofTwo_0 15 rfl rfl)
theorem dX4_ofTwo_18 : decode cX4_ofTwo 18 = .ok (.aload_n 0, 1) := dk_42 (dk_at dksX4_ofTwo_0 18 rfl rfl)
theorem dX4_ofTwo_19 : decode cX4_ofTwo 19 = .ok (.getfield 12, 3) := dk_180 0 12 (dk_at dksX4_ofTwo_0 19 rfl rfl)
theorem dX4_ofTwo_22 : decode cX4_ofTwo 22 = .ok (.iload_n 2, 1) := dk_28 (dk_at dksX4_ofTwo_0 22 rfl rfl)
theorem dX4_ofTwo_23 : decode cX4_ofTwo 23 = .ok (.invokevirtual 76, 3) := dk_182 0 76 (dk_at dksX4_ofTwo_1 0 rfl rfl)
theorem dX4_ofTwo_26 : decode cX4_ofTwo 26 = .ok (.ifCond .eq 28, 3) := dk_153 0 28 (dk_at dksX4_ofTwo_1 3 rfl rfl)
theorem dX4_ofTwo_29 : decode cX4_ofTwo 29 = .ok (.aload_n 0, 1) := dk_42 (dk_at dksX4_ofTwo_1 6 rfl rfl)
theorem dX4_ofTwo_30 : decode cX4_ofTwo 30 = .ok (.getfield 12, 3) := dk_180 0 12 (dk_at dksX4_ofTwo_1 7 rfl rfl)
theorem dX4_ofTwo_33 : decode cX4_ofTwo 33 = .ok (.iload_n 3, 1) := dk_29 (dk_at dksX4_ofTwo_1 10 rfl rfl)
theorem dX4_ofTwo_34 : decode cX4_ofTwo 34 = .ok (.invokevirtual 76, 3) := dk_182 0 76 (dk_at dksX4_ofTwo_1 11 rfl rfl)
theorem dX4_ofTwo_37 : decode cX4_ofTwo 37 = .ok (.ifCond .eq 17, 3) := dk_153 0 17 (dk_at dksX4_ofTwo_1 14 rfl rfl)
theorem dX4_ofTwo_40 : decode cX4_ofTwo 40 = .ok (.aload_n 0, 1) := dk_42 (dk_at dksX4_ofTwo_1 17 rfl rfl)
theorem dX4_ofTwo_41 : decode cX4_ofTwo 41 = .ok (.getfield 12, 3) := dk_180 0 12 (dk_at dksX4_ofTwo_1 18 rfl rfl)
theorem dX4_ofTwo_44 : decode cX4_ofTwo 44 = .ok (.invokevirtual 55, 3) := dk_182 0 55 (dk_at dksX4_ofTwo_1 21 rfl rfl)
theorem dX4_ofTwo_47 : decode cX4_ofTwo 47 = .ok (.ifCond .eq 7, 3) := dk_153 0 7 (dk_at dksX4_ofTwo_2 0 rfl rfl)
theorem dX4_ofTwo_50 : decode cX4_ofTwo 50 = .ok (.iconst 1, 1) := dk_4 (dk_at dksX4_ofTwo_2 3 rfl rfl)
theorem dX4_ofTwo_51 : decode cX4_ofTwo 51 = .ok (.goto 4, 3) := dk_167 0 4 (dk_at dksX4_ofTwo_2 4 rfl rfl)
theorem dX4_ofTwo_54 : decode cX4_ofTwo 54 = .ok (.iconst 0, 1) := dk_3 (dk_at dksX4_ofTwo_2 7 rfl rfl)
theorem dX4_ofTwo_55 : decode cX4_ofTwo 55 = .ok (.invokevirtual 59, 3) := dk_182 0 59 (dk_at dksX4_ofTwo_2 8 rfl rfl)
theorem dX4_ofTwo_58 : decode cX4_ofTwo 58 = .ok (.ifCond .ne 5, 3) := dk_154 0 5 (dk_at dksX4_ofTwo_2 11 rfl rfl)
theorem dX4_ofTwo_61 : decode cX4_ofTwo 61 = .ok (.iconst 0, 1) := dk_3 (dk_at dksX4_ofTwo_2 14 rfl rfl)
theorem dX4_ofTwo_62 : decode cX4_ofTwo 62 = .ok (.ireturn, 1) := dk_172 (dk_at dksX4_ofTwo_2 15 rfl rfl)
theorem dX4_ofTwo_63 : decode cX4_ofTwo 63 = .ok (.aload_n 0, 1) := dk_42 (dk_at dksX4_ofTwo_2 16 rfl rfl)
theorem dX4_ofTwo_64 : decode cX4_ofTwo 64 = .ok (.getfield 12, 3) := dk_180 0 12 (dk_at dksX4_ofTwo_2 17 rfl rfl)
theorem dX4_ofTwo_67 : decode cX4_ofTwo 67 = .ok (.iload_n 2, 1) := dk_28 (dk_at dksX4_ofTwo_2 20 rfl rfl)
theorem dX4_ofTwo_68 : decode cX4_ofTwo 68 = .ok (.invokevirtual 82, 3) := dk_182 0 82 (dk_at dksX4_ofTwo_2 21 rfl rfl)
theorem dX4_ofTwo_71 : decode cX4_ofTwo 71 = .ok (.astore 4, 2) := dk_58 4 (dk_at dksX4_ofTwo_3 0 rfl rfl)
theorem dX4_ofTwo_73 : decode cX4_ofTwo 73 = .ok (.aload_n 0, 1) := dk_42 (dk_at dksX4_ofTwo_3 2 rfl rfl)
theorem dX4_ofTwo_74 : decode cX4_ofTwo 74 = .ok (.getfield 12, 3) := dk_180 0 12 (dk_at dksX4_ofTwo_3 3 rfl rfl)
theorem dX4_ofTwo_77 : decode cX4_ofTwo 77 = .ok (.iload_n 3, 1) := dk_29 (dk_at dksX4_ofTwo_3 6 rfl rfl)
theorem dX4_ofTwo_78 : decode cX4_ofTwo 78 = .ok (.invokevirtual 82, 3) := dk_182 0 82 (dk_at dksX4_ofTwo_3 7 rfl rfl)
theorem dX4_ofTwo_81 : decode cX4_ofTwo 81 = .ok (.astore 5, 2) := dk_58 5 (dk_at dksX4_ofTwo_3 10 rfl rfl)
theorem dX4_ofTwo_83 : decode cX4_ofTwo 83 = .ok (.aload_n 0, 1) := dk_42 (dk_at dksX4_ofTwo_3 12 rfl rfl)
theorem dX4_ofTwo_84 : decode cX4_ofTwo 84 = .ok (.getfield 12, 3) := dk_180 0 12 (dk_at dksX4_ofTwo_3 13 rfl rfl)
theorem dX4_ofTwo_87 : decode cX4_ofTwo 87 = .ok (.iload_n 1, 1) := dk_27 (dk_at dksX4_ofTwo_3 16 rfl rfl)
theorem dX4_ofTwo_88 : decode cX4_ofTwo 88 = .ok (.bipush 106, 2) := dk_16 106 (dk_at dksX4_ofTwo_3 17 rfl rfl)
theorem dX4_ofTwo_90 : decode cX4_ofTwo 90 = .ok (.if_icmp .ne 17, 3) := dk_160 0 17 (dk_at dksX4_ofTwo_3 19 rfl rfl)
theorem dX4_ofTwo_93 : decode cX4_ofTwo 93 = .ok (.new 89, 3) := dk_187 0 89 (dk_at dksX4_ofTwo_4 0 rfl rfl)
theorem dX4_ofTwo_96 : decode cX4_ofTwo 96 = .ok (.dup, 1) := dk_89 (dk_at dksX4_ofTwo_4 3 rfl rfl)
theorem dX4_ofTwo_97 : decode cX4_ofTwo 97 = .ok (.aload 4, 2) := dk_25 4 (dk_at dksX4_ofTwo_4 4 rfl rfl)
theorem dX4_ofTwo_99 : decode cX4_ofTwo 99 = .ok (.aload 5, 2) := dk_25 5 (dk_at dksX4_ofTwo_4 6 rfl rfl)
theorem dX4_ofTwo_101 : decode cX4_ofTwo 101 = .ok (.invokespecial 91, 3) := dk_183 0 91 (dk_at dksX4_ofTwo_4 8 rfl rfl)
theorem dX4_ofTwo_104 : decode cX4_ofTwo 104 = .ok (.goto 34, 3) := dk_167 0 34 (dk_at dksX4_ofTwo_4 11 rfl rfl)
theorem dX4_ofTwo_107 : decode cX4_ofTwo 107 = .ok (.iload_n 1, 1) := dk_27 (dk_at dksX4_ofTwo_4 14 rfl rfl)
theorem dX4_ofTwo_108 : decode cX4_ofTwo 108 = .ok (.bipush 104, 2) := dk_16 104 (dk_at dksX4_ofTwo_4 15 rfl rfl)
theorem dX4_ofTwo_110 : decode cX4_ofTwo 110 = .ok (.if_icmp .ne 17, 3) := dk_160 0 17 (dk_at dksX4_ofTwo_4 17 rfl rfl)
theorem dX4_ofTwo_113 : decode cX4_ofTwo 113 = .ok (.new 94, 3) := dk_187 0 94 (dk_at dksX4_ofTwo_4 20 rfl rfl)
theorem dX4_ofTwo_116 : decode cX4_ofTwo 116 = .ok (.dup, 1) := dk_89 (dk_at dksX4_ofTwo_4 23 rfl rfl)
theorem dX4_ofTwo_117 : decode cX4_ofTwo 117 = .ok (.aload 4, 2) := dk_25 4 (dk_at dksX4_ofTwo_5 0 rfl rfl)
theorem dX4_ofTwo_119 : decode cX4_ofTwo 119 = .ok (.aload 5, 2) := dk_25 5 (dk_at dksX4_ofTwo_5 2 rfl rfl)
theorem dX4_ofTwo_121 : decode cX4_ofTwo 121 = .ok (.invokespecial 96, 3) := dk_183 0 96 (dk_at dksX4_ofTwo_5 4 rfl rfl)
theorem dX4_ofTwo_124 : decode cX4_ofTwo 124 = .ok (.goto 14, 3) := dk_167 0 14 (dk_at dksX4_ofTwo_5 7 rfl rfl)
theorem dX4_ofTwo_127 : decode cX4_ofTwo 127 = .ok (.new 97, 3) := dk_187 0 97 (dk_at dksX4_ofTwo_5 10 rfl rfl)
theorem dX4_ofTwo_130 : decode cX4_ofTwo 130 = .ok (.dup, 1) := dk_89 (dk_at dksX4_ofTwo_5 13 rfl rfl)
theorem dX4_ofTwo_131 : decode cX4_ofTwo 131 = .ok (.aload 4, 2) := dk_25 4 (dk_at dksX4_ofTwo_5 14 rfl rfl)
theorem dX4_ofTwo_133 : decode cX4_ofTwo 133 = .ok (.aload 5, 2) := dk_25 5 (dk_at dksX4_ofTwo_5 16 rfl rfl)
theorem dX4_ofTwo_135 : decode cX4_ofTwo 135 = .ok (.invokespecial 99, 3) := dk_183 0 99 (dk_at dksX4_ofTwo_5 18 rfl rfl)
theorem dX4_ofTwo_138 : decode cX4_ofTwo 138 = .ok (.invokevirtual 68, 3) := dk_182 0 68 (dk_at dksX4_ofTwo_5 21 rfl rfl)
theorem dX4_ofTwo_141 : decode cX4_ofTwo 141 = .ok (.ireturn, 1) := dk_172 (dk_at dksX4_ofTwo_6 0 rfl rfl)
abbrev cX4_ofOne : ByteArray := prog_6_method_12_code
def yX4_ofOne : MethodName := ⟨RX4, "ofOne", "(C)I"⟩
def dkwX4_ofOne_5 : List UInt8 := [187, 0, 110, 89, 25, 4, 183, 0, 112, 182, 0, 68, 172]
abbrev dktX4_ofOne_5 : List UInt8 := dkwX4_ofOne_5 ++ []
def dkwX4_ofOne_4 : List UInt8 := [167, 0, 31, 27, 16, 101, 160, 0, 16, 187, 0, 105, 89, 25, 4, 29, 183, 0, 107, 167, 0, 12]
abbrev dktX4_ofOne_4 : List UInt8 := dkwX4_ofOne_4 ++ dktX4_ofOne_5
def dkwX4_ofOne_3 : List UInt8 := [182, 0, 82, 58, 4, 42, 180, 0, 12, 27, 16, 118, 160, 0, 15, 187, 0, 100, 89, 25, 4, 183, 0, 102]
abbrev dktX4_ofOne_3 : List UInt8 := dkwX4_ofOne_3 ++ dktX4_ofOne_4
def dkwX4_ofOne_2 : List UInt8 := [182, 0, 55, 153, 0, 7, 4, 167, 0, 4, 3, 182, 0, 59, 154, 0, 5, 3, 172, 42, 180, 0, 12, 28]
abbrev dktX4_ofOne_2 : List UInt8 := dkwX4_ofOne_2 ++ dktX4_ofOne_3
def dkwX4_ofOne_1 : List UInt8 := [42, 180, 0, 18, 153, 0, 28, 42, 180, 0, 12, 28, 182, 0, 76, 153, 0, 17, 42, 180, 0, 12]
abbrev dktX4_ofOne_1 : List UInt8 := dkwX4_ofOne_1 ++ dktX4_ofOne_2
def dkwX4_ofOne_0 : List UInt8 := [42, 182, 0, 72, 61, 27, 16, 101, 160, 0, 13, 42, 4, 16, 9, 182, 0, 45, 167, 0, 4, 4, 62, 42]
abbrev dktX4_ofOne_0 : List UInt8 := dkwX4_ofOne_0 ++ dktX4_ofOne_1
theorem dksX4_ofOne_0 : cX4_ofOne.data.toList.drop 0 = dktX4_ofOne_0 := by decide +kernel
theorem dksX4_ofOne_1 : cX4_ofOne.data.toList.drop 24 = dktX4_ofOne_1 := dk_seg dksX4_ofOne_0 24 rfl rfl
theorem dksX4_ofOne_2 : cX4_ofOne.data.toList.drop 46 = dktX4_ofOne_2 := dk_seg dksX4_ofOne_1 22 rfl rfl
theorem dksX4_ofOne_3 : cX4_ofOne.data.toList.drop 70 = dktX4_ofOne_3 := dk_seg dksX4_ofOne_2 24 rfl rfl
theorem dksX4_ofOne_4 : cX4_ofOne.data.toList.drop 94 = dktX4_ofOne_4 := dk_seg dksX4_ofOne_3 24 rfl rfl
theorem dksX4_ofOne_5 : cX4_ofOne.data.toList.drop 116 = dktX4_ofOne_5 := dk_seg dksX4_ofOne_4 22 rfl rfl
theorem dX4_ofOne_0 : decode cX4_ofOne 0 = .ok (.aload_n 0, 1) := dk_42 (dk_at dksX4_ofOne_0 0 rfl rfl)
theorem dX4_ofOne_1 : decode cX4_ofOne 1 = .ok (.invokevirtual 72, 3) := dk_182 0 72 (dk_at dksX4_ofOne_0 1 rfl rfl)
theorem dX4_ofOne_4 : decode cX4_ofOne 4 = .ok (.istore_n 2, 1) := dk_61 (dk_at dksX4_ofOne_0 4 rfl rfl)
theorem dX4_ofOne_5 : decode cX4_ofOne 5 = .ok (.iload_n 1, 1) := dk_27 (dk_at dksX4_ofOne_0 5 rfl rfl)
theorem dX4_ofOne_6 : decode cX4_ofOne 6 = .ok (.bipush 101, 2) := dk_16 101 (dk_at dksX4_ofOne_0 6 rfl rfl)
theorem dX4_ofOne_8 : decode cX4_ofOne 8 = .ok (.if_icmp .ne 13, 3) := dk_160 0 13 (dk_at dksX4_ofOne_0 8 rfl rfl)
theorem dX4_ofOne_11 : decode cX4_ofOne 11 = .ok (.aload_n 0, 1) := dk_42 (dk_at dksX4_ofOne_0 11 rfl rfl)
theorem dX4_ofOne_12 : decode cX4_ofOne 12 = .ok (.iconst 1, 1) := dk_4 (dk_at dksX4_ofOne_0 12 rfl rfl)
theorem dX4_ofOne_13 : decode cX4_ofOne 13 = .ok (.bipush 9, 2) := dk_16 9 (dk_at dksX4_ofOne_0 13 rfl rfl)
theorem dX4_ofOne_15 : decode cX4_ofOne 15 = .ok (.invokevirtual 45, 3) := dk_182 0 45 (dk_at dksX4_ofOne_0 15 rfl rfl)
theorem dX4_ofOne_18 : decode cX4_ofOne 18 = .ok (.goto 4, 3) := dk_167 0 4 (dk_at dksX4_ofOne_0 18 rfl rfl)
theorem dX4_ofOne_21 : decode cX4_ofOne 21 = .ok (.iconst 1, 1) := dk_4 (dk_at dksX4_ofOne_0 21 rfl rfl)
theorem dX4_ofOne_22 : decode cX4_ofOne 22 = .ok (.istore_n 3, 1) := dk_62 (dk_at dksX4_ofOne_0 22 rfl rfl)
theorem dX4_ofOne_23 : decode cX4_ofOne 23 = .ok (.aload_n 0, 1) := dk_42 (dk_at dksX4_ofOne_0 23 rfl rfl)
theorem dX4_ofOne_24 : decode cX4_ofOne 24 = .ok (.aload_n 0, 1) := dk_42 (dk_at dksX4_ofOne_1 0 rfl rfl)
theorem dX4_ofOne_25 : decode cX4_ofOne 25 = .ok (.getfield 18, 3) := dk_180 0 18 (dk_at dksX4_ofOne_1 1 rfl rfl)
theorem dX4_ofOne_28 : decode cX4_ofOne 28 = .ok (.ifCond .eq 28, 3) := dk_153 0 28 (dk_at dksX4_ofOne_1 4 rfl rfl)
theorem dX4_ofOne_31 : decode cX4_ofOne 31 = .ok (.aload_n 0, 1) := dk_42 (dk_at dksX4_ofOne_1 7 rfl rfl)
theorem dX4_ofOne_32 : decode cX4_ofOne 32 = .ok (.getfield 12, 3) := dk_180 0 12 (dk_at dksX4_ofOne_1 8 rfl rfl)
theorem dX4_ofOne_35 : decode cX4_ofOne 35 = .ok (.iload_n 2, 1) := dk_28 (dk_at dksX4_ofOne_1 11 rfl rfl)
theorem dX4_ofOne_36 : decode cX4_ofOne 36 = .ok (.invokevirtual 76, 3) := dk_182 0 76 (dk_at dksX4_ofOne_1 12 rfl rfl)
theorem dX4_ofOne_39 : decode cX4_ofOne 39 = .ok (.ifCond .eq 17, 3) := dk_153 0 17 (dk_at dksX4_ofOne_1 15 rfl rfl)
theorem dX4_ofOne_42 : decode cX4_ofOne 42 = .ok (.aload_n 0, 1) := dk_42 (dk_at dksX4_ofOne_1 18 rfl rfl)
theorem dX4_ofOne_43 : decode cX4_ofOne 43 = .ok (.getfield 12, 3) := dk_180 0 12 (dk_at dksX4_ofOne_1 19 rfl rfl)
theorem dX4_ofOne_46 : decode cX4_ofOne 46 = .ok (.invokevirtual 55, 3) := dk_182 0 55 (dk_at dksX4_ofOne_2 0 rfl rfl)
theorem dX4_ofOne_49 : decode cX4_ofOne 49 = .ok (.ifCond .eq 7, 3) := dk_153 0 7 (dk_at dksX4_ofOne_2 3 rfl rfl)
theorem dX4_ofOne_52 : decode cX4_ofOne 52 = .ok (.iconst 1, 1) := dk_4 (dk_at dksX4_ofOne_2 6 rfl rfl)
theorem dX4_ofOne_53 : decode cX4_ofOne 53 = .ok (.goto 4, 3) := dk_167 0 4 (dk_at dksX4_ofOne_2 7 rfl rfl)
theorem dX4_ofOne_56 : decode cX4_ofOne 56 = .ok (.iconst 0, 1) := dk_3 (dk_at dksX4_ofOne_2 10 rfl rfl)
theorem dX4_ofOne_57 : decode cX4_ofOne 57 = .ok (.invokevirtual 59, 3) := dk_182 0 59 (dk_at dksX4_ofOne_2 11 rfl rfl)
theorem dX4_ofOne_60 : decode cX4_ofOne 60 = .ok (.ifCond .ne 5, 3) := dk_154 0 5 (dk_at dksX4_ofOne_2 14 rfl rfl)
theorem dX4_ofOne_63 : decode cX4_ofOne 63 = .ok (.iconst 0, 1) := dk_3 (dk_at dksX4_ofOne_2 17 rfl rfl)
theorem dX4_ofOne_64 : decode cX4_ofOne 64 = .ok (.ireturn, 1) := dk_172 (dk_at dksX4_ofOne_2 18 rfl rfl)
theorem dX4_ofOne_65 : decode cX4_ofOne 65 = .ok (.aload_n 0, 1) := dk_42 (dk_at dksX4_ofOne_2 19 rfl rfl)
theorem dX4_ofOne_66 : decode cX4_ofOne 66 = .ok (.getfield 12, 3) := dk_180 0 12 (dk_at dksX4_ofOne_2 20 rfl rfl)
theorem dX4_ofOne_69 : decode cX4_ofOne 69 = .ok (.iload_n 2, 1) := dk_28 (dk_at dksX4_ofOne_2 23 rfl rfl)
theorem dX4_ofOne_70 : decode cX4_ofOne 70 = .ok (.invokevirtual 82, 3) := dk_182 0 82 (dk_at dksX4_ofOne_3 0 rfl rfl)
theorem dX4_ofOne_73 : decode cX4_ofOne 73 = .ok (.astore 4, 2) := dk_58 4 (dk_at dksX4_ofOne_3 3 rfl rfl)
theorem dX4_ofOne_75 : decode cX4_ofOne 75 = .ok (.aload_n 0, 1) := dk_42 (dk_at dksX4_ofOne_3 5 rfl rfl)
theorem dX4_ofOne_76 : decode cX4_ofOne 76 = .ok (.getfield 12, 3) := dk_180 0 12 (dk_at dksX4_ofOne_3 6 rfl rfl)
theorem dX4_ofOne_79 : decode cX4_ofOne 79 = .ok (.iload_n 1, 1) := dk_27 (dk_at dksX4_ofOne_3 9 rfl rfl)
theorem dX4_ofOne_80 : decode cX4_ofOne 80 = .ok (.bipush 118, 2) := dk_16 118 (dk_at dksX4_ofOne_3 10 rfl rfl)
theorem dX4_ofOne_82 : decode cX4_ofOne 82 = .ok (.if_icmp .ne 15, 3) := dk_160 0 15 (dk_at dksX4_ofOne_3 12 rfl rfl)
theorem dX4_ofOne_85 : decode cX4_ofOne 85 = .ok (.new 100, 3) := dk_187 0 100 (dk_at dksX4_ofOne_3 15 rfl rfl)
theorem dX4_ofOne_88 : decode cX4_ofOne 88 = .ok (.dup, 1) := dk_89 (dk_at dksX4_ofOne_3 18 rfl rfl)
theorem dX4_ofOne_89 : decode cX4_ofOne 89 = .ok (.aload 4, 2) := dk_25 4 (dk_at dksX4_ofOne_3 19 rfl rfl)
theorem dX4_ofOne_91 : decode cX4_ofOne 91 = .ok (.invokespecial 102, 3) := dk_183 0 102 (dk_at dksX4_ofOne_3 21 rfl rfl)
theorem dX4_ofOne_94 : decode cX4_ofOne 94 = .ok (.goto 31, 3) := dk_167 0 31 (dk_at dksX4_ofOne_4 0 rfl rfl)
theorem dX4_ofOne_97 : decode cX4_ofOne 97 = .ok (.iload_n 1, 1) := dk_27 (dk_at dksX4_ofOne_4 3 rfl rfl)
theorem dX4_ofOne_98 : decode cX4_ofOne 98 = .ok (.bipush 101, 2) := dk_16 101 (dk_at dksX4_ofOne_4 4 rfl rfl)
theorem dX4_ofOne_100 : decode cX4_ofOne 100 = .ok (.if_icmp .ne 16, 3) := dk_160 0 16 (dk_at dksX4_ofOne_4 6 rfl rfl)
theorem dX4_ofOne_103 : decode cX4_ofOne 103 = .ok (.new 105, 3) := dk_187 0 105 (dk_at dksX4_ofOne_4 9 rfl rfl)
theorem dX4_ofOne_106 : decode cX4_ofOne 106 = .ok (.dup, 1) := dk_89 (dk_at dksX4_ofOne_4 12 rfl rfl)
theorem dX4_ofOne_107 : decode cX4_ofOne 107 = .ok (.aload 4, 2) := dk_25 4 (dk_at dksX4_ofOne_4 13 rfl rfl)
theorem dX4_ofOne_109 : decode cX4_ofOne 109 = .ok (.iload_n 3, 1) := dk_29 (dk_at dksX4_ofOne_4 15 rfl rfl)
theorem dX4_ofOne_110 : decode cX4_ofOne 110 = .ok (.invokespecial 107, 3) := dk_183 0 107 (dk_at dksX4_ofOne_4 16 rfl rfl)
theorem dX4_ofOne_113 : decode cX4_ofOne 113 = .ok (.goto 12, 3) := dk_167 0 12 (dk_at dksX4_ofOne_4 19 rfl rfl)
theorem dX4_ofOne_116 : decode cX4_ofOne 116 = .ok (.new 110, 3) := dk_187 0 110 (dk_at dksX4_ofOne_5 0 rfl rfl)
theorem dX4_ofOne_119 : decode cX4_ofOne 119 = .ok (.dup, 1) := dk_89 (dk_at dksX4_ofOne_5 3 rfl rfl)
theorem dX4_ofOne_120 : decode cX4_ofOne 120 = .ok (.aload 4, 2) := dk_25 4 (dk_at dksX4_ofOne_5 4 rfl rfl)
theorem dX4_ofOne_122 : decode cX4_ofOne 122 = .ok (.invokespecial 112, 3) := dk_183 0 112 (dk_at dksX4_ofOne_5 6 rfl rfl)
theorem dX4_ofOne_125 : decode cX4_ofOne 125 = .ok (.invokevirtual 68, 3) := dk_182 0 68 (dk_at dksX4_ofOne_5 9 rfl rfl)
theorem dX4_ofOne_128 : decode cX4_ofOne 128 = .ok (.ireturn, 1) := dk_172 (dk_at dksX4_ofOne_5 12 rfl rfl)
abbrev cX4_ofReader : ByteArray := prog_6_method_13_code
def yX4_ofReader : MethodName := ⟨RX4, "ofReader", "(C)I"⟩
def dkwX4_ofReader_6 : List UInt8 := [160, 0, 15, 42, 180, 0, 12, 25, 5, 182, 0, 134, 167, 0, 11, 42, 180, 0, 12, 28, 182, 0, 137, 172]
abbrev dktX4_ofReader_6 : List UInt8 := dkwX4_ofReader_6 ++ []
def dkwX4_ofReader_5 : List UInt8 := [27, 16, 107, 160, 0, 16, 42, 180, 0, 12, 25, 5, 29, 182, 0, 130, 167, 0, 29, 27, 16, 122]
abbrev dktX4_ofReader_5 : List UInt8 := dkwX4_ofReader_5 ++ dktX4_ofReader_6
def dkwX4_ofReader_4 : List UInt8 := [28, 182, 0, 119, 58, 5, 27, 16, 110, 160, 0, 15, 42, 180, 0, 12, 25, 5, 182, 0, 127, 167, 0, 48]
abbrev dktX4_ofReader_4 : List UInt8 := dkwX4_ofReader_4 ++ dktX4_ofReader_5
def dkwX4_ofReader_3 : List UInt8 := [182, 0, 123, 2, 159, 0, 7, 4, 167, 0, 4, 3, 182, 0, 59, 154, 0, 5, 3, 172, 42, 180, 0, 12]
abbrev dktX4_ofReader_3 : List UInt8 := dkwX4_ofReader_3 ++ dktX4_ofReader_4
def dkwX4_ofReader_2 : List UInt8 := [42, 21, 4, 153, 0, 32, 27, 16, 110, 160, 0, 22, 42, 180, 0, 12, 42, 180, 0, 12, 28, 182, 0, 119]
abbrev dktX4_ofReader_2 : List UInt8 := dkwX4_ofReader_2 ++ dktX4_ofReader_3
def dkwX4_ofReader_1 : List UInt8 := [180, 0, 18, 153, 0, 18, 42, 180, 0, 12, 28, 182, 0, 116, 153, 0, 7, 4, 167, 0, 4, 3, 54, 4]
abbrev dktX4_ofReader_1 : List UInt8 := dkwX4_ofReader_1 ++ dktX4_ofReader_2
def dkwX4_ofReader_0 : List UInt8 := [42, 182, 0, 113, 61, 27, 16, 107, 160, 0, 13, 42, 4, 16, 99, 182, 0, 49, 167, 0, 4, 4, 62, 42]
abbrev dktX4_ofReader_0 : List UInt8 := dkwX4_ofReader_0 ++ dktX4_ofReader_1
theorem dksX4_ofReader_0 : cX4_ofReader.data.toList.drop 0 = dktX4_ofReader_0 := by decide +kernel
theorem dksX4_ofReader_1 : cX4_ofReader.data.toList.drop 24 = dktX4_ofReader_1 := dk_seg dksX4_ofReader_0 24 rfl rfl
theorem dksX4_ofReader_2 : cX4_ofReader.data.toList.drop 48 = dktX4_ofReader_2 := dk_seg dksX4_ofReader_1 24 rfl rfl
theorem dksX4_ofReader_3 : cX4_ofReader.data.toList.drop 72 = dktX4_ofReader_3 := dk_seg dksX4_ofReader_2 24 rfl rfl
theorem dksX4_ofReader_4 : cX4_ofReader.data.toList.drop 96 = dktX4_ofReader_4 := dk_seg dksX4_ofReader_3 24 rfl rfl
theorem dksX4_ofReader_5 : cX4_ofReader.data.toList.drop 120 = dktX4_ofReader_5 := dk_seg dksX4_ofReader_4 24 rfl rfl
theorem dksX4_ofReader_6 : cX4_ofReader.data.toList.drop 142 = dktX4_ofReader_6 := dk_seg dksX4_ofReader_5 22 rfl rfl
theorem dX4_ofReader_0 : decode cX4_ofReader 0 = .ok (.aload_n 0, 1) := dk_42 (dk_at dksX4_ofReader_0 0 rfl rfl)
theorem dX4_ofReader_1 : decode cX4_ofReader 1 = .ok (.invokevirtual 113, 3) := dk_182 0 113 (dk_at dksX4_ofReader_0 1 rfl rfl)
theorem dX4_ofReader_4 : decode cX4_ofReader 4 = .ok (.istore_n 2, 1) := dk_61 (dk_at dksX4_ofReader_0 4 rfl rfl)
theorem dX4_ofReader_5 : decode cX4_ofReader 5 = .ok (.iload_n 1, 1) := dk_27 (dk_at dksX4_ofReader_0 5 rfl rfl)
theorem dX4_ofReader_6 : decode cX4_ofReader 6 = .ok (.bipush 107, 2) := dk_16 107 (dk_at dksX4_ofReader_0 6 rfl rfl)
theorem dX4_ofReader_8 : decode cX4_ofReader 8 = .ok (.if_icmp .ne 13, 3) := dk_160 0 13 (dk_at dksX4_ofReader_0 8 rfl rfl)
theorem dX4_ofReader_11 : decode cX4_ofReader 11 = .ok (.aload_n 0, 1) := dk_42 (dk_at dksX4_ofReader_0 11 rfl rfl)
theorem dX4_ofReader_12 : decode cX4_ofReader 12 = .ok (.iconst 1, 1) := dk_4 (dk_at dksX4_ofReader_0 12 rfl rfl)
theorem dX4_ofReader_13 : decode cX4_ofReader 13 = .ok (.bipush 99, 2) := dk_16 99 (dk_at dksX4_ofReader_0 13 rfl rfl)
theorem dX4_ofReader_15 : decode cX4_ofReader 15 = .ok (.invokevirtual 49, 3) := dk_182 0 49 (dk_at dksX4_ofReader_0 15 rfl rfl)
theorem dX4_ofReader_18 : decode cX4_ofReader 18 = .ok (.goto 4, 3) := dk_167 0 4 (dk_at dksX4_ofReader_0 18 rfl rfl)
theorem dX4_ofReader_21 : decode cX4_ofReader 21 = .ok (.iconst 1, 1) := dk_4 (dk_at dksX4_ofReader_0 21 rfl rfl)
theorem dX4_ofReader_22 : decode cX4_ofReader 22 = .ok (.istore_n 3, 1) := dk_62 (dk_at dksX4_ofReader_0 22 rfl rfl)
theorem dX4_ofReader_23 : decode cX4_ofReader 23 = .ok (.aload_n 0, 1) := dk_42 (dk_at dksX4_ofReader_0 23 rfl rfl)
theorem dX4_ofReader_24 : decode cX4_ofReader 24 = .ok (.getfield 18, 3) := dk_180 0 18 (dk_at dksX4_ofReader_1 0 rfl rfl)
theorem dX4_ofReader_27 : decode cX4_ofReader 27 = .ok (.ifCond .eq 18, 3) := dk_153 0 18 (dk_at dksX4_ofReader_1 3 rfl rfl)
theorem dX4_ofReader_30 : decode cX4_ofReader 30 = .ok (.aload_n 0, 1) := dk_42 (dk_at dksX4_ofReader_1 6 rfl rfl)
theorem dX4_ofReader_31 : decode cX4_ofReader 31 = .ok (.getfield 12, 3) := dk_180 0 12 (dk_at dksX4_ofReader_1 7 rfl rfl)
theorem dX4_ofReader_34 : decode cX4_ofReader 34 = .ok (.iload_n 2, 1) := dk_28 (dk_at dksX4_ofReader_1 10 rfl rfl)
theorem dX4_ofReader_35 : decode cX4_ofReader 35 = .ok (.invokevirtual 116, 3) := dk_182 0 116 (dk_at dksX4_ofReader_1 11 rfl rfl)
theorem dX4_ofReader_38 : decode cX4_ofReader 38 = .ok (.ifCond .eq 7, 3) := dk_153 0 7 (dk_at dksX4_ofReader_1 14 rfl rfl)
theorem dX4_ofReader_41 : decode cX4_ofReader 41 = .ok (.iconst 1, 1) := dk_4 (dk_at dksX4_ofReader_1 17 rfl rfl)
theorem dX4_ofReader_42 : decode cX4_ofReader 42 = .ok (.goto 4, 3) := dk_167 0 4 (dk_at dksX4_ofReader_1 18 rfl rfl)
theorem dX4_ofReader_45 : decode cX4_ofReader 45 = .ok (.iconst 0, 1) := dk_3 (dk_at dksX4_ofReader_1 21 rfl rfl)
theorem dX4_ofReader_46 : decode cX4_ofReader 46 = .ok (.istore 4, 2) := dk_54 4 (dk_at dksX4_ofReader_1 22 rfl rfl)
theorem dX4_ofReader_48 : decode cX4_ofReader 48 = .ok (.aload_n 0, 1) := dk_42 (dk_at dksX4_ofReader_2 0 rfl rfl)
theorem dX4_ofReader_49 : decode cX4_ofReader 49 = .ok (.iload 4, 2) := dk_21 4 (dk_at dksX4_ofReader_2 1 rfl rfl)
theorem dX4_ofReader_51 : decode cX4_ofReader 51 = .ok (.ifCond .eq 32, 3) := dk_153 0 32 (dk_at dksX4_ofReader_2 3 rfl rfl)
theorem dX4_ofReader_54 : decode cX4_ofReader 54 = .ok (.iload_n 1, 1) := dk_27 (dk_at dksX4_ofReader_2 6 rfl rfl)
theorem dX4_ofReader_55 : decode cX4_ofReader 55 = .ok (.bipush 110, 2) := dk_16 110 (dk_at dksX4_ofReader_2 7 rfl rfl)
theorem dX4_ofReader_57 : decode cX4_ofReader 57 = .ok (.if_icmp .ne 22, 3) := dk_160 0 22 (dk_at dksX4_ofReader_2 9 rfl rfl)
theorem dX4_ofReader_60 : decode cX4_ofReader 60 = .ok (.aload_n 0, 1) := dk_42 (dk_at dksX4_ofReader_2 12 rfl rfl)
theorem dX4_ofReader_61 : decode cX4_ofReader 61 = .ok (.getfield 12, 3) := dk_180 0 12 (dk_at dksX4_ofReader_2 13 rfl rfl)
theorem dX4_ofReader_64 : decode cX4_ofReader 64 = .ok (.aload_n 0, 1) := dk_42 (dk_at dksX4_ofReader_2 16 rfl rfl)
theorem dX4_ofReader_65 : decode cX4_ofReader 65 = .ok (.getfield 12, 3) := dk_180 0 12 (dk_at dksX4_ofReader_2 17 rfl rfl)
theorem dX4_ofReader_68 : decode cX4_ofReader 68 = .ok (.iload_n 2, 1) := dk_28 (dk_at dksX4_ofReader_2 20 rfl rfl)
theorem dX4_ofReader_69 : decode cX4_ofReader 69 = .ok (.invokevirtual 119, 3) := dk_182 0 119 (dk_at dksX4_ofReader_2 21 rfl rfl)
theorem dX4_ofReader_72 : decode cX4_ofReader 72 = .ok (.invokevirtual 123, 3) := dk_182 0 123 (dk_at dksX4_ofReader_3 0 rfl rfl)
theorem dX4_ofReader_75 : decode cX4_ofReader 75 = .ok (.iconst (-1), 1) := dk_2 (dk_at dksX4_ofReader_3 3 rfl rfl)
theorem dX4_ofReader_76 : decode cX4_ofReader 76 = .ok (.if_icmp .eq 7, 3) := dk_159 0 7 (dk_at dksX4_ofReader_3 4 rfl rfl)
theorem dX4_ofReader_79 : decode cX4_ofReader 79 = .ok (.iconst 1, 1) := dk_4 (dk_at dksX4_ofReader_3 7 rfl rfl)
theorem dX4_ofReader_80 : decode cX4_ofReader 80 = .ok (.goto 4, 3) := dk_167 0 4 (dk_at dksX4_ofReader_3 8 rfl rfl)
theorem dX4_ofReader_83 : decode cX4_ofReader 83 = .ok (.iconst 0, 1) := dk_3 (dk_at dksX4_ofReader_3 11 rfl rfl)
theorem dX4_ofReader_84 : decode cX4_ofReader 84 = .ok (.invokevirtual 59, 3) := dk_182 0 59 (dk_at dksX4_ofReader_3 12 rfl rfl)
theorem dX4_ofReader_87 : decode cX4_ofReader 87 = .ok (.ifCond .ne 5, 3) := dk_154 0 5 (dk_at dksX4_ofReader_3 15 rfl rfl)
theorem dX4_ofReader_90 : decode cX4_ofReader 90 = .ok (.iconst 0, 1) := dk_3 (dk_at dksX4_ofReader_3 18 rfl rfl)
theorem dX4_ofReader_91 : decode cX4_ofReader 91 = .ok (.ireturn, 1) := dk_172 (dk_at dksX4_ofReader_3 19 rfl rfl)
theorem dX4_ofReader_92 : decode cX4_ofReader 92 = .ok (.aload_n 0, 1) := dk_42 (dk_at dksX4_ofReader_3 20 rfl rfl)
theorem dX4_ofReader_93 : decode cX4_ofReader 93 = .ok (.getfield 12, 3) := dk_180 0 12 (dk_at dksX4_ofReader_3 21 rfl rfl)
theorem dX4_ofReader_96 : decode cX4_ofReader 96 = .ok (.iload_n 2, 1) := dk_28 (dk_at dksX4_ofReader_4 0 rfl rfl)
theorem dX4_ofReader_97 : decode cX4_ofReader 97 = .ok (.invokevirtual 119, 3) := dk_182 0 119 (dk_at dksX4_ofReader_4 1 rfl rfl)
theorem dX4_ofReader_100 : decode cX4_ofReader 100 = .ok (.astore 5, 2) := dk_58 5 (dk_at dksX4_ofReader_4 4 rfl rfl)
theorem dX4_ofReader_102 : decode cX4_ofReader 102 = .ok (.iload_n 1, 1) := dk_27 (dk_at dksX4_ofReader_4 6 rfl rfl)
theorem dX4_ofReader_103 : decode cX4_ofReader 103 = .ok (.bipush 110, 2) := dk_16 110 (dk_at dksX4_ofReader_4 7 rfl rfl)
theorem dX4_ofReader_105 : decode cX4_ofReader 105 = .ok (.if_icmp .ne 15, 3) := dk_160 0 15 (dk_at dksX4_ofReader_4 9 rfl rfl)
theorem dX4_ofReader_108 : decode cX4_ofReader 108 = .ok (.aload_n 0, 1) := dk_42 (dk_at dksX4_ofReader_4 12 rfl rfl)
theorem dX4_ofReader_109 : decode cX4_ofReader 109 = .ok (.getfield 12, 3) := dk_180 0 12 (dk_at dksX4_ofReader_4 13 rfl rfl)
theorem dX4_ofReader_112 : decode cX4_ofReader 112 = .ok (.aload 5, 2) := dk_25 5 (dk_at dksX4_ofReader_4 16 rfl rfl)
theorem dX4_ofReader_114 : decode cX4_ofReader 114 = .ok (.invokevirtual 127, 3) := dk_182 0 127 (dk_at dksX4_ofReader_4 18 rfl rfl)
theorem dX4_ofReader_117 : decode cX4_ofReader 117 = .ok (.goto 48, 3) := dk_167 0 48 (dk_at dksX4_ofReader_4 21 rfl rfl)
theorem dX4_ofReader_120 : decode cX4_ofReader 120 = .ok (.iload_n 1, 1) := dk_27 (dk_at dksX4_ofReader_5 0 rfl rfl)
theorem dX4_ofReader_121 : decode cX4_ofReader 121 = .ok (.bipush 107, 2) := dk_16 107 (dk_at dksX4_ofReader_5 1 rfl rfl)
theorem dX4_ofReader_123 : decode cX4_ofReader 123 = .ok (.if_icmp .ne 16, 3) := dk_160 0 16 (dk_at dksX4_ofReader_5 3 rfl rfl)
theorem dX4_ofReader_126 : decode cX4_ofReader 126 = .ok (.aload_n 0, 1) := dk_42 (dk_at dksX4_ofReader_5 6 rfl rfl)
theorem dX4_ofReader_127 : decode cX4_ofReader 127 = .ok (.getfield 12, 3) := dk_180 0 12 (dk_at dksX4_ofReader_5 7 rfl rfl)
theorem dX4_ofReader_130 : decode cX4_ofReader 130 = .ok (.aload 5, 2) := dk_25 5 (dk_at dksX4_ofReader_5 10 rfl rfl)
theorem dX4_ofReader_132 : decode cX4_ofReader 132 = .ok (.iload_n 3, 1) := dk_29 (dk_at dksX4_ofReader_5 12 rfl rfl)
theorem dX4_ofReader_133 : decode cX4_ofReader 133 = .ok (.invokevirtual 130, 3) := dk_182 0 130 (dk_at dksX4_ofReader_5 13 rfl rfl)
theorem dX4_ofReader_136 : decode cX4_ofReader 136 = .ok (.goto 29, 3) := dk_167 0 29 (dk_at dksX4_ofReader_5 16 rfl rfl)
theorem dX4_ofReader_139 : decode cX4_ofReader 139 = .ok (.iload_n 1, 1) := dk_27 (dk_at dksX4_ofReader_5 19 rfl rfl)
theorem dX4_ofReader_140 : decode cX4_ofReader 140 = .ok (.bipush 122, 2) := dk_16 122 (dk_at dksX4_ofReader_5 20 rfl rfl)
theorem dX4_ofReader_142 : decode cX4_ofReader 142 = .ok (.if_icmp .ne 15, 3) := dk_160 0 15 (dk_at dksX4_ofReader_6 0 rfl rfl)
theorem dX4_ofReader_145 : decode cX4_ofReader 145 = .ok (.aload_n 0, 1) := dk_42 (dk_at dksX4_ofReader_6 3 rfl rfl)
theorem dX4_ofReader_146 : decode cX4_ofReader 146 = .ok (.getfield 12, 3) := dk_180 0 12 (dk_at dksX4_ofReader_6 4 rfl rfl)
theorem dX4_ofReader_149 : decode cX4_ofReader 149 = .ok (.aload 5, 2) := dk_25 5 (dk_at dksX4_ofReader_6 7 rfl rfl)
theorem dX4_ofReader_151 : decode cX4_ofReader 151 = .ok (.invokevirtual 134, 3) := dk_182 0 134 (dk_at dksX4_ofReader_6 9 rfl rfl)
theorem dX4_ofReader_154 : decode cX4_ofReader 154 = .ok (.goto 11, 3) := dk_167 0 11 (dk_at dksX4_ofReader_6 12 rfl rfl)
theorem dX4_ofReader_157 : decode cX4_ofReader 157 = .ok (.aload_n 0, 1) := dk_42 (dk_at dksX4_ofReader_6 15 rfl rfl)
theorem dX4_ofReader_158 : decode cX4_ofReader 158 = .ok (.getfield 12, 3) := dk_180 0 12 (dk_at dksX4_ofReader_6 16 rfl rfl)
theorem dX4_ofReader_161 : decode cX4_ofReader 161 = .ok (.iload_n 2, 1) := dk_28 (dk_at dksX4_ofReader_6 19 rfl rfl)
theorem dX4_ofReader_162 : decode cX4_ofReader 162 = .ok (.invokevirtual 137, 3) := dk_182 0 137 (dk_at dksX4_ofReader_6 20 rfl rfl)
theorem dX4_ofReader_165 : decode cX4_ofReader 165 = .ok (.ireturn, 1) := dk_172 (dk_at dksX4_ofReader_6 23 rfl rfl)
abbrev cX4_readerNumber : ByteArray := prog_6_method_7_code
def yX4_readerNumber : MethodName := ⟨RX4, "readerNumber", "()I"⟩
def dkwX4_readerNumber_0 : List UInt8 := [42, 3, 6, 182, 0, 45, 172]
abbrev dktX4_readerNumber_0 : List UInt8 := dkwX4_readerNumber_0 ++ []
theorem dksX4_readerNumber_0 : cX4_readerNumber.data.toList.drop 0 = dktX4_readerNumber_0 := by decide +kernel
theorem dX4_readerNumber_0 : decode cX4_readerNumber 0 = .ok (.aload_n 0, 1) := dk_42 (dk_at dksX4_readerNumber_0 0 rfl rfl)
theorem dX4_readerNumber_1 : decode cX4_readerNumber 1 = .ok (.iconst 0, 1) := dk_3 (dk_at dksX4_readerNumber_0 1 rfl rfl)
theorem dX4_readerNumber_2 : decode cX4_readerNumber 2 = .ok (.iconst 3, 1) := dk_6 (dk_at dksX4_readerNumber_0 2 rfl rfl)
theorem dX4_readerNumber_3 : decode cX4_readerNumber 3 = .ok (.invokevirtual 45, 3) := dk_182 0 45 (dk_at dksX4_readerNumber_0 3 rfl rfl)
theorem dX4_readerNumber_6 : decode cX4_readerNumber 6 = .ok (.ireturn, 1) := dk_172 (dk_at dksX4_readerNumber_0 6 rfl rfl)
theorem q65 : (Jvm.Cond.initialized "RuleLists$Parser") ∈ lw_all := lw_g (lw_at lw_m1 13 rfl) rfl
theorem q189 : (Jvm.Cond.instantiable "RuleLists$Parser" (6 : Nat)) ∈ lw_all := lw_g (lw_at lw_m1 137 rfl) rfl
theorem q191 : (Jvm.Cond.instanceMethod ({ cls := "RuleLists$Parser", name := "<init>", desc := "([CI)V" } : Jvm.MethodName)) ∈ lw_all := lw_g (lw_at lw_m1 139 rfl) rfl
theorem q192 : (Jvm.Cond.code ({ cls := "RuleLists$Parser", name := "<init>", desc := "([CI)V" } : Jvm.MethodName) prog_6_method_1_code (3 : Nat) (Option.none : Option Jvm.ClassFile.FieldType)) ∈ lw_all := lw_g (lw_at lw_m1 140 rfl) rfl
theorem q193 : (Jvm.Cond.methodLink "RuleLists$Parser" (3 : Nat) ({ cls := "java/lang/Object", name := "<init>", desc := "()V" } : Jvm.MethodName)) ∈ lw_all := lw_g (lw_at lw_m1 141 rfl) rfl
theorem q194 : (Jvm.Cond.classLink "RuleLists$Parser" (9 : Nat) "RuleLists$Shelf") ∈ lw_all := lw_g (lw_at lw_m1 142 rfl) rfl
theorem q195 : (Jvm.Cond.methodLink "RuleLists$Parser" (11 : Nat) ({ cls := "RuleLists$Shelf", name := "<init>", desc := "()V" } : Jvm.MethodName)) ∈ lw_all := lw_g (lw_at lw_m1 143 rfl) rfl
theorem q196 : (Jvm.Cond.fieldLink "RuleLists$Parser" (22 : Nat) "RuleLists$Parser" "text" "[C") ∈ lw_all := lw_g (lw_at lw_m1 144 rfl) rfl
theorem q197 : (Jvm.Cond.fieldLink "RuleLists$Parser" (26 : Nat) "RuleLists$Parser" "length" "I") ∈ lw_all := lw_g (lw_at lw_m1 145 rfl) rfl
theorem q198 : (Jvm.Cond.fieldLink "RuleLists$Parser" (12 : Nat) "RuleLists$Parser" "shelf" "LRuleLists$Shelf;") ∈ lw_all := lw_g (lw_at lw_m1 146 rfl) rfl
theorem q200 : (Jvm.Cond.fieldLink "RuleLists$Parser" (30 : Nat) "RuleLists$Parser" "at" "I") ∈ lw_all := lw_g (lw_at lw_m1 148 rfl) rfl
theorem q201 : (Jvm.Cond.fieldLink "RuleLists$Parser" (18 : Nat) "RuleLists$Parser" "good" "Z") ∈ lw_all := lw_g (lw_at lw_m1 149 rfl) rfl
theorem q202 : (Jvm.Cond.fieldLink "RuleLists$Parser" (52 : Nat) "RuleLists$Parser" "skipped" "I") ∈ lw_all := lw_g (lw_at lw_m1 150 rfl) rfl
theorem q204 : (Jvm.Cond.laysFinal "RuleLists$Parser" "RuleLists$Parser" "text" "[C") ∈ lw_all := lw_g (lw_at lw_m1 152 rfl) rfl
theorem q205 : (Jvm.Cond.soleField "RuleLists$Parser" "text") ∈ lw_all := lw_g (lw_at lw_m1 153 rfl) rfl
theorem q206 : (Jvm.Cond.laysFinal "RuleLists$Parser" "RuleLists$Parser" "length" "I") ∈ lw_all := lw_g (lw_at lw_m1 154 rfl) rfl
theorem q207 : (Jvm.Cond.soleField "RuleLists$Parser" "length") ∈ lw_all := lw_g (lw_at lw_m1 155 rfl) rfl
theorem q208 : (Jvm.Cond.laysFinal "RuleLists$Parser" "RuleLists$Parser" "shelf" "LRuleLists$Shelf;") ∈ lw_all := lw_g (lw_at lw_m1 156 rfl) rfl
theorem q209 : (Jvm.Cond.soleField "RuleLists$Parser" "shelf") ∈ lw_all := lw_g (lw_at lw_m1 157 rfl) rfl
theorem q210 : (Jvm.Cond.lays "RuleLists$Parser" "RuleLists$Parser" "at" "I") ∈ lw_all := lw_g (lw_at lw_m1 158 rfl) rfl
theorem q211 : (Jvm.Cond.soleField "RuleLists$Parser" "at") ∈ lw_all := lw_g (lw_at lw_m1 159 rfl) rfl
theorem q212 : (Jvm.Cond.lays "RuleLists$Parser" "RuleLists$Parser" "good" "Z") ∈ lw_all := lw_g (lw_at lw_m1 160 rfl) rfl
theorem q213 : (Jvm.Cond.soleField "RuleLists$Parser" "good") ∈ lw_all := lw_g (lw_at lw_m1 161 rfl) rfl
theorem q214 : (Jvm.Cond.lays "RuleLists$Parser" "RuleLists$Parser" "skipped" "I") ∈ lw_all := lw_g (lw_at lw_m1 162 rfl) rfl
theorem q215 : (Jvm.Cond.soleField "RuleLists$Parser" "skipped") ∈ lw_all := lw_g (lw_at lw_m1 163 rfl) rfl
theorem q216 : (Jvm.Cond.superclass "RuleLists$Parser" "java/lang/Object") ∈ lw_all := lw_g (lw_at lw_m1 164 rfl) rfl
theorem q218 : (Jvm.Cond.instanceMethod ({ cls := "RuleLists$Parser", name := "parse", desc := "()I" } : Jvm.MethodName)) ∈ lw_all := lw_g (lw_at lw_m1 166 rfl) rfl
theorem q219 : (Jvm.Cond.selects "RuleLists$Parser" ({ cls := "RuleLists$Parser", name := "parse", desc := "()I" } : Jvm.MethodName) ({ cls := "RuleLists$Parser", name := "parse", desc := "()I" } : Jvm.MethodName)) ∈ lw_all := lw_g (lw_at lw_m1 167 rfl) rfl
theorem q220 : (Jvm.Cond.code ({ cls := "RuleLists$Parser", name := "parse", desc := "()I" } : Jvm.MethodName) prog_6_method_16_code (3 : Nat) (Option.some Jvm.ClassFile.FieldType.int)) ∈ lw_all := lw_g (lw_at lw_m1 168 rfl) rfl
theorem q221 : (Jvm.Cond.methodLink "RuleLists$Parser" (33 : Nat) ({ cls := "RuleLists$Parser", name := "here", desc := "()C" } : Jvm.MethodName)) ∈ lw_all := lw_g (lw_at lw_m1 169 rfl) rfl
theorem q222 : (Jvm.Cond.privateMethod ({ cls := "RuleLists$Parser", name := "here", desc := "()C" } : Jvm.MethodName)) ∈ lw_tbl := lw_at lw_m1 170 rfl
theorem q223 : (Jvm.Cond.instanceMethod ({ cls := "RuleLists$Parser", name := "here", desc := "()C" } : Jvm.MethodName)) ∈ lw_all := lw_g (lw_at lw_m1 171 rfl) rfl
theorem q224 : (Jvm.Cond.code ({ cls := "RuleLists$Parser", name := "here", desc := "()C" } : Jvm.MethodName) prog_6_method_2_code (1 : Nat) (Option.some Jvm.ClassFile.FieldType.char)) ∈ lw_all := lw_g (lw_at lw_m1 172 rfl) rfl
theorem q225 : (Jvm.Cond.methodLink "RuleLists$Parser" (41 : Nat) ({ cls := "RuleLists$Parser", name := "take", desc := "(Z)V" } : Jvm.MethodName)) ∈ lw_all := lw_g (lw_at lw_m1 173 rfl) rfl
theorem q226 : (Jvm.Cond.privateMethod ({ cls := "RuleLists$Parser", name := "take", desc := "(Z)V" } : Jvm.MethodName)) ∈ lw_tbl := lw_at lw_m1 174 rfl
theorem q227 : (Jvm.Cond.instanceMethod ({ cls := "RuleLists$Parser", name := "take", desc := "(Z)V" } : Jvm.MethodName)) ∈ lw_all := lw_g (lw_at lw_m1 175 rfl) rfl
theorem q228 : (Jvm.Cond.code ({ cls := "RuleLists$Parser", name := "take", desc := "(Z)V" } : Jvm.MethodName) prog_6_method_3_code (2 : Nat) (Option.none : Option Jvm.ClassFile.FieldType)) ∈ lw_all := lw_g (lw_at lw_m1 176 rfl) rfl
theorem q229 : (Jvm.Cond.methodLink "RuleLists$Parser" (169 : Nat) ({ cls := "RuleLists$Parser", name := "isCommand", desc := "(C)Z" } : Jvm.MethodName)) ∈ lw_all := lw_g (lw_at lw_m1 177 rfl) rfl
theorem q230 : (Jvm.Cond.static ({ cls := "RuleLists$Parser", name := "isCommand", desc := "(C)Z" } : Jvm.MethodName)) ∈ lw_all := lw_g (lw_at lw_m1 178 rfl) rfl
theorem q231 : (Jvm.Cond.code ({ cls := "RuleLists$Parser", name := "isCommand", desc := "(C)Z" } : Jvm.MethodName) prog_6_method_15_code (2 : Nat) (Option.some Jvm.ClassFile.FieldType.boolean)) ∈ lw_all := lw_g (lw_at lw_m1 179 rfl) rfl
theorem q232 : (Jvm.Cond.methodLink "RuleLists$Parser" (173 : Nat) ({ cls := "RuleLists$Parser", name := "command", desc := "(C)I" } : Jvm.MethodName)) ∈ lw_all := lw_g (lw_at lw_m1 180 rfl) rfl
theorem q233 : (Jvm.Cond.privateMethod ({ cls := "RuleLists$Parser", name := "command", desc := "(C)I" } : Jvm.MethodName)) ∈ lw_tbl := lw_at lw_m1 181 rfl
theorem q234 : (Jvm.Cond.instanceMethod ({ cls := "RuleLists$Parser", name := "command", desc := "(C)I" } : Jvm.MethodName)) ∈ lw_all := lw_g (lw_at lw_m1 182 rfl) rfl
theorem q235 : (Jvm.Cond.code ({ cls := "RuleLists$Parser", name := "command", desc := "(C)I" } : Jvm.MethodName) prog_6_method_14_code (3 : Nat) (Option.some Jvm.ClassFile.FieldType.int)) ∈ lw_all := lw_g (lw_at lw_m1 183 rfl) rfl
theorem q236 : (Jvm.Cond.methodLink "RuleLists$Parser" (141 : Nat) ({ cls := "RuleLists$Parser", name := "steps", desc := "()I" } : Jvm.MethodName)) ∈ lw_all := lw_g (lw_at lw_m1 184 rfl) rfl
theorem q237 : (Jvm.Cond.privateMethod ({ cls := "RuleLists$Parser", name := "steps", desc := "()I" } : Jvm.MethodName)) ∈ lw_tbl := lw_at lw_m1 185 rfl
theorem q238 : (Jvm.Cond.instanceMethod ({ cls := "RuleLists$Parser", name := "steps", desc := "()I" } : Jvm.MethodName)) ∈ lw_all := lw_g (lw_at lw_m1 186 rfl) rfl
theorem q239 : (Jvm.Cond.code ({ cls := "RuleLists$Parser", name := "steps", desc := "()I" } : Jvm.MethodName) prog_6_method_9_code (3 : Nat) (Option.some Jvm.ClassFile.FieldType.int)) ∈ lw_all := lw_g (lw_at lw_m1 187 rfl) rfl
theorem q240 : (Jvm.Cond.methodLink "RuleLists$Parser" (45 : Nat) ({ cls := "RuleLists$Parser", name := "digit", desc := "(II)I" } : Jvm.MethodName)) ∈ lw_all := lw_g (lw_at lw_m1 188 rfl) rfl
theorem q241 : (Jvm.Cond.privateMethod ({ cls := "RuleLists$Parser", name := "digit", desc := "(II)I" } : Jvm.MethodName)) ∈ lw_tbl := lw_at lw_m1 189 rfl
theorem q242 : (Jvm.Cond.instanceMethod ({ cls := "RuleLists$Parser", name := "digit", desc := "(II)I" } : Jvm.MethodName)) ∈ lw_all := lw_g (lw_at lw_m1 190 rfl) rfl
theorem q243 : (Jvm.Cond.code ({ cls := "RuleLists$Parser", name := "digit", desc := "(II)I" } : Jvm.MethodName) prog_6_method_4_code (4 : Nat) (Option.some Jvm.ClassFile.FieldType.int)) ∈ lw_all := lw_g (lw_at lw_m1 191 rfl) rfl
theorem q244 : (Jvm.Cond.methodLinkNest "RuleLists$Parser" (37 : Nat) ({ cls := "RuleLists", name := "inRange", desc := "(III)Z" } : Jvm.MethodName) "RuleLists") ∈ lw_tbl := lw_at lw_m1 192 rfl
theorem q247 : (Jvm.Cond.methodLink "RuleLists$Parser" (49 : Nat) ({ cls := "RuleLists$Parser", name := "two", desc := "(II)I" } : Jvm.MethodName)) ∈ lw_all := lw_g (lw_at lw_m1 195 rfl) rfl
theorem q248 : (Jvm.Cond.privateMethod ({ cls := "RuleLists$Parser", name := "two", desc := "(II)I" } : Jvm.MethodName)) ∈ lw_tbl := lw_at lw_m1 196 rfl
theorem q249 : (Jvm.Cond.instanceMethod ({ cls := "RuleLists$Parser", name := "two", desc := "(II)I" } : Jvm.MethodName)) ∈ lw_all := lw_g (lw_at lw_m1 197 rfl) rfl
theorem q250 : (Jvm.Cond.code ({ cls := "RuleLists$Parser", name := "two", desc := "(II)I" } : Jvm.MethodName) prog_6_method_5_code (4 : Nat) (Option.some Jvm.ClassFile.FieldType.int)) ∈ lw_all := lw_g (lw_at lw_m1 198 rfl) rfl
theorem q251 : (Jvm.Cond.methodLink "RuleLists$Parser" (55 : Nat) ({ cls := "RuleLists$Shelf", name := "hasRoom", desc := "()Z" } : Jvm.MethodName)) ∈ lw_all := lw_g (lw_at lw_m1 199 rfl) rfl
theorem q265 : (Jvm.Cond.methodLink "RuleLists$Parser" (59 : Nat) ({ cls := "RuleLists$Parser", name := "goes", desc := "(Z)Z" } : Jvm.MethodName)) ∈ lw_all := lw_g (lw_at lw_m1 213 rfl) rfl
theorem q266 : (Jvm.Cond.privateMethod ({ cls := "RuleLists$Parser", name := "goes", desc := "(Z)Z" } : Jvm.MethodName)) ∈ lw_tbl := lw_at lw_m1 214 rfl
theorem q267 : (Jvm.Cond.instanceMethod ({ cls := "RuleLists$Parser", name := "goes", desc := "(Z)Z" } : Jvm.MethodName)) ∈ lw_all := lw_g (lw_at lw_m1 215 rfl) rfl
theorem q268 : (Jvm.Cond.code ({ cls := "RuleLists$Parser", name := "goes", desc := "(Z)Z" } : Jvm.MethodName) prog_6_method_8_code (2 : Nat) (Option.some Jvm.ClassFile.FieldType.boolean)) ∈ lw_all := lw_g (lw_at lw_m1 216 rfl) rfl
theorem q269 : (Jvm.Cond.classLink "RuleLists$Parser" (63 : Nat) "RuleLists$Steps") ∈ lw_all := lw_g (lw_at lw_m1 217 rfl) rfl
theorem q271 : (Jvm.Cond.methodLink "RuleLists$Parser" (65 : Nat) ({ cls := "RuleLists$Steps", name := "<init>", desc := "(II)V" } : Jvm.MethodName)) ∈ lw_all := lw_g (lw_at lw_m1 219 rfl) rfl
theorem q298 : (Jvm.Cond.methodLink "RuleLists$Parser" (68 : Nat) ({ cls := "RuleLists$Shelf", name := "make", desc := "(LRuleLists$Rule;)I" } : Jvm.MethodName)) ∈ lw_all := lw_g (lw_at lw_m2 6 rfl) rfl
theorem q343 : (Jvm.Cond.selects "RuleLists$Parser" ({ cls := "java/lang/Object", name := "getClass", desc := "()Ljava/lang/Class;" } : Jvm.MethodName) ({ cls := "java/lang/Object", name := "getClass", desc := "()Ljava/lang/Class;" } : Jvm.MethodName)) ∈ lw_all := lw_g (lw_at lw_m2 51 rfl) rfl
theorem q374 : (Jvm.Cond.methodLink "RuleLists$Parser" (144 : Nat) ({ cls := "RuleLists$Parser", name := "scaled", desc := "()I" } : Jvm.MethodName)) ∈ lw_all := lw_g (lw_at lw_m2 82 rfl) rfl
theorem q375 : (Jvm.Cond.privateMethod ({ cls := "RuleLists$Parser", name := "scaled", desc := "()I" } : Jvm.MethodName)) ∈ lw_tbl := lw_at lw_m2 83 rfl
theorem q376 : (Jvm.Cond.instanceMethod ({ cls := "RuleLists$Parser", name := "scaled", desc := "()I" } : Jvm.MethodName)) ∈ lw_all := lw_g (lw_at lw_m2 84 rfl) rfl
theorem q377 : (Jvm.Cond.code ({ cls := "RuleLists$Parser", name := "scaled", desc := "()I" } : Jvm.MethodName) prog_6_method_10_code (4 : Nat) (Option.some Jvm.ClassFile.FieldType.int)) ∈ lw_all := lw_g (lw_at lw_m2 85 rfl) rfl
theorem q378 : (Jvm.Cond.methodLink "RuleLists$Parser" (72 : Nat) ({ cls := "RuleLists$Parser", name := "listNumber", desc := "()I" } : Jvm.MethodName)) ∈ lw_all := lw_g (lw_at lw_m2 86 rfl) rfl
theorem q379 : (Jvm.Cond.privateMethod ({ cls := "RuleLists$Parser", name := "listNumber", desc := "()I" } : Jvm.MethodName)) ∈ lw_tbl := lw_at lw_m2 87 rfl
theorem q380 : (Jvm.Cond.instanceMethod ({ cls := "RuleLists$Parser", name := "listNumber", desc := "()I" } : Jvm.MethodName)) ∈ lw_all := lw_g (lw_at lw_m2 88 rfl) rfl
theorem q381 : (Jvm.Cond.code ({ cls := "RuleLists$Parser", name := "listNumber", desc := "()I" } : Jvm.MethodName) prog_6_method_6_code (1 : Nat) (Option.some Jvm.ClassFile.FieldType.int)) ∈ lw_all := lw_g (lw_at lw_m2 89 rfl) rfl
theorem q382 : (Jvm.Cond.methodLink "RuleLists$Parser" (76 : Nat) ({ cls := "RuleLists$Shelf", name := "isList", desc := "(I)Z" } : Jvm.MethodName)) ∈ lw_all := lw_g (lw_at lw_m2 90 rfl) rfl
theorem q387 : (Jvm.Cond.classLink "RuleLists$Parser" (80 : Nat) "RuleLists$Scaled") ∈ lw_all := lw_g (lw_at lw_m2 95 rfl) rfl
theorem q389 : (Jvm.Cond.methodLink "RuleLists$Parser" (82 : Nat) ({ cls := "RuleLists$Shelf", name := "rule", desc := "(I)LRuleLists$Rule;" } : Jvm.MethodName)) ∈ lw_all := lw_g (lw_at lw_m2 97 rfl) rfl
theorem q413 : (Jvm.Cond.methodLink "RuleLists$Parser" (86 : Nat) ({ cls := "RuleLists$Scaled", name := "<init>", desc := "(LRuleLists$Rule;II)V" } : Jvm.MethodName)) ∈ lw_all := lw_g (lw_at lw_m2 121 rfl) rfl
theorem q445 : (Jvm.Cond.methodLink "RuleLists$Parser" (147 : Nat) ({ cls := "RuleLists$Parser", name := "ofTwo", desc := "(C)I" } : Jvm.MethodName)) ∈ lw_all := lw_g (lw_at lw_m2 153 rfl) rfl
theorem q446 : (Jvm.Cond.privateMethod ({ cls := "RuleLists$Parser", name := "ofTwo", desc := "(C)I" } : Jvm.MethodName)) ∈ lw_tbl := lw_at lw_m2 154 rfl
theorem q447 : (Jvm.Cond.instanceMethod ({ cls := "RuleLists$Parser", name := "ofTwo", desc := "(C)I" } : Jvm.MethodName)) ∈ lw_all := lw_g (lw_at lw_m2 155 rfl) rfl
theorem q448 : (Jvm.Cond.code ({ cls := "RuleLists$Parser", name := "ofTwo", desc := "(C)I" } : Jvm.MethodName) prog_6_method_11_code (6 : Nat) (Option.some Jvm.ClassFile.FieldType.int)) ∈ lw_all := lw_g (lw_at lw_m2 156 rfl) rfl
theorem q449 : (Jvm.Cond.classLink "RuleLists$Parser" (89 : Nat) "RuleLists$Joined") ∈ lw_all := lw_g (lw_at lw_m2 157 rfl) rfl
theorem q451 : (Jvm.Cond.methodLink "RuleLists$Parser" (91 : Nat) ({ cls := "RuleLists$Joined", name := "<init>", desc := "(LRuleLists$Rule;LRuleLists$Rule;)V" } : Jvm.MethodName)) ∈ lw_all := lw_g (lw_at lw_m2 159 rfl) rfl
theorem q487 : (Jvm.Cond.classLink "RuleLists$Parser" (94 : Nat) "RuleLists$Shared") ∈ lw_all := lw_g (lw_at lw_m2 195 rfl) rfl
theorem q489 : (Jvm.Cond.methodLink "RuleLists$Parser" (96 : Nat) ({ cls := "RuleLists$Shared", name := "<init>", desc := "(LRuleLists$Rule;LRuleLists$Rule;)V" } : Jvm.MethodName)) ∈ lw_all := lw_g (lw_at lw_m2 197 rfl) rfl
theorem q502 : (Jvm.Cond.classLink "RuleLists$Parser" (97 : Nat) "RuleLists$Without") ∈ lw_all := lw_g (lw_at lw_m2 210 rfl) rfl
theorem q504 : (Jvm.Cond.methodLink "RuleLists$Parser" (99 : Nat) ({ cls := "RuleLists$Without", name := "<init>", desc := "(LRuleLists$Rule;LRuleLists$Rule;)V" } : Jvm.MethodName)) ∈ lw_all := lw_g (lw_at lw_m2 212 rfl) rfl
theorem q517 : (Jvm.Cond.methodLink "RuleLists$Parser" (151 : Nat) ({ cls := "RuleLists$Parser", name := "ofOne", desc := "(C)I" } : Jvm.MethodName)) ∈ lw_all := lw_g (lw_at lw_m2 225 rfl) rfl
theorem q518 : (Jvm.Cond.privateMethod ({ cls := "RuleLists$Parser", name := "ofOne", desc := "(C)I" } : Jvm.MethodName)) ∈ lw_tbl := lw_at lw_m2 226 rfl
theorem q519 : (Jvm.Cond.instanceMethod ({ cls := "RuleLists$Parser", name := "ofOne", desc := "(C)I" } : Jvm.MethodName)) ∈ lw_all := lw_g (lw_at lw_m2 227 rfl) rfl
theorem q520 : (Jvm.Cond.code ({ cls := "RuleLists$Parser", name := "ofOne", desc := "(C)I" } : Jvm.MethodName) prog_6_method_12_code (5 : Nat) (Option.some Jvm.ClassFile.FieldType.int)) ∈ lw_all := lw_g (lw_at lw_m2 228 rfl) rfl
theorem q521 : (Jvm.Cond.classLink "RuleLists$Parser" (100 : Nat) "RuleLists$Sieved") ∈ lw_all := lw_g (lw_at lw_m2 229 rfl) rfl
theorem q523 : (Jvm.Cond.methodLink "RuleLists$Parser" (102 : Nat) ({ cls := "RuleLists$Sieved", name := "<init>", desc := "(LRuleLists$Rule;)V" } : Jvm.MethodName)) ∈ lw_all := lw_g (lw_at lw_m2 231 rfl) rfl
theorem q534 : (Jvm.Cond.classLink "RuleLists$Parser" (105 : Nat) "RuleLists$Thinned") ∈ lw_all := lw_g (lw_at lw_m3 2 rfl) rfl
theorem q536 : (Jvm.Cond.methodLink "RuleLists$Parser" (107 : Nat) ({ cls := "RuleLists$Thinned", name := "<init>", desc := "(LRuleLists$Rule;I)V" } : Jvm.MethodName)) ∈ lw_all := lw_g (lw_at lw_m3 4 rfl) rfl
theorem q550 : (Jvm.Cond.classLink "RuleLists$Parser" (110 : Nat) "RuleLists$AddedUp") ∈ lw_all := lw_g (lw_at lw_m3 18 rfl) rfl
theorem q552 : (Jvm.Cond.methodLink "RuleLists$Parser" (112 : Nat) ({ cls := "RuleLists$AddedUp", name := "<init>", desc := "(LRuleLists$Rule;)V" } : Jvm.MethodName)) ∈ lw_all := lw_g (lw_at lw_m3 20 rfl) rfl
theorem q566 : (Jvm.Cond.methodLink "RuleLists$Parser" (154 : Nat) ({ cls := "RuleLists$Shelf", name := "hasReaderRoom", desc := "()Z" } : Jvm.MethodName)) ∈ lw_all := lw_g (lw_at lw_m3 34 rfl) rfl
theorem q570 : (Jvm.Cond.methodLink "RuleLists$Parser" (157 : Nat) ({ cls := "RuleLists$Shelf", name := "begin", desc := "(I)I" } : Jvm.MethodName)) ∈ lw_all := lw_g (lw_at lw_m3 38 rfl) rfl
theorem q591 : (Jvm.Cond.methodLink "RuleLists$Parser" (160 : Nat) ({ cls := "RuleLists$Shelf", name := "whyNoDrop", desc := "()I" } : Jvm.MethodName)) ∈ lw_all := lw_g (lw_at lw_m3 59 rfl) rfl
theorem q608 : (Jvm.Cond.methodLink "RuleLists$Parser" (163 : Nat) ({ cls := "RuleLists$Shelf", name := "dropLast", desc := "()I" } : Jvm.MethodName)) ∈ lw_all := lw_g (lw_at lw_m3 76 rfl) rfl
theorem q626 : (Jvm.Cond.methodLink "RuleLists$Parser" (166 : Nat) ({ cls := "RuleLists$Parser", name := "ofReader", desc := "(C)I" } : Jvm.MethodName)) ∈ lw_all := lw_g (lw_at lw_m3 94 rfl) rfl
theorem q627 : (Jvm.Cond.privateMethod ({ cls := "RuleLists$Parser", name := "ofReader", desc := "(C)I" } : Jvm.MethodName)) ∈ lw_tbl := lw_at lw_m3 95 rfl
theorem q628 : (Jvm.Cond.instanceMethod ({ cls := "RuleLists$Parser", name := "ofReader", desc := "(C)I" } : Jvm.MethodName)) ∈ lw_all := lw_g (lw_at lw_m3 96 rfl) rfl
theorem q629 : (Jvm.Cond.code ({ cls := "RuleLists$Parser", name := "ofReader", desc := "(C)I" } : Jvm.MethodName) prog_6_method_13_code (6 : Nat) (Option.some Jvm.ClassFile.FieldType.int)) ∈ lw_all := lw_g (lw_at lw_m3 97 rfl) rfl
theorem q630 : (Jvm.Cond.methodLink "RuleLists$Parser" (113 : Nat) ({ cls := "RuleLists$Parser", name := "readerNumber", desc := "()I" } : Jvm.MethodName)) ∈ lw_all := lw_g (lw_at lw_m3 98 rfl) rfl
theorem q631 : (Jvm.Cond.privateMethod ({ cls := "RuleLists$Parser", name := "readerNumber", desc := "()I" } : Jvm.MethodName)) ∈ lw_tbl := lw_at lw_m3 99 rfl
theorem q632 : (Jvm.Cond.instanceMethod ({ cls := "RuleLists$Parser", name := "readerNumber", desc := "()I" } : Jvm.MethodName)) ∈ lw_all := lw_g (lw_at lw_m3 100 rfl) rfl
theorem q633 : (Jvm.Cond.code ({ cls := "RuleLists$Parser", name := "readerNumber", desc := "()I" } : Jvm.MethodName) prog_6_method_7_code (1 : Nat) (Option.some Jvm.ClassFile.FieldType.int)) ∈ lw_all := lw_g (lw_at lw_m3 101 rfl) rfl
theorem q634 : (Jvm.Cond.methodLink "RuleLists$Parser" (116 : Nat) ({ cls := "RuleLists$Shelf", name := "isReader", desc := "(I)Z" } : Jvm.MethodName)) ∈ lw_all := lw_g (lw_at lw_m3 102 rfl) rfl
theorem q638 : (Jvm.Cond.methodLink "RuleLists$Parser" (119 : Nat) ({ cls := "RuleLists$Shelf", name := "reader", desc := "(I)LRuleLists$Reader;" } : Jvm.MethodName)) ∈ lw_all := lw_g (lw_at lw_m3 106 rfl) rfl
theorem q639 : (Jvm.Cond.methodLink "RuleLists$Parser" (123 : Nat) ({ cls := "RuleLists$Shelf", name := "nextOf", desc := "(LRuleLists$Reader;)I" } : Jvm.MethodName)) ∈ lw_all := lw_g (lw_at lw_m3 107 rfl) rfl
theorem q758 : (Jvm.Cond.methodLink "RuleLists$Parser" (127 : Nat) ({ cls := "RuleLists$Shelf", name := "read", desc := "(LRuleLists$Reader;)I" } : Jvm.MethodName)) ∈ lw_all := lw_g (lw_at lw_m3 226 rfl) rfl
theorem q763 : (Jvm.Cond.methodLink "RuleLists$Parser" (130 : Nat) ({ cls := "RuleLists$Shelf", name := "skip", desc := "(LRuleLists$Reader;I)I" } : Jvm.MethodName)) ∈ lw_all := lw_g (lw_at lw_m3 231 rfl) rfl
theorem q767 : (Jvm.Cond.methodLink "RuleLists$Parser" (134 : Nat) ({ cls := "RuleLists$Shelf", name := "goBack", desc := "(LRuleLists$Reader;)I" } : Jvm.MethodName)) ∈ lw_all := lw_g (lw_at lw_m3 235 rfl) rfl
theorem q771 : (Jvm.Cond.methodLink "RuleLists$Parser" (137 : Nat) ({ cls := "RuleLists$Shelf", name := "stop", desc := "(I)I" } : Jvm.MethodName)) ∈ lw_all := lw_g (lw_at lw_m3 239 rfl) rfl
theorem q1928 : (Jvm.Cond.castable "RuleLists$Parser" "java/lang/Object") ∈ lw_tbl := lw_at lw_m8 196 rfl
theorem in_X4 : ∀ w ∈ wsX40, w ∈ lw_all := lw_in wsX40 [204, 206, 208, 210, 212, 214] (by decide +kernel) (by decide +kernel)
