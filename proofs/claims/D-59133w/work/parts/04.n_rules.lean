/-! RuleLists$Joined -/
set_option maxRecDepth 100000
def RX10 : String := "RuleLists$Joined"
def TX10 : u_T := fun k => match k with
  | 0 => ("RuleLists$Two", "one", "LRuleLists$Rule;", true)
  | 1 => ("RuleLists$Two", "other", "LRuleLists$Rule;", true)
  | 2 => ("RuleLists$Two", "usedOne", "I", false)
  | 3 => ("RuleLists$Two", "usedOther", "I", false)
  | 4 => ("RuleLists$Rule", "members", "[I", false)
  | 5 => ("RuleLists$Rule", "many", "I", false)
  | 6 => ("RuleLists$Rule", "ended", "Z", false)
  | _ => ("RuleLists$Rule", "tested", "[Z", false)
def tyX10 : Nat → FieldType := fun k => match k with
  | 0 => .object "RuleLists$Rule"
  | 1 => .object "RuleLists$Rule"
  | 2 => .int
  | 3 => .int
  | 4 => .array .int
  | 5 => .int
  | 6 => .boolean
  | _ => .array .boolean
abbrev wsX100 : List Cond := u_ws RX10 TX10 8
theorem nmX10 : ∀ a, a < 8 → ∀ b, b < 8 → a ≠ b → (TX10 a).2.1 ≠ (TX10 b).2.1 := by decide +kernel
theorem tyX10_ok : ∀ k, k < 8 → parseFieldDescriptor (TX10 k).2.2.1 = some (tyX10 k) := by decide +kernel
abbrev cX10_init : ByteArray := prog_3_method_1_code
def yX10_init : MethodName := ⟨RX10, "<init>", "(LRuleLists$Rule;LRuleLists$Rule;)V"⟩
def dkwX10_init_0 : List UInt8 := [42, 43, 44, 183, 0, 1, 177]
abbrev dktX10_init_0 : List UInt8 := dkwX10_init_0 ++ []
theorem dksX10_init_0 : cX10_init.data.toList.drop 0 = dktX10_init_0 := by decide +kernel
theorem dX10_init_0 : decode cX10_init 0 = .ok (.aload_n 0, 1) := dk_42 (dk_at dksX10_init_0 0 rfl rfl)
theorem dX10_init_1 : decode cX10_init 1 = .ok (.aload_n 1, 1) := dk_43 (dk_at dksX10_init_0 1 rfl rfl)
theorem dX10_init_2 : decode cX10_init 2 = .ok (.aload_n 2, 1) := dk_44 (dk_at dksX10_init_0 2 rfl rfl)
theorem dX10_init_3 : decode cX10_init 3 = .ok (.invokespecial 1, 3) := dk_183 0 1 (dk_at dksX10_init_0 3 rfl rfl)
theorem dX10_init_6 : decode cX10_init 6 = .ok (.return_, 1) := dk_177 (dk_at dksX10_init_0 6 rfl rfl)
abbrev cX10_more : ByteArray := prog_3_method_2_code
def yX10_more : MethodName := ⟨RX10, "more", "()I"⟩
def dkwX10_more_1 : List UInt8 := [167, 0, 4, 3, 42, 182, 0, 13, 27, 160, 0, 7, 4, 167, 0, 4, 3, 182, 0, 22, 27, 172]
abbrev dktX10_more_1 : List UInt8 := dkwX10_more_1 ++ []
def dkwX10_more_0 : List UInt8 := [42, 182, 0, 7, 42, 182, 0, 13, 184, 0, 16, 60, 42, 42, 182, 0, 7, 27, 160, 0, 7, 4]
abbrev dktX10_more_0 : List UInt8 := dkwX10_more_0 ++ dktX10_more_1
theorem dksX10_more_0 : cX10_more.data.toList.drop 0 = dktX10_more_0 := by decide +kernel
theorem dksX10_more_1 : cX10_more.data.toList.drop 22 = dktX10_more_1 := dk_seg dksX10_more_0 22 rfl rfl
theorem dX10_more_0 : decode cX10_more 0 = .ok (.aload_n 0, 1) := dk_42 (dk_at dksX10_more_0 0 rfl rfl)
theorem dX10_more_1 : decode cX10_more 1 = .ok (.invokevirtual 7, 3) := dk_182 0 7 (dk_at dksX10_more_0 1 rfl rfl)
theorem dX10_more_4 : decode cX10_more 4 = .ok (.aload_n 0, 1) := dk_42 (dk_at dksX10_more_0 4 rfl rfl)
theorem dX10_more_5 : decode cX10_more 5 = .ok (.invokevirtual 13, 3) := dk_182 0 13 (dk_at dksX10_more_0 5 rfl rfl)
theorem dX10_more_8 : decode cX10_more 8 = .ok (.invokestatic 16, 3) := dk_184 0 16 (dk_at dksX10_more_0 8 rfl rfl)
theorem dX10_more_11 : decode cX10_more 11 = .ok (.istore_n 1, 1) := dk_60 (dk_at dksX10_more_0 11 rfl rfl)
theorem dX10_more_12 : decode cX10_more 12 = .ok (.aload_n 0, 1) := dk_42 (dk_at dksX10_more_0 12 rfl rfl)
theorem dX10_more_13 : decode cX10_more 13 = .ok (.aload_n 0, 1) := dk_42 (dk_at dksX10_more_0 13 rfl rfl)
theorem dX10_more_14 : decode cX10_more 14 = .ok (.invokevirtual 7, 3) := dk_182 0 7 (dk_at dksX10_more_0 14 rfl rfl)
theorem dX10_more_17 : decode cX10_more 17 = .ok (.iload_n 1, 1) := dk_27 (dk_at dksX10_more_0 17 rfl rfl)
theorem dX10_more_18 : decode cX10_more 18 = .ok (.if_icmp .ne 7, 3) := dk_160 0 7 (dk_at dksX10_more_0 18 rfl rfl)
theorem dX10_more_21 : decode cX10_more 21 = .ok (.iconst 1, 1) := dk_4 (dk_at dksX10_more_0 21 rfl rfl)
theorem dX10_more_22 : decode cX10_more 22 = .ok (.goto 4, 3) := dk_167 0 4 (dk_at dksX10_more_1 0 rfl rfl)
theorem dX10_more_25 : decode cX10_more 25 = .ok (.iconst 0, 1) := dk_3 (dk_at dksX10_more_1 3 rfl rfl)
theorem dX10_more_26 : decode cX10_more 26 = .ok (.aload_n 0, 1) := dk_42 (dk_at dksX10_more_1 4 rfl rfl)
theorem dX10_more_27 : decode cX10_more 27 = .ok (.invokevirtual 13, 3) := dk_182 0 13 (dk_at dksX10_more_1 5 rfl rfl)
theorem dX10_more_30 : decode cX10_more 30 = .ok (.iload_n 1, 1) := dk_27 (dk_at dksX10_more_1 8 rfl rfl)
theorem dX10_more_31 : decode cX10_more 31 = .ok (.if_icmp .ne 7, 3) := dk_160 0 7 (dk_at dksX10_more_1 9 rfl rfl)
theorem dX10_more_34 : decode cX10_more 34 = .ok (.iconst 1, 1) := dk_4 (dk_at dksX10_more_1 12 rfl rfl)
theorem dX10_more_35 : decode cX10_more 35 = .ok (.goto 4, 3) := dk_167 0 4 (dk_at dksX10_more_1 13 rfl rfl)
theorem dX10_more_38 : decode cX10_more 38 = .ok (.iconst 0, 1) := dk_3 (dk_at dksX10_more_1 16 rfl rfl)
theorem dX10_more_39 : decode cX10_more 39 = .ok (.invokevirtual 22, 3) := dk_182 0 22 (dk_at dksX10_more_1 17 rfl rfl)
theorem dX10_more_42 : decode cX10_more 42 = .ok (.iload_n 1, 1) := dk_27 (dk_at dksX10_more_1 20 rfl rfl)
theorem dX10_more_43 : decode cX10_more 43 = .ok (.ireturn, 1) := dk_172 (dk_at dksX10_more_1 21 rfl rfl)
abbrev cX10_test : ByteArray := prog_3_method_3_code
def yX10_test : MethodName := ⟨RX10, "test", "(I)Z"⟩
def dkwX10_test_1 : List UInt8 := [167, 0, 4, 3, 172]
abbrev dktX10_test_1 : List UInt8 := dkwX10_test_1 ++ []
def dkwX10_test_0 : List UInt8 := [42, 180, 0, 26, 27, 182, 0, 30, 154, 0, 14, 42, 180, 0, 36, 27, 182, 0, 30, 153, 0, 7, 4]
abbrev dktX10_test_0 : List UInt8 := dkwX10_test_0 ++ dktX10_test_1
theorem dksX10_test_0 : cX10_test.data.toList.drop 0 = dktX10_test_0 := by decide +kernel
theorem dksX10_test_1 : cX10_test.data.toList.drop 23 = dktX10_test_1 := dk_seg dksX10_test_0 23 rfl rfl
theorem dX10_test_0 : decode cX10_test 0 = .ok (.aload_n 0, 1) := dk_42 (dk_at dksX10_test_0 0 rfl rfl)
theorem dX10_test_1 : decode cX10_test 1 = .ok (.getfield 26, 3) := dk_180 0 26 (dk_at dksX10_test_0 1 rfl rfl)
theorem dX10_test_4 : decode cX10_test 4 = .ok (.iload_n 1, 1) := dk_27 (dk_at dksX10_test_0 4 rfl rfl)
theorem dX10_test_5 : decode cX10_test 5 = .ok (.invokevirtual 30, 3) := dk_182 0 30 (dk_at dksX10_test_0 5 rfl rfl)
theorem dX10_test_8 : decode cX10_test 8 = .ok (.ifCond .ne 14, 3) := dk_154 0 14 (dk_at dksX10_test_0 8 rfl rfl)
theorem dX10_test_11 : decode cX10_test 11 = .ok (.aload_n 0, 1) := dk_42 (dk_at dksX10_test_0 11 rfl rfl)
theorem dX10_test_12 : decode cX10_test 12 = .ok (.getfield 36, 3) := dk_180 0 36 (dk_at dksX10_test_0 12 rfl rfl)
theorem dX10_test_15 : decode cX10_test 15 = .ok (.iload_n 1, 1) := dk_27 (dk_at dksX10_test_0 15 rfl rfl)
theorem dX10_test_16 : decode cX10_test 16 = .ok (.invokevirtual 30, 3) := dk_182 0 30 (dk_at dksX10_test_0 16 rfl rfl)
theorem dX10_test_19 : decode cX10_test 19 = .ok (.ifCond .eq 7, 3) := dk_153 0 7 (dk_at dksX10_test_0 19 rfl rfl)
theorem dX10_test_22 : decode cX10_test 22 = .ok (.iconst 1, 1) := dk_4 (dk_at dksX10_test_0 22 rfl rfl)
theorem dX10_test_23 : decode cX10_test 23 = .ok (.goto 4, 3) := dk_167 0 4 (dk_at dksX10_test_1 0 rfl rfl)
theorem dX10_test_26 : decode cX10_test 26 = .ok (.iconst 0, 1) := dk_3 (dk_at dksX10_test_1 3 rfl rfl)
theorem dX10_test_27 : decode cX10_test 27 = .ok (.ireturn, 1) := dk_172 (dk_at dksX10_test_1 4 rfl rfl)
theorem q77 : (Jvm.Cond.initialized "RuleLists$Joined") ∈ lw_all := lw_g (lw_at lw_m1 25 rfl) rfl
theorem q341 : (Jvm.Cond.selects "RuleLists$Joined" ({ cls := "java/lang/Object", name := "getClass", desc := "()Ljava/lang/Class;" } : Jvm.MethodName) ({ cls := "java/lang/Object", name := "getClass", desc := "()Ljava/lang/Class;" } : Jvm.MethodName)) ∈ lw_all := lw_g (lw_at lw_m2 49 rfl) rfl
theorem q450 : (Jvm.Cond.instantiable "RuleLists$Joined" (8 : Nat)) ∈ lw_all := lw_g (lw_at lw_m2 158 rfl) rfl
theorem q452 : (Jvm.Cond.instanceMethod ({ cls := "RuleLists$Joined", name := "<init>", desc := "(LRuleLists$Rule;LRuleLists$Rule;)V" } : Jvm.MethodName)) ∈ lw_all := lw_g (lw_at lw_m2 160 rfl) rfl
theorem q453 : (Jvm.Cond.code ({ cls := "RuleLists$Joined", name := "<init>", desc := "(LRuleLists$Rule;LRuleLists$Rule;)V" } : Jvm.MethodName) prog_3_method_1_code (3 : Nat) (Option.none : Option Jvm.ClassFile.FieldType)) ∈ lw_all := lw_g (lw_at lw_m2 161 rfl) rfl
theorem q454 : (Jvm.Cond.methodLink "RuleLists$Joined" (1 : Nat) ({ cls := "RuleLists$Two", name := "<init>", desc := "(LRuleLists$Rule;LRuleLists$Rule;)V" } : Jvm.MethodName)) ∈ lw_all := lw_g (lw_at lw_m2 162 rfl) rfl
theorem q459 : (Jvm.Cond.fieldLink "RuleLists$Joined" (26 : Nat) "RuleLists$Joined" "one" "LRuleLists$Rule;") ∈ lw_all := lw_g (lw_at lw_m2 167 rfl) rfl
theorem q460 : (Jvm.Cond.sameField "RuleLists$Joined" "RuleLists$Two" "one" "LRuleLists$Rule;") ∈ lw_all := lw_g (lw_at lw_m2 168 rfl) rfl
theorem q466 : (Jvm.Cond.fieldLink "RuleLists$Joined" (36 : Nat) "RuleLists$Joined" "other" "LRuleLists$Rule;") ∈ lw_all := lw_g (lw_at lw_m2 174 rfl) rfl
theorem q467 : (Jvm.Cond.sameField "RuleLists$Joined" "RuleLists$Two" "other" "LRuleLists$Rule;") ∈ lw_all := lw_g (lw_at lw_m2 175 rfl) rfl
theorem q474 : (Jvm.Cond.laysFinal "RuleLists$Joined" "RuleLists$Two" "one" "LRuleLists$Rule;") ∈ lw_all := lw_g (lw_at lw_m2 182 rfl) rfl
theorem q476 : (Jvm.Cond.laysFinal "RuleLists$Joined" "RuleLists$Two" "other" "LRuleLists$Rule;") ∈ lw_all := lw_g (lw_at lw_m2 184 rfl) rfl
theorem q478 : (Jvm.Cond.lays "RuleLists$Joined" "RuleLists$Two" "usedOne" "I") ∈ lw_all := lw_g (lw_at lw_m2 186 rfl) rfl
theorem q480 : (Jvm.Cond.lays "RuleLists$Joined" "RuleLists$Two" "usedOther" "I") ∈ lw_all := lw_g (lw_at lw_m2 188 rfl) rfl
theorem q482 : (Jvm.Cond.lays "RuleLists$Joined" "RuleLists$Rule" "members" "[I") ∈ lw_all := lw_g (lw_at lw_m2 190 rfl) rfl
theorem q483 : (Jvm.Cond.lays "RuleLists$Joined" "RuleLists$Rule" "many" "I") ∈ lw_all := lw_g (lw_at lw_m2 191 rfl) rfl
theorem q484 : (Jvm.Cond.lays "RuleLists$Joined" "RuleLists$Rule" "ended" "Z") ∈ lw_all := lw_g (lw_at lw_m2 192 rfl) rfl
theorem q485 : (Jvm.Cond.lays "RuleLists$Joined" "RuleLists$Rule" "tested" "[Z") ∈ lw_all := lw_g (lw_at lw_m2 193 rfl) rfl
theorem q486 : (Jvm.Cond.superclass "RuleLists$Joined" "RuleLists$Two") ∈ lw_all := lw_g (lw_at lw_m2 194 rfl) rfl
theorem q652 : (Jvm.Cond.selects "RuleLists$Joined" ({ cls := "RuleLists$Rule", name := "member", desc := "(I)I" } : Jvm.MethodName) ({ cls := "RuleLists$Rule", name := "member", desc := "(I)I" } : Jvm.MethodName)) ∈ lw_all := lw_g (lw_at lw_m3 120 rfl) rfl
theorem q673 : (Jvm.Cond.selects "RuleLists$Joined" ({ cls := "RuleLists$Rule", name := "more", desc := "()I" } : Jvm.MethodName) ({ cls := "RuleLists$Joined", name := "more", desc := "()I" } : Jvm.MethodName)) ∈ lw_all := lw_g (lw_at lw_m3 141 rfl) rfl
theorem q674 : (Jvm.Cond.instanceMethod ({ cls := "RuleLists$Joined", name := "more", desc := "()I" } : Jvm.MethodName)) ∈ lw_all := lw_g (lw_at lw_m3 142 rfl) rfl
theorem q675 : (Jvm.Cond.code ({ cls := "RuleLists$Joined", name := "more", desc := "()I" } : Jvm.MethodName) prog_3_method_2_code (2 : Nat) (Option.some Jvm.ClassFile.FieldType.int)) ∈ lw_all := lw_g (lw_at lw_m3 143 rfl) rfl
theorem q676 : (Jvm.Cond.methodLink "RuleLists$Joined" (7 : Nat) ({ cls := "RuleLists$Joined", name := "nextOne", desc := "()I" } : Jvm.MethodName)) ∈ lw_all := lw_g (lw_at lw_m3 144 rfl) rfl
theorem q677 : (Jvm.Cond.sameMethod "RuleLists$Joined" "RuleLists$Two" "nextOne" "()I") ∈ lw_all := lw_g (lw_at lw_m3 145 rfl) rfl
theorem q679 : (Jvm.Cond.selects "RuleLists$Joined" ({ cls := "RuleLists$Joined", name := "nextOne", desc := "()I" } : Jvm.MethodName) ({ cls := "RuleLists$Two", name := "nextOne", desc := "()I" } : Jvm.MethodName)) ∈ lw_all := lw_g (lw_at lw_m3 147 rfl) rfl
theorem q683 : (Jvm.Cond.methodLink "RuleLists$Joined" (13 : Nat) ({ cls := "RuleLists$Joined", name := "nextOther", desc := "()I" } : Jvm.MethodName)) ∈ lw_all := lw_g (lw_at lw_m3 151 rfl) rfl
theorem q684 : (Jvm.Cond.sameMethod "RuleLists$Joined" "RuleLists$Two" "nextOther" "()I") ∈ lw_all := lw_g (lw_at lw_m3 152 rfl) rfl
theorem q686 : (Jvm.Cond.selects "RuleLists$Joined" ({ cls := "RuleLists$Joined", name := "nextOther", desc := "()I" } : Jvm.MethodName) ({ cls := "RuleLists$Two", name := "nextOther", desc := "()I" } : Jvm.MethodName)) ∈ lw_all := lw_g (lw_at lw_m3 154 rfl) rfl
theorem q689 : (Jvm.Cond.methodLink "RuleLists$Joined" (16 : Nat) ({ cls := "java/lang/Math", name := "min", desc := "(II)I" } : Jvm.MethodName)) ∈ lw_all := lw_g (lw_at lw_m3 157 rfl) rfl
theorem q690 : (Jvm.Cond.methodLink "RuleLists$Joined" (22 : Nat) ({ cls := "RuleLists$Joined", name := "pass", desc := "(ZZ)V" } : Jvm.MethodName)) ∈ lw_all := lw_g (lw_at lw_m3 158 rfl) rfl
theorem q691 : (Jvm.Cond.sameMethod "RuleLists$Joined" "RuleLists$Two" "pass" "(ZZ)V") ∈ lw_all := lw_g (lw_at lw_m3 159 rfl) rfl
theorem q693 : (Jvm.Cond.selects "RuleLists$Joined" ({ cls := "RuleLists$Joined", name := "pass", desc := "(ZZ)V" } : Jvm.MethodName) ({ cls := "RuleLists$Two", name := "pass", desc := "(ZZ)V" } : Jvm.MethodName)) ∈ lw_all := lw_g (lw_at lw_m3 161 rfl) rfl
theorem q1231 : (Jvm.Cond.selects "RuleLists$Joined" ({ cls := "RuleLists$Rule", name := "has", desc := "(I)Z" } : Jvm.MethodName) ({ cls := "RuleLists$Rule", name := "has", desc := "(I)Z" } : Jvm.MethodName)) ∈ lw_all := lw_g (lw_at lw_m5 219 rfl) rfl
theorem q1246 : (Jvm.Cond.selects "RuleLists$Joined" ({ cls := "RuleLists$Rule", name := "test", desc := "(I)Z" } : Jvm.MethodName) ({ cls := "RuleLists$Joined", name := "test", desc := "(I)Z" } : Jvm.MethodName)) ∈ lw_all := lw_g (lw_at lw_m5 234 rfl) rfl
theorem q1247 : (Jvm.Cond.instanceMethod ({ cls := "RuleLists$Joined", name := "test", desc := "(I)Z" } : Jvm.MethodName)) ∈ lw_all := lw_g (lw_at lw_m5 235 rfl) rfl
theorem q1248 : (Jvm.Cond.code ({ cls := "RuleLists$Joined", name := "test", desc := "(I)Z" } : Jvm.MethodName) prog_3_method_3_code (2 : Nat) (Option.some Jvm.ClassFile.FieldType.boolean)) ∈ lw_all := lw_g (lw_at lw_m5 236 rfl) rfl
theorem q1249 : (Jvm.Cond.methodLink "RuleLists$Joined" (30 : Nat) ({ cls := "RuleLists$Rule", name := "has", desc := "(I)Z" } : Jvm.MethodName)) ∈ lw_all := lw_g (lw_at lw_m5 237 rfl) rfl
theorem q1327 : (Jvm.Cond.selects "RuleLists$Joined" ({ cls := "RuleLists$Rule", name := "iterator", desc := "()Ljava/util/Iterator;" } : Jvm.MethodName) ({ cls := "RuleLists$Rule", name := "iterator", desc := "()Ljava/util/Iterator;" } : Jvm.MethodName)) ∈ lw_all := lw_g (lw_at lw_m6 75 rfl) rfl
theorem q1914 : (Jvm.Cond.castable "RuleLists$Joined" "RuleLists$Rule") ∈ lw_tbl := lw_at lw_m8 182 rfl
theorem q1931 : (Jvm.Cond.castable "RuleLists$Joined" "java/lang/Object") ∈ lw_tbl := lw_at lw_m8 199 rfl
theorem in_X10 : ∀ w ∈ wsX100, w ∈ lw_all := lw_in wsX100 [474, 476, 478, 480, 482, 483, 484, 485] (by decide +kernel) (by decide +kernel)

/-! RuleLists$Shared -/
set_option maxRecDepth 100000
def RX11 : String := "RuleLists$Shared"
def TX11 : u_T := fun k => match k with
  | 0 => ("RuleLists$Two", "one", "LRuleLists$Rule;", true)
  | 1 => ("RuleLists$Two", "other", "LRuleLists$Rule;", true)
  | 2 => ("RuleLists$Two", "usedOne", "I", false)
  | 3 => ("RuleLists$Two", "usedOther", "I", false)
  | 4 => ("RuleLists$Rule", "members", "[I", false)
  | 5 => ("RuleLists$Rule", "many", "I", false)
  | 6 => ("RuleLists$Rule", "ended", "Z", false)
  | _ => ("RuleLists$Rule", "tested", "[Z", false)
def tyX11 : Nat → FieldType := fun k => match k with
  | 0 => .object "RuleLists$Rule"
  | 1 => .object "RuleLists$Rule"
  | 2 => .int
  | 3 => .int
  | 4 => .array .int
  | 5 => .int
  | 6 => .boolean
  | _ => .array .boolean
abbrev wsX110 : List Cond := u_ws RX11 TX11 8
theorem nmX11 : ∀ a, a < 8 → ∀ b, b < 8 → a ≠ b → (TX11 a).2.1 ≠ (TX11 b).2.1 := by decide +kernel
theorem tyX11_ok : ∀ k, k < 8 → parseFieldDescriptor (TX11 k).2.2.1 = some (tyX11 k) := by decide +kernel
abbrev cX11_init : ByteArray := prog_10_method_1_code
def yX11_init : MethodName := ⟨RX11, "<init>", "(LRuleLists$Rule;LRuleLists$Rule;)V"⟩
def dkwX11_init_0 : List UInt8 := [42, 43, 44, 183, 0, 1, 177]
abbrev dktX11_init_0 : List UInt8 := dkwX11_init_0 ++ []
theorem dksX11_init_0 : cX11_init.data.toList.drop 0 = dktX11_init_0 := by decide +kernel
theorem dX11_init_0 : decode cX11_init 0 = .ok (.aload_n 0, 1) := dk_42 (dk_at dksX11_init_0 0 rfl rfl)
theorem dX11_init_1 : decode cX11_init 1 = .ok (.aload_n 1, 1) := dk_43 (dk_at dksX11_init_0 1 rfl rfl)
theorem dX11_init_2 : decode cX11_init 2 = .ok (.aload_n 2, 1) := dk_44 (dk_at dksX11_init_0 2 rfl rfl)
theorem dX11_init_3 : decode cX11_init 3 = .ok (.invokespecial 1, 3) := dk_183 0 1 (dk_at dksX11_init_0 3 rfl rfl)
theorem dX11_init_6 : decode cX11_init 6 = .ok (.return_, 1) := dk_177 (dk_at dksX11_init_0 6 rfl rfl)
abbrev cX11_more : ByteArray := prog_10_method_2_code
def yX11_more : MethodName := ⟨RX11, "more", "()I"⟩
def dkwX11_more_2 : List UInt8 := [182, 0, 7, 60, 42, 4, 4, 182, 0, 16, 27, 172]
abbrev dktX11_more_2 : List UInt8 := dkwX11_more_2 ++ []
def dkwX11_more_1 : List UInt8 := [167, 0, 4, 3, 60, 42, 27, 27, 154, 0, 7, 4, 167, 0, 4, 3, 182, 0, 16, 167, 255, 214, 42]
abbrev dktX11_more_1 : List UInt8 := dkwX11_more_1 ++ dktX11_more_2
def dkwX11_more_0 : List UInt8 := [42, 182, 0, 7, 42, 182, 0, 13, 159, 0, 37, 42, 182, 0, 7, 42, 182, 0, 13, 162, 0, 7, 4]
abbrev dktX11_more_0 : List UInt8 := dkwX11_more_0 ++ dktX11_more_1
theorem dksX11_more_0 : cX11_more.data.toList.drop 0 = dktX11_more_0 := by decide +kernel
theorem dksX11_more_1 : cX11_more.data.toList.drop 23 = dktX11_more_1 := dk_seg dksX11_more_0 23 rfl rfl
theorem dksX11_more_2 : cX11_more.data.toList.drop 46 = dktX11_more_2 := dk_seg dksX11_more_1 23 rfl rfl
theorem dX11_more_0 : decode cX11_more 0 = .ok (.aload_n 0, 1) := dk_42 (dk_at dksX11_more_0 0 rfl rfl)
theorem dX11_more_1 : decode cX11_more 1 = .ok (.invokevirtual 7, 3) := dk_182 0 7 (dk_at dksX11_more_0 1 rfl rfl)
theorem dX11_more_4 : decode cX11_more 4 = .ok (.aload_n 0, 1) := dk_42 (dk_at dksX11_more_0 4 rfl rfl)
theorem dX11_more_5 : decode cX11_more 5 = .ok (.invokevirtual 13, 3) := dk_182 0 13 (dk_at dksX11_more_0 5 rfl rfl)
theorem dX11_more_8 : decode cX11_more 8 = .ok (.if_icmp .eq 37, 3) := dk_159 0 37 (dk_at dksX11_more_0 8 rfl rfl)
theorem dX11_more_11 : decode cX11_more 11 = .ok (.aload_n 0, 1) := dk_42 (dk_at dksX11_more_0 11 rfl rfl)
theorem dX11_more_12 : decode cX11_more 12 = .ok (.invokevirtual 7, 3) := dk_182 0 7 (dk_at dksX11_more_0 12 rfl rfl)
theorem dX11_more_15 : decode cX11_more 15 = .ok (.aload_n 0, 1) := dk_42 (dk_at dksX11_more_0 15 rfl rfl)
theorem dX11_more_16 : decode cX11_more 16 = .ok (.invokevirtual 13, 3) := dk_182 0 13 (dk_at dksX11_more_0 16 rfl rfl)
theorem dX11_more_19 : decode cX11_more 19 = .ok (.if_icmp .ge 7, 3) := dk_162 0 7 (dk_at dksX11_more_0 19 rfl rfl)
theorem dX11_more_22 : decode cX11_more 22 = .ok (.iconst 1, 1) := dk_4 (dk_at dksX11_more_0 22 rfl rfl)
theorem dX11_more_23 : decode cX11_more 23 = .ok (.goto 4, 3) := dk_167 0 4 (dk_at dksX11_more_1 0 rfl rfl)
theorem dX11_more_26 : decode cX11_more 26 = .ok (.iconst 0, 1) := dk_3 (dk_at dksX11_more_1 3 rfl rfl)
theorem dX11_more_27 : decode cX11_more 27 = .ok (.istore_n 1, 1) := dk_60 (dk_at dksX11_more_1 4 rfl rfl)
theorem dX11_more_28 : decode cX11_more 28 = .ok (.aload_n 0, 1) := dk_42 (dk_at dksX11_more_1 5 rfl rfl)
theorem dX11_more_29 : decode cX11_more 29 = .ok (.iload_n 1, 1) := dk_27 (dk_at dksX11_more_1 6 rfl rfl)
theorem dX11_more_30 : decode cX11_more 30 = .ok (.iload_n 1, 1) := dk_27 (dk_at dksX11_more_1 7 rfl rfl)
theorem dX11_more_31 : decode cX11_more 31 = .ok (.ifCond .ne 7, 3) := dk_154 0 7 (dk_at dksX11_more_1 8 rfl rfl)
theorem dX11_more_34 : decode cX11_more 34 = .ok (.iconst 1, 1) := dk_4 (dk_at dksX11_more_1 11 rfl rfl)
theorem dX11_more_35 : decode cX11_more 35 = .ok (.goto 4, 3) := dk_167 0 4 (dk_at dksX11_more_1 12 rfl rfl)
theorem dX11_more_38 : decode cX11_more 38 = .ok (.iconst 0, 1) := dk_3 (dk_at dksX11_more_1 15 rfl rfl)
theorem dX11_more_39 : decode cX11_more 39 = .ok (.invokevirtual 16, 3) := dk_182 0 16 (dk_at dksX11_more_1 16 rfl rfl)
theorem dX11_more_42 : decode cX11_more 42 = .ok (.goto (-42), 3) := dk_167 255 214 (dk_at dksX11_more_1 19 rfl rfl)
theorem dX11_more_45 : decode cX11_more 45 = .ok (.aload_n 0, 1) := dk_42 (dk_at dksX11_more_1 22 rfl rfl)
theorem dX11_more_46 : decode cX11_more 46 = .ok (.invokevirtual 7, 3) := dk_182 0 7 (dk_at dksX11_more_2 0 rfl rfl)
theorem dX11_more_49 : decode cX11_more 49 = .ok (.istore_n 1, 1) := dk_60 (dk_at dksX11_more_2 3 rfl rfl)
theorem dX11_more_50 : decode cX11_more 50 = .ok (.aload_n 0, 1) := dk_42 (dk_at dksX11_more_2 4 rfl rfl)
theorem dX11_more_51 : decode cX11_more 51 = .ok (.iconst 1, 1) := dk_4 (dk_at dksX11_more_2 5 rfl rfl)
theorem dX11_more_52 : decode cX11_more 52 = .ok (.iconst 1, 1) := dk_4 (dk_at dksX11_more_2 6 rfl rfl)
theorem dX11_more_53 : decode cX11_more 53 = .ok (.invokevirtual 16, 3) := dk_182 0 16 (dk_at dksX11_more_2 7 rfl rfl)
theorem dX11_more_56 : decode cX11_more 56 = .ok (.iload_n 1, 1) := dk_27 (dk_at dksX11_more_2 10 rfl rfl)
theorem dX11_more_57 : decode cX11_more 57 = .ok (.ireturn, 1) := dk_172 (dk_at dksX11_more_2 11 rfl rfl)
abbrev cX11_test : ByteArray := prog_10_method_3_code
def yX11_test : MethodName := ⟨RX11, "test", "(I)Z"⟩
def dkwX11_test_1 : List UInt8 := [167, 0, 4, 3, 172]
abbrev dktX11_test_1 : List UInt8 := dkwX11_test_1 ++ []
def dkwX11_test_0 : List UInt8 := [42, 180, 0, 20, 27, 182, 0, 24, 153, 0, 18, 42, 180, 0, 30, 27, 182, 0, 24, 153, 0, 7, 4]
abbrev dktX11_test_0 : List UInt8 := dkwX11_test_0 ++ dktX11_test_1
theorem dksX11_test_0 : cX11_test.data.toList.drop 0 = dktX11_test_0 := by decide +kernel
theorem dksX11_test_1 : cX11_test.data.toList.drop 23 = dktX11_test_1 := dk_seg dksX11_test_0 23 rfl rfl
theorem dX11_test_0 : decode cX11_test 0 = .ok (.aload_n 0, 1) := dk_42 (dk_at dksX11_test_0 0 rfl rfl)
theorem dX11_test_1 : decode cX11_test 1 = .ok (.getfield 20, 3) := dk_180 0 20 (dk_at dksX11_test_0 1 rfl rfl)
theorem dX11_test_4 : decode cX11_test 4 = .ok (.iload_n 1, 1) := dk_27 (dk_at dksX11_test_0 4 rfl rfl)
theorem dX11_test_5 : decode cX11_test 5 = .ok (.invokevirtual 24, 3) := dk_182 0 24 (dk_at dksX11_test_0 5 rfl rfl)
theorem dX11_test_8 : decode cX11_test 8 = .ok (.ifCond .eq 18, 3) := dk_153 0 18 (dk_at dksX11_test_0 8 rfl rfl)
theorem dX11_test_11 : decode cX11_test 11 = .ok (.aload_n 0, 1) := dk_42 (dk_at dksX11_test_0 11 rfl rfl)
theorem dX11_test_12 : decode cX11_test 12 = .ok (.getfield 30, 3) := dk_180 0 30 (dk_at dksX11_test_0 12 rfl rfl)
theorem dX11_test_15 : decode cX11_test 15 = .ok (.iload_n 1, 1) := dk_27 (dk_at dksX11_test_0 15 rfl rfl)
theorem dX11_test_16 : decode cX11_test 16 = .ok (.invokevirtual 24, 3) := dk_182 0 24 (dk_at dksX11_test_0 16 rfl rfl)
theorem dX11_test_19 : decode cX11_test 19 = .ok (.ifCond .eq 7, 3) := dk_153 0 7 (dk_at dksX11_test_0 19 rfl rfl)
theorem dX11_test_22 : decode cX11_test 22 = .ok (.iconst 1, 1) := dk_4 (dk_at dksX11_test_0 22 rfl rfl)
theorem dX11_test_23 : decode cX11_test 23 = .ok (.goto 4, 3) := dk_167 0 4 (dk_at dksX11_test_1 0 rfl rfl)
theorem dX11_test_26 : decode cX11_test 26 = .ok (.iconst 0, 1) := dk_3 (dk_at dksX11_test_1 3 rfl rfl)
theorem dX11_test_27 : decode cX11_test 27 = .ok (.ireturn, 1) := dk_172 (dk_at dksX11_test_1 4 rfl rfl)
theorem q78 : (Jvm.Cond.initialized "RuleLists$Shared") ∈ lw_all := lw_g (lw_at lw_m1 26 rfl) rfl
theorem q346 : (Jvm.Cond.selects "RuleLists$Shared" ({ cls := "java/lang/Object", name := "getClass", desc := "()Ljava/lang/Class;" } : Jvm.MethodName) ({ cls := "java/lang/Object", name := "getClass", desc := "()Ljava/lang/Class;" } : Jvm.MethodName)) ∈ lw_all := lw_g (lw_at lw_m2 54 rfl) rfl
theorem q461 : (Jvm.Cond.fieldLink "RuleLists$Shared" (20 : Nat) "RuleLists$Shared" "one" "LRuleLists$Rule;") ∈ lw_all := lw_g (lw_at lw_m2 169 rfl) rfl
theorem q462 : (Jvm.Cond.sameField "RuleLists$Shared" "RuleLists$Two" "one" "LRuleLists$Rule;") ∈ lw_all := lw_g (lw_at lw_m2 170 rfl) rfl
theorem q468 : (Jvm.Cond.fieldLink "RuleLists$Shared" (30 : Nat) "RuleLists$Shared" "other" "LRuleLists$Rule;") ∈ lw_all := lw_g (lw_at lw_m2 176 rfl) rfl
theorem q469 : (Jvm.Cond.sameField "RuleLists$Shared" "RuleLists$Two" "other" "LRuleLists$Rule;") ∈ lw_all := lw_g (lw_at lw_m2 177 rfl) rfl
theorem q488 : (Jvm.Cond.instantiable "RuleLists$Shared" (8 : Nat)) ∈ lw_all := lw_g (lw_at lw_m2 196 rfl) rfl
theorem q490 : (Jvm.Cond.instanceMethod ({ cls := "RuleLists$Shared", name := "<init>", desc := "(LRuleLists$Rule;LRuleLists$Rule;)V" } : Jvm.MethodName)) ∈ lw_all := lw_g (lw_at lw_m2 198 rfl) rfl
theorem q491 : (Jvm.Cond.code ({ cls := "RuleLists$Shared", name := "<init>", desc := "(LRuleLists$Rule;LRuleLists$Rule;)V" } : Jvm.MethodName) prog_10_method_1_code (3 : Nat) (Option.none : Option Jvm.ClassFile.FieldType)) ∈ lw_all := lw_g (lw_at lw_m2 199 rfl) rfl
theorem q492 : (Jvm.Cond.methodLink "RuleLists$Shared" (1 : Nat) ({ cls := "RuleLists$Two", name := "<init>", desc := "(LRuleLists$Rule;LRuleLists$Rule;)V" } : Jvm.MethodName)) ∈ lw_all := lw_g (lw_at lw_m2 200 rfl) rfl
theorem q493 : (Jvm.Cond.laysFinal "RuleLists$Shared" "RuleLists$Two" "one" "LRuleLists$Rule;") ∈ lw_all := lw_g (lw_at lw_m2 201 rfl) rfl
theorem q494 : (Jvm.Cond.laysFinal "RuleLists$Shared" "RuleLists$Two" "other" "LRuleLists$Rule;") ∈ lw_all := lw_g (lw_at lw_m2 202 rfl) rfl
theorem q495 : (Jvm.Cond.lays "RuleLists$Shared" "RuleLists$Two" "usedOne" "I") ∈ lw_all := lw_g (lw_at lw_m2 203 rfl) rfl
theorem q496 : (Jvm.Cond.lays "RuleLists$Shared" "RuleLists$Two" "usedOther" "I") ∈ lw_all := lw_g (lw_at lw_m2 204 rfl) rfl
theorem q497 : (Jvm.Cond.lays "RuleLists$Shared" "RuleLists$Rule" "members" "[I") ∈ lw_all := lw_g (lw_at lw_m2 205 rfl) rfl
theorem q498 : (Jvm.Cond.lays "RuleLists$Shared" "RuleLists$Rule" "many" "I") ∈ lw_all := lw_g (lw_at lw_m2 206 rfl) rfl
theorem q499 : (Jvm.Cond.lays "RuleLists$Shared" "RuleLists$Rule" "ended" "Z") ∈ lw_all := lw_g (lw_at lw_m2 207 rfl) rfl
theorem q500 : (Jvm.Cond.lays "RuleLists$Shared" "RuleLists$Rule" "tested" "[Z") ∈ lw_all := lw_g (lw_at lw_m2 208 rfl) rfl
theorem q501 : (Jvm.Cond.superclass "RuleLists$Shared" "RuleLists$Two") ∈ lw_all := lw_g (lw_at lw_m2 209 rfl) rfl
theorem q654 : (Jvm.Cond.selects "RuleLists$Shared" ({ cls := "RuleLists$Rule", name := "member", desc := "(I)I" } : Jvm.MethodName) ({ cls := "RuleLists$Rule", name := "member", desc := "(I)I" } : Jvm.MethodName)) ∈ lw_all := lw_g (lw_at lw_m3 122 rfl) rfl
theorem q702 : (Jvm.Cond.selects "RuleLists$Shared" ({ cls := "RuleLists$Rule", name := "more", desc := "()I" } : Jvm.MethodName) ({ cls := "RuleLists$Shared", name := "more", desc := "()I" } : Jvm.MethodName)) ∈ lw_all := lw_g (lw_at lw_m3 170 rfl) rfl
theorem q703 : (Jvm.Cond.instanceMethod ({ cls := "RuleLists$Shared", name := "more", desc := "()I" } : Jvm.MethodName)) ∈ lw_all := lw_g (lw_at lw_m3 171 rfl) rfl
theorem q704 : (Jvm.Cond.code ({ cls := "RuleLists$Shared", name := "more", desc := "()I" } : Jvm.MethodName) prog_10_method_2_code (2 : Nat) (Option.some Jvm.ClassFile.FieldType.int)) ∈ lw_all := lw_g (lw_at lw_m3 172 rfl) rfl
theorem q705 : (Jvm.Cond.methodLink "RuleLists$Shared" (7 : Nat) ({ cls := "RuleLists$Shared", name := "nextOne", desc := "()I" } : Jvm.MethodName)) ∈ lw_all := lw_g (lw_at lw_m3 173 rfl) rfl
theorem q706 : (Jvm.Cond.sameMethod "RuleLists$Shared" "RuleLists$Two" "nextOne" "()I") ∈ lw_all := lw_g (lw_at lw_m3 174 rfl) rfl
theorem q707 : (Jvm.Cond.selects "RuleLists$Shared" ({ cls := "RuleLists$Shared", name := "nextOne", desc := "()I" } : Jvm.MethodName) ({ cls := "RuleLists$Two", name := "nextOne", desc := "()I" } : Jvm.MethodName)) ∈ lw_all := lw_g (lw_at lw_m3 175 rfl) rfl
theorem q708 : (Jvm.Cond.methodLink "RuleLists$Shared" (13 : Nat) ({ cls := "RuleLists$Shared", name := "nextOther", desc := "()I" } : Jvm.MethodName)) ∈ lw_all := lw_g (lw_at lw_m3 176 rfl) rfl
theorem q709 : (Jvm.Cond.sameMethod "RuleLists$Shared" "RuleLists$Two" "nextOther" "()I") ∈ lw_all := lw_g (lw_at lw_m3 177 rfl) rfl
theorem q710 : (Jvm.Cond.selects "RuleLists$Shared" ({ cls := "RuleLists$Shared", name := "nextOther", desc := "()I" } : Jvm.MethodName) ({ cls := "RuleLists$Two", name := "nextOther", desc := "()I" } : Jvm.MethodName)) ∈ lw_all := lw_g (lw_at lw_m3 178 rfl) rfl
theorem q711 : (Jvm.Cond.methodLink "RuleLists$Shared" (16 : Nat) ({ cls := "RuleLists$Shared", name := "pass", desc := "(ZZ)V" } : Jvm.MethodName)) ∈ lw_all := lw_g (lw_at lw_m3 179 rfl) rfl
theorem q712 : (Jvm.Cond.sameMethod "RuleLists$Shared" "RuleLists$Two" "pass" "(ZZ)V") ∈ lw_all := lw_g (lw_at lw_m3 180 rfl) rfl
theorem q713 : (Jvm.Cond.selects "RuleLists$Shared" ({ cls := "RuleLists$Shared", name := "pass", desc := "(ZZ)V" } : Jvm.MethodName) ({ cls := "RuleLists$Two", name := "pass", desc := "(ZZ)V" } : Jvm.MethodName)) ∈ lw_all := lw_g (lw_at lw_m3 181 rfl) rfl
theorem q1233 : (Jvm.Cond.selects "RuleLists$Shared" ({ cls := "RuleLists$Rule", name := "has", desc := "(I)Z" } : Jvm.MethodName) ({ cls := "RuleLists$Rule", name := "has", desc := "(I)Z" } : Jvm.MethodName)) ∈ lw_all := lw_g (lw_at lw_m5 221 rfl) rfl
theorem q1254 : (Jvm.Cond.selects "RuleLists$Shared" ({ cls := "RuleLists$Rule", name := "test", desc := "(I)Z" } : Jvm.MethodName) ({ cls := "RuleLists$Shared", name := "test", desc := "(I)Z" } : Jvm.MethodName)) ∈ lw_all := lw_g (lw_at lw_m6 2 rfl) rfl
theorem q1255 : (Jvm.Cond.instanceMethod ({ cls := "RuleLists$Shared", name := "test", desc := "(I)Z" } : Jvm.MethodName)) ∈ lw_all := lw_g (lw_at lw_m6 3 rfl) rfl
theorem q1256 : (Jvm.Cond.code ({ cls := "RuleLists$Shared", name := "test", desc := "(I)Z" } : Jvm.MethodName) prog_10_method_3_code (2 : Nat) (Option.some Jvm.ClassFile.FieldType.boolean)) ∈ lw_all := lw_g (lw_at lw_m6 4 rfl) rfl
theorem q1257 : (Jvm.Cond.methodLink "RuleLists$Shared" (24 : Nat) ({ cls := "RuleLists$Rule", name := "has", desc := "(I)Z" } : Jvm.MethodName)) ∈ lw_all := lw_g (lw_at lw_m6 5 rfl) rfl
theorem q1329 : (Jvm.Cond.selects "RuleLists$Shared" ({ cls := "RuleLists$Rule", name := "iterator", desc := "()Ljava/util/Iterator;" } : Jvm.MethodName) ({ cls := "RuleLists$Rule", name := "iterator", desc := "()Ljava/util/Iterator;" } : Jvm.MethodName)) ∈ lw_all := lw_g (lw_at lw_m6 77 rfl) rfl
theorem q1916 : (Jvm.Cond.castable "RuleLists$Shared" "RuleLists$Rule") ∈ lw_tbl := lw_at lw_m8 184 rfl
theorem q1932 : (Jvm.Cond.castable "RuleLists$Shared" "java/lang/Object") ∈ lw_tbl := lw_at lw_m8 200 rfl
theorem in_X11 : ∀ w ∈ wsX110, w ∈ lw_all := lw_in wsX110 [493, 494, 495, 496, 497, 498, 499, 500] (by decide +kernel) (by decide +kernel)

/-! RuleLists$Without -/
set_option maxRecDepth 100000
def RX12 : String := "RuleLists$Without"
def TX12 : u_T := fun k => match k with
  | 0 => ("RuleLists$Two", "one", "LRuleLists$Rule;", true)
  | 1 => ("RuleLists$Two", "other", "LRuleLists$Rule;", true)
  | 2 => ("RuleLists$Two", "usedOne", "I", false)
  | 3 => ("RuleLists$Two", "usedOther", "I", false)
  | 4 => ("RuleLists$Rule", "members", "[I", false)
  | 5 => ("RuleLists$Rule", "many", "I", false)
  | 6 => ("RuleLists$Rule", "ended", "Z", false)
  | _ => ("RuleLists$Rule", "tested", "[Z", false)
def tyX12 : Nat → FieldType := fun k => match k with
  | 0 => .object "RuleLists$Rule"
  | 1 => .object "RuleLists$Rule"
  | 2 => .int
  | 3 => .int
  | 4 => .array .int
  | 5 => .int
  | 6 => .boolean
  | _ => .array .boolean
abbrev wsX120 : List Cond := u_ws RX12 TX12 8
theorem nmX12 : ∀ a, a < 8 → ∀ b, b < 8 → a ≠ b → (TX12 a).2.1 ≠ (TX12 b).2.1 := by decide +kernel
theorem tyX12_ok : ∀ k, k < 8 → parseFieldDescriptor (TX12 k).2.2.1 = some (tyX12 k) := by decide +kernel
abbrev cX12_init : ByteArray := prog_16_method_1_code
def yX12_init : MethodName := ⟨RX12, "<init>", "(LRuleLists$Rule;LRuleLists$Rule;)V"⟩
def dkwX12_init_0 : List UInt8 := [42, 43, 44, 183, 0, 3, 177]
abbrev dktX12_init_0 : List UInt8 := dkwX12_init_0 ++ []
theorem dksX12_init_0 : cX12_init.data.toList.drop 0 = dktX12_init_0 := by decide +kernel
theorem dX12_init_0 : decode cX12_init 0 = .ok (.aload_n 0, 1) := dk_42 (dk_at dksX12_init_0 0 rfl rfl)
theorem dX12_init_1 : decode cX12_init 1 = .ok (.aload_n 1, 1) := dk_43 (dk_at dksX12_init_0 1 rfl rfl)
theorem dX12_init_2 : decode cX12_init 2 = .ok (.aload_n 2, 1) := dk_44 (dk_at dksX12_init_0 2 rfl rfl)
theorem dX12_init_3 : decode cX12_init 3 = .ok (.invokespecial 3, 3) := dk_183 0 3 (dk_at dksX12_init_0 3 rfl rfl)
theorem dX12_init_6 : decode cX12_init 6 = .ok (.return_, 1) := dk_177 (dk_at dksX12_init_0 6 rfl rfl)
abbrev cX12_more : ByteArray := prog_16_method_2_code
def yX12_more : MethodName := ⟨RX12, "more", "()I"⟩
def dkwX12_more_2 : List UInt8 := [167, 255, 212, 42, 182, 0, 9, 60, 42, 4, 3, 182, 0, 18, 27, 172]
abbrev dktX12_more_2 : List UInt8 := dkwX12_more_2 ++ []
def dkwX12_more_1 : List UInt8 := [182, 0, 15, 42, 182, 0, 9, 160, 0, 7, 4, 167, 0, 4, 3, 60, 42, 27, 4, 182, 0, 18]
abbrev dktX12_more_1 : List UInt8 := dkwX12_more_1 ++ dktX12_more_2
def dkwX12_more_0 : List UInt8 := [42, 182, 0, 9, 17, 3, 231, 163, 0, 40, 42, 182, 0, 15, 42, 182, 0, 9, 163, 0, 29, 42]
abbrev dktX12_more_0 : List UInt8 := dkwX12_more_0 ++ dktX12_more_1
theorem dksX12_more_0 : cX12_more.data.toList.drop 0 = dktX12_more_0 := by decide +kernel
theorem dksX12_more_1 : cX12_more.data.toList.drop 22 = dktX12_more_1 := dk_seg dksX12_more_0 22 rfl rfl
theorem dksX12_more_2 : cX12_more.data.toList.drop 44 = dktX12_more_2 := dk_seg dksX12_more_1 22 rfl rfl
theorem dX12_more_0 : decode cX12_more 0 = .ok (.aload_n 0, 1) := dk_42 (dk_at dksX12_more_0 0 rfl rfl)
theorem dX12_more_1 : decode cX12_more 1 = .ok (.invokevirtual 9, 3) := dk_182 0 9 (dk_at dksX12_more_0 1 rfl rfl)
theorem dX12_more_4 : decode cX12_more 4 = .ok (.sipush 999, 3) := dk_17 3 231 (dk_at dksX12_more_0 4 rfl rfl)
theorem dX12_more_7 : decode cX12_more 7 = .ok (.if_icmp .gt 40, 3) := dk_163 0 40 (dk_at dksX12_more_0 7 rfl rfl)
theorem dX12_more_10 : decode cX12_more 10 = .ok (.aload_n 0, 1) := dk_42 (dk_at dksX12_more_0 10 rfl rfl)
theorem dX12_more_11 : decode cX12_more 11 = .ok (.invokevirtual 15, 3) := dk_182 0 15 (dk_at dksX12_more_0 11 rfl rfl)
theorem dX12_more_14 : decode cX12_more 14 = .ok (.aload_n 0, 1) := dk_42 (dk_at dksX12_more_0 14 rfl rfl)
theorem dX12_more_15 : decode cX12_more 15 = .ok (.invokevirtual 9, 3) := dk_182 0 9 (dk_at dksX12_more_0 15 rfl rfl)
theorem dX12_more_18 : decode cX12_more 18 = .ok (.if_icmp .gt 29, 3) := dk_163 0 29 (dk_at dksX12_more_0 18 rfl rfl)
theorem dX12_more_21 : decode cX12_more 21 = .ok (.aload_n 0, 1) := dk_42 (dk_at dksX12_more_0 21 rfl rfl)
theorem dX12_more_22 : decode cX12_more 22 = .ok (.invokevirtual 15, 3) := dk_182 0 15 (dk_at dksX12_more_1 0 rfl rfl)
theorem dX12_more_25 : decode cX12_more 25 = .ok (.aload_n 0, 1) := dk_42 (dk_at dksX12_more_1 3 rfl rfl)
theorem dX12_more_26 : decode cX12_more 26 = .ok (.invokevirtual 9, 3) := dk_182 0 9 (dk_at dksX12_more_1 4 rfl rfl)
theorem dX12_more_29 : decode cX12_more 29 = .ok (.if_icmp .ne 7, 3) := dk_160 0 7 (dk_at dksX12_more_1 7 rfl rfl)
theorem dX12_more_32 : decode cX12_more 32 = .ok (.iconst 1, 1) := dk_4 (dk_at dksX12_more_1 10 rfl rfl)
theorem dX12_more_33 : decode cX12_more 33 = .ok (.goto 4, 3) := dk_167 0 4 (dk_at dksX12_more_1 11 rfl rfl)
theorem dX12_more_36 : decode cX12_more 36 = .ok (.iconst 0, 1) := dk_3 (dk_at dksX12_more_1 14 rfl rfl)
theorem dX12_more_37 : decode cX12_more 37 = .ok (.istore_n 1, 1) := dk_60 (dk_at dksX12_more_1 15 rfl rfl)
theorem dX12_more_38 : decode cX12_more 38 = .ok (.aload_n 0, 1) := dk_42 (dk_at dksX12_more_1 16 rfl rfl)
theorem dX12_more_39 : decode cX12_more 39 = .ok (.iload_n 1, 1) := dk_27 (dk_at dksX12_more_1 17 rfl rfl)
theorem dX12_more_40 : decode cX12_more 40 = .ok (.iconst 1, 1) := dk_4 (dk_at dksX12_more_1 18 rfl rfl)
theorem dX12_more_41 : decode cX12_more 41 = .ok (.invokevirtual 18, 3) := dk_182 0 18 (dk_at dksX12_more_1 19 rfl rfl)
theorem dX12_more_44 : decode cX12_more 44 = .ok (.goto (-44), 3) := dk_167 255 212 (dk_at dksX12_more_2 0 rfl rfl)
theorem dX12_more_47 : decode cX12_more 47 = .ok (.aload_n 0, 1) := dk_42 (dk_at dksX12_more_2 3 rfl rfl)
theorem dX12_more_48 : decode cX12_more 48 = .ok (.invokevirtual 9, 3) := dk_182 0 9 (dk_at dksX12_more_2 4 rfl rfl)
theorem dX12_more_51 : decode cX12_more 51 = .ok (.istore_n 1, 1) := dk_60 (dk_at dksX12_more_2 7 rfl rfl)
theorem dX12_more_52 : decode cX12_more 52 = .ok (.aload_n 0, 1) := dk_42 (dk_at dksX12_more_2 8 rfl rfl)
theorem dX12_more_53 : decode cX12_more 53 = .ok (.iconst 1, 1) := dk_4 (dk_at dksX12_more_2 9 rfl rfl)
theorem dX12_more_54 : decode cX12_more 54 = .ok (.iconst 0, 1) := dk_3 (dk_at dksX12_more_2 10 rfl rfl)
theorem dX12_more_55 : decode cX12_more 55 = .ok (.invokevirtual 18, 3) := dk_182 0 18 (dk_at dksX12_more_2 11 rfl rfl)
theorem dX12_more_58 : decode cX12_more 58 = .ok (.iload_n 1, 1) := dk_27 (dk_at dksX12_more_2 14 rfl rfl)
theorem dX12_more_59 : decode cX12_more 59 = .ok (.ireturn, 1) := dk_172 (dk_at dksX12_more_2 15 rfl rfl)
abbrev cX12_test : ByteArray := prog_16_method_3_code
def yX12_test : MethodName := ⟨RX12, "test", "(I)Z"⟩
def dkwX12_test_1 : List UInt8 := [167, 0, 4, 3, 172]
abbrev dktX12_test_1 : List UInt8 := dkwX12_test_1 ++ []
def dkwX12_test_0 : List UInt8 := [42, 180, 0, 22, 27, 182, 0, 26, 153, 0, 18, 42, 180, 0, 32, 27, 182, 0, 26, 154, 0, 7, 4]
abbrev dktX12_test_0 : List UInt8 := dkwX12_test_0 ++ dktX12_test_1
theorem dksX12_test_0 : cX12_test.data.toList.drop 0 = dktX12_test_0 := by decide +kernel
theorem dksX12_test_1 : cX12_test.data.toList.drop 23 = dktX12_test_1 := dk_seg dksX12_test_0 23 rfl rfl
theorem dX12_test_0 : decode cX12_test 0 = .ok (.aload_n 0, 1) := dk_42 (dk_at dksX12_test_0 0 rfl rfl)
theorem dX12_test_1 : decode cX12_test 1 = .ok (.getfield 22, 3) := dk_180 0 22 (dk_at dksX12_test_0 1 rfl rfl)
theorem dX12_test_4 : decode cX12_test 4 = .ok (.iload_n 1, 1) := dk_27 (dk_at dksX12_test_0 4 rfl rfl)
theorem dX12_test_5 : decode cX12_test 5 = .ok (.invokevirtual 26, 3) := dk_182 0 26 (dk_at dksX12_test_0 5 rfl rfl)
theorem dX12_test_8 : decode cX12_test 8 = .ok (.ifCond .eq 18, 3) := dk_153 0 18 (dk_at dksX12_test_0 8 rfl rfl)
theorem dX12_test_11 : decode cX12_test 11 = .ok (.aload_n 0, 1) := dk_42 (dk_at dksX12_test_0 11 rfl rfl)
theorem dX12_test_12 : decode cX12_test 12 = .ok (.getfield 32, 3) := dk_180 0 32 (dk_at dksX12_test_0 12 rfl rfl)
theorem dX12_test_15 : decode cX12_test 15 = .ok (.iload_n 1, 1) := dk_27 (dk_at dksX12_test_0 15 rfl rfl)
theorem dX12_test_16 : decode cX12_test 16 = .ok (.invokevirtual 26, 3) := dk_182 0 26 (dk_at dksX12_test_0 16 rfl rfl)
theorem dX12_test_19 : decode cX12_test 19 = .ok (.ifCond .ne 7, 3) := dk_154 0 7 (dk_at dksX12_test_0 19 rfl rfl)
theorem dX12_test_22 : decode cX12_test 22 = .ok (.iconst 1, 1) := dk_4 (dk_at dksX12_test_0 22 rfl rfl)
theorem dX12_test_23 : decode cX12_test 23 = .ok (.goto 4, 3) := dk_167 0 4 (dk_at dksX12_test_1 0 rfl rfl)
theorem dX12_test_26 : decode cX12_test 26 = .ok (.iconst 0, 1) := dk_3 (dk_at dksX12_test_1 3 rfl rfl)
theorem dX12_test_27 : decode cX12_test 27 = .ok (.ireturn, 1) := dk_172 (dk_at dksX12_test_1 4 rfl rfl)
theorem q79 : (Jvm.Cond.initialized "RuleLists$Without") ∈ lw_all := lw_g (lw_at lw_m1 27 rfl) rfl
theorem q351 : (Jvm.Cond.selects "RuleLists$Without" ({ cls := "java/lang/Object", name := "getClass", desc := "()Ljava/lang/Class;" } : Jvm.MethodName) ({ cls := "java/lang/Object", name := "getClass", desc := "()Ljava/lang/Class;" } : Jvm.MethodName)) ∈ lw_all := lw_g (lw_at lw_m2 59 rfl) rfl
theorem q463 : (Jvm.Cond.fieldLink "RuleLists$Without" (22 : Nat) "RuleLists$Without" "one" "LRuleLists$Rule;") ∈ lw_all := lw_g (lw_at lw_m2 171 rfl) rfl
theorem q464 : (Jvm.Cond.sameField "RuleLists$Without" "RuleLists$Two" "one" "LRuleLists$Rule;") ∈ lw_all := lw_g (lw_at lw_m2 172 rfl) rfl
theorem q470 : (Jvm.Cond.fieldLink "RuleLists$Without" (32 : Nat) "RuleLists$Without" "other" "LRuleLists$Rule;") ∈ lw_all := lw_g (lw_at lw_m2 178 rfl) rfl
theorem q471 : (Jvm.Cond.sameField "RuleLists$Without" "RuleLists$Two" "other" "LRuleLists$Rule;") ∈ lw_all := lw_g (lw_at lw_m2 179 rfl) rfl
theorem q503 : (Jvm.Cond.instantiable "RuleLists$Without" (8 : Nat)) ∈ lw_all := lw_g (lw_at lw_m2 211 rfl) rfl
theorem q505 : (Jvm.Cond.instanceMethod ({ cls := "RuleLists$Without", name := "<init>", desc := "(LRuleLists$Rule;LRuleLists$Rule;)V" } : Jvm.MethodName)) ∈ lw_all := lw_g (lw_at lw_m2 213 rfl) rfl
theorem q506 : (Jvm.Cond.code ({ cls := "RuleLists$Without", name := "<init>", desc := "(LRuleLists$Rule;LRuleLists$Rule;)V" } : Jvm.MethodName) prog_16_method_1_code (3 : Nat) (Option.none : Option Jvm.ClassFile.FieldType)) ∈ lw_all := lw_g (lw_at lw_m2 214 rfl) rfl
theorem q507 : (Jvm.Cond.methodLink "RuleLists$Without" (3 : Nat) ({ cls := "RuleLists$Two", name := "<init>", desc := "(LRuleLists$Rule;LRuleLists$Rule;)V" } : Jvm.MethodName)) ∈ lw_all := lw_g (lw_at lw_m2 215 rfl) rfl
theorem q508 : (Jvm.Cond.laysFinal "RuleLists$Without" "RuleLists$Two" "one" "LRuleLists$Rule;") ∈ lw_all := lw_g (lw_at lw_m2 216 rfl) rfl
theorem q509 : (Jvm.Cond.laysFinal "RuleLists$Without" "RuleLists$Two" "other" "LRuleLists$Rule;") ∈ lw_all := lw_g (lw_at lw_m2 217 rfl) rfl
theorem q510 : (Jvm.Cond.lays "RuleLists$Without" "RuleLists$Two" "usedOne" "I") ∈ lw_all := lw_g (lw_at lw_m2 218 rfl) rfl
theorem q511 : (Jvm.Cond.lays "RuleLists$Without" "RuleLists$Two" "usedOther" "I") ∈ lw_all := lw_g (lw_at lw_m2 219 rfl) rfl
theorem q512 : (Jvm.Cond.lays "RuleLists$Without" "RuleLists$Rule" "members" "[I") ∈ lw_all := lw_g (lw_at lw_m2 220 rfl) rfl
theorem q513 : (Jvm.Cond.lays "RuleLists$Without" "RuleLists$Rule" "many" "I") ∈ lw_all := lw_g (lw_at lw_m2 221 rfl) rfl
theorem q514 : (Jvm.Cond.lays "RuleLists$Without" "RuleLists$Rule" "ended" "Z") ∈ lw_all := lw_g (lw_at lw_m2 222 rfl) rfl
theorem q515 : (Jvm.Cond.lays "RuleLists$Without" "RuleLists$Rule" "tested" "[Z") ∈ lw_all := lw_g (lw_at lw_m2 223 rfl) rfl
theorem q516 : (Jvm.Cond.superclass "RuleLists$Without" "RuleLists$Two") ∈ lw_all := lw_g (lw_at lw_m2 224 rfl) rfl
theorem q658 : (Jvm.Cond.selects "RuleLists$Without" ({ cls := "RuleLists$Rule", name := "member", desc := "(I)I" } : Jvm.MethodName) ({ cls := "RuleLists$Rule", name := "member", desc := "(I)I" } : Jvm.MethodName)) ∈ lw_all := lw_g (lw_at lw_m3 126 rfl) rfl
theorem q741 : (Jvm.Cond.selects "RuleLists$Without" ({ cls := "RuleLists$Rule", name := "more", desc := "()I" } : Jvm.MethodName) ({ cls := "RuleLists$Without", name := "more", desc := "()I" } : Jvm.MethodName)) ∈ lw_all := lw_g (lw_at lw_m3 209 rfl) rfl
theorem q742 : (Jvm.Cond.instanceMethod ({ cls := "RuleLists$Without", name := "more", desc := "()I" } : Jvm.MethodName)) ∈ lw_all := lw_g (lw_at lw_m3 210 rfl) rfl
theorem q743 : (Jvm.Cond.code ({ cls := "RuleLists$Without", name := "more", desc := "()I" } : Jvm.MethodName) prog_16_method_2_code (2 : Nat) (Option.some Jvm.ClassFile.FieldType.int)) ∈ lw_all := lw_g (lw_at lw_m3 211 rfl) rfl
theorem q744 : (Jvm.Cond.methodLink "RuleLists$Without" (9 : Nat) ({ cls := "RuleLists$Without", name := "nextOne", desc := "()I" } : Jvm.MethodName)) ∈ lw_all := lw_g (lw_at lw_m3 212 rfl) rfl
theorem q745 : (Jvm.Cond.sameMethod "RuleLists$Without" "RuleLists$Two" "nextOne" "()I") ∈ lw_all := lw_g (lw_at lw_m3 213 rfl) rfl
theorem q746 : (Jvm.Cond.selects "RuleLists$Without" ({ cls := "RuleLists$Without", name := "nextOne", desc := "()I" } : Jvm.MethodName) ({ cls := "RuleLists$Two", name := "nextOne", desc := "()I" } : Jvm.MethodName)) ∈ lw_all := lw_g (lw_at lw_m3 214 rfl) rfl
theorem q747 : (Jvm.Cond.methodLink "RuleLists$Without" (15 : Nat) ({ cls := "RuleLists$Without", name := "nextOther", desc := "()I" } : Jvm.MethodName)) ∈ lw_all := lw_g (lw_at lw_m3 215 rfl) rfl
theorem q748 : (Jvm.Cond.sameMethod "RuleLists$Without" "RuleLists$Two" "nextOther" "()I") ∈ lw_all := lw_g (lw_at lw_m3 216 rfl) rfl
theorem q749 : (Jvm.Cond.selects "RuleLists$Without" ({ cls := "RuleLists$Without", name := "nextOther", desc := "()I" } : Jvm.MethodName) ({ cls := "RuleLists$Two", name := "nextOther", desc := "()I" } : Jvm.MethodName)) ∈ lw_all := lw_g (lw_at lw_m3 217 rfl) rfl
theorem q750 : (Jvm.Cond.methodLink "RuleLists$Without" (18 : Nat) ({ cls := "RuleLists$Without", name := "pass", desc := "(ZZ)V" } : Jvm.MethodName)) ∈ lw_all := lw_g (lw_at lw_m3 218 rfl) rfl
theorem q751 : (Jvm.Cond.sameMethod "RuleLists$Without" "RuleLists$Two" "pass" "(ZZ)V") ∈ lw_all := lw_g (lw_at lw_m3 219 rfl) rfl
theorem q752 : (Jvm.Cond.selects "RuleLists$Without" ({ cls := "RuleLists$Without", name := "pass", desc := "(ZZ)V" } : Jvm.MethodName) ({ cls := "RuleLists$Two", name := "pass", desc := "(ZZ)V" } : Jvm.MethodName)) ∈ lw_all := lw_g (lw_at lw_m3 220 rfl) rfl
theorem q1237 : (Jvm.Cond.selects "RuleLists$Without" ({ cls := "RuleLists$Rule", name := "has", desc := "(I)Z" } : Jvm.MethodName) ({ cls := "RuleLists$Rule", name := "has", desc := "(I)Z" } : Jvm.MethodName)) ∈ lw_all := lw_g (lw_at lw_m5 225 rfl) rfl
theorem q1269 : (Jvm.Cond.selects "RuleLists$Without" ({ cls := "RuleLists$Rule", name := "test", desc := "(I)Z" } : Jvm.MethodName) ({ cls := "RuleLists$Without", name := "test", desc := "(I)Z" } : Jvm.MethodName)) ∈ lw_all := lw_g (lw_at lw_m6 17 rfl) rfl
theorem q1270 : (Jvm.Cond.instanceMethod ({ cls := "RuleLists$Without", name := "test", desc := "(I)Z" } : Jvm.MethodName)) ∈ lw_all := lw_g (lw_at lw_m6 18 rfl) rfl
theorem q1271 : (Jvm.Cond.code ({ cls := "RuleLists$Without", name := "test", desc := "(I)Z" } : Jvm.MethodName) prog_16_method_3_code (2 : Nat) (Option.some Jvm.ClassFile.FieldType.boolean)) ∈ lw_all := lw_g (lw_at lw_m6 19 rfl) rfl
theorem q1272 : (Jvm.Cond.methodLink "RuleLists$Without" (26 : Nat) ({ cls := "RuleLists$Rule", name := "has", desc := "(I)Z" } : Jvm.MethodName)) ∈ lw_all := lw_g (lw_at lw_m6 20 rfl) rfl
theorem q1333 : (Jvm.Cond.selects "RuleLists$Without" ({ cls := "RuleLists$Rule", name := "iterator", desc := "()Ljava/util/Iterator;" } : Jvm.MethodName) ({ cls := "RuleLists$Rule", name := "iterator", desc := "()Ljava/util/Iterator;" } : Jvm.MethodName)) ∈ lw_all := lw_g (lw_at lw_m6 81 rfl) rfl
theorem q1920 : (Jvm.Cond.castable "RuleLists$Without" "RuleLists$Rule") ∈ lw_tbl := lw_at lw_m8 188 rfl
theorem q1933 : (Jvm.Cond.castable "RuleLists$Without" "java/lang/Object") ∈ lw_tbl := lw_at lw_m8 201 rfl
theorem in_X12 : ∀ w ∈ wsX120, w ∈ lw_all := lw_in wsX120 [508, 509, 510, 511, 512, 513, 514, 515] (by decide +kernel) (by decide +kernel)

/-! RuleLists$Sieved -/
set_option maxRecDepth 100000
def RX13 : String := "RuleLists$Sieved"
def TX13 : u_T := fun k => match k with
  | 0 => ("RuleLists$One", "of", "LRuleLists$Rule;", true)
  | 1 => ("RuleLists$One", "used", "I", false)
  | 2 => ("RuleLists$Rule", "members", "[I", false)
  | 3 => ("RuleLists$Rule", "many", "I", false)
  | 4 => ("RuleLists$Rule", "ended", "Z", false)
  | _ => ("RuleLists$Rule", "tested", "[Z", false)
def tyX13 : Nat → FieldType := fun k => match k with
  | 0 => .object "RuleLists$Rule"
  | 1 => .int
  | 2 => .array .int
  | 3 => .int
  | 4 => .boolean
  | _ => .array .boolean
abbrev wsX130 : List Cond := u_ws RX13 TX13 6
theorem nmX13 : ∀ a, a < 6 → ∀ b, b < 6 → a ≠ b → (TX13 a).2.1 ≠ (TX13 b).2.1 := by decide +kernel
theorem tyX13_ok : ∀ k, k < 6 → parseFieldDescriptor (TX13 k).2.2.1 = some (tyX13 k) := by decide +kernel
abbrev cX13_init : ByteArray := prog_12_method_1_code
def yX13_init : MethodName := ⟨RX13, "<init>", "(LRuleLists$Rule;)V"⟩
def dkwX13_init_0 : List UInt8 := [42, 43, 183, 0, 3, 177]
abbrev dktX13_init_0 : List UInt8 := dkwX13_init_0 ++ []
theorem dksX13_init_0 : cX13_init.data.toList.drop 0 = dktX13_init_0 := by decide +kernel
theorem dX13_init_0 : decode cX13_init 0 = .ok (.aload_n 0, 1) := dk_42 (dk_at dksX13_init_0 0 rfl rfl)
theorem dX13_init_1 : decode cX13_init 1 = .ok (.aload_n 1, 1) := dk_43 (dk_at dksX13_init_0 1 rfl rfl)
theorem dX13_init_2 : decode cX13_init 2 = .ok (.invokespecial 3, 3) := dk_183 0 3 (dk_at dksX13_init_0 2 rfl rfl)
theorem dX13_init_5 : decode cX13_init 5 = .ok (.return_, 1) := dk_177 (dk_at dksX13_init_0 5 rfl rfl)
abbrev cX13_more : ByteArray := prog_12_method_2_code
def yX13_more : MethodName := ⟨RX13, "more", "()I"⟩
def dkwX13_more_1 : List UInt8 := [60, 167, 255, 236, 27, 172]
abbrev dktX13_more_1 : List UInt8 := dkwX13_more_1 ++ []
def dkwX13_more_0 : List UInt8 := [42, 182, 0, 9, 60, 27, 17, 3, 231, 163, 0, 19, 42, 27, 182, 0, 15, 153, 0, 11, 42, 182, 0, 9]
abbrev dktX13_more_0 : List UInt8 := dkwX13_more_0 ++ dktX13_more_1
theorem dksX13_more_0 : cX13_more.data.toList.drop 0 = dktX13_more_0 := by decide +kernel
theorem dksX13_more_1 : cX13_more.data.toList.drop 24 = dktX13_more_1 := dk_seg dksX13_more_0 24 rfl rfl
theorem dX13_more_0 : decode cX13_more 0 = .ok (.aload_n 0, 1) := dk_42 (dk_at dksX13_more_0 0 rfl rfl)
theorem dX13_more_1 : decode cX13_more 1 = .ok (.invokevirtual 9, 3) := dk_182 0 9 (dk_at dksX13_more_0 1 rfl rfl)
theorem dX13_more_4 : decode cX13_more 4 = .ok (.istore_n 1, 1) := dk_60 (dk_at dksX13_more_0 4 rfl rfl)
theorem dX13_more_5 : decode cX13_more 5 = .ok (.iload_n 1, 1) := dk_27 (dk_at dksX13_more_0 5 rfl rfl)
theorem dX13_more_6 : decode cX13_more 6 = .ok (.sipush 999, 3) := dk_17 3 231 (dk_at dksX13_more_0 6 rfl rfl)
theorem dX13_more_9 : decode cX13_more 9 = .ok (.if_icmp .gt 19, 3) := dk_163 0 19 (dk_at dksX13_more_0 9 rfl rfl)
theorem dX13_more_12 : decode cX13_more 12 = .ok (.aload_n 0, 1) := dk_42 (dk_at dksX13_more_0 12 rfl rfl)
theorem dX13_more_13 : decode cX13_more 13 = .ok (.iload_n 1, 1) := dk_27 (dk_at dksX13_more_0 13 rfl rfl)
theorem dX13_more_14 : decode cX13_more 14 = .ok (.invokevirtual 15, 3) := dk_182 0 15 (dk_at dksX13_more_0 14 rfl rfl)
theorem dX13_more_17 : decode cX13_more 17 = .ok (.ifCond .eq 11, 3) := dk_153 0 11 (dk_at dksX13_more_0 17 rfl rfl)
theorem dX13_more_20 : decode cX13_more 20 = .ok (.aload_n 0, 1) := dk_42 (dk_at dksX13_more_0 20 rfl rfl)
theorem dX13_more_21 : decode cX13_more 21 = .ok (.invokevirtual 9, 3) := dk_182 0 9 (dk_at dksX13_more_0 21 rfl rfl)
theorem dX13_more_24 : decode cX13_more 24 = .ok (.istore_n 1, 1) := dk_60 (dk_at dksX13_more_1 0 rfl rfl)
theorem dX13_more_25 : decode cX13_more 25 = .ok (.goto (-20), 3) := dk_167 255 236 (dk_at dksX13_more_1 1 rfl rfl)
theorem dX13_more_28 : decode cX13_more 28 = .ok (.iload_n 1, 1) := dk_27 (dk_at dksX13_more_1 4 rfl rfl)
theorem dX13_more_29 : decode cX13_more 29 = .ok (.ireturn, 1) := dk_172 (dk_at dksX13_more_1 5 rfl rfl)
abbrev cX13_test : ByteArray := prog_12_method_3_code
def yX13_test : MethodName := ⟨RX13, "test", "(I)Z"⟩
def dkwX13_test_2 : List UInt8 := [182, 0, 23, 153, 0, 11, 28, 154, 0, 7, 4, 167, 0, 4, 3, 172]
abbrev dktX13_test_2 : List UInt8 := dkwX13_test_2 ++ []
def dkwX13_test_1 : List UInt8 := [182, 0, 23, 153, 0, 7, 4, 167, 0, 4, 3, 61, 132, 3, 1, 167, 255, 221, 42, 180, 0, 19, 27]
abbrev dktX13_test_1 : List UInt8 := dkwX13_test_1 ++ dktX13_test_2
def dkwX13_test_0 : List UInt8 := [3, 61, 5, 62, 29, 27, 162, 0, 36, 28, 154, 0, 20, 27, 29, 112, 154, 0, 18, 42, 180, 0, 19, 29]
abbrev dktX13_test_0 : List UInt8 := dkwX13_test_0 ++ dktX13_test_1
theorem dksX13_test_0 : cX13_test.data.toList.drop 0 = dktX13_test_0 := by decide +kernel
theorem dksX13_test_1 : cX13_test.data.toList.drop 24 = dktX13_test_1 := dk_seg dksX13_test_0 24 rfl rfl
theorem dksX13_test_2 : cX13_test.data.toList.drop 47 = dktX13_test_2 := dk_seg dksX13_test_1 23 rfl rfl
theorem dX13_test_0 : decode cX13_test 0 = .ok (.iconst 0, 1) := dk_3 (dk_at dksX13_test_0 0 rfl rfl)
theorem dX13_test_1 : decode cX13_test 1 = .ok (.istore_n 2, 1) := dk_61 (dk_at dksX13_test_0 1 rfl rfl)
theorem dX13_test_2 : decode cX13_test 2 = .ok (.iconst 2, 1) := dk_5 (dk_at dksX13_test_0 2 rfl rfl)
theorem dX13_test_3 : decode cX13_test 3 = .ok (.istore_n 3, 1) := dk_62 (dk_at dksX13_test_0 3 rfl rfl)
theorem dX13_test_4 : decode cX13_test 4 = .ok (.iload_n 3, 1) := dk_29 (dk_at dksX13_test_0 4 rfl rfl)
theorem dX13_test_5 : decode cX13_test 5 = .ok (.iload_n 1, 1) := dk_27 (dk_at dksX13_test_0 5 rfl rfl)
theorem dX13_test_6 : decode cX13_test 6 = .ok (.if_icmp .ge 36, 3) := dk_162 0 36 (dk_at dksX13_test_0 6 rfl rfl)
theorem dX13_test_9 : decode cX13_test 9 = .ok (.iload_n 2, 1) := dk_28 (dk_at dksX13_test_0 9 rfl rfl)
theorem dX13_test_10 : decode cX13_test 10 = .ok (.ifCond .ne 20, 3) := dk_154 0 20 (dk_at dksX13_test_0 10 rfl rfl)
theorem dX13_test_13 : decode cX13_test 13 = .ok (.iload_n 1, 1) := dk_27 (dk_at dksX13_test_0 13 rfl rfl)
theorem dX13_test_14 : decode cX13_test 14 = .ok (.iload_n 3, 1) := dk_29 (dk_at dksX13_test_0 14 rfl rfl)
theorem dX13_test_15 : decode cX13_test 15 = .ok (.irem, 1) := dk_112 (dk_at dksX13_test_0 15 rfl rfl)
theorem dX13_test_16 : decode cX13_test 16 = .ok (.ifCond .ne 18, 3) := dk_154 0 18 (dk_at dksX13_test_0 16 rfl rfl)
theorem dX13_test_19 : decode cX13_test 19 = .ok (.aload_n 0, 1) := dk_42 (dk_at dksX13_test_0 19 rfl rfl)
theorem dX13_test_20 : decode cX13_test 20 = .ok (.getfield 19, 3) := dk_180 0 19 (dk_at dksX13_test_0 20 rfl rfl)
theorem dX13_test_23 : decode cX13_test 23 = .ok (.iload_n 3, 1) := dk_29 (dk_at dksX13_test_0 23 rfl rfl)
theorem dX13_test_24 : decode cX13_test 24 = .ok (.invokevirtual 23, 3) := dk_182 0 23 (dk_at dksX13_test_1 0 rfl rfl)
theorem dX13_test_27 : decode cX13_test 27 = .ok (.ifCond .eq 7, 3) := dk_153 0 7 (dk_at dksX13_test_1 3 rfl rfl)
theorem dX13_test_30 : decode cX13_test 30 = .ok (.iconst 1, 1) := dk_4 (dk_at dksX13_test_1 6 rfl rfl)
theorem dX13_test_31 : decode cX13_test 31 = .ok (.goto 4, 3) := dk_167 0 4 (dk_at dksX13_test_1 7 rfl rfl)
theorem dX13_test_34 : decode cX13_test 34 = .ok (.iconst 0, 1) := dk_3 (dk_at dksX13_test_1 10 rfl rfl)
theorem dX13_test_35 : decode cX13_test 35 = .ok (.istore_n 2, 1) := dk_61 (dk_at dksX13_test_1 11 rfl rfl)
theorem dX13_test_36 : decode cX13_test 36 = .ok (.iinc 3 1, 3) := dk_132 3 1 (dk_at dksX13_test_1 12 rfl rfl)
theorem dX13_test_39 : decode cX13_test 39 = .ok (.goto (-35), 3) := dk_167 255 221 (dk_at dksX13_test_1 15 rfl rfl)
theorem dX13_test_42 : decode cX13_test 42 = .ok (.aload_n 0, 1) := dk_42 (dk_at dksX13_test_1 18 rfl rfl)
theorem dX13_test_43 : decode cX13_test 43 = .ok (.getfield 19, 3) := dk_180 0 19 (dk_at dksX13_test_1 19 rfl rfl)
theorem dX13_test_46 : decode cX13_test 46 = .ok (.iload_n 1, 1) := dk_27 (dk_at dksX13_test_1 22 rfl rfl)
theorem dX13_test_47 : decode cX13_test 47 = .ok (.invokevirtual 23, 3) := dk_182 0 23 (dk_at dksX13_test_2 0 rfl rfl)
theorem dX13_test_50 : decode cX13_test 50 = .ok (.ifCond .eq 11, 3) := dk_153 0 11 (dk_at dksX13_test_2 3 rfl rfl)
theorem dX13_test_53 : decode cX13_test 53 = .ok (.iload_n 2, 1) := dk_28 (dk_at dksX13_test_2 6 rfl rfl)
theorem dX13_test_54 : decode cX13_test 54 = .ok (.ifCond .ne 7, 3) := dk_154 0 7 (dk_at dksX13_test_2 7 rfl rfl)
theorem dX13_test_57 : decode cX13_test 57 = .ok (.iconst 1, 1) := dk_4 (dk_at dksX13_test_2 10 rfl rfl)
theorem dX13_test_58 : decode cX13_test 58 = .ok (.goto 4, 3) := dk_167 0 4 (dk_at dksX13_test_2 11 rfl rfl)
theorem dX13_test_61 : decode cX13_test 61 = .ok (.iconst 0, 1) := dk_3 (dk_at dksX13_test_2 14 rfl rfl)
theorem dX13_test_62 : decode cX13_test 62 = .ok (.ireturn, 1) := dk_172 (dk_at dksX13_test_2 15 rfl rfl)
theorem q80 : (Jvm.Cond.initialized "RuleLists$Sieved") ∈ lw_all := lw_g (lw_at lw_m1 28 rfl) rfl
theorem q348 : (Jvm.Cond.selects "RuleLists$Sieved" ({ cls := "java/lang/Object", name := "getClass", desc := "()Ljava/lang/Class;" } : Jvm.MethodName) ({ cls := "java/lang/Object", name := "getClass", desc := "()Ljava/lang/Class;" } : Jvm.MethodName)) ∈ lw_all := lw_g (lw_at lw_m2 56 rfl) rfl
theorem q427 : (Jvm.Cond.fieldLink "RuleLists$Sieved" (19 : Nat) "RuleLists$Sieved" "of" "LRuleLists$Rule;") ∈ lw_all := lw_g (lw_at lw_m2 135 rfl) rfl
theorem q428 : (Jvm.Cond.sameField "RuleLists$Sieved" "RuleLists$One" "of" "LRuleLists$Rule;") ∈ lw_all := lw_g (lw_at lw_m2 136 rfl) rfl
theorem q522 : (Jvm.Cond.instantiable "RuleLists$Sieved" (6 : Nat)) ∈ lw_all := lw_g (lw_at lw_m2 230 rfl) rfl
theorem q524 : (Jvm.Cond.instanceMethod ({ cls := "RuleLists$Sieved", name := "<init>", desc := "(LRuleLists$Rule;)V" } : Jvm.MethodName)) ∈ lw_all := lw_g (lw_at lw_m2 232 rfl) rfl
theorem q525 : (Jvm.Cond.code ({ cls := "RuleLists$Sieved", name := "<init>", desc := "(LRuleLists$Rule;)V" } : Jvm.MethodName) prog_12_method_1_code (2 : Nat) (Option.none : Option Jvm.ClassFile.FieldType)) ∈ lw_all := lw_g (lw_at lw_m2 233 rfl) rfl
theorem q526 : (Jvm.Cond.methodLink "RuleLists$Sieved" (3 : Nat) ({ cls := "RuleLists$One", name := "<init>", desc := "(LRuleLists$Rule;)V" } : Jvm.MethodName)) ∈ lw_all := lw_g (lw_at lw_m2 234 rfl) rfl
theorem q527 : (Jvm.Cond.laysFinal "RuleLists$Sieved" "RuleLists$One" "of" "LRuleLists$Rule;") ∈ lw_all := lw_g (lw_at lw_m2 235 rfl) rfl
theorem q528 : (Jvm.Cond.lays "RuleLists$Sieved" "RuleLists$One" "used" "I") ∈ lw_all := lw_g (lw_at lw_m2 236 rfl) rfl
theorem q529 : (Jvm.Cond.lays "RuleLists$Sieved" "RuleLists$Rule" "members" "[I") ∈ lw_all := lw_g (lw_at lw_m2 237 rfl) rfl
theorem q530 : (Jvm.Cond.lays "RuleLists$Sieved" "RuleLists$Rule" "many" "I") ∈ lw_all := lw_g (lw_at lw_m2 238 rfl) rfl
theorem q531 : (Jvm.Cond.lays "RuleLists$Sieved" "RuleLists$Rule" "ended" "Z") ∈ lw_all := lw_g (lw_at lw_m2 239 rfl) rfl
theorem q532 : (Jvm.Cond.lays "RuleLists$Sieved" "RuleLists$Rule" "tested" "[Z") ∈ lw_all := lw_g (lw_at lw_m3 0 rfl) rfl
theorem q533 : (Jvm.Cond.superclass "RuleLists$Sieved" "RuleLists$One") ∈ lw_all := lw_g (lw_at lw_m3 1 rfl) rfl
theorem q655 : (Jvm.Cond.selects "RuleLists$Sieved" ({ cls := "RuleLists$Rule", name := "member", desc := "(I)I" } : Jvm.MethodName) ({ cls := "RuleLists$Rule", name := "member", desc := "(I)I" } : Jvm.MethodName)) ∈ lw_all := lw_g (lw_at lw_m3 123 rfl) rfl
theorem q714 : (Jvm.Cond.selects "RuleLists$Sieved" ({ cls := "RuleLists$Rule", name := "more", desc := "()I" } : Jvm.MethodName) ({ cls := "RuleLists$Sieved", name := "more", desc := "()I" } : Jvm.MethodName)) ∈ lw_all := lw_g (lw_at lw_m3 182 rfl) rfl
theorem q715 : (Jvm.Cond.instanceMethod ({ cls := "RuleLists$Sieved", name := "more", desc := "()I" } : Jvm.MethodName)) ∈ lw_all := lw_g (lw_at lw_m3 183 rfl) rfl
theorem q716 : (Jvm.Cond.code ({ cls := "RuleLists$Sieved", name := "more", desc := "()I" } : Jvm.MethodName) prog_12_method_2_code (2 : Nat) (Option.some Jvm.ClassFile.FieldType.int)) ∈ lw_all := lw_g (lw_at lw_m3 184 rfl) rfl
theorem q717 : (Jvm.Cond.methodLink "RuleLists$Sieved" (9 : Nat) ({ cls := "RuleLists$Sieved", name := "use", desc := "()I" } : Jvm.MethodName)) ∈ lw_all := lw_g (lw_at lw_m3 185 rfl) rfl
theorem q718 : (Jvm.Cond.sameMethod "RuleLists$Sieved" "RuleLists$One" "use" "()I") ∈ lw_all := lw_g (lw_at lw_m3 186 rfl) rfl
theorem q719 : (Jvm.Cond.selects "RuleLists$Sieved" ({ cls := "RuleLists$Sieved", name := "use", desc := "()I" } : Jvm.MethodName) ({ cls := "RuleLists$One", name := "use", desc := "()I" } : Jvm.MethodName)) ∈ lw_all := lw_g (lw_at lw_m3 187 rfl) rfl
theorem q720 : (Jvm.Cond.methodLink "RuleLists$Sieved" (15 : Nat) ({ cls := "RuleLists$Sieved", name := "isDivided", desc := "(I)Z" } : Jvm.MethodName)) ∈ lw_all := lw_g (lw_at lw_m3 188 rfl) rfl
theorem q721 : (Jvm.Cond.sameMethod "RuleLists$Sieved" "RuleLists$Rule" "isDivided" "(I)Z") ∈ lw_all := lw_g (lw_at lw_m3 189 rfl) rfl
theorem q723 : (Jvm.Cond.selects "RuleLists$Sieved" ({ cls := "RuleLists$Sieved", name := "isDivided", desc := "(I)Z" } : Jvm.MethodName) ({ cls := "RuleLists$Rule", name := "isDivided", desc := "(I)Z" } : Jvm.MethodName)) ∈ lw_all := lw_g (lw_at lw_m3 191 rfl) rfl
theorem q1234 : (Jvm.Cond.selects "RuleLists$Sieved" ({ cls := "RuleLists$Rule", name := "has", desc := "(I)Z" } : Jvm.MethodName) ({ cls := "RuleLists$Rule", name := "has", desc := "(I)Z" } : Jvm.MethodName)) ∈ lw_all := lw_g (lw_at lw_m5 222 rfl) rfl
theorem q1258 : (Jvm.Cond.selects "RuleLists$Sieved" ({ cls := "RuleLists$Rule", name := "test", desc := "(I)Z" } : Jvm.MethodName) ({ cls := "RuleLists$Sieved", name := "test", desc := "(I)Z" } : Jvm.MethodName)) ∈ lw_all := lw_g (lw_at lw_m6 6 rfl) rfl
theorem q1259 : (Jvm.Cond.instanceMethod ({ cls := "RuleLists$Sieved", name := "test", desc := "(I)Z" } : Jvm.MethodName)) ∈ lw_all := lw_g (lw_at lw_m6 7 rfl) rfl
theorem q1260 : (Jvm.Cond.code ({ cls := "RuleLists$Sieved", name := "test", desc := "(I)Z" } : Jvm.MethodName) prog_12_method_3_code (4 : Nat) (Option.some Jvm.ClassFile.FieldType.boolean)) ∈ lw_all := lw_g (lw_at lw_m6 8 rfl) rfl
theorem q1261 : (Jvm.Cond.methodLink "RuleLists$Sieved" (23 : Nat) ({ cls := "RuleLists$Rule", name := "has", desc := "(I)Z" } : Jvm.MethodName)) ∈ lw_all := lw_g (lw_at lw_m6 9 rfl) rfl
theorem q1330 : (Jvm.Cond.selects "RuleLists$Sieved" ({ cls := "RuleLists$Rule", name := "iterator", desc := "()Ljava/util/Iterator;" } : Jvm.MethodName) ({ cls := "RuleLists$Rule", name := "iterator", desc := "()Ljava/util/Iterator;" } : Jvm.MethodName)) ∈ lw_all := lw_g (lw_at lw_m6 78 rfl) rfl
theorem q1917 : (Jvm.Cond.castable "RuleLists$Sieved" "RuleLists$Rule") ∈ lw_tbl := lw_at lw_m8 185 rfl
theorem q1934 : (Jvm.Cond.castable "RuleLists$Sieved" "java/lang/Object") ∈ lw_tbl := lw_at lw_m8 202 rfl
theorem in_X13 : ∀ w ∈ wsX130, w ∈ lw_all := lw_in wsX130 [527, 528, 529, 530, 531, 532] (by decide +kernel) (by decide +kernel)

/-! RuleLists$Thinned -/
set_option maxRecDepth 100000
def RX14 : String := "RuleLists$Thinned"
def TX14 : u_T := fun k => match k with
  | 0 => ("RuleLists$One", "of", "LRuleLists$Rule;", true)
  | 1 => ("RuleLists$One", "used", "I", false)
  | 2 => ("RuleLists$Rule", "members", "[I", false)
  | 3 => ("RuleLists$Rule", "many", "I", false)
  | 4 => ("RuleLists$Rule", "ended", "Z", false)
  | 5 => ("RuleLists$Rule", "tested", "[Z", false)
  | _ => ("RuleLists$Thinned", "every", "I", true)
def tyX14 : Nat → FieldType := fun k => match k with
  | 0 => .object "RuleLists$Rule"
  | 1 => .int
  | 2 => .array .int
  | 3 => .int
  | 4 => .boolean
  | 5 => .array .boolean
  | _ => .int
abbrev wsX140 : List Cond := u_ws RX14 TX14 7
theorem nmX14 : ∀ a, a < 7 → ∀ b, b < 7 → a ≠ b → (TX14 a).2.1 ≠ (TX14 b).2.1 := by decide +kernel
theorem tyX14_ok : ∀ k, k < 7 → parseFieldDescriptor (TX14 k).2.2.1 = some (tyX14 k) := by decide +kernel
abbrev cX14_init : ByteArray := prog_14_method_1_code
def yX14_init : MethodName := ⟨RX14, "<init>", "(LRuleLists$Rule;I)V"⟩
def dkwX14_init_0 : List UInt8 := [42, 43, 183, 0, 3, 42, 28, 181, 0, 9, 177]
abbrev dktX14_init_0 : List UInt8 := dkwX14_init_0 ++ []
theorem dksX14_init_0 : cX14_init.data.toList.drop 0 = dktX14_init_0 := by decide +kernel
theorem dX14_init_0 : decode cX14_init 0 = .ok (.aload_n 0, 1) := dk_42 (dk_at dksX14_init_0 0 rfl rfl)
theorem dX14_init_1 : decode cX14_init 1 = .ok (.aload_n 1, 1) := dk_43 (dk_at dksX14_init_0 1 rfl rfl)
theorem dX14_init_2 : decode cX14_init 2 = .ok (.invokespecial 3, 3) := dk_183 0 3 (dk_at dksX14_init_0 2 rfl rfl)
theorem dX14_init_5 : decode cX14_init 5 = .ok (.aload_n 0, 1) := dk_42 (dk_at dksX14_init_0 5 rfl rfl)
theorem dX14_init_6 : decode cX14_init 6 = .ok (.iload_n 2, 1) := dk_28 (dk_at dksX14_init_0 6 rfl rfl)
theorem dX14_init_7 : decode cX14_init 7 = .ok (.putfield 9, 3) := dk_181 0 9 (dk_at dksX14_init_0 7 rfl rfl)
theorem dX14_init_10 : decode cX14_init 10 = .ok (.return_, 1) := dk_177 (dk_at dksX14_init_0 10 rfl rfl)
abbrev cX14_more : ByteArray := prog_14_method_2_code
def yX14_more : MethodName := ⟨RX14, "more", "()I"⟩
def dkwX14_more_1 : List UInt8 := [182, 0, 15, 60, 132, 2, 1, 167, 255, 233, 27, 172]
abbrev dktX14_more_1 : List UInt8 := dkwX14_more_1 ++ []
def dkwX14_more_0 : List UInt8 := [42, 182, 0, 15, 60, 4, 61, 28, 42, 180, 0, 9, 162, 0, 21, 27, 17, 3, 231, 163, 0, 14, 42]
abbrev dktX14_more_0 : List UInt8 := dkwX14_more_0 ++ dktX14_more_1
theorem dksX14_more_0 : cX14_more.data.toList.drop 0 = dktX14_more_0 := by decide +kernel
theorem dksX14_more_1 : cX14_more.data.toList.drop 23 = dktX14_more_1 := dk_seg dksX14_more_0 23 rfl rfl
theorem dX14_more_0 : decode cX14_more 0 = .ok (.aload_n 0, 1) := dk_42 (dk_at dksX14_more_0 0 rfl rfl)
theorem dX14_more_1 : decode cX14_more 1 = .ok (.invokevirtual 15, 3) := dk_182 0 15 (dk_at dksX14_more_0 1 rfl rfl)
theorem dX14_more_4 : decode cX14_more 4 = .ok (.istore_n 1, 1) := dk_60 (dk_at dksX14_more_0 4 rfl rfl)
theorem dX14_more_5 : decode cX14_more 5 = .ok (.iconst 1, 1) := dk_4 (dk_at dksX14_more_0 5 rfl rfl)
theorem dX14_more_6 : decode cX14_more 6 = .ok (.istore_n 2, 1) := dk_61 (dk_at dksX14_more_0 6 rfl rfl)
theorem dX14_more_7 : decode cX14_more 7 = .ok (.iload_n 2, 1) := dk_28 (dk_at dksX14_more_0 7 rfl rfl)
theorem dX14_more_8 : decode cX14_more 8 = .ok (.aload_n 0, 1) := dk_42 (dk_at dksX14_more_0 8 rfl rfl)
theorem dX14_more_9 : decode cX14_more 9 = .ok (.getfield 9, 3) := dk_180 0 9 (dk_at dksX14_more_0 9 rfl rfl)
theorem dX14_more_12 : decode cX14_more 12 = .ok (.if_icmp .ge 21, 3) := dk_162 0 21 (dk_at dksX14_more_0 12 rfl rfl)
theorem dX14_more_15 : decode cX14_more 15 = .ok (.iload_n 1, 1) := dk_27 (dk_at dksX14_more_0 15 rfl rfl)
theorem dX14_more_16 : decode cX14_more 16 = .ok (.sipush 999, 3) := dk_17 3 231 (dk_at dksX14_more_0 16 rfl rfl)
theorem dX14_more_19 : decode cX14_more 19 = .ok (.if_icmp .gt 14, 3) := dk_163 0 14 (dk_at dksX14_more_0 19 rfl rfl)
theorem dX14_more_22 : decode cX14_more 22 = .ok (.aload_n 0, 1) := dk_42 (dk_at dksX14_more_0 22 rfl rfl)
theorem dX14_more_23 : decode cX14_more 23 = .ok (.invokevirtual 15, 3) := dk_182 0 15 (dk_at dksX14_more_1 0 rfl rfl)
theorem dX14_more_26 : decode cX14_more 26 = .ok (.istore_n 1, 1) := dk_60 (dk_at dksX14_more_1 3 rfl rfl)
theorem dX14_more_27 : decode cX14_more 27 = .ok (.iinc 2 1, 3) := dk_132 2 1 (dk_at dksX14_more_1 4 rfl rfl)
theorem dX14_more_30 : decode cX14_more 30 = .ok (.goto (-23), 3) := dk_167 255 233 (dk_at dksX14_more_1 7 rfl rfl)
theorem dX14_more_33 : decode cX14_more 33 = .ok (.iload_n 1, 1) := dk_27 (dk_at dksX14_more_1 10 rfl rfl)
theorem dX14_more_34 : decode cX14_more 34 = .ok (.ireturn, 1) := dk_172 (dk_at dksX14_more_1 11 rfl rfl)
abbrev cX14_test : ByteArray := prog_14_method_3_code
def yX14_test : MethodName := ⟨RX14, "test", "(I)Z"⟩
def dkwX14_test_2 : List UInt8 := [42, 180, 0, 9, 112, 154, 0, 7, 4, 167, 0, 4, 3, 172]
abbrev dktX14_test_2 : List UInt8 := dkwX14_test_2 ++ []
def dkwX14_test_1 : List UInt8 := [167, 0, 4, 3, 96, 61, 132, 3, 1, 167, 255, 229, 42, 180, 0, 19, 27, 182, 0, 23, 153, 0, 16, 28]
abbrev dktX14_test_1 : List UInt8 := dkwX14_test_1 ++ dktX14_test_2
def dkwX14_test_0 : List UInt8 := [3, 61, 3, 62, 29, 27, 163, 0, 28, 28, 42, 180, 0, 19, 29, 182, 0, 23, 153, 0, 7, 4]
abbrev dktX14_test_0 : List UInt8 := dkwX14_test_0 ++ dktX14_test_1
theorem dksX14_test_0 : cX14_test.data.toList.drop 0 = dktX14_test_0 := by decide +kernel
theorem dksX14_test_1 : cX14_test.data.toList.drop 22 = dktX14_test_1 := dk_seg dksX14_test_0 22 rfl rfl
theorem dksX14_test_2 : cX14_test.data.toList.drop 46 = dktX14_test_2 := dk_seg dksX14_test_1 24 rfl rfl
theorem dX14_test_0 : decode cX14_test 0 = .ok (.iconst 0, 1) := dk_3 (dk_at dksX14_test_0 0 rfl rfl)
theorem dX14_test_1 : decode cX14_test 1 = .ok (.istore_n 2, 1) := dk_61 (dk_at dksX14_test_0 1 rfl rfl)
theorem dX14_test_2 : decode cX14_test 2 = .ok (.iconst 0, 1) := dk_3 (dk_at dksX14_test_0 2 rfl rfl)
theorem dX14_test_3 : decode cX14_test 3 = .ok (.istore_n 3, 1) := dk_62 (dk_at dksX14_test_0 3 rfl rfl)
theorem dX14_test_4 : decode cX14_test 4 = .ok (.iload_n 3, 1) := dk_29 (dk_at dksX14_test_0 4 rfl rfl)
theorem dX14_test_5 : decode cX14_test 5 = .ok (.iload_n 1, 1) := dk_27 (dk_at dksX14_test_0 5 rfl rfl)
theorem dX14_test_6 : decode cX14_test 6 = .ok (.if_icmp .gt 28, 3) := dk_163 0 28 (dk_at dksX14_test_0 6 rfl rfl)
theorem dX14_test_9 : decode cX14_test 9 = .ok (.iload_n 2, 1) := dk_28 (dk_at dksX14_test_0 9 rfl rfl)
theorem dX14_test_10 : decode cX14_test 10 = .ok (.aload_n 0, 1) := dk_42 (dk_at dksX14_test_0 10 rfl rfl)
theorem dX14_test_11 : decode cX14_test 11 = .ok (.getfield 19, 3) := dk_180 0 19 (dk_at dksX14_test_0 11 rfl rfl)
theorem dX14_test_14 : decode cX14_test 14 = .ok (.iload_n 3, 1) := dk_29 (dk_at dksX14_test_0 14 rfl rfl)
theorem dX14_test_15 : decode cX14_test 15 = .ok (.invokevirtual 23, 3) := dk_182 0 23 (dk_at dksX14_test_0 15 rfl rfl)
theorem dX14_test_18 : decode cX14_test 18 = .ok (.ifCond .eq 7, 3) := dk_153 0 7 (dk_at dksX14_test_0 18 rfl rfl)
theorem dX14_test_21 : decode cX14_test 21 = .ok (.iconst 1, 1) := dk_4 (dk_at dksX14_test_0 21 rfl rfl)
theorem dX14_test_22 : decode cX14_test 22 = .ok (.goto 4, 3) := dk_167 0 4 (dk_at dksX14_test_1 0 rfl rfl)
theorem dX14_test_25 : decode cX14_test 25 = .ok (.iconst 0, 1) := dk_3 (dk_at dksX14_test_1 3 rfl rfl)
theorem dX14_test_26 : decode cX14_test 26 = .ok (.iadd, 1) := dk_96 (dk_at dksX14_test_1 4 rfl rfl)
theorem dX14_test_27 : decode cX14_test 27 = .ok (.istore_n 2, 1) := dk_61 (dk_at dksX14_test_1 5 rfl rfl)
theorem dX14_test_28 : decode cX14_test 28 = .ok (.iinc 3 1, 3) := dk_132 3 1 (dk_at dksX14_test_1 6 rfl rfl)
theorem dX14_test_31 : decode cX14_test 31 = .ok (.goto (-27), 3) := dk_167 255 229 (dk_at dksX14_test_1 9 rfl rfl)
theorem dX14_test_34 : decode cX14_test 34 = .ok (.aload_n 0, 1) := dk_42 (dk_at dksX14_test_1 12 rfl rfl)
theorem dX14_test_35 : decode cX14_test 35 = .ok (.getfield 19, 3) := dk_180 0 19 (dk_at dksX14_test_1 13 rfl rfl)
theorem dX14_test_38 : decode cX14_test 38 = .ok (.iload_n 1, 1) := dk_27 (dk_at dksX14_test_1 16 rfl rfl)
theorem dX14_test_39 : decode cX14_test 39 = .ok (.invokevirtual 23, 3) := dk_182 0 23 (dk_at dksX14_test_1 17 rfl rfl)
theorem dX14_test_42 : decode cX14_test 42 = .ok (.ifCond .eq 16, 3) := dk_153 0 16 (dk_at dksX14_test_1 20 rfl rfl)
theorem dX14_test_45 : decode cX14_test 45 = .ok (.iload_n 2, 1) := dk_28 (dk_at dksX14_test_1 23 rfl rfl)
theorem dX14_test_46 : decode cX14_test 46 = .ok (.aload_n 0, 1) := dk_42 (dk_at dksX14_test_2 0 rfl rfl)
theorem dX14_test_47 : decode cX14_test 47 = .ok (.getfield 9, 3) := dk_180 0 9 (dk_at dksX14_test_2 1 rfl rfl)
theorem dX14_test_50 : decode cX14_test 50 = .ok (.irem, 1) := dk_112 (dk_at dksX14_test_2 4 rfl rfl)
theorem dX14_test_51 : decode cX14_test 51 = .ok (.ifCond .ne 7, 3) := dk_154 0 7 (dk_at dksX14_test_2 5 rfl rfl)
theorem dX14_test_54 : decode cX14_test 54 = .ok (.iconst 1, 1) := dk_4 (dk_at dksX14_test_2 8 rfl rfl)
theorem dX14_test_55 : decode cX14_test 55 = .ok (.goto 4, 3) := dk_167 0 4 (dk_at dksX14_test_2 9 rfl rfl)
theorem dX14_test_58 : decode cX14_test 58 = .ok (.iconst 0, 1) := dk_3 (dk_at dksX14_test_2 12 rfl rfl)
theorem dX14_test_59 : decode cX14_test 59 = .ok (.ireturn, 1) := dk_172 (dk_at dksX14_test_2 13 rfl rfl)
theorem q81 : (Jvm.Cond.initialized "RuleLists$Thinned") ∈ lw_all := lw_g (lw_at lw_m1 29 rfl) rfl
theorem q350 : (Jvm.Cond.selects "RuleLists$Thinned" ({ cls := "java/lang/Object", name := "getClass", desc := "()Ljava/lang/Class;" } : Jvm.MethodName) ({ cls := "java/lang/Object", name := "getClass", desc := "()Ljava/lang/Class;" } : Jvm.MethodName)) ∈ lw_all := lw_g (lw_at lw_m2 58 rfl) rfl
theorem q423 : (Jvm.Cond.fieldLink "RuleLists$Thinned" (19 : Nat) "RuleLists$Thinned" "of" "LRuleLists$Rule;") ∈ lw_all := lw_g (lw_at lw_m2 131 rfl) rfl
theorem q424 : (Jvm.Cond.sameField "RuleLists$Thinned" "RuleLists$One" "of" "LRuleLists$Rule;") ∈ lw_all := lw_g (lw_at lw_m2 132 rfl) rfl
theorem q535 : (Jvm.Cond.instantiable "RuleLists$Thinned" (7 : Nat)) ∈ lw_all := lw_g (lw_at lw_m3 3 rfl) rfl
theorem q537 : (Jvm.Cond.instanceMethod ({ cls := "RuleLists$Thinned", name := "<init>", desc := "(LRuleLists$Rule;I)V" } : Jvm.MethodName)) ∈ lw_all := lw_g (lw_at lw_m3 5 rfl) rfl
theorem q538 : (Jvm.Cond.code ({ cls := "RuleLists$Thinned", name := "<init>", desc := "(LRuleLists$Rule;I)V" } : Jvm.MethodName) prog_14_method_1_code (3 : Nat) (Option.none : Option Jvm.ClassFile.FieldType)) ∈ lw_all := lw_g (lw_at lw_m3 6 rfl) rfl
theorem q539 : (Jvm.Cond.methodLink "RuleLists$Thinned" (3 : Nat) ({ cls := "RuleLists$One", name := "<init>", desc := "(LRuleLists$Rule;)V" } : Jvm.MethodName)) ∈ lw_all := lw_g (lw_at lw_m3 7 rfl) rfl
theorem q540 : (Jvm.Cond.fieldLink "RuleLists$Thinned" (9 : Nat) "RuleLists$Thinned" "every" "I") ∈ lw_all := lw_g (lw_at lw_m3 8 rfl) rfl
theorem q541 : (Jvm.Cond.laysFinal "RuleLists$Thinned" "RuleLists$Thinned" "every" "I") ∈ lw_all := lw_g (lw_at lw_m3 9 rfl) rfl
theorem q542 : (Jvm.Cond.soleField "RuleLists$Thinned" "every") ∈ lw_all := lw_g (lw_at lw_m3 10 rfl) rfl
theorem q543 : (Jvm.Cond.laysFinal "RuleLists$Thinned" "RuleLists$One" "of" "LRuleLists$Rule;") ∈ lw_all := lw_g (lw_at lw_m3 11 rfl) rfl
theorem q544 : (Jvm.Cond.lays "RuleLists$Thinned" "RuleLists$One" "used" "I") ∈ lw_all := lw_g (lw_at lw_m3 12 rfl) rfl
theorem q545 : (Jvm.Cond.lays "RuleLists$Thinned" "RuleLists$Rule" "members" "[I") ∈ lw_all := lw_g (lw_at lw_m3 13 rfl) rfl
theorem q546 : (Jvm.Cond.lays "RuleLists$Thinned" "RuleLists$Rule" "many" "I") ∈ lw_all := lw_g (lw_at lw_m3 14 rfl) rfl
theorem q547 : (Jvm.Cond.lays "RuleLists$Thinned" "RuleLists$Rule" "ended" "Z") ∈ lw_all := lw_g (lw_at lw_m3 15 rfl) rfl
theorem q548 : (Jvm.Cond.lays "RuleLists$Thinned" "RuleLists$Rule" "tested" "[Z") ∈ lw_all := lw_g (lw_at lw_m3 16 rfl) rfl
theorem q549 : (Jvm.Cond.superclass "RuleLists$Thinned" "RuleLists$One") ∈ lw_all := lw_g (lw_at lw_m3 17 rfl) rfl
theorem q657 : (Jvm.Cond.selects "RuleLists$Thinned" ({ cls := "RuleLists$Rule", name := "member", desc := "(I)I" } : Jvm.MethodName) ({ cls := "RuleLists$Rule", name := "member", desc := "(I)I" } : Jvm.MethodName)) ∈ lw_all := lw_g (lw_at lw_m3 125 rfl) rfl
theorem q735 : (Jvm.Cond.selects "RuleLists$Thinned" ({ cls := "RuleLists$Rule", name := "more", desc := "()I" } : Jvm.MethodName) ({ cls := "RuleLists$Thinned", name := "more", desc := "()I" } : Jvm.MethodName)) ∈ lw_all := lw_g (lw_at lw_m3 203 rfl) rfl
theorem q736 : (Jvm.Cond.instanceMethod ({ cls := "RuleLists$Thinned", name := "more", desc := "()I" } : Jvm.MethodName)) ∈ lw_all := lw_g (lw_at lw_m3 204 rfl) rfl
theorem q737 : (Jvm.Cond.code ({ cls := "RuleLists$Thinned", name := "more", desc := "()I" } : Jvm.MethodName) prog_14_method_2_code (3 : Nat) (Option.some Jvm.ClassFile.FieldType.int)) ∈ lw_all := lw_g (lw_at lw_m3 205 rfl) rfl
theorem q738 : (Jvm.Cond.methodLink "RuleLists$Thinned" (15 : Nat) ({ cls := "RuleLists$Thinned", name := "use", desc := "()I" } : Jvm.MethodName)) ∈ lw_all := lw_g (lw_at lw_m3 206 rfl) rfl
theorem q739 : (Jvm.Cond.sameMethod "RuleLists$Thinned" "RuleLists$One" "use" "()I") ∈ lw_all := lw_g (lw_at lw_m3 207 rfl) rfl
theorem q740 : (Jvm.Cond.selects "RuleLists$Thinned" ({ cls := "RuleLists$Thinned", name := "use", desc := "()I" } : Jvm.MethodName) ({ cls := "RuleLists$One", name := "use", desc := "()I" } : Jvm.MethodName)) ∈ lw_all := lw_g (lw_at lw_m3 208 rfl) rfl
theorem q1236 : (Jvm.Cond.selects "RuleLists$Thinned" ({ cls := "RuleLists$Rule", name := "has", desc := "(I)Z" } : Jvm.MethodName) ({ cls := "RuleLists$Rule", name := "has", desc := "(I)Z" } : Jvm.MethodName)) ∈ lw_all := lw_g (lw_at lw_m5 224 rfl) rfl
theorem q1265 : (Jvm.Cond.selects "RuleLists$Thinned" ({ cls := "RuleLists$Rule", name := "test", desc := "(I)Z" } : Jvm.MethodName) ({ cls := "RuleLists$Thinned", name := "test", desc := "(I)Z" } : Jvm.MethodName)) ∈ lw_all := lw_g (lw_at lw_m6 13 rfl) rfl
theorem q1266 : (Jvm.Cond.instanceMethod ({ cls := "RuleLists$Thinned", name := "test", desc := "(I)Z" } : Jvm.MethodName)) ∈ lw_all := lw_g (lw_at lw_m6 14 rfl) rfl
theorem q1267 : (Jvm.Cond.code ({ cls := "RuleLists$Thinned", name := "test", desc := "(I)Z" } : Jvm.MethodName) prog_14_method_3_code (4 : Nat) (Option.some Jvm.ClassFile.FieldType.boolean)) ∈ lw_all := lw_g (lw_at lw_m6 15 rfl) rfl
theorem q1268 : (Jvm.Cond.methodLink "RuleLists$Thinned" (23 : Nat) ({ cls := "RuleLists$Rule", name := "has", desc := "(I)Z" } : Jvm.MethodName)) ∈ lw_all := lw_g (lw_at lw_m6 16 rfl) rfl
theorem q1332 : (Jvm.Cond.selects "RuleLists$Thinned" ({ cls := "RuleLists$Rule", name := "iterator", desc := "()Ljava/util/Iterator;" } : Jvm.MethodName) ({ cls := "RuleLists$Rule", name := "iterator", desc := "()Ljava/util/Iterator;" } : Jvm.MethodName)) ∈ lw_all := lw_g (lw_at lw_m6 80 rfl) rfl
theorem q1919 : (Jvm.Cond.castable "RuleLists$Thinned" "RuleLists$Rule") ∈ lw_tbl := lw_at lw_m8 187 rfl
theorem q1935 : (Jvm.Cond.castable "RuleLists$Thinned" "java/lang/Object") ∈ lw_tbl := lw_at lw_m8 203 rfl
theorem in_X14 : ∀ w ∈ wsX140, w ∈ lw_all := lw_in wsX140 [543, 544, 545, 546, 547, 548, 541] (by decide +kernel) (by decide +kernel)

/-! RuleLists$AddedUp -/
set_option maxRecDepth 100000
def RX15 : String := "RuleLists$AddedUp"
def TX15 : u_T := fun k => match k with
  | 0 => ("RuleLists$One", "of", "LRuleLists$Rule;", true)
  | 1 => ("RuleLists$One", "used", "I", false)
  | 2 => ("RuleLists$Rule", "members", "[I", false)
  | 3 => ("RuleLists$Rule", "many", "I", false)
  | 4 => ("RuleLists$Rule", "ended", "Z", false)
  | 5 => ("RuleLists$Rule", "tested", "[Z", false)
  | _ => ("RuleLists$AddedUp", "sum", "I", false)
def tyX15 : Nat → FieldType := fun k => match k with
  | 0 => .object "RuleLists$Rule"
  | 1 => .int
  | 2 => .array .int
  | 3 => .int
  | 4 => .boolean
  | 5 => .array .boolean
  | _ => .int
abbrev wsX150 : List Cond := u_ws RX15 TX15 7
theorem nmX15 : ∀ a, a < 7 → ∀ b, b < 7 → a ≠ b → (TX15 a).2.1 ≠ (TX15 b).2.1 := by decide +kernel
theorem tyX15_ok : ∀ k, k < 7 → parseFieldDescriptor (TX15 k).2.2.1 = some (tyX15 k) := by decide +kernel
abbrev cX15_init : ByteArray := prog_2_method_1_code
def yX15_init : MethodName := ⟨RX15, "<init>", "(LRuleLists$Rule;)V"⟩
def dkwX15_init_0 : List UInt8 := [42, 43, 183, 0, 3, 177]
abbrev dktX15_init_0 : List UInt8 := dkwX15_init_0 ++ []
theorem dksX15_init_0 : cX15_init.data.toList.drop 0 = dktX15_init_0 := by decide +kernel
theorem dX15_init_0 : decode cX15_init 0 = .ok (.aload_n 0, 1) := dk_42 (dk_at dksX15_init_0 0 rfl rfl)
theorem dX15_init_1 : decode cX15_init 1 = .ok (.aload_n 1, 1) := dk_43 (dk_at dksX15_init_0 1 rfl rfl)
theorem dX15_init_2 : decode cX15_init 2 = .ok (.invokespecial 3, 3) := dk_183 0 3 (dk_at dksX15_init_0 2 rfl rfl)
theorem dX15_init_5 : decode cX15_init 5 = .ok (.return_, 1) := dk_177 (dk_at dksX15_init_0 5 rfl rfl)
abbrev cX15_more : ByteArray := prog_2_method_2_code
def yX15_more : MethodName := ⟨RX15, "more", "()I"⟩
def dkwX15_more_1 : List UInt8 := [167, 0, 7, 42, 180, 0, 15, 172]
abbrev dktX15_more_1 : List UInt8 := dkwX15_more_1 ++ []
def dkwX15_more_0 : List UInt8 := [42, 182, 0, 9, 60, 42, 89, 180, 0, 15, 27, 96, 181, 0, 15, 27, 17, 3, 231, 164, 0, 7, 27]
abbrev dktX15_more_0 : List UInt8 := dkwX15_more_0 ++ dktX15_more_1
theorem dksX15_more_0 : cX15_more.data.toList.drop 0 = dktX15_more_0 := by decide +kernel
theorem dksX15_more_1 : cX15_more.data.toList.drop 23 = dktX15_more_1 := dk_seg dksX15_more_0 23 rfl rfl
theorem dX15_more_0 : decode cX15_more 0 = .ok (.aload_n 0, 1) := dk_42 (dk_at dksX15_more_0 0 rfl rfl)
theorem dX15_more_1 : decode cX15_more 1 = .ok (.invokevirtual 9, 3) := dk_182 0 9 (dk_at dksX15_more_0 1 rfl rfl)
theorem dX15_more_4 : decode cX15_more 4 = .ok (.istore_n 1, 1) := dk_60 (dk_at dksX15_more_0 4 rfl rfl)
theorem dX15_more_5 : decode cX15_more 5 = .ok (.aload_n 0, 1) := dk_42 (dk_at dksX15_more_0 5 rfl rfl)
theorem dX15_more_6 : decode cX15_more 6 = .ok (.dup, 1) := dk_89 (dk_at dksX15_more_0 6 rfl rfl)
theorem dX15_more_7 : decode cX15_more 7 = .ok (.getfield 15, 3) := dk_180 0 15 (dk_at dksX15_more_0 7 rfl rfl)
theorem dX15_more_10 : decode cX15_more 10 = .ok (.iload_n 1, 1) := dk_27 (dk_at dksX15_more_0 10 rfl rfl)
theorem dX15_more_11 : decode cX15_more 11 = .ok (.iadd, 1) := dk_96 (dk_at dksX15_more_0 11 rfl rfl)
theorem dX15_more_12 : decode cX15_more 12 = .ok (.putfield 15, 3) := dk_181 0 15 (dk_at dksX15_more_0 12 rfl rfl)
theorem dX15_more_15 : decode cX15_more 15 = .ok (.iload_n 1, 1) := dk_27 (dk_at dksX15_more_0 15 rfl rfl)
theorem dX15_more_16 : decode cX15_more 16 = .ok (.sipush 999, 3) := dk_17 3 231 (dk_at dksX15_more_0 16 rfl rfl)
theorem dX15_more_19 : decode cX15_more 19 = .ok (.if_icmp .le 7, 3) := dk_164 0 7 (dk_at dksX15_more_0 19 rfl rfl)
theorem dX15_more_22 : decode cX15_more 22 = .ok (.iload_n 1, 1) := dk_27 (dk_at dksX15_more_0 22 rfl rfl)
theorem dX15_more_23 : decode cX15_more 23 = .ok (.goto 7, 3) := dk_167 0 7 (dk_at dksX15_more_1 0 rfl rfl)
theorem dX15_more_26 : decode cX15_more 26 = .ok (.aload_n 0, 1) := dk_42 (dk_at dksX15_more_1 3 rfl rfl)
theorem dX15_more_27 : decode cX15_more 27 = .ok (.getfield 15, 3) := dk_180 0 15 (dk_at dksX15_more_1 4 rfl rfl)
theorem dX15_more_30 : decode cX15_more 30 = .ok (.ireturn, 1) := dk_172 (dk_at dksX15_more_1 7 rfl rfl)
abbrev cX15_test : ByteArray := prog_2_method_3_code
def yX15_test : MethodName := ⟨RX15, "test", "(I)Z"⟩
def dkwX15_test_2 : List UInt8 := [153, 0, 12, 28, 27, 160, 0, 7, 4, 167, 0, 4, 3, 62, 132, 4, 1, 167, 255, 199, 29, 172]
abbrev dktX15_test_2 : List UInt8 := dkwX15_test_2 ++ []
def dkwX15_test_1 : List UInt8 := [153, 0, 8, 21, 4, 167, 0, 4, 3, 96, 61, 29, 154, 0, 20, 42, 180, 0, 19, 21, 4, 182, 0, 23]
abbrev dktX15_test_1 : List UInt8 := dkwX15_test_1 ++ dktX15_test_2
def dkwX15_test_0 : List UInt8 := [3, 61, 3, 62, 3, 54, 4, 21, 4, 27, 163, 0, 57, 28, 42, 180, 0, 19, 21, 4, 182, 0, 23]
abbrev dktX15_test_0 : List UInt8 := dkwX15_test_0 ++ dktX15_test_1
theorem dksX15_test_0 : cX15_test.data.toList.drop 0 = dktX15_test_0 := by decide +kernel
theorem dksX15_test_1 : cX15_test.data.toList.drop 23 = dktX15_test_1 := dk_seg dksX15_test_0 23 rfl rfl
theorem dksX15_test_2 : cX15_test.data.toList.drop 47 = dktX15_test_2 := dk_seg dksX15_test_1 24 rfl rfl
theorem dX15_test_0 : decode cX15_test 0 = .ok (.iconst 0, 1) := dk_3 (dk_at dksX15_test_0 0 rfl rfl)
theorem dX15_test_1 : decode cX15_test 1 = .ok (.istore_n 2, 1) := dk_61 (dk_at dksX15_test_0 1 rfl rfl)
theorem dX15_test_2 : decode cX15_test 2 = .ok (.iconst 0, 1) := dk_3 (dk_at dksX15_test_0 2 rfl rfl)
theorem dX15_test_3 : decode cX15_test 3 = .ok (.istore_n 3, 1) := dk_62 (dk_at dksX15_test_0 3 rfl rfl)
theorem dX15_test_4 : decode cX15_test 4 = .ok (.iconst 0, 1) := dk_3 (dk_at dksX15_test_0 4 rfl rfl)
theorem dX15_test_5 : decode cX15_test 5 = .ok (.istore 4, 2) := dk_54 4 (dk_at dksX15_test_0 5 rfl rfl)
theorem dX15_test_7 : decode cX15_test 7 = .ok (.iload 4, 2) := dk_21 4 (dk_at dksX15_test_0 7 rfl rfl)
theorem dX15_test_9 : decode cX15_test 9 = .ok (.iload_n 1, 1) := dk_27 (dk_at dksX15_test_0 9 rfl rfl)
theorem dX15_test_10 : decode cX15_test 10 = .ok (.if_icmp .gt 57, 3) := dk_163 0 57 (dk_at dksX15_test_0 10 rfl rfl)
theorem dX15_test_13 : decode cX15_test 13 = .ok (.iload_n 2, 1) := dk_28 (dk_at dksX15_test_0 13 rfl rfl)
theorem dX15_test_14 : decode cX15_test 14 = .ok (.aload_n 0, 1) := dk_42 (dk_at dksX15_test_0 14 rfl rfl)
theorem dX15_test_15 : decode cX15_test 15 = .ok (.getfield 19, 3) := dk_180 0 19 (dk_at dksX15_test_0 15 rfl rfl)
theorem dX15_test_18 : decode cX15_test 18 = .ok (.iload 4, 2) := dk_21 4 (dk_at dksX15_test_0 18 rfl rfl)
theorem dX15_test_20 : decode cX15_test 20 = .ok (.invokevirtual 23, 3) := dk_182 0 23 (dk_at dksX15_test_0 20 rfl rfl)
theorem dX15_test_23 : decode cX15_test 23 = .ok (.ifCond .eq 8, 3) := dk_153 0 8 (dk_at dksX15_test_1 0 rfl rfl)
theorem dX15_test_26 : decode cX15_test 26 = .ok (.iload 4, 2) := dk_21 4 (dk_at dksX15_test_1 3 rfl rfl)
theorem dX15_test_28 : decode cX15_test 28 = .ok (.goto 4, 3) := dk_167 0 4 (dk_at dksX15_test_1 5 rfl rfl)
theorem dX15_test_31 : decode cX15_test 31 = .ok (.iconst 0, 1) := dk_3 (dk_at dksX15_test_1 8 rfl rfl)
theorem dX15_test_32 : decode cX15_test 32 = .ok (.iadd, 1) := dk_96 (dk_at dksX15_test_1 9 rfl rfl)
theorem dX15_test_33 : decode cX15_test 33 = .ok (.istore_n 2, 1) := dk_61 (dk_at dksX15_test_1 10 rfl rfl)
theorem dX15_test_34 : decode cX15_test 34 = .ok (.iload_n 3, 1) := dk_29 (dk_at dksX15_test_1 11 rfl rfl)
theorem dX15_test_35 : decode cX15_test 35 = .ok (.ifCond .ne 20, 3) := dk_154 0 20 (dk_at dksX15_test_1 12 rfl rfl)
theorem dX15_test_38 : decode cX15_test 38 = .ok (.aload_n 0, 1) := dk_42 (dk_at dksX15_test_1 15 rfl rfl)
theorem dX15_test_39 : decode cX15_test 39 = .ok (.getfield 19, 3) := dk_180 0 19 (dk_at dksX15_test_1 16 rfl rfl)
theorem dX15_test_42 : decode cX15_test 42 = .ok (.iload 4, 2) := dk_21 4 (dk_at dksX15_test_1 19 rfl rfl)
theorem dX15_test_44 : decode cX15_test 44 = .ok (.invokevirtual 23, 3) := dk_182 0 23 (dk_at dksX15_test_1 21 rfl rfl)
theorem dX15_test_47 : decode cX15_test 47 = .ok (.ifCond .eq 12, 3) := dk_153 0 12 (dk_at dksX15_test_2 0 rfl rfl)
theorem dX15_test_50 : decode cX15_test 50 = .ok (.iload_n 2, 1) := dk_28 (dk_at dksX15_test_2 3 rfl rfl)
theorem dX15_test_51 : decode cX15_test 51 = .ok (.iload_n 1, 1) := dk_27 (dk_at dksX15_test_2 4 rfl rfl)
theorem dX15_test_52 : decode cX15_test 52 = .ok (.if_icmp .ne 7, 3) := dk_160 0 7 (dk_at dksX15_test_2 5 rfl rfl)
theorem dX15_test_55 : decode cX15_test 55 = .ok (.iconst 1, 1) := dk_4 (dk_at dksX15_test_2 8 rfl rfl)
theorem dX15_test_56 : decode cX15_test 56 = .ok (.goto 4, 3) := dk_167 0 4 (dk_at dksX15_test_2 9 rfl rfl)
theorem dX15_test_59 : decode cX15_test 59 = .ok (.iconst 0, 1) := dk_3 (dk_at dksX15_test_2 12 rfl rfl)
theorem dX15_test_60 : decode cX15_test 60 = .ok (.istore_n 3, 1) := dk_62 (dk_at dksX15_test_2 13 rfl rfl)
theorem dX15_test_61 : decode cX15_test 61 = .ok (.iinc 4 1, 3) := dk_132 4 1 (dk_at dksX15_test_2 14 rfl rfl)
theorem dX15_test_64 : decode cX15_test 64 = .ok (.goto (-57), 3) := dk_167 255 199 (dk_at dksX15_test_2 17 rfl rfl)
theorem dX15_test_67 : decode cX15_test 67 = .ok (.iload_n 3, 1) := dk_29 (dk_at dksX15_test_2 20 rfl rfl)
theorem dX15_test_68 : decode cX15_test 68 = .ok (.ireturn, 1) := dk_172 (dk_at dksX15_test_2 21 rfl rfl)
theorem q82 : (Jvm.Cond.initialized "RuleLists$AddedUp") ∈ lw_all := lw_g (lw_at lw_m1 30 rfl) rfl
theorem q340 : (Jvm.Cond.selects "RuleLists$AddedUp" ({ cls := "java/lang/Object", name := "getClass", desc := "()Ljava/lang/Class;" } : Jvm.MethodName) ({ cls := "java/lang/Object", name := "getClass", desc := "()Ljava/lang/Class;" } : Jvm.MethodName)) ∈ lw_all := lw_g (lw_at lw_m2 48 rfl) rfl
theorem q425 : (Jvm.Cond.fieldLink "RuleLists$AddedUp" (19 : Nat) "RuleLists$AddedUp" "of" "LRuleLists$Rule;") ∈ lw_all := lw_g (lw_at lw_m2 133 rfl) rfl
theorem q426 : (Jvm.Cond.sameField "RuleLists$AddedUp" "RuleLists$One" "of" "LRuleLists$Rule;") ∈ lw_all := lw_g (lw_at lw_m2 134 rfl) rfl
theorem q551 : (Jvm.Cond.instantiable "RuleLists$AddedUp" (7 : Nat)) ∈ lw_all := lw_g (lw_at lw_m3 19 rfl) rfl
theorem q553 : (Jvm.Cond.instanceMethod ({ cls := "RuleLists$AddedUp", name := "<init>", desc := "(LRuleLists$Rule;)V" } : Jvm.MethodName)) ∈ lw_all := lw_g (lw_at lw_m3 21 rfl) rfl
theorem q554 : (Jvm.Cond.code ({ cls := "RuleLists$AddedUp", name := "<init>", desc := "(LRuleLists$Rule;)V" } : Jvm.MethodName) prog_2_method_1_code (2 : Nat) (Option.none : Option Jvm.ClassFile.FieldType)) ∈ lw_all := lw_g (lw_at lw_m3 22 rfl) rfl
theorem q555 : (Jvm.Cond.methodLink "RuleLists$AddedUp" (3 : Nat) ({ cls := "RuleLists$One", name := "<init>", desc := "(LRuleLists$Rule;)V" } : Jvm.MethodName)) ∈ lw_all := lw_g (lw_at lw_m3 23 rfl) rfl
theorem q556 : (Jvm.Cond.fieldLink "RuleLists$AddedUp" (15 : Nat) "RuleLists$AddedUp" "sum" "I") ∈ lw_all := lw_g (lw_at lw_m3 24 rfl) rfl
theorem q557 : (Jvm.Cond.lays "RuleLists$AddedUp" "RuleLists$AddedUp" "sum" "I") ∈ lw_all := lw_g (lw_at lw_m3 25 rfl) rfl
theorem q558 : (Jvm.Cond.soleField "RuleLists$AddedUp" "sum") ∈ lw_all := lw_g (lw_at lw_m3 26 rfl) rfl
theorem q559 : (Jvm.Cond.laysFinal "RuleLists$AddedUp" "RuleLists$One" "of" "LRuleLists$Rule;") ∈ lw_all := lw_g (lw_at lw_m3 27 rfl) rfl
theorem q560 : (Jvm.Cond.lays "RuleLists$AddedUp" "RuleLists$One" "used" "I") ∈ lw_all := lw_g (lw_at lw_m3 28 rfl) rfl
theorem q561 : (Jvm.Cond.lays "RuleLists$AddedUp" "RuleLists$Rule" "members" "[I") ∈ lw_all := lw_g (lw_at lw_m3 29 rfl) rfl
theorem q562 : (Jvm.Cond.lays "RuleLists$AddedUp" "RuleLists$Rule" "many" "I") ∈ lw_all := lw_g (lw_at lw_m3 30 rfl) rfl
theorem q563 : (Jvm.Cond.lays "RuleLists$AddedUp" "RuleLists$Rule" "ended" "Z") ∈ lw_all := lw_g (lw_at lw_m3 31 rfl) rfl
theorem q564 : (Jvm.Cond.lays "RuleLists$AddedUp" "RuleLists$Rule" "tested" "[Z") ∈ lw_all := lw_g (lw_at lw_m3 32 rfl) rfl
theorem q565 : (Jvm.Cond.superclass "RuleLists$AddedUp" "RuleLists$One") ∈ lw_all := lw_g (lw_at lw_m3 33 rfl) rfl
theorem q651 : (Jvm.Cond.selects "RuleLists$AddedUp" ({ cls := "RuleLists$Rule", name := "member", desc := "(I)I" } : Jvm.MethodName) ({ cls := "RuleLists$Rule", name := "member", desc := "(I)I" } : Jvm.MethodName)) ∈ lw_all := lw_g (lw_at lw_m3 119 rfl) rfl
theorem q663 : (Jvm.Cond.selects "RuleLists$AddedUp" ({ cls := "RuleLists$Rule", name := "more", desc := "()I" } : Jvm.MethodName) ({ cls := "RuleLists$AddedUp", name := "more", desc := "()I" } : Jvm.MethodName)) ∈ lw_all := lw_g (lw_at lw_m3 131 rfl) rfl
theorem q664 : (Jvm.Cond.instanceMethod ({ cls := "RuleLists$AddedUp", name := "more", desc := "()I" } : Jvm.MethodName)) ∈ lw_all := lw_g (lw_at lw_m3 132 rfl) rfl
theorem q665 : (Jvm.Cond.code ({ cls := "RuleLists$AddedUp", name := "more", desc := "()I" } : Jvm.MethodName) prog_2_method_2_code (2 : Nat) (Option.some Jvm.ClassFile.FieldType.int)) ∈ lw_all := lw_g (lw_at lw_m3 133 rfl) rfl
theorem q666 : (Jvm.Cond.methodLink "RuleLists$AddedUp" (9 : Nat) ({ cls := "RuleLists$AddedUp", name := "use", desc := "()I" } : Jvm.MethodName)) ∈ lw_all := lw_g (lw_at lw_m3 134 rfl) rfl
theorem q667 : (Jvm.Cond.sameMethod "RuleLists$AddedUp" "RuleLists$One" "use" "()I") ∈ lw_all := lw_g (lw_at lw_m3 135 rfl) rfl
theorem q669 : (Jvm.Cond.selects "RuleLists$AddedUp" ({ cls := "RuleLists$AddedUp", name := "use", desc := "()I" } : Jvm.MethodName) ({ cls := "RuleLists$One", name := "use", desc := "()I" } : Jvm.MethodName)) ∈ lw_all := lw_g (lw_at lw_m3 137 rfl) rfl
theorem q1230 : (Jvm.Cond.selects "RuleLists$AddedUp" ({ cls := "RuleLists$Rule", name := "has", desc := "(I)Z" } : Jvm.MethodName) ({ cls := "RuleLists$Rule", name := "has", desc := "(I)Z" } : Jvm.MethodName)) ∈ lw_all := lw_g (lw_at lw_m5 218 rfl) rfl
theorem q1242 : (Jvm.Cond.selects "RuleLists$AddedUp" ({ cls := "RuleLists$Rule", name := "test", desc := "(I)Z" } : Jvm.MethodName) ({ cls := "RuleLists$AddedUp", name := "test", desc := "(I)Z" } : Jvm.MethodName)) ∈ lw_all := lw_g (lw_at lw_m5 230 rfl) rfl
theorem q1243 : (Jvm.Cond.instanceMethod ({ cls := "RuleLists$AddedUp", name := "test", desc := "(I)Z" } : Jvm.MethodName)) ∈ lw_all := lw_g (lw_at lw_m5 231 rfl) rfl
theorem q1244 : (Jvm.Cond.code ({ cls := "RuleLists$AddedUp", name := "test", desc := "(I)Z" } : Jvm.MethodName) prog_2_method_3_code (5 : Nat) (Option.some Jvm.ClassFile.FieldType.boolean)) ∈ lw_all := lw_g (lw_at lw_m5 232 rfl) rfl
theorem q1245 : (Jvm.Cond.methodLink "RuleLists$AddedUp" (23 : Nat) ({ cls := "RuleLists$Rule", name := "has", desc := "(I)Z" } : Jvm.MethodName)) ∈ lw_all := lw_g (lw_at lw_m5 233 rfl) rfl
theorem q1326 : (Jvm.Cond.selects "RuleLists$AddedUp" ({ cls := "RuleLists$Rule", name := "iterator", desc := "()Ljava/util/Iterator;" } : Jvm.MethodName) ({ cls := "RuleLists$Rule", name := "iterator", desc := "()Ljava/util/Iterator;" } : Jvm.MethodName)) ∈ lw_all := lw_g (lw_at lw_m6 74 rfl) rfl
theorem q1913 : (Jvm.Cond.castable "RuleLists$AddedUp" "RuleLists$Rule") ∈ lw_tbl := lw_at lw_m8 181 rfl
theorem q1936 : (Jvm.Cond.castable "RuleLists$AddedUp" "java/lang/Object") ∈ lw_tbl := lw_at lw_m8 204 rfl
theorem in_X15 : ∀ w ∈ wsX150, w ∈ lw_all := lw_in wsX150 [559, 560, 561, 562, 563, 564, 557] (by decide +kernel) (by decide +kernel)

/-! RuleLists$Reader -/
set_option maxRecDepth 100000
def RX16 : String := "RuleLists$Reader"
def TX16 : u_T := fun k => match k with
  | 0 => ("RuleLists$Reader", "list", "I", true)
  | _ => ("RuleLists$Reader", "soFar", "I", false)
def tyX16 : Nat → FieldType := fun k => match k with
  | 0 => .int
  | _ => .int
abbrev wsX160 : List Cond := u_ws RX16 TX16 2
theorem nmX16 : ∀ a, a < 2 → ∀ b, b < 2 → a ≠ b → (TX16 a).2.1 ≠ (TX16 b).2.1 := by decide +kernel
theorem tyX16_ok : ∀ k, k < 2 → parseFieldDescriptor (TX16 k).2.2.1 = some (tyX16 k) := by decide +kernel
abbrev cX16_init : ByteArray := prog_7_method_1_code
def yX16_init : MethodName := ⟨RX16, "<init>", "(I)V"⟩
def dkwX16_init_0 : List UInt8 := [42, 183, 0, 1, 42, 27, 181, 0, 7, 177]
abbrev dktX16_init_0 : List UInt8 := dkwX16_init_0 ++ []
theorem dksX16_init_0 : cX16_init.data.toList.drop 0 = dktX16_init_0 := by decide +kernel
theorem dX16_init_0 : decode cX16_init 0 = .ok (.aload_n 0, 1) := dk_42 (dk_at dksX16_init_0 0 rfl rfl)
theorem dX16_init_1 : decode cX16_init 1 = .ok (.invokespecial 1, 3) := dk_183 0 1 (dk_at dksX16_init_0 1 rfl rfl)
theorem dX16_init_4 : decode cX16_init 4 = .ok (.aload_n 0, 1) := dk_42 (dk_at dksX16_init_0 4 rfl rfl)
theorem dX16_init_5 : decode cX16_init 5 = .ok (.iload_n 1, 1) := dk_27 (dk_at dksX16_init_0 5 rfl rfl)
theorem dX16_init_6 : decode cX16_init 6 = .ok (.putfield 7, 3) := dk_181 0 7 (dk_at dksX16_init_0 6 rfl rfl)
theorem dX16_init_9 : decode cX16_init 9 = .ok (.return_, 1) := dk_177 (dk_at dksX16_init_0 9 rfl rfl)
abbrev cX16_init_2 : ByteArray := prog_7_method_2_code
def yX16_init_2 : MethodName := ⟨RX16, "<init>", "(LRuleLists$Reader;)V"⟩
def dkwX16_init_2_0 : List UInt8 := [42, 43, 180, 0, 7, 183, 0, 13, 42, 43, 180, 0, 16, 181, 0, 16, 177]
abbrev dktX16_init_2_0 : List UInt8 := dkwX16_init_2_0 ++ []
theorem dksX16_init_2_0 : cX16_init_2.data.toList.drop 0 = dktX16_init_2_0 := by decide +kernel
theorem dX16_init_2_0 : decode cX16_init_2 0 = .ok (.aload_n 0, 1) := dk_42 (dk_at dksX16_init_2_0 0 rfl rfl)
theorem dX16_init_2_1 : decode cX16_init_2 1 = .ok (.aload_n 1, 1) := dk_43 (dk_at dksX16_init_2_0 1 rfl rfl)
theorem dX16_init_2_2 : decode cX16_init_2 2 = .ok (.getfield 7, 3) := dk_180 0 7 (dk_at dksX16_init_2_0 2 rfl rfl)
theorem dX16_init_2_5 : decode cX16_init_2 5 = .ok (.invokespecial 13, 3) := dk_183 0 13 (dk_at dksX16_init_2_0 5 rfl rfl)
theorem dX16_init_2_8 : decode cX16_init_2 8 = .ok (.aload_n 0, 1) := dk_42 (dk_at dksX16_init_2_0 8 rfl rfl)
theorem dX16_init_2_9 : decode cX16_init_2 9 = .ok (.aload_n 1, 1) := dk_43 (dk_at dksX16_init_2_0 9 rfl rfl)
theorem dX16_init_2_10 : decode cX16_init_2 10 = .ok (.getfield 16, 3) := dk_180 0 16 (dk_at dksX16_init_2_0 10 rfl rfl)
theorem dX16_init_2_13 : decode cX16_init_2 13 = .ok (.putfield 16, 3) := dk_181 0 16 (dk_at dksX16_init_2_0 13 rfl rfl)
theorem dX16_init_2_16 : decode cX16_init_2 16 = .ok (.return_, 1) := dk_177 (dk_at dksX16_init_2_0 16 rfl rfl)
theorem q83 : (Jvm.Cond.initialized "RuleLists$Reader") ∈ lw_all := lw_g (lw_at lw_m1 31 rfl) rfl
theorem q344 : (Jvm.Cond.selects "RuleLists$Reader" ({ cls := "java/lang/Object", name := "getClass", desc := "()Ljava/lang/Class;" } : Jvm.MethodName) ({ cls := "java/lang/Object", name := "getClass", desc := "()Ljava/lang/Class;" } : Jvm.MethodName)) ∈ lw_all := lw_g (lw_at lw_m2 52 rfl) rfl
theorem q575 : (Jvm.Cond.instantiable "RuleLists$Reader" (2 : Nat)) ∈ lw_all := lw_g (lw_at lw_m3 43 rfl) rfl
theorem q577 : (Jvm.Cond.instanceMethod ({ cls := "RuleLists$Reader", name := "<init>", desc := "(I)V" } : Jvm.MethodName)) ∈ lw_all := lw_g (lw_at lw_m3 45 rfl) rfl
theorem q578 : (Jvm.Cond.code ({ cls := "RuleLists$Reader", name := "<init>", desc := "(I)V" } : Jvm.MethodName) prog_7_method_1_code (2 : Nat) (Option.none : Option Jvm.ClassFile.FieldType)) ∈ lw_all := lw_g (lw_at lw_m3 46 rfl) rfl
theorem q579 : (Jvm.Cond.methodLink "RuleLists$Reader" (1 : Nat) ({ cls := "java/lang/Object", name := "<init>", desc := "()V" } : Jvm.MethodName)) ∈ lw_all := lw_g (lw_at lw_m3 47 rfl) rfl
theorem q580 : (Jvm.Cond.fieldLink "RuleLists$Reader" (7 : Nat) "RuleLists$Reader" "list" "I") ∈ lw_all := lw_g (lw_at lw_m3 48 rfl) rfl
theorem q583 : (Jvm.Cond.fieldLink "RuleLists$Reader" (16 : Nat) "RuleLists$Reader" "soFar" "I") ∈ lw_all := lw_g (lw_at lw_m3 51 rfl) rfl
theorem q586 : (Jvm.Cond.laysFinal "RuleLists$Reader" "RuleLists$Reader" "list" "I") ∈ lw_all := lw_g (lw_at lw_m3 54 rfl) rfl
theorem q587 : (Jvm.Cond.soleField "RuleLists$Reader" "list") ∈ lw_all := lw_g (lw_at lw_m3 55 rfl) rfl
theorem q588 : (Jvm.Cond.lays "RuleLists$Reader" "RuleLists$Reader" "soFar" "I") ∈ lw_all := lw_g (lw_at lw_m3 56 rfl) rfl
theorem q589 : (Jvm.Cond.soleField "RuleLists$Reader" "soFar") ∈ lw_all := lw_g (lw_at lw_m3 57 rfl) rfl
theorem q590 : (Jvm.Cond.superclass "RuleLists$Reader" "java/lang/Object") ∈ lw_all := lw_g (lw_at lw_m3 58 rfl) rfl
theorem q1011 : (Jvm.Cond.instanceMethod ({ cls := "RuleLists$Reader", name := "<init>", desc := "(LRuleLists$Reader;)V" } : Jvm.MethodName)) ∈ lw_all := lw_g (lw_at lw_m4 239 rfl) rfl
theorem q1012 : (Jvm.Cond.code ({ cls := "RuleLists$Reader", name := "<init>", desc := "(LRuleLists$Reader;)V" } : Jvm.MethodName) prog_7_method_2_code (2 : Nat) (Option.none : Option Jvm.ClassFile.FieldType)) ∈ lw_all := lw_g (lw_at lw_m5 0 rfl) rfl
theorem q1013 : (Jvm.Cond.methodLink "RuleLists$Reader" (13 : Nat) ({ cls := "RuleLists$Reader", name := "<init>", desc := "(I)V" } : Jvm.MethodName)) ∈ lw_all := lw_g (lw_at lw_m5 1 rfl) rfl
theorem q1937 : (Jvm.Cond.castable "RuleLists$Reader" "java/lang/Object") ∈ lw_tbl := lw_at lw_m8 205 rfl
theorem in_X16 : ∀ w ∈ wsX160, w ∈ lw_all := lw_in wsX160 [586, 588] (by decide +kernel) (by decide +kernel)

/-! RuleLists$Members -/
set_option maxRecDepth 100000
def RX17 : String := "RuleLists$Members"
def TX17 : u_T := fun k => match k with
  | 0 => ("RuleLists$Members", "rule", "LRuleLists$Rule;", true)
  | _ => ("RuleLists$Members", "place", "I", false)
def tyX17 : Nat → FieldType := fun k => match k with
  | 0 => .object "RuleLists$Rule"
  | _ => .int
abbrev wsX170 : List Cond := u_ws RX17 TX17 2
theorem nmX17 : ∀ a, a < 2 → ∀ b, b < 2 → a ≠ b → (TX17 a).2.1 ≠ (TX17 b).2.1 := by decide +kernel
theorem tyX17_ok : ∀ k, k < 2 → parseFieldDescriptor (TX17 k).2.2.1 = some (tyX17 k) := by decide +kernel
abbrev cX17_init : ByteArray := prog_4_method_1_code
def yX17_init : MethodName := ⟨RX17, "<init>", "(LRuleLists$Rule;)V"⟩
def dkwX17_init_0 : List UInt8 := [42, 183, 0, 3, 42, 43, 181, 0, 9, 177]
abbrev dktX17_init_0 : List UInt8 := dkwX17_init_0 ++ []
theorem dksX17_init_0 : cX17_init.data.toList.drop 0 = dktX17_init_0 := by decide +kernel
theorem dX17_init_0 : decode cX17_init 0 = .ok (.aload_n 0, 1) := dk_42 (dk_at dksX17_init_0 0 rfl rfl)
theorem dX17_init_1 : decode cX17_init 1 = .ok (.invokespecial 3, 3) := dk_183 0 3 (dk_at dksX17_init_0 1 rfl rfl)
theorem dX17_init_4 : decode cX17_init 4 = .ok (.aload_n 0, 1) := dk_42 (dk_at dksX17_init_0 4 rfl rfl)
theorem dX17_init_5 : decode cX17_init 5 = .ok (.aload_n 1, 1) := dk_43 (dk_at dksX17_init_0 5 rfl rfl)
theorem dX17_init_6 : decode cX17_init 6 = .ok (.putfield 9, 3) := dk_181 0 9 (dk_at dksX17_init_0 6 rfl rfl)
theorem dX17_init_9 : decode cX17_init 9 = .ok (.return_, 1) := dk_177 (dk_at dksX17_init_0 9 rfl rfl)
abbrev cX17_hasNext : ByteArray := prog_4_method_2_code
def yX17_hasNext : MethodName := ⟨RX17, "hasNext", "()Z"⟩
def dkwX17_hasNext_0 : List UInt8 := [42, 180, 0, 9, 42, 180, 0, 15, 182, 0, 19, 17, 3, 231, 163, 0, 7, 4, 167, 0, 4, 3, 172]
abbrev dktX17_hasNext_0 : List UInt8 := dkwX17_hasNext_0 ++ []
theorem dksX17_hasNext_0 : cX17_hasNext.data.toList.drop 0 = dktX17_hasNext_0 := by decide +kernel
theorem dX17_hasNext_0 : decode cX17_hasNext 0 = .ok (.aload_n 0, 1) := dk_42 (dk_at dksX17_hasNext_0 0 rfl rfl)
theorem dX17_hasNext_1 : decode cX17_hasNext 1 = .ok (.getfield 9, 3) := dk_180 0 9 (dk_at dksX17_hasNext_0 1 rfl rfl)
theorem dX17_hasNext_4 : decode cX17_hasNext 4 = .ok (.aload_n 0, 1) := dk_42 (dk_at dksX17_hasNext_0 4 rfl rfl)
theorem dX17_hasNext_5 : decode cX17_hasNext 5 = .ok (.getfield 15, 3) := dk_180 0 15 (dk_at dksX17_hasNext_0 5 rfl rfl)
theorem dX17_hasNext_8 : decode cX17_hasNext 8 = .ok (.invokevirtual 19, 3) := dk_182 0 19 (dk_at dksX17_hasNext_0 8 rfl rfl)
theorem dX17_hasNext_11 : decode cX17_hasNext 11 = .ok (.sipush 999, 3) := dk_17 3 231 (dk_at dksX17_hasNext_0 11 rfl rfl)
theorem dX17_hasNext_14 : decode cX17_hasNext 14 = .ok (.if_icmp .gt 7, 3) := dk_163 0 7 (dk_at dksX17_hasNext_0 14 rfl rfl)
theorem dX17_hasNext_17 : decode cX17_hasNext 17 = .ok (.iconst 1, 1) := dk_4 (dk_at dksX17_hasNext_0 17 rfl rfl)
theorem dX17_hasNext_18 : decode cX17_hasNext 18 = .ok (.goto 4, 3) := dk_167 0 4 (dk_at dksX17_hasNext_0 18 rfl rfl)
theorem dX17_hasNext_21 : decode cX17_hasNext 21 = .ok (.iconst 0, 1) := dk_3 (dk_at dksX17_hasNext_0 21 rfl rfl)
theorem dX17_hasNext_22 : decode cX17_hasNext 22 = .ok (.ireturn, 1) := dk_172 (dk_at dksX17_hasNext_0 22 rfl rfl)
abbrev cX17_next : ByteArray := prog_4_method_4_code
def yX17_next : MethodName := ⟨RX17, "next", "()Ljava/lang/Object;"⟩
theorem dX17_next_0 : decode cX17_next 0 = .ok (.aload_n 0, 1) := by decide +kernel
theorem dX17_next_1 : decode cX17_next 1 = .ok (.invokevirtual 31, 3) := by decide +kernel
theorem dX17_next_4 : decode cX17_next 4 = .ok (.areturn, 1) := by decide +kernel
abbrev cX17_next_2 : ByteArray := prog_4_method_3_code
def yX17_next_2 : MethodName := ⟨RX17, "next", "()Ljava/lang/Integer;"⟩
def dkwX17_next_2_1 : List UInt8 := [184, 0, 25, 176]
abbrev dktX17_next_2_1 : List UInt8 := dkwX17_next_2_1 ++ []
def dkwX17_next_2_0 : List UInt8 := [42, 89, 180, 0, 15, 4, 96, 181, 0, 15, 42, 180, 0, 9, 42, 180, 0, 15, 4, 100, 182, 0, 19]
abbrev dktX17_next_2_0 : List UInt8 := dkwX17_next_2_0 ++ dktX17_next_2_1
theorem dksX17_next_2_0 : cX17_next_2.data.toList.drop 0 = dktX17_next_2_0 := by decide +kernel
theorem dksX17_next_2_1 : cX17_next_2.data.toList.drop 23 = dktX17_next_2_1 := dk_seg dksX17_next_2_0 23 rfl rfl
theorem dX17_next_2_0 : decode cX17_next_2 0 = .ok (.aload_n 0, 1) := dk_42 (dk_at dksX17_next_2_0 0 rfl rfl)
theorem dX17_next_2_1 : decode cX17_next_2 1 = .ok (.dup, 1) := dk_89 (dk_at dksX17_next_2_0 1 rfl rfl)
theorem dX17_next_2_2 : decode cX17_next_2 2 = .ok (.getfield 15, 3) := dk_180 0 15 (dk_at dksX17_next_2_0 2 rfl rfl)
theorem dX17_next_2_5 : decode cX17_next_2 5 = .ok (.iconst 1, 1) := dk_4 (dk_at dksX17_next_2_0 5 rfl rfl)
theorem dX17_next_2_6 : decode cX17_next_2 6 = .ok (.iadd, 1) := dk_96 (dk_at dksX17_next_2_0 6 rfl rfl)
theorem dX17_next_2_7 : decode cX17_next_2 7 = .ok (.putfield 15, 3) := dk_181 0 15 (dk_at dksX17_next_2_0 7 rfl rfl)
theorem dX17_next_2_10 : decode cX17_next_2 10 = .ok (.aload_n 0, 1) := dk_42 (dk_at dksX17_next_2_0 10 rfl rfl)
theorem dX17_next_2_11 : decode cX17_next_2 11 = .ok (.getfield 9, 3) := dk_180 0 9 (dk_at dksX17_next_2_0 11 rfl rfl)
theorem dX17_next_2_14 : decode cX17_next_2 14 = .ok (.aload_n 0, 1) := dk_42 (dk_at dksX17_next_2_0 14 rfl rfl)
theorem dX17_next_2_15 : decode cX17_next_2 15 = .ok (.getfield 15, 3) := dk_180 0 15 (dk_at dksX17_next_2_0 15 rfl rfl)
theorem dX17_next_2_18 : decode cX17_next_2 18 = .ok (.iconst 1, 1) := dk_4 (dk_at dksX17_next_2_0 18 rfl rfl)
theorem dX17_next_2_19 : decode cX17_next_2 19 = .ok (.isub, 1) := dk_100 (dk_at dksX17_next_2_0 19 rfl rfl)
theorem dX17_next_2_20 : decode cX17_next_2 20 = .ok (.invokevirtual 19, 3) := dk_182 0 19 (dk_at dksX17_next_2_0 20 rfl rfl)
theorem dX17_next_2_23 : decode cX17_next_2 23 = .ok (.invokestatic 25, 3) := dk_184 0 25 (dk_at dksX17_next_2_1 0 rfl rfl)
theorem dX17_next_2_26 : decode cX17_next_2 26 = .ok (.areturn, 1) := dk_176 (dk_at dksX17_next_2_1 3 rfl rfl)
theorem q87 : (Jvm.Cond.initialized "RuleLists$Members") ∈ lw_all := lw_g (lw_at lw_m1 35 rfl) rfl
theorem q342 : (Jvm.Cond.selects "RuleLists$Members" ({ cls := "java/lang/Object", name := "getClass", desc := "()Ljava/lang/Class;" } : Jvm.MethodName) ({ cls := "java/lang/Object", name := "getClass", desc := "()Ljava/lang/Class;" } : Jvm.MethodName)) ∈ lw_all := lw_g (lw_at lw_m2 50 rfl) rfl
theorem q1336 : (Jvm.Cond.instantiable "RuleLists$Members" (2 : Nat)) ∈ lw_all := lw_g (lw_at lw_m6 84 rfl) rfl
theorem q1338 : (Jvm.Cond.instanceMethod ({ cls := "RuleLists$Members", name := "<init>", desc := "(LRuleLists$Rule;)V" } : Jvm.MethodName)) ∈ lw_all := lw_g (lw_at lw_m6 86 rfl) rfl
theorem q1339 : (Jvm.Cond.code ({ cls := "RuleLists$Members", name := "<init>", desc := "(LRuleLists$Rule;)V" } : Jvm.MethodName) prog_4_method_1_code (2 : Nat) (Option.none : Option Jvm.ClassFile.FieldType)) ∈ lw_all := lw_g (lw_at lw_m6 87 rfl) rfl
theorem q1340 : (Jvm.Cond.methodLink "RuleLists$Members" (3 : Nat) ({ cls := "java/lang/Object", name := "<init>", desc := "()V" } : Jvm.MethodName)) ∈ lw_all := lw_g (lw_at lw_m6 88 rfl) rfl
theorem q1341 : (Jvm.Cond.fieldLink "RuleLists$Members" (9 : Nat) "RuleLists$Members" "rule" "LRuleLists$Rule;") ∈ lw_all := lw_g (lw_at lw_m6 89 rfl) rfl
theorem q1342 : (Jvm.Cond.fieldLink "RuleLists$Members" (15 : Nat) "RuleLists$Members" "place" "I") ∈ lw_all := lw_g (lw_at lw_m6 90 rfl) rfl
theorem q1343 : (Jvm.Cond.laysFinal "RuleLists$Members" "RuleLists$Members" "rule" "LRuleLists$Rule;") ∈ lw_all := lw_g (lw_at lw_m6 91 rfl) rfl
theorem q1344 : (Jvm.Cond.soleField "RuleLists$Members" "rule") ∈ lw_all := lw_g (lw_at lw_m6 92 rfl) rfl
theorem q1345 : (Jvm.Cond.lays "RuleLists$Members" "RuleLists$Members" "place" "I") ∈ lw_all := lw_g (lw_at lw_m6 93 rfl) rfl
theorem q1346 : (Jvm.Cond.soleField "RuleLists$Members" "place") ∈ lw_all := lw_g (lw_at lw_m6 94 rfl) rfl
theorem q1347 : (Jvm.Cond.superclass "RuleLists$Members" "java/lang/Object") ∈ lw_all := lw_g (lw_at lw_m6 95 rfl) rfl
theorem q1352 : (Jvm.Cond.castable "RuleLists$Members" "java/util/Iterator") ∈ lw_tbl := lw_at lw_m6 100 rfl
theorem q1353 : (Jvm.Cond.selects "RuleLists$Members" ({ cls := "java/util/Iterator", name := "hasNext", desc := "()Z" } : Jvm.MethodName) ({ cls := "RuleLists$Members", name := "hasNext", desc := "()Z" } : Jvm.MethodName)) ∈ lw_all := lw_g (lw_at lw_m6 101 rfl) rfl
theorem q1354 : (Jvm.Cond.unhidden "RuleLists$Members" "hasNext" "()Z") ∈ lw_tbl := lw_at lw_m6 102 rfl
theorem q1355 : (Jvm.Cond.instanceMethod ({ cls := "RuleLists$Members", name := "hasNext", desc := "()Z" } : Jvm.MethodName)) ∈ lw_all := lw_g (lw_at lw_m6 103 rfl) rfl
theorem q1356 : (Jvm.Cond.publicMethod ({ cls := "RuleLists$Members", name := "hasNext", desc := "()Z" } : Jvm.MethodName)) ∈ lw_tbl := lw_at lw_m6 104 rfl
theorem q1357 : (Jvm.Cond.code ({ cls := "RuleLists$Members", name := "hasNext", desc := "()Z" } : Jvm.MethodName) prog_4_method_2_code (1 : Nat) (Option.some Jvm.ClassFile.FieldType.boolean)) ∈ lw_all := lw_g (lw_at lw_m6 105 rfl) rfl
theorem q1358 : (Jvm.Cond.methodLink "RuleLists$Members" (19 : Nat) ({ cls := "RuleLists$Rule", name := "member", desc := "(I)I" } : Jvm.MethodName)) ∈ lw_all := lw_g (lw_at lw_m6 106 rfl) rfl
theorem q1363 : (Jvm.Cond.selects "RuleLists$Members" ({ cls := "java/util/Iterator", name := "next", desc := "()Ljava/lang/Object;" } : Jvm.MethodName) ({ cls := "RuleLists$Members", name := "next", desc := "()Ljava/lang/Object;" } : Jvm.MethodName)) ∈ lw_all := lw_g (lw_at lw_m6 111 rfl) rfl
theorem q1364 : (Jvm.Cond.unhidden "RuleLists$Members" "next" "()Ljava/lang/Object;") ∈ lw_tbl := lw_at lw_m6 112 rfl
theorem q1365 : (Jvm.Cond.instanceMethod ({ cls := "RuleLists$Members", name := "next", desc := "()Ljava/lang/Object;" } : Jvm.MethodName)) ∈ lw_all := lw_g (lw_at lw_m6 113 rfl) rfl
theorem q1366 : (Jvm.Cond.publicMethod ({ cls := "RuleLists$Members", name := "next", desc := "()Ljava/lang/Object;" } : Jvm.MethodName)) ∈ lw_tbl := lw_at lw_m6 114 rfl
theorem q1367 : (Jvm.Cond.code ({ cls := "RuleLists$Members", name := "next", desc := "()Ljava/lang/Object;" } : Jvm.MethodName) prog_4_method_4_code (1 : Nat) (Option.some (Jvm.ClassFile.FieldType.object "java/lang/Object"))) ∈ lw_all := lw_g (lw_at lw_m6 115 rfl) rfl
theorem q1368 : (Jvm.Cond.methodLink "RuleLists$Members" (31 : Nat) ({ cls := "RuleLists$Members", name := "next", desc := "()Ljava/lang/Integer;" } : Jvm.MethodName)) ∈ lw_all := lw_g (lw_at lw_m6 116 rfl) rfl
theorem q1369 : (Jvm.Cond.instanceMethod ({ cls := "RuleLists$Members", name := "next", desc := "()Ljava/lang/Integer;" } : Jvm.MethodName)) ∈ lw_all := lw_g (lw_at lw_m6 117 rfl) rfl
theorem q1370 : (Jvm.Cond.selects "RuleLists$Members" ({ cls := "RuleLists$Members", name := "next", desc := "()Ljava/lang/Integer;" } : Jvm.MethodName) ({ cls := "RuleLists$Members", name := "next", desc := "()Ljava/lang/Integer;" } : Jvm.MethodName)) ∈ lw_all := lw_g (lw_at lw_m6 118 rfl) rfl
theorem q1371 : (Jvm.Cond.code ({ cls := "RuleLists$Members", name := "next", desc := "()Ljava/lang/Integer;" } : Jvm.MethodName) prog_4_method_3_code (1 : Nat) (Option.some (Jvm.ClassFile.FieldType.object "java/lang/Integer"))) ∈ lw_all := lw_g (lw_at lw_m6 119 rfl) rfl
theorem q1372 : (Jvm.Cond.methodLink "RuleLists$Members" (25 : Nat) ({ cls := "java/lang/Integer", name := "valueOf", desc := "(I)Ljava/lang/Integer;" } : Jvm.MethodName)) ∈ lw_all := lw_g (lw_at lw_m6 120 rfl) rfl
theorem q1940 : (Jvm.Cond.castable "RuleLists$Members" "java/lang/Object") ∈ lw_tbl := lw_at lw_m8 208 rfl
theorem in_X17 : ∀ w ∈ wsX170, w ∈ lw_all := lw_in wsX170 [1343, 1345] (by decide +kernel) (by decide +kernel)

/-! RuleLists$Rule -/
set_option maxRecDepth 100000
def RX5 : String := "RuleLists$Rule"
abbrev cX5_init : ByteArray := prog_8_method_1_code
def yX5_init : MethodName := ⟨RX5, "<init>", "()V"⟩
def dkwX5_init_0 : List UInt8 := [42, 183, 0, 3, 42, 16, 8, 188, 10, 181, 0, 9, 177]
abbrev dktX5_init_0 : List UInt8 := dkwX5_init_0 ++ []
theorem dksX5_init_0 : cX5_init.data.toList.drop 0 = dktX5_init_0 := by decide +kernel
theorem dX5_init_0 : decode cX5_init 0 = .ok (.aload_n 0, 1) := dk_42 (dk_at dksX5_init_0 0 rfl rfl)
theorem dX5_init_1 : decode cX5_init 1 = .ok (.invokespecial 3, 3) := dk_183 0 3 (dk_at dksX5_init_0 1 rfl rfl)
theorem dX5_init_4 : decode cX5_init 4 = .ok (.aload_n 0, 1) := dk_42 (dk_at dksX5_init_0 4 rfl rfl)
theorem dX5_init_5 : decode cX5_init 5 = .ok (.bipush 8, 2) := dk_16 8 (dk_at dksX5_init_0 5 rfl rfl)
theorem dX5_init_7 : decode cX5_init 7 = .ok (.newarray .int, 2) := dk_188_10 (dk_at dksX5_init_0 7 rfl rfl)
theorem dX5_init_9 : decode cX5_init 9 = .ok (.putfield 9, 3) := dk_181 0 9 (dk_at dksX5_init_0 9 rfl rfl)
theorem dX5_init_12 : decode cX5_init 12 = .ok (.return_, 1) := dk_177 (dk_at dksX5_init_0 12 rfl rfl)
abbrev cX5_member : ByteArray := prog_8_method_4_code
def yX5_member : MethodName := ⟨RX5, "member", "(I)I"⟩
def dkwX5_member_2 : List UInt8 := [162, 0, 12, 42, 180, 0, 9, 27, 46, 167, 0, 6, 17, 3, 232, 172]
abbrev dktX5_member_2 : List UInt8 := dkwX5_member_2 ++ []
def dkwX5_member_1 : List UInt8 := [164, 0, 11, 42, 4, 181, 0, 19, 167, 0, 8, 42, 28, 182, 0, 27, 167, 255, 216, 27, 42, 180, 0, 15]
abbrev dktX5_member_1 : List UInt8 := dkwX5_member_1 ++ dktX5_member_2
def dkwX5_member_0 : List UInt8 := [42, 180, 0, 15, 27, 163, 0, 38, 42, 180, 0, 19, 154, 0, 31, 42, 182, 0, 23, 61, 28, 17, 3, 231]
abbrev dktX5_member_0 : List UInt8 := dkwX5_member_0 ++ dktX5_member_1
theorem dksX5_member_0 : cX5_member.data.toList.drop 0 = dktX5_member_0 := by decide +kernel
theorem dksX5_member_1 : cX5_member.data.toList.drop 24 = dktX5_member_1 := dk_seg dksX5_member_0 24 rfl rfl
theorem dksX5_member_2 : cX5_member.data.toList.drop 48 = dktX5_member_2 := dk_seg dksX5_member_1 24 rfl rfl
theorem dX5_member_0 : decode cX5_member 0 = .ok (.aload_n 0, 1) := dk_42 (dk_at dksX5_member_0 0 rfl rfl)
theorem dX5_member_1 : decode cX5_member 1 = .ok (.getfield 15, 3) := dk_180 0 15 (dk_at dksX5_member_0 1 rfl rfl)
theorem dX5_member_4 : decode cX5_member 4 = .ok (.iload_n 1, 1) := dk_27 (dk_at dksX5_member_0 4 rfl rfl)
theorem dX5_member_5 : decode cX5_member 5 = .ok (.if_icmp .gt 38, 3) := dk_163 0 38 (dk_at dksX5_member_0 5 rfl rfl)
theorem dX5_member_8 : decode cX5_member 8 = .ok (.aload_n 0, 1) := dk_42 (dk_at dksX5_member_0 8 rfl rfl)
theorem dX5_member_9 : decode cX5_member 9 = .ok (.getfield 19, 3) := dk_180 0 19 (dk_at dksX5_member_0 9 rfl rfl)
theorem dX5_member_12 : decode cX5_member 12 = .ok (.ifCond .ne 31, 3) := dk_154 0 31 (dk_at dksX5_member_0 12 rfl rfl)
theorem dX5_member_15 : decode cX5_member 15 = .ok (.aload_n 0, 1) := dk_42 (dk_at dksX5_member_0 15 rfl rfl)
theorem dX5_member_16 : decode cX5_member 16 = .ok (.invokevirtual 23, 3) := dk_182 0 23 (dk_at dksX5_member_0 16 rfl rfl)
theorem dX5_member_19 : decode cX5_member 19 = .ok (.istore_n 2, 1) := dk_61 (dk_at dksX5_member_0 19 rfl rfl)
theorem dX5_member_20 : decode cX5_member 20 = .ok (.iload_n 2, 1) := dk_28 (dk_at dksX5_member_0 20 rfl rfl)
theorem dX5_member_21 : decode cX5_member 21 = .ok (.sipush 999, 3) := dk_17 3 231 (dk_at dksX5_member_0 21 rfl rfl)
theorem dX5_member_24 : decode cX5_member 24 = .ok (.if_icmp .le 11, 3) := dk_164 0 11 (dk_at dksX5_member_1 0 rfl rfl)
theorem dX5_member_27 : decode cX5_member 27 = .ok (.aload_n 0, 1) := dk_42 (dk_at dksX5_member_1 3 rfl rfl)
theorem dX5_member_28 : decode cX5_member 28 = .ok (.iconst 1, 1) := dk_4 (dk_at dksX5_member_1 4 rfl rfl)
theorem dX5_member_29 : decode cX5_member 29 = .ok (.putfield 19, 3) := dk_181 0 19 (dk_at dksX5_member_1 5 rfl rfl)
theorem dX5_member_32 : decode cX5_member 32 = .ok (.goto 8, 3) := dk_167 0 8 (dk_at dksX5_member_1 8 rfl rfl)
theorem dX5_member_35 : decode cX5_member 35 = .ok (.aload_n 0, 1) := dk_42 (dk_at dksX5_member_1 11 rfl rfl)
theorem dX5_member_36 : decode cX5_member 36 = .ok (.iload_n 2, 1) := dk_28 (dk_at dksX5_member_1 12 rfl rfl)
theorem dX5_member_37 : decode cX5_member 37 = .ok (.invokevirtual 27, 3) := dk_182 0 27 (dk_at dksX5_member_1 13 rfl rfl)
theorem dX5_member_40 : decode cX5_member 40 = .ok (.goto (-40), 3) := dk_167 255 216 (dk_at dksX5_member_1 16 rfl rfl)
theorem dX5_member_43 : decode cX5_member 43 = .ok (.iload_n 1, 1) := dk_27 (dk_at dksX5_member_1 19 rfl rfl)
theorem dX5_member_44 : decode cX5_member 44 = .ok (.aload_n 0, 1) := dk_42 (dk_at dksX5_member_1 20 rfl rfl)
theorem dX5_member_45 : decode cX5_member 45 = .ok (.getfield 15, 3) := dk_180 0 15 (dk_at dksX5_member_1 21 rfl rfl)
theorem dX5_member_48 : decode cX5_member 48 = .ok (.if_icmp .ge 12, 3) := dk_162 0 12 (dk_at dksX5_member_2 0 rfl rfl)
theorem dX5_member_51 : decode cX5_member 51 = .ok (.aload_n 0, 1) := dk_42 (dk_at dksX5_member_2 3 rfl rfl)
theorem dX5_member_52 : decode cX5_member 52 = .ok (.getfield 9, 3) := dk_180 0 9 (dk_at dksX5_member_2 4 rfl rfl)
theorem dX5_member_55 : decode cX5_member 55 = .ok (.iload_n 1, 1) := dk_27 (dk_at dksX5_member_2 7 rfl rfl)
theorem dX5_member_56 : decode cX5_member 56 = .ok (.iaload, 1) := dk_46 (dk_at dksX5_member_2 8 rfl rfl)
theorem dX5_member_57 : decode cX5_member 57 = .ok (.goto 6, 3) := dk_167 0 6 (dk_at dksX5_member_2 9 rfl rfl)
theorem dX5_member_60 : decode cX5_member 60 = .ok (.sipush 1000, 3) := dk_17 3 232 (dk_at dksX5_member_2 12 rfl rfl)
theorem dX5_member_63 : decode cX5_member 63 = .ok (.ireturn, 1) := dk_172 (dk_at dksX5_member_2 15 rfl rfl)
abbrev cX5_isDivided : ByteArray := prog_8_method_7_code
def yX5_isDivided : MethodName := ⟨RX5, "isDivided", "(I)Z"⟩
def dkwX5_isDivided_2 : List UInt8 := [167, 255, 214, 28, 172]
abbrev dktX5_isDivided_2 : List UInt8 := dkwX5_isDivided_2 ++ []
def dkwX5_isDivided_1 : List UInt8 := [164, 0, 18, 27, 42, 180, 0, 9, 29, 46, 112, 154, 0, 7, 4, 167, 0, 4, 3, 61, 132, 3, 1]
abbrev dktX5_isDivided_1 : List UInt8 := dkwX5_isDivided_1 ++ dktX5_isDivided_2
def dkwX5_isDivided_0 : List UInt8 := [3, 61, 3, 62, 29, 42, 180, 0, 15, 162, 0, 40, 28, 154, 0, 24, 42, 180, 0, 9, 29, 46, 4]
abbrev dktX5_isDivided_0 : List UInt8 := dkwX5_isDivided_0 ++ dktX5_isDivided_1
theorem dksX5_isDivided_0 : cX5_isDivided.data.toList.drop 0 = dktX5_isDivided_0 := by decide +kernel
theorem dksX5_isDivided_1 : cX5_isDivided.data.toList.drop 23 = dktX5_isDivided_1 := dk_seg dksX5_isDivided_0 23 rfl rfl
theorem dksX5_isDivided_2 : cX5_isDivided.data.toList.drop 46 = dktX5_isDivided_2 := dk_seg dksX5_isDivided_1 23 rfl rfl
theorem dX5_isDivided_0 : decode cX5_isDivided 0 = .ok (.iconst 0, 1) := dk_3 (dk_at dksX5_isDivided_0 0 rfl rfl)
theorem dX5_isDivided_1 : decode cX5_isDivided 1 = .ok (.istore_n 2, 1) := dk_61 (dk_at dksX5_isDivided_0 1 rfl rfl)
theorem dX5_isDivided_2 : decode cX5_isDivided 2 = .ok (.iconst 0, 1) := dk_3 (dk_at dksX5_isDivided_0 2 rfl rfl)
theorem dX5_isDivided_3 : decode cX5_isDivided 3 = .ok (.istore_n 3, 1) := dk_62 (dk_at dksX5_isDivided_0 3 rfl rfl)
theorem dX5_isDivided_4 : decode cX5_isDivided 4 = .ok (.iload_n 3, 1) := dk_29 (dk_at dksX5_isDivided_0 4 rfl rfl)
theorem dX5_isDivided_5 : decode cX5_isDivided 5 = .ok (.aload_n 0, 1) := dk_42 (dk_at dksX5_isDivided_0 5 rfl rfl)
theorem dX5_isDivided_6 : decode cX5_isDivided 6 = .ok (.getfield 15, 3) := dk_180 0 15 (dk_at dksX5_isDivided_0 6 rfl rfl)
theorem dX5_isDivided_9 : decode cX5_isDivided 9 = .ok (.if_icmp .ge 40, 3) := dk_162 0 40 (dk_at dksX5_isDivided_0 9 rfl rfl)
theorem dX5_isDivided_12 : decode cX5_isDivided 12 = .ok (.iload_n 2, 1) := dk_28 (dk_at dksX5_isDivided_0 12 rfl rfl)
theorem dX5_isDivided_13 : decode cX5_isDivided 13 = .ok (.ifCond .ne 24, 3) := dk_154 0 24 (dk_at dksX5_isDivided_0 13 rfl rfl)
theorem dX5_isDivided_16 : decode cX5_isDivided 16 = .ok (.aload_n 0, 1) := dk_42 (dk_at dksX5_isDivided_0 16 rfl rfl)
theorem dX5_isDivided_17 : decode cX5_isDivided 17 = .ok (.getfield 9, 3) := dk_180 0 9 (dk_at dksX5_isDivided_0 17 rfl rfl)
theorem dX5_isDivided_20 : decode cX5_isDivided 20 = .ok (.iload_n 3, 1) := dk_29 (dk_at dksX5_isDivided_0 20 rfl rfl)
theorem dX5_isDivided_21 : decode cX5_isDivided 21 = .ok (.iaload, 1) := dk_46 (dk_at dksX5_isDivided_0 21 rfl rfl)
theorem dX5_isDivided_22 : decode cX5_isDivided 22 = .ok (.iconst 1, 1) := dk_4 (dk_at dksX5_isDivided_0 22 rfl rfl)
theorem dX5_isDivided_23 : decode cX5_isDivided 23 = .ok (.if_icmp .le 18, 3) := dk_164 0 18 (dk_at dksX5_isDivided_1 0 rfl rfl)
theorem dX5_isDivided_26 : decode cX5_isDivided 26 = .ok (.iload_n 1, 1) := dk_27 (dk_at dksX5_isDivided_1 3 rfl rfl)
theorem dX5_isDivided_27 : decode cX5_isDivided 27 = .ok (.aload_n 0, 1) := dk_42 (dk_at dksX5_isDivided_1 4 rfl rfl)
theorem dX5_isDivided_28 : decode cX5_isDivided 28 = .ok (.getfield 9, 3) := dk_180 0 9 (dk_at dksX5_isDivided_1 5 rfl rfl)
theorem dX5_isDivided_31 : decode cX5_isDivided 31 = .ok (.iload_n 3, 1) := dk_29 (dk_at dksX5_isDivided_1 8 rfl rfl)
theorem dX5_isDivided_32 : decode cX5_isDivided 32 = .ok (.iaload, 1) := dk_46 (dk_at dksX5_isDivided_1 9 rfl rfl)
theorem dX5_isDivided_33 : decode cX5_isDivided 33 = .ok (.irem, 1) := dk_112 (dk_at dksX5_isDivided_1 10 rfl rfl)
theorem dX5_isDivided_34 : decode cX5_isDivided 34 = .ok (.ifCond .ne 7, 3) := dk_154 0 7 (dk_at dksX5_isDivided_1 11 rfl rfl)
theorem dX5_isDivided_37 : decode cX5_isDivided 37 = .ok (.iconst 1, 1) := dk_4 (dk_at dksX5_isDivided_1 14 rfl rfl)
theorem dX5_isDivided_38 : decode cX5_isDivided 38 = .ok (.goto 4, 3) := dk_167 0 4 (dk_at dksX5_isDivided_1 15 rfl rfl)
theorem dX5_isDivided_41 : decode cX5_isDivided 41 = .ok (.iconst 0, 1) := dk_3 (dk_at dksX5_isDivided_1 18 rfl rfl)
theorem dX5_isDivided_42 : decode cX5_isDivided 42 = .ok (.istore_n 2, 1) := dk_61 (dk_at dksX5_isDivided_1 19 rfl rfl)
theorem dX5_isDivided_43 : decode cX5_isDivided 43 = .ok (.iinc 3 1, 3) := dk_132 3 1 (dk_at dksX5_isDivided_1 20 rfl rfl)
theorem dX5_isDivided_46 : decode cX5_isDivided 46 = .ok (.goto (-42), 3) := dk_167 255 214 (dk_at dksX5_isDivided_2 0 rfl rfl)
theorem dX5_isDivided_49 : decode cX5_isDivided 49 = .ok (.iload_n 2, 1) := dk_28 (dk_at dksX5_isDivided_2 3 rfl rfl)
theorem dX5_isDivided_50 : decode cX5_isDivided 50 = .ok (.ireturn, 1) := dk_172 (dk_at dksX5_isDivided_2 4 rfl rfl)
abbrev cX5_latest : ByteArray := prog_8_method_6_code
def yX5_latest : MethodName := ⟨RX5, "latest", "()I"⟩
def dkwX5_latest_0 : List UInt8 := [42, 180, 0, 15, 154, 0, 7, 2, 167, 0, 14, 42, 180, 0, 9, 42, 180, 0, 15, 4, 100, 46, 172]
abbrev dktX5_latest_0 : List UInt8 := dkwX5_latest_0 ++ []
theorem dksX5_latest_0 : cX5_latest.data.toList.drop 0 = dktX5_latest_0 := by decide +kernel
theorem dX5_latest_0 : decode cX5_latest 0 = .ok (.aload_n 0, 1) := dk_42 (dk_at dksX5_latest_0 0 rfl rfl)
theorem dX5_latest_1 : decode cX5_latest 1 = .ok (.getfield 15, 3) := dk_180 0 15 (dk_at dksX5_latest_0 1 rfl rfl)
theorem dX5_latest_4 : decode cX5_latest 4 = .ok (.ifCond .ne 7, 3) := dk_154 0 7 (dk_at dksX5_latest_0 4 rfl rfl)
theorem dX5_latest_7 : decode cX5_latest 7 = .ok (.iconst (-1), 1) := dk_2 (dk_at dksX5_latest_0 7 rfl rfl)
theorem dX5_latest_8 : decode cX5_latest 8 = .ok (.goto 14, 3) := dk_167 0 14 (dk_at dksX5_latest_0 8 rfl rfl)
theorem dX5_latest_11 : decode cX5_latest 11 = .ok (.aload_n 0, 1) := dk_42 (dk_at dksX5_latest_0 11 rfl rfl)
theorem dX5_latest_12 : decode cX5_latest 12 = .ok (.getfield 9, 3) := dk_180 0 9 (dk_at dksX5_latest_0 12 rfl rfl)
theorem dX5_latest_15 : decode cX5_latest 15 = .ok (.aload_n 0, 1) := dk_42 (dk_at dksX5_latest_0 15 rfl rfl)
theorem dX5_latest_16 : decode cX5_latest 16 = .ok (.getfield 15, 3) := dk_180 0 15 (dk_at dksX5_latest_0 16 rfl rfl)
theorem dX5_latest_19 : decode cX5_latest 19 = .ok (.iconst 1, 1) := dk_4 (dk_at dksX5_latest_0 19 rfl rfl)
theorem dX5_latest_20 : decode cX5_latest 20 = .ok (.isub, 1) := dk_100 (dk_at dksX5_latest_0 20 rfl rfl)
theorem dX5_latest_21 : decode cX5_latest 21 = .ok (.iaload, 1) := dk_46 (dk_at dksX5_latest_0 21 rfl rfl)
theorem dX5_latest_22 : decode cX5_latest 22 = .ok (.ireturn, 1) := dk_172 (dk_at dksX5_latest_0 22 rfl rfl)
abbrev cX5_keep : ByteArray := prog_8_method_5_code
def yX5_keep : MethodName := ⟨RX5, "keep", "(I)V"⟩
def dkwX5_keep_2 : List UInt8 := [180, 0, 15, 27, 79, 42, 89, 180, 0, 15, 4, 96, 181, 0, 15, 177]
abbrev dktX5_keep_2 : List UInt8 := dkwX5_keep_2 ++ []
def dkwX5_keep_1 : List UInt8 := [180, 0, 9, 3, 44, 3, 42, 180, 0, 15, 184, 0, 31, 42, 44, 181, 0, 9, 42, 180, 0, 9, 42]
abbrev dktX5_keep_1 : List UInt8 := dkwX5_keep_1 ++ dktX5_keep_2
def dkwX5_keep_0 : List UInt8 := [42, 180, 0, 15, 42, 180, 0, 9, 190, 160, 0, 31, 5, 42, 180, 0, 15, 104, 188, 10, 77, 42]
abbrev dktX5_keep_0 : List UInt8 := dkwX5_keep_0 ++ dktX5_keep_1
theorem dksX5_keep_0 : cX5_keep.data.toList.drop 0 = dktX5_keep_0 := by decide +kernel
theorem dksX5_keep_1 : cX5_keep.data.toList.drop 22 = dktX5_keep_1 := dk_seg dksX5_keep_0 22 rfl rfl
theorem dksX5_keep_2 : cX5_keep.data.toList.drop 45 = dktX5_keep_2 := dk_seg dksX5_keep_1 23 rfl rfl
theorem dX5_keep_0 : decode cX5_keep 0 = .ok (.aload_n 0, 1) := dk_42 (dk_at dksX5_keep_0 0 rfl rfl)
theorem dX5_keep_1 : decode cX5_keep 1 = .ok (.getfield 15, 3) := dk_180 0 15 (dk_at dksX5_keep_0 1 rfl rfl)
theorem dX5_keep_4 : decode cX5_keep 4 = .ok (.aload_n 0, 1) := dk_42 (dk_at dksX5_keep_0 4 rfl rfl)
theorem dX5_keep_5 : decode cX5_keep 5 = .ok (.getfield 9, 3) := dk_180 0 9 (dk_at dksX5_keep_0 5 rfl rfl)
theorem dX5_keep_8 : decode cX5_keep 8 = .ok (.arraylength, 1) := dk_190 (dk_at dksX5_keep_0 8 rfl rfl)
theorem dX5_keep_9 : decode cX5_keep 9 = .ok (.if_icmp .ne 31, 3) := dk_160 0 31 (dk_at dksX5_keep_0 9 rfl rfl)
theorem dX5_keep_12 : decode cX5_keep 12 = .ok (.iconst 2, 1) := dk_5 (dk_at dksX5_keep_0 12 rfl rfl)
theorem dX5_keep_13 : decode cX5_keep 13 = .ok (.aload_n 0, 1) := dk_42 (dk_at dksX5_keep_0 13 rfl rfl)
theorem dX5_keep_14 : decode cX5_keep 14 = .ok (.getfield 15, 3) := dk_180 0 15 (dk_at dksX5_keep_0 14 rfl rfl)
theorem dX5_keep_17 : decode cX5_keep 17 = .ok (.imul, 1) := dk_104 (dk_at dksX5_keep_0 17 rfl rfl)
theorem dX5_keep_18 : decode cX5_keep 18 = .ok (.newarray .int, 2) := dk_188_10 (dk_at dksX5_keep_0 18 rfl rfl)
theorem dX5_keep_20 : decode cX5_keep 20 = .ok (.astore_n 2, 1) := dk_77 (dk_at dksX5_keep_0 20 rfl rfl)
theorem dX5_keep_21 : decode cX5_keep 21 = .ok (.aload_n 0, 1) := dk_42 (dk_at dksX5_keep_0 21 rfl rfl)
theorem dX5_keep_22 : decode cX5_keep 22 = .ok (.getfield 9, 3) := dk_180 0 9 (dk_at dksX5_keep_1 0 rfl rfl)
theorem dX5_keep_25 : decode cX5_keep 25 = .ok (.iconst 0, 1) := dk_3 (dk_at dksX5_keep_1 3 rfl rfl)
theorem dX5_keep_26 : decode cX5_keep 26 = .ok (.aload_n 2, 1) := dk_44 (dk_at dksX5_keep_1 4 rfl rfl)
theorem dX5_keep_27 : decode cX5_keep 27 = .ok (.iconst 0, 1) := dk_3 (dk_at dksX5_keep_1 5 rfl rfl)
theorem dX5_keep_28 : decode cX5_keep 28 = .ok (.aload_n 0, 1) := dk_42 (dk_at dksX5_keep_1 6 rfl rfl)
theorem dX5_keep_29 : decode cX5_keep 29 = .ok (.getfield 15, 3) := dk_180 0 15 (dk_at dksX5_keep_1 7 rfl rfl)
theorem dX5_keep_32 : decode cX5_keep 32 = .ok (.invokestatic 31, 3) := dk_184 0 31 (dk_at dksX5_keep_1 10 rfl rfl)
theorem dX5_keep_35 : decode cX5_keep 35 = .ok (.aload_n 0, 1) := dk_42 (dk_at dksX5_keep_1 13 rfl rfl)
theorem dX5_keep_36 : decode cX5_keep 36 = .ok (.aload_n 2, 1) := dk_44 (dk_at dksX5_keep_1 14 rfl rfl)
theorem dX5_keep_37 : decode cX5_keep 37 = .ok (.putfield 9, 3) := dk_181 0 9 (dk_at dksX5_keep_1 15 rfl rfl)
theorem dX5_keep_40 : decode cX5_keep 40 = .ok (.aload_n 0, 1) := dk_42 (dk_at dksX5_keep_1 18 rfl rfl)
theorem dX5_keep_41 : decode cX5_keep 41 = .ok (.getfield 9, 3) := dk_180 0 9 (dk_at dksX5_keep_1 19 rfl rfl)
theorem dX5_keep_44 : decode cX5_keep 44 = .ok (.aload_n 0, 1) := dk_42 (dk_at dksX5_keep_1 22 rfl rfl)
theorem dX5_keep_45 : decode cX5_keep 45 = .ok (.getfield 15, 3) := dk_180 0 15 (dk_at dksX5_keep_2 0 rfl rfl)
theorem dX5_keep_48 : decode cX5_keep 48 = .ok (.iload_n 1, 1) := dk_27 (dk_at dksX5_keep_2 3 rfl rfl)
theorem dX5_keep_49 : decode cX5_keep 49 = .ok (.iastore, 1) := dk_79 (dk_at dksX5_keep_2 4 rfl rfl)
theorem dX5_keep_50 : decode cX5_keep 50 = .ok (.aload_n 0, 1) := dk_42 (dk_at dksX5_keep_2 5 rfl rfl)
theorem dX5_keep_51 : decode cX5_keep 51 = .ok (.dup, 1) := dk_89 (dk_at dksX5_keep_2 6 rfl rfl)
theorem dX5_keep_52 : decode cX5_keep 52 = .ok (.getfield 15, 3) := dk_180 0 15 (dk_at dksX5_keep_2 7 rfl rfl)
theorem dX5_keep_55 : decode cX5_keep 55 = .ok (.iconst 1, 1) := dk_4 (dk_at dksX5_keep_2 10 rfl rfl)
theorem dX5_keep_56 : decode cX5_keep 56 = .ok (.iadd, 1) := dk_96 (dk_at dksX5_keep_2 11 rfl rfl)
theorem dX5_keep_57 : decode cX5_keep 57 = .ok (.putfield 15, 3) := dk_181 0 15 (dk_at dksX5_keep_2 12 rfl rfl)
theorem dX5_keep_60 : decode cX5_keep 60 = .ok (.return_, 1) := dk_177 (dk_at dksX5_keep_2 15 rfl rfl)
abbrev cX5_has : ByteArray := prog_8_method_8_code
def yX5_has : MethodName := ⟨RX5, "has", "(I)Z"⟩
def dkwX5_has_1 : List UInt8 := [42, 29, 182, 0, 41, 84, 132, 3, 1, 167, 255, 238, 42, 44, 181, 0, 37, 42, 180, 0, 37, 27, 51, 172]
abbrev dktX5_has_1 : List UInt8 := dkwX5_has_1 ++ []
def dkwX5_has_0 : List UInt8 := [42, 180, 0, 37, 199, 0, 37, 17, 3, 232, 188, 4, 77, 3, 62, 29, 17, 3, 231, 163, 0, 17, 44, 29]
abbrev dktX5_has_0 : List UInt8 := dkwX5_has_0 ++ dktX5_has_1
theorem dksX5_has_0 : cX5_has.data.toList.drop 0 = dktX5_has_0 := by decide +kernel
theorem dksX5_has_1 : cX5_has.data.toList.drop 24 = dktX5_has_1 := dk_seg dksX5_has_0 24 rfl rfl
theorem dX5_has_0 : decode cX5_has 0 = .ok (.aload_n 0, 1) := dk_42 (dk_at dksX5_has_0 0 rfl rfl)
theorem dX5_has_1 : decode cX5_has 1 = .ok (.getfield 37, 3) := dk_180 0 37 (dk_at dksX5_has_0 1 rfl rfl)
theorem dX5_has_4 : decode cX5_has 4 = .ok (.ifnonnull 37, 3) := dk_199 0 37 (dk_at dksX5_has_0 4 rfl rfl)
theorem dX5_has_7 : decode cX5_has 7 = .ok (.sipush 1000, 3) := dk_17 3 232 (dk_at dksX5_has_0 7 rfl rfl)
theorem dX5_has_10 : decode cX5_has 10 = .ok (.newarray .boolean, 2) := dk_188_4 (dk_at dksX5_has_0 10 rfl rfl)
theorem dX5_has_12 : decode cX5_has 12 = .ok (.astore_n 2, 1) := dk_77 (dk_at dksX5_has_0 12 rfl rfl)
theorem dX5_has_13 : decode cX5_has 13 = .ok (.iconst 0, 1) := dk_3 (dk_at dksX5_has_0 13 rfl rfl)
theorem dX5_has_14 : decode cX5_has 14 = .ok (.istore_n 3, 1) := dk_62 (dk_at dksX5_has_0 14 rfl rfl)
theorem dX5_has_15 : decode cX5_has 15 = .ok (.iload_n 3, 1) := dk_29 (dk_at dksX5_has_0 15 rfl rfl)
theorem dX5_has_16 : decode cX5_has 16 = .ok (.sipush 999, 3) := dk_17 3 231 (dk_at dksX5_has_0 16 rfl rfl)
theorem dX5_has_19 : decode cX5_has 19 = .ok (.if_icmp .gt 17, 3) := dk_163 0 17 (dk_at dksX5_has_0 19 rfl rfl)
theorem dX5_has_22 : decode cX5_has 22 = .ok (.aload_n 2, 1) := dk_44 (dk_at dksX5_has_0 22 rfl rfl)
theorem dX5_has_23 : decode cX5_has 23 = .ok (.iload_n 3, 1) := dk_29 (dk_at dksX5_has_0 23 rfl rfl)
theorem dX5_has_24 : decode cX5_has 24 = .ok (.aload_n 0, 1) := dk_42 (dk_at dksX5_has_1 0 rfl rfl)
theorem dX5_has_25 : decode cX5_has 25 = .ok (.iload_n 3, 1) := dk_29 (dk_at dksX5_has_1 1 rfl rfl)
theorem dX5_has_26 : decode cX5_has 26 = .ok (.invokevirtual 41, 3) := dk_182 0 41 (dk_at dksX5_has_1 2 rfl rfl)
theorem dX5_has_29 : decode cX5_has 29 = .ok (.bastore, 1) := dk_84 (dk_at dksX5_has_1 5 rfl rfl)
theorem dX5_has_30 : decode cX5_has 30 = .ok (.iinc 3 1, 3) := dk_132 3 1 (dk_at dksX5_has_1 6 rfl rfl)
theorem dX5_has_33 : decode cX5_has 33 = .ok (.goto (-18), 3) := dk_167 255 238 (dk_at dksX5_has_1 9 rfl rfl)
theorem dX5_has_36 : decode cX5_has 36 = .ok (.aload_n 0, 1) := dk_42 (dk_at dksX5_has_1 12 rfl rfl)
theorem dX5_has_37 : decode cX5_has 37 = .ok (.aload_n 2, 1) := dk_44 (dk_at dksX5_has_1 13 rfl rfl)
theorem dX5_has_38 : decode cX5_has 38 = .ok (.putfield 37, 3) := dk_181 0 37 (dk_at dksX5_has_1 14 rfl rfl)
theorem dX5_has_41 : decode cX5_has 41 = .ok (.aload_n 0, 1) := dk_42 (dk_at dksX5_has_1 17 rfl rfl)
theorem dX5_has_42 : decode cX5_has 42 = .ok (.getfield 37, 3) := dk_180 0 37 (dk_at dksX5_has_1 18 rfl rfl)
theorem dX5_has_45 : decode cX5_has 45 = .ok (.iload_n 1, 1) := dk_27 (dk_at dksX5_has_1 21 rfl rfl)
theorem dX5_has_46 : decode cX5_has 46 = .ok (.baload, 1) := dk_51 (dk_at dksX5_has_1 22 rfl rfl)
theorem dX5_has_47 : decode cX5_has 47 = .ok (.ireturn, 1) := dk_172 (dk_at dksX5_has_1 23 rfl rfl)
abbrev cX5_iterator : ByteArray := prog_8_method_9_code
def yX5_iterator : MethodName := ⟨RX5, "iterator", "()Ljava/util/Iterator;"⟩
def dkwX5_iterator_0 : List UInt8 := [187, 0, 45, 89, 42, 183, 0, 47, 176]
abbrev dktX5_iterator_0 : List UInt8 := dkwX5_iterator_0 ++ []
theorem dksX5_iterator_0 : cX5_iterator.data.toList.drop 0 = dktX5_iterator_0 := by decide +kernel
theorem dX5_iterator_0 : decode cX5_iterator 0 = .ok (.new 45, 3) := dk_187 0 45 (dk_at dksX5_iterator_0 0 rfl rfl)
theorem dX5_iterator_3 : decode cX5_iterator 3 = .ok (.dup, 1) := dk_89 (dk_at dksX5_iterator_0 3 rfl rfl)
theorem dX5_iterator_4 : decode cX5_iterator 4 = .ok (.aload_n 0, 1) := dk_42 (dk_at dksX5_iterator_0 4 rfl rfl)
theorem dX5_iterator_5 : decode cX5_iterator 5 = .ok (.invokespecial 47, 3) := dk_183 0 47 (dk_at dksX5_iterator_0 5 rfl rfl)
theorem dX5_iterator_8 : decode cX5_iterator 8 = .ok (.areturn, 1) := dk_176 (dk_at dksX5_iterator_0 8 rfl rfl)
theorem q66 : (Jvm.Cond.initialized "RuleLists$Rule") ∈ lw_all := lw_g (lw_at lw_m1 14 rfl) rfl
theorem q275 : (Jvm.Cond.instanceMethod ({ cls := "RuleLists$Rule", name := "<init>", desc := "()V" } : Jvm.MethodName)) ∈ lw_all := lw_g (lw_at lw_m1 223 rfl) rfl
theorem q276 : (Jvm.Cond.code ({ cls := "RuleLists$Rule", name := "<init>", desc := "()V" } : Jvm.MethodName) prog_8_method_1_code (1 : Nat) (Option.none : Option Jvm.ClassFile.FieldType)) ∈ lw_all := lw_g (lw_at lw_m1 224 rfl) rfl
theorem q277 : (Jvm.Cond.methodLink "RuleLists$Rule" (3 : Nat) ({ cls := "java/lang/Object", name := "<init>", desc := "()V" } : Jvm.MethodName)) ∈ lw_all := lw_g (lw_at lw_m1 225 rfl) rfl
theorem q280 : (Jvm.Cond.fieldLink "RuleLists$Rule" (9 : Nat) "RuleLists$Rule" "members" "[I") ∈ lw_all := lw_g (lw_at lw_m1 228 rfl) rfl
theorem q281 : (Jvm.Cond.fieldLink "RuleLists$Rule" (15 : Nat) "RuleLists$Rule" "many" "I") ∈ lw_all := lw_g (lw_at lw_m1 229 rfl) rfl
theorem q282 : (Jvm.Cond.fieldLink "RuleLists$Rule" (19 : Nat) "RuleLists$Rule" "ended" "Z") ∈ lw_all := lw_g (lw_at lw_m1 230 rfl) rfl
theorem q283 : (Jvm.Cond.fieldLink "RuleLists$Rule" (37 : Nat) "RuleLists$Rule" "tested" "[Z") ∈ lw_all := lw_g (lw_at lw_m1 231 rfl) rfl
theorem q289 : (Jvm.Cond.soleField "RuleLists$Rule" "members") ∈ lw_all := lw_g (lw_at lw_m1 237 rfl) rfl
theorem q291 : (Jvm.Cond.soleField "RuleLists$Rule" "many") ∈ lw_all := lw_g (lw_at lw_m1 239 rfl) rfl
theorem q293 : (Jvm.Cond.soleField "RuleLists$Rule" "ended") ∈ lw_all := lw_g (lw_at lw_m2 1 rfl) rfl
theorem q295 : (Jvm.Cond.soleField "RuleLists$Rule" "tested") ∈ lw_all := lw_g (lw_at lw_m2 3 rfl) rfl
theorem q649 : (Jvm.Cond.instanceMethod ({ cls := "RuleLists$Rule", name := "member", desc := "(I)I" } : Jvm.MethodName)) ∈ lw_all := lw_g (lw_at lw_m3 117 rfl) rfl
theorem q650 : (Jvm.Cond.sameMethod "RuleLists$Rule" "RuleLists$Rule" "member" "(I)I") ∈ lw_all := lw_g (lw_at lw_m3 118 rfl) rfl
theorem q659 : (Jvm.Cond.code ({ cls := "RuleLists$Rule", name := "member", desc := "(I)I" } : Jvm.MethodName) prog_8_method_4_code (3 : Nat) (Option.some Jvm.ClassFile.FieldType.int)) ∈ lw_all := lw_g (lw_at lw_m3 127 rfl) rfl
theorem q660 : (Jvm.Cond.methodLink "RuleLists$Rule" (23 : Nat) ({ cls := "RuleLists$Rule", name := "more", desc := "()I" } : Jvm.MethodName)) ∈ lw_all := lw_g (lw_at lw_m3 128 rfl) rfl
theorem q661 : (Jvm.Cond.declares ({ cls := "RuleLists$Rule", name := "more", desc := "()I" } : Jvm.MethodName)) ∈ lw_tbl := lw_at lw_m3 129 rfl
theorem q662 : (Jvm.Cond.sameMethod "RuleLists$Rule" "RuleLists$Rule" "more" "()I") ∈ lw_all := lw_g (lw_at lw_m3 130 rfl) rfl
theorem q722 : (Jvm.Cond.declares ({ cls := "RuleLists$Rule", name := "isDivided", desc := "(I)Z" } : Jvm.MethodName)) ∈ lw_tbl := lw_at lw_m3 190 rfl
theorem q724 : (Jvm.Cond.instanceMethod ({ cls := "RuleLists$Rule", name := "isDivided", desc := "(I)Z" } : Jvm.MethodName)) ∈ lw_all := lw_g (lw_at lw_m3 192 rfl) rfl
theorem q725 : (Jvm.Cond.code ({ cls := "RuleLists$Rule", name := "isDivided", desc := "(I)Z" } : Jvm.MethodName) prog_8_method_7_code (4 : Nat) (Option.some Jvm.ClassFile.FieldType.boolean)) ∈ lw_all := lw_g (lw_at lw_m3 193 rfl) rfl
theorem q731 : (Jvm.Cond.declares ({ cls := "RuleLists$Rule", name := "latest", desc := "()I" } : Jvm.MethodName)) ∈ lw_tbl := lw_at lw_m3 199 rfl
theorem q733 : (Jvm.Cond.instanceMethod ({ cls := "RuleLists$Rule", name := "latest", desc := "()I" } : Jvm.MethodName)) ∈ lw_all := lw_g (lw_at lw_m3 201 rfl) rfl
theorem q734 : (Jvm.Cond.code ({ cls := "RuleLists$Rule", name := "latest", desc := "()I" } : Jvm.MethodName) prog_8_method_6_code (1 : Nat) (Option.some Jvm.ClassFile.FieldType.int)) ∈ lw_all := lw_g (lw_at lw_m3 202 rfl) rfl
theorem q753 : (Jvm.Cond.methodLink "RuleLists$Rule" (27 : Nat) ({ cls := "RuleLists$Rule", name := "keep", desc := "(I)V" } : Jvm.MethodName)) ∈ lw_all := lw_g (lw_at lw_m3 221 rfl) rfl
theorem q754 : (Jvm.Cond.privateMethod ({ cls := "RuleLists$Rule", name := "keep", desc := "(I)V" } : Jvm.MethodName)) ∈ lw_tbl := lw_at lw_m3 222 rfl
theorem q755 : (Jvm.Cond.instanceMethod ({ cls := "RuleLists$Rule", name := "keep", desc := "(I)V" } : Jvm.MethodName)) ∈ lw_all := lw_g (lw_at lw_m3 223 rfl) rfl
theorem q756 : (Jvm.Cond.code ({ cls := "RuleLists$Rule", name := "keep", desc := "(I)V" } : Jvm.MethodName) prog_8_method_5_code (3 : Nat) (Option.none : Option Jvm.ClassFile.FieldType)) ∈ lw_all := lw_g (lw_at lw_m3 224 rfl) rfl
theorem q757 : (Jvm.Cond.methodLink "RuleLists$Rule" (31 : Nat) ({ cls := "java/lang/System", name := "arraycopy", desc := "(Ljava/lang/Object;ILjava/lang/Object;II)V" } : Jvm.MethodName)) ∈ lw_all := lw_g (lw_at lw_m3 225 rfl) rfl
theorem q1228 : (Jvm.Cond.instanceMethod ({ cls := "RuleLists$Rule", name := "has", desc := "(I)Z" } : Jvm.MethodName)) ∈ lw_all := lw_g (lw_at lw_m5 216 rfl) rfl
theorem q1229 : (Jvm.Cond.sameMethod "RuleLists$Rule" "RuleLists$Rule" "has" "(I)Z") ∈ lw_all := lw_g (lw_at lw_m5 217 rfl) rfl
theorem q1238 : (Jvm.Cond.code ({ cls := "RuleLists$Rule", name := "has", desc := "(I)Z" } : Jvm.MethodName) prog_8_method_8_code (4 : Nat) (Option.some Jvm.ClassFile.FieldType.boolean)) ∈ lw_all := lw_g (lw_at lw_m5 226 rfl) rfl
theorem q1239 : (Jvm.Cond.methodLink "RuleLists$Rule" (41 : Nat) ({ cls := "RuleLists$Rule", name := "test", desc := "(I)Z" } : Jvm.MethodName)) ∈ lw_all := lw_g (lw_at lw_m5 227 rfl) rfl
theorem q1240 : (Jvm.Cond.declares ({ cls := "RuleLists$Rule", name := "test", desc := "(I)Z" } : Jvm.MethodName)) ∈ lw_tbl := lw_at lw_m5 228 rfl
theorem q1241 : (Jvm.Cond.sameMethod "RuleLists$Rule" "RuleLists$Rule" "test" "(I)Z") ∈ lw_all := lw_g (lw_at lw_m5 229 rfl) rfl
theorem q1324 : (Jvm.Cond.instanceMethod ({ cls := "RuleLists$Rule", name := "iterator", desc := "()Ljava/util/Iterator;" } : Jvm.MethodName)) ∈ lw_all := lw_g (lw_at lw_m6 72 rfl) rfl
theorem q1325 : (Jvm.Cond.sameMethod "RuleLists$Rule" "RuleLists$Rule" "iterator" "()Ljava/util/Iterator;") ∈ lw_all := lw_g (lw_at lw_m6 73 rfl) rfl
theorem q1334 : (Jvm.Cond.code ({ cls := "RuleLists$Rule", name := "iterator", desc := "()Ljava/util/Iterator;" } : Jvm.MethodName) prog_8_method_9_code (1 : Nat) (Option.some (Jvm.ClassFile.FieldType.object "java/util/Iterator"))) ∈ lw_all := lw_g (lw_at lw_m6 82 rfl) rfl
theorem q1335 : (Jvm.Cond.classLink "RuleLists$Rule" (45 : Nat) "RuleLists$Members") ∈ lw_all := lw_g (lw_at lw_m6 83 rfl) rfl
theorem q1337 : (Jvm.Cond.methodLink "RuleLists$Rule" (47 : Nat) ({ cls := "RuleLists$Members", name := "<init>", desc := "(LRuleLists$Rule;)V" } : Jvm.MethodName)) ∈ lw_all := lw_g (lw_at lw_m6 85 rfl) rfl
theorem q1909 : (Jvm.Cond.sameMethod "RuleLists$Rule" "RuleLists$Rule" "keep" "(I)V") ∈ lw_all := lw_g (lw_at lw_m8 177 rfl) rfl

/-! RuleLists$Steps -/
set_option maxRecDepth 100000
def RX6 : String := "RuleLists$Steps"
def TX6 : u_T := fun k => match k with
  | 0 => ("RuleLists$Rule", "members", "[I", false)
  | 1 => ("RuleLists$Rule", "many", "I", false)
  | 2 => ("RuleLists$Rule", "ended", "Z", false)
  | 3 => ("RuleLists$Rule", "tested", "[Z", false)
  | 4 => ("RuleLists$Steps", "first", "I", true)
  | _ => ("RuleLists$Steps", "step", "I", true)
def tyX6 : Nat → FieldType := fun k => match k with
  | 0 => .array .int
  | 1 => .int
  | 2 => .boolean
  | 3 => .array .boolean
  | 4 => .int
  | _ => .int
abbrev wsX60 : List Cond := u_ws RX6 TX6 6
theorem nmX6 : ∀ a, a < 6 → ∀ b, b < 6 → a ≠ b → (TX6 a).2.1 ≠ (TX6 b).2.1 := by decide +kernel
theorem tyX6_ok : ∀ k, k < 6 → parseFieldDescriptor (TX6 k).2.2.1 = some (tyX6 k) := by decide +kernel
abbrev cX6_init : ByteArray := prog_13_method_1_code
def yX6_init : MethodName := ⟨RX6, "<init>", "(II)V"⟩
def dkwX6_init_0 : List UInt8 := [42, 183, 0, 3, 42, 27, 181, 0, 9, 42, 28, 181, 0, 15, 177]
abbrev dktX6_init_0 : List UInt8 := dkwX6_init_0 ++ []
theorem dksX6_init_0 : cX6_init.data.toList.drop 0 = dktX6_init_0 := by decide +kernel
theorem dX6_init_0 : decode cX6_init 0 = .ok (.aload_n 0, 1) := dk_42 (dk_at dksX6_init_0 0 rfl rfl)
theorem dX6_init_1 : decode cX6_init 1 = .ok (.invokespecial 3, 3) := dk_183 0 3 (dk_at dksX6_init_0 1 rfl rfl)
theorem dX6_init_4 : decode cX6_init 4 = .ok (.aload_n 0, 1) := dk_42 (dk_at dksX6_init_0 4 rfl rfl)
theorem dX6_init_5 : decode cX6_init 5 = .ok (.iload_n 1, 1) := dk_27 (dk_at dksX6_init_0 5 rfl rfl)
theorem dX6_init_6 : decode cX6_init 6 = .ok (.putfield 9, 3) := dk_181 0 9 (dk_at dksX6_init_0 6 rfl rfl)
theorem dX6_init_9 : decode cX6_init 9 = .ok (.aload_n 0, 1) := dk_42 (dk_at dksX6_init_0 9 rfl rfl)
theorem dX6_init_10 : decode cX6_init 10 = .ok (.iload_n 2, 1) := dk_28 (dk_at dksX6_init_0 10 rfl rfl)
theorem dX6_init_11 : decode cX6_init 11 = .ok (.putfield 15, 3) := dk_181 0 15 (dk_at dksX6_init_0 11 rfl rfl)
theorem dX6_init_14 : decode cX6_init 14 = .ok (.return_, 1) := dk_177 (dk_at dksX6_init_0 14 rfl rfl)
abbrev cX6_more : ByteArray := prog_13_method_2_code
def yX6_more : MethodName := ⟨RX6, "more", "()I"⟩
def dkwX6_more_1 : List UInt8 := [172]
abbrev dktX6_more_1 : List UInt8 := dkwX6_more_1 ++ []
def dkwX6_more_0 : List UInt8 := [42, 182, 0, 18, 2, 160, 0, 10, 42, 180, 0, 9, 167, 0, 12, 42, 182, 0, 18, 42, 180, 0, 15, 96]
abbrev dktX6_more_0 : List UInt8 := dkwX6_more_0 ++ dktX6_more_1
theorem dksX6_more_0 : cX6_more.data.toList.drop 0 = dktX6_more_0 := by decide +kernel
theorem dksX6_more_1 : cX6_more.data.toList.drop 24 = dktX6_more_1 := dk_seg dksX6_more_0 24 rfl rfl
theorem dX6_more_0 : decode cX6_more 0 = .ok (.aload_n 0, 1) := dk_42 (dk_at dksX6_more_0 0 rfl rfl)
theorem dX6_more_1 : decode cX6_more 1 = .ok (.invokevirtual 18, 3) := dk_182 0 18 (dk_at dksX6_more_0 1 rfl rfl)
theorem dX6_more_4 : decode cX6_more 4 = .ok (.iconst (-1), 1) := dk_2 (dk_at dksX6_more_0 4 rfl rfl)
theorem dX6_more_5 : decode cX6_more 5 = .ok (.if_icmp .ne 10, 3) := dk_160 0 10 (dk_at dksX6_more_0 5 rfl rfl)
theorem dX6_more_8 : decode cX6_more 8 = .ok (.aload_n 0, 1) := dk_42 (dk_at dksX6_more_0 8 rfl rfl)
theorem dX6_more_9 : decode cX6_more 9 = .ok (.getfield 9, 3) := dk_180 0 9 (dk_at dksX6_more_0 9 rfl rfl)
theorem dX6_more_12 : decode cX6_more 12 = .ok (.goto 12, 3) := dk_167 0 12 (dk_at dksX6_more_0 12 rfl rfl)
theorem dX6_more_15 : decode cX6_more 15 = .ok (.aload_n 0, 1) := dk_42 (dk_at dksX6_more_0 15 rfl rfl)
theorem dX6_more_16 : decode cX6_more 16 = .ok (.invokevirtual 18, 3) := dk_182 0 18 (dk_at dksX6_more_0 16 rfl rfl)
theorem dX6_more_19 : decode cX6_more 19 = .ok (.aload_n 0, 1) := dk_42 (dk_at dksX6_more_0 19 rfl rfl)
theorem dX6_more_20 : decode cX6_more 20 = .ok (.getfield 15, 3) := dk_180 0 15 (dk_at dksX6_more_0 20 rfl rfl)
theorem dX6_more_23 : decode cX6_more 23 = .ok (.iadd, 1) := dk_96 (dk_at dksX6_more_0 23 rfl rfl)
theorem dX6_more_24 : decode cX6_more 24 = .ok (.ireturn, 1) := dk_172 (dk_at dksX6_more_1 0 rfl rfl)
abbrev cX6_test : ByteArray := prog_13_method_3_code
def yX6_test : MethodName := ⟨RX6, "test", "(I)Z"⟩
def dkwX6_test_1 : List UInt8 := [167, 0, 4, 3, 172]
abbrev dktX6_test_1 : List UInt8 := dkwX6_test_1 ++ []
def dkwX6_test_0 : List UInt8 := [27, 42, 180, 0, 9, 161, 0, 21, 27, 42, 180, 0, 9, 100, 42, 180, 0, 15, 112, 154, 0, 7, 4]
abbrev dktX6_test_0 : List UInt8 := dkwX6_test_0 ++ dktX6_test_1
theorem dksX6_test_0 : cX6_test.data.toList.drop 0 = dktX6_test_0 := by decide +kernel
theorem dksX6_test_1 : cX6_test.data.toList.drop 23 = dktX6_test_1 := dk_seg dksX6_test_0 23 rfl rfl
theorem dX6_test_0 : decode cX6_test 0 = .ok (.iload_n 1, 1) := dk_27 (dk_at dksX6_test_0 0 rfl rfl)
theorem dX6_test_1 : decode cX6_test 1 = .ok (.aload_n 0, 1) := dk_42 (dk_at dksX6_test_0 1 rfl rfl)
theorem dX6_test_2 : decode cX6_test 2 = .ok (.getfield 9, 3) := dk_180 0 9 (dk_at dksX6_test_0 2 rfl rfl)
theorem dX6_test_5 : decode cX6_test 5 = .ok (.if_icmp .lt 21, 3) := dk_161 0 21 (dk_at dksX6_test_0 5 rfl rfl)
theorem dX6_test_8 : decode cX6_test 8 = .ok (.iload_n 1, 1) := dk_27 (dk_at dksX6_test_0 8 rfl rfl)
theorem dX6_test_9 : decode cX6_test 9 = .ok (.aload_n 0, 1) := dk_42 (dk_at dksX6_test_0 9 rfl rfl)
theorem dX6_test_10 : decode cX6_test 10 = .ok (.getfield 9, 3) := dk_180 0 9 (dk_at dksX6_test_0 10 rfl rfl)
theorem dX6_test_13 : decode cX6_test 13 = .ok (.isub, 1) := dk_100 (dk_at dksX6_test_0 13 rfl rfl)
theorem dX6_test_14 : decode cX6_test 14 = .ok (.aload_n 0, 1) := dk_42 (dk_at dksX6_test_0 14 rfl rfl)
theorem dX6_test_15 : decode cX6_test 15 = .ok (.getfield 15, 3) := dk_180 0 15 (dk_at dksX6_test_0 15 rfl rfl)
theorem dX6_test_18 : decode cX6_test 18 = .ok (.irem, 1) := dk_112 (dk_at dksX6_test_0 18 rfl rfl)
theorem dX6_test_19 : decode cX6_test 19 = .ok (.ifCond .ne 7, 3) := dk_154 0 7 (dk_at dksX6_test_0 19 rfl rfl)
theorem dX6_test_22 : decode cX6_test 22 = .ok (.iconst 1, 1) := dk_4 (dk_at dksX6_test_0 22 rfl rfl)
theorem dX6_test_23 : decode cX6_test 23 = .ok (.goto 4, 3) := dk_167 0 4 (dk_at dksX6_test_1 0 rfl rfl)
theorem dX6_test_26 : decode cX6_test 26 = .ok (.iconst 0, 1) := dk_3 (dk_at dksX6_test_1 3 rfl rfl)
theorem dX6_test_27 : decode cX6_test 27 = .ok (.ireturn, 1) := dk_172 (dk_at dksX6_test_1 4 rfl rfl)
theorem q67 : (Jvm.Cond.initialized "RuleLists$Steps") ∈ lw_all := lw_g (lw_at lw_m1 15 rfl) rfl
theorem q270 : (Jvm.Cond.instantiable "RuleLists$Steps" (6 : Nat)) ∈ lw_all := lw_g (lw_at lw_m1 218 rfl) rfl
theorem q272 : (Jvm.Cond.instanceMethod ({ cls := "RuleLists$Steps", name := "<init>", desc := "(II)V" } : Jvm.MethodName)) ∈ lw_all := lw_g (lw_at lw_m1 220 rfl) rfl
theorem q273 : (Jvm.Cond.code ({ cls := "RuleLists$Steps", name := "<init>", desc := "(II)V" } : Jvm.MethodName) prog_13_method_1_code (3 : Nat) (Option.none : Option Jvm.ClassFile.FieldType)) ∈ lw_all := lw_g (lw_at lw_m1 221 rfl) rfl
theorem q274 : (Jvm.Cond.methodLinkNest "RuleLists$Steps" (3 : Nat) ({ cls := "RuleLists$Rule", name := "<init>", desc := "()V" } : Jvm.MethodName) "RuleLists") ∈ lw_tbl := lw_at lw_m1 222 rfl
theorem q278 : (Jvm.Cond.fieldLink "RuleLists$Steps" (9 : Nat) "RuleLists$Steps" "first" "I") ∈ lw_all := lw_g (lw_at lw_m1 226 rfl) rfl
theorem q279 : (Jvm.Cond.fieldLink "RuleLists$Steps" (15 : Nat) "RuleLists$Steps" "step" "I") ∈ lw_all := lw_g (lw_at lw_m1 227 rfl) rfl
theorem q284 : (Jvm.Cond.laysFinal "RuleLists$Steps" "RuleLists$Steps" "first" "I") ∈ lw_all := lw_g (lw_at lw_m1 232 rfl) rfl
theorem q285 : (Jvm.Cond.soleField "RuleLists$Steps" "first") ∈ lw_all := lw_g (lw_at lw_m1 233 rfl) rfl
theorem q286 : (Jvm.Cond.laysFinal "RuleLists$Steps" "RuleLists$Steps" "step" "I") ∈ lw_all := lw_g (lw_at lw_m1 234 rfl) rfl
theorem q287 : (Jvm.Cond.soleField "RuleLists$Steps" "step") ∈ lw_all := lw_g (lw_at lw_m1 235 rfl) rfl
theorem q288 : (Jvm.Cond.lays "RuleLists$Steps" "RuleLists$Rule" "members" "[I") ∈ lw_all := lw_g (lw_at lw_m1 236 rfl) rfl
theorem q290 : (Jvm.Cond.lays "RuleLists$Steps" "RuleLists$Rule" "many" "I") ∈ lw_all := lw_g (lw_at lw_m1 238 rfl) rfl
theorem q292 : (Jvm.Cond.lays "RuleLists$Steps" "RuleLists$Rule" "ended" "Z") ∈ lw_all := lw_g (lw_at lw_m2 0 rfl) rfl
theorem q294 : (Jvm.Cond.lays "RuleLists$Steps" "RuleLists$Rule" "tested" "[Z") ∈ lw_all := lw_g (lw_at lw_m2 2 rfl) rfl
theorem q296 : (Jvm.Cond.superclass "RuleLists$Steps" "RuleLists$Rule") ∈ lw_all := lw_g (lw_at lw_m2 4 rfl) rfl
theorem q349 : (Jvm.Cond.selects "RuleLists$Steps" ({ cls := "java/lang/Object", name := "getClass", desc := "()Ljava/lang/Class;" } : Jvm.MethodName) ({ cls := "java/lang/Object", name := "getClass", desc := "()Ljava/lang/Class;" } : Jvm.MethodName)) ∈ lw_all := lw_g (lw_at lw_m2 57 rfl) rfl
theorem q656 : (Jvm.Cond.selects "RuleLists$Steps" ({ cls := "RuleLists$Rule", name := "member", desc := "(I)I" } : Jvm.MethodName) ({ cls := "RuleLists$Rule", name := "member", desc := "(I)I" } : Jvm.MethodName)) ∈ lw_all := lw_g (lw_at lw_m3 124 rfl) rfl
theorem q726 : (Jvm.Cond.selects "RuleLists$Steps" ({ cls := "RuleLists$Rule", name := "more", desc := "()I" } : Jvm.MethodName) ({ cls := "RuleLists$Steps", name := "more", desc := "()I" } : Jvm.MethodName)) ∈ lw_all := lw_g (lw_at lw_m3 194 rfl) rfl
theorem q727 : (Jvm.Cond.instanceMethod ({ cls := "RuleLists$Steps", name := "more", desc := "()I" } : Jvm.MethodName)) ∈ lw_all := lw_g (lw_at lw_m3 195 rfl) rfl
theorem q728 : (Jvm.Cond.code ({ cls := "RuleLists$Steps", name := "more", desc := "()I" } : Jvm.MethodName) prog_13_method_2_code (1 : Nat) (Option.some Jvm.ClassFile.FieldType.int)) ∈ lw_all := lw_g (lw_at lw_m3 196 rfl) rfl
theorem q729 : (Jvm.Cond.methodLink "RuleLists$Steps" (18 : Nat) ({ cls := "RuleLists$Steps", name := "latest", desc := "()I" } : Jvm.MethodName)) ∈ lw_all := lw_g (lw_at lw_m3 197 rfl) rfl
theorem q730 : (Jvm.Cond.sameMethod "RuleLists$Steps" "RuleLists$Rule" "latest" "()I") ∈ lw_all := lw_g (lw_at lw_m3 198 rfl) rfl
theorem q732 : (Jvm.Cond.selects "RuleLists$Steps" ({ cls := "RuleLists$Steps", name := "latest", desc := "()I" } : Jvm.MethodName) ({ cls := "RuleLists$Rule", name := "latest", desc := "()I" } : Jvm.MethodName)) ∈ lw_all := lw_g (lw_at lw_m3 200 rfl) rfl
theorem q1235 : (Jvm.Cond.selects "RuleLists$Steps" ({ cls := "RuleLists$Rule", name := "has", desc := "(I)Z" } : Jvm.MethodName) ({ cls := "RuleLists$Rule", name := "has", desc := "(I)Z" } : Jvm.MethodName)) ∈ lw_all := lw_g (lw_at lw_m5 223 rfl) rfl
theorem q1262 : (Jvm.Cond.selects "RuleLists$Steps" ({ cls := "RuleLists$Rule", name := "test", desc := "(I)Z" } : Jvm.MethodName) ({ cls := "RuleLists$Steps", name := "test", desc := "(I)Z" } : Jvm.MethodName)) ∈ lw_all := lw_g (lw_at lw_m6 10 rfl) rfl
theorem q1263 : (Jvm.Cond.instanceMethod ({ cls := "RuleLists$Steps", name := "test", desc := "(I)Z" } : Jvm.MethodName)) ∈ lw_all := lw_g (lw_at lw_m6 11 rfl) rfl
theorem q1264 : (Jvm.Cond.code ({ cls := "RuleLists$Steps", name := "test", desc := "(I)Z" } : Jvm.MethodName) prog_13_method_3_code (2 : Nat) (Option.some Jvm.ClassFile.FieldType.boolean)) ∈ lw_all := lw_g (lw_at lw_m6 12 rfl) rfl
theorem q1331 : (Jvm.Cond.selects "RuleLists$Steps" ({ cls := "RuleLists$Rule", name := "iterator", desc := "()Ljava/util/Iterator;" } : Jvm.MethodName) ({ cls := "RuleLists$Rule", name := "iterator", desc := "()Ljava/util/Iterator;" } : Jvm.MethodName)) ∈ lw_all := lw_g (lw_at lw_m6 79 rfl) rfl
theorem q1918 : (Jvm.Cond.castable "RuleLists$Steps" "RuleLists$Rule") ∈ lw_tbl := lw_at lw_m8 186 rfl
theorem q1929 : (Jvm.Cond.castable "RuleLists$Steps" "java/lang/Object") ∈ lw_tbl := lw_at lw_m8 197 rfl
theorem in_X6 : ∀ w ∈ wsX60, w ∈ lw_all := lw_in wsX60 [288, 290, 292, 294, 284, 286] (by decide +kernel) (by decide +kernel)

/-! RuleLists$One -/
set_option maxRecDepth 100000
def RX7 : String := "RuleLists$One"
abbrev cX7_init : ByteArray := prog_5_method_1_code
def yX7_init : MethodName := ⟨RX7, "<init>", "(LRuleLists$Rule;)V"⟩
def dkwX7_init_0 : List UInt8 := [42, 183, 0, 1, 42, 43, 181, 0, 7, 177]
abbrev dktX7_init_0 : List UInt8 := dkwX7_init_0 ++ []
theorem dksX7_init_0 : cX7_init.data.toList.drop 0 = dktX7_init_0 := by decide +kernel
theorem dX7_init_0 : decode cX7_init 0 = .ok (.aload_n 0, 1) := dk_42 (dk_at dksX7_init_0 0 rfl rfl)
theorem dX7_init_1 : decode cX7_init 1 = .ok (.invokespecial 1, 3) := dk_183 0 1 (dk_at dksX7_init_0 1 rfl rfl)
theorem dX7_init_4 : decode cX7_init 4 = .ok (.aload_n 0, 1) := dk_42 (dk_at dksX7_init_0 4 rfl rfl)
theorem dX7_init_5 : decode cX7_init 5 = .ok (.aload_n 1, 1) := dk_43 (dk_at dksX7_init_0 5 rfl rfl)
theorem dX7_init_6 : decode cX7_init 6 = .ok (.putfield 7, 3) := dk_181 0 7 (dk_at dksX7_init_0 6 rfl rfl)
theorem dX7_init_9 : decode cX7_init 9 = .ok (.return_, 1) := dk_177 (dk_at dksX7_init_0 9 rfl rfl)
abbrev cX7_use : ByteArray := prog_5_method_2_code
def yX7_use : MethodName := ⟨RX7, "use", "()I"⟩
def dkwX7_use_0 : List UInt8 := [42, 89, 180, 0, 13, 4, 96, 181, 0, 13, 42, 180, 0, 7, 42, 180, 0, 13, 4, 100, 182, 0, 17, 172]
abbrev dktX7_use_0 : List UInt8 := dkwX7_use_0 ++ []
theorem dksX7_use_0 : cX7_use.data.toList.drop 0 = dktX7_use_0 := by decide +kernel
theorem dX7_use_0 : decode cX7_use 0 = .ok (.aload_n 0, 1) := dk_42 (dk_at dksX7_use_0 0 rfl rfl)
theorem dX7_use_1 : decode cX7_use 1 = .ok (.dup, 1) := dk_89 (dk_at dksX7_use_0 1 rfl rfl)
theorem dX7_use_2 : decode cX7_use 2 = .ok (.getfield 13, 3) := dk_180 0 13 (dk_at dksX7_use_0 2 rfl rfl)
theorem dX7_use_5 : decode cX7_use 5 = .ok (.iconst 1, 1) := dk_4 (dk_at dksX7_use_0 5 rfl rfl)
theorem dX7_use_6 : decode cX7_use 6 = .ok (.iadd, 1) := dk_96 (dk_at dksX7_use_0 6 rfl rfl)
theorem dX7_use_7 : decode cX7_use 7 = .ok (.putfield 13, 3) := dk_181 0 13 (dk_at dksX7_use_0 7 rfl rfl)
theorem dX7_use_10 : decode cX7_use 10 = .ok (.aload_n 0, 1) := dk_42 (dk_at dksX7_use_0 10 rfl rfl)
theorem dX7_use_11 : decode cX7_use 11 = .ok (.getfield 7, 3) := dk_180 0 7 (dk_at dksX7_use_0 11 rfl rfl)
theorem dX7_use_14 : decode cX7_use 14 = .ok (.aload_n 0, 1) := dk_42 (dk_at dksX7_use_0 14 rfl rfl)
theorem dX7_use_15 : decode cX7_use 15 = .ok (.getfield 13, 3) := dk_180 0 13 (dk_at dksX7_use_0 15 rfl rfl)
theorem dX7_use_18 : decode cX7_use 18 = .ok (.iconst 1, 1) := dk_4 (dk_at dksX7_use_0 18 rfl rfl)
theorem dX7_use_19 : decode cX7_use 19 = .ok (.isub, 1) := dk_100 (dk_at dksX7_use_0 19 rfl rfl)
theorem dX7_use_20 : decode cX7_use 20 = .ok (.invokevirtual 17, 3) := dk_182 0 17 (dk_at dksX7_use_0 20 rfl rfl)
theorem dX7_use_23 : decode cX7_use 23 = .ok (.ireturn, 1) := dk_172 (dk_at dksX7_use_0 23 rfl rfl)
theorem q72 : (Jvm.Cond.initialized "RuleLists$One") ∈ lw_all := lw_g (lw_at lw_m1 20 rfl) rfl
theorem q417 : (Jvm.Cond.instanceMethod ({ cls := "RuleLists$One", name := "<init>", desc := "(LRuleLists$Rule;)V" } : Jvm.MethodName)) ∈ lw_all := lw_g (lw_at lw_m2 125 rfl) rfl
theorem q418 : (Jvm.Cond.code ({ cls := "RuleLists$One", name := "<init>", desc := "(LRuleLists$Rule;)V" } : Jvm.MethodName) prog_5_method_1_code (2 : Nat) (Option.none : Option Jvm.ClassFile.FieldType)) ∈ lw_all := lw_g (lw_at lw_m2 126 rfl) rfl
theorem q419 : (Jvm.Cond.methodLinkNest "RuleLists$One" (1 : Nat) ({ cls := "RuleLists$Rule", name := "<init>", desc := "()V" } : Jvm.MethodName) "RuleLists") ∈ lw_tbl := lw_at lw_m2 127 rfl
theorem q422 : (Jvm.Cond.fieldLink "RuleLists$One" (7 : Nat) "RuleLists$One" "of" "LRuleLists$Rule;") ∈ lw_all := lw_g (lw_at lw_m2 130 rfl) rfl
theorem q431 : (Jvm.Cond.fieldLink "RuleLists$One" (13 : Nat) "RuleLists$One" "used" "I") ∈ lw_all := lw_g (lw_at lw_m2 139 rfl) rfl
theorem q437 : (Jvm.Cond.soleField "RuleLists$One" "of") ∈ lw_all := lw_g (lw_at lw_m2 145 rfl) rfl
theorem q439 : (Jvm.Cond.soleField "RuleLists$One" "used") ∈ lw_all := lw_g (lw_at lw_m2 147 rfl) rfl
theorem q668 : (Jvm.Cond.declares ({ cls := "RuleLists$One", name := "use", desc := "()I" } : Jvm.MethodName)) ∈ lw_tbl := lw_at lw_m3 136 rfl
theorem q670 : (Jvm.Cond.instanceMethod ({ cls := "RuleLists$One", name := "use", desc := "()I" } : Jvm.MethodName)) ∈ lw_all := lw_g (lw_at lw_m3 138 rfl) rfl
theorem q671 : (Jvm.Cond.code ({ cls := "RuleLists$One", name := "use", desc := "()I" } : Jvm.MethodName) prog_5_method_2_code (1 : Nat) (Option.some Jvm.ClassFile.FieldType.int)) ∈ lw_all := lw_g (lw_at lw_m3 139 rfl) rfl
theorem q672 : (Jvm.Cond.methodLink "RuleLists$One" (17 : Nat) ({ cls := "RuleLists$Rule", name := "member", desc := "(I)I" } : Jvm.MethodName)) ∈ lw_all := lw_g (lw_at lw_m3 140 rfl) rfl

/-! RuleLists$Scaled -/
set_option maxRecDepth 100000
def RX8 : String := "RuleLists$Scaled"
def TX8 : u_T := fun k => match k with
  | 0 => ("RuleLists$One", "of", "LRuleLists$Rule;", true)
  | 1 => ("RuleLists$One", "used", "I", false)
  | 2 => ("RuleLists$Rule", "members", "[I", false)
  | 3 => ("RuleLists$Rule", "many", "I", false)
  | 4 => ("RuleLists$Rule", "ended", "Z", false)
  | 5 => ("RuleLists$Rule", "tested", "[Z", false)
  | 6 => ("RuleLists$Scaled", "factor", "I", true)
  | _ => ("RuleLists$Scaled", "plus", "I", true)
def tyX8 : Nat → FieldType := fun k => match k with
  | 0 => .object "RuleLists$Rule"
  | 1 => .int
  | 2 => .array .int
  | 3 => .int
  | 4 => .boolean
  | 5 => .array .boolean
  | 6 => .int
  | _ => .int
abbrev wsX80 : List Cond := u_ws RX8 TX8 8
theorem nmX8 : ∀ a, a < 8 → ∀ b, b < 8 → a ≠ b → (TX8 a).2.1 ≠ (TX8 b).2.1 := by decide +kernel
theorem tyX8_ok : ∀ k, k < 8 → parseFieldDescriptor (TX8 k).2.2.1 = some (tyX8 k) := by decide +kernel
abbrev cX8_init : ByteArray := prog_9_method_1_code
def yX8_init : MethodName := ⟨RX8, "<init>", "(LRuleLists$Rule;II)V"⟩
def dkwX8_init_0 : List UInt8 := [42, 43, 183, 0, 3, 42, 28, 181, 0, 9, 42, 29, 181, 0, 15, 177]
abbrev dktX8_init_0 : List UInt8 := dkwX8_init_0 ++ []
theorem dksX8_init_0 : cX8_init.data.toList.drop 0 = dktX8_init_0 := by decide +kernel
theorem dX8_init_0 : decode cX8_init 0 = .ok (.aload_n 0, 1) := dk_42 (dk_at dksX8_init_0 0 rfl rfl)
theorem dX8_init_1 : decode cX8_init 1 = .ok (.aload_n 1, 1) := dk_43 (dk_at dksX8_init_0 1 rfl rfl)
theorem dX8_init_2 : decode cX8_init 2 = .ok (.invokespecial 3, 3) := dk_183 0 3 (dk_at dksX8_init_0 2 rfl rfl)
theorem dX8_init_5 : decode cX8_init 5 = .ok (.aload_n 0, 1) := dk_42 (dk_at dksX8_init_0 5 rfl rfl)
theorem dX8_init_6 : decode cX8_init 6 = .ok (.iload_n 2, 1) := dk_28 (dk_at dksX8_init_0 6 rfl rfl)
theorem dX8_init_7 : decode cX8_init 7 = .ok (.putfield 9, 3) := dk_181 0 9 (dk_at dksX8_init_0 7 rfl rfl)
theorem dX8_init_10 : decode cX8_init 10 = .ok (.aload_n 0, 1) := dk_42 (dk_at dksX8_init_0 10 rfl rfl)
theorem dX8_init_11 : decode cX8_init 11 = .ok (.iload_n 3, 1) := dk_29 (dk_at dksX8_init_0 11 rfl rfl)
theorem dX8_init_12 : decode cX8_init 12 = .ok (.putfield 15, 3) := dk_181 0 15 (dk_at dksX8_init_0 12 rfl rfl)
theorem dX8_init_15 : decode cX8_init 15 = .ok (.return_, 1) := dk_177 (dk_at dksX8_init_0 15 rfl rfl)
abbrev cX8_more : ByteArray := prog_9_method_2_code
def yX8_more : MethodName := ⟨RX8, "more", "()I"⟩
def dkwX8_more_1 : List UInt8 := [180, 0, 15, 96, 172]
abbrev dktX8_more_1 : List UInt8 := dkwX8_more_1 ++ []
def dkwX8_more_0 : List UInt8 := [42, 182, 0, 18, 60, 27, 17, 3, 231, 164, 0, 7, 27, 167, 0, 14, 27, 42, 180, 0, 9, 104, 42]
abbrev dktX8_more_0 : List UInt8 := dkwX8_more_0 ++ dktX8_more_1
theorem dksX8_more_0 : cX8_more.data.toList.drop 0 = dktX8_more_0 := by decide +kernel
theorem dksX8_more_1 : cX8_more.data.toList.drop 23 = dktX8_more_1 := dk_seg dksX8_more_0 23 rfl rfl
theorem dX8_more_0 : decode cX8_more 0 = .ok (.aload_n 0, 1) := dk_42 (dk_at dksX8_more_0 0 rfl rfl)
theorem dX8_more_1 : decode cX8_more 1 = .ok (.invokevirtual 18, 3) := dk_182 0 18 (dk_at dksX8_more_0 1 rfl rfl)
theorem dX8_more_4 : decode cX8_more 4 = .ok (.istore_n 1, 1) := dk_60 (dk_at dksX8_more_0 4 rfl rfl)
theorem dX8_more_5 : decode cX8_more 5 = .ok (.iload_n 1, 1) := dk_27 (dk_at dksX8_more_0 5 rfl rfl)
theorem dX8_more_6 : decode cX8_more 6 = .ok (.sipush 999, 3) := dk_17 3 231 (dk_at dksX8_more_0 6 rfl rfl)
theorem dX8_more_9 : decode cX8_more 9 = .ok (.if_icmp .le 7, 3) := dk_164 0 7 (dk_at dksX8_more_0 9 rfl rfl)
theorem dX8_more_12 : decode cX8_more 12 = .ok (.iload_n 1, 1) := dk_27 (dk_at dksX8_more_0 12 rfl rfl)
theorem dX8_more_13 : decode cX8_more 13 = .ok (.goto 14, 3) := dk_167 0 14 (dk_at dksX8_more_0 13 rfl rfl)
theorem dX8_more_16 : decode cX8_more 16 = .ok (.iload_n 1, 1) := dk_27 (dk_at dksX8_more_0 16 rfl rfl)
theorem dX8_more_17 : decode cX8_more 17 = .ok (.aload_n 0, 1) := dk_42 (dk_at dksX8_more_0 17 rfl rfl)
theorem dX8_more_18 : decode cX8_more 18 = .ok (.getfield 9, 3) := dk_180 0 9 (dk_at dksX8_more_0 18 rfl rfl)
theorem dX8_more_21 : decode cX8_more 21 = .ok (.imul, 1) := dk_104 (dk_at dksX8_more_0 21 rfl rfl)
theorem dX8_more_22 : decode cX8_more 22 = .ok (.aload_n 0, 1) := dk_42 (dk_at dksX8_more_0 22 rfl rfl)
theorem dX8_more_23 : decode cX8_more 23 = .ok (.getfield 15, 3) := dk_180 0 15 (dk_at dksX8_more_1 0 rfl rfl)
theorem dX8_more_26 : decode cX8_more 26 = .ok (.iadd, 1) := dk_96 (dk_at dksX8_more_1 3 rfl rfl)
theorem dX8_more_27 : decode cX8_more 27 = .ok (.ireturn, 1) := dk_172 (dk_at dksX8_more_1 4 rfl rfl)
abbrev cX8_test : ByteArray := prog_9_method_3_code
def yX8_test : MethodName := ⟨RX8, "test", "(I)Z"⟩
def dkwX8_test_2 : List UInt8 := [3, 172]
abbrev dktX8_test_2 : List UInt8 := dkwX8_test_2 ++ []
def dkwX8_test_1 : List UInt8 := [180, 0, 22, 27, 42, 180, 0, 15, 100, 42, 180, 0, 9, 108, 182, 0, 26, 153, 0, 7, 4, 167, 0, 4]
abbrev dktX8_test_1 : List UInt8 := dkwX8_test_1 ++ dktX8_test_2
def dkwX8_test_0 : List UInt8 := [27, 42, 180, 0, 15, 161, 0, 42, 27, 42, 180, 0, 15, 100, 42, 180, 0, 9, 112, 154, 0, 28, 42]
abbrev dktX8_test_0 : List UInt8 := dkwX8_test_0 ++ dktX8_test_1
theorem dksX8_test_0 : cX8_test.data.toList.drop 0 = dktX8_test_0 := by decide +kernel
theorem dksX8_test_1 : cX8_test.data.toList.drop 23 = dktX8_test_1 := dk_seg dksX8_test_0 23 rfl rfl
theorem dksX8_test_2 : cX8_test.data.toList.drop 47 = dktX8_test_2 := dk_seg dksX8_test_1 24 rfl rfl
theorem dX8_test_0 : decode cX8_test 0 = .ok (.iload_n 1, 1) := dk_27 (dk_at dksX8_test_0 0 rfl rfl)
theorem dX8_test_1 : decode cX8_test 1 = .ok (.aload_n 0, 1) := dk_42 (dk_at dksX8_test_0 1 rfl rfl)
theorem dX8_test_2 : decode cX8_test 2 = .ok (.getfield 15, 3) := dk_180 0 15 (dk_at dksX8_test_0 2 rfl rfl)
theorem dX8_test_5 : decode cX8_test 5 = .ok (.if_icmp .lt 42, 3) := dk_161 0 42 (dk_at dksX8_test_0 5 rfl rfl)
theorem dX8_test_8 : decode cX8_test 8 = .ok (.iload_n 1, 1) := dk_27 (dk_at dksX8_test_0 8 rfl rfl)
theorem dX8_test_9 : decode cX8_test 9 = .ok (.aload_n 0, 1) := dk_42 (dk_at dksX8_test_0 9 rfl rfl)
theorem dX8_test_10 : decode cX8_test 10 = .ok (.getfield 15, 3) := dk_180 0 15 (dk_at dksX8_test_0 10 rfl rfl)
theorem dX8_test_13 : decode cX8_test 13 = .ok (.isub, 1) := dk_100 (dk_at dksX8_test_0 13 rfl rfl)
theorem dX8_test_14 : decode cX8_test 14 = .ok (.aload_n 0, 1) := dk_42 (dk_at dksX8_test_0 14 rfl rfl)
theorem dX8_test_15 : decode cX8_test 15 = .ok (.getfield 9, 3) := dk_180 0 9 (dk_at dksX8_test_0 15 rfl rfl)
theorem dX8_test_18 : decode cX8_test 18 = .ok (.irem, 1) := dk_112 (dk_at dksX8_test_0 18 rfl rfl)
theorem dX8_test_19 : decode cX8_test 19 = .ok (.ifCond .ne 28, 3) := dk_154 0 28 (dk_at dksX8_test_0 19 rfl rfl)
theorem dX8_test_22 : decode cX8_test 22 = .ok (.aload_n 0, 1) := dk_42 (dk_at dksX8_test_0 22 rfl rfl)
theorem dX8_test_23 : decode cX8_test 23 = .ok (.getfield 22, 3) := dk_180 0 22 (dk_at dksX8_test_1 0 rfl rfl)
theorem dX8_test_26 : decode cX8_test 26 = .ok (.iload_n 1, 1) := dk_27 (dk_at dksX8_test_1 3 rfl rfl)
theorem dX8_test_27 : decode cX8_test 27 = .ok (.aload_n 0, 1) := dk_42 (dk_at dksX8_test_1 4 rfl rfl)
theorem dX8_test_28 : decode cX8_test 28 = .ok (.getfield 15, 3) := dk_180 0 15 (dk_at dksX8_test_1 5 rfl rfl)
theorem dX8_test_31 : decode cX8_test 31 = .ok (.isub, 1) := dk_100 (dk_at dksX8_test_1 8 rfl rfl)
theorem dX8_test_32 : decode cX8_test 32 = .ok (.aload_n 0, 1) := dk_42 (dk_at dksX8_test_1 9 rfl rfl)
theorem dX8_test_33 : decode cX8_test 33 = .ok (.getfield 9, 3) := dk_180 0 9 (dk_at dksX8_test_1 10 rfl rfl)
theorem dX8_test_36 : decode cX8_test 36 = .ok (.idiv, 1) := dk_108 (dk_at dksX8_test_1 13 rfl rfl)
theorem dX8_test_37 : decode cX8_test 37 = .ok (.invokevirtual 26, 3) := dk_182 0 26 (dk_at dksX8_test_1 14 rfl rfl)
theorem dX8_test_40 : decode cX8_test 40 = .ok (.ifCond .eq 7, 3) := dk_153 0 7 (dk_at dksX8_test_1 17 rfl rfl)
theorem dX8_test_43 : decode cX8_test 43 = .ok (.iconst 1, 1) := dk_4 (dk_at dksX8_test_1 20 rfl rfl)
theorem dX8_test_44 : decode cX8_test 44 = .ok (.goto 4, 3) := dk_167 0 4 (dk_at dksX8_test_1 21 rfl rfl)
theorem dX8_test_47 : decode cX8_test 47 = .ok (.iconst 0, 1) := dk_3 (dk_at dksX8_test_2 0 rfl rfl)
theorem dX8_test_48 : decode cX8_test 48 = .ok (.ireturn, 1) := dk_172 (dk_at dksX8_test_2 1 rfl rfl)
theorem q73 : (Jvm.Cond.initialized "RuleLists$Scaled") ∈ lw_all := lw_g (lw_at lw_m1 21 rfl) rfl
theorem q345 : (Jvm.Cond.selects "RuleLists$Scaled" ({ cls := "java/lang/Object", name := "getClass", desc := "()Ljava/lang/Class;" } : Jvm.MethodName) ({ cls := "java/lang/Object", name := "getClass", desc := "()Ljava/lang/Class;" } : Jvm.MethodName)) ∈ lw_all := lw_g (lw_at lw_m2 53 rfl) rfl
theorem q388 : (Jvm.Cond.instantiable "RuleLists$Scaled" (8 : Nat)) ∈ lw_all := lw_g (lw_at lw_m2 96 rfl) rfl
theorem q414 : (Jvm.Cond.instanceMethod ({ cls := "RuleLists$Scaled", name := "<init>", desc := "(LRuleLists$Rule;II)V" } : Jvm.MethodName)) ∈ lw_all := lw_g (lw_at lw_m2 122 rfl) rfl
theorem q415 : (Jvm.Cond.code ({ cls := "RuleLists$Scaled", name := "<init>", desc := "(LRuleLists$Rule;II)V" } : Jvm.MethodName) prog_9_method_1_code (4 : Nat) (Option.none : Option Jvm.ClassFile.FieldType)) ∈ lw_all := lw_g (lw_at lw_m2 123 rfl) rfl
theorem q416 : (Jvm.Cond.methodLink "RuleLists$Scaled" (3 : Nat) ({ cls := "RuleLists$One", name := "<init>", desc := "(LRuleLists$Rule;)V" } : Jvm.MethodName)) ∈ lw_all := lw_g (lw_at lw_m2 124 rfl) rfl
theorem q420 : (Jvm.Cond.fieldLink "RuleLists$Scaled" (9 : Nat) "RuleLists$Scaled" "factor" "I") ∈ lw_all := lw_g (lw_at lw_m2 128 rfl) rfl
theorem q421 : (Jvm.Cond.fieldLink "RuleLists$Scaled" (15 : Nat) "RuleLists$Scaled" "plus" "I") ∈ lw_all := lw_g (lw_at lw_m2 129 rfl) rfl
theorem q429 : (Jvm.Cond.fieldLink "RuleLists$Scaled" (22 : Nat) "RuleLists$Scaled" "of" "LRuleLists$Rule;") ∈ lw_all := lw_g (lw_at lw_m2 137 rfl) rfl
theorem q430 : (Jvm.Cond.sameField "RuleLists$Scaled" "RuleLists$One" "of" "LRuleLists$Rule;") ∈ lw_all := lw_g (lw_at lw_m2 138 rfl) rfl
theorem q432 : (Jvm.Cond.laysFinal "RuleLists$Scaled" "RuleLists$Scaled" "factor" "I") ∈ lw_all := lw_g (lw_at lw_m2 140 rfl) rfl
theorem q433 : (Jvm.Cond.soleField "RuleLists$Scaled" "factor") ∈ lw_all := lw_g (lw_at lw_m2 141 rfl) rfl
theorem q434 : (Jvm.Cond.laysFinal "RuleLists$Scaled" "RuleLists$Scaled" "plus" "I") ∈ lw_all := lw_g (lw_at lw_m2 142 rfl) rfl
theorem q435 : (Jvm.Cond.soleField "RuleLists$Scaled" "plus") ∈ lw_all := lw_g (lw_at lw_m2 143 rfl) rfl
theorem q436 : (Jvm.Cond.laysFinal "RuleLists$Scaled" "RuleLists$One" "of" "LRuleLists$Rule;") ∈ lw_all := lw_g (lw_at lw_m2 144 rfl) rfl
theorem q438 : (Jvm.Cond.lays "RuleLists$Scaled" "RuleLists$One" "used" "I") ∈ lw_all := lw_g (lw_at lw_m2 146 rfl) rfl
theorem q440 : (Jvm.Cond.lays "RuleLists$Scaled" "RuleLists$Rule" "members" "[I") ∈ lw_all := lw_g (lw_at lw_m2 148 rfl) rfl
theorem q441 : (Jvm.Cond.lays "RuleLists$Scaled" "RuleLists$Rule" "many" "I") ∈ lw_all := lw_g (lw_at lw_m2 149 rfl) rfl
theorem q442 : (Jvm.Cond.lays "RuleLists$Scaled" "RuleLists$Rule" "ended" "Z") ∈ lw_all := lw_g (lw_at lw_m2 150 rfl) rfl
theorem q443 : (Jvm.Cond.lays "RuleLists$Scaled" "RuleLists$Rule" "tested" "[Z") ∈ lw_all := lw_g (lw_at lw_m2 151 rfl) rfl
theorem q444 : (Jvm.Cond.superclass "RuleLists$Scaled" "RuleLists$One") ∈ lw_all := lw_g (lw_at lw_m2 152 rfl) rfl
theorem q653 : (Jvm.Cond.selects "RuleLists$Scaled" ({ cls := "RuleLists$Rule", name := "member", desc := "(I)I" } : Jvm.MethodName) ({ cls := "RuleLists$Rule", name := "member", desc := "(I)I" } : Jvm.MethodName)) ∈ lw_all := lw_g (lw_at lw_m3 121 rfl) rfl
theorem q696 : (Jvm.Cond.selects "RuleLists$Scaled" ({ cls := "RuleLists$Rule", name := "more", desc := "()I" } : Jvm.MethodName) ({ cls := "RuleLists$Scaled", name := "more", desc := "()I" } : Jvm.MethodName)) ∈ lw_all := lw_g (lw_at lw_m3 164 rfl) rfl
theorem q697 : (Jvm.Cond.instanceMethod ({ cls := "RuleLists$Scaled", name := "more", desc := "()I" } : Jvm.MethodName)) ∈ lw_all := lw_g (lw_at lw_m3 165 rfl) rfl
theorem q698 : (Jvm.Cond.code ({ cls := "RuleLists$Scaled", name := "more", desc := "()I" } : Jvm.MethodName) prog_9_method_2_code (2 : Nat) (Option.some Jvm.ClassFile.FieldType.int)) ∈ lw_all := lw_g (lw_at lw_m3 166 rfl) rfl
theorem q699 : (Jvm.Cond.methodLink "RuleLists$Scaled" (18 : Nat) ({ cls := "RuleLists$Scaled", name := "use", desc := "()I" } : Jvm.MethodName)) ∈ lw_all := lw_g (lw_at lw_m3 167 rfl) rfl
theorem q700 : (Jvm.Cond.sameMethod "RuleLists$Scaled" "RuleLists$One" "use" "()I") ∈ lw_all := lw_g (lw_at lw_m3 168 rfl) rfl
theorem q701 : (Jvm.Cond.selects "RuleLists$Scaled" ({ cls := "RuleLists$Scaled", name := "use", desc := "()I" } : Jvm.MethodName) ({ cls := "RuleLists$One", name := "use", desc := "()I" } : Jvm.MethodName)) ∈ lw_all := lw_g (lw_at lw_m3 169 rfl) rfl
theorem q1232 : (Jvm.Cond.selects "RuleLists$Scaled" ({ cls := "RuleLists$Rule", name := "has", desc := "(I)Z" } : Jvm.MethodName) ({ cls := "RuleLists$Rule", name := "has", desc := "(I)Z" } : Jvm.MethodName)) ∈ lw_all := lw_g (lw_at lw_m5 220 rfl) rfl
theorem q1250 : (Jvm.Cond.selects "RuleLists$Scaled" ({ cls := "RuleLists$Rule", name := "test", desc := "(I)Z" } : Jvm.MethodName) ({ cls := "RuleLists$Scaled", name := "test", desc := "(I)Z" } : Jvm.MethodName)) ∈ lw_all := lw_g (lw_at lw_m5 238 rfl) rfl
theorem q1251 : (Jvm.Cond.instanceMethod ({ cls := "RuleLists$Scaled", name := "test", desc := "(I)Z" } : Jvm.MethodName)) ∈ lw_all := lw_g (lw_at lw_m5 239 rfl) rfl
theorem q1252 : (Jvm.Cond.code ({ cls := "RuleLists$Scaled", name := "test", desc := "(I)Z" } : Jvm.MethodName) prog_9_method_3_code (2 : Nat) (Option.some Jvm.ClassFile.FieldType.boolean)) ∈ lw_all := lw_g (lw_at lw_m6 0 rfl) rfl
theorem q1253 : (Jvm.Cond.methodLink "RuleLists$Scaled" (26 : Nat) ({ cls := "RuleLists$Rule", name := "has", desc := "(I)Z" } : Jvm.MethodName)) ∈ lw_all := lw_g (lw_at lw_m6 1 rfl) rfl
theorem q1328 : (Jvm.Cond.selects "RuleLists$Scaled" ({ cls := "RuleLists$Rule", name := "iterator", desc := "()Ljava/util/Iterator;" } : Jvm.MethodName) ({ cls := "RuleLists$Rule", name := "iterator", desc := "()Ljava/util/Iterator;" } : Jvm.MethodName)) ∈ lw_all := lw_g (lw_at lw_m6 76 rfl) rfl
theorem q1915 : (Jvm.Cond.castable "RuleLists$Scaled" "RuleLists$Rule") ∈ lw_tbl := lw_at lw_m8 183 rfl
theorem q1930 : (Jvm.Cond.castable "RuleLists$Scaled" "java/lang/Object") ∈ lw_tbl := lw_at lw_m8 198 rfl
theorem in_X8 : ∀ w ∈ wsX80, w ∈ lw_all := lw_in wsX80 [436, 438, 440, 441, 442, 443, 432, 434] (by decide +kernel) (by decide +kernel)

/-! RuleLists$Two -/
set_option maxRecDepth 100000
def RX9 : String := "RuleLists$Two"
abbrev cX9_init : ByteArray := prog_15_method_1_code
def yX9_init : MethodName := ⟨RX9, "<init>", "(LRuleLists$Rule;LRuleLists$Rule;)V"⟩
def dkwX9_init_0 : List UInt8 := [42, 183, 0, 1, 42, 43, 181, 0, 7, 42, 44, 181, 0, 13, 177]
abbrev dktX9_init_0 : List UInt8 := dkwX9_init_0 ++ []
theorem dksX9_init_0 : cX9_init.data.toList.drop 0 = dktX9_init_0 := by decide +kernel
theorem dX9_init_0 : decode cX9_init 0 = .ok (.aload_n 0, 1) := dk_42 (dk_at dksX9_init_0 0 rfl rfl)
theorem dX9_init_1 : decode cX9_init 1 = .ok (.invokespecial 1, 3) := dk_183 0 1 (dk_at dksX9_init_0 1 rfl rfl)
theorem dX9_init_4 : decode cX9_init 4 = .ok (.aload_n 0, 1) := dk_42 (dk_at dksX9_init_0 4 rfl rfl)
theorem dX9_init_5 : decode cX9_init 5 = .ok (.aload_n 1, 1) := dk_43 (dk_at dksX9_init_0 5 rfl rfl)
theorem dX9_init_6 : decode cX9_init 6 = .ok (.putfield 7, 3) := dk_181 0 7 (dk_at dksX9_init_0 6 rfl rfl)
theorem dX9_init_9 : decode cX9_init 9 = .ok (.aload_n 0, 1) := dk_42 (dk_at dksX9_init_0 9 rfl rfl)
theorem dX9_init_10 : decode cX9_init 10 = .ok (.aload_n 2, 1) := dk_44 (dk_at dksX9_init_0 10 rfl rfl)
theorem dX9_init_11 : decode cX9_init 11 = .ok (.putfield 13, 3) := dk_181 0 13 (dk_at dksX9_init_0 11 rfl rfl)
theorem dX9_init_14 : decode cX9_init 14 = .ok (.return_, 1) := dk_177 (dk_at dksX9_init_0 14 rfl rfl)
abbrev cX9_nextOne : ByteArray := prog_15_method_2_code
def yX9_nextOne : MethodName := ⟨RX9, "nextOne", "()I"⟩
def dkwX9_nextOne_0 : List UInt8 := [42, 180, 0, 7, 42, 180, 0, 16, 182, 0, 20, 172]
abbrev dktX9_nextOne_0 : List UInt8 := dkwX9_nextOne_0 ++ []
theorem dksX9_nextOne_0 : cX9_nextOne.data.toList.drop 0 = dktX9_nextOne_0 := by decide +kernel
theorem dX9_nextOne_0 : decode cX9_nextOne 0 = .ok (.aload_n 0, 1) := dk_42 (dk_at dksX9_nextOne_0 0 rfl rfl)
theorem dX9_nextOne_1 : decode cX9_nextOne 1 = .ok (.getfield 7, 3) := dk_180 0 7 (dk_at dksX9_nextOne_0 1 rfl rfl)
theorem dX9_nextOne_4 : decode cX9_nextOne 4 = .ok (.aload_n 0, 1) := dk_42 (dk_at dksX9_nextOne_0 4 rfl rfl)
theorem dX9_nextOne_5 : decode cX9_nextOne 5 = .ok (.getfield 16, 3) := dk_180 0 16 (dk_at dksX9_nextOne_0 5 rfl rfl)
theorem dX9_nextOne_8 : decode cX9_nextOne 8 = .ok (.invokevirtual 20, 3) := dk_182 0 20 (dk_at dksX9_nextOne_0 8 rfl rfl)
theorem dX9_nextOne_11 : decode cX9_nextOne 11 = .ok (.ireturn, 1) := dk_172 (dk_at dksX9_nextOne_0 11 rfl rfl)
abbrev cX9_nextOther : ByteArray := prog_15_method_3_code
def yX9_nextOther : MethodName := ⟨RX9, "nextOther", "()I"⟩
def dkwX9_nextOther_0 : List UInt8 := [42, 180, 0, 13, 42, 180, 0, 24, 182, 0, 20, 172]
abbrev dktX9_nextOther_0 : List UInt8 := dkwX9_nextOther_0 ++ []
theorem dksX9_nextOther_0 : cX9_nextOther.data.toList.drop 0 = dktX9_nextOther_0 := by decide +kernel
theorem dX9_nextOther_0 : decode cX9_nextOther 0 = .ok (.aload_n 0, 1) := dk_42 (dk_at dksX9_nextOther_0 0 rfl rfl)
theorem dX9_nextOther_1 : decode cX9_nextOther 1 = .ok (.getfield 13, 3) := dk_180 0 13 (dk_at dksX9_nextOther_0 1 rfl rfl)
theorem dX9_nextOther_4 : decode cX9_nextOther 4 = .ok (.aload_n 0, 1) := dk_42 (dk_at dksX9_nextOther_0 4 rfl rfl)
theorem dX9_nextOther_5 : decode cX9_nextOther 5 = .ok (.getfield 24, 3) := dk_180 0 24 (dk_at dksX9_nextOther_0 5 rfl rfl)
theorem dX9_nextOther_8 : decode cX9_nextOther 8 = .ok (.invokevirtual 20, 3) := dk_182 0 20 (dk_at dksX9_nextOther_0 8 rfl rfl)
theorem dX9_nextOther_11 : decode cX9_nextOther 11 = .ok (.ireturn, 1) := dk_172 (dk_at dksX9_nextOther_0 11 rfl rfl)
abbrev cX9_pass : ByteArray := prog_15_method_4_code
def yX9_pass : MethodName := ⟨RX9, "pass", "(ZZ)V"⟩
def dkwX9_pass_1 : List UInt8 := [153, 0, 7, 4, 167, 0, 4, 3, 96, 181, 0, 24, 177]
abbrev dktX9_pass_1 : List UInt8 := dkwX9_pass_1 ++ []
def dkwX9_pass_0 : List UInt8 := [42, 89, 180, 0, 16, 27, 153, 0, 7, 4, 167, 0, 4, 3, 96, 181, 0, 16, 42, 89, 180, 0, 24, 28]
abbrev dktX9_pass_0 : List UInt8 := dkwX9_pass_0 ++ dktX9_pass_1
theorem dksX9_pass_0 : cX9_pass.data.toList.drop 0 = dktX9_pass_0 := by decide +kernel
theorem dksX9_pass_1 : cX9_pass.data.toList.drop 24 = dktX9_pass_1 := dk_seg dksX9_pass_0 24 rfl rfl
theorem dX9_pass_0 : decode cX9_pass 0 = .ok (.aload_n 0, 1) := dk_42 (dk_at dksX9_pass_0 0 rfl rfl)
theorem dX9_pass_1 : decode cX9_pass 1 = .ok (.dup, 1) := dk_89 (dk_at dksX9_pass_0 1 rfl rfl)
theorem dX9_pass_2 : decode cX9_pass 2 = .ok (.getfield 16, 3) := dk_180 0 16 (dk_at dksX9_pass_0 2 rfl rfl)
theorem dX9_pass_5 : decode cX9_pass 5 = .ok (.iload_n 1, 1) := dk_27 (dk_at dksX9_pass_0 5 rfl rfl)
theorem dX9_pass_6 : decode cX9_pass 6 = .ok (.ifCond .eq 7, 3) := dk_153 0 7 (dk_at dksX9_pass_0 6 rfl rfl)
theorem dX9_pass_9 : decode cX9_pass 9 = .ok (.iconst 1, 1) := dk_4 (dk_at dksX9_pass_0 9 rfl rfl)
theorem dX9_pass_10 : decode cX9_pass 10 = .ok (.goto 4, 3) := dk_167 0 4 (dk_at dksX9_pass_0 10 rfl rfl)
theorem dX9_pass_13 : decode cX9_pass 13 = .ok (.iconst 0, 1) := dk_3 (dk_at dksX9_pass_0 13 rfl rfl)
theorem dX9_pass_14 : decode cX9_pass 14 = .ok (.iadd, 1) := dk_96 (dk_at dksX9_pass_0 14 rfl rfl)
theorem dX9_pass_15 : decode cX9_pass 15 = .ok (.putfield 16, 3) := dk_181 0 16 (dk_at dksX9_pass_0 15 rfl rfl)
theorem dX9_pass_18 : decode cX9_pass 18 = .ok (.aload_n 0, 1) := dk_42 (dk_at dksX9_pass_0 18 rfl rfl)
theorem dX9_pass_19 : decode cX9_pass 19 = .ok (.dup, 1) := dk_89 (dk_at dksX9_pass_0 19 rfl rfl)
theorem dX9_pass_20 : decode cX9_pass 20 = .ok (.getfield 24, 3) := dk_180 0 24 (dk_at dksX9_pass_0 20 rfl rfl)
theorem dX9_pass_23 : decode cX9_pass 23 = .ok (.iload_n 2, 1) := dk_28 (dk_at dksX9_pass_0 23 rfl rfl)
theorem dX9_pass_24 : decode cX9_pass 24 = .ok (.ifCond .eq 7, 3) := dk_153 0 7 (dk_at dksX9_pass_1 0 rfl rfl)
theorem dX9_pass_27 : decode cX9_pass 27 = .ok (.iconst 1, 1) := dk_4 (dk_at dksX9_pass_1 3 rfl rfl)
theorem dX9_pass_28 : decode cX9_pass 28 = .ok (.goto 4, 3) := dk_167 0 4 (dk_at dksX9_pass_1 4 rfl rfl)
theorem dX9_pass_31 : decode cX9_pass 31 = .ok (.iconst 0, 1) := dk_3 (dk_at dksX9_pass_1 7 rfl rfl)
theorem dX9_pass_32 : decode cX9_pass 32 = .ok (.iadd, 1) := dk_96 (dk_at dksX9_pass_1 8 rfl rfl)
theorem dX9_pass_33 : decode cX9_pass 33 = .ok (.putfield 24, 3) := dk_181 0 24 (dk_at dksX9_pass_1 9 rfl rfl)
theorem dX9_pass_36 : decode cX9_pass 36 = .ok (.return_, 1) := dk_177 (dk_at dksX9_pass_1 12 rfl rfl)
theorem q76 : (Jvm.Cond.initialized "RuleLists$Two") ∈ lw_all := lw_g (lw_at lw_m1 24 rfl) rfl
theorem q455 : (Jvm.Cond.instanceMethod ({ cls := "RuleLists$Two", name := "<init>", desc := "(LRuleLists$Rule;LRuleLists$Rule;)V" } : Jvm.MethodName)) ∈ lw_all := lw_g (lw_at lw_m2 163 rfl) rfl
theorem q456 : (Jvm.Cond.code ({ cls := "RuleLists$Two", name := "<init>", desc := "(LRuleLists$Rule;LRuleLists$Rule;)V" } : Jvm.MethodName) prog_15_method_1_code (3 : Nat) (Option.none : Option Jvm.ClassFile.FieldType)) ∈ lw_all := lw_g (lw_at lw_m2 164 rfl) rfl
theorem q457 : (Jvm.Cond.methodLinkNest "RuleLists$Two" (1 : Nat) ({ cls := "RuleLists$Rule", name := "<init>", desc := "()V" } : Jvm.MethodName) "RuleLists") ∈ lw_tbl := lw_at lw_m2 165 rfl
theorem q458 : (Jvm.Cond.fieldLink "RuleLists$Two" (7 : Nat) "RuleLists$Two" "one" "LRuleLists$Rule;") ∈ lw_all := lw_g (lw_at lw_m2 166 rfl) rfl
theorem q465 : (Jvm.Cond.fieldLink "RuleLists$Two" (13 : Nat) "RuleLists$Two" "other" "LRuleLists$Rule;") ∈ lw_all := lw_g (lw_at lw_m2 173 rfl) rfl
theorem q472 : (Jvm.Cond.fieldLink "RuleLists$Two" (16 : Nat) "RuleLists$Two" "usedOne" "I") ∈ lw_all := lw_g (lw_at lw_m2 180 rfl) rfl
theorem q473 : (Jvm.Cond.fieldLink "RuleLists$Two" (24 : Nat) "RuleLists$Two" "usedOther" "I") ∈ lw_all := lw_g (lw_at lw_m2 181 rfl) rfl
theorem q475 : (Jvm.Cond.soleField "RuleLists$Two" "one") ∈ lw_all := lw_g (lw_at lw_m2 183 rfl) rfl
theorem q477 : (Jvm.Cond.soleField "RuleLists$Two" "other") ∈ lw_all := lw_g (lw_at lw_m2 185 rfl) rfl
theorem q479 : (Jvm.Cond.soleField "RuleLists$Two" "usedOne") ∈ lw_all := lw_g (lw_at lw_m2 187 rfl) rfl
theorem q481 : (Jvm.Cond.soleField "RuleLists$Two" "usedOther") ∈ lw_all := lw_g (lw_at lw_m2 189 rfl) rfl
theorem q678 : (Jvm.Cond.declares ({ cls := "RuleLists$Two", name := "nextOne", desc := "()I" } : Jvm.MethodName)) ∈ lw_tbl := lw_at lw_m3 146 rfl
theorem q680 : (Jvm.Cond.instanceMethod ({ cls := "RuleLists$Two", name := "nextOne", desc := "()I" } : Jvm.MethodName)) ∈ lw_all := lw_g (lw_at lw_m3 148 rfl) rfl
theorem q681 : (Jvm.Cond.code ({ cls := "RuleLists$Two", name := "nextOne", desc := "()I" } : Jvm.MethodName) prog_15_method_2_code (1 : Nat) (Option.some Jvm.ClassFile.FieldType.int)) ∈ lw_all := lw_g (lw_at lw_m3 149 rfl) rfl
theorem q682 : (Jvm.Cond.methodLink "RuleLists$Two" (20 : Nat) ({ cls := "RuleLists$Rule", name := "member", desc := "(I)I" } : Jvm.MethodName)) ∈ lw_all := lw_g (lw_at lw_m3 150 rfl) rfl
theorem q685 : (Jvm.Cond.declares ({ cls := "RuleLists$Two", name := "nextOther", desc := "()I" } : Jvm.MethodName)) ∈ lw_tbl := lw_at lw_m3 153 rfl
theorem q687 : (Jvm.Cond.instanceMethod ({ cls := "RuleLists$Two", name := "nextOther", desc := "()I" } : Jvm.MethodName)) ∈ lw_all := lw_g (lw_at lw_m3 155 rfl) rfl
theorem q688 : (Jvm.Cond.code ({ cls := "RuleLists$Two", name := "nextOther", desc := "()I" } : Jvm.MethodName) prog_15_method_3_code (1 : Nat) (Option.some Jvm.ClassFile.FieldType.int)) ∈ lw_all := lw_g (lw_at lw_m3 156 rfl) rfl
theorem q692 : (Jvm.Cond.declares ({ cls := "RuleLists$Two", name := "pass", desc := "(ZZ)V" } : Jvm.MethodName)) ∈ lw_tbl := lw_at lw_m3 160 rfl
theorem q694 : (Jvm.Cond.instanceMethod ({ cls := "RuleLists$Two", name := "pass", desc := "(ZZ)V" } : Jvm.MethodName)) ∈ lw_all := lw_g (lw_at lw_m3 162 rfl) rfl
theorem q695 : (Jvm.Cond.code ({ cls := "RuleLists$Two", name := "pass", desc := "(ZZ)V" } : Jvm.MethodName) prog_15_method_4_code (3 : Nat) (Option.none : Option Jvm.ClassFile.FieldType)) ∈ lw_all := lw_g (lw_at lw_m3 163 rfl) rfl
