/-! the classes of the claim, by number; the rule classes with Rule's own fields first -/
set_option maxRecDepth 100000
def TK0 : u_T := fun k => match k with
  | 0 => ("RuleLists$Rule", "members", "[I", false)
  | 1 => ("RuleLists$Rule", "many", "I", false)
  | 2 => ("RuleLists$Rule", "ended", "Z", false)
  | 3 => ("RuleLists$Rule", "tested", "[Z", false)
  | 4 => ("RuleLists$Steps", "first", "I", true)
  | _ => ("RuleLists$Steps", "step", "I", true)
def tyK0 : Nat → FieldType := fun k => match k with
  | 0 => .array .int
  | 1 => .int
  | 2 => .boolean
  | 3 => .array .boolean
  | 4 => .int
  | _ => .int
theorem nmK0 : ∀ a, a < 6 → ∀ b, b < 6 → a ≠ b → (TK0 a).2.1 ≠ (TK0 b).2.1 := by decide +kernel
theorem tyK0_ok : ∀ k, k < 6 → parseFieldDescriptor (TK0 k).2.2.1 = some (tyK0 k) := by decide +kernel
theorem in_K0 : ∀ w ∈ u_ws RX6 TK0 6, w ∈ lw_all := lw_in (u_ws RX6 TK0 6) [288, 290, 292, 294, 284, 286] (by decide +kernel) (by decide +kernel)
def TK1 : u_T := fun k => match k with
  | 0 => ("RuleLists$Rule", "members", "[I", false)
  | 1 => ("RuleLists$Rule", "many", "I", false)
  | 2 => ("RuleLists$Rule", "ended", "Z", false)
  | 3 => ("RuleLists$Rule", "tested", "[Z", false)
  | 4 => ("RuleLists$One", "of", "LRuleLists$Rule;", true)
  | 5 => ("RuleLists$One", "used", "I", false)
  | 6 => ("RuleLists$Scaled", "factor", "I", true)
  | _ => ("RuleLists$Scaled", "plus", "I", true)
def tyK1 : Nat → FieldType := fun k => match k with
  | 0 => .array .int
  | 1 => .int
  | 2 => .boolean
  | 3 => .array .boolean
  | 4 => .object "RuleLists$Rule"
  | 5 => .int
  | 6 => .int
  | _ => .int
theorem nmK1 : ∀ a, a < 8 → ∀ b, b < 8 → a ≠ b → (TK1 a).2.1 ≠ (TK1 b).2.1 := by decide +kernel
theorem tyK1_ok : ∀ k, k < 8 → parseFieldDescriptor (TK1 k).2.2.1 = some (tyK1 k) := by decide +kernel
theorem in_K1 : ∀ w ∈ u_ws RX8 TK1 8, w ∈ lw_all := lw_in (u_ws RX8 TK1 8) [440, 441, 442, 443, 436, 438, 432, 434] (by decide +kernel) (by decide +kernel)
def TK2 : u_T := fun k => match k with
  | 0 => ("RuleLists$Rule", "members", "[I", false)
  | 1 => ("RuleLists$Rule", "many", "I", false)
  | 2 => ("RuleLists$Rule", "ended", "Z", false)
  | 3 => ("RuleLists$Rule", "tested", "[Z", false)
  | 4 => ("RuleLists$Two", "one", "LRuleLists$Rule;", true)
  | 5 => ("RuleLists$Two", "other", "LRuleLists$Rule;", true)
  | 6 => ("RuleLists$Two", "usedOne", "I", false)
  | _ => ("RuleLists$Two", "usedOther", "I", false)
def tyK2 : Nat → FieldType := fun k => match k with
  | 0 => .array .int
  | 1 => .int
  | 2 => .boolean
  | 3 => .array .boolean
  | 4 => .object "RuleLists$Rule"
  | 5 => .object "RuleLists$Rule"
  | 6 => .int
  | _ => .int
theorem nmK2 : ∀ a, a < 8 → ∀ b, b < 8 → a ≠ b → (TK2 a).2.1 ≠ (TK2 b).2.1 := by decide +kernel
theorem tyK2_ok : ∀ k, k < 8 → parseFieldDescriptor (TK2 k).2.2.1 = some (tyK2 k) := by decide +kernel
theorem in_K2 : ∀ w ∈ u_ws RX10 TK2 8, w ∈ lw_all := lw_in (u_ws RX10 TK2 8) [482, 483, 484, 485, 474, 476, 478, 480] (by decide +kernel) (by decide +kernel)
def TK3 : u_T := fun k => match k with
  | 0 => ("RuleLists$Rule", "members", "[I", false)
  | 1 => ("RuleLists$Rule", "many", "I", false)
  | 2 => ("RuleLists$Rule", "ended", "Z", false)
  | 3 => ("RuleLists$Rule", "tested", "[Z", false)
  | 4 => ("RuleLists$Two", "one", "LRuleLists$Rule;", true)
  | 5 => ("RuleLists$Two", "other", "LRuleLists$Rule;", true)
  | 6 => ("RuleLists$Two", "usedOne", "I", false)
  | _ => ("RuleLists$Two", "usedOther", "I", false)
def tyK3 : Nat → FieldType := fun k => match k with
  | 0 => .array .int
  | 1 => .int
  | 2 => .boolean
  | 3 => .array .boolean
  | 4 => .object "RuleLists$Rule"
  | 5 => .object "RuleLists$Rule"
  | 6 => .int
  | _ => .int
theorem nmK3 : ∀ a, a < 8 → ∀ b, b < 8 → a ≠ b → (TK3 a).2.1 ≠ (TK3 b).2.1 := by decide +kernel
theorem tyK3_ok : ∀ k, k < 8 → parseFieldDescriptor (TK3 k).2.2.1 = some (tyK3 k) := by decide +kernel
theorem in_K3 : ∀ w ∈ u_ws RX11 TK3 8, w ∈ lw_all := lw_in (u_ws RX11 TK3 8) [497, 498, 499, 500, 493, 494, 495, 496] (by decide +kernel) (by decide +kernel)
def TK4 : u_T := fun k => match k with
  | 0 => ("RuleLists$Rule", "members", "[I", false)
  | 1 => ("RuleLists$Rule", "many", "I", false)
  | 2 => ("RuleLists$Rule", "ended", "Z", false)
  | 3 => ("RuleLists$Rule", "tested", "[Z", false)
  | 4 => ("RuleLists$Two", "one", "LRuleLists$Rule;", true)
  | 5 => ("RuleLists$Two", "other", "LRuleLists$Rule;", true)
  | 6 => ("RuleLists$Two", "usedOne", "I", false)
  | _ => ("RuleLists$Two", "usedOther", "I", false)
def tyK4 : Nat → FieldType := fun k => match k with
  | 0 => .array .int
  | 1 => .int
  | 2 => .boolean
  | 3 => .array .boolean
  | 4 => .object "RuleLists$Rule"
  | 5 => .object "RuleLists$Rule"
  | 6 => .int
  | _ => .int
theorem nmK4 : ∀ a, a < 8 → ∀ b, b < 8 → a ≠ b → (TK4 a).2.1 ≠ (TK4 b).2.1 := by decide +kernel
theorem tyK4_ok : ∀ k, k < 8 → parseFieldDescriptor (TK4 k).2.2.1 = some (tyK4 k) := by decide +kernel
theorem in_K4 : ∀ w ∈ u_ws RX12 TK4 8, w ∈ lw_all := lw_in (u_ws RX12 TK4 8) [512, 513, 514, 515, 508, 509, 510, 511] (by decide +kernel) (by decide +kernel)
def TK5 : u_T := fun k => match k with
  | 0 => ("RuleLists$Rule", "members", "[I", false)
  | 1 => ("RuleLists$Rule", "many", "I", false)
  | 2 => ("RuleLists$Rule", "ended", "Z", false)
  | 3 => ("RuleLists$Rule", "tested", "[Z", false)
  | 4 => ("RuleLists$One", "of", "LRuleLists$Rule;", true)
  | _ => ("RuleLists$One", "used", "I", false)
def tyK5 : Nat → FieldType := fun k => match k with
  | 0 => .array .int
  | 1 => .int
  | 2 => .boolean
  | 3 => .array .boolean
  | 4 => .object "RuleLists$Rule"
  | _ => .int
theorem nmK5 : ∀ a, a < 6 → ∀ b, b < 6 → a ≠ b → (TK5 a).2.1 ≠ (TK5 b).2.1 := by decide +kernel
theorem tyK5_ok : ∀ k, k < 6 → parseFieldDescriptor (TK5 k).2.2.1 = some (tyK5 k) := by decide +kernel
theorem in_K5 : ∀ w ∈ u_ws RX13 TK5 6, w ∈ lw_all := lw_in (u_ws RX13 TK5 6) [529, 530, 531, 532, 527, 528] (by decide +kernel) (by decide +kernel)
def TK6 : u_T := fun k => match k with
  | 0 => ("RuleLists$Rule", "members", "[I", false)
  | 1 => ("RuleLists$Rule", "many", "I", false)
  | 2 => ("RuleLists$Rule", "ended", "Z", false)
  | 3 => ("RuleLists$Rule", "tested", "[Z", false)
  | 4 => ("RuleLists$One", "of", "LRuleLists$Rule;", true)
  | 5 => ("RuleLists$One", "used", "I", false)
  | _ => ("RuleLists$Thinned", "every", "I", true)
def tyK6 : Nat → FieldType := fun k => match k with
  | 0 => .array .int
  | 1 => .int
  | 2 => .boolean
  | 3 => .array .boolean
  | 4 => .object "RuleLists$Rule"
  | 5 => .int
  | _ => .int
theorem nmK6 : ∀ a, a < 7 → ∀ b, b < 7 → a ≠ b → (TK6 a).2.1 ≠ (TK6 b).2.1 := by decide +kernel
theorem tyK6_ok : ∀ k, k < 7 → parseFieldDescriptor (TK6 k).2.2.1 = some (tyK6 k) := by decide +kernel
theorem in_K6 : ∀ w ∈ u_ws RX14 TK6 7, w ∈ lw_all := lw_in (u_ws RX14 TK6 7) [545, 546, 547, 548, 543, 544, 541] (by decide +kernel) (by decide +kernel)
def TK7 : u_T := fun k => match k with
  | 0 => ("RuleLists$Rule", "members", "[I", false)
  | 1 => ("RuleLists$Rule", "many", "I", false)
  | 2 => ("RuleLists$Rule", "ended", "Z", false)
  | 3 => ("RuleLists$Rule", "tested", "[Z", false)
  | 4 => ("RuleLists$One", "of", "LRuleLists$Rule;", true)
  | 5 => ("RuleLists$One", "used", "I", false)
  | _ => ("RuleLists$AddedUp", "sum", "I", false)
def tyK7 : Nat → FieldType := fun k => match k with
  | 0 => .array .int
  | 1 => .int
  | 2 => .boolean
  | 3 => .array .boolean
  | 4 => .object "RuleLists$Rule"
  | 5 => .int
  | _ => .int
theorem nmK7 : ∀ a, a < 7 → ∀ b, b < 7 → a ≠ b → (TK7 a).2.1 ≠ (TK7 b).2.1 := by decide +kernel
theorem tyK7_ok : ∀ k, k < 7 → parseFieldDescriptor (TK7 k).2.2.1 = some (tyK7 k) := by decide +kernel
theorem in_K7 : ∀ w ∈ u_ws RX15 TK7 7, w ∈ lw_all := lw_in (u_ws RX15 TK7 7) [561, 562, 563, 564, 559, 560, 557] (by decide +kernel) (by decide +kernel)
def gcl : List vw_C := [(RX1, TX1, 5), (RX2, TX2, 3), (RX3, TX3, 13), (RX4, TX4, 6), (RX6, TK0, 6), (RX8, TK1, 8), (RX10, TK2, 8), (RX11, TK3, 8), (RX12, TK4, 8), (RX13, TK5, 6), (RX14, TK6, 7), (RX15, TK7, 7), (RX16, TX16, 2), (RX17, TX17, 2), (RJ2, TJ2, 3), (RJ3, TJ3, 3), (RJ18, TJ18, 1)]
/-- what the rows ask of a class: its place, its words, its types, its names -/
def ClsOK (ci : Nat) (C : String) (T : u_T) (N : Nat) (ty : Nat → FieldType) : Prop := gcl[ci]? = some (C, T, N) ∧ (∀ w ∈ u_ws C T N, w ∈ lw_all) ∧ (∀ k, k < N → parseFieldDescriptor (T k).2.2.1 = some (ty k)) ∧ (∀ a, a < N → ∀ b, b < N → a ≠ b → (T a).2.1 ≠ (T b).2.1)
theorem gk0 : ClsOK 0 RX1 TX1 5 tyX1 := ⟨rfl, in_X1, tyX1_ok, nmX1⟩
theorem gk1 : ClsOK 1 RX2 TX2 3 tyX2 := ⟨rfl, in_X2, tyX2_ok, nmX2⟩
theorem gk2 : ClsOK 2 RX3 TX3 13 tyX3 := ⟨rfl, in_X3, tyX3_ok, nmX3⟩
theorem gk3 : ClsOK 3 RX4 TX4 6 tyX4 := ⟨rfl, in_X4, tyX4_ok, nmX4⟩
theorem gk4 : ClsOK 4 RX6 TK0 6 tyK0 := ⟨rfl, in_K0, tyK0_ok, nmK0⟩
theorem gk5 : ClsOK 5 RX8 TK1 8 tyK1 := ⟨rfl, in_K1, tyK1_ok, nmK1⟩
theorem gk6 : ClsOK 6 RX10 TK2 8 tyK2 := ⟨rfl, in_K2, tyK2_ok, nmK2⟩
theorem gk7 : ClsOK 7 RX11 TK3 8 tyK3 := ⟨rfl, in_K3, tyK3_ok, nmK3⟩
theorem gk8 : ClsOK 8 RX12 TK4 8 tyK4 := ⟨rfl, in_K4, tyK4_ok, nmK4⟩
theorem gk9 : ClsOK 9 RX13 TK5 6 tyK5 := ⟨rfl, in_K5, tyK5_ok, nmK5⟩
theorem gk10 : ClsOK 10 RX14 TK6 7 tyK6 := ⟨rfl, in_K6, tyK6_ok, nmK6⟩
theorem gk11 : ClsOK 11 RX15 TK7 7 tyK7 := ⟨rfl, in_K7, tyK7_ok, nmK7⟩
theorem gk12 : ClsOK 12 RX16 TX16 2 tyX16 := ⟨rfl, in_X16, tyX16_ok, nmX16⟩
theorem gk13 : ClsOK 13 RX17 TX17 2 tyX17 := ⟨rfl, in_X17, tyX17_ok, nmX17⟩
theorem gk14 : ClsOK 14 RJ2 TJ2 3 tyJ2 := ⟨rfl, in_J2, tyJ2_ok, nmJ2⟩
theorem gk15 : ClsOK 15 RJ3 TJ3 3 tyJ3 := ⟨rfl, in_J3, tyJ3_ok, nmJ3⟩
theorem gk16 : ClsOK 16 RJ18 TJ18 1 tyJ18 := ⟨rfl, in_J18, tyJ18_ok, nmJ18⟩
