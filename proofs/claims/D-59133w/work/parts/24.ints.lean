/-! ## whole numbers: iI z is the int of the whole number z -/
def iI (z : Int) : Int32 := Int32.ofInt z
def lI (z : Int) : Int64 := Int64.ofInt z
def bI (b : Bool) : Int32 := if b = true then 1 else 0
abbrev iR (z : Int) : Prop := -2147483648 ≤ z ∧ z < 2147483648
abbrev lR (z : Int) : Prop := -9223372036854775808 ≤ z ∧ z < 9223372036854775808
theorem iI_toInt {z : Int} (h : iR z) : (iI z).toInt = z := Int32.toInt_ofInt_of_le (by have := h.1; omega) (by have := h.2; omega)
theorem lI_toInt {z : Int} (h : lR z) : (lI z).toInt = z := Int64.toInt_ofInt_of_le (by have := h.1; omega) (by have := h.2; omega)
theorem iI_add (a b : Int) : iI a + iI b = iI (a + b) := (Int32.ofInt_add a b).symm
theorem iI_sub (a b : Int) : iI a - iI b = iI (a - b) := (Int32.ofInt_sub a b).symm
theorem iI_mul (a b : Int) : iI a * iI b = iI (a * b) := (Int32.ofInt_mul a b).symm
theorem iI_lt {a b : Int} (ha : iR a) (hb : iR b) : iI a < iI b ↔ a < b := by rw [Int32.lt_iff_toInt_lt, iI_toInt ha, iI_toInt hb]
theorem iI_le {a b : Int} (ha : iR a) (hb : iR b) : iI a ≤ iI b ↔ a ≤ b := by rw [Int32.le_iff_toInt_le, iI_toInt ha, iI_toInt hb]
theorem iI_eq {a b : Int} (ha : iR a) (hb : iR b) : iI a = iI b ↔ a = b := by rw [← Int32.toInt_inj, iI_toInt ha, iI_toInt hb]
theorem lI_lt {a b : Int} (ha : lR a) (hb : lR b) : lI a < lI b ↔ a < b := by rw [Int64.lt_iff_toInt_lt, lI_toInt ha, lI_toInt hb]
theorem lI_le {a b : Int} (ha : lR a) (hb : lR b) : lI a ≤ lI b ↔ a ≤ b := by rw [Int64.le_iff_toInt_le, lI_toInt ha, lI_toInt hb]
theorem lI_eq {a b : Int} (ha : lR a) (hb : lR b) : lI a = lI b ↔ a = b := by rw [← Int64.toInt_inj, lI_toInt ha, lI_toInt hb]
theorem iI_of (x : Int32) : ∃ z : Int, iR z ∧ x = iI z := ⟨x.toInt, ⟨Int32.le_toInt x, Int32.toInt_lt x⟩, (Int32.ofInt_toInt x).symm⟩
theorem lI_of (x : Int64) : ∃ z : Int, lR z ∧ x = lI z := ⟨x.toInt, ⟨Int64.le_toInt x, Int64.toInt_lt x⟩, (Int64.ofInt_toInt x).symm⟩
theorem iI_l {z : Int} (h : iR z) : (iI z).toInt64 = lI z := by
  rw [← Int64.toInt_inj, Int32.toInt_toInt64, iI_toInt h, lI_toInt ⟨by have := h.1; omega, by have := h.2; omega⟩]
theorem iI_nat (n : Nat) : iI (n : Int) = Int32.ofNat n := Int32.ofInt_eq_ofNat
theorem iI_clamp {z : Int} (h : iR z) : (iI z).toNatClampNeg = z.toNat := by
  show (iI z).toInt.toNat = _
  rw [iI_toInt h]
theorem iI_in {z : Int} {n j : Nat} (hj : z = (j : Int)) (h : j < n) (hn : n < 2147483648) : vp_in (iI z) n := by
  subst hj
  rw [iI_nat]
  exact vp_in_nI h hn
theorem iI_at {z : Int} {j : Nat} (hj : z = (j : Int)) (hr : iR z) : (iI z).toNatClampNeg = j := by rw [iI_clamp hr, hj]; simp
theorem iI_div {a b : Int} (ha : iR a) (hb : iR b) (h0 : 0 ≤ a) (h1 : 0 < b) : iI a / iI b = iI (a / b) := by
  have hq : a / b ≤ a := Int.ediv_le_self _ h0
  have hq0 : 0 ≤ a / b := Int.ediv_nonneg h0 (Int.le_of_lt h1)
  rw [← Int32.toInt_inj, Int32.toInt_div_of_ne_right, iI_toInt ha, iI_toInt hb, iI_toInt ⟨by omega, by omega⟩, Int.tdiv_eq_ediv_of_nonneg h0]
  intro q
  have := congrArg Int32.toInt q
  rw [iI_toInt hb] at this
  have h2 : (-1 : Int32).toInt = -1 := by decide
  omega
theorem iI_rem {a b : Int} (ha : iR a) (hb : iR b) (h0 : 0 ≤ a) (h1 : 0 < b) : iI a - iI a / iI b * iI b = iI (a % b) := by
  rw [iI_div ha hb h0 h1, iI_mul, iI_sub]
  congr 1
  have := Int.emod_add_mul_ediv a b
  rw [Int.mul_comm] at this
  omega
theorem iI_ne0 {b : Int} (hb : iR b) (h1 : b ≠ 0) : ¬ iI b = 0 := fun q => h1 ((iI_eq hb ⟨by omega, by omega⟩).mp (q.trans (by decide : (0 : Int32) = iI 0)))
theorem bI_0 (b : Bool) : bI b = 0 ↔ b = false := by cases b <;> decide
theorem bI_nar (b : Bool) : narrow .boolean (.int (bI b)) = .int (bI b) := by cases b <;> rfl
theorem bI_fit (b : Bool) : fits .boolean (.int (bI b)) = true := by cases b <;> rfl
theorem bI_t : bI true = iI 1 := by decide
theorem bI_f : bI false = iI 0 := by decide
theorem bI_i (b : Bool) : bI b = iI (if b = true then 1 else 0) := by cases b <;> decide
/-- a cell of an array of ints holds the number z -/
abbrev isI (x : Int32) (z : Int) : Prop := x = iI z
section GI
variable {p : Program} {l : Launch} {e : Env} {R : Room} {s : State} {m : MethodId} {args : Array Value} {below : List Frame} {meth : Method} {c : Code} {H : Heap} {locs : List Loc} {cells slots : Nat} {Q : State → Prop}
variable {cc : ByteArray} {pc : Nat} {ls : Array Slot} {rest : List Value} {a b : Int}
/-- the top of the stack under another name -/
theorem g_top {v w : Value} (hv : v = w) (k : W p l e R s m args below meth c H locs cells slots Q (F0 m pc ls (w :: rest))) : W p l e R s m args below meth c H locs cells slots Q (F0 m pc ls (v :: rest)) := hv ▸ k
theorem g_iadd (hx : p.tables.exec = Jvm.exec) (hb : c.code = cc) (hdg : decode cc pc = .ok (.iadd, 1)) {z : Int} (hz : a + b = z) (k : W p l e R s m args below meth c H locs cells slots Q (F0 m (pc + 1) ls (.int (iI z) :: rest))) : W p l e R s m args below meth c H locs cells slots Q (F0 m pc ls (.int (iI b) :: .int (iI a) :: rest)) := by
  subst hz
  refine lv_iadd hx hb hdg ?_
  rw [iI_add]; exact k
theorem g_isub (hx : p.tables.exec = Jvm.exec) (hb : c.code = cc) (hdg : decode cc pc = .ok (.isub, 1)) {z : Int} (hz : a - b = z) (k : W p l e R s m args below meth c H locs cells slots Q (F0 m (pc + 1) ls (.int (iI z) :: rest))) : W p l e R s m args below meth c H locs cells slots Q (F0 m pc ls (.int (iI b) :: .int (iI a) :: rest)) := by
  subst hz
  refine lv_isub hx hb hdg ?_
  rw [iI_sub]; exact k
theorem g_imul (hx : p.tables.exec = Jvm.exec) (hb : c.code = cc) (hdg : decode cc pc = .ok (.imul, 1)) {z : Int} (hz : a * b = z) (k : W p l e R s m args below meth c H locs cells slots Q (F0 m (pc + 1) ls (.int (iI z) :: rest))) : W p l e R s m args below meth c H locs cells slots Q (F0 m pc ls (.int (iI b) :: .int (iI a) :: rest)) := by
  subst hz
  refine lv_imul hx hb hdg ?_
  rw [iI_mul]; exact k
theorem g_idiv (hx : p.tables.exec = Jvm.exec) (hb : c.code = cc) (hdg : decode cc pc = .ok (.idiv, 1)) {z : Int} (hz : a / b = z) (ha : iR a) (hb2 : iR b) (h0 : 0 ≤ a) (h1 : 0 < b) (k : W p l e R s m args below meth c H locs cells slots Q (F0 m (pc + 1) ls (.int (iI z) :: rest))) : W p l e R s m args below meth c H locs cells slots Q (F0 m pc ls (.int (iI b) :: .int (iI a) :: rest)) := by
  subst hz
  refine lv_idiv hx hb hdg (iI_ne0 hb2 (by omega)) ?_
  rw [iI_div ha hb2 h0 h1]; exact k
theorem g_irem (hx : p.tables.exec = Jvm.exec) (hb : c.code = cc) (hdg : decode cc pc = .ok (.irem, 1)) {z : Int} (hz : a % b = z) (ha : iR a) (hb2 : iR b) (h0 : 0 ≤ a) (h1 : 0 < b) (k : W p l e R s m args below meth c H locs cells slots Q (F0 m (pc + 1) ls (.int (iI z) :: rest))) : W p l e R s m args below meth c H locs cells slots Q (F0 m pc ls (.int (iI b) :: .int (iI a) :: rest)) := by
  subst hz
  refine lv_irem hx hb hdg (iI_ne0 hb2 (by omega)) ?_
  rw [iI_rem ha hb2 h0 h1]; exact k
theorem g_i2l (hx : p.tables.exec = Jvm.exec) (hb : c.code = cc) (hdg : decode cc pc = .ok (.i2l, 1)) (ha : iR a) (k : W p l e R s m args below meth c H locs cells slots Q (F0 m (pc + 1) ls (.long (lI a) :: rest))) : W p l e R s m args below meth c H locs cells slots Q (F0 m pc ls (.int (iI a) :: rest)) := lv_i2l hx hb hdg (iI_l ha) k
theorem g_icmp_eq (hx : p.tables.exec = Jvm.exec) (hb : c.code = cc) {off : Int} {tgt : Nat} (hdg : decode cc pc = .ok (.if_icmp .eq off, 3)) (ht : (pc : Int) + off = (tgt : Int)) (ha : iR a) (hb2 : iR b) (kt : a = b → W p l e R s m args below meth c H locs cells slots Q (F0 m tgt ls rest)) (kf : a ≠ b → W p l e R s m args below meth c H locs cells slots Q (F0 m (pc + 3) ls rest)) : W p l e R s m args below meth c H locs cells slots Q (F0 m pc ls (.int (iI b) :: .int (iI a) :: rest)) := by
  refine lv_icmp_eq hx hb hdg ht (fun h => kt ?_) (fun h => kf ?_)
  · exact (iI_eq ha hb2).mp h
  · exact fun q => h ((iI_eq ha hb2).mpr q)
theorem g_icmp_ne (hx : p.tables.exec = Jvm.exec) (hb : c.code = cc) {off : Int} {tgt : Nat} (hdg : decode cc pc = .ok (.if_icmp .ne off, 3)) (ht : (pc : Int) + off = (tgt : Int)) (ha : iR a) (hb2 : iR b) (kt : a ≠ b → W p l e R s m args below meth c H locs cells slots Q (F0 m tgt ls rest)) (kf : a = b → W p l e R s m args below meth c H locs cells slots Q (F0 m (pc + 3) ls rest)) : W p l e R s m args below meth c H locs cells slots Q (F0 m pc ls (.int (iI b) :: .int (iI a) :: rest)) := by
  refine lv_icmp_ne hx hb hdg ht (fun h => kt ?_) (fun h => kf ?_)
  · exact fun q => h ((iI_eq ha hb2).mpr q)
  · exact (iI_eq ha hb2).mp h
theorem g_icmp_lt (hx : p.tables.exec = Jvm.exec) (hb : c.code = cc) {off : Int} {tgt : Nat} (hdg : decode cc pc = .ok (.if_icmp .lt off, 3)) (ht : (pc : Int) + off = (tgt : Int)) (ha : iR a) (hb2 : iR b) (kt : a < b → W p l e R s m args below meth c H locs cells slots Q (F0 m tgt ls rest)) (kf : b ≤ a → W p l e R s m args below meth c H locs cells slots Q (F0 m (pc + 3) ls rest)) : W p l e R s m args below meth c H locs cells slots Q (F0 m pc ls (.int (iI b) :: .int (iI a) :: rest)) := by
  refine lv_icmp_lt hx hb hdg ht (fun h => kt ?_) (fun h => kf ?_)
  · simp only [iI_lt ha hb2, iI_lt hb2 ha, ge_iff_le, gt_iff_lt] at h; omega
  · simp only [iI_lt ha hb2, iI_lt hb2 ha, ge_iff_le, gt_iff_lt] at h; omega
theorem g_icmp_ge (hx : p.tables.exec = Jvm.exec) (hb : c.code = cc) {off : Int} {tgt : Nat} (hdg : decode cc pc = .ok (.if_icmp .ge off, 3)) (ht : (pc : Int) + off = (tgt : Int)) (ha : iR a) (hb2 : iR b) (kt : b ≤ a → W p l e R s m args below meth c H locs cells slots Q (F0 m tgt ls rest)) (kf : a < b → W p l e R s m args below meth c H locs cells slots Q (F0 m (pc + 3) ls rest)) : W p l e R s m args below meth c H locs cells slots Q (F0 m pc ls (.int (iI b) :: .int (iI a) :: rest)) := by
  refine lv_icmp_ge hx hb hdg ht (fun h => kt ?_) (fun h => kf ?_)
  · simp only [iI_le ha hb2, iI_le hb2 ha, ge_iff_le, gt_iff_lt] at h; omega
  · simp only [iI_le ha hb2, iI_le hb2 ha, ge_iff_le, gt_iff_lt] at h; omega
theorem g_icmp_gt (hx : p.tables.exec = Jvm.exec) (hb : c.code = cc) {off : Int} {tgt : Nat} (hdg : decode cc pc = .ok (.if_icmp .gt off, 3)) (ht : (pc : Int) + off = (tgt : Int)) (ha : iR a) (hb2 : iR b) (kt : b < a → W p l e R s m args below meth c H locs cells slots Q (F0 m tgt ls rest)) (kf : a ≤ b → W p l e R s m args below meth c H locs cells slots Q (F0 m (pc + 3) ls rest)) : W p l e R s m args below meth c H locs cells slots Q (F0 m pc ls (.int (iI b) :: .int (iI a) :: rest)) := by
  refine lv_icmp_gt hx hb hdg ht (fun h => kt ?_) (fun h => kf ?_)
  · simp only [iI_lt ha hb2, iI_lt hb2 ha, ge_iff_le, gt_iff_lt] at h; omega
  · simp only [iI_lt ha hb2, iI_lt hb2 ha, ge_iff_le, gt_iff_lt] at h; omega
theorem g_icmp_le (hx : p.tables.exec = Jvm.exec) (hb : c.code = cc) {off : Int} {tgt : Nat} (hdg : decode cc pc = .ok (.if_icmp .le off, 3)) (ht : (pc : Int) + off = (tgt : Int)) (ha : iR a) (hb2 : iR b) (kt : a ≤ b → W p l e R s m args below meth c H locs cells slots Q (F0 m tgt ls rest)) (kf : b < a → W p l e R s m args below meth c H locs cells slots Q (F0 m (pc + 3) ls rest)) : W p l e R s m args below meth c H locs cells slots Q (F0 m pc ls (.int (iI b) :: .int (iI a) :: rest)) := by
  refine lv_icmp_le hx hb hdg ht (fun h => kt ?_) (fun h => kf ?_)
  · simp only [iI_le ha hb2, iI_le hb2 ha, ge_iff_le, gt_iff_lt] at h; omega
  · simp only [iI_le ha hb2, iI_le hb2 ha, ge_iff_le, gt_iff_lt] at h; omega
theorem g_if_eq (hx : p.tables.exec = Jvm.exec) (hb : c.code = cc) {off : Int} {tgt : Nat} (hdg : decode cc pc = .ok (.ifCond .eq off, 3)) (ht : (pc : Int) + off = (tgt : Int)) (ha : iR a) (kt : a = 0 → W p l e R s m args below meth c H locs cells slots Q (F0 m tgt ls rest)) (kf : a ≠ 0 → W p l e R s m args below meth c H locs cells slots Q (F0 m (pc + 3) ls rest)) : W p l e R s m args below meth c H locs cells slots Q (F0 m pc ls (.int (iI a) :: rest)) := by
  have hz : iR 0 := ⟨by omega, by omega⟩
  have e0 : (0 : Int32) = iI 0 := by decide
  refine lv_if_eq hx hb hdg ht (fun h => kt ?_) (fun h => kf ?_)
  · exact (iI_eq ha hz).mp (e0 ▸ h)
  · exact fun q => h (e0 ▸ (iI_eq ha hz).mpr q)
theorem g_if_ne (hx : p.tables.exec = Jvm.exec) (hb : c.code = cc) {off : Int} {tgt : Nat} (hdg : decode cc pc = .ok (.ifCond .ne off, 3)) (ht : (pc : Int) + off = (tgt : Int)) (ha : iR a) (kt : a ≠ 0 → W p l e R s m args below meth c H locs cells slots Q (F0 m tgt ls rest)) (kf : a = 0 → W p l e R s m args below meth c H locs cells slots Q (F0 m (pc + 3) ls rest)) : W p l e R s m args below meth c H locs cells slots Q (F0 m pc ls (.int (iI a) :: rest)) := by
  have hz : iR 0 := ⟨by omega, by omega⟩
  have e0 : (0 : Int32) = iI 0 := by decide
  refine lv_if_ne hx hb hdg ht (fun h => kt ?_) (fun h => kf ?_)
  · exact fun q => h (e0 ▸ (iI_eq ha hz).mpr q)
  · exact (iI_eq ha hz).mp (e0 ▸ h)
theorem g_if_lt (hx : p.tables.exec = Jvm.exec) (hb : c.code = cc) {off : Int} {tgt : Nat} (hdg : decode cc pc = .ok (.ifCond .lt off, 3)) (ht : (pc : Int) + off = (tgt : Int)) (ha : iR a) (kt : a < 0 → W p l e R s m args below meth c H locs cells slots Q (F0 m tgt ls rest)) (kf : 0 ≤ a → W p l e R s m args below meth c H locs cells slots Q (F0 m (pc + 3) ls rest)) : W p l e R s m args below meth c H locs cells slots Q (F0 m pc ls (.int (iI a) :: rest)) := by
  have hz : iR 0 := ⟨by omega, by omega⟩
  have e0 : (0 : Int32) = iI 0 := by decide
  refine lv_if_lt hx hb hdg ht (fun h => kt ?_) (fun h => kf ?_)
  · rw [e0] at h; simp only [iI_lt ha hz, iI_lt hz ha, ge_iff_le, gt_iff_lt] at h; omega
  · rw [e0] at h; simp only [iI_lt ha hz, iI_lt hz ha, ge_iff_le, gt_iff_lt] at h; omega
theorem g_if_ge (hx : p.tables.exec = Jvm.exec) (hb : c.code = cc) {off : Int} {tgt : Nat} (hdg : decode cc pc = .ok (.ifCond .ge off, 3)) (ht : (pc : Int) + off = (tgt : Int)) (ha : iR a) (kt : 0 ≤ a → W p l e R s m args below meth c H locs cells slots Q (F0 m tgt ls rest)) (kf : a < 0 → W p l e R s m args below meth c H locs cells slots Q (F0 m (pc + 3) ls rest)) : W p l e R s m args below meth c H locs cells slots Q (F0 m pc ls (.int (iI a) :: rest)) := by
  have hz : iR 0 := ⟨by omega, by omega⟩
  have e0 : (0 : Int32) = iI 0 := by decide
  refine lv_if_ge hx hb hdg ht (fun h => kt ?_) (fun h => kf ?_)
  · rw [e0] at h; simp only [iI_le ha hz, iI_le hz ha, ge_iff_le, gt_iff_lt] at h; omega
  · rw [e0] at h; simp only [iI_le ha hz, iI_le hz ha, ge_iff_le, gt_iff_lt] at h; omega
theorem g_if_gt (hx : p.tables.exec = Jvm.exec) (hb : c.code = cc) {off : Int} {tgt : Nat} (hdg : decode cc pc = .ok (.ifCond .gt off, 3)) (ht : (pc : Int) + off = (tgt : Int)) (ha : iR a) (kt : 0 < a → W p l e R s m args below meth c H locs cells slots Q (F0 m tgt ls rest)) (kf : a ≤ 0 → W p l e R s m args below meth c H locs cells slots Q (F0 m (pc + 3) ls rest)) : W p l e R s m args below meth c H locs cells slots Q (F0 m pc ls (.int (iI a) :: rest)) := by
  have hz : iR 0 := ⟨by omega, by omega⟩
  have e0 : (0 : Int32) = iI 0 := by decide
  refine lv_if_gt hx hb hdg ht (fun h => kt ?_) (fun h => kf ?_)
  · rw [e0] at h; simp only [iI_lt ha hz, iI_lt hz ha, ge_iff_le, gt_iff_lt] at h; omega
  · rw [e0] at h; simp only [iI_lt ha hz, iI_lt hz ha, ge_iff_le, gt_iff_lt] at h; omega
theorem g_if_le (hx : p.tables.exec = Jvm.exec) (hb : c.code = cc) {off : Int} {tgt : Nat} (hdg : decode cc pc = .ok (.ifCond .le off, 3)) (ht : (pc : Int) + off = (tgt : Int)) (ha : iR a) (kt : a ≤ 0 → W p l e R s m args below meth c H locs cells slots Q (F0 m tgt ls rest)) (kf : 0 < a → W p l e R s m args below meth c H locs cells slots Q (F0 m (pc + 3) ls rest)) : W p l e R s m args below meth c H locs cells slots Q (F0 m pc ls (.int (iI a) :: rest)) := by
  have hz : iR 0 := ⟨by omega, by omega⟩
  have e0 : (0 : Int32) = iI 0 := by decide
  refine lv_if_le hx hb hdg ht (fun h => kt ?_) (fun h => kf ?_)
  · rw [e0] at h; simp only [iI_le ha hz, iI_le hz ha, ge_iff_le, gt_iff_lt] at h; omega
  · rw [e0] at h; simp only [iI_le ha hz, iI_le hz ha, ge_iff_le, gt_iff_lt] at h; omega
theorem g_ifz_eq {β : Bool} (hx : p.tables.exec = Jvm.exec) (hb : c.code = cc) {off : Int} {tgt : Nat} (hdg : decode cc pc = .ok (.ifCond .eq off, 3)) (ht : (pc : Int) + off = (tgt : Int)) (kt : β = false → W p l e R s m args below meth c H locs cells slots Q (F0 m tgt ls rest)) (kf : β = true → W p l e R s m args below meth c H locs cells slots Q (F0 m (pc + 3) ls rest)) : W p l e R s m args below meth c H locs cells slots Q (F0 m pc ls (.int (bI β) :: rest)) := by
  refine lv_if_eq hx hb hdg ht (fun h => kt ((bI_0 β).mp h)) (fun h => kf ?_)
  cases β
  · exact absurd rfl h
  · rfl
theorem g_ifz_ne {β : Bool} (hx : p.tables.exec = Jvm.exec) (hb : c.code = cc) {off : Int} {tgt : Nat} (hdg : decode cc pc = .ok (.ifCond .ne off, 3)) (ht : (pc : Int) + off = (tgt : Int)) (kt : β = true → W p l e R s m args below meth c H locs cells slots Q (F0 m tgt ls rest)) (kf : β = false → W p l e R s m args below meth c H locs cells slots Q (F0 m (pc + 3) ls rest)) : W p l e R s m args below meth c H locs cells slots Q (F0 m pc ls (.int (bI β) :: rest)) := by
  refine lv_if_ne hx hb hdg ht (fun h => kt ?_) (fun h => kf ?_)
  · cases β
    · exact absurd rfl h
    · rfl
  · cases β
    · rfl
    · exact absurd h (by decide)
end GI
