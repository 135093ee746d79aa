theorem sm_bd (S : Nat → Bool) {n : Nat} (h : n ≤ 1000) : sm S n ≤ 1000 * n := by
  induction n with
  | zero => exact Nat.le_refl _
  | succ n ih => have := ih (by omega); show sm S n + _ ≤ _; split <;> omega
theorem cnt_t {S : Nat → Bool} {v : Nat} (h : S v = true) : cnt S (v + 1) = cnt S v + 1 := by show _ + _ = _; rw [if_pos h]
theorem cnt_f {S : Nat → Bool} {v : Nat} (h : S v = false) : cnt S (v + 1) = cnt S v := by show _ + _ = _; rw [if_neg (by simp [h])]; rfl
theorem sm_t {S : Nat → Bool} {v : Nat} (h : S v = true) : sm S (v + 1) = sm S v + v := by show _ + _ = _; rw [if_pos h]
theorem sm_f {S : Nat → Bool} {v : Nat} (h : S v = false) : sm S (v + 1) = sm S v := by show _ + _ = _; rw [if_neg (by simp [h])]; rfl
/-- crossing out, a multiple more -/
theorem cross_step {X : Nat → Bool} {v i m u : Nat} (h1 : 1 < v) (hX : X v = false) (hi : 2 ≤ i) (hm : m = v * i) (hu : u ≠ m) :
    (X u || (decide (1 < v ∧ 2 * v ≤ u ∧ u % v = 0 ∧ u < m) && !X v)) = (X u || (decide (1 < v ∧ 2 * v ≤ u ∧ u % v = 0 ∧ u < m + v) && !X v)) := by
  congr 2
  rw [decide_eq_decide]
  constructor
  · rintro ⟨a, b, c, d⟩; exact ⟨a, b, c, by omega⟩
  · rintro ⟨a, b, c, d⟩
    refine ⟨a, b, c, ?_⟩
    obtain ⟨t, ht⟩ := Nat.dvd_of_mod_eq_zero c
    rcases Nat.lt_trichotomy t i with h | h | h
    · have h2 : v * (t + 1) ≤ v * i := Nat.mul_le_mul_left v h
      rw [Nat.mul_succ] at h2
      omega
    · subst h; omega
    · have h2 : v * (i + 1) ≤ v * t := Nat.mul_le_mul_left v h
      rw [Nat.mul_succ] at h2
      omega
theorem cross_hit {X : Nat → Bool} {v i m : Nat} (h1 : 1 < v) (hX : X v = false) (hi : 2 ≤ i) (hm : m = v * i) :
    (X m || (decide (1 < v ∧ 2 * v ≤ m ∧ m % v = 0 ∧ m < m + v) && !X v)) = true := by
  have h2 : v * 2 ≤ v * i := Nat.mul_le_mul_left v hi
  have h3 : m % v = 0 := by rw [hm]; exact Nat.mul_mod_right v i
  simp [hX, h1, h3, show 2 * v ≤ m by omega, show 0 < v by omega]
theorem cross_self {X : Nat → Bool} {v m : Nat} : (X v || (decide (1 < v ∧ 2 * v ≤ v ∧ v % v = 0 ∧ v < m) && !X v)) = X v := by
  have : ¬ (1 < v ∧ 2 * v ≤ v ∧ v % v = 0 ∧ v < m) := by rintro ⟨a, b, -, -⟩; omega
  rw [decide_eq_false this]; simp
/-- the member at a place -/
def aat (S : Nat → Bool) (z : Int) : Int := if z < 0 then -1 else oI ((mm S 1000)[z.toNat]?)
theorem aat_hit {S : Nat → Bool} {v : Nat} {z : Int} (hv : v < 1000) (hS : S v = true) (hz : (cnt S v : Int) = z) : aat S z = v := by
  subst hz
  unfold aat
  rw [if_neg (by omega), Int.toNat_natCast, mm_at hv hS]
  rfl
theorem aat_none {S : Nat → Bool} {z : Int} (h : ∀ w, w < 1000 → S w = true → (cnt S w : Int) ≠ z) : aat S z = -1 := by
  unfold aat
  split
  · rfl
  · cases hc : (mm S 1000)[z.toNat]? with
    | none => rfl
    | some v =>
      obtain ⟨a, b, c⟩ := mm_spec hc
      exact absurd (by rw [c]; omega) (h v a b)
theorem aat_rng (S : Nat → Bool) (z : Int) : -1 ≤ aat S z ∧ aat S z ≤ 999 := by
  unfold aat
  split
  · decide
  · cases hc : (mm S 1000)[z.toNat]? with
    | none => decide
    | some v =>
      have := (mm_spec hc).1
      show -1 ≤ ((v : Nat) : Int) ∧ ((v : Nat) : Int) ≤ 999
      omega
theorem part_6v {a b d : Nat} {S : Nat → Bool} {v : Nat} (h : S v = true) {β : Bool} (hβ : β = decide (cnt S (v + 1) % b = 0)) (u : Nat) : part (6, a, b, d) S (v + 1) u = (if u = v then β else part (6, a, b, d) S v u) := by
  rw [hβ]
  exact part_6 rfl h u
theorem comb_j {kd a b d : Nat} {E : Nat → Nat → Bool} {v : Nat} (h : kd = 2 ∨ kd = 3 ∨ kd = 4) : comb (kd, a, b, d) E v = if (kd : Int) = 2 then (E a v || E b v) else if (kd : Int) = 3 then (E a v && E b v) else (E a v && !E b v) := by
  rcases h with rfl | rfl | rfl <;> rfl
/-- a list of steps, as the reference finds it *)-/
def stp (x : Q4) (v : Nat) : Bool := decide (x.1 = 0 ∧ x.2.1 ≤ v ∧ (v - x.2.1) % x.2.2.1 = 0)
theorem stp_t {x : Q4} {v : Nat} (h1 : (x.1 : Int) = 0) (h2 : (x.2.1 : Int) ≤ v) (h3 : (((v - x.2.1) % x.2.2.1 : Nat) : Int) = 0) : stp x v = true := decide_eq_true ⟨by omega, by omega, by omega⟩
theorem stp_f {x : Q4} {v : Nat} (h : (x.1 : Int) ≠ 0 ∨ (v : Int) < x.2.1 ∨ ((x.2.1 : Int) ≤ v ∧ (((v - x.2.1) % x.2.2.1 : Nat) : Int) ≠ 0)) : stp x v = false := by
  refine decide_eq_false ?_
  rintro ⟨a, b, c⟩
  rcases h with h | h | ⟨-, h⟩
  · omega
  · omega
  · rw [c] at h; exact h rfl
theorem stp_comb {x : Q4} {E : Nat → Nat → Bool} {v : Nat} (h : x.1 = 0) : stp x v = comb x E v := by
  obtain ⟨a, b, c, d⟩ := x
  simp only at h
  subst h
  show decide ((0 : Nat) = 0 ∧ _) = decide _
  simp
