/-! ## plain laws of the reference's loops -/
/-- what the reference has found of a list behind v numbers of the list that it follows -/
def part (x : Q4) (S : Nat → Bool) (v u : Nat) : Bool :=
  if x.1 = 1 then (List.range v).any (fun w => S w && decide (w * x.2.2.1 + x.2.2.2 = u))
  else if x.1 = 5 then decide (u < v) && a_siev S u
  else if x.1 = 6 then decide (u < v) && a_thin S x.2.2.1 u
  else (List.range v).any (fun w => S w && decide (sm S (w + 1) = u))
/-- what it has crossed out -/
def crs (S : Nat → Bool) (v u : Nat) : Bool := (List.range v).any (fun w => decide (1 < w ∧ 2 * w ≤ u ∧ u % w = 0) && a_siev S w)
theorem any_succ (v : Nat) (p : Nat → Bool) : (List.range (v + 1)).any p = ((List.range v).any p || p v) := by
  rw [List.range_succ, List.any_append]; simp
theorem crs_succ (S : Nat → Bool) (v u : Nat) : crs S (v + 1) u = (crs S v u || (decide (1 < v ∧ 2 * v ≤ u ∧ u % v = 0) && a_siev S v)) := any_succ _ _
theorem siev_false {S : Nat → Bool} {v : Nat} (h : S v = true) (h2 : a_siev S v = false) : ∃ k, 2 ≤ k ∧ k < v ∧ v % k = 0 ∧ S k = true := by
  unfold a_siev at h2
  rw [h] at h2
  simp at h2
  obtain ⟨k, h3, h4, h5⟩ := h2
  exact ⟨k, h4.1, h3, h4.2, h5⟩
theorem siev_of {S : Nat → Bool} {v : Nat} (h : a_siev S v = true) : S v = true ∧ ∀ k, 2 ≤ k → k < v → v % k = 0 → S k = false := by
  unfold a_siev at h
  simp at h
  exact ⟨h.1, fun k h1 h2 h3 => h.2 k h2 h1 h3⟩
/-- a member that falls is divided by one that stays -/
theorem siev_least {S : Nat → Bool} : ∀ (v w : Nat), w ≤ v → S w = true → 2 ≤ w → ∃ k, 2 ≤ k ∧ k ≤ w ∧ w % k = 0 ∧ a_siev S k = true := by
  intro v
  induction v with
  | zero => intro w h1 _ h3; omega
  | succ v ih =>
    intro w h1 h2 h3
    cases hs : a_siev S w with
    | true => exact ⟨w, h3, Nat.le_refl _, Nat.mod_self w, hs⟩
    | false =>
      obtain ⟨k, k1, k2, k3, k4⟩ := siev_false h2 hs
      obtain ⟨j, j1, j2, j3, j4⟩ := ih k (by omega) k4 k1
      refine ⟨j, j1, by omega, ?_, j4⟩
      exact Nat.mod_eq_zero_of_dvd (Nat.dvd_trans (Nat.dvd_of_mod_eq_zero j3) (Nat.dvd_of_mod_eq_zero k3))
theorem crs_self {S : Nat → Bool} {v : Nat} (h : S v = true) : crs S v v = !a_siev S v := by
  cases hs : a_siev S v with
  | true =>
    show _ = false
    unfold crs
    rw [List.any_eq_false]
    intro w hw
    have hw := List.mem_range.mp hw
    simp
    intro h1 h2 h3
    cases hq : a_siev S w with
    | false => rfl
    | true =>
      have := (siev_of hs).2 w (by omega) hw h3
      rw [(siev_of hq).1] at this
      cases this
  | false =>
    show _ = true
    obtain ⟨k, k1, k2, k3, k4⟩ := siev_false h hs
    obtain ⟨j, j1, j2, j3, j4⟩ := siev_least k k (Nat.le_refl _) k4 k1
    have hd : j ∣ v := Nat.dvd_trans (Nat.dvd_of_mod_eq_zero j3) (Nat.dvd_of_mod_eq_zero k3)
    unfold crs
    rw [List.any_eq_true]
    refine ⟨j, List.mem_range.mpr (by omega), ?_⟩
    obtain ⟨t, ht⟩ := hd
    have h2 : 2 * j ≤ v := by
      rcases t with _ | _ | t
      · simp at ht; omega
      · simp at ht; omega
      · rw [ht]; have := Nat.mul_le_mul_left j (show 2 ≤ t + 1 + 1 by omega); omega
    simp [j4, h2, show 1 < j by omega, Nat.mod_eq_zero_of_dvd ⟨t, ht⟩]
theorem part_0 (x : Q4) (S : Nat → Bool) (u : Nat) : part x S 0 u = false := by
  unfold part; split; simp; split; simp; split; simp; simp
theorem part_skip {x : Q4} {S : Nat → Bool} {v : Nat} (h : S v = false) (u : Nat) : part x S (v + 1) u = part x S v u := by
  unfold part
  rw [any_succ, any_succ, h]
  split
  · simp
  split
  · by_cases hu : u = v
    · subst hu
      simp [a_siev, h]
    · have : decide (u < v + 1) = decide (u < v) := by congr 1; simp; omega
      rw [this]
  split
  · by_cases hu : u = v
    · subst hu
      simp [a_thin, h]
    · have : decide (u < v + 1) = decide (u < v) := by congr 1; simp; omega
      rw [this]
  · simp
theorem part_1 {x : Q4} (hx : x.1 = 1) {S : Nat → Bool} {v : Nat} (h : S v = true) (u : Nat) : part x S (v + 1) u = (part x S v u || decide (v * x.2.2.1 + x.2.2.2 = u)) := by
  unfold part; rw [if_pos hx, if_pos hx, any_succ, h, Bool.true_and]
theorem part_7 {x : Q4} (h1 : x.1 ≠ 1) (h5 : x.1 ≠ 5) (h6 : x.1 ≠ 6) {S : Nat → Bool} {v : Nat} (h : S v = true) (u : Nat) : part x S (v + 1) u = (part x S v u || decide (sm S (v + 1) = u)) := by
  unfold part; rw [if_neg h1, if_neg h1, if_neg h5, if_neg h5, if_neg h6, if_neg h6, any_succ, h, Bool.true_and]
theorem part_5 {x : Q4} (hx : x.1 = 5) {S : Nat → Bool} {v : Nat} (h : S v = true) (u : Nat) : part x S (v + 1) u = (if u = v then !crs S v v else part x S v u) := by
  have h1 : x.1 ≠ 1 := by omega
  unfold part; rw [if_neg h1, if_neg h1, if_pos hx, if_pos hx]
  by_cases hu : u = v
  · subst hu
    rw [if_pos rfl, crs_self h]; simp
  · rw [if_neg hu]
    have : decide (u < v + 1) = decide (u < v) := by congr 1; simp; omega
    rw [this]
theorem part_6 {x : Q4} (hx : x.1 = 6) {S : Nat → Bool} {v : Nat} (h : S v = true) (u : Nat) : part x S (v + 1) u = (if u = v then decide (cnt S (v + 1) % x.2.2.1 = 0) else part x S v u) := by
  have h1 : x.1 ≠ 1 := by omega
  have h5 : x.1 ≠ 5 := by omega
  unfold part; rw [if_neg h1, if_neg h1, if_neg h5, if_neg h5, if_pos hx, if_pos hx]
  by_cases hu : u = v
  · subst hu
    rw [if_pos rfl]; simp [a_thin, h]
  · rw [if_neg hu]
    have : decide (u < v + 1) = decide (u < v) := by congr 1; simp; omega
    rw [this]
theorem sm_le (S : Nat → Bool) {m n : Nat} (h : m ≤ n) : sm S m ≤ sm S n := by
  induction n with
  | zero => rw [Nat.le_zero.mp h]; exact Nat.le_refl _
  | succ n ih =>
    rcases Nat.lt_or_ge n m with q | q
    · rw [show m = n + 1 by omega]; exact Nat.le_refl _
    · exact Nat.le_trans (ih q) (Nat.le_add_right _ _)
theorem sm_ge {S : Nat → Bool} {k : Nat} (h : S k = true) : k ≤ sm S (k + 1) := by
  show k ≤ sm S k + _
  rw [if_pos h]; omega
/-- behind all numbers the list is found -/
theorem part_end {k : Nat} {x : Q4} (ok : okQ k x) (hk : x.1 = 1 ∨ x.1 = 5 ∨ x.1 = 6 ∨ x.1 = 7) {E : Nat → Nat → Bool} {u : Nat} (hu : u < 1000) : part x (E x.2.1) 1000 u = comb x E u := by
  obtain ⟨a, b, c, d⟩ := x
  obtain ⟨o1, o2, o3, o4, o5, o6, o7, o8⟩ := ok
  simp only at *
  rcases hk with rfl | rfl | rfl | rfl
  · have hc := (o7 (Or.inl rfl)).1
    show (if (1 : Nat) = 1 then _ else _) = a_scal (E b) c d u
    rw [if_pos rfl]
    unfold a_scal
    rw [Bool.eq_iff_iff]
    simp only [List.any_eq_true, List.mem_range, Bool.and_eq_true, decide_eq_true_eq]
    constructor
    · rintro ⟨w, hw, h1, h2⟩
      have e : u - d = w * c := by omega
      refine ⟨⟨by omega, by rw [e]; exact Nat.mul_mod_left w c⟩, ?_⟩
      rw [e, Nat.mul_div_cancel w (by omega)]
      exact h1
    · rintro ⟨⟨h1, h2⟩, h3⟩
      have e := Nat.div_mul_cancel (Nat.dvd_of_mod_eq_zero h2)
      refine ⟨(u - d) / c, ?_, h3, by omega⟩
      have := Nat.div_le_self (u - d) c
      omega
  · show (if (5 : Nat) = 1 then _ else if (5 : Nat) = 5 then _ else _) = a_siev (E b) u
    rw [if_neg (by decide), if_pos rfl]; simp [hu]
  · show (if (6 : Nat) = 1 then _ else if (6 : Nat) = 5 then _ else if (6 : Nat) = 6 then _ else _) = a_thin (E b) c u
    rw [if_neg (by decide), if_neg (by decide), if_pos rfl]; simp [hu]
  · show (if (7 : Nat) = 1 then _ else if (7 : Nat) = 5 then _ else if (7 : Nat) = 6 then _ else _) = a_addd (E b) u
    rw [if_neg (by decide), if_neg (by decide), if_neg (by decide)]
    unfold a_addd
    rw [Bool.eq_iff_iff]
    simp only [List.any_eq_true, List.mem_range, Bool.and_eq_true, decide_eq_true_eq]
    constructor
    · rintro ⟨w, hw, h1, h2⟩
      have := sm_ge h1
      exact ⟨w, by omega, h1, h2⟩
    · rintro ⟨w, hw, h1, h2⟩
      exact ⟨w, by omega, h1, h2⟩
/-- the array holds what is found of the first n lists -/
def Hb (f : Nat → Int32) (n : Nat) (E : Nat → Nat → Bool) : Prop := ∀ k, k < n → ∀ v, v < 1000 → f (1000 * k + v) = bI (E k v)
