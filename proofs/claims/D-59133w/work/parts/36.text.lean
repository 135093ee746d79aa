/-! ## texts: the pure picture (ok, place) and what a command does -/
def dgS (t : List Nat) (ps : Bool × Nat) (lo hi : Nat) : Nat × Bool × Nat :=
  if ps.1 = true then (match t[ps.2]? with
    | some c => if 48 + lo ≤ c ∧ c ≤ 48 + hi then (c - 48, true, ps.2 + 1) else (lo, false, ps.2)
    | none => (lo, false, ps.2)) else (lo, ps.1, ps.2)
def twoS (t : List Nat) (ps : Bool × Nat) (lo hi : Nat) : Nat × Bool × Nat :=
  let a := dgS t ps 0 (hi / 10)
  let b := dgS t a.2 (if a.1 = 0 then lo else 0) (if a.1 = hi / 10 then hi % 10 else 9)
  (10 * a.1 + b.1, b.2)
def threeS (t : List Nat) (ps : Bool × Nat) : Nat × Bool × Nat :=
  let a := dgS t ps 0 9
  let b := twoS t a.2 0 99
  (100 * a.1 + b.1, b.2)
/-- the reference's number: none where the text is wrong -/
def mv (x : Nat × Bool × Nat) : Int := if x.2.1 = true then x.1 else -1
def fU (j : Nat) : Nat := match j with | 0 => 0 | 1 => 1 | 2 => 10 | _ => 100
def fgS (t : List Nat) (lo hi : Nat) : Nat → Nat → Nat → Nat × Bool × Nat
  | 0, v, p => (v, true, p)
  | j + 1, v, p => match t[p]? with
    | some c => if 48 ≤ c ∧ c ≤ 57 ∧ v + (c - 48) * fU (j + 1) ≤ hi ∧ lo ≤ v + (c - 48) * fU (j + 1) + fU (j + 1) - 1 then fgS t lo hi j (v + (c - 48) * fU (j + 1)) (p + 1) else (0, false, p)
    | none => (0, false, p)
theorem fg1 (t : List Nat) {lo hi p : Nat} (h : hi ≤ 9) : mv (fgS t lo hi 1 0 p) = mv (dgS t (true, p) lo hi) ∧ (fgS t lo hi 1 0 p).2 = (dgS t (true, p) lo hi).2 := by
  unfold dgS fgS
  rw [if_pos rfl]
  cases hc : t[p]? with
  | none => simp [hc, mv]
  | some c =>
    simp only [hc, fU]
    by_cases q : 48 + lo ≤ c ∧ c ≤ 48 + hi
    · rw [if_pos q, if_pos (by omega)]
      simp [fgS, mv]
    · rw [if_neg q, if_neg (by omega)]
      simp [mv]
theorem fg2 (t : List Nat) {lo hi p : Nat} (hl : lo ≤ 9) (h : hi ≤ 99) : mv (fgS t lo hi 2 0 p) = mv (twoS t (true, p) lo hi) ∧ (fgS t lo hi 2 0 p).2 = (twoS t (true, p) lo hi).2 := by
  unfold twoS
  simp only [fgS]
  cases hc : t[p]? with
  | none => simp [dgS, hc, mv]
  | some c =>
    simp only [fU]
    by_cases q : 48 + 0 ≤ c ∧ c ≤ 48 + hi / 10
    · have e1 : dgS t (true, p) 0 (hi / 10) = (c - 48, true, p + 1) := by unfold dgS; rw [if_pos rfl]; simp only [hc]; rw [if_pos q]
      rw [e1, if_pos (by omega)]
      simp only
      cases hc2 : t[p + 1]? with
      | none => simp [dgS, hc2, mv]
      | some c2 =>
        simp only [fU]
        unfold dgS
        rw [if_pos rfl]
        simp only [hc2]
        have hA : (if c - 48 = hi / 10 then hi % 10 else 9) ≤ 9 := by split <;> omega
        by_cases q2 : 48 + (if c - 48 = 0 then lo else 0) ≤ c2 ∧ c2 ≤ 48 + (if c - 48 = hi / 10 then hi % 10 else 9)
        · rw [if_pos q2, if_pos (by
            obtain ⟨z1, z2⟩ := q2
            split at z1 <;> split at z2 <;> omega)]
          simp [mv]
          omega
        · rw [if_neg q2, if_neg (by
            intro z
            apply q2
            constructor
            · split <;> omega
            · split <;> omega)]
          simp [mv]
    · have e1 : dgS t (true, p) 0 (hi / 10) = (0, false, p) := by unfold dgS; rw [if_pos rfl]; simp only [hc]; rw [if_neg q]
      rw [e1, if_neg (by omega)]
      simp [dgS, mv]
theorem fg3 (t : List Nat) {p : Nat} : mv (fgS t 0 999 3 0 p) = mv (threeS t (true, p)) ∧ (fgS t 0 999 3 0 p).2 = (threeS t (true, p)).2 := by
  unfold threeS
  simp only [fgS]
  cases hc : t[p]? with
  | none => simp [dgS, twoS, hc, mv]
  | some c =>
    simp only [fU]
    by_cases q : 48 + 0 ≤ c ∧ c ≤ 48 + 9
    · have e1 : dgS t (true, p) 0 9 = (c - 48, true, p + 1) := by unfold dgS; rw [if_pos rfl]; simp only [hc]; rw [if_pos q]
      rw [e1, if_pos (by omega)]
      unfold twoS
      simp only
      cases hc2 : t[p + 1]? with
      | none => simp [dgS, hc2, mv]
      | some c2 =>
        simp only [fU]
        by_cases q2 : 48 + 0 ≤ c2 ∧ c2 ≤ 48 + 99 / 10
        · have e2 : dgS t (true, p + 1) 0 (99 / 10) = (c2 - 48, true, p + 1 + 1) := by unfold dgS; rw [if_pos rfl]; simp only [hc2]; rw [if_pos q2]
          rw [e2, if_pos (by omega)]
          simp only
          cases hc3 : t[p + 1 + 1]? with
          | none => simp [dgS, hc3, mv]
          | some c3 =>
            simp only [fU]
            unfold dgS
            rw [if_pos rfl]
            simp only [hc3]
            have e3 : (if c2 - 48 = 0 then 0 else 0) = 0 := by split <;> rfl
            have e4 : (if c2 - 48 = 99 / 10 then 99 % 10 else 9) = 9 := by split <;> rfl
            rw [e3, e4]
            by_cases q3 : 48 + 0 ≤ c3 ∧ c3 ≤ 48 + 9
            · rw [if_pos q3, if_pos (by omega)]
              simp [mv]
              omega
            · rw [if_neg q3, if_neg (by omega)]
              simp [mv]
        · have e2 : dgS t (true, p + 1) 0 (99 / 10) = (0, false, p + 1) := by unfold dgS; rw [if_pos rfl]; simp only [hc2]; rw [if_neg q2]
          rw [e2, if_neg (by omega)]
          simp [dgS, mv]
    · have e1 : dgS t (true, p) 0 9 = (0, false, p) := by unfold dgS; rw [if_pos rfl]; simp only [hc]; rw [if_neg q]
      rw [e1, if_neg (by omega)]
      simp [dgS, twoS, mv]
theorem dgS_bd {t : List Nat} {ps : Bool × Nat} {lo hi : Nat} (h : lo ≤ hi) : lo ≤ (dgS t ps lo hi).1 ∧ (dgS t ps lo hi).1 ≤ hi := by
  unfold dgS
  split
  · split
    · split
      · rename_i c _ q; simp only; omega
      · exact ⟨Nat.le_refl _, h⟩
    · exact ⟨Nat.le_refl _, h⟩
  · exact ⟨Nat.le_refl _, h⟩
theorem twoS_bd {t : List Nat} {ps : Bool × Nat} {lo hi : Nat} (h : lo ≤ hi) (hl : lo ≤ 9) (hh : hi ≤ 99) (h1 : hi / 10 = 0 → lo ≤ hi % 10) : lo ≤ (twoS t ps lo hi).1 ∧ (twoS t ps lo hi).1 ≤ hi := by
  unfold twoS
  simp only
  have ha := dgS_bd (t := t) (ps := ps) (lo := 0) (hi := hi / 10) (Nat.zero_le _)
  generalize dgS t ps 0 (hi / 10) = a at ha ⊢
  by_cases q : a.1 = 0 <;> by_cases q2 : a.1 = hi / 10
  · rw [if_pos q, if_pos q2]
    have hb := dgS_bd (t := t) (ps := a.2) (lo := lo) (hi := hi % 10) (h1 (by omega))
    generalize dgS t a.2 lo (hi % 10) = b at hb ⊢
    omega
  · rw [if_pos q, if_neg q2]
    have hb := dgS_bd (t := t) (ps := a.2) (lo := lo) (hi := 9) hl
    generalize dgS t a.2 lo 9 = b at hb ⊢
    omega
  · rw [if_neg q, if_pos q2]
    have hb := dgS_bd (t := t) (ps := a.2) (lo := 0) (hi := hi % 10) (Nat.zero_le _)
    generalize dgS t a.2 0 (hi % 10) = b at hb ⊢
    omega
  · rw [if_neg q, if_neg q2]
    have hb := dgS_bd (t := t) (ps := a.2) (lo := 0) (hi := 9) (Nat.zero_le _)
    generalize dgS t a.2 0 9 = b at hb ⊢
    omega
theorem dgS_off {t : List Nat} {ps : Bool × Nat} {lo hi : Nat} (h : ps.1 = false) : dgS t ps lo hi = (lo, false, ps.2) := by
  unfold dgS; rw [if_neg (by rw [h]; decide), h]
theorem twoS_off {t : List Nat} {ps : Bool × Nat} {lo hi : Nat} (h : ps.1 = false) : (twoS t ps lo hi).2 = (false, ps.2) := by
  unfold twoS; simp only [dgS_off h]; rw [dgS_off rfl]
theorem dgS_pos {t : List Nat} {ps : Bool × Nat} {lo hi : Nat} : ps.2 ≤ (dgS t ps lo hi).2.2 ∧ (dgS t ps lo hi).2.2 ≤ ps.2 + 1 ∧ (ps.2 ≤ t.length → (dgS t ps lo hi).2.2 ≤ t.length) := by
  unfold dgS
  split
  · split
    · rename_i c hc
      have := (List.getElem?_eq_some_iff.mp hc).1
      split
      · exact ⟨by simp, by simp, fun _ => by simp; omega⟩
      · exact ⟨by simp, by simp, fun h => h⟩
    · exact ⟨by simp, by simp, fun h => h⟩
  · exact ⟨by simp, by simp, fun h => h⟩
theorem twoS_pos {t : List Nat} {ps : Bool × Nat} {lo hi : Nat} : ps.2 ≤ (twoS t ps lo hi).2.2 ∧ (ps.2 ≤ t.length → (twoS t ps lo hi).2.2 ≤ t.length) := by
  unfold twoS
  simp only
  have h1 := dgS_pos (t := t) (ps := ps) (lo := 0) (hi := hi / 10)
  generalize dgS t ps 0 (hi / 10) = a at h1 ⊢
  have h2 := dgS_pos (t := t) (ps := a.2) (lo := if a.1 = 0 then lo else 0) (hi := if a.1 = hi / 10 then hi % 10 else 9)
  exact ⟨by omega, fun h => h2.2.2 (h1.2.2 h)⟩
theorem threeS_pos {t : List Nat} {ps : Bool × Nat} : ps.2 ≤ (threeS t ps).2.2 ∧ (ps.2 ≤ t.length → (threeS t ps).2.2 ≤ t.length) := by
  unfold threeS
  simp only
  have h1 := dgS_pos (t := t) (ps := ps) (lo := 0) (hi := 9)
  generalize dgS t ps 0 9 = a at h1 ⊢
  have h2 := twoS_pos (t := t) (ps := a.2) (lo := 0) (hi := 99)
  exact ⟨by omega, fun h => h2.2 (h1.2.2 h)⟩
theorem threeS_bd {t : List Nat} {ps : Bool × Nat} : (threeS t ps).1 ≤ 999 := by
  unfold threeS
  simp only
  have h1 := dgS_bd (t := t) (ps := ps) (lo := 0) (hi := 9) (by decide)
  generalize dgS t ps 0 9 = a at h1 ⊢
  have h2 := twoS_bd (t := t) (ps := a.2) (lo := 0) (hi := 99) (by decide) (by decide) (by decide) (by decide)
  omega
