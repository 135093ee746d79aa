/-! ## the pure picture: a state is its table of lists, its readers, its count of readings -/
abbrev Q4 : Type := Nat × Nat × Nat × Nat
abbrev AS : Type := List Q4 × List (Nat × Nat) × Int32
/-- the number of members below n -/
def cnt (S : Nat → Bool) : Nat → Nat | 0 => 0 | n + 1 => cnt S n + (if S n = true then 1 else 0)
/-- their sum -/
def sm (S : Nat → Bool) : Nat → Nat | 0 => 0 | n + 1 => sm S n + (if S n = true then n else 0)
def a_scal (S : Nat → Bool) (b c v : Nat) : Bool := decide (c ≤ v ∧ (v - c) % b = 0) && S ((v - c) / b)
def a_siev (S : Nat → Bool) (v : Nat) : Bool := S v && !(List.range v).any (fun k => decide (2 ≤ k ∧ v % k = 0) && S k)
def a_thin (S : Nat → Bool) (b v : Nat) : Bool := S v && decide (cnt S (v + 1) % b = 0)
def a_addd (S : Nat → Bool) (v : Nat) : Bool := (List.range (v + 1)).any (fun k => S k && decide (sm S (k + 1) = v))
/-- a list's members by its rule, from the lists ahead of it -/
def comb (x : Q4) (E : Nat → Nat → Bool) (v : Nat) : Bool := match x.1 with
  | 0 => decide (x.2.1 ≤ v ∧ (v - x.2.1) % x.2.2.1 = 0)
  | 1 => a_scal (E x.2.1) x.2.2.1 x.2.2.2 v
  | 2 => E x.2.1 v || E x.2.2.1 v
  | 3 => E x.2.1 v && E x.2.2.1 v
  | 4 => E x.2.1 v && !E x.2.2.1 v
  | 5 => a_siev (E x.2.1) v
  | 6 => a_thin (E x.2.1) x.2.2.1 v
  | _ => a_addd (E x.2.1) v
def q4 (T : List Q4) (k : Nat) : Q4 := T.getD k (0, 0, 0, 0)
/-- the members of the first j lists -/
def Ds (T : List Q4) : Nat → Nat → Nat → Bool
  | 0 => fun _ _ => false
  | j + 1 => fun i v => if i = j then comb (q4 T j) (Ds T j) v else Ds T j i v
def D (T : List Q4) (k v : Nat) : Bool := Ds T (k + 1) k v
theorem Ds_D (T : List Q4) : ∀ (j k : Nat), k < j → Ds T j k = D T k := by
  intro j
  induction j with
  | zero => intro k h; exact absurd h (Nat.not_lt_zero _)
  | succ j ih =>
    intro k h
    by_cases hk : k = j
    · subst hk; rfl
    · funext v
      show (if k = j then _ else Ds T j k v) = _
      rw [if_neg hk, ih k (by omega)]
theorem D_eq (T : List Q4) (k v : Nat) : D T k v = comb (q4 T k) (Ds T k) v := by
  show (if k = k then _ else _) = _
  rw [if_pos rfl]
/-- what a row of the table may be -/
def okQ (k : Nat) (x : Q4) : Prop := x.1 ≤ 7 ∧ x.2.1 ≤ 999 ∧ x.2.2.1 ≤ 99 ∧ x.2.2.2 ≤ 99 ∧ (x.1 = 0 → 1 ≤ x.2.2.1) ∧ (x.1 ≠ 0 → x.2.1 < k) ∧ (x.1 = 1 ∨ x.1 = 6 → 1 ≤ x.2.2.1 ∧ x.2.2.1 ≤ 9) ∧ (2 ≤ x.1 ∧ x.1 ≤ 4 → x.2.2.1 < k)
def okA (σ : AS) : Prop := σ.1.length ≤ 12 ∧ (∀ (k : Nat) (x : Q4), σ.1[k]? = some x → okQ k x) ∧ σ.2.1.length ≤ 4 ∧ (∀ (i : Nat) (y : Nat × Nat), σ.2.1[i]? = some y → y.1 < σ.1.length ∧ y.2 ≤ cnt (D σ.1 y.1) 1000)
/-- the reference's row of numbers -/
def Tab (f : Nat → Int32) (σ : AS) : Prop := f 0 = iI (σ.1.length : Nat) ∧ f 1 = iI (σ.2.1.length : Nat) ∧ f 2 = σ.2.2 ∧
  (∀ (k : Nat) (x : Q4), σ.1[k]? = some x → f (3 + 4 * k) = iI (x.1 : Nat) ∧ f (3 + 4 * k + 1) = iI (x.2.1 : Nat) ∧ f (3 + 4 * k + 2) = iI (x.2.2.1 : Nat) ∧ f (3 + 4 * k + 3) = iI (x.2.2.2 : Nat)) ∧
  (∀ (i : Nat) (y : Nat × Nat), σ.2.1[i]? = some y → f (51 + 2 * i) = iI (y.1 : Nat) ∧ f (51 + 2 * i + 1) = iI (y.2 : Nat))
theorem comb_congr {x : Q4} {E E' : Nat → Nat → Bool} {k : Nat} (hx : okQ k x) (h : ∀ i, i < k → E i = E' i) (v : Nat) : comb x E v = comb x E' v := by
  obtain ⟨a, b, c, d⟩ := x
  obtain ⟨h1, h2, h3, h4, h5, h6, h7, h8⟩ := hx
  simp only at h1 h2 h3 h4 h5 h6 h7 h8
  unfold comb
  match a, h1, h5, h6, h7, h8 with
  | 0, _, _, _, _, _ => rfl
  | 1, _, _, h6, _, _ => simp only; rw [h b (h6 (by decide))]
  | 2, _, _, h6, _, h8 => simp only; rw [h b (h6 (by decide)), h c (h8 (by decide))]
  | 3, _, _, h6, _, h8 => simp only; rw [h b (h6 (by decide)), h c (h8 (by decide))]
  | 4, _, _, h6, _, h8 => simp only; rw [h b (h6 (by decide)), h c (h8 (by decide))]
  | 5, _, _, h6, _, _ => simp only; rw [h b (h6 (by decide))]
  | 6, _, _, h6, _, _ => simp only; rw [h b (h6 (by decide))]
  | 7, _, _, h6, _, _ => simp only; rw [h b (h6 (by decide))]
  | n + 8, h1, _, _, _, _ => omega
theorem q4_at {T : List Q4} {k : Nat} {x : Q4} (h : T[k]? = some x) : q4 T k = x := by simp [q4, List.getD, h]
theorem q4_lt {T : List Q4} {k : Nat} (h : k < T.length) : T[k]? = some (q4 T k) := by simp [q4, List.getD, h]
/-- a list's members, out of the members of those ahead of it -/
theorem D_comb {T : List Q4} {k : Nat} {x : Q4} (hx : T[k]? = some x) (ok : okQ k x) (v : Nat) : D T k v = comb x (D T) v := by
  rw [D_eq, q4_at hx]
  exact comb_congr ok (fun i hi => Ds_D T k i hi) v
theorem Ds_app (T U : List Q4) : ∀ (j : Nat), j ≤ T.length → Ds (T ++ U) j = Ds T j := by
  intro j
  induction j with
  | zero => intro _; rfl
  | succ j ih =>
    intro h
    funext i v
    show (if i = j then comb (q4 (T ++ U) j) (Ds (T ++ U) j) v else Ds (T ++ U) j i v) = (if i = j then comb (q4 T j) (Ds T j) v else Ds T j i v)
    rw [ih (by omega)]
    have : q4 (T ++ U) j = q4 T j := by simp [q4, List.getD, List.getElem?_append_left (show j < T.length by omega)]
    rw [this]
theorem D_app (T U : List Q4) {k : Nat} (h : k < T.length) : D (T ++ U) k = D T k := by
  funext v
  show Ds (T ++ U) (k + 1) k v = Ds T (k + 1) k v
  rw [Ds_app T U (k + 1) h]
theorem D_dropLast (T : List Q4) {k : Nat} (h : k + 1 < T.length) : D T.dropLast k = D T k := by
  have e : T.dropLast ++ [T.getLast (by intro q; rw [q] at h; simp at h)] = T := List.dropLast_concat_getLast _
  rw [← D_app T.dropLast [T.getLast (by intro q; rw [q] at h; simp at h)] (by simp; omega), e]
theorem cnt_congr {S S' : Nat → Bool} : ∀ {n : Nat}, (∀ v, v < n → S v = S' v) → cnt S n = cnt S' n := by
  intro n
  induction n with
  | zero => intro _; rfl
  | succ n ih => intro h; show cnt S n + _ = cnt S' n + _; rw [ih (fun v hv => h v (by omega)), h n (by omega)]
theorem sm_congr {S S' : Nat → Bool} : ∀ {n : Nat}, (∀ v, v < n → S v = S' v) → sm S n = sm S' n := by
  intro n
  induction n with
  | zero => intro _; rfl
  | succ n ih => intro h; show sm S n + _ = sm S' n + _; rw [ih (fun v hv => h v (by omega)), h n (by omega)]
theorem cnt_le (S : Nat → Bool) (n : Nat) : cnt S n ≤ n := by
  induction n with
  | zero => exact Nat.le_refl _
  | succ n ih => show cnt S n + _ ≤ _; split <;> omega
theorem cnt_mono (S : Nat → Bool) {m n : Nat} (h : m ≤ n) : cnt S m ≤ cnt S n := by
  induction n with
  | zero => rw [Nat.le_zero.mp h]; exact Nat.le_refl _
  | succ n ih =>
    rcases Nat.lt_or_ge n m with q | q
    · rw [show m = n + 1 by omega]; exact Nat.le_refl _
    · exact Nat.le_trans (ih q) (Nat.le_add_right _ _)
/-- the members, in order -/
def mm (S : Nat → Bool) (n : Nat) : List Nat := (List.range n).filter S
theorem mm_succ (S : Nat → Bool) (n : Nat) : mm S (n + 1) = mm S n ++ (if S n = true then [n] else []) := by
  unfold mm
  rw [List.range_succ, List.filter_append]
  congr 1
  simp [List.filter_cons]
theorem mm_len (S : Nat → Bool) (n : Nat) : (mm S n).length = cnt S n := by
  induction n with
  | zero => rfl
  | succ n ih => rw [mm_succ, List.length_append, ih]; show _ = cnt S n + _; split <;> rfl
theorem mm_at {S : Nat → Bool} {n v : Nat} (hv : v < n) (hS : S v = true) : (mm S n)[cnt S v]? = some v := by
  induction n with
  | zero => exact absurd hv (Nat.not_lt_zero _)
  | succ n ih =>
    rw [mm_succ]
    by_cases h : v = n
    · subst h
      rw [List.getElem?_append_right (by rw [mm_len]; exact Nat.le_refl _), mm_len, Nat.sub_self, if_pos hS]
      rfl
    · have h2 : v < n := by omega
      have h3 := ih h2
      rw [List.getElem?_append_left]
      · exact h3
      · exact (List.getElem?_eq_some_iff.mp h3).1
theorem mm_spec {S : Nat → Bool} {n p v : Nat} (h : (mm S n)[p]? = some v) : v < n ∧ S v = true ∧ cnt S v = p := by
  induction n with
  | zero => simp [mm] at h
  | succ n ih =>
    rw [mm_succ] at h
    by_cases hp : p < (mm S n).length
    · rw [List.getElem?_append_left hp] at h
      obtain ⟨a, b, c⟩ := ih h
      exact ⟨by omega, b, c⟩
    · rw [List.getElem?_append_right (by omega)] at h
      split at h
      · rename_i hS
        have h0 : p - (mm S n).length = 0 := by
          have := (List.getElem?_eq_some_iff.mp h).1
          simp at this
          exact this
        rw [h0] at h
        have e : n = v := Option.some.inj h
        subst e
        rw [mm_len] at hp h0
        exact ⟨by omega, hS, by omega⟩
      · simp at h
theorem mm_none {S : Nat → Bool} {n p : Nat} (h : cnt S n ≤ p) : (mm S n)[p]? = none := by simp [mm_len, h]
/-- an answer that may be none -/
def oI (x : Option Nat) : Int := match x with
  | none => -1
  | some v => v
