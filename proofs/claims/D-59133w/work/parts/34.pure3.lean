/-! ## what is done to a state -/
def a_make (σ : AS) (x : Q4) : AS := (σ.1 ++ [x], σ.2.1, σ.2.2)
def a_drop (σ : AS) : AS := (σ.1.dropLast, σ.2.1, σ.2.2)
def a_begin (σ : AS) (k : Nat) : AS := (σ.1, σ.2.1 ++ [(k, 0)], σ.2.2)
def a_set (σ : AS) (r : Nat) (y : Nat × Nat) (ct : Int32) : AS := (σ.1, σ.2.1.set r y, ct)
def a_stop (σ : AS) (r : Nat) : AS := (σ.1, σ.2.1.eraseIdx r, σ.2.2)
/-- why the last list may not be dropped -/
def a_why (σ : AS) : Nat := if σ.2.1.any (fun y => decide (y.1 + 1 = σ.1.length)) = true then 2 else if σ.1.length = 0 then 1 else 0
theorem Tab.make {f g : Nat → Int32} {σ : AS} (h : Tab f σ) (hn : σ.1.length < 12) (hr : σ.2.1.length ≤ 4) {x : Q4} (h0 : g 0 = iI ((σ.1.length + 1 : Nat) : Int))
    (h1 : g (3 + 4 * σ.1.length) = iI (x.1 : Nat)) (h2 : g (3 + 4 * σ.1.length + 1) = iI (x.2.1 : Nat)) (h3 : g (3 + 4 * σ.1.length + 2) = iI (x.2.2.1 : Nat)) (h4 : g (3 + 4 * σ.1.length + 3) = iI (x.2.2.2 : Nat))
    (hk : ∀ j, j ≠ 0 → (j < 3 + 4 * σ.1.length ∨ 3 + 4 * σ.1.length + 4 ≤ j) → g j = f j) : Tab g (a_make σ x) := by
  obtain ⟨t0, t1, t2, t3, t4⟩ := h
  refine ⟨by rw [h0]; simp [a_make], (hk 1 (by decide) (by omega)).trans t1, (hk 2 (by decide) (by omega)).trans t2, fun k y hy => ?_, fun i y hy => ?_⟩
  · have hy2 : (σ.1 ++ [x])[k]? = some y := hy
    rcases Nat.lt_trichotomy k σ.1.length with hlt | rfl | hgt
    · rw [List.getElem?_append_left hlt] at hy2
      obtain ⟨a, b, c, d⟩ := t3 k y hy2
      exact ⟨(hk _ (by omega) (by omega)).trans a, (hk _ (by omega) (by omega)).trans b, (hk _ (by omega) (by omega)).trans c, (hk _ (by omega) (by omega)).trans d⟩
    · rw [List.getElem?_append_right (Nat.le_refl _), Nat.sub_self] at hy2
      cases hy2
      exact ⟨h1, h2, h3, h4⟩
    · rw [List.getElem?_append_right (by omega)] at hy2
      have := (List.getElem?_eq_some_iff.mp hy2).1
      simp at this
      omega
  · have hi : i < 4 := Nat.lt_of_lt_of_le (List.getElem?_eq_some_iff.mp hy).1 hr
    obtain ⟨a, b⟩ := t4 i y hy
    exact ⟨(hk _ (by omega) (by omega)).trans a, (hk _ (by omega) (by omega)).trans b⟩
theorem Tab.drop {f g : Nat → Int32} {σ : AS} (h : Tab f σ) (hn : 1 ≤ σ.1.length) (h0 : g 0 = iI ((σ.1.length - 1 : Nat) : Int)) (hk : ∀ j, j ≠ 0 → g j = f j) : Tab g (a_drop σ) := by
  obtain ⟨t0, t1, t2, t3, t4⟩ := h
  refine ⟨by rw [h0]; simp [a_drop], (hk 1 (by decide)).trans t1, (hk 2 (by decide)).trans t2, fun k y hy => ?_, fun i y hy => ?_⟩
  · have hy2 : σ.1.dropLast[k]? = some y := hy
    rw [List.getElem?_dropLast] at hy2
    split at hy2
    · obtain ⟨a, b, c, d⟩ := t3 k y hy2
      exact ⟨(hk _ (by omega)).trans a, (hk _ (by omega)).trans b, (hk _ (by omega)).trans c, (hk _ (by omega)).trans d⟩
    · cases hy2
  · obtain ⟨a, b⟩ := t4 i y hy
    exact ⟨(hk _ (by omega)).trans a, (hk _ (by omega)).trans b⟩
theorem Tab.begin {f g : Nat → Int32} {σ : AS} (h : Tab f σ) (hn : σ.1.length ≤ 12) (hr : σ.2.1.length < 4) {k : Nat} (h0 : g 1 = iI ((σ.2.1.length + 1 : Nat) : Int))
    (h1 : g (51 + 2 * σ.2.1.length) = iI (k : Nat)) (h2 : g (51 + 2 * σ.2.1.length + 1) = iI 0) (hk : ∀ j, j ≠ 1 → (j < 51 + 2 * σ.2.1.length ∨ 51 + 2 * σ.2.1.length + 2 ≤ j) → g j = f j) : Tab g (a_begin σ k) := by
  obtain ⟨t0, t1, t2, t3, t4⟩ := h
  refine ⟨(hk 0 (by decide) (by omega)).trans t0, by rw [h0]; simp [a_begin], (hk 2 (by decide) (by omega)).trans t2, fun k y hy => ?_, fun i y hy => ?_⟩
  · have hi : k < 12 := Nat.lt_of_lt_of_le (List.getElem?_eq_some_iff.mp hy).1 hn
    obtain ⟨a, b, c, d⟩ := t3 k y hy
    exact ⟨(hk _ (by omega) (by omega)).trans a, (hk _ (by omega) (by omega)).trans b, (hk _ (by omega) (by omega)).trans c, (hk _ (by omega) (by omega)).trans d⟩
  · have hy2 : (σ.2.1 ++ [(k, 0)])[i]? = some y := hy
    rcases Nat.lt_trichotomy i σ.2.1.length with hlt | rfl | hgt
    · rw [List.getElem?_append_left hlt] at hy2
      obtain ⟨a, b⟩ := t4 i y hy2
      exact ⟨(hk _ (by omega) (by omega)).trans a, (hk _ (by omega) (by omega)).trans b⟩
    · rw [List.getElem?_append_right (Nat.le_refl _), Nat.sub_self] at hy2
      cases hy2
      exact ⟨h1, h2⟩
    · rw [List.getElem?_append_right (by omega)] at hy2
      have := (List.getElem?_eq_some_iff.mp hy2).1
      simp at this
      omega
theorem Tab.set {f g : Nat → Int32} {σ : AS} (h : Tab f σ) (hn : σ.1.length ≤ 12) {r : Nat} (hr : r < σ.2.1.length) {k so : Nat} {ct : Int32} (h0 : g 2 = ct)
    (h1 : f (51 + 2 * r) = iI (k : Nat)) (h2 : g (51 + 2 * r + 1) = iI (so : Nat)) (hk : ∀ j, j ≠ 2 → j ≠ 51 + 2 * r + 1 → g j = f j) : Tab g (a_set σ r (k, so) ct) := by
  obtain ⟨t0, t1, t2, t3, t4⟩ := h
  refine ⟨(hk 0 (by decide) (by omega)).trans t0, by rw [hk 1 (by decide) (by omega), t1]; simp [a_set], h0, fun k y hy => ?_, fun i y hy => ?_⟩
  · have hi : k < 12 := Nat.lt_of_lt_of_le (List.getElem?_eq_some_iff.mp hy).1 hn
    obtain ⟨a, b, c, d⟩ := t3 k y hy
    exact ⟨(hk _ (by omega) (by omega)).trans a, (hk _ (by omega) (by omega)).trans b, (hk _ (by omega) (by omega)).trans c, (hk _ (by omega) (by omega)).trans d⟩
  · have hy2 : (σ.2.1.set r (k, so))[i]? = some y := hy
    by_cases hi : i = r
    · subst hi
      rw [List.getElem?_set_self hr] at hy2
      cases hy2
      exact ⟨(hk _ (by omega) (by omega)).trans h1, h2⟩
    · rw [List.getElem?_set_ne (Ne.symm hi)] at hy2
      obtain ⟨a, b⟩ := t4 i y hy2
      exact ⟨(hk _ (by omega) (by omega)).trans a, (hk _ (by omega) (by omega)).trans b⟩
theorem Tab.stop {f g : Nat → Int32} {σ : AS} (h : Tab f σ) (hn : σ.1.length ≤ 12) {r : Nat} (hr : r < σ.2.1.length) (h0 : g 1 = iI ((σ.2.1.length - 1 : Nat) : Int))
    (h1 : ∀ j, j ≠ 1 → j < 51 + 2 * r → g j = f j) (h2 : ∀ j, 51 + 2 * r ≤ j → j < 51 + 2 * (σ.2.1.length - 1) → g j = f (j + 2)) : Tab g (a_stop σ r) := by
  obtain ⟨t0, t1, t2, t3, t4⟩ := h
  refine ⟨(h1 0 (by decide) (by omega)).trans t0, by rw [h0]; simp [a_stop, List.length_eraseIdx, hr], (h1 2 (by decide) (by omega)).trans t2, fun k y hy => ?_, fun i y hy => ?_⟩
  · have hi : k < 12 := Nat.lt_of_lt_of_le (List.getElem?_eq_some_iff.mp hy).1 hn
    obtain ⟨a, b, c, d⟩ := t3 k y hy
    exact ⟨(h1 _ (by omega) (by omega)).trans a, (h1 _ (by omega) (by omega)).trans b, (h1 _ (by omega) (by omega)).trans c, (h1 _ (by omega) (by omega)).trans d⟩
  · have hy2 : (σ.2.1.eraseIdx r)[i]? = some y := hy
    have hlen := (List.getElem?_eq_some_iff.mp hy2).1
    rw [List.length_eraseIdx, if_pos hr] at hlen
    rw [List.getElem?_eraseIdx] at hy2
    split at hy2
    · obtain ⟨a, b⟩ := t4 i y hy2
      exact ⟨(h1 _ (by omega) (by omega)).trans a, (h1 _ (by omega) (by omega)).trans b⟩
    · obtain ⟨a, b⟩ := t4 (i + 1) y hy2
      refine ⟨(h2 _ (by omega) (by omega)).trans ?_, (h2 _ (by omega) (by omega)).trans ?_⟩
      · rw [← a]; congr 1
      · rw [← b]; congr 1
theorem why_2 {σ : AS} {r : Nat} {y : Nat × Nat} (hy : σ.2.1[r]? = some y) (h : (y.1 : Int) = (σ.1.length : Int) - 1) : a_why σ = 2 := by
  have : σ.2.1.any (fun y => decide (y.1 + 1 = σ.1.length)) = true := List.any_eq_true.mpr ⟨y, List.mem_of_getElem? hy, decide_eq_true (by omega)⟩
  unfold a_why; rw [if_pos this]
theorem why_no {σ : AS} (h : ∀ i y, i < σ.2.1.length → σ.2.1[i]? = some y → (y.1 : Int) ≠ (σ.1.length : Int) - 1) : a_why σ = if σ.1.length = 0 then 1 else 0 := by
  have : ¬ σ.2.1.any (fun y => decide (y.1 + 1 = σ.1.length)) = true := by
    intro q
    obtain ⟨y, h1, h2⟩ := List.any_eq_true.mp q
    obtain ⟨i, hi⟩ := List.getElem?_of_mem h1
    exact h i y (List.getElem?_eq_some_iff.mp hi).1 hi (by have := of_decide_eq_true h2; omega)
  unfold a_why; rw [if_neg this]
