/-! ===== the layer: cells by name; one world for every method ===== -/
abbrev Nm : Type := Nat × Nat
abbrev Om : Type := Nm → Option (Nat × va_E)
def om_up (ω : Om) (n : Nm) (x : Nat × va_E) : Om := fun k => if k = n then some x else ω k
theorem om_s {ω : Om} {n : Nm} {x : Nat × va_E} : om_up ω n x n = some x := if_pos rfl
theorem om_n {ω : Om} {n k : Nm} {x : Nat × va_E} (h : k ≠ n) : om_up ω n x k = ω k := if_neg h
/-- the slots of a heap -/
def hs (H : Heap) : Nat := (H.toList.map (fun c => c.slots.size)).sum
theorem hs_same {H H1 : Heap} (hz : H1.size = H.size) (h : ∀ (q : Nat) (c : Cell), H[q]? = some c → ∃ c' : Cell, H1[q]? = some c' ∧ c'.slots.size = c.slots.size) : hs H1 = hs H := by
  unfold hs
  congr 1
  apply List.ext_getElem?
  intro q
  rw [List.getElem?_map, List.getElem?_map, Array.getElem?_toList, Array.getElem?_toList]
  cases hc : H[q]? with
  | some c =>
    obtain ⟨c', h1, h2⟩ := h q c hc
    rw [h1]
    simp [h2]
  | none =>
    have h1 : H.size ≤ q := by simpa using hc
    have h2 : H1[q]? = none := by simp; omega
    rw [h2]
theorem hs_grow {H H1 : Heap} {c : Cell} (hz : H1.size = H.size + 1) (ho : ∀ q : Nat, q < H.size → H1[q]? = H[q]?) (hc : H1[H.size]? = some c) : hs H1 = hs H + c.slots.size := by
  have e : H1.toList = H.toList ++ [c] := by
    apply List.ext_getElem?
    intro q
    rw [Array.getElem?_toList]
    rcases Nat.lt_trichotomy q H.size with h | h | h
    · rw [List.getElem?_append_left (by simpa using h), Array.getElem?_toList, ho q h]
    · subst h
      rw [hc, List.getElem?_append_right (by simp)]
      simp
    · have h2 : H1[q]? = none := by simp; omega
      rw [h2]
      symm
      simp
      omega
  unfold hs
  rw [e]
  simp
theorem hs_drop {H0 H : Heap} (h1 : H0.size ≤ H.size) (h2 : ∀ (q : Nat) (c : Cell), H0[q]? = some c → ∃ c' : Cell, H[q]? = some c' ∧ c'.slots.size = c.slots.size) : hs H = hs H0 + ((H.toList.drop H0.size).map (fun c => c.slots.size)).sum := by
  have e : (H.toList.take H0.size).map (fun c => c.slots.size) = H0.toList.map (fun c => c.slots.size) := by
    apply List.ext_getElem?
    intro q
    rw [List.getElem?_map, List.getElem?_map, List.getElem?_take]
    cases hc : H0[q]? with
    | some c =>
      have hq : q < H0.size := (Array.getElem?_eq_some_iff.mp hc).1
      obtain ⟨c', g1, g2⟩ := h2 q c hc
      rw [if_pos hq, Array.getElem?_toList, Array.getElem?_toList, g1, hc]
      simp [g2]
    | none =>
      have hq : H0.size ≤ q := by simpa using hc
      rw [if_neg (by omega), Array.getElem?_toList, hc]
  show (H.toList.map (fun c => c.slots.size)).sum = (H0.toList.map (fun c => c.slots.size)).sum + _
  rw [← e, ← List.sum_append, ← List.map_append, List.take_append_drop]
/-! ## what is fixed through a run: the class numbers, the array classes, (the law's first new cell, all cells, all slots), (the empty array, the cache's array, the cache) -/
abbrev GT : Type := va_G × (Nat → Nat) × (Nat × Nat × Nat) × (Nat × Nat × (Nat → Nat))
def gB (G : GT) : Nat := G.2.2.1.1
def gNC (G : GT) : Nat := G.2.2.1.2.1
def gNS (G : GT) : Nat := G.2.2.1.2.2
def gE (G : GT) : Nat := G.2.2.2.1
def gCA (G : GT) : Nat := G.2.2.2.2.1
def gCo (G : GT) : Nat → Nat := G.2.2.2.2.2
def gA (G : GT) : Nat → Prop := fun q => gB G ≤ q
def gty (k : Nat) : FieldType := match k with
  | 0 => .int
  | 1 => .boolean
  | 2 => .char
  | 3 => .long
  | 4 => .object "java/lang/Object"
  | _ => .object "RuleLists$Shelf"
def gtys (G : GT) : List (ClassId × FieldType) := (List.range 6).map (fun k => (G.2.1 k, gty k))
theorem gtys_at (G : GT) {k : Nat} (hk : k < 6) : (gtys G)[k]? = some (G.2.1 k, gty k) := by
  unfold gtys
  rw [List.getElem?_map, List.getElem?_range hk]
  rfl
/-- the heap's picture but its size -/
def Hq (G : GT) (ω : Om) (H : Heap) : Prop := (∀ (n : Nm) (x : Nat × va_E), ω n = some x → va_at G.1 gcl x H ∧ gA G x.1) ∧ (∀ (n n' : Nm) (x x' : Nat × va_E), ω n = some x → ω n' = some x' → x.1 = x'.1 → n = n')
/-- the heap's picture: kc cells and ks slots may still be made -/
def Hp (G : GT) (ω : Om) (kc ks : Nat) (H : Heap) : Prop := Hq G ω H ∧ gB G ≤ H.size ∧ H.size + kc ≤ gNC G ∧ hs H + ks ≤ gNS G
theorem Hp.less {G : GT} {ω : Om} {kc ks kc' ks' : Nat} {H : Heap} (h : Hp G ω kc ks H) (h1 : kc' ≤ kc) (h2 : ks' ≤ ks) : Hp G ω kc' ks' H := ⟨h.1, h.2.1, by have := h.2.2.1; omega, by have := h.2.2.2; omega⟩
theorem Hp.at {G : GT} {ω : Om} {kc ks : Nat} {H : Heap} (h : Hp G ω kc ks H) {n : Nm} {x : Nat × va_E} (hω : ω n = some x) : va_at G.1 gcl x H := (h.1.1 n x hω).1
theorem Hp.one {G : GT} {ω : Om} {kc ks : Nat} {H : Heap} (h : Hp G ω kc ks H) {n : Nm} {x : Nat × va_E} (hω : ω n = some x) : va_P G.1 gcl [x] H := by
  intro k q hq
  match k, hq with
  | 0, hq => cases hq; exact h.at hω
  | k + 1, hq => simp at hq
theorem Hp.lt {G : GT} {ω : Om} {kc ks : Nat} {H : Heap} (h : Hp G ω kc ks H) {n : Nm} {x : Nat × va_E} (hω : ω n = some x) : x.1 < H.size := (h.at hω).lt
theorem va_at.size {D : va_G} {cl : List vw_C} {x : Nat × va_E} {H : Heap} (h : va_at D cl x H) : ∃ c : Cell, H[x.1]? = some c := by
  obtain ⟨a, e | o⟩ := x
  · exact ⟨_, h⟩
  · obtain ⟨r, -, cell, h1, -⟩ := h
    exact ⟨cell, h1⟩
theorem Hp.put {G : GT} {ω : Om} {kc ks : Nat} {H H1 : Heap} {n : Nm} {a : Nat} {e e' : va_E} (h : Hp G ω kc ks H) (hω : ω n = some (a, e)) (hat : va_at G.1 gcl (a, e') H1) (hz : H1.size = H.size) (ho : ∀ q : Nat, q ≠ a → H1[q]? = H[q]?)
    (hsz : ∀ c : Cell, H[a]? = some c → ∃ c' : Cell, H1[a]? = some c' ∧ c'.slots.size = c.slots.size) : Hp G (om_up ω n (a, e')) kc ks H1 := by
  have hh : hs H1 = hs H := hs_same hz (fun q c hc => by
    by_cases hq : q = a
    · subst hq; exact hsz c hc
    · exact ⟨c, by rw [ho q hq]; exact hc, rfl⟩)
  refine ⟨⟨fun k x hx => ?_, fun k k' x x' hx hx' he => ?_⟩, by rw [hz]; exact h.2.1, by rw [hz]; exact h.2.2.1, by rw [hh]; exact h.2.2.2⟩
  · by_cases hk : k = n
    · subst hk
      rw [om_s] at hx
      cases hx
      exact ⟨hat, (h.1.1 _ _ hω).2⟩
    · rw [om_n hk] at hx
      refine ⟨(h.at hx).kept (ho _ fun q => hk (h.1.2 _ _ _ _ hx hω q)), (h.1.1 _ _ hx).2⟩
  · have key : ∀ (j : Nm) (y : Nat × va_E), om_up ω n (a, e') j = some y → ∃ y', ω j = some y' ∧ y'.1 = y.1 := by
      intro j y hy
      by_cases hj : j = n
      · subst hj
        rw [om_s] at hy
        cases hy
        exact ⟨_, hω, rfl⟩
      · rw [om_n hj] at hy
        exact ⟨y, hy, rfl⟩
    obtain ⟨y, g1, g2⟩ := key _ _ hx
    obtain ⟨y', g1', g2'⟩ := key _ _ hx'
    exact h.1.2 _ _ _ _ g1 g1' (by rw [g2, g2', he])
/-- a new cell under any name -/
theorem Hp.new {G : GT} {ω : Om} {kc ks w : Nat} {H H1 : Heap} (h : Hp G ω (kc + 1) (ks + w) H) (n : Nm) {e : va_E} {cell : Cell} (hat : va_at G.1 gcl (H.size, e) H1) (hz : H1.size = H.size + 1) (ho : ∀ q : Nat, q < H.size → H1[q]? = H[q]?)
    (hc : H1[H.size]? = some cell) (hw : cell.slots.size = w) : Hp G (om_up ω n (H.size, e)) kc ks H1 := by
  have hh : hs H1 = hs H + w := by rw [hs_grow hz ho hc, hw]
  have h3 := h.2.2.1
  have h4 := h.2.2.2
  refine ⟨⟨fun k x hx => ?_, fun k k' x x' hx hx' he => ?_⟩, by rw [hz]; exact Nat.le_succ_of_le h.2.1, by rw [hz]; omega, by rw [hh]; omega⟩
  · by_cases hk : k = n
    · subst hk
      rw [om_s] at hx
      cases hx
      exact ⟨hat, h.2.1⟩
    · rw [om_n hk] at hx
      exact ⟨(h.at hx).kept (ho _ (h.lt hx)), (h.1.1 _ _ hx).2⟩
  · by_cases hk : k = n
    · by_cases hk' : k' = n
      · rw [hk, hk']
      · rw [hk, om_s] at hx
        cases hx
        rw [om_n hk'] at hx'
        have := h.lt hx'
        simp at he
        omega
    · rw [om_n hk] at hx
      by_cases hk' : k' = n
      · rw [hk', om_s] at hx'
        cases hx'
        have := h.lt hx
        simp at he
        omega
      · rw [om_n hk'] at hx'
        exact h.1.2 _ _ _ _ hx hx' he
/-- two names, one cell: one name -/
theorem Hp.inj {G : GT} {ω : Om} {kc ks : Nat} {H : Heap} (h : Hp G ω kc ks H) {n n' : Nm} {a : Nat} {e e' : va_E} (h1 : ω n = some (a, e)) (h2 : ω n' = some (a, e')) : n = n' := h.1.2 _ _ _ _ h1 h2 rfl
/-- fewer names -/
theorem Hp.drop {G : GT} {ω ω' : Om} {kc ks : Nat} {H : Heap} (h : Hp G ω kc ks H) (hs : ∀ n x, ω' n = some x → ω n = some x) : Hp G ω' kc ks H :=
  ⟨⟨fun n x hx => h.1.1 n x (hs n x hx), fun n n' x x' hx hx' he => h.1.2 n n' x x' (hs n x hx) (hs n' x' hx') he⟩, h.2⟩
