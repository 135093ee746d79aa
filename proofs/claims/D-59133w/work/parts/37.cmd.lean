/-! ## commands of a text -/
def rd (σ : AS) (r : Nat) : Nat × Nat := σ.2.1.getD r (0, 0)
theorem rd_at {σ : AS} {r : Nat} (h : r < σ.2.1.length) : σ.2.1[r]? = some (rd σ r) := by simp [rd, List.getD, h]
def a_nx (σ : AS) (r : Nat) : Int := aat (D σ.1 (rd σ r).1) (rd σ r).2
def a_read (σ : AS) (r : Nat) : AS := a_set σ r ((rd σ r).1, (rd σ r).2 + 1) (σ.2.2 + iI 1)
def a_skn (σ : AS) (r mb : Nat) : Nat := min mb (cnt (D σ.1 (rd σ r).1) 1000 - (rd σ r).2)
def a_skip (σ : AS) (r mb : Nat) : AS := a_set σ r ((rd σ r).1, (rd σ r).2 + a_skn σ r mb) σ.2.2
def a_back (σ : AS) (r : Nat) : AS := a_set σ r ((rd σ r).1, 0) σ.2.2
abbrev PS : Type := (Bool × Nat) × AS × Nat
def mkS (ps : Bool × Nat) (σ : AS) (sk : Nat) (can : Bool) (σ' : AS) : PS := if ps.1 = true then (if can = true then (ps, σ', sk) else (ps, σ, sk + 1)) else (ps, σ, sk)
def isL (σ : AS) (k : Nat) : Bool := decide (k < σ.1.length)
def isR (σ : AS) (k : Nat) : Bool := decide (k < σ.2.1.length)
def roomL (σ : AS) : Bool := decide (σ.1.length < 12)
def roomR (σ : AS) : Bool := decide (σ.2.1.length < 4)
def c_s (t : List Nat) (ps : Bool × Nat) (σ : AS) (sk : Nat) : PS := mkS (twoS t (threeS t ps).2 1 99).2 σ sk (roomL σ) (a_make σ (0, (threeS t ps).1, (twoS t (threeS t ps).2 1 99).1, 0))
def c_x (t : List Nat) (ps : Bool × Nat) (σ : AS) (sk : Nat) : PS :=
  mkS (twoS t (dgS t (twoS t ps 0 11).2 1 9).2 0 99).2 σ sk (isL σ (twoS t ps 0 11).1 && roomL σ) (a_make σ (1, (twoS t ps 0 11).1, (dgS t (twoS t ps 0 11).2 1 9).1, (twoS t (dgS t (twoS t ps 0 11).2 1 9).2 0 99).1))
def c_two (t : List Nat) (kd : Nat) (ps : Bool × Nat) (σ : AS) (sk : Nat) : PS :=
  mkS (twoS t (twoS t ps 0 11).2 0 11).2 σ sk (isL σ (twoS t ps 0 11).1 && isL σ (twoS t (twoS t ps 0 11).2 0 11).1 && roomL σ) (a_make σ (kd, (twoS t ps 0 11).1, (twoS t (twoS t ps 0 11).2 0 11).1, 0))
def c_one (t : List Nat) (kd : Nat) (ps : Bool × Nat) (σ : AS) (sk : Nat) : PS := mkS (twoS t ps 0 11).2 σ sk (isL σ (twoS t ps 0 11).1 && roomL σ) (a_make σ (kd, (twoS t ps 0 11).1, (twoS t ps 0 11).1, 0))
def c_e (t : List Nat) (ps : Bool × Nat) (σ : AS) (sk : Nat) : PS := mkS (dgS t (twoS t ps 0 11).2 1 9).2 σ sk (isL σ (twoS t ps 0 11).1 && roomL σ) (a_make σ (6, (twoS t ps 0 11).1, (dgS t (twoS t ps 0 11).2 1 9).1, 0))
def c_r (t : List Nat) (ps : Bool × Nat) (σ : AS) (sk : Nat) : PS := mkS (twoS t ps 0 11).2 σ sk (isL σ (twoS t ps 0 11).1 && roomR σ) (a_begin σ (twoS t ps 0 11).1)
def c_d (ps : Bool × Nat) (σ : AS) (sk : Nat) : PS := mkS ps σ sk (decide (a_why σ = 0)) (a_drop σ)
def c_n (t : List Nat) (ps : Bool × Nat) (σ : AS) (sk : Nat) : PS := mkS (dgS t ps 0 3).2 σ sk (isR σ (dgS t ps 0 3).1 && decide (a_nx σ (dgS t ps 0 3).1 ≠ -1)) (a_read σ (dgS t ps 0 3).1)
def c_k (t : List Nat) (ps : Bool × Nat) (σ : AS) (sk : Nat) : PS := mkS (twoS t (dgS t ps 0 3).2 1 99).2 σ sk (isR σ (dgS t ps 0 3).1) (a_skip σ (dgS t ps 0 3).1 (twoS t (dgS t ps 0 3).2 1 99).1)
def c_z (t : List Nat) (ps : Bool × Nat) (σ : AS) (sk : Nat) : PS := mkS (dgS t ps 0 3).2 σ sk (isR σ (dgS t ps 0 3).1) (a_back σ (dgS t ps 0 3).1)
def c_q (t : List Nat) (ps : Bool × Nat) (σ : AS) (sk : Nat) : PS := mkS (dgS t ps 0 3).2 σ sk (isR σ (dgS t ps 0 3).1) (a_stop σ (dgS t ps 0 3).1)
def cmdS (t : List Nat) (c : Nat) (ps : Bool × Nat) (σ : AS) (sk : Nat) : PS :=
  if c = 115 then c_s t ps σ sk else if c = 120 then c_x t ps σ sk else if c = 106 then c_two t 2 ps σ sk else if c = 104 then c_two t 3 ps σ sk else if c = 119 then c_two t 4 ps σ sk
  else if c = 118 then c_one t 5 ps σ sk else if c = 101 then c_e t ps σ sk else if c = 117 then c_one t 7 ps σ sk else if c = 114 then c_r t ps σ sk else if c = 110 then c_n t ps σ sk
  else if c = 107 then c_k t ps σ sk else if c = 122 then c_z t ps σ sk else if c = 113 then c_q t ps σ sk else if c = 100 then c_d ps σ sk else ((false, ps.2 - 1), σ, sk)
def pLoop (t : List Nat) : Nat → PS → PS
  | 0, x => x
  | n + 1, x => if x.1.1 = true ∧ x.1.2 < t.length then pLoop t n (cmdS t (t.getD x.1.2 0) (true, x.1.2 + 1) x.2.1 x.2.2) else x
def pStart (t : List Nat) : PS := (if t[0]? = some 76 then (true, 1) else (false, 0), ([], [], iI 0), 0)
def parseS (t : List Nat) : PS := pLoop t t.length (pStart t)
def a_err (t : List Nat) : Int := if (parseS t).1.1 = true then -1 else (parseS t).1.2
theorem pLoop_stop (t : List Nat) (n : Nat) {x : PS} (h : ¬ (x.1.1 = true ∧ x.1.2 < t.length)) : pLoop t n x = x := by
  cases n with
  | zero => rfl
  | succ n => show (if _ then _ else _) = _; rw [if_neg h]
theorem pLoop_go (t : List Nat) {n : Nat} {x : PS} (h : x.1.1 = true ∧ x.1.2 < t.length) (hn : t.length - x.1.2 ≤ n) : ∃ n', n = n' + 1 ∧ pLoop t n x = pLoop t n' (cmdS t (t.getD x.1.2 0) (true, x.1.2 + 1) x.2.1 x.2.2) := by
  cases n with
  | zero => omega
  | succ n => exact ⟨n, rfl, by show (if _ then _ else _) = _; rw [if_pos h]⟩
theorem mkS_pos (ps : Bool × Nat) (σ : AS) (sk : Nat) (can : Bool) (σ' : AS) : (mkS ps σ sk can σ').1 = ps := by unfold mkS; split <;> (try split) <;> rfl
theorem mkS_ok {ps : Bool × Nat} {σ σ' : AS} {sk : Nat} {can : Bool} {P : AS → Prop} (h : P σ) (h' : can = true → P σ') : P (mkS ps σ sk can σ').2.1 := by
  unfold mkS; split
  · split
    · rename_i q; exact h' q
    · exact h
  · exact h
theorem cmdS_cases {P : PS → Prop} {t : List Nat} {c : Nat} {ps : Bool × Nat} {σ : AS} {sk : Nat} (a115 : c = 115 → P (c_s t ps σ sk)) (a120 : c = 120 → P (c_x t ps σ sk)) (a106 : c = 106 → P (c_two t 2 ps σ sk)) (a104 : c = 104 → P (c_two t 3 ps σ sk)) (a119 : c = 119 → P (c_two t 4 ps σ sk)) (a118 : c = 118 → P (c_one t 5 ps σ sk)) (a101 : c = 101 → P (c_e t ps σ sk)) (a117 : c = 117 → P (c_one t 7 ps σ sk)) (a114 : c = 114 → P (c_r t ps σ sk)) (a110 : c = 110 → P (c_n t ps σ sk)) (a107 : c = 107 → P (c_k t ps σ sk)) (a122 : c = 122 → P (c_z t ps σ sk)) (a113 : c = 113 → P (c_q t ps σ sk)) (a100 : c = 100 → P (c_d ps σ sk)) (a0 : P ((false, ps.2 - 1), σ, sk)) : P (cmdS t c ps σ sk) := by
  unfold cmdS
  by_cases q115 : c = 115
  · rw [if_pos q115]; exact a115 q115
  rw [if_neg q115]
  by_cases q120 : c = 120
  · rw [if_pos q120]; exact a120 q120
  rw [if_neg q120]
  by_cases q106 : c = 106
  · rw [if_pos q106]; exact a106 q106
  rw [if_neg q106]
  by_cases q104 : c = 104
  · rw [if_pos q104]; exact a104 q104
  rw [if_neg q104]
  by_cases q119 : c = 119
  · rw [if_pos q119]; exact a119 q119
  rw [if_neg q119]
  by_cases q118 : c = 118
  · rw [if_pos q118]; exact a118 q118
  rw [if_neg q118]
  by_cases q101 : c = 101
  · rw [if_pos q101]; exact a101 q101
  rw [if_neg q101]
  by_cases q117 : c = 117
  · rw [if_pos q117]; exact a117 q117
  rw [if_neg q117]
  by_cases q114 : c = 114
  · rw [if_pos q114]; exact a114 q114
  rw [if_neg q114]
  by_cases q110 : c = 110
  · rw [if_pos q110]; exact a110 q110
  rw [if_neg q110]
  by_cases q107 : c = 107
  · rw [if_pos q107]; exact a107 q107
  rw [if_neg q107]
  by_cases q122 : c = 122
  · rw [if_pos q122]; exact a122 q122
  rw [if_neg q122]
  by_cases q113 : c = 113
  · rw [if_pos q113]; exact a113 q113
  rw [if_neg q113]
  by_cases q100 : c = 100
  · rw [if_pos q100]; exact a100 q100
  rw [if_neg q100]
  exact a0
theorem cmd_pos {t : List Nat} {c p : Nat} {σ : AS} {sk : Nat} (hp : p + 1 ≤ t.length) : ((cmdS t c (true, p + 1) σ sk).1.1 = true → p + 1 ≤ (cmdS t c (true, p + 1) σ sk).1.2) ∧ (cmdS t c (true, p + 1) σ sk).1.2 ≤ t.length := by
  have d := @dgS_pos t
  have w := @twoS_pos t
  have h := @threeS_pos t
  refine cmdS_cases (P := fun x => (x.1.1 = true → p + 1 ≤ x.1.2) ∧ x.1.2 ≤ t.length) ?_ ?_ ?_ ?_ ?_ ?_ ?_ ?_ ?_ ?_ ?_ ?_ ?_ ?_ ?_
  all_goals (try intro _)
  all_goals (try (first | unfold c_s | unfold c_x | unfold c_two | unfold c_one | unfold c_e | unfold c_r | unfold c_d | unfold c_n | unfold c_k | unfold c_z | unfold c_q))
  all_goals (try rw [mkS_pos])
  · have a := h (ps := (true, p + 1)); have b := w (ps := (threeS t (true, p + 1)).2) (lo := 1) (hi := 99); exact ⟨fun _ => Nat.le_trans a.1 b.1, b.2 (a.2 hp)⟩
  · have a := w (ps := (true, p + 1)) (lo := 0) (hi := 11); have b := d (ps := (twoS t (true, p + 1) 0 11).2) (lo := 1) (hi := 9); have g := w (ps := (dgS t (twoS t (true, p + 1) 0 11).2 1 9).2) (lo := 0) (hi := 99); exact ⟨fun _ => Nat.le_trans a.1 (Nat.le_trans b.1 g.1), g.2 (b.2.2 (a.2 hp))⟩
  · have a := w (ps := (true, p + 1)) (lo := 0) (hi := 11); have b := w (ps := (twoS t (true, p + 1) 0 11).2) (lo := 0) (hi := 11); exact ⟨fun _ => Nat.le_trans a.1 b.1, b.2 (a.2 hp)⟩
  · have a := w (ps := (true, p + 1)) (lo := 0) (hi := 11); have b := w (ps := (twoS t (true, p + 1) 0 11).2) (lo := 0) (hi := 11); exact ⟨fun _ => Nat.le_trans a.1 b.1, b.2 (a.2 hp)⟩
  · have a := w (ps := (true, p + 1)) (lo := 0) (hi := 11); have b := w (ps := (twoS t (true, p + 1) 0 11).2) (lo := 0) (hi := 11); exact ⟨fun _ => Nat.le_trans a.1 b.1, b.2 (a.2 hp)⟩
  · have a := w (ps := (true, p + 1)) (lo := 0) (hi := 11); exact ⟨fun _ => a.1, a.2 hp⟩
  · have a := w (ps := (true, p + 1)) (lo := 0) (hi := 11); have b := d (ps := (twoS t (true, p + 1) 0 11).2) (lo := 1) (hi := 9); exact ⟨fun _ => Nat.le_trans a.1 b.1, b.2.2 (a.2 hp)⟩
  · have a := w (ps := (true, p + 1)) (lo := 0) (hi := 11); exact ⟨fun _ => a.1, a.2 hp⟩
  · have a := w (ps := (true, p + 1)) (lo := 0) (hi := 11); exact ⟨fun _ => a.1, a.2 hp⟩
  · have a := d (ps := (true, p + 1)) (lo := 0) (hi := 3); exact ⟨fun _ => a.1, a.2.2 hp⟩
  · have a := d (ps := (true, p + 1)) (lo := 0) (hi := 3); have b := w (ps := (dgS t (true, p + 1) 0 3).2) (lo := 1) (hi := 99); exact ⟨fun _ => Nat.le_trans a.1 b.1, b.2 (a.2.2 hp)⟩
  · have a := d (ps := (true, p + 1)) (lo := 0) (hi := 3); exact ⟨fun _ => a.1, a.2.2 hp⟩
  · have a := d (ps := (true, p + 1)) (lo := 0) (hi := 3); exact ⟨fun _ => a.1, a.2.2 hp⟩
  · exact ⟨fun _ => Nat.le_refl _, hp⟩
  · exact ⟨fun q => by simp at q, by simp; omega⟩
/-! ## a state stays well made -/
theorem okA_0 : okA ([], [], iI 0) := ⟨by simp, fun k x h => by simp at h, by simp, fun i y h => by simp at h⟩
theorem okA_make {σ : AS} (h : okA σ) (hn : σ.1.length < 12) {x : Q4} (hx : okQ σ.1.length x) : okA (a_make σ x) := by
  obtain ⟨h1, h2, h3, h4⟩ := h
  refine ⟨by simp [a_make]; omega, fun k y hy => ?_, h3, fun i y hy => ?_⟩
  · have hy2 : (σ.1 ++ [x])[k]? = some y := hy
    rcases Nat.lt_trichotomy k σ.1.length with hlt | rfl | hgt
    · rw [List.getElem?_append_left hlt] at hy2; exact h2 k y hy2
    · rw [List.getElem?_append_right (Nat.le_refl _), Nat.sub_self] at hy2; cases hy2; exact hx
    · rw [List.getElem?_append_right (by omega)] at hy2
      have := (List.getElem?_eq_some_iff.mp hy2).1
      simp at this; omega
  · obtain ⟨a, b⟩ := h4 i y hy
    refine ⟨by simp [a_make]; omega, ?_⟩
    show y.2 ≤ cnt (D (σ.1 ++ [x]) y.1) 1000
    rw [D_app _ _ a]; exact b
theorem why_0 {σ : AS} (h : a_why σ = 0) : 1 ≤ σ.1.length ∧ ∀ (i : Nat) (y : Nat × Nat), σ.2.1[i]? = some y → y.1 + 1 ≠ σ.1.length := by
  unfold a_why at h
  split at h
  · cases h
  · rename_i q
    split at h
    · cases h
    · refine ⟨by omega, fun i y hy he => q (List.any_eq_true.mpr ⟨y, List.mem_of_getElem? hy, decide_eq_true he⟩)⟩
theorem okA_drop {σ : AS} (h : okA σ) (hw : a_why σ = 0) : okA (a_drop σ) := by
  obtain ⟨h1, h2, h3, h4⟩ := h
  obtain ⟨w1, w2⟩ := why_0 hw
  refine ⟨by simp [a_drop]; omega, fun k y hy => ?_, h3, fun i y hy => ?_⟩
  · have hy2 : σ.1.dropLast[k]? = some y := hy
    rw [List.getElem?_dropLast] at hy2
    split at hy2
    · exact h2 k y hy2
    · cases hy2
  · obtain ⟨a, b⟩ := h4 i y hy
    have := w2 i y hy
    refine ⟨by simp [a_drop]; omega, ?_⟩
    show y.2 ≤ cnt (D σ.1.dropLast y.1) 1000
    rw [D_dropLast _ (by omega)]; exact b
theorem okA_begin {σ : AS} (h : okA σ) {k : Nat} (hk : k < σ.1.length) (hr : σ.2.1.length < 4) : okA (a_begin σ k) := by
  obtain ⟨h1, h2, h3, h4⟩ := h
  refine ⟨h1, h2, by simp [a_begin]; omega, fun i y hy => ?_⟩
  have hy2 : (σ.2.1 ++ [(k, 0)])[i]? = some y := hy
  rcases Nat.lt_trichotomy i σ.2.1.length with hlt | rfl | hgt
  · rw [List.getElem?_append_left hlt] at hy2; exact h4 i y hy2
  · rw [List.getElem?_append_right (Nat.le_refl _), Nat.sub_self] at hy2; cases hy2; exact ⟨hk, Nat.zero_le _⟩
  · rw [List.getElem?_append_right (by omega)] at hy2
    have := (List.getElem?_eq_some_iff.mp hy2).1
    simp at this; omega
theorem okA_set {σ : AS} (h : okA σ) {r so : Nat} {ct : Int32} (hr : r < σ.2.1.length) (hs : so ≤ cnt (D σ.1 (rd σ r).1) 1000) : okA (a_set σ r ((rd σ r).1, so) ct) := by
  obtain ⟨h1, h2, h3, h4⟩ := h
  refine ⟨h1, h2, by simp [a_set]; omega, fun i y hy => ?_⟩
  have hy2 : (σ.2.1.set r ((rd σ r).1, so))[i]? = some y := hy
  by_cases hi : i = r
  · subst hi
    rw [List.getElem?_set_self hr] at hy2
    cases hy2
    exact ⟨(h4 i _ (rd_at hr)).1, hs⟩
  · rw [List.getElem?_set_ne (Ne.symm hi)] at hy2
    exact h4 i y hy2
theorem okA_stop {σ : AS} (h : okA σ) {r : Nat} : okA (a_stop σ r) := by
  obtain ⟨h1, h2, h3, h4⟩ := h
  refine ⟨h1, h2, Nat.le_trans (List.length_eraseIdx_le _ _) h3, fun i y hy => ?_⟩
  have hy2 : (σ.2.1.eraseIdx r)[i]? = some y := hy
  rw [List.getElem?_eraseIdx] at hy2
  split at hy2
  · exact h4 i y hy2
  · exact h4 (i + 1) y hy2
theorem okA_rd {σ : AS} (h : okA σ) {r : Nat} (hr : r < σ.2.1.length) : (rd σ r).1 < σ.1.length ∧ (rd σ r).2 ≤ cnt (D σ.1 (rd σ r).1) 1000 := h.2.2.2 r _ (rd_at hr)
theorem aat_lt {S : Nat → Bool} {n : Nat} (h : aat S n ≠ -1) : n < cnt S 1000 := by
  rcases Nat.lt_or_ge n (cnt S 1000) with q | q
  · exact q
  · refine absurd ?_ h
    unfold aat
    rw [if_neg (by omega), Int.toNat_natCast, mm_none q]; rfl
theorem okA_read {σ : AS} (h : okA σ) {r : Nat} (hr : r < σ.2.1.length) (hn : a_nx σ r ≠ -1) : okA (a_read σ r) := okA_set h hr (aat_lt hn)
theorem okA_skip {σ : AS} (h : okA σ) {r mb : Nat} (hr : r < σ.2.1.length) : okA (a_skip σ r mb) := okA_set h hr (by have := (okA_rd h hr).2; unfold a_skn; omega)
theorem okA_back {σ : AS} (h : okA σ) {r : Nat} (hr : r < σ.2.1.length) : okA (a_back σ r) := okA_set h hr (Nat.zero_le _)
theorem okQ_of {k kd a b d : Nat} (h1 : kd ≤ 7) (h2 : a ≤ 999) (h3 : b ≤ 99) (h4 : d ≤ 99) (h5 : kd = 0 → 1 ≤ b) (h6 : kd ≠ 0 → a < k) (h7 : kd = 1 ∨ kd = 6 → 1 ≤ b ∧ b ≤ 9) (h8 : 2 ≤ kd ∧ kd ≤ 4 → b < k) : okQ k (kd, a, b, d) := ⟨h1, h2, h3, h4, h5, h6, h7, h8⟩
theorem cmd_okA {t : List Nat} {c : Nat} {ps : Bool × Nat} {σ : AS} {sk : Nat} (h : okA σ) : okA (cmdS t c ps σ sk).2.1 := by
  have w11 : ∀ q, (twoS t q 0 11).1 ≤ 11 := fun q => (twoS_bd (by decide) (by decide) (by decide) (by decide)).2
  have d19 : ∀ q, 1 ≤ (dgS t q 1 9).1 ∧ (dgS t q 1 9).1 ≤ 9 := fun q => dgS_bd (by decide)
  have w99 : ∀ q, 1 ≤ (twoS t q 1 99).1 ∧ (twoS t q 1 99).1 ≤ 99 := fun q => twoS_bd (by decide) (by decide) (by decide) (by decide)
  have w09 : ∀ q, (twoS t q 0 99).1 ≤ 99 := fun q => (twoS_bd (by decide) (by decide) (by decide) (by decide)).2
  refine cmdS_cases (P := fun x => okA x.2.1) ?_ ?_ ?_ ?_ ?_ ?_ ?_ ?_ ?_ ?_ ?_ ?_ ?_ ?_ ?_
  all_goals (try intro _)
  · refine mkS_ok (P := okA) h fun q => ?_
    have a := threeS_bd (t := t) (ps := ps); have b := w99 (threeS t ps).2
    exact okA_make h (of_decide_eq_true q) (okQ_of (by omega) (by omega) (by omega) (by omega) (by omega) (by omega) (by omega) (by omega))
  · refine mkS_ok (P := okA) h fun q => ?_
    rw [Bool.and_eq_true] at q
    have hl := of_decide_eq_true q.1
    have b := d19 (twoS t ps 0 11).2; have d := w09 (dgS t (twoS t ps 0 11).2 1 9).2; have a := w11 ps
    exact okA_make h (of_decide_eq_true q.2) (okQ_of (by omega) (by omega) (by omega) (by omega) (by omega) (by omega) (by omega) (by omega))
  · refine mkS_ok (P := okA) h fun q => ?_
    rw [Bool.and_eq_true, Bool.and_eq_true] at q
    have hl := of_decide_eq_true q.1.1
    have hl2 := of_decide_eq_true q.1.2
    have a := w11 ps; have b := w11 (twoS t ps 0 11).2
    exact okA_make h (of_decide_eq_true q.2) (okQ_of (by omega) (by omega) (by omega) (by omega) (by omega) (by omega) (by omega) (by omega))
  · refine mkS_ok (P := okA) h fun q => ?_
    rw [Bool.and_eq_true, Bool.and_eq_true] at q
    have hl := of_decide_eq_true q.1.1
    have hl2 := of_decide_eq_true q.1.2
    have a := w11 ps; have b := w11 (twoS t ps 0 11).2
    exact okA_make h (of_decide_eq_true q.2) (okQ_of (by omega) (by omega) (by omega) (by omega) (by omega) (by omega) (by omega) (by omega))
  · refine mkS_ok (P := okA) h fun q => ?_
    rw [Bool.and_eq_true, Bool.and_eq_true] at q
    have hl := of_decide_eq_true q.1.1
    have hl2 := of_decide_eq_true q.1.2
    have a := w11 ps; have b := w11 (twoS t ps 0 11).2
    exact okA_make h (of_decide_eq_true q.2) (okQ_of (by omega) (by omega) (by omega) (by omega) (by omega) (by omega) (by omega) (by omega))
  · refine mkS_ok (P := okA) h fun q => ?_
    rw [Bool.and_eq_true] at q
    have hl := of_decide_eq_true q.1
    have a := w11 ps
    exact okA_make h (of_decide_eq_true q.2) (okQ_of (by omega) (by omega) (by omega) (by omega) (by omega) (by omega) (by omega) (by omega))
  · refine mkS_ok (P := okA) h fun q => ?_
    rw [Bool.and_eq_true] at q
    have hl := of_decide_eq_true q.1
    have a := w11 ps; have b := d19 (twoS t ps 0 11).2
    exact okA_make h (of_decide_eq_true q.2) (okQ_of (by omega) (by omega) (by omega) (by omega) (by omega) (by omega) (by omega) (by omega))
  · refine mkS_ok (P := okA) h fun q => ?_
    rw [Bool.and_eq_true] at q
    have hl := of_decide_eq_true q.1
    have a := w11 ps
    exact okA_make h (of_decide_eq_true q.2) (okQ_of (by omega) (by omega) (by omega) (by omega) (by omega) (by omega) (by omega) (by omega))
  · refine mkS_ok (P := okA) h fun q => ?_
    rw [Bool.and_eq_true] at q
    exact okA_begin h (of_decide_eq_true q.1) (of_decide_eq_true q.2)
  · refine mkS_ok (P := okA) h fun q => ?_
    rw [Bool.and_eq_true] at q
    exact okA_read h (of_decide_eq_true q.1) (of_decide_eq_true q.2)
  · exact mkS_ok (P := okA) h fun q => okA_skip h (of_decide_eq_true q)
  · exact mkS_ok (P := okA) h fun q => okA_back h (of_decide_eq_true q)
  · exact mkS_ok (P := okA) h fun q => okA_stop h
  · exact mkS_ok (P := okA) h fun q => okA_drop h (of_decide_eq_true q)
  · exact h
/-! ## the reference's number, step by step -/
theorem fU_0 {j : Nat} (h : j ≤ 3) (h2 : (fU j : Int) ≤ 0) : j = 0 := by
  obtain rfl | rfl | rfl | rfl : j = 0 ∨ j = 1 ∨ j = 2 ∨ j = 3 := by omega
  all_goals first | rfl | (simp [fU] at h2)
theorem fU_pos {j : Nat} (h2 : (0 : Int) < fU j) : 1 ≤ j := by
  rcases j with _ | j
  · simp [fU] at h2
  · omega
theorem fU_div {j : Nat} (h : j ≤ 3) : fU j / 10 = fU (j - 1) := by
  obtain rfl | rfl | rfl | rfl : j = 0 ∨ j = 1 ∨ j = 2 ∨ j = 3 := by omega
  all_goals rfl
theorem fU_le {j : Nat} : fU j ≤ 100 := by unfold fU; split <;> decide
theorem fgS_n {t : List Nat} {lo hi j v p : Nat} (hj : 1 ≤ j) (hc : t.length ≤ p) : fgS t lo hi j v p = (0, false, p) := by
  obtain ⟨i, rfl⟩ : ∃ i, j = i + 1 := ⟨j - 1, by omega⟩
  have : t[p]? = none := by simp; omega
  simp only [fgS, this]
theorem fgS_y {t : List Nat} {lo hi j v p c w : Nat} (hj : 1 ≤ j) (hc : t[p]? = some c) (hw : w = (c - 48) * fU j) (h1 : 48 ≤ c) (h2 : c ≤ 57) (h3 : v + w ≤ hi) (h4 : lo ≤ v + w + fU j - 1) : fgS t lo hi j v p = fgS t lo hi (j - 1) (v + w) (p + 1) := by
  obtain ⟨i, rfl⟩ : ∃ i, j = i + 1 := ⟨j - 1, by omega⟩
  subst hw
  simp only [fgS, hc]
  rw [if_pos ⟨h1, h2, h3, h4⟩]; rfl
theorem fgS_f {t : List Nat} {lo hi j v p c w : Nat} (hj : 1 ≤ j) (hc : t[p]? = some c) (hw : w = (c - 48) * fU j) (h : ¬ (48 ≤ c ∧ c ≤ 57 ∧ v + w ≤ hi ∧ lo ≤ v + w + fU j - 1)) : fgS t lo hi j v p = (0, false, p) := by
  obtain ⟨i, rfl⟩ : ∃ i, j = i + 1 := ⟨j - 1, by omega⟩
  subst hw
  simp only [fgS, hc]
  rw [if_neg h]
def TX (tx : Nat → Int32) (t : List Nat) : Prop := (∀ (i c : Nat), t[i]? = some c → tx i = iI (c : Nat)) ∧ (∀ (i c : Nat), t[i]? = some c → c ≤ 255) ∧ t.length ≤ 120
theorem mv_f {a : Nat × Bool × Nat} : mv a = -1 ↔ a.2.1 = false := by
  unfold mv
  cases h : a.2.1 with
  | true => simp
  | false => simp
theorem mv_t {a : Nat × Bool × Nat} (h : a.2.1 = true) : mv a = a.1 := by unfold mv; rw [if_pos h]
theorem mv_ne {a : Nat × Bool × Nat} (h : mv a ≠ -1) : a.2.1 = true := by
  cases h2 : a.2.1 with
  | true => rfl
  | false => exact absurd (mv_f.mpr h2) h
theorem mv_rng {a : Nat × Bool × Nat} {n : Nat} (h : a.1 ≤ n) : -1 ≤ mv a ∧ mv a ≤ n := by unfold mv; split <;> omega
theorem chain2 {t : List Nat} {a : Nat × Bool × Nat} {lo hi : Nat} (hl : lo ≤ 9) (hh : hi ≤ 99) : (if mv a = -1 then (-1 : Int) else mv (fgS t lo hi 2 0 a.2.2)) = mv (twoS t a.2 lo hi) ∧ (if mv a = -1 then a.2.2 else (fgS t lo hi 2 0 a.2.2).2.2) = (twoS t a.2 lo hi).2.2 := by
  obtain ⟨v, b, p⟩ := a
  cases b with
  | false =>
    have h : mv (v, false, p) = -1 := rfl
    rw [if_pos h, if_pos h]
    have e := twoS_off (t := t) (ps := (false, p)) (lo := lo) (hi := hi) rfl
    exact ⟨by rw [mv_f.mpr (by rw [e])], by rw [e]⟩
  | true =>
    have h : ¬ mv (v, true, p) = -1 := by show ¬ ((v : Int) = -1); omega
    rw [if_neg h, if_neg h]
    have e := fg2 t (p := p) hl hh
    exact ⟨e.1, by rw [e.2]⟩
theorem chain1 {t : List Nat} {a : Nat × Bool × Nat} {lo hi : Nat} (hh : hi ≤ 9) : (if mv a = -1 then (-1 : Int) else mv (fgS t lo hi 1 0 a.2.2)) = mv (dgS t a.2 lo hi) ∧ (if mv a = -1 then a.2.2 else (fgS t lo hi 1 0 a.2.2).2.2) = (dgS t a.2 lo hi).2.2 := by
  obtain ⟨v, b, p⟩ := a
  cases b with
  | false =>
    have h : mv (v, false, p) = -1 := rfl
    rw [if_pos h, if_pos h]
    have e := dgS_off (t := t) (ps := (false, p)) (lo := lo) (hi := hi) rfl
    exact ⟨by rw [mv_f.mpr (by rw [e])], by rw [e]⟩
  | true =>
    have h : ¬ mv (v, true, p) = -1 := by show ¬ ((v : Int) = -1); omega
    rw [if_neg h, if_neg h]
    have e := fg1 t (p := p) (lo := lo) hh
    exact ⟨e.1, by rw [e.2]⟩
theorem twoS_on {t : List Nat} {ps : Bool × Nat} {lo hi : Nat} (h : (twoS t ps lo hi).2.1 = true) : ps.1 = true := by
  cases h2 : ps.1 with
  | true => rfl
  | false => rw [twoS_off h2] at h; cases h
theorem dgS_on {t : List Nat} {ps : Bool × Nat} {lo hi : Nat} (h : (dgS t ps lo hi).2.1 = true) : ps.1 = true := by
  cases h2 : ps.1 with
  | true => rfl
  | false => rw [dgS_off h2] at h; cases h
theorem mkS_no {ps : Bool × Nat} {σ σ' : AS} {sk : Nat} {can : Bool} (h : ps.1 = false) : mkS ps σ sk can σ' = (ps, σ, sk) := by unfold mkS; rw [if_neg (by rw [h]; decide)]
theorem mkS_can {ps : Bool × Nat} {σ σ' : AS} {sk : Nat} {can : Bool} (h : ps.1 = true) (hc : can = true) : mkS ps σ sk can σ' = (ps, σ', sk) := by unfold mkS; rw [if_pos h, if_pos hc]
theorem mkS_not {ps : Bool × Nat} {σ σ' : AS} {sk : Nat} {can : Bool} (h : ps.1 = true) (hc : can = false) : mkS ps σ sk can σ' = (ps, σ, sk + 1) := by unfold mkS; rw [if_pos h, if_neg (by rw [hc]; decide)]
theorem sign_cases (c : Nat) : c = 115 ∨ c = 120 ∨ c = 106 ∨ c = 104 ∨ c = 119 ∨ c = 118 ∨ c = 101 ∨ c = 117 ∨ c = 114 ∨ c = 110 ∨ c = 107 ∨ c = 122 ∨ c = 113 ∨ c = 100 ∨ c = 102 ∨ c = 103 ∨ c = 105 ∨ c = 108 ∨ c = 109 ∨ c = 111 ∨ c = 112 ∨ c = 116 ∨ c = 121 ∨ (c < 100 ∨ 122 < c) := by omega
theorem cmdS_out {t : List Nat} {c : Nat} {ps : Bool × Nat} {σ : AS} {sk : Nat} (h : c < 100 ∨ 122 < c) : cmdS t c ps σ sk = ((false, ps.2 - 1), σ, sk) := by
  refine cmdS_cases (P := fun x => x = ((false, ps.2 - 1), σ, sk)) ?_ ?_ ?_ ?_ ?_ ?_ ?_ ?_ ?_ ?_ ?_ ?_ ?_ ?_ rfl
  all_goals (intro q; omega)
theorem why_le (σ : AS) : a_why σ ≤ 2 := by
  unfold a_why
  split
  · exact Nat.le_refl _
  · split <;> omega
