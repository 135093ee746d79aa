/-! ## the reference: small things -/
set_option maxHeartbeats 4000000 in
theorem m_in (l : Launch) (G : GT) (ω0 : Om) (kc ks : Nat) {v lo hi : Int} (hv : lR v) (hlo : lR lo) (hhi : lR hi) : Ct l G yX3_in cX3_in 6 (some .boolean) 1 12 [.long (lI v), .long (lI lo), .long (lI hi)] ω0 kc ks (pu ω0 kc ks (some (.int (bI (decide (lo ≤ v ∧ v ≤ hi)))))) := by
  refine Ct.start (by decide) (Nat.le_of_ble_eq_true rfl) ?_
  intro p_ e_ s m_ below_ meth_ c_m H locs ls hx hb hr hlk hml hown hnm hts hK hZ hP hS hl
  have hown : s.vm.findClass RX3 = some m_.cls := hown
  have hl : lv_has ls 6 [(0, .long (lI v)), (2, .long (lI lo)), (4, .long (lI hi))] := hl
  refine lv_lload_n hx hb dX3_in_0 rfl (lv_at hl 0 rfl) ?_
  refine lv_lload_n hx hb dX3_in_1 rfl (lv_at hl 1 rfl) ?_
  refine g_lcmp_lt (tgt := 17) hx hb dX3_in_2 dX3_in_3 (by decide) (by omega) (by omega) (fun c_2 => ?_) (fun c_2 => ?_)
  · refine lv_iconst (v := iI 0) hx hb dX3_in_17 rfl ?_
    refine g_iret hx hb hr hlk hP hS (v := (iI 0)) rfl dX3_in_18 ?_
    exact ⟨bI_df (by omega), rfl, rfl, rfl⟩
  · refine lv_lload_n hx hb dX3_in_6 rfl (lv_at hl 0 rfl) ?_
    refine lv_lload hx hb dX3_in_7 (lv_at hl 2 rfl) ?_
    refine g_lcmp_gt (tgt := 17) hx hb dX3_in_9 dX3_in_10 (by decide) (by omega) (by omega) (fun c_9 => ?_) (fun c_9 => ?_)
    · refine lv_iconst (v := iI 0) hx hb dX3_in_17 rfl ?_
      refine g_iret hx hb hr hlk hP hS (v := (iI 0)) rfl dX3_in_18 ?_
      exact ⟨bI_df (by omega), rfl, rfl, rfl⟩
    · refine lv_iconst (v := iI 1) hx hb dX3_in_13 rfl ?_
      refine lv_goto (tgt := 18) hx hb dX3_in_14 (by decide) ?_
      refine g_iret hx hb hr hlk hP hS (v := (iI 1)) rfl dX3_in_18 ?_
      exact ⟨bI_dt (by omega), rfl, rfl, rfl⟩

set_option maxHeartbeats 4000000 in
theorem m_isList (l : Launch) (G : GT) (ω0 : Om) (kc ks : Nat) {ns : Nm} {as : Nat} {f : Nat → Int32} {n : Nat} {z : Int} (h_s : ω0 ns = some (as, .inl (G.2.1 0, 59, .inl (f)))) (h0 : f 0 = iI n) (hn : n ≤ 12) (hz : iR z) : Ct l G yX3_isList cX3_isList 2 (some .boolean) 2 37 [.ref as, .int (iI z)] ω0 kc ks (pu ω0 kc ks (some (.int (bI (decide (0 ≤ z ∧ z ≤ (n : Int) - 1)))))) := by
  refine Ct.start (by decide) (Nat.le_of_ble_eq_true rfl) ?_
  intro p_ e_ s m_ below_ meth_ c_m H locs ls hx hb hr hlk hml hown hnm hts hK hZ hP hS hl
  have hown : s.vm.findClass RX3 = some m_.cls := hown
  have hl : lv_has ls 2 [(0, .ref as), (1, .int (iI z))] := hl
  refine lv_iload_n hx hb dX3_isList_0 rfl (lv_at hl 1 rfl) ?_
  refine g_i2l hx hb dX3_isList_1 (by omega) ?_
  refine lv_lconst (v := lI 0) hx hb dX3_isList_2 rfl ?_
  refine lv_aload_n hx hb dX3_isList_3 rfl (lv_at hl 0 rfl) ?_
  refine lv_iconst (v := iI 0) hx hb dX3_isList_4 rfl ?_
  refine g_iald hx hb hK hP h_s 0 (by first | rfl | omega) (by first | decide | omega) (by first | decide | omega) (v := .int (iI n)) (by rw [h0]) dX3_isList_5 ?_
  refine lv_iconst (v := iI 1) hx hb dX3_isList_6 rfl ?_
  refine g_isub hx hb dX3_isList_7 rfl ?_
  refine g_i2l hx hb dX3_isList_8 (by omega) ?_
  refine g_S (As := [.long (lI z), .long (lI 0), .long (lI (n - 1))]) (rest := []) hx hb hml hown hts hK hZ hP hS (m_in l G _ _ _ (by omega) (by omega) (by omega)) 3 (lw_S q1572 q1573 q59 q1574) (by decide +kernel) (by decide) (by decide) rfl hl.1 rfl (Nat.le_of_ble_eq_true rfl) dX3_isList_9 (fun v ω kc_1 ks_1 H locs q_1 hP hS => ?_)
  obtain ⟨rfl, rfl, rfl, rfl⟩ := q_1
  refine W.eq (g2 := F0 m_ 12 ls [.int (bI ((decide (0 ≤ z ∧ z ≤ (n : Int) - 1))))]) rfl ?_
  refine g_iret hx hb hr hlk hP hS (v := (bI ((decide (0 ≤ z ∧ z ≤ (n : Int) - 1))))) (bI_nar _) dX3_isList_12 ?_
  exact ⟨rfl, rfl, rfl, rfl⟩

set_option maxHeartbeats 4000000 in
theorem m_isReader (l : Launch) (G : GT) (ω0 : Om) (kc ks : Nat) {ns : Nm} {as : Nat} {f : Nat → Int32} {n : Nat} {z : Int} (h_s : ω0 ns = some (as, .inl (G.2.1 0, 59, .inl (f)))) (h0 : f 1 = iI n) (hn : n ≤ 4) (hz : iR z) : Ct l G yX3_isReader cX3_isReader 2 (some .boolean) 2 37 [.ref as, .int (iI z)] ω0 kc ks (pu ω0 kc ks (some (.int (bI (decide (0 ≤ z ∧ z ≤ (n : Int) - 1)))))) := by
  refine Ct.start (by decide) (Nat.le_of_ble_eq_true rfl) ?_
  intro p_ e_ s m_ below_ meth_ c_m H locs ls hx hb hr hlk hml hown hnm hts hK hZ hP hS hl
  have hown : s.vm.findClass RX3 = some m_.cls := hown
  have hl : lv_has ls 2 [(0, .ref as), (1, .int (iI z))] := hl
  refine lv_iload_n hx hb dX3_isReader_0 rfl (lv_at hl 1 rfl) ?_
  refine g_i2l hx hb dX3_isReader_1 (by omega) ?_
  refine lv_lconst (v := lI 0) hx hb dX3_isReader_2 rfl ?_
  refine lv_aload_n hx hb dX3_isReader_3 rfl (lv_at hl 0 rfl) ?_
  refine lv_iconst (v := iI 1) hx hb dX3_isReader_4 rfl ?_
  refine g_iald hx hb hK hP h_s 1 (by first | rfl | omega) (by first | decide | omega) (by first | decide | omega) (v := .int (iI n)) (by rw [h0]) dX3_isReader_5 ?_
  refine lv_iconst (v := iI 1) hx hb dX3_isReader_6 rfl ?_
  refine g_isub hx hb dX3_isReader_7 rfl ?_
  refine g_i2l hx hb dX3_isReader_8 (by omega) ?_
  refine g_S (As := [.long (lI z), .long (lI 0), .long (lI (n - 1))]) (rest := []) hx hb hml hown hts hK hZ hP hS (m_in l G _ _ _ (by omega) (by omega) (by omega)) 3 (lw_S q1572 q1573 q59 q1574) (by decide +kernel) (by decide) (by decide) rfl hl.1 rfl (Nat.le_of_ble_eq_true rfl) dX3_isReader_9 (fun v ω kc_1 ks_1 H locs q_1 hP hS => ?_)
  obtain ⟨rfl, rfl, rfl, rfl⟩ := q_1
  refine W.eq (g2 := F0 m_ 12 ls [.int (bI ((decide (0 ≤ z ∧ z ≤ (n : Int) - 1))))]) rfl ?_
  refine g_iret hx hb hr hlk hP hS (v := (bI ((decide (0 ≤ z ∧ z ≤ (n : Int) - 1))))) (bI_nar _) dX3_isReader_12 ?_
  exact ⟨rfl, rfl, rfl, rfl⟩

set_option maxHeartbeats 4000000 in
theorem m_copyState (l : Launch) (G : GT) (ω0 : Om) (kc ks : Nat) {nf nt : Nm} {af at_ : Nat} {f g : Nat → Int32} {pf pt n1 n2 : Nat} (h_f : ω0 nf = some (af, .inl (G.2.1 0, n1, .inl (f)))) (h_t : ω0 nt = some (at_, .inl (G.2.1 0, n2, .inl (g)))) (hne : nf ≠ nt) (h1 : pf + 59 ≤ n1) (h2 : pt + 59 ≤ n2) (h3 : n1 < 100000) (h4 : n2 < 100000) : Ct l G yX3_copyState cX3_copyState 5 none 1 12 [.ref af, .int (iI ((pf : Int))), .ref at_, .int (iI ((pt : Int)))] ω0 kc ks (fun v ω' kc' ks' => v = none ∧ kc = kc' ∧ ks = ks' ∧ (∃ g' : Nat → Int32, ω' nt = some (at_, .inl (G.2.1 0, n2, .inl g')) ∧ (∀ j, j < 59 → g' (pt + j) = f (pf + j)) ∧ (∀ j, (j < pt ∨ pt + 59 ≤ j) → g' j = g j)) ∧ Fr (fun k => k = nt) ω0 ω') := by
  refine Ct.start (by decide) (Nat.le_of_ble_eq_true rfl) ?_
  intro p_ e_ s m_ below_ meth_ c_m H locs ls hx hb hr hlk hml hown hnm hts hK hZ hP hS hl
  have hown : s.vm.findClass RX3 = some m_.cls := hown
  have hl : lv_has ls 5 [(0, .ref af), (1, .int (iI ((pf : Int)))), (2, .ref at_), (3, .int (iI ((pt : Int))))] := hl
  have hF : Fr ((fun k => k = nt)) ω0 ω0 := Fr.rf
  refine lv_iconst (v := iI 0) hx hb dX3_copyState_0 rfl ?_
  refine lv_istore (lv' := [(4, .int (iI 0)), (0, .ref af), (1, .int (iI ((pf : Int)))), (2, .ref at_), (3, .int (iI ((pt : Int))))]) hx hb dX3_copyState_1 hl (by decide) rfl (fun ls hl => ?_)
  have loop_3 : ∀ (nn : Nat) (k : Nat) (gk : Nat → Int32), (k ≤ 59) → (∀ j, j < k → gk (pt + j) = f (pf + j)) → (∀ j, (j < pt ∨ pt + k ≤ j) → gk j = g j) → (59 - k) < nn → ∀ (ω : Om) (H : Heap) (locs : List Loc), ω nf = some (af, .inl (G.2.1 0, n1, .inl (f))) → ω nt = some (at_, .inl (G.2.1 0, n2, .inl (gk))) → Fr ((fun k => k = nt)) ω0 ω → Hp G ω kc ks H → va_S (gA G) s.heap H locs →  ∀ ls : Array Slot, lv_has ls 5 [(0, .ref af), (1, .int (iI ((pf : Int)))), (2, .ref at_), (3, .int (iI ((pt : Int)))), (4, .int (iI ((k : Int))))] → gW p_ l e_ G 1 12 s m_ [.ref af, .int (iI ((pf : Int))), .ref at_, .int (iI ((pt : Int)))] below_ meth_ c_m (fun v ω' kc' ks' => v = none ∧ kc = kc' ∧ ks = ks' ∧ (∃ g' : Nat → Int32, ω' nt = some (at_, .inl (G.2.1 0, n2, .inl g')) ∧ (∀ j, j < 59 → g' (pt + j) = f (pf + j)) ∧ (∀ j, (j < pt ∨ pt + 59 ≤ j) → g' j = g j)) ∧ Fr (fun k => k = nt) ω0 ω') H locs 3 ls [] := by
    intro nn
    induction nn with
    | zero => intro k gk hk hg1 hg2 hlt; exact absurd hlt (Nat.not_lt_zero _)
    | succ nn ih_3 =>
      intro k gk hk hg1 hg2 hlt ω H locs h_f h_t hF hP hS ls hl
      refine lv_iload hx hb dX3_copyState_3 (lv_at hl 4 rfl) ?_
      refine lv_bipush (v := iI 59) hx hb dX3_copyState_5 rfl ?_
      refine g_icmp_ge (tgt := 28) hx hb dX3_copyState_7 (by decide) (by omega) (by omega) (fun c_7 => ?_) (fun c_7 => ?_)
      · refine g_vret hx hb hr hlk hP hS dX3_copyState_28 ?_
        exact ⟨rfl, rfl, rfl, ⟨gk, h_t, fun j hj => hg1 j (by omega), fun j hj => hg2 j (by omega)⟩, hF⟩
      · refine lv_aload_n hx hb dX3_copyState_10 rfl (lv_at hl 2 rfl) ?_
        refine lv_iload_n hx hb dX3_copyState_11 rfl (lv_at hl 3 rfl) ?_
        refine lv_iload hx hb dX3_copyState_12 (lv_at hl 4 rfl) ?_
        refine g_iadd hx hb dX3_copyState_14 (z := ((pt + k : Nat) : Int)) (by omega) ?_
        refine lv_aload_n hx hb dX3_copyState_15 rfl (lv_at hl 0 rfl) ?_
        refine lv_iload_n hx hb dX3_copyState_16 rfl (lv_at hl 1 rfl) ?_
        refine lv_iload hx hb dX3_copyState_17 (lv_at hl 4 rfl) ?_
        refine g_iadd hx hb dX3_copyState_19 (z := ((pf + k : Nat) : Int)) (by omega) ?_
        refine g_iald hx hb hK hP h_f (pf + k) (by first | rfl | omega) (by first | decide | omega) (by first | decide | omega) (v := .int ((f (pf + k)))) rfl dX3_copyState_20 ?_
        refine g_iast hx hb hK hP hS h_t (pt + k) (by first | rfl | omega) (by first | decide | omega) (by first | decide | omega) dX3_copyState_21 (fun ω H locs e_1 n_1 hP hS => ?_)
        have h_f := (n_1 _ hne).trans h_f
        have h_t : ω nt = some (at_, .inl (G.2.1 0, n2, .inl (upd gk (pt + k) ((f (pf + k)))))) := e_1
        have hF := hF.put n_1 rfl
        refine lv_iinc (v := iI (((k + 1 : Nat) : Int))) (lv' := [(4, .int (iI (((k + 1 : Nat) : Int)))), (0, .ref af), (1, .int (iI ((pf : Int)))), (2, .ref at_), (3, .int (iI ((pt : Int))))]) hx hb dX3_copyState_22 hl (k := 4) rfl (iI_add _ _ |>.trans (congrArg iI (by omega))) (by decide) rfl (fun ls hl => ?_)
        refine lv_goto (tgt := 3) hx hb dX3_copyState_25 (by decide) ?_
        have hp1 : ∀ j, j < k + 1 → upd gk (pt + k) (f (pf + k)) (pt + j) = f (pf + j) := by
          intro j hj
          by_cases hjk : j = k
          · subst hjk; simp [upd]
          · rw [upd, if_neg (by omega)]; exact hg1 j (by omega)
        have hp2 : ∀ j, (j < pt ∨ pt + (k + 1) ≤ j) → upd gk (pt + k) (f (pf + k)) j = g j := by
          intro j hj
          rw [upd, if_neg (by omega)]; exact hg2 j (by omega)
        exact ih_3 (k + 1) (upd gk (pt + k) (f (pf + k))) (by omega) (fun j hj => hp1 j hj) (fun j hj => hp2 j hj) (by omega) _ _ _ h_f h_t hF hP hS ls (lv_sub hl [1, 2, 3, 4, 0] rfl)
  exact loop_3 _ 0 g (by omega) (fun j hj => absurd hj (Nat.not_lt_zero _)) (fun _ _ => rfl) (Nat.lt_succ_self _) _ _ _ h_f h_t hF hP hS ls (lv_sub hl [1, 2, 3, 4, 0] rfl)

set_option maxHeartbeats 4000000 in
theorem m_clear (l : Launch) (G : GT) (ω0 : Om) (kc ks : Nat) {ns : Nm} {as : Nat} {f : Nat → Int32} (h_s : ω0 ns = some (as, .inl (G.2.1 0, 59, .inl (f)))) : Ct l G yX3_clear cX3_clear 2 none 1 12 [.ref as] ω0 kc ks (fun v ω' kc' ks' => v = none ∧ kc = kc' ∧ ks = ks' ∧ (∃ g : Nat → Int32, ω' ns = some (as, .inl (G.2.1 0, 59, .inl g)) ∧ (∀ j, j < 59 → g j = iI 0)) ∧ Fr (fun k => k = ns) ω0 ω') := by
  refine Ct.start (by decide) (Nat.le_of_ble_eq_true rfl) ?_
  intro p_ e_ s m_ below_ meth_ c_m H locs ls hx hb hr hlk hml hown hnm hts hK hZ hP hS hl
  have hown : s.vm.findClass RX3 = some m_.cls := hown
  have hl : lv_has ls 2 [(0, .ref as)] := hl
  have hF : Fr ((fun k => k = ns)) ω0 ω0 := Fr.rf
  refine lv_iconst (v := iI 0) hx hb dX3_clear_0 rfl ?_
  refine lv_istore_n (lv' := [(1, .int (iI 0)), (0, .ref as)]) hx hb dX3_clear_1 rfl hl (by decide) rfl (fun ls hl => ?_)
  have loop_2 : ∀ (nn : Nat) (k : Nat) (gk : Nat → Int32), (k ≤ 59) → (∀ j, j < k → gk j = iI 0) → (59 - k) < nn → ∀ (ω : Om) (H : Heap) (locs : List Loc), ω ns = some (as, .inl (G.2.1 0, 59, .inl (gk))) → Fr ((fun k => k = ns)) ω0 ω → Hp G ω kc ks H → va_S (gA G) s.heap H locs →  ∀ ls : Array Slot, lv_has ls 2 [(0, .ref as), (1, .int (iI ((k : Int))))] → gW p_ l e_ G 1 12 s m_ [.ref as] below_ meth_ c_m (fun v ω' kc' ks' => v = none ∧ kc = kc' ∧ ks = ks' ∧ (∃ g : Nat → Int32, ω' ns = some (as, .inl (G.2.1 0, 59, .inl g)) ∧ (∀ j, j < 59 → g j = iI 0)) ∧ Fr (fun k => k = ns) ω0 ω') H locs 2 ls [] := by
    intro nn
    induction nn with
    | zero => intro k gk hk hg1 hlt; exact absurd hlt (Nat.not_lt_zero _)
    | succ nn ih_2 =>
      intro k gk hk hg1 hlt ω H locs h_s hF hP hS ls hl
      refine lv_iload_n hx hb dX3_clear_2 rfl (lv_at hl 1 rfl) ?_
      refine lv_bipush (v := iI 59) hx hb dX3_clear_3 rfl ?_
      refine g_icmp_ge (tgt := 18) hx hb dX3_clear_5 (by decide) (by omega) (by omega) (fun c_5 => ?_) (fun c_5 => ?_)
      · refine g_vret hx hb hr hlk hP hS dX3_clear_18 ?_
        exact ⟨rfl, rfl, rfl, ⟨gk, h_s, fun j hj => hg1 j (by omega)⟩, hF⟩
      · refine lv_aload_n hx hb dX3_clear_8 rfl (lv_at hl 0 rfl) ?_
        refine lv_iload_n hx hb dX3_clear_9 rfl (lv_at hl 1 rfl) ?_
        refine lv_iconst (v := iI 0) hx hb dX3_clear_10 rfl ?_
        refine g_iast hx hb hK hP hS h_s k (by first | rfl | omega) (by first | decide | omega) (by first | decide | omega) dX3_clear_11 (fun ω H locs e_1 n_1 hP hS => ?_)
        have h_s : ω ns = some (as, .inl (G.2.1 0, 59, .inl (upd gk k (iI 0)))) := e_1
        have hF := hF.put n_1 rfl
        refine lv_iinc (v := iI ((k : Int) + 1)) (lv' := [(1, .int (iI ((k : Int) + 1))), (0, .ref as)]) hx hb dX3_clear_12 hl (k := 1) rfl (iI_add _ _ |>.trans rfl) (by decide) rfl (fun ls hl => ?_)
        refine lv_goto (tgt := 2) hx hb dX3_clear_15 (by decide) ?_
        exact ih_2 (k + 1) (upd gk k (iI 0)) (by omega) (fun j hj => by rw [upd]; split; rfl; exact hg1 j (by omega)) (by omega) _ _ _ h_s hF hP hS ls (lv_sub hl [1, 0] rfl)
  exact loop_2 _ 0 f (by omega) (fun j hj => absurd hj (Nat.not_lt_zero _)) (Nat.lt_succ_self _) _ _ _ h_s hF hP hS ls (lv_sub hl [1, 0] rfl)

set_option maxHeartbeats 4000000 in
theorem m_of (l : Launch) (G : GT) (ω0 : Om) (kc ks : Nat) {ns : Nm} {as : Nat} {f : Nat → Int32} {k w : Nat} {v : Int32} (h_s : ω0 ns = some (as, .inl (G.2.1 0, 59, .inl (f)))) (hk : k < 12) (hw : w < 4) (hv : f (3 + 4 * k + w) = v) : Ct l G yX3_of cX3_of 3 (some .int) 1 12 [.ref as, .int (iI ((k : Int))), .int (iI ((w : Int)))] ω0 kc ks (pu ω0 kc ks (some (.int v))) := by
  refine Ct.start (by decide) (Nat.le_of_ble_eq_true rfl) ?_
  intro p_ e_ s m_ below_ meth_ c_m H locs ls hx hb hr hlk hml hown hnm hts hK hZ hP hS hl
  have hown : s.vm.findClass RX3 = some m_.cls := hown
  have hl : lv_has ls 3 [(0, .ref as), (1, .int (iI ((k : Int)))), (2, .int (iI ((w : Int))))] := hl
  refine lv_aload_n hx hb dX3_of_0 rfl (lv_at hl 0 rfl) ?_
  refine lv_iconst (v := iI 3) hx hb dX3_of_1 rfl ?_
  refine lv_iconst (v := iI 4) hx hb dX3_of_2 rfl ?_
  refine lv_iload_n hx hb dX3_of_3 rfl (lv_at hl 1 rfl) ?_
  refine g_imul hx hb dX3_of_4 rfl ?_
  refine g_iadd hx hb dX3_of_5 rfl ?_
  refine lv_iload_n hx hb dX3_of_6 rfl (lv_at hl 2 rfl) ?_
  refine g_iadd hx hb dX3_of_7 (z := ((3 + 4 * k + w : Nat) : Int)) (by omega) ?_
  refine g_iald hx hb hK hP h_s (3 + 4 * k + w) (by first | rfl | omega) (by first | decide | omega) (by first | decide | omega) (v := .int v) (by rw [hv]) dX3_of_8 ?_
  refine g_iret hx hb hr hlk hP hS (v := v) rfl dX3_of_9 ?_
  exact ⟨rfl, rfl, rfl, rfl⟩

set_option maxHeartbeats 4000000 in
theorem m_listOfReader (l : Launch) (G : GT) (ω0 : Om) (kc ks : Nat) {ns : Nm} {as : Nat} {f : Nat → Int32} {k : Nat} {v : Int32} (h_s : ω0 ns = some (as, .inl (G.2.1 0, 59, .inl (f)))) (hk : k < 4) (hv : f (51 + 2 * k) = v) : Ct l G yX3_listOfReader cX3_listOfReader 2 (some .int) 1 12 [.ref as, .int (iI ((k : Int)))] ω0 kc ks (pu ω0 kc ks (some (.int v))) := by
  refine Ct.start (by decide) (Nat.le_of_ble_eq_true rfl) ?_
  intro p_ e_ s m_ below_ meth_ c_m H locs ls hx hb hr hlk hml hown hnm hts hK hZ hP hS hl
  have hown : s.vm.findClass RX3 = some m_.cls := hown
  have hl : lv_has ls 2 [(0, .ref as), (1, .int (iI ((k : Int))))] := hl
  refine lv_aload_n hx hb dX3_listOfReader_0 rfl (lv_at hl 0 rfl) ?_
  refine lv_bipush (v := iI 51) hx hb dX3_listOfReader_1 rfl ?_
  refine lv_iconst (v := iI 2) hx hb dX3_listOfReader_3 rfl ?_
  refine lv_iload_n hx hb dX3_listOfReader_4 rfl (lv_at hl 1 rfl) ?_
  refine g_imul hx hb dX3_listOfReader_5 rfl ?_
  refine g_iadd hx hb dX3_listOfReader_6 (z := ((51 + 2 * k : Nat) : Int)) (by omega) ?_
  refine g_iald hx hb hK hP h_s (51 + 2 * k) (by first | rfl | omega) (by first | decide | omega) (by first | decide | omega) (v := .int v) (by rw [hv]) dX3_listOfReader_7 ?_
  refine g_iret hx hb hr hlk hP hS (v := v) rfl dX3_listOfReader_8 ?_
  exact ⟨rfl, rfl, rfl, rfl⟩

set_option maxHeartbeats 4000000 in
theorem m_readBy (l : Launch) (G : GT) (ω0 : Om) (kc ks : Nat) {ns : Nm} {as : Nat} {f : Nat → Int32} {k : Nat} {v : Int32} (h_s : ω0 ns = some (as, .inl (G.2.1 0, 59, .inl (f)))) (hk : k < 4) (hv : f (51 + 2 * k + 1) = v) : Ct l G yX3_readBy cX3_readBy 2 (some .int) 1 12 [.ref as, .int (iI ((k : Int)))] ω0 kc ks (pu ω0 kc ks (some (.int v))) := by
  refine Ct.start (by decide) (Nat.le_of_ble_eq_true rfl) ?_
  intro p_ e_ s m_ below_ meth_ c_m H locs ls hx hb hr hlk hml hown hnm hts hK hZ hP hS hl
  have hown : s.vm.findClass RX3 = some m_.cls := hown
  have hl : lv_has ls 2 [(0, .ref as), (1, .int (iI ((k : Int))))] := hl
  refine lv_aload_n hx hb dX3_readBy_0 rfl (lv_at hl 0 rfl) ?_
  refine lv_bipush (v := iI 51) hx hb dX3_readBy_1 rfl ?_
  refine lv_iconst (v := iI 2) hx hb dX3_readBy_3 rfl ?_
  refine lv_iload_n hx hb dX3_readBy_4 rfl (lv_at hl 1 rfl) ?_
  refine g_imul hx hb dX3_readBy_5 rfl ?_
  refine g_iadd hx hb dX3_readBy_6 rfl ?_
  refine lv_iconst (v := iI 1) hx hb dX3_readBy_7 rfl ?_
  refine g_iadd hx hb dX3_readBy_8 (z := ((51 + 2 * k + 1 : Nat) : Int)) (by omega) ?_
  refine g_iald hx hb hK hP h_s (51 + 2 * k + 1) (by first | rfl | omega) (by first | decide | omega) (by first | decide | omega) (v := .int v) (by rw [hv]) dX3_readBy_9 ?_
  refine g_iret hx hb hr hlk hP hS (v := v) rfl dX3_readBy_10 ?_
  exact ⟨rfl, rfl, rfl, rfl⟩

set_option maxHeartbeats 4000000 in
theorem m_thrown (l : Launch) (G : GT) (ω0 : Om) (kc ks : Nat) {o aT aN aR aD aK aI aH aC : Nat} {rf sz ac sp sk : Int32} (h_o : ω0 (1, 0) = some (o, .inr (2, [.int rf, .ref aT, .int sz, .ref aN, .ref aR, .ref aD, .int ac, .ref aK, .ref aI, .ref aH, .ref aC, .int sp, .int sk]))) : Ct l G yX3_thrown cX3_thrown 1 (some .int) 1 12 [.ref o] ω0 kc ks (pu ω0 kc ks (some (.int rf))) := by
  refine Ct.start (by decide) (Nat.le_of_ble_eq_true rfl) ?_
  intro p_ e_ s m_ below_ meth_ c_m H locs ls hx hb hr hlk hml hown hnm hts hK hZ hP hS hl
  have hown : s.vm.findClass RX3 = some m_.cls := hown
  have hl : lv_has ls 1 [(0, .ref o)] := hl
  refine lv_aload_n hx hb dX3_thrown_0 rfl (lv_at hl 0 rfl) ?_
  refine g_get hx hb hown hts hK hP h_o gk2 0 (by decide) q1523 (fun _ h => h) rfl dX3_thrown_1 ?_
  refine g_iret hx hb hr hlk hP hS (v := rf) rfl dX3_thrown_4 ?_
  exact ⟨rfl, rfl, rfl, rfl⟩

set_option maxHeartbeats 4000000 in
theorem m_refused (l : Launch) (G : GT) (ω0 : Om) (kc ks : Nat) {o aT aN aR aD aK aI aH aC : Nat} {rf sz ac sp sk : Int32} {z : Int} (h_o : ω0 (1, 0) = some (o, .inr (2, [.int rf, .ref aT, .int sz, .ref aN, .ref aR, .ref aD, .int ac, .ref aK, .ref aI, .ref aH, .ref aC, .int sp, .int sk]))) (hz : iR z) : Ct l G yX3_refused cX3_refused 2 (some .boolean) 1 12 [.ref o, .int (iI z)] ω0 kc ks (fun v ω' kc' ks' => v = some (.int (bI (decide (0 < z)))) ∧ kc = kc' ∧ ks = ks' ∧ ω' (1, 0) = some (o, .inr (2, [.int (iI z), .ref aT, .int sz, .ref aN, .ref aR, .ref aD, .int ac, .ref aK, .ref aI, .ref aH, .ref aC, .int sp, .int sk])) ∧ Fr (fun k => k = (1, 0)) ω0 ω') := by
  refine Ct.start (by decide) (Nat.le_of_ble_eq_true rfl) ?_
  intro p_ e_ s m_ below_ meth_ c_m H locs ls hx hb hr hlk hml hown hnm hts hK hZ hP hS hl
  have hown : s.vm.findClass RX3 = some m_.cls := hown
  have hl : lv_has ls 2 [(0, .ref o), (1, .int (iI z))] := hl
  have hF : Fr ((fun k => k = (1, 0))) ω0 ω0 := Fr.rf
  refine lv_aload_n hx hb dX3_refused_0 rfl (lv_at hl 0 rfl) ?_
  refine lv_iload_n hx hb dX3_refused_1 rfl (lv_at hl 1 rfl) ?_
  refine g_put hx hb hown hts hK hP hS h_o gk2 0 (by decide) q1523 (fun _ h => h) rfl rfl rfl (Nat.le_of_ble_eq_true rfl) dX3_refused_2 (fun ω H locs e_1 n_1 hP hS => ?_)
  have h_o : ω (1, 0) = some (o, .inr (2, [.int (iI z), .ref aT, .int sz, .ref aN, .ref aR, .ref aD, .int ac, .ref aK, .ref aI, .ref aH, .ref aC, .int sp, .int sk])) := e_1
  have hF := hF.put n_1 rfl
  refine lv_iload_n hx hb dX3_refused_5 rfl (lv_at hl 1 rfl) ?_
  refine g_if_le (tgt := 13) hx hb dX3_refused_6 (by decide) (by omega) (fun c_6 => ?_) (fun c_6 => ?_)
  · refine lv_iconst (v := iI 0) hx hb dX3_refused_13 rfl ?_
    refine g_iret hx hb hr hlk hP hS (v := (iI 0)) rfl dX3_refused_14 ?_
    exact ⟨bI_df (by omega), rfl, rfl, h_o, hF⟩
  · refine lv_iconst (v := iI 1) hx hb dX3_refused_9 rfl ?_
    refine lv_goto (tgt := 14) hx hb dX3_refused_10 (by decide) ?_
    refine g_iret hx hb hr hlk hP hS (v := (iI 1)) rfl dX3_refused_14 ?_
    exact ⟨bI_dt (by omega), rfl, rfl, h_o, hF⟩

set_option maxHeartbeats 4000000 in
theorem m_member (l : Launch) (G : GT) (ω0 : Om) (kc ks : Nat) {o aT aN aR aD aK aI aH aC : Nat} {rf sz ac sp sk : Int32} {ha : Nat → Int32} {k v : Nat} {b : Bool} (h_o : ω0 (1, 0) = some (o, .inr (2, [.int rf, .ref aT, .int sz, .ref aN, .ref aR, .ref aD, .int ac, .ref aK, .ref aI, .ref aH, .ref aC, .int sp, .int sk]))) (h_H : ω0 (1, 7) = some (aH, .inl (G.2.1 1, 12000, .inl (ha)))) (hk : k < 12) (hv : v < 1000) (hE : ha (1000 * k + v) = bI b) : Ct l G yX3_member cX3_member 3 (some .boolean) 1 12 [.ref o, .int (iI ((k : Int))), .int (iI ((v : Int)))] ω0 kc ks (pu ω0 kc ks (some (.int (bI b)))) := by
  refine Ct.start (by decide) (Nat.le_of_ble_eq_true rfl) ?_
  intro p_ e_ s m_ below_ meth_ c_m H locs ls hx hb hr hlk hml hown hnm hts hK hZ hP hS hl
  have hown : s.vm.findClass RX3 = some m_.cls := hown
  have hl : lv_has ls 3 [(0, .ref o), (1, .int (iI ((k : Int)))), (2, .int (iI ((v : Int))))] := hl
  refine lv_aload_n hx hb dX3_member_0 rfl (lv_at hl 0 rfl) ?_
  refine g_get hx hb hown hts hK hP h_o gk2 9 (by decide) q1532 (fun _ h => h) rfl dX3_member_1 ?_
  refine lv_sipush (v := iI 1000) hx hb dX3_member_4 rfl ?_
  refine lv_iload_n hx hb dX3_member_7 rfl (lv_at hl 1 rfl) ?_
  refine g_imul hx hb dX3_member_8 rfl ?_
  refine lv_iload_n hx hb dX3_member_9 rfl (lv_at hl 2 rfl) ?_
  refine g_iadd hx hb dX3_member_10 (z := ((1000 * k + v : Nat) : Int)) (by omega) ?_
  refine g_zald hx hb hK hP h_H (1000 * k + v) (by first | rfl | omega) (by first | decide | omega) (by first | decide | omega) (v := .int (bI b)) (by rw [hE]) dX3_member_11 ?_
  refine g_iret hx hb hr hlk hP hS (v := (bI b)) (bI_nar _) dX3_member_12 ?_
  exact ⟨rfl, rfl, rfl, rfl⟩

set_option maxHeartbeats 4000000 in
theorem m_adds (l : Launch) (G : GT) (ω0 : Om) (kc ks : Nat) {o aT aN aR aD aK aI aH aC : Nat} {rf sz ac sp sk : Int32} {ha : Nat → Int32} {k v : Nat} (h_o : ω0 (1, 0) = some (o, .inr (2, [.int rf, .ref aT, .int sz, .ref aN, .ref aR, .ref aD, .int ac, .ref aK, .ref aI, .ref aH, .ref aC, .int sp, .int sk]))) (h_H : ω0 (1, 7) = some (aH, .inl (G.2.1 1, 12000, .inl (ha)))) (hk : k < 12) (hv : v < 1000000) : Ct l G yX3_adds cX3_adds 3 none 1 12 [.ref o, .int (iI ((k : Int))), .int (iI ((v : Int)))] ω0 kc ks (fun w ω' kc' ks' => w = none ∧ kc = kc' ∧ ks = ks' ∧ (∃ g : Nat → Int32, ω' (1, 7) = some (aH, .inl (G.2.1 1, 12000, .inl (g))) ∧ (∀ j, g j = if v ≤ 999 ∧ j = 1000 * k + v then bI true else ha j)) ∧ Fr (fun k => k = (1, 7)) ω0 ω') := by
  refine Ct.start (by decide) (Nat.le_of_ble_eq_true rfl) ?_
  intro p_ e_ s m_ below_ meth_ c_m H locs ls hx hb hr hlk hml hown hnm hts hK hZ hP hS hl
  have hown : s.vm.findClass RX3 = some m_.cls := hown
  have hl : lv_has ls 3 [(0, .ref o), (1, .int (iI ((k : Int)))), (2, .int (iI ((v : Int))))] := hl
  have hF : Fr ((fun k => k = (1, 7))) ω0 ω0 := Fr.rf
  refine lv_iload_n hx hb dX3_adds_0 rfl (lv_at hl 2 rfl) ?_
  refine lv_sipush (v := iI 999) hx hb dX3_adds_1 rfl ?_
  refine g_icmp_gt (tgt := 20) hx hb dX3_adds_4 (by decide) (by omega) (by omega) (fun c_4 => ?_) (fun c_4 => ?_)
  · refine g_vret hx hb hr hlk hP hS dX3_adds_20 ?_
    exact ⟨rfl, rfl, rfl, ⟨_, h_H, fun j => by rw [if_neg (by omega)]⟩, hF⟩
  · refine lv_aload_n hx hb dX3_adds_7 rfl (lv_at hl 0 rfl) ?_
    refine g_get hx hb hown hts hK hP h_o gk2 9 (by decide) q1532 (fun _ h => h) rfl dX3_adds_8 ?_
    refine lv_sipush (v := iI 1000) hx hb dX3_adds_11 rfl ?_
    refine lv_iload_n hx hb dX3_adds_14 rfl (lv_at hl 1 rfl) ?_
    refine g_imul hx hb dX3_adds_15 rfl ?_
    refine lv_iload_n hx hb dX3_adds_16 rfl (lv_at hl 2 rfl) ?_
    refine g_iadd hx hb dX3_adds_17 (z := ((1000 * k + v : Nat) : Int)) (by omega) ?_
    refine lv_iconst (v := iI 1) hx hb dX3_adds_18 rfl ?_
    refine W.eq (g2 := F0 m_ 19 ls [.int (bI true), .int (iI (((1000 * k + v : Nat) : Int))), .ref aH]) rfl ?_
    refine g_zast hx hb hK hP hS h_H (1000 * k + v) (by first | rfl | omega) (by first | decide | omega) (by first | decide | omega) dX3_adds_19 (fun ω H locs e_1 n_1 hP hS => ?_)
    have h_o := (n_1 _ (by decide)).trans h_o
    have h_H : ω (1, 7) = some (aH, .inl (G.2.1 1, 12000, .inl (upd ha (1000 * k + v) (bI true)))) := e_1
    have hF := hF.put n_1 rfl
    refine g_vret hx hb hr hlk hP hS dX3_adds_20 ?_
    exact ⟨rfl, rfl, rfl, ⟨_, h_H, fun j => by rw [upd]; by_cases hj : j = 1000 * k + v; rw [if_pos hj, if_pos ⟨by omega, hj⟩]; rw [if_neg hj, if_neg (fun q => hj q.2)]⟩, hF⟩

