/-! ## the reference: what is done -/
set_option maxHeartbeats 4000000 in
theorem m_hasRoom (l : Launch) (G : GT) (ω0 : Om) (kc ks : Nat) {ns : Nm} {as : Nat} {f : Nat → Int32} {n : Nat} (h_s : ω0 ns = some (as, .inl (G.2.1 0, 59, .inl (f)))) (h0 : f 0 = iI n) (hn : n ≤ 12) : Ct l G yX3_hasRoom cX3_hasRoom 1 (some .boolean) 1 12 [.ref as] ω0 kc ks (pu ω0 kc ks (some (.int (bI (decide (n < 12)))))) := by
  refine Ct.start (by decide) (Nat.le_of_ble_eq_true rfl) ?_
  intro p_ e_ s m_ below_ meth_ c_m H locs ls hx hb hr hlk hml hown hnm hts hK hZ hP hS hl
  have hown : s.vm.findClass RX3 = some m_.cls := hown
  have hl : lv_has ls 1 [(0, .ref as)] := hl
  refine lv_aload_n hx hb dX3_hasRoom_0 rfl (lv_at hl 0 rfl) ?_
  refine lv_iconst (v := iI 0) hx hb dX3_hasRoom_1 rfl ?_
  refine g_iald hx hb hK hP h_s 0 (by first | rfl | omega) (by first | decide | omega) (by first | decide | omega) (v := .int (iI ((n : Int)))) (by rw [h0]) dX3_hasRoom_2 ?_
  refine lv_bipush (v := iI 12) hx hb dX3_hasRoom_3 rfl ?_
  refine g_icmp_ge (tgt := 12) hx hb dX3_hasRoom_5 (by decide) (by omega) (by omega) (fun c_5 => ?_) (fun c_5 => ?_)
  · refine lv_iconst (v := iI 0) hx hb dX3_hasRoom_12 rfl ?_
    refine g_iret hx hb hr hlk hP hS (v := (iI 0)) rfl dX3_hasRoom_13 ?_
    exact ⟨bI_df (by omega), rfl, rfl, rfl⟩
  · refine lv_iconst (v := iI 1) hx hb dX3_hasRoom_8 rfl ?_
    refine lv_goto (tgt := 13) hx hb dX3_hasRoom_9 (by decide) ?_
    refine g_iret hx hb hr hlk hP hS (v := (iI 1)) rfl dX3_hasRoom_13 ?_
    exact ⟨bI_dt (by omega), rfl, rfl, rfl⟩

set_option maxHeartbeats 4000000 in
theorem m_make (l : Launch) (G : GT) (ω0 : Om) (kc ks : Nat) {ns : Nm} {as : Nat} {f : Nat → Int32} {σ : AS} {kd a b d : Nat} (h_s : ω0 ns = some (as, .inl (G.2.1 0, 59, .inl (f)))) (hT : Tab f σ) (hn : σ.1.length < 12) (hr4 : σ.2.1.length ≤ 4) : Ct l G yX3_make cX3_make 6 (some .int) 1 12 [.ref as, .int (iI ((kd : Int))), .int (iI ((a : Int))), .int (iI ((b : Int))), .int (iI ((d : Int)))] ω0 kc ks (fun v ω' kc' ks' => v = some (.int (iI (σ.1.length : Int))) ∧ kc = kc' ∧ ks = ks' ∧ (∃ g : Nat → Int32, ω' ns = some (as, .inl (G.2.1 0, 59, .inl (g))) ∧ Tab g (a_make σ (kd, a, b, d))) ∧ Fr (fun k => k = ns) ω0 ω') := by
  refine Ct.start (by decide) (Nat.le_of_ble_eq_true rfl) ?_
  intro p_ e_ s m_ below_ meth_ c_m H locs ls hx hb hr hlk hml hown hnm hts hK hZ hP hS hl
  have hown : s.vm.findClass RX3 = some m_.cls := hown
  have hl : lv_has ls 6 [(0, .ref as), (1, .int (iI ((kd : Int)))), (2, .int (iI ((a : Int)))), (3, .int (iI ((b : Int)))), (4, .int (iI ((d : Int))))] := hl
  have hF : Fr ((fun k => k = ns)) ω0 ω0 := Fr.rf
  have h0 := hT.1
  refine lv_iconst (v := iI 3) hx hb dX3_make_0 rfl ?_
  refine lv_iconst (v := iI 4) hx hb dX3_make_1 rfl ?_
  refine lv_aload_n hx hb dX3_make_2 rfl (lv_at hl 0 rfl) ?_
  refine lv_iconst (v := iI 0) hx hb dX3_make_3 rfl ?_
  refine g_iald hx hb hK hP h_s 0 (by first | rfl | omega) (by first | decide | omega) (by first | decide | omega) (v := .int (iI ((σ.1.length : Int)))) (by rw [h0]) dX3_make_4 ?_
  refine g_imul hx hb dX3_make_5 rfl ?_
  refine g_iadd hx hb dX3_make_6 (z := ((3 + 4 * σ.1.length : Nat) : Int)) (by omega) ?_
  refine lv_istore (lv' := [(5, .int (iI (((3 + 4 * σ.1.length : Nat) : Int)))), (0, .ref as), (1, .int (iI ((kd : Int)))), (2, .int (iI ((a : Int)))), (3, .int (iI ((b : Int)))), (4, .int (iI ((d : Int))))]) hx hb dX3_make_7 hl (by decide) rfl (fun ls hl => ?_)
  refine lv_aload_n hx hb dX3_make_9 rfl (lv_at hl 1 rfl) ?_
  refine lv_iload hx hb dX3_make_10 (lv_at hl 0 rfl) ?_
  refine lv_iload_n hx hb dX3_make_12 rfl (lv_at hl 2 rfl) ?_
  refine g_iast hx hb hK hP hS h_s (3 + 4 * σ.1.length) (by first | rfl | omega) (by first | decide | omega) (by first | decide | omega) dX3_make_13 (fun ω H locs e_1 n_1 hP hS => ?_)
  have h_s : ω ns = some (as, .inl (G.2.1 0, 59, .inl (upd f (3 + 4 * σ.1.length) (iI ((kd : Int)))))) := e_1
  have hF := hF.put n_1 rfl
  refine lv_aload_n hx hb dX3_make_14 rfl (lv_at hl 1 rfl) ?_
  refine lv_iload hx hb dX3_make_15 (lv_at hl 0 rfl) ?_
  refine lv_iconst (v := iI 1) hx hb dX3_make_17 rfl ?_
  refine g_iadd hx hb dX3_make_18 (z := ((3 + 4 * σ.1.length + 1 : Nat) : Int)) (by omega) ?_
  refine lv_iload_n hx hb dX3_make_19 rfl (lv_at hl 3 rfl) ?_
  refine g_iast hx hb hK hP hS h_s (3 + 4 * σ.1.length + 1) (by first | rfl | omega) (by first | decide | omega) (by first | decide | omega) dX3_make_20 (fun ω H locs e_2 n_2 hP hS => ?_)
  have h_s : ω ns = some (as, .inl (G.2.1 0, 59, .inl (upd (upd f (3 + 4 * σ.1.length) (iI ((kd : Int)))) (3 + 4 * σ.1.length + 1) (iI ((a : Int)))))) := e_2
  have hF := hF.put n_2 rfl
  refine lv_aload_n hx hb dX3_make_21 rfl (lv_at hl 1 rfl) ?_
  refine lv_iload hx hb dX3_make_22 (lv_at hl 0 rfl) ?_
  refine lv_iconst (v := iI 2) hx hb dX3_make_24 rfl ?_
  refine g_iadd hx hb dX3_make_25 (z := ((3 + 4 * σ.1.length + 2 : Nat) : Int)) (by omega) ?_
  refine lv_iload_n hx hb dX3_make_26 rfl (lv_at hl 4 rfl) ?_
  refine g_iast hx hb hK hP hS h_s (3 + 4 * σ.1.length + 2) (by first | rfl | omega) (by first | decide | omega) (by first | decide | omega) dX3_make_27 (fun ω H locs e_3 n_3 hP hS => ?_)
  have h_s : ω ns = some (as, .inl (G.2.1 0, 59, .inl (upd (upd (upd f (3 + 4 * σ.1.length) (iI ((kd : Int)))) (3 + 4 * σ.1.length + 1) (iI ((a : Int)))) (3 + 4 * σ.1.length + 2) (iI ((b : Int)))))) := e_3
  have hF := hF.put n_3 rfl
  refine lv_aload_n hx hb dX3_make_28 rfl (lv_at hl 1 rfl) ?_
  refine lv_iload hx hb dX3_make_29 (lv_at hl 0 rfl) ?_
  refine lv_iconst (v := iI 3) hx hb dX3_make_31 rfl ?_
  refine g_iadd hx hb dX3_make_32 (z := ((3 + 4 * σ.1.length + 3 : Nat) : Int)) (by omega) ?_
  refine lv_iload hx hb dX3_make_33 (lv_at hl 5 rfl) ?_
  refine g_iast hx hb hK hP hS h_s (3 + 4 * σ.1.length + 3) (by first | rfl | omega) (by first | decide | omega) (by first | decide | omega) dX3_make_35 (fun ω H locs e_4 n_4 hP hS => ?_)
  have h_s : ω ns = some (as, .inl (G.2.1 0, 59, .inl (upd (upd (upd (upd f (3 + 4 * σ.1.length) (iI ((kd : Int)))) (3 + 4 * σ.1.length + 1) (iI ((a : Int)))) (3 + 4 * σ.1.length + 2) (iI ((b : Int)))) (3 + 4 * σ.1.length + 3) (iI ((d : Int)))))) := e_4
  have hF := hF.put n_4 rfl
  refine lv_aload_n hx hb dX3_make_36 rfl (lv_at hl 1 rfl) ?_
  refine lv_iconst (v := iI 0) hx hb dX3_make_37 rfl ?_
  refine lv_dup2_11 hx hb dX3_make_38 rfl rfl ?_
  refine g_iald hx hb hK hP h_s 0 (by first | rfl | omega) (by first | decide | omega) (by first | decide | omega) (v := .int (iI ((σ.1.length : Int)))) (by rw [pk_un (by omega), pk_un (by omega), pk_un (by omega), pk_un (by omega), h0]) dX3_make_39 ?_
  refine lv_iconst (v := iI 1) hx hb dX3_make_40 rfl ?_
  refine g_iadd hx hb dX3_make_41 (z := ((σ.1.length + 1 : Nat) : Int)) (by omega) ?_
  refine g_iast hx hb hK hP hS h_s 0 (by first | rfl | omega) (by first | decide | omega) (by first | decide | omega) dX3_make_42 (fun ω H locs e_5 n_5 hP hS => ?_)
  have h_s : ω ns = some (as, .inl (G.2.1 0, 59, .inl (upd (upd (upd (upd (upd f (3 + 4 * σ.1.length) (iI ((kd : Int)))) (3 + 4 * σ.1.length + 1) (iI ((a : Int)))) (3 + 4 * σ.1.length + 2) (iI ((b : Int)))) (3 + 4 * σ.1.length + 3) (iI ((d : Int)))) 0 (iI (((σ.1.length + 1 : Nat) : Int)))))) := e_5
  have hF := hF.put n_5 rfl
  refine lv_aload_n hx hb dX3_make_43 rfl (lv_at hl 1 rfl) ?_
  refine lv_iconst (v := iI 0) hx hb dX3_make_44 rfl ?_
  refine g_iald hx hb hK hP h_s 0 (by first | rfl | omega) (by first | decide | omega) (by first | decide | omega) (v := .int (iI (((σ.1.length + 1 : Nat) : Int)))) (by rw [pk_us]) dX3_make_45 ?_
  refine lv_iconst (v := iI 1) hx hb dX3_make_46 rfl ?_
  refine g_isub hx hb dX3_make_47 (z := (σ.1.length : Int)) (by omega) ?_
  refine g_iret hx hb hr hlk hP hS (v := (iI ((σ.1.length : Int)))) rfl dX3_make_48 ?_
  refine ⟨rfl, rfl, rfl, ⟨_, h_s, hT.make hn hr4 pk_us ?_ ?_ ?_ ?_ fun j h1 h2 => ?_⟩, hF⟩
  · rw [pk_un (by omega), pk_un (by omega), pk_un (by omega), pk_un (by omega), pk_us]
  · rw [pk_un (by omega), pk_un (by omega), pk_un (by omega), pk_us]
  · rw [pk_un (by omega), pk_un (by omega), pk_us]
  · rw [pk_un (by omega), pk_us]
  · rw [pk_un h1, pk_un (by omega), pk_un (by omega), pk_un (by omega), pk_un (by omega)]

set_option maxHeartbeats 4000000 in
theorem m_reason (l : Launch) (G : GT) (ω0 : Om) (kc ks : Nat) {ns : Nm} {as : Nat} {f : Nat → Int32} {σ : AS} (h_s : ω0 ns = some (as, .inl (G.2.1 0, 59, .inl (f)))) (hT : Tab f σ) (hn : σ.1.length ≤ 12) (hr4 : σ.2.1.length ≤ 4) (hR : ∀ (i : Nat) (y : Nat × Nat), σ.2.1[i]? = some y → y.1 < 12) : Ct l G yX3_reason cX3_reason 2 (some .int) 2 33 [.ref as] ω0 kc ks (pu ω0 kc ks (some (.int (iI (a_why σ : Nat))))) := by
  refine Ct.start (by decide) (Nat.le_of_ble_eq_true rfl) ?_
  intro p_ e_ s m_ below_ meth_ c_m H locs ls hx hb hr hlk hml hown hnm hts hK hZ hP hS hl
  have hown : s.vm.findClass RX3 = some m_.cls := hown
  have hl : lv_has ls 2 [(0, .ref as)] := hl
  obtain ⟨h0, h1, -, -, h4⟩ := hT
  refine lv_iconst (v := iI 0) hx hb dX3_reason_0 rfl ?_
  refine lv_istore_n (lv' := [(1, .int (iI 0)), (0, .ref as)]) hx hb dX3_reason_1 rfl hl (by decide) rfl (fun ls hl => ?_)
  have loop_2 : ∀ (nn : Nat) (i : Nat), (i ≤ σ.2.1.length) → (∀ j y, j < i → σ.2.1[j]? = some y → (y.1 : Int) ≠ (σ.1.length : Int) - 1) → (σ.2.1.length - i) < nn → ∀ (H : Heap) (locs : List Loc), Hp G ω0 kc ks H → va_S (gA G) s.heap H locs → ∀ ls : Array Slot, lv_has ls 2 [(0, .ref as), (1, .int (iI ((i : Int))))] → gW p_ l e_ G 2 33 s m_ [.ref as] below_ meth_ c_m (pu ω0 kc ks (some (.int (iI (a_why σ : Nat))))) H locs 2 ls [] := by
    intro nn
    induction nn with
    | zero => intro i hi hno hlt; exact absurd hlt (Nat.not_lt_zero _)
    | succ nn ih_2 =>
      intro i hi hno hlt H locs hP hS ls hl
      refine lv_iload_n hx hb dX3_reason_2 rfl (lv_at hl 1 rfl) ?_
      refine lv_aload_n hx hb dX3_reason_3 rfl (lv_at hl 0 rfl) ?_
      refine lv_iconst (v := iI 1) hx hb dX3_reason_4 rfl ?_
      refine g_iald hx hb hK hP h_s 1 (by first | rfl | omega) (by first | decide | omega) (by first | decide | omega) (v := .int (iI ((σ.2.1.length : Int)))) (by rw [h1]) dX3_reason_5 ?_
      refine g_icmp_ge (tgt := 30) hx hb dX3_reason_6 (by decide) (by omega) (by omega) (fun c_6 => ?_) (fun c_6 => ?_)
      · refine lv_aload_n hx hb dX3_reason_30 rfl (lv_at hl 0 rfl) ?_
        refine lv_iconst (v := iI 0) hx hb dX3_reason_31 rfl ?_
        refine g_iald hx hb hK hP h_s 0 (by first | rfl | omega) (by first | decide | omega) (by first | decide | omega) (v := .int (iI ((σ.1.length : Int)))) (by rw [h0]) dX3_reason_32 ?_
        refine g_if_ne (tgt := 40) hx hb dX3_reason_33 (by decide) (by omega) (fun c_33 => ?_) (fun c_33 => ?_)
        · refine lv_iconst (v := iI 0) hx hb dX3_reason_40 rfl ?_
          refine g_iret hx hb hr hlk hP hS (v := (iI 0)) rfl dX3_reason_41 ?_
          exact ⟨so_i (by rw [why_no (fun j y hj hy => hno j y (by omega) hy), if_neg (by omega)]; rfl), rfl, rfl, rfl⟩
        · refine lv_iconst (v := iI 1) hx hb dX3_reason_36 rfl ?_
          refine lv_goto (tgt := 41) hx hb dX3_reason_37 (by decide) ?_
          refine g_iret hx hb hr hlk hP hS (v := (iI 1)) rfl dX3_reason_41 ?_
          exact ⟨so_i (by rw [why_no (fun j y hj hy => hno j y (by omega) hy), if_pos (by omega)]; rfl), rfl, rfl, rfl⟩
      · obtain ⟨y, hyi⟩ : ∃ y, σ.2.1[i]? = some y := ⟨_, List.getElem?_eq_getElem (by omega)⟩
        have hy12 := hR i y hyi
        refine lv_aload_n hx hb dX3_reason_9 rfl (lv_at hl 0 rfl) ?_
        refine lv_iload_n hx hb dX3_reason_10 rfl (lv_at hl 1 rfl) ?_
        refine g_S (As := [.ref as, .int (iI ((i : Int)))]) (rest := []) hx hb hml hown hts hK hZ hP hS (m_listOfReader (k := i) l G _ _ _ h_s (by omega) (h4 i y hyi).1) 2 (lw_S q1672 q1673 q59 q1674) (by decide +kernel) (by decide) (by decide) rfl hl.1 rfl (Nat.le_of_ble_eq_true rfl) dX3_reason_11 (fun v ω kc_1 ks_1 H locs q_1 hP hS => ?_)
        obtain ⟨rfl, rfl, rfl, rfl⟩ := q_1
        refine W.eq (g2 := F0 m_ 14 ls [.int (iI ((y.1 : Int)))]) rfl ?_
        refine lv_aload_n hx hb dX3_reason_14 rfl (lv_at hl 0 rfl) ?_
        refine lv_iconst (v := iI 0) hx hb dX3_reason_15 rfl ?_
        refine g_iald hx hb hK hP h_s 0 (by first | rfl | omega) (by first | decide | omega) (by first | decide | omega) (v := .int (iI ((σ.1.length : Int)))) (by rw [h0]) dX3_reason_16 ?_
        refine lv_iconst (v := iI 1) hx hb dX3_reason_17 rfl ?_
        refine g_isub hx hb dX3_reason_18 rfl ?_
        refine g_icmp_ne (tgt := 24) hx hb dX3_reason_19 (by decide) (by omega) (by omega) (fun c_19 => ?_) (fun c_19 => ?_)
        · refine lv_iinc (v := iI (((i + 1 : Nat) : Int))) (lv' := [(1, .int (iI (((i + 1 : Nat) : Int)))), (0, .ref as)]) hx hb dX3_reason_24 hl (k := 1) rfl (iI_add _ _ |>.trans (congrArg iI (by omega))) (by decide) rfl (fun ls hl => ?_)
          refine lv_goto (tgt := 2) hx hb dX3_reason_27 (by decide) ?_
          exact ih_2 (i + 1) (by omega) (fun j y hj hy => by by_cases q : j = i; (subst q; rw [hyi] at hy; cases hy; exact c_19); exact hno j y (by omega) hy) (by omega) _ _ hP hS ls (lv_sub hl [1, 0] rfl)
        · refine lv_iconst (v := iI 2) hx hb dX3_reason_22 rfl ?_
          refine g_iret hx hb hr hlk hP hS (v := (iI 2)) rfl dX3_reason_23 ?_
          exact ⟨so_i (by rw [why_2 hyi c_19]; rfl), rfl, rfl, rfl⟩
  exact loop_2 _ 0 (by omega) (fun j y hj => absurd hj (Nat.not_lt_zero _)) (Nat.lt_succ_self _) _ _ hP hS ls (lv_sub hl [1, 0] rfl)

set_option maxHeartbeats 4000000 in
theorem m_drop (l : Launch) (G : GT) (ω0 : Om) (kc ks : Nat) {ns : Nm} {as : Nat} {f : Nat → Int32} {σ : AS} (h_s : ω0 ns = some (as, .inl (G.2.1 0, 59, .inl (f)))) (hT : Tab f σ) (hn : σ.1.length ≤ 12) (hn1 : 1 ≤ σ.1.length) : Ct l G yX3_drop cX3_drop 1 (some .int) 1 12 [.ref as] ω0 kc ks (fun v ω' kc' ks' => v = some (.int (iI ((σ.1.length - 1 : Nat) : Int))) ∧ kc = kc' ∧ ks = ks' ∧ (∃ g : Nat → Int32, ω' ns = some (as, .inl (G.2.1 0, 59, .inl (g))) ∧ Tab g (a_drop σ)) ∧ Fr (fun k => k = ns) ω0 ω') := by
  refine Ct.start (by decide) (Nat.le_of_ble_eq_true rfl) ?_
  intro p_ e_ s m_ below_ meth_ c_m H locs ls hx hb hr hlk hml hown hnm hts hK hZ hP hS hl
  have hown : s.vm.findClass RX3 = some m_.cls := hown
  have hl : lv_has ls 1 [(0, .ref as)] := hl
  have hF : Fr ((fun k => k = ns)) ω0 ω0 := Fr.rf
  have h0 := hT.1
  refine lv_aload_n hx hb dX3_drop_0 rfl (lv_at hl 0 rfl) ?_
  refine lv_iconst (v := iI 0) hx hb dX3_drop_1 rfl ?_
  refine lv_dup2_11 hx hb dX3_drop_2 rfl rfl ?_
  refine g_iald hx hb hK hP h_s 0 (by first | rfl | omega) (by first | decide | omega) (by first | decide | omega) (v := .int (iI ((σ.1.length : Int)))) (by rw [h0]) dX3_drop_3 ?_
  refine lv_iconst (v := iI 1) hx hb dX3_drop_4 rfl ?_
  refine g_isub hx hb dX3_drop_5 (z := ((σ.1.length - 1 : Nat) : Int)) (by omega) ?_
  refine g_iast hx hb hK hP hS h_s 0 (by first | rfl | omega) (by first | decide | omega) (by first | decide | omega) dX3_drop_6 (fun ω H locs e_1 n_1 hP hS => ?_)
  have h_s : ω ns = some (as, .inl (G.2.1 0, 59, .inl (upd f 0 (iI (((σ.1.length - 1 : Nat) : Int)))))) := e_1
  have hF := hF.put n_1 rfl
  refine lv_aload_n hx hb dX3_drop_7 rfl (lv_at hl 0 rfl) ?_
  refine lv_iconst (v := iI 0) hx hb dX3_drop_8 rfl ?_
  refine g_iald hx hb hK hP h_s 0 (by first | rfl | omega) (by first | decide | omega) (by first | decide | omega) (v := .int (iI (((σ.1.length - 1 : Nat) : Int)))) (by rw [pk_us]) dX3_drop_9 ?_
  refine g_iret hx hb hr hlk hP hS (v := (iI (((σ.1.length - 1 : Nat) : Int)))) rfl dX3_drop_10 ?_
  exact ⟨rfl, rfl, rfl, ⟨_, h_s, hT.drop hn1 pk_us (fun j hj => pk_un hj)⟩, hF⟩

set_option maxHeartbeats 4000000 in
theorem m_begin (l : Launch) (G : GT) (ω0 : Om) (kc ks : Nat) {ns : Nm} {as : Nat} {f : Nat → Int32} {σ : AS} {k : Nat} (h_s : ω0 ns = some (as, .inl (G.2.1 0, 59, .inl (f)))) (hT : Tab f σ) (hn : σ.1.length ≤ 12) (hr4 : σ.2.1.length < 4) : Ct l G yX3_begin cX3_begin 2 (some .int) 1 12 [.ref as, .int (iI ((k : Int)))] ω0 kc ks (fun v ω' kc' ks' => v = some (.int (iI (σ.2.1.length : Int))) ∧ kc = kc' ∧ ks = ks' ∧ (∃ g : Nat → Int32, ω' ns = some (as, .inl (G.2.1 0, 59, .inl (g))) ∧ Tab g (a_begin σ k)) ∧ Fr (fun k => k = ns) ω0 ω') := by
  refine Ct.start (by decide) (Nat.le_of_ble_eq_true rfl) ?_
  intro p_ e_ s m_ below_ meth_ c_m H locs ls hx hb hr hlk hml hown hnm hts hK hZ hP hS hl
  have hown : s.vm.findClass RX3 = some m_.cls := hown
  have hl : lv_has ls 2 [(0, .ref as), (1, .int (iI ((k : Int))))] := hl
  have hF : Fr ((fun k => k = ns)) ω0 ω0 := Fr.rf
  have h1 := hT.2.1
  refine lv_aload_n hx hb dX3_begin_0 rfl (lv_at hl 0 rfl) ?_
  refine lv_bipush (v := iI 51) hx hb dX3_begin_1 rfl ?_
  refine lv_iconst (v := iI 2) hx hb dX3_begin_3 rfl ?_
  refine lv_aload_n hx hb dX3_begin_4 rfl (lv_at hl 0 rfl) ?_
  refine lv_iconst (v := iI 1) hx hb dX3_begin_5 rfl ?_
  refine g_iald hx hb hK hP h_s 1 (by first | rfl | omega) (by first | decide | omega) (by first | decide | omega) (v := .int (iI ((σ.2.1.length : Int)))) (by rw [h1]) dX3_begin_6 ?_
  refine g_imul hx hb dX3_begin_7 rfl ?_
  refine g_iadd hx hb dX3_begin_8 (z := ((51 + 2 * σ.2.1.length : Nat) : Int)) (by omega) ?_
  refine lv_iload_n hx hb dX3_begin_9 rfl (lv_at hl 1 rfl) ?_
  refine g_iast hx hb hK hP hS h_s (51 + 2 * σ.2.1.length) (by first | rfl | omega) (by first | decide | omega) (by first | decide | omega) dX3_begin_10 (fun ω H locs e_1 n_1 hP hS => ?_)
  have h_s : ω ns = some (as, .inl (G.2.1 0, 59, .inl (upd f (51 + 2 * σ.2.1.length) (iI ((k : Int)))))) := e_1
  have hF := hF.put n_1 rfl
  refine lv_aload_n hx hb dX3_begin_11 rfl (lv_at hl 0 rfl) ?_
  refine lv_bipush (v := iI 51) hx hb dX3_begin_12 rfl ?_
  refine lv_iconst (v := iI 2) hx hb dX3_begin_14 rfl ?_
  refine lv_aload_n hx hb dX3_begin_15 rfl (lv_at hl 0 rfl) ?_
  refine lv_iconst (v := iI 1) hx hb dX3_begin_16 rfl ?_
  refine g_iald hx hb hK hP h_s 1 (by first | rfl | omega) (by first | decide | omega) (by first | decide | omega) (v := .int (iI ((σ.2.1.length : Int)))) (by rw [pk_un (by omega), h1]) dX3_begin_17 ?_
  refine g_imul hx hb dX3_begin_18 rfl ?_
  refine g_iadd hx hb dX3_begin_19 rfl ?_
  refine lv_iconst (v := iI 1) hx hb dX3_begin_20 rfl ?_
  refine g_iadd hx hb dX3_begin_21 (z := ((51 + 2 * σ.2.1.length + 1 : Nat) : Int)) (by omega) ?_
  refine lv_iconst (v := iI 0) hx hb dX3_begin_22 rfl ?_
  refine g_iast hx hb hK hP hS h_s (51 + 2 * σ.2.1.length + 1) (by first | rfl | omega) (by first | decide | omega) (by first | decide | omega) dX3_begin_23 (fun ω H locs e_2 n_2 hP hS => ?_)
  have h_s : ω ns = some (as, .inl (G.2.1 0, 59, .inl (upd (upd f (51 + 2 * σ.2.1.length) (iI ((k : Int)))) (51 + 2 * σ.2.1.length + 1) (iI 0)))) := e_2
  have hF := hF.put n_2 rfl
  refine lv_aload_n hx hb dX3_begin_24 rfl (lv_at hl 0 rfl) ?_
  refine lv_iconst (v := iI 1) hx hb dX3_begin_25 rfl ?_
  refine lv_dup2_11 hx hb dX3_begin_26 rfl rfl ?_
  refine g_iald hx hb hK hP h_s 1 (by first | rfl | omega) (by first | decide | omega) (by first | decide | omega) (v := .int (iI ((σ.2.1.length : Int)))) (by rw [pk_un (by omega), pk_un (by omega), h1]) dX3_begin_27 ?_
  refine lv_iconst (v := iI 1) hx hb dX3_begin_28 rfl ?_
  refine g_iadd hx hb dX3_begin_29 (z := ((σ.2.1.length + 1 : Nat) : Int)) (by omega) ?_
  refine g_iast hx hb hK hP hS h_s 1 (by first | rfl | omega) (by first | decide | omega) (by first | decide | omega) dX3_begin_30 (fun ω H locs e_3 n_3 hP hS => ?_)
  have h_s : ω ns = some (as, .inl (G.2.1 0, 59, .inl (upd (upd (upd f (51 + 2 * σ.2.1.length) (iI ((k : Int)))) (51 + 2 * σ.2.1.length + 1) (iI 0)) 1 (iI (((σ.2.1.length + 1 : Nat) : Int)))))) := e_3
  have hF := hF.put n_3 rfl
  refine lv_aload_n hx hb dX3_begin_31 rfl (lv_at hl 0 rfl) ?_
  refine lv_iconst (v := iI 1) hx hb dX3_begin_32 rfl ?_
  refine g_iald hx hb hK hP h_s 1 (by first | rfl | omega) (by first | decide | omega) (by first | decide | omega) (v := .int (iI (((σ.2.1.length + 1 : Nat) : Int)))) (by rw [pk_us]) dX3_begin_33 ?_
  refine lv_iconst (v := iI 1) hx hb dX3_begin_34 rfl ?_
  refine g_isub hx hb dX3_begin_35 (z := (σ.2.1.length : Int)) (by omega) ?_
  refine g_iret hx hb hr hlk hP hS (v := (iI ((σ.2.1.length : Int)))) rfl dX3_begin_36 ?_
  exact ⟨rfl, rfl, rfl, ⟨_, h_s, hT.begin hn hr4 pk_us (by rw [pk_un (by omega), pk_un (by omega), pk_us]) (by rw [pk_un (by omega), pk_us]) (fun j q1 q2 => by rw [pk_un q1, pk_un (by omega), pk_un (by omega)])⟩, hF⟩

set_option maxHeartbeats 4000000 in
theorem m_readOn (l : Launch) (G : GT) (ω0 : Om) (kc ks : Nat) {o aT aN aR aD aK aI aH aC : Nat} {rf sz ac sp sk : Int32} {ns : Nm} {as : Nat} {f : Nat → Int32} {ha : Nat → Int32} {σ : AS} {r k so : Nat} (h_o : ω0 (1, 0) = some (o, .inr (2, [.int rf, .ref aT, .int sz, .ref aN, .ref aR, .ref aD, .int ac, .ref aK, .ref aI, .ref aH, .ref aC, .int sp, .int sk]))) (h_s : ω0 ns = some (as, .inl (G.2.1 0, 59, .inl (f)))) (h_H : ω0 (1, 7) = some (aH, .inl (G.2.1 1, 12000, .inl (ha)))) (hns : ns = (1, 2) ∨ ns = (1, 3)) (hT : Tab f σ) (hn : σ.1.length ≤ 12) (hr4 : σ.2.1.length ≤ 4) (hr0 : σ.2.1[r]? = some (k, so)) (hk : k < 12) (hso : so < 2000) (hX : ∀ u, u < 1000 → ha (1000 * k + u) = bI (D σ.1 k u)) : Ct l G yX3_readOn cX3_readOn 4 (some .int) 4 80 [.ref o, .ref as, .int (iI ((r : Int)))] ω0 kc ks (fun v ω' kc' ks' => v = some (.int (iI (aat (D σ.1 k) so))) ∧ kc = kc' ∧ ks = ks' ∧ (∃ g : Nat → Int32, ω' ns = some (as, .inl (G.2.1 0, 59, .inl (g))) ∧ Tab g (a_set σ r (k, so + 1) (σ.2.2 + iI 1))) ∧ Fr (fun k => k = ns) ω0 ω') := by
  refine Ct.start (by decide) (Nat.le_of_ble_eq_true rfl) ?_
  intro p_ e_ s m_ below_ meth_ c_m H locs ls hx hb hr hlk hml hown hnm hts hK hZ hP hS hl
  have hown : s.vm.findClass RX3 = some m_.cls := hown
  have hl : lv_has ls 4 [(0, .ref o), (1, .ref as), (2, .int (iI ((r : Int))))] := hl
  have hF : Fr ((fun k => k = ns)) ω0 ω0 := Fr.rf
  have hrl : r < σ.2.1.length := (List.getElem?_eq_some_iff.mp hr0).1
  obtain ⟨hq1, hq2⟩ := hT.2.2.2.2 r _ hr0
  refine lv_aload_n hx hb dX3_readOn_0 rfl (lv_at hl 0 rfl) ?_
  refine lv_aload_n hx hb dX3_readOn_1 rfl (lv_at hl 1 rfl) ?_
  refine lv_iload_n hx hb dX3_readOn_2 rfl (lv_at hl 2 rfl) ?_
  refine g_V (As := [.ref as, .int (iI ((r : Int)))]) (rest := []) hx hb hml hown hts hK hZ hP hS (m_next l G _ _ _ h_o h_s h_H (by omega) hk hso hq1 hq2 hX) 2 (lw_V q1668 q1670 qs40 q59 q1671) h_o gk2 (by decide +kernel) (by decide) (by decide) rfl hl.1 rfl (Nat.le_of_ble_eq_true rfl) dX3_readOn_3 (fun v ω kc_1 ks_1 H locs q_1 hP hS => ?_)
  obtain ⟨rfl, rfl, rfl, rfl⟩ := q_1
  refine W.eq (g2 := F0 m_ 6 ls [.int (iI (aat (D σ.1 k) so))]) rfl ?_
  refine lv_istore_n (lv' := [(3, .int (iI (aat (D σ.1 k) so))), (0, .ref o), (1, .ref as), (2, .int (iI ((r : Int))))]) hx hb dX3_readOn_6 rfl hl (by decide) rfl (fun ls hl => ?_)
  refine lv_aload_n hx hb dX3_readOn_7 rfl (lv_at hl 2 rfl) ?_
  refine lv_bipush (v := iI 51) hx hb dX3_readOn_8 rfl ?_
  refine lv_iconst (v := iI 2) hx hb dX3_readOn_10 rfl ?_
  refine lv_iload_n hx hb dX3_readOn_11 rfl (lv_at hl 3 rfl) ?_
  refine g_imul hx hb dX3_readOn_12 rfl ?_
  refine g_iadd hx hb dX3_readOn_13 rfl ?_
  refine lv_iconst (v := iI 1) hx hb dX3_readOn_14 rfl ?_
  refine g_iadd hx hb dX3_readOn_15 (z := ((51 + 2 * r + 1 : Nat) : Int)) (by omega) ?_
  refine lv_dup2_11 hx hb dX3_readOn_16 rfl rfl ?_
  refine g_iald hx hb hK hP h_s (51 + 2 * r + 1) (by first | rfl | omega) (by first | decide | omega) (by first | decide | omega) (v := .int (iI ((so : Int)))) (by rw [hq2]) dX3_readOn_17 ?_
  refine lv_iconst (v := iI 1) hx hb dX3_readOn_18 rfl ?_
  refine g_iadd hx hb dX3_readOn_19 (z := ((so + 1 : Nat) : Int)) (by omega) ?_
  refine g_iast hx hb hK hP hS h_s (51 + 2 * r + 1) (by first | rfl | omega) (by first | decide | omega) (by first | decide | omega) dX3_readOn_20 (fun ω H locs e_2 n_2 hP hS => ?_)
  have h_o := (n_2 _ (by rcases hns with rfl | rfl <;> decide)).trans h_o
  have h_s : ω ns = some (as, .inl (G.2.1 0, 59, .inl (upd f (51 + 2 * r + 1) (iI (((so + 1 : Nat) : Int)))))) := e_2
  have h_H := (n_2 _ (by rcases hns with rfl | rfl <;> decide)).trans h_H
  have hF := hF.put n_2 rfl
  refine lv_aload_n hx hb dX3_readOn_21 rfl (lv_at hl 2 rfl) ?_
  refine lv_iconst (v := iI 2) hx hb dX3_readOn_22 rfl ?_
  refine lv_dup2_11 hx hb dX3_readOn_23 rfl rfl ?_
  refine g_iald hx hb hK hP h_s 2 (by first | rfl | omega) (by first | decide | omega) (by first | decide | omega) (v := .int σ.2.2) (by rw [pk_un (by omega), hT.2.2.1]) dX3_readOn_24 ?_
  refine lv_iconst (v := iI 1) hx hb dX3_readOn_25 rfl ?_
  refine lv_iadd hx hb dX3_readOn_26 ?_
  refine g_iast hx hb hK hP hS h_s 2 (by first | rfl | omega) (by first | decide | omega) (by first | decide | omega) dX3_readOn_27 (fun ω H locs e_3 n_3 hP hS => ?_)
  have h_o := (n_3 _ (by rcases hns with rfl | rfl <;> decide)).trans h_o
  have h_s : ω ns = some (as, .inl (G.2.1 0, 59, .inl (upd (upd f (51 + 2 * r + 1) (iI (((so + 1 : Nat) : Int)))) 2 (σ.2.2 + (iI 1))))) := e_3
  have h_H := (n_3 _ (by rcases hns with rfl | rfl <;> decide)).trans h_H
  have hF := hF.put n_3 rfl
  refine lv_iload_n hx hb dX3_readOn_28 rfl (lv_at hl 0 rfl) ?_
  refine g_iret hx hb hr hlk hP hS (v := (iI (aat (D σ.1 k) so))) rfl dX3_readOn_29 ?_
  exact ⟨rfl, rfl, rfl, ⟨_, h_s, hT.set hn hrl pk_us hq1 (by rw [pk_un (by omega), pk_us]) (fun j q1 q2 => by rw [pk_un q1, pk_un q2])⟩, hF⟩

set_option maxHeartbeats 4000000 in
theorem m_backOn (l : Launch) (G : GT) (ω0 : Om) (kc ks : Nat) {ns : Nm} {as : Nat} {f : Nat → Int32} {σ : AS} {r k so : Nat} (h_s : ω0 ns = some (as, .inl (G.2.1 0, 59, .inl (f)))) (hT : Tab f σ) (hn : σ.1.length ≤ 12) (hr4 : σ.2.1.length ≤ 4) (hr0 : σ.2.1[r]? = some (k, so)) (hk : k < 12) (hso : so < 2000) : Ct l G yX3_backOn cX3_backOn 3 (some .int) 2 33 [.ref as, .int (iI ((r : Int)))] ω0 kc ks (fun v ω' kc' ks' => v = some (.int (iI (so : Int))) ∧ kc = kc' ∧ ks = ks' ∧ (∃ g : Nat → Int32, ω' ns = some (as, .inl (G.2.1 0, 59, .inl (g))) ∧ Tab g (a_set σ r (k, 0) σ.2.2)) ∧ Fr (fun k => k = ns) ω0 ω') := by
  refine Ct.start (by decide) (Nat.le_of_ble_eq_true rfl) ?_
  intro p_ e_ s m_ below_ meth_ c_m H locs ls hx hb hr hlk hml hown hnm hts hK hZ hP hS hl
  have hown : s.vm.findClass RX3 = some m_.cls := hown
  have hl : lv_has ls 3 [(0, .ref as), (1, .int (iI ((r : Int))))] := hl
  have hF : Fr ((fun k => k = ns)) ω0 ω0 := Fr.rf
  have hrl : r < σ.2.1.length := (List.getElem?_eq_some_iff.mp hr0).1
  obtain ⟨hq1, hq2⟩ := hT.2.2.2.2 r _ hr0
  refine lv_aload_n hx hb dX3_backOn_0 rfl (lv_at hl 0 rfl) ?_
  refine lv_iload_n hx hb dX3_backOn_1 rfl (lv_at hl 1 rfl) ?_
  refine g_S (As := [.ref as, .int (iI ((r : Int)))]) (rest := []) hx hb hml hown hts hK hZ hP hS (m_readBy l G _ _ _ h_s (by omega) hq2) 2 (lw_S q1675 q1676 q59 q1677) (by decide +kernel) (by decide) (by decide) rfl hl.1 rfl (Nat.le_of_ble_eq_true rfl) dX3_backOn_2 (fun v ω kc_1 ks_1 H locs q_1 hP hS => ?_)
  obtain ⟨rfl, rfl, rfl, rfl⟩ := q_1
  refine W.eq (g2 := F0 m_ 5 ls [.int (iI ((so : Int)))]) rfl ?_
  refine lv_istore_n (lv' := [(2, .int (iI ((so : Int)))), (0, .ref as), (1, .int (iI ((r : Int))))]) hx hb dX3_backOn_5 rfl hl (by decide) rfl (fun ls hl => ?_)
  refine lv_aload_n hx hb dX3_backOn_6 rfl (lv_at hl 1 rfl) ?_
  refine lv_bipush (v := iI 51) hx hb dX3_backOn_7 rfl ?_
  refine lv_iconst (v := iI 2) hx hb dX3_backOn_9 rfl ?_
  refine lv_iload_n hx hb dX3_backOn_10 rfl (lv_at hl 2 rfl) ?_
  refine g_imul hx hb dX3_backOn_11 rfl ?_
  refine g_iadd hx hb dX3_backOn_12 rfl ?_
  refine lv_iconst (v := iI 1) hx hb dX3_backOn_13 rfl ?_
  refine g_iadd hx hb dX3_backOn_14 (z := ((51 + 2 * r + 1 : Nat) : Int)) (by omega) ?_
  refine lv_iconst (v := iI 0) hx hb dX3_backOn_15 rfl ?_
  refine g_iast hx hb hK hP hS h_s (51 + 2 * r + 1) (by first | rfl | omega) (by first | decide | omega) (by first | decide | omega) dX3_backOn_16 (fun ω H locs e_2 n_2 hP hS => ?_)
  have h_s : ω ns = some (as, .inl (G.2.1 0, 59, .inl (upd f (51 + 2 * r + 1) (iI 0)))) := e_2
  have hF := hF.put n_2 rfl
  refine lv_iload_n hx hb dX3_backOn_17 rfl (lv_at hl 0 rfl) ?_
  refine g_iret hx hb hr hlk hP hS (v := (iI ((so : Int)))) rfl dX3_backOn_18 ?_
  exact ⟨rfl, rfl, rfl, ⟨_, h_s, hT.set hn hrl (by rw [pk_un (by omega), hT.2.2.1]) hq1 pk_us (fun j q1 q2 => by rw [pk_un q2])⟩, hF⟩

set_option maxHeartbeats 4000000 in
theorem m_skipOn (l : Launch) (G : GT) (ω0 : Om) (kc ks : Nat) {o aT aN aR aD aK aI aH aC : Nat} {rf sz ac sp sk : Int32} {ns : Nm} {as : Nat} {f : Nat → Int32} {ha : Nat → Int32} {σ : AS} {r k so mb : Nat} (h_o : ω0 (1, 0) = some (o, .inr (2, [.int rf, .ref aT, .int sz, .ref aN, .ref aR, .ref aD, .int ac, .ref aK, .ref aI, .ref aH, .ref aC, .int sp, .int sk]))) (h_s : ω0 ns = some (as, .inl (G.2.1 0, 59, .inl (f)))) (h_H : ω0 (1, 7) = some (aH, .inl (G.2.1 1, 12000, .inl (ha)))) (hns : ns = (1, 2) ∨ ns = (1, 3)) (hT : Tab f σ) (hn : σ.1.length ≤ 12) (hr4 : σ.2.1.length ≤ 4) (hr0 : σ.2.1[r]? = some (k, so)) (hk : k < 12) (hso : so < 2000) (hso2 : so ≤ cnt (D σ.1 k) 1000) (hmb : mb ≤ 99) (hX : ∀ u, u < 1000 → ha (1000 * k + u) = bI (D σ.1 k u)) : Ct l G yX3_skipOn cX3_skipOn 6 (some .int) 3 58 [.ref o, .ref as, .int (iI ((r : Int))), .int (iI ((mb : Int)))] ω0 kc ks (fun v ω' kc' ks' => v = some (.int (iI ((min mb (cnt (D σ.1 k) 1000 - so) : Nat) : Int))) ∧ kc = kc' ∧ ks = ks' ∧ (∃ g : Nat → Int32, ω' ns = some (as, .inl (G.2.1 0, 59, .inl (g))) ∧ Tab g (a_set σ r (k, so + min mb (cnt (D σ.1 k) 1000 - so)) σ.2.2)) ∧ Fr (fun k => k = ns) ω0 ω') := by
  refine Ct.start (by decide) (Nat.le_of_ble_eq_true rfl) ?_
  intro p_ e_ s m_ below_ meth_ c_m H locs ls hx hb hr hlk hml hown hnm hts hK hZ hP hS hl
  have hown : s.vm.findClass RX3 = some m_.cls := hown
  have hl : lv_has ls 6 [(0, .ref o), (1, .ref as), (2, .int (iI ((r : Int)))), (3, .int (iI ((mb : Int))))] := hl
  have hF : Fr ((fun k => k = ns)) ω0 ω0 := Fr.rf
  have hrl : r < σ.2.1.length := (List.getElem?_eq_some_iff.mp hr0).1
  obtain ⟨hq1, hq2⟩ := hT.2.2.2.2 r _ hr0
  have hcl := cnt_le (D σ.1 k) 1000
  refine lv_aload_n hx hb dX3_skipOn_0 rfl (lv_at hl 0 rfl) ?_
  refine lv_aload_n hx hb dX3_skipOn_1 rfl (lv_at hl 1 rfl) ?_
  refine lv_iload_n hx hb dX3_skipOn_2 rfl (lv_at hl 2 rfl) ?_
  refine g_S (As := [.ref as, .int (iI ((r : Int)))]) (rest := [.ref o]) hx hb hml hown hts hK hZ hP hS (m_listOfReader l G _ _ _ h_s (by omega) hq1) 2 (lw_S q1672 q1673 q59 q1674) (by decide +kernel) (by decide) (by decide) rfl hl.1 rfl (Nat.le_of_ble_eq_true rfl) dX3_skipOn_3 (fun v ω kc_1 ks_1 H locs q_1 hP hS => ?_)
  obtain ⟨rfl, rfl, rfl, rfl⟩ := q_1
  refine W.eq (g2 := F0 m_ 6 ls [.int (iI ((k : Int))), .ref o]) rfl ?_
  refine lv_sipush (v := iI 999) hx hb dX3_skipOn_6 rfl ?_
  refine g_V (As := [.int (iI ((k : Int))), .int (iI 999)]) (rest := []) hx hb hml hown hts hK hZ hP hS (m_countUpTo (N := 999) l G _ _ _ h_o h_H hk (by decide) hX) 2 (lw_V q1690 q1692 qs44 q59 q1693) h_o gk2 (by decide +kernel) (by decide) (by decide) rfl hl.1 rfl (Nat.le_of_ble_eq_true rfl) dX3_skipOn_9 (fun v ω kc_2 ks_2 H locs q_2 hP hS => ?_)
  obtain ⟨rfl, rfl, rfl, rfl⟩ := q_2
  refine W.eq (g2 := F0 m_ 12 ls [.int (iI (((cnt (D σ.1 k) 1000 : Nat) : Int)))]) rfl ?_
  refine lv_aload_n hx hb dX3_skipOn_12 rfl (lv_at hl 1 rfl) ?_
  refine lv_iload_n hx hb dX3_skipOn_13 rfl (lv_at hl 2 rfl) ?_
  refine g_S (As := [.ref as, .int (iI ((r : Int)))]) (rest := [.int (iI (((cnt (D σ.1 k) 1000 : Nat) : Int)))]) hx hb hml hown hts hK hZ hP hS (m_readBy l G _ _ _ h_s (by omega) hq2) 2 (lw_S q1675 q1676 q59 q1677) (by decide +kernel) (by decide) (by decide) rfl hl.1 rfl (Nat.le_of_ble_eq_true rfl) dX3_skipOn_14 (fun v ω kc_3 ks_3 H locs q_3 hP hS => ?_)
  obtain ⟨rfl, rfl, rfl, rfl⟩ := q_3
  refine W.eq (g2 := F0 m_ 17 ls [.int (iI ((so : Int))), .int (iI (((cnt (D σ.1 k) 1000 : Nat) : Int)))]) rfl ?_
  refine g_isub hx hb dX3_skipOn_17 (z := ((cnt (D σ.1 k) 1000 - so : Nat) : Int)) (by omega) ?_
  refine lv_istore (lv' := [(4, .int (iI (((cnt (D σ.1 k) 1000 - so : Nat) : Int)))), (0, .ref o), (1, .ref as), (2, .int (iI ((r : Int)))), (3, .int (iI ((mb : Int))))]) hx hb dX3_skipOn_18 hl (by decide) rfl (fun ls hl => ?_)
  refine lv_iload_n hx hb dX3_skipOn_20 rfl (lv_at hl 4 rfl) ?_
  refine lv_iload hx hb dX3_skipOn_21 (lv_at hl 0 rfl) ?_
  refine g_icmp_ge (tgt := 30) hx hb dX3_skipOn_23 (by decide) (by omega) (by omega) (fun c_23 => ?_) (fun c_23 => ?_)
  · refine lv_iload hx hb dX3_skipOn_30 (lv_at hl 0 rfl) ?_
    refine g_top (w := .int (iI (((min mb (cnt (D σ.1 k) 1000 - so) : Nat) : Int)))) (congrArg (fun x => Value.int (iI x)) (by omega)) ?_
    refine lv_istore (lv' := [(5, .int (iI (((min mb (cnt (D σ.1 k) 1000 - so) : Nat) : Int)))), (4, .int (iI (((cnt (D σ.1 k) 1000 - so : Nat) : Int)))), (0, .ref o), (1, .ref as), (2, .int (iI ((r : Int)))), (3, .int (iI ((mb : Int))))]) hx hb dX3_skipOn_32 hl (by decide) rfl (fun ls hl => ?_)
    refine lv_aload_n hx hb dX3_skipOn_34 rfl (lv_at hl 3 rfl) ?_
    refine lv_bipush (v := iI 51) hx hb dX3_skipOn_35 rfl ?_
    refine lv_iconst (v := iI 2) hx hb dX3_skipOn_37 rfl ?_
    refine lv_iload_n hx hb dX3_skipOn_38 rfl (lv_at hl 4 rfl) ?_
    refine g_imul hx hb dX3_skipOn_39 rfl ?_
    refine g_iadd hx hb dX3_skipOn_40 rfl ?_
    refine lv_iconst (v := iI 1) hx hb dX3_skipOn_41 rfl ?_
    refine g_iadd hx hb dX3_skipOn_42 (z := ((51 + 2 * r + 1 : Nat) : Int)) (by omega) ?_
    refine lv_dup2_11 hx hb dX3_skipOn_43 rfl rfl ?_
    refine g_iald hx hb hK hP h_s (51 + 2 * r + 1) (by first | rfl | omega) (by first | decide | omega) (by first | decide | omega) (v := .int (iI ((so : Int)))) (by rw [hq2]) dX3_skipOn_44 ?_
    refine lv_iload hx hb dX3_skipOn_45 (lv_at hl 0 rfl) ?_
    refine g_iadd hx hb dX3_skipOn_47 (z := ((so + min mb (cnt (D σ.1 k) 1000 - so) : Nat) : Int)) (by omega) ?_
    refine g_iast hx hb hK hP hS h_s (51 + 2 * r + 1) (by first | rfl | omega) (by first | decide | omega) (by first | decide | omega) dX3_skipOn_48 (fun ω H locs e_4 n_4 hP hS => ?_)
    have h_o := (n_4 _ (by rcases hns with rfl | rfl <;> decide)).trans h_o
    have h_s : ω ns = some (as, .inl (G.2.1 0, 59, .inl (upd f (51 + 2 * r + 1) (iI (((so + min mb (cnt (D σ.1 k) 1000 - so) : Nat) : Int)))))) := e_4
    have h_H := (n_4 _ (by rcases hns with rfl | rfl <;> decide)).trans h_H
    have hF := hF.put n_4 rfl
    refine lv_iload hx hb dX3_skipOn_49 (lv_at hl 0 rfl) ?_
    refine g_iret hx hb hr hlk hP hS (v := (iI (((min mb (cnt (D σ.1 k) 1000 - so) : Nat) : Int)))) rfl dX3_skipOn_51 ?_
    exact ⟨rfl, rfl, rfl, ⟨_, h_s, hT.set hn hrl (by rw [pk_un (by omega), hT.2.2.1]) hq1 pk_us (fun j q1 q2 => by rw [pk_un q2])⟩, hF⟩
  · refine lv_iload_n hx hb dX3_skipOn_26 rfl (lv_at hl 4 rfl) ?_
    refine lv_goto (tgt := 32) hx hb dX3_skipOn_27 (by decide) ?_
    refine g_top (w := .int (iI (((min mb (cnt (D σ.1 k) 1000 - so) : Nat) : Int)))) (congrArg (fun x => Value.int (iI x)) (by omega)) ?_
    refine lv_istore (lv' := [(5, .int (iI (((min mb (cnt (D σ.1 k) 1000 - so) : Nat) : Int)))), (4, .int (iI (((cnt (D σ.1 k) 1000 - so : Nat) : Int)))), (0, .ref o), (1, .ref as), (2, .int (iI ((r : Int)))), (3, .int (iI ((mb : Int))))]) hx hb dX3_skipOn_32 hl (by decide) rfl (fun ls hl => ?_)
    refine lv_aload_n hx hb dX3_skipOn_34 rfl (lv_at hl 3 rfl) ?_
    refine lv_bipush (v := iI 51) hx hb dX3_skipOn_35 rfl ?_
    refine lv_iconst (v := iI 2) hx hb dX3_skipOn_37 rfl ?_
    refine lv_iload_n hx hb dX3_skipOn_38 rfl (lv_at hl 4 rfl) ?_
    refine g_imul hx hb dX3_skipOn_39 rfl ?_
    refine g_iadd hx hb dX3_skipOn_40 rfl ?_
    refine lv_iconst (v := iI 1) hx hb dX3_skipOn_41 rfl ?_
    refine g_iadd hx hb dX3_skipOn_42 (z := ((51 + 2 * r + 1 : Nat) : Int)) (by omega) ?_
    refine lv_dup2_11 hx hb dX3_skipOn_43 rfl rfl ?_
    refine g_iald hx hb hK hP h_s (51 + 2 * r + 1) (by first | rfl | omega) (by first | decide | omega) (by first | decide | omega) (v := .int (iI ((so : Int)))) (by rw [hq2]) dX3_skipOn_44 ?_
    refine lv_iload hx hb dX3_skipOn_45 (lv_at hl 0 rfl) ?_
    refine g_iadd hx hb dX3_skipOn_47 (z := ((so + min mb (cnt (D σ.1 k) 1000 - so) : Nat) : Int)) (by omega) ?_
    refine g_iast hx hb hK hP hS h_s (51 + 2 * r + 1) (by first | rfl | omega) (by first | decide | omega) (by first | decide | omega) dX3_skipOn_48 (fun ω H locs e_5 n_5 hP hS => ?_)
    have h_o := (n_5 _ (by rcases hns with rfl | rfl <;> decide)).trans h_o
    have h_s : ω ns = some (as, .inl (G.2.1 0, 59, .inl (upd f (51 + 2 * r + 1) (iI (((so + min mb (cnt (D σ.1 k) 1000 - so) : Nat) : Int)))))) := e_5
    have h_H := (n_5 _ (by rcases hns with rfl | rfl <;> decide)).trans h_H
    have hF := hF.put n_5 rfl
    refine lv_iload hx hb dX3_skipOn_49 (lv_at hl 0 rfl) ?_
    refine g_iret hx hb hr hlk hP hS (v := (iI (((min mb (cnt (D σ.1 k) 1000 - so) : Nat) : Int)))) rfl dX3_skipOn_51 ?_
    exact ⟨rfl, rfl, rfl, ⟨_, h_s, hT.set hn hrl (by rw [pk_un (by omega), hT.2.2.1]) hq1 pk_us (fun j q1 q2 => by rw [pk_un q2])⟩, hF⟩

set_option maxHeartbeats 4000000 in
theorem m_stopOn (l : Launch) (G : GT) (ω0 : Om) (kc ks : Nat) {ns : Nm} {as : Nat} {f : Nat → Int32} {σ : AS} {r : Nat} (h_s : ω0 ns = some (as, .inl (G.2.1 0, 59, .inl (f)))) (hT : Tab f σ) (hn : σ.1.length ≤ 12) (hr4 : σ.2.1.length ≤ 4) (hrl : r < σ.2.1.length) : Ct l G yX3_stopOn cX3_stopOn 3 (some .int) 1 12 [.ref as, .int (iI ((r : Int)))] ω0 kc ks (fun v ω' kc' ks' => v = some (.int (iI ((σ.2.1.length - 1 : Nat) : Int))) ∧ kc = kc' ∧ ks = ks' ∧ (∃ g : Nat → Int32, ω' ns = some (as, .inl (G.2.1 0, 59, .inl (g))) ∧ Tab g (a_stop σ r)) ∧ Fr (fun k => k = ns) ω0 ω') := by
  refine Ct.start (by decide) (Nat.le_of_ble_eq_true rfl) ?_
  intro p_ e_ s m_ below_ meth_ c_m H locs ls hx hb hr hlk hml hown hnm hts hK hZ hP hS hl
  have hown : s.vm.findClass RX3 = some m_.cls := hown
  have hl : lv_has ls 3 [(0, .ref as), (1, .int (iI ((r : Int))))] := hl
  have hF : Fr ((fun k => k = ns)) ω0 ω0 := Fr.rf
  have h1 := hT.2.1
  refine lv_bipush (v := iI 51) hx hb dX3_stopOn_0 rfl ?_
  refine lv_iconst (v := iI 2) hx hb dX3_stopOn_2 rfl ?_
  refine lv_iload_n hx hb dX3_stopOn_3 rfl (lv_at hl 1 rfl) ?_
  refine g_imul hx hb dX3_stopOn_4 rfl ?_
  refine g_iadd hx hb dX3_stopOn_5 (z := ((51 + 2 * r : Nat) : Int)) (by omega) ?_
  refine lv_istore_n (lv' := [(2, .int (iI (((51 + 2 * r : Nat) : Int)))), (0, .ref as), (1, .int (iI ((r : Int))))]) hx hb dX3_stopOn_6 rfl hl (by decide) rfl (fun ls hl => ?_)
  have loop_7 : ∀ (nn : Nat) (q : Nat) (g : Nat → Int32), (51 + 2 * r ≤ q) → (q ≤ 51 + 2 * (σ.2.1.length - 1)) → (∀ j, j < 51 + 2 * r → g j = f j) → (∀ j, 51 + 2 * r ≤ j → j < q → g j = f (j + 2)) → (∀ j, q ≤ j → g j = f j) → (60 - q) < nn → ∀ (ω : Om) (H : Heap) (locs : List Loc), ω ns = some (as, .inl (G.2.1 0, 59, .inl (g))) → Fr ((fun k => k = ns)) ω0 ω → Hp G ω kc ks H → va_S (gA G) s.heap H locs →  ∀ ls : Array Slot, lv_has ls 3 [(0, .ref as), (1, .int (iI ((r : Int)))), (2, .int (iI ((q : Int))))] → gW p_ l e_ G 1 12 s m_ [.ref as, .int (iI ((r : Int)))] below_ meth_ c_m (fun v ω' kc' ks' => v = some (.int (iI ((σ.2.1.length - 1 : Nat) : Int))) ∧ kc = kc' ∧ ks = ks' ∧ (∃ g : Nat → Int32, ω' ns = some (as, .inl (G.2.1 0, 59, .inl (g))) ∧ Tab g (a_stop σ r)) ∧ Fr (fun k => k = ns) ω0 ω') H locs 7 ls [] := by
    intro nn
    induction nn with
    | zero => intro q g hq0 hq9 hg1 hg2 hg3 hlt; exact absurd hlt (Nat.not_lt_zero _)
    | succ nn ih_7 =>
      intro q g hq0 hq9 hg1 hg2 hg3 hlt ω H locs h_s hF hP hS ls hl
      refine lv_iload_n hx hb dX3_stopOn_7 rfl (lv_at hl 2 rfl) ?_
      refine lv_bipush (v := iI 51) hx hb dX3_stopOn_8 rfl ?_
      refine lv_iconst (v := iI 2) hx hb dX3_stopOn_10 rfl ?_
      refine lv_aload_n hx hb dX3_stopOn_11 rfl (lv_at hl 0 rfl) ?_
      refine lv_iconst (v := iI 1) hx hb dX3_stopOn_12 rfl ?_
      refine g_iald hx hb hK hP h_s 1 (by first | rfl | omega) (by first | decide | omega) (by first | decide | omega) (v := .int (iI ((σ.2.1.length : Int)))) (by rw [hg1 1 (by omega), h1]) dX3_stopOn_13 ?_
      refine lv_iconst (v := iI 1) hx hb dX3_stopOn_14 rfl ?_
      refine g_isub hx hb dX3_stopOn_15 rfl ?_
      refine g_imul hx hb dX3_stopOn_16 rfl ?_
      refine g_iadd hx hb dX3_stopOn_17 rfl ?_
      refine g_icmp_ge (tgt := 35) hx hb dX3_stopOn_18 (by decide) (by omega) (by omega) (fun c_18 => ?_) (fun c_18 => ?_)
      · refine lv_aload_n hx hb dX3_stopOn_35 rfl (lv_at hl 0 rfl) ?_
        refine lv_iconst (v := iI 1) hx hb dX3_stopOn_36 rfl ?_
        refine lv_dup2_11 hx hb dX3_stopOn_37 rfl rfl ?_
        refine g_iald hx hb hK hP h_s 1 (by first | rfl | omega) (by first | decide | omega) (by first | decide | omega) (v := .int (iI ((σ.2.1.length : Int)))) (by rw [hg1 1 (by omega), h1]) dX3_stopOn_38 ?_
        refine lv_iconst (v := iI 1) hx hb dX3_stopOn_39 rfl ?_
        refine g_isub hx hb dX3_stopOn_40 (z := ((σ.2.1.length - 1 : Nat) : Int)) (by omega) ?_
        refine g_iast hx hb hK hP hS h_s 1 (by first | rfl | omega) (by first | decide | omega) (by first | decide | omega) dX3_stopOn_41 (fun ω H locs e_1 n_1 hP hS => ?_)
        have h_s : ω ns = some (as, .inl (G.2.1 0, 59, .inl (upd g 1 (iI (((σ.2.1.length - 1 : Nat) : Int)))))) := e_1
        have hF := hF.put n_1 rfl
        refine lv_aload_n hx hb dX3_stopOn_42 rfl (lv_at hl 0 rfl) ?_
        refine lv_iconst (v := iI 1) hx hb dX3_stopOn_43 rfl ?_
        refine g_iald hx hb hK hP h_s 1 (by first | rfl | omega) (by first | decide | omega) (by first | decide | omega) (v := .int (iI (((σ.2.1.length - 1 : Nat) : Int)))) (by rw [pk_us]) dX3_stopOn_44 ?_
        refine g_iret hx hb hr hlk hP hS (v := (iI (((σ.2.1.length - 1 : Nat) : Int)))) rfl dX3_stopOn_45 ?_
        exact ⟨rfl, rfl, rfl, ⟨_, h_s, hT.stop hn hrl pk_us (fun j q1 q2 => by rw [pk_un q1]; exact hg1 j q2) (fun j q1 q2 => by rw [pk_un (by omega)]; exact hg2 j q1 (by omega))⟩, hF⟩
      · refine lv_aload_n hx hb dX3_stopOn_21 rfl (lv_at hl 0 rfl) ?_
        refine lv_iload_n hx hb dX3_stopOn_22 rfl (lv_at hl 2 rfl) ?_
        refine lv_aload_n hx hb dX3_stopOn_23 rfl (lv_at hl 0 rfl) ?_
        refine lv_iload_n hx hb dX3_stopOn_24 rfl (lv_at hl 2 rfl) ?_
        refine lv_iconst (v := iI 2) hx hb dX3_stopOn_25 rfl ?_
        refine g_iadd hx hb dX3_stopOn_26 (z := ((q + 2 : Nat) : Int)) (by omega) ?_
        refine g_iald hx hb hK hP h_s (q + 2) (by first | rfl | omega) (by first | decide | omega) (by first | decide | omega) (v := .int ((f (q + 2)))) (by rw [hg3 (q + 2) (by omega)]) dX3_stopOn_27 ?_
        refine g_iast hx hb hK hP hS h_s q (by first | rfl | omega) (by first | decide | omega) (by first | decide | omega) dX3_stopOn_28 (fun ω H locs e_2 n_2 hP hS => ?_)
        have h_s : ω ns = some (as, .inl (G.2.1 0, 59, .inl (upd g q ((f (q + 2)))))) := e_2
        have hF := hF.put n_2 rfl
        refine lv_iinc (v := iI (((q + 1 : Nat) : Int))) (lv' := [(2, .int (iI (((q + 1 : Nat) : Int)))), (0, .ref as), (1, .int (iI ((r : Int))))]) hx hb dX3_stopOn_29 hl (k := 2) rfl (iI_add _ _ |>.trans (congrArg iI (by omega))) (by decide) rfl (fun ls hl => ?_)
        refine lv_goto (tgt := 7) hx hb dX3_stopOn_32 (by decide) ?_
        exact ih_7 (q + 1) (upd g q (f (q + 2))) (by omega) (by omega) (fun j hj => by rw [pk_un (by omega)]; exact hg1 j hj) (fun j a b => by by_cases z : j = q; (subst z; rw [pk_us]); (rw [pk_un z]; exact hg2 j a (by omega))) (fun j hj => by rw [pk_un (by omega)]; exact hg3 j (by omega)) (by omega) _ _ _ h_s hF hP hS ls (lv_sub hl [1, 2, 0] rfl)
  exact loop_7 _ (51 + 2 * r) f (by omega) (by omega) (fun _ _ => rfl) (fun j a b => absurd b (by omega)) (fun _ _ => rfl) (Nat.lt_succ_self _) _ _ _ h_s hF hP hS ls (lv_sub hl [1, 2, 0] rfl)

set_option maxHeartbeats 4000000 in
theorem m_done (l : Launch) (G : GT) (ω0 : Om) (kc ks : Nat) {o aT aN aR aD aK aI aH aC : Nat} {rf sz ac sp : Int32} {b : Bool} {z : Int} (h_o : ω0 (1, 0) = some (o, .inr (2, [.int rf, .ref aT, .int sz, .ref aN, .ref aR, .ref aD, .int ac, .ref aK, .ref aI, .ref aH, .ref aC, .int sp, .int (iI z)]))) : Ct l G yX3_done cX3_done 2 (some .boolean) 1 12 [.ref o, .int (bI b)] ω0 kc ks (fun v ω' kc' ks' => v = some (.int (bI true)) ∧ kc = kc' ∧ ks = ks' ∧ ω' (1, 0) = some (o, .inr (2, [.int rf, .ref aT, .int sz, .ref aN, .ref aR, .ref aD, .int ac, .ref aK, .ref aI, .ref aH, .ref aC, .int sp, .int (iI (z + (if b = true then 0 else 1)))])) ∧ Fr (fun k => k = (1, 0)) ω0 ω') := by
  refine Ct.start (by decide) (Nat.le_of_ble_eq_true rfl) ?_
  intro p_ e_ s m_ below_ meth_ c_m H locs ls hx hb hr hlk hml hown hnm hts hK hZ hP hS hl
  have hown : s.vm.findClass RX3 = some m_.cls := hown
  have hl : lv_has ls 2 [(0, .ref o), (1, .int (bI b))] := hl
  have hF : Fr ((fun k => k = (1, 0))) ω0 ω0 := Fr.rf
  refine lv_aload_n hx hb dX3_done_0 rfl (lv_at hl 0 rfl) ?_
  refine lv_dup hx hb dX3_done_1 rfl ?_
  refine g_get hx hb hown hts hK hP h_o gk2 12 (by decide) q1535 (fun _ h => h) rfl dX3_done_2 ?_
  refine lv_iload_n hx hb dX3_done_5 rfl (lv_at hl 1 rfl) ?_
  refine g_ifz_eq (tgt := 13) hx hb dX3_done_6 (by decide) (fun c_6 => ?_) (fun c_6 => ?_)
  · refine lv_iconst (v := iI 1) hx hb dX3_done_13 rfl ?_
    refine g_iadd hx hb dX3_done_14 (z := z + (if b = true then 0 else 1)) (by rw [c_6]; simp) ?_
    refine g_put hx hb hown hts hK hP hS h_o gk2 12 (by decide) q1535 (fun _ h => h) rfl rfl rfl (Nat.le_of_ble_eq_true rfl) dX3_done_15 (fun ω H locs e_1 n_1 hP hS => ?_)
    have h_o : ω (1, 0) = some (o, .inr (2, [.int rf, .ref aT, .int sz, .ref aN, .ref aR, .ref aD, .int ac, .ref aK, .ref aI, .ref aH, .ref aC, .int sp, .int (iI (z + (if b = true then 0 else 1)))])) := e_1
    have hF := hF.put n_1 rfl
    refine lv_iconst (v := iI 1) hx hb dX3_done_18 rfl ?_
    refine g_iret hx hb hr hlk hP hS (v := (iI 1)) rfl dX3_done_19 ?_
    exact ⟨rfl, rfl, rfl, h_o, hF⟩
  · refine lv_iconst (v := iI 0) hx hb dX3_done_9 rfl ?_
    refine lv_goto (tgt := 14) hx hb dX3_done_10 (by decide) ?_
    refine g_iadd hx hb dX3_done_14 (z := z + (if b = true then 0 else 1)) (by rw [c_6]; simp) ?_
    refine g_put hx hb hown hts hK hP hS h_o gk2 12 (by decide) q1535 (fun _ h => h) rfl rfl rfl (Nat.le_of_ble_eq_true rfl) dX3_done_15 (fun ω H locs e_2 n_2 hP hS => ?_)
    have h_o : ω (1, 0) = some (o, .inr (2, [.int rf, .ref aT, .int sz, .ref aN, .ref aR, .ref aD, .int ac, .ref aK, .ref aI, .ref aH, .ref aC, .int sp, .int (iI (z + (if b = true then 0 else 1)))])) := e_2
    have hF := hF.put n_2 rfl
    refine lv_iconst (v := iI 1) hx hb dX3_done_18 rfl ?_
    refine g_iret hx hb hr hlk hP hS (v := (iI 1)) rfl dX3_done_19 ?_
    exact ⟨rfl, rfl, rfl, h_o, hF⟩

