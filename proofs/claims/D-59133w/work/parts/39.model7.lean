/-! ## the reference: commands -/
theorem m_fig2 (l : Launch) (G : GT) (ω0 : Om) (kc ks : Nat) {o aT aN aR aD aK aI aH aC : Nat} {rf ac sk : Int32} {tx : Nat → Int32} {t : List Nat} {lo hi : Nat} (a : Nat × Bool × Nat) (h_o : ω0 (1, 0) = some (o, .inr (2, [.int rf, .ref aT, .int (iI ((t.length : Int))), .ref aN, .ref aR, .ref aD, .int ac, .ref aK, .ref aI, .ref aH, .ref aC, .int (iI ((a.2.2 : Int))), .int sk]))) (h_T : ω0 (1, 1) = some (aT, .inl (G.2.1 0, 120, .inl (tx)))) (hX : TX tx t) (ha : a.1 ≤ 999) (hlo : lo ≤ 9) (hhi : hi ≤ 99) (hp : a.2.2 ≤ 120) : Ct l G yX3_figures cX3_figures 9 (some .int) 2 37 [.ref o, .int (iI (mv a)), .int (iI 10), .int (iI (lo : Int)), .int (iI (hi : Int))] ω0 kc ks (fun v ω' kc' ks' => v = some (.int (iI (mv (twoS t a.2 lo hi)))) ∧ kc = kc' ∧ ks = ks' ∧ ω' (1, 0) = some (o, .inr (2, [.int rf, .ref aT, .int (iI ((t.length : Int))), .ref aN, .ref aR, .ref aD, .int ac, .ref aK, .ref aI, .ref aH, .ref aC, .int (iI (((twoS t a.2 lo hi).2.2 : Int))), .int sk])) ∧ Fr (fun k => k = (1, 0)) ω0 ω') := by
  refine (m_figures l G ω0 kc ks (J := 2) h_o h_T hX (by have := mv_rng ha; omega) (by decide) hlo (by omega) hp).imp ?_
  rintro v ω' kc' ks' ⟨h1, h2, h3, h4, h5⟩
  have e := chain2 (t := t) (a := a) (lo := lo) (hi := hi) hlo hhi
  rw [e.1] at h1
  rw [e.2] at h4
  exact ⟨h1, h2, h3, h4, h5⟩
theorem m_fig1 (l : Launch) (G : GT) (ω0 : Om) (kc ks : Nat) {o aT aN aR aD aK aI aH aC : Nat} {rf ac sk : Int32} {tx : Nat → Int32} {t : List Nat} {lo hi : Nat} (a : Nat × Bool × Nat) (h_o : ω0 (1, 0) = some (o, .inr (2, [.int rf, .ref aT, .int (iI ((t.length : Int))), .ref aN, .ref aR, .ref aD, .int ac, .ref aK, .ref aI, .ref aH, .ref aC, .int (iI ((a.2.2 : Int))), .int sk]))) (h_T : ω0 (1, 1) = some (aT, .inl (G.2.1 0, 120, .inl (tx)))) (hX : TX tx t) (ha : a.1 ≤ 999) (hlo : lo ≤ 9) (hhi : hi ≤ 9) (hp : a.2.2 ≤ 120) : Ct l G yX3_figures cX3_figures 9 (some .int) 2 37 [.ref o, .int (iI (mv a)), .int (iI 1), .int (iI (lo : Int)), .int (iI (hi : Int))] ω0 kc ks (fun v ω' kc' ks' => v = some (.int (iI (mv (dgS t a.2 lo hi)))) ∧ kc = kc' ∧ ks = ks' ∧ ω' (1, 0) = some (o, .inr (2, [.int rf, .ref aT, .int (iI ((t.length : Int))), .ref aN, .ref aR, .ref aD, .int ac, .ref aK, .ref aI, .ref aH, .ref aC, .int (iI (((dgS t a.2 lo hi).2.2 : Int))), .int sk])) ∧ Fr (fun k => k = (1, 0)) ω0 ω') := by
  refine (m_figures l G ω0 kc ks (J := 1) h_o h_T hX (by have := mv_rng ha; omega) (by decide) hlo (by omega) hp).imp ?_
  rintro v ω' kc' ks' ⟨h1, h2, h3, h4, h5⟩
  have e := chain1 (t := t) (a := a) (lo := lo) (hi := hi) hhi
  rw [e.1] at h1
  rw [e.2] at h4
  exact ⟨h1, h2, h3, h4, h5⟩
theorem m_fig3 (l : Launch) (G : GT) (ω0 : Om) (kc ks : Nat) {o aT aN aR aD aK aI aH aC : Nat} {rf ac sk : Int32} {tx : Nat → Int32} {t : List Nat} {p : Nat} (h_o : ω0 (1, 0) = some (o, .inr (2, [.int rf, .ref aT, .int (iI ((t.length : Int))), .ref aN, .ref aR, .ref aD, .int ac, .ref aK, .ref aI, .ref aH, .ref aC, .int (iI ((p : Int))), .int sk]))) (h_T : ω0 (1, 1) = some (aT, .inl (G.2.1 0, 120, .inl (tx)))) (hX : TX tx t) (hp : p ≤ 120) : Ct l G yX3_figures cX3_figures 9 (some .int) 2 37 [.ref o, .int (iI 0), .int (iI 100), .int (iI 0), .int (iI 999)] ω0 kc ks (fun v ω' kc' ks' => v = some (.int (iI (mv (threeS t (true, p))))) ∧ kc = kc' ∧ ks = ks' ∧ ω' (1, 0) = some (o, .inr (2, [.int rf, .ref aT, .int (iI ((t.length : Int))), .ref aN, .ref aR, .ref aD, .int ac, .ref aK, .ref aI, .ref aH, .ref aC, .int (iI (((threeS t (true, p)).2.2 : Int))), .int sk])) ∧ Fr (fun k => k = (1, 0)) ω0 ω') := by
  refine (m_figures l G ω0 kc ks (J := 3) (lo := 0) (hi := 999) (z := 0) h_o h_T hX (by decide) (by decide) (by decide) (by decide) hp).imp ?_
  rintro v ω' kc' ks' ⟨h1, h2, h3, h4, h5⟩
  have e := fg3 t (p := p)
  rw [if_neg (by decide), e.1] at h1
  rw [if_neg (by decide), e.2] at h4
  exact ⟨h1, h2, h3, h4, h5⟩
theorem m_done_true (l : Launch) (G : GT) (ω0 : Om) (kc ks : Nat) {o aT aN aR aD aK aI aH aC : Nat} {rf sz ac sp : Int32} {k : Nat} (h_o : ω0 (1, 0) = some (o, .inr (2, [.int rf, .ref aT, .int sz, .ref aN, .ref aR, .ref aD, .int ac, .ref aK, .ref aI, .ref aH, .ref aC, .int sp, .int (iI ((k : Int)))]))) : Ct l G yX3_done cX3_done 2 (some .boolean) 1 12 [.ref o, .int (bI true)] ω0 kc ks (fun v ω' kc' ks' => v = some (.int (bI true)) ∧ kc = kc' ∧ ks = ks' ∧ ω' (1, 0) = some (o, .inr (2, [.int rf, .ref aT, .int sz, .ref aN, .ref aR, .ref aD, .int ac, .ref aK, .ref aI, .ref aH, .ref aC, .int sp, .int (iI ((k : Int)))])) ∧ Fr (fun k => k = (1, 0)) ω0 ω') :=
  (m_done l G ω0 kc ks (b := true) h_o).imp (fun v ω' kc' ks' ⟨h1, h2, h3, h4, h5⟩ => ⟨h1, h2, h3, by simpa using h4, h5⟩)
theorem m_done_false (l : Launch) (G : GT) (ω0 : Om) (kc ks : Nat) {o aT aN aR aD aK aI aH aC : Nat} {rf sz ac sp : Int32} {k : Nat} (h_o : ω0 (1, 0) = some (o, .inr (2, [.int rf, .ref aT, .int sz, .ref aN, .ref aR, .ref aD, .int ac, .ref aK, .ref aI, .ref aH, .ref aC, .int sp, .int (iI ((k : Int)))]))) : Ct l G yX3_done cX3_done 2 (some .boolean) 1 12 [.ref o, .int (bI false)] ω0 kc ks (fun v ω' kc' ks' => v = some (.int (bI true)) ∧ kc = kc' ∧ ks = ks' ∧ ω' (1, 0) = some (o, .inr (2, [.int rf, .ref aT, .int sz, .ref aN, .ref aR, .ref aD, .int ac, .ref aK, .ref aI, .ref aH, .ref aC, .int sp, .int (iI (((k + 1 : Nat) : Int)))])) ∧ Fr (fun k => k = (1, 0)) ω0 ω') :=
  (m_done l G ω0 kc ks (b := false) h_o).imp (fun v ω' kc' ks' ⟨h1, h2, h3, h4, h5⟩ => ⟨h1, h2, h3, by simpa using h4, h5⟩)
set_option maxHeartbeats 4000000 in
theorem m_readSteps (l : Launch) (G : GT) (ω0 : Om) (kc ks : Nat) {o aT aN aR aD aK aI aH aC : Nat} {rf ac : Int32} {ns : Nm} {as : Nat} {f : Nat → Int32} {tx : Nat → Int32} {t : List Nat} {p k : Nat} {σ : AS} (h_o : ω0 (1, 0) = some (o, .inr (2, [.int rf, .ref aT, .int (iI ((t.length : Int))), .ref aN, .ref aR, .ref aD, .int ac, .ref aK, .ref aI, .ref aH, .ref aC, .int (iI ((p : Int))), .int (iI ((k : Int)))]))) (h_s : ω0 ns = some (as, .inl (G.2.1 0, 59, .inl (f)))) (h_T : ω0 (1, 1) = some (aT, .inl (G.2.1 0, 120, .inl (tx)))) (hns : ns = (1, 2) ∨ ns = (1, 3)) (hX : TX tx t) (hT : Tab f σ) (hA : okA σ) (hp : p ≤ t.length) : Ct l G yX3_readSteps cX3_readSteps 4 (some .boolean) 3 65 [.ref o, .ref as] ω0 kc ks (fun v ω' kc' ks' => v = some (.int (bI (c_s t (true, p) σ k).1.1)) ∧ kc = kc' ∧ ks = ks' ∧ ω' (1, 0) = some (o, .inr (2, [.int rf, .ref aT, .int (iI ((t.length : Int))), .ref aN, .ref aR, .ref aD, .int ac, .ref aK, .ref aI, .ref aH, .ref aC, .int (iI (((c_s t (true, p) σ k).1.2 : Int))), .int (iI (((c_s t (true, p) σ k).2.2 : Int)))])) ∧ (∃ g : Nat → Int32, ω' ns = some (as, .inl (G.2.1 0, 59, .inl (g))) ∧ Tab g (c_s t (true, p) σ k).2.1) ∧ Fr (fun k => k = (1, 0) ∨ k = ns) ω0 ω') := by
  refine Ct.start (by decide) (Nat.le_of_ble_eq_true rfl) ?_
  intro p_ e_ s m_ below_ meth_ c_m H locs ls hx hb hr hlk hml hown hnm hts hK hZ hP hS hl
  have hown : s.vm.findClass RX3 = some m_.cls := hown
  have hl : lv_has ls 4 [(0, .ref o), (1, .ref as)] := hl
  have hF : Fr ((fun k => k = (1, 0) ∨ k = ns)) ω0 ω0 := Fr.rf
  have hn12 : σ.1.length ≤ 12 := hA.1
  have ht120 := hX.2.2
  have hps := threeS_pos (t := t) (ps := (true, p))
  have hbs := threeS_bd (t := t) (ps := (true, p))
  have hps2 := hps.2 hp
  have hbt := twoS_bd (t := t) (ps := (threeS t (true, p)).2) (lo := 1) (hi := 99) (by decide) (by decide) (by decide) (by decide)
  refine lv_aload_n hx hb dX3_readSteps_0 rfl (lv_at hl 0 rfl) ?_
  refine lv_iconst (v := iI 0) hx hb dX3_readSteps_1 rfl ?_
  refine lv_bipush (v := iI 100) hx hb dX3_readSteps_2 rfl ?_
  refine lv_iconst (v := iI 0) hx hb dX3_readSteps_4 rfl ?_
  refine lv_sipush (v := iI 999) hx hb dX3_readSteps_5 rfl ?_
  refine g_V (As := [.int (iI 0), .int (iI 100), .int (iI 0), .int (iI 999)]) (rest := []) hx hb hml hown hts hK hZ hP hS (m_fig3 l G _ _ _ h_o h_T hX (by omega)) 4 (lw_V q1599 q1601 qs28 q59 q1602) h_o gk2 (by decide +kernel) (by decide) (by decide) rfl hl.1 rfl (Nat.le_of_ble_eq_true rfl) dX3_readSteps_8 (fun v ω kc_1 ks_1 H locs q_1 hP hS => ?_)
  obtain ⟨rfl, rfl, rfl, hh_o, hfr⟩ := q_1
  have h_o : ω (1, 0) = some (o, .inr (2, [.int rf, .ref aT, .int (iI ((t.length : Int))), .ref aN, .ref aR, .ref aD, .int ac, .ref aK, .ref aI, .ref aH, .ref aC, .int (iI ((((threeS t (true, p))).2.2 : Int))), .int (iI ((k : Int)))])) := hh_o
  have h_s := hfr.at (by rcases hns with rfl | rfl <;> decide) h_s
  have h_T := hfr.at (by decide) h_T
  have hF := hF.trans hfr (fun k hk => Or.inl hk)
  refine W.eq (g2 := F0 m_ 11 ls [.int (iI (mv ((threeS t (true, p)))))]) rfl ?_
  refine lv_istore_n (lv' := [(2, .int (iI (mv ((threeS t (true, p)))))), (0, .ref o), (1, .ref as)]) hx hb dX3_readSteps_11 rfl hl (by decide) rfl (fun ls hl => ?_)
  refine lv_aload_n hx hb dX3_readSteps_12 rfl (lv_at hl 1 rfl) ?_
  refine lv_iload_n hx hb dX3_readSteps_13 rfl (lv_at hl 0 rfl) ?_
  refine lv_bipush (v := iI 10) hx hb dX3_readSteps_14 rfl ?_
  refine lv_iconst (v := iI 1) hx hb dX3_readSteps_16 rfl ?_
  refine lv_bipush (v := iI 99) hx hb dX3_readSteps_17 rfl ?_
  refine g_V (As := [.int (iI (mv ((threeS t (true, p))))), .int (iI 10), .int (iI 1), .int (iI 99)]) (rest := []) hx hb hml hown hts hK hZ hP hS (m_fig2 l G _ _ _ ((threeS t (true, p))) h_o h_T hX (by omega) (by decide) (by decide) (by omega) (lo := 1) (hi := 99)) 4 (lw_V q1599 q1601 qs28 q59 q1602) h_o gk2 (by decide +kernel) (by decide) (by decide) rfl hl.1 rfl (Nat.le_of_ble_eq_true rfl) dX3_readSteps_19 (fun v ω kc_2 ks_2 H locs q_2 hP hS => ?_)
  obtain ⟨rfl, rfl, rfl, hh_o, hfr⟩ := q_2
  have h_o : ω (1, 0) = some (o, .inr (2, [.int rf, .ref aT, .int (iI ((t.length : Int))), .ref aN, .ref aR, .ref aD, .int ac, .ref aK, .ref aI, .ref aH, .ref aC, .int (iI ((((twoS t (threeS t (true, p)).2 1 99)).2.2 : Int))), .int (iI ((k : Int)))])) := hh_o
  have h_s := hfr.at (by rcases hns with rfl | rfl <;> decide) h_s
  have h_T := hfr.at (by decide) h_T
  have hF := hF.trans hfr (fun k hk => Or.inl hk)
  refine W.eq (g2 := F0 m_ 22 ls [.int (iI (mv ((twoS t (threeS t (true, p)).2 1 99))))]) rfl ?_
  refine lv_istore_n (lv' := [(3, .int (iI (mv ((twoS t (threeS t (true, p)).2 1 99))))), (2, .int (iI (mv ((threeS t (true, p)))))), (0, .ref o), (1, .ref as)]) hx hb dX3_readSteps_22 rfl hl (by decide) rfl (fun ls hl => ?_)
  refine lv_iload_n hx hb dX3_readSteps_23 rfl (lv_at hl 0 rfl) ?_
  refine lv_iconst (v := iI (-1)) hx hb dX3_readSteps_24 rfl ?_
  refine g_icmp_eq (tgt := 62) hx hb dX3_readSteps_25 (by decide) (by have := mv_rng hbt.2; omega) (by omega) (fun c_25 => ?_) (fun c_25 => ?_)
  · refine lv_iconst (v := iI 0) hx hb dX3_readSteps_62 rfl ?_
    refine g_iret hx hb hr hlk hP hS (v := (iI 0)) rfl dX3_readSteps_63 ?_
    have e : c_s t (true, p) σ k = ((twoS t (threeS t (true, p)).2 1 99).2, σ, k) := by unfold c_s; exact mkS_no (mv_f.mp c_25)
    rw [e]
    exact ⟨bI_2 (mv_f.mp c_25), rfl, rfl, h_o, ⟨_, h_s, hT⟩, hF⟩
  · refine lv_aload_n hx hb dX3_readSteps_28 rfl (lv_at hl 2 rfl) ?_
    refine lv_aload_n hx hb dX3_readSteps_29 rfl (lv_at hl 3 rfl) ?_
    refine g_S (As := [.ref as]) (rest := [.ref o]) hx hb hml hown hts hK hZ hP hS (m_hasRoom l G _ _ _ h_s hT.1 hn12) 1 (lw_S q1604 q1605 q59 q1606) (by decide +kernel) (by decide) (by decide) rfl hl.1 rfl (Nat.le_of_ble_eq_true rfl) dX3_readSteps_30 (fun v ω kc_3 ks_3 H locs q_3 hP hS => ?_)
    obtain ⟨rfl, rfl, rfl, rfl⟩ := q_3
    refine W.eq (g2 := F0 m_ 33 ls [.int (bI (decide (σ.1.length < 12))), .ref o]) rfl ?_
    refine g_ifz_eq (tgt := 51) hx hb dX3_readSteps_33 (by decide) (fun c_33 => ?_) (fun c_33 => ?_)
    · refine lv_iconst (v := iI 0) hx hb dX3_readSteps_51 rfl ?_
      refine g_top (w := .int (bI false)) rfl ?_
      refine g_V (As := [.int (bI false)]) (rest := []) hx hb hml hown hts hK hZ hP hS (m_done_false l G _ _ _ h_o) 1 (lw_V q1610 q1612 qs29 q59 q1613) h_o gk2 (by decide +kernel) (by decide) (by decide) rfl hl.1 rfl (Nat.le_of_ble_eq_true rfl) dX3_readSteps_52 (fun v ω kc_4 ks_4 H locs q_4 hP hS => ?_)
      obtain ⟨rfl, rfl, rfl, hh_o, hfr⟩ := q_4
      have h_o : ω (1, 0) = some (o, .inr (2, [.int rf, .ref aT, .int (iI ((t.length : Int))), .ref aN, .ref aR, .ref aD, .int ac, .ref aK, .ref aI, .ref aH, .ref aC, .int (iI ((((twoS t (threeS t (true, p)).2 1 99)).2.2 : Int))), .int (iI (((k + 1 : Nat) : Int)))])) := hh_o
      have h_s := hfr.at (by rcases hns with rfl | rfl <;> decide) h_s
      have h_T := hfr.at (by decide) h_T
      have hF := hF.trans hfr (fun k hk => Or.inl hk)
      refine W.eq (g2 := F0 m_ 55 ls [.int (bI true)]) rfl ?_
      refine g_ifz_eq (tgt := 62) hx hb dX3_readSteps_55 (by decide) (fun c_55 => absurd c_55 (by decide)) (fun c_55 => ?_)
      refine lv_iconst (v := iI 1) hx hb dX3_readSteps_58 rfl ?_
      refine lv_goto (tgt := 63) hx hb dX3_readSteps_59 (by decide) ?_
      refine g_iret hx hb hr hlk hP hS (v := (iI 1)) rfl dX3_readSteps_63 ?_
      have e : c_s t (true, p) σ k = ((twoS t (threeS t (true, p)).2 1 99).2, σ, k + 1) := by unfold c_s; exact mkS_not (mv_ne c_25) (by exact c_33)
      rw [e]
      exact ⟨bI_1 (mv_ne c_25), rfl, rfl, h_o, ⟨_, h_s, hT⟩, hF⟩
    · have hroom := of_decide_eq_true c_33
      have hgo := mv_ne c_25
      have hga := twoS_on hgo
      refine lv_aload_n hx hb dX3_readSteps_36 rfl (lv_at hl 3 rfl) ?_
      refine lv_iconst (v := iI 0) hx hb dX3_readSteps_37 rfl ?_
      refine lv_iload_n hx hb dX3_readSteps_38 rfl (lv_at hl 1 rfl) ?_
      refine g_top (w := .int (iI (((threeS t (true, p)).1 : Int)))) (by rw [mv_t hga]) ?_
      refine lv_iload_n hx hb dX3_readSteps_39 rfl (lv_at hl 0 rfl) ?_
      refine g_top (w := .int (iI (((twoS t (threeS t (true, p)).2 1 99).1 : Int)))) (by rw [mv_t hgo]) ?_
      refine lv_iconst (v := iI 0) hx hb dX3_readSteps_40 rfl ?_
      refine g_S (As := [.ref as, .int (iI 0), .int (iI (((threeS t (true, p)).1 : Int))), .int (iI (((twoS t (threeS t (true, p)).2 1 99).1 : Int))), .int (iI 0)]) (rest := [.ref o]) hx hb hml hown hts hK hZ hP hS (m_make (kd := 0) (a := (threeS t (true, p)).1) (b := (twoS t (threeS t (true, p)).2 1 99).1) (d := 0) l G _ _ _ h_s hT (by omega) hA.2.2.1) 5 (lw_S q1607 q1608 q59 q1609) (by decide +kernel) (by decide) (by decide) rfl hl.1 rfl (Nat.le_of_ble_eq_true rfl) dX3_readSteps_41 (fun v ω kc_5 ks_5 H locs q_5 hP hS => ?_)
      obtain ⟨rfl, rfl, rfl, ⟨gM, hgM, hTM⟩, hfr⟩ := q_5
      have h_o := hfr.at (by rintro rfl; rcases hns with q | q <;> cases q) h_o
      have h_s : ω ns = some (as, .inl (G.2.1 0, 59, .inl (gM))) := hgM
      have h_T := hfr.at (by rintro rfl; rcases hns with q | q <;> cases q) h_T
      have hF := hF.trans hfr (fun k hk => Or.inr hk)
      refine W.eq (g2 := F0 m_ 44 ls [.int (iI ((σ.1.length : Int))), .ref o]) rfl ?_
      refine g_if_lt (tgt := 51) hx hb dX3_readSteps_44 (by decide) (by omega) (fun c_44 => ?_) (fun c_44 => ?_)
      · exact absurd c_44 (by omega)
      · refine lv_iconst (v := iI 1) hx hb dX3_readSteps_47 rfl ?_
        refine lv_goto (tgt := 52) hx hb dX3_readSteps_48 (by decide) ?_
        refine g_top (w := .int (bI true)) rfl ?_
        refine g_V (As := [.int (bI true)]) (rest := []) hx hb hml hown hts hK hZ hP hS (m_done_true l G _ _ _ h_o) 1 (lw_V q1610 q1612 qs29 q59 q1613) h_o gk2 (by decide +kernel) (by decide) (by decide) rfl hl.1 rfl (Nat.le_of_ble_eq_true rfl) dX3_readSteps_52 (fun v ω kc_6 ks_6 H locs q_6 hP hS => ?_)
        obtain ⟨rfl, rfl, rfl, hh_o, hfr⟩ := q_6
        have h_o : ω (1, 0) = some (o, .inr (2, [.int rf, .ref aT, .int (iI ((t.length : Int))), .ref aN, .ref aR, .ref aD, .int ac, .ref aK, .ref aI, .ref aH, .ref aC, .int (iI ((((twoS t (threeS t (true, p)).2 1 99)).2.2 : Int))), .int (iI ((k : Int)))])) := hh_o
        have h_s := hfr.at (by rcases hns with rfl | rfl <;> decide) h_s
        have h_T := hfr.at (by decide) h_T
        have hF := hF.trans hfr (fun k hk => Or.inl hk)
        refine W.eq (g2 := F0 m_ 55 ls [.int (bI true)]) rfl ?_
        refine g_ifz_eq (tgt := 62) hx hb dX3_readSteps_55 (by decide) (fun c_55 => absurd c_55 (by decide)) (fun c_55 => ?_)
        refine lv_iconst (v := iI 1) hx hb dX3_readSteps_58 rfl ?_
        refine lv_goto (tgt := 63) hx hb dX3_readSteps_59 (by decide) ?_
        refine g_iret hx hb hr hlk hP hS (v := (iI 1)) rfl dX3_readSteps_63 ?_
        have e : c_s t (true, p) σ k = ((twoS t (threeS t (true, p)).2 1 99).2, a_make σ (0, (threeS t (true, p)).1, (twoS t (threeS t (true, p)).2 1 99).1, 0), k) := by unfold c_s; exact mkS_can (mv_ne c_25) (by exact c_33)
        rw [e]
        exact ⟨bI_1 (mv_ne c_25), rfl, rfl, h_o, ⟨_, h_s, hTM⟩, hF⟩

set_option maxHeartbeats 4000000 in
theorem m_readScaled (l : Launch) (G : GT) (ω0 : Om) (kc ks : Nat) {o aT aN aR aD aK aI aH aC : Nat} {rf ac : Int32} {ns : Nm} {as : Nat} {f : Nat → Int32} {tx : Nat → Int32} {t : List Nat} {p k : Nat} {σ : AS} (h_o : ω0 (1, 0) = some (o, .inr (2, [.int rf, .ref aT, .int (iI ((t.length : Int))), .ref aN, .ref aR, .ref aD, .int ac, .ref aK, .ref aI, .ref aH, .ref aC, .int (iI ((p : Int))), .int (iI ((k : Int)))]))) (h_s : ω0 ns = some (as, .inl (G.2.1 0, 59, .inl (f)))) (h_T : ω0 (1, 1) = some (aT, .inl (G.2.1 0, 120, .inl (tx)))) (hns : ns = (1, 2) ∨ ns = (1, 3)) (hX : TX tx t) (hT : Tab f σ) (hA : okA σ) (hp : p ≤ t.length) : Ct l G yX3_readScaled cX3_readScaled 5 (some .boolean) 3 65 [.ref o, .ref as] ω0 kc ks (fun v ω' kc' ks' => v = some (.int (bI (c_x t (true, p) σ k).1.1)) ∧ kc = kc' ∧ ks = ks' ∧ ω' (1, 0) = some (o, .inr (2, [.int rf, .ref aT, .int (iI ((t.length : Int))), .ref aN, .ref aR, .ref aD, .int ac, .ref aK, .ref aI, .ref aH, .ref aC, .int (iI (((c_x t (true, p) σ k).1.2 : Int))), .int (iI (((c_x t (true, p) σ k).2.2 : Int)))])) ∧ (∃ g : Nat → Int32, ω' ns = some (as, .inl (G.2.1 0, 59, .inl (g))) ∧ Tab g (c_x t (true, p) σ k).2.1) ∧ Fr (fun k => k = (1, 0) ∨ k = ns) ω0 ω') := by
  refine Ct.start (by decide) (Nat.le_of_ble_eq_true rfl) ?_
  intro p_ e_ s m_ below_ meth_ c_m H locs ls hx hb hr hlk hml hown hnm hts hK hZ hP hS hl
  have hown : s.vm.findClass RX3 = some m_.cls := hown
  have hl : lv_has ls 5 [(0, .ref o), (1, .ref as)] := hl
  have hF : Fr ((fun k => k = (1, 0) ∨ k = ns)) ω0 ω0 := Fr.rf
  have hn12 : σ.1.length ≤ 12 := hA.1
  have ht120 := hX.2.2
  have hb0 := twoS_bd (t := t) (ps := (true, p)) (lo := 0) (hi := 11) (by decide) (by decide) (by decide) (by decide)
  have hb1 := dgS_bd (t := t) (ps := (twoS t (true, p) 0 11).2) (lo := 1) (hi := 9) (by decide)
  have hb2 := twoS_bd (t := t) (ps := (dgS t (twoS t (true, p) 0 11).2 1 9).2) (lo := 0) (hi := 99) (by decide) (by decide) (by decide) (by decide)
  have hq0 := (twoS_pos (t := t) (ps := (true, p)) (lo := 0) (hi := 11)).2 hp
  have hq1 := (dgS_pos (t := t) (ps := (twoS t (true, p) 0 11).2) (lo := 1) (hi := 9)).2.2 hq0
  refine lv_aload_n hx hb dX3_readScaled_0 rfl (lv_at hl 0 rfl) ?_
  refine lv_iconst (v := iI 0) hx hb dX3_readScaled_1 rfl ?_
  refine lv_bipush (v := iI 10) hx hb dX3_readScaled_2 rfl ?_
  refine lv_iconst (v := iI 0) hx hb dX3_readScaled_4 rfl ?_
  refine lv_bipush (v := iI 11) hx hb dX3_readScaled_5 rfl ?_
  refine g_V (As := [.int (iI 0), .int (iI 10), .int (iI 0), .int (iI 11)]) (rest := []) hx hb hml hown hts hK hZ hP hS (m_fig2 l G _ _ _ ((0, true, p)) h_o h_T hX (Nat.zero_le _) (by decide) (by decide) (by show p ≤ 120; omega) (lo := 0) (hi := 11)) 4 (lw_V q1599 q1601 qs28 q59 q1602) h_o gk2 (by decide +kernel) (by decide) (by decide) rfl hl.1 rfl (Nat.le_of_ble_eq_true rfl) dX3_readScaled_7 (fun v ω kc_1 ks_1 H locs q_1 hP hS => ?_)
  obtain ⟨rfl, rfl, rfl, hh_o, hfr⟩ := q_1
  have h_o : ω (1, 0) = some (o, .inr (2, [.int rf, .ref aT, .int (iI ((t.length : Int))), .ref aN, .ref aR, .ref aD, .int ac, .ref aK, .ref aI, .ref aH, .ref aC, .int (iI ((((twoS t (true, p) 0 11)).2.2 : Int))), .int (iI ((k : Int)))])) := hh_o
  have h_s := hfr.at (by rcases hns with rfl | rfl <;> decide) h_s
  have h_T := hfr.at (by decide) h_T
  have hF := hF.trans hfr (fun k hk => Or.inl hk)
  refine W.eq (g2 := F0 m_ 10 ls [.int (iI (mv ((twoS t (true, p) 0 11))))]) rfl ?_
  refine lv_istore_n (lv' := [(2, .int (iI (mv ((twoS t (true, p) 0 11))))), (0, .ref o), (1, .ref as)]) hx hb dX3_readScaled_10 rfl hl (by decide) rfl (fun ls hl => ?_)
  refine lv_aload_n hx hb dX3_readScaled_11 rfl (lv_at hl 1 rfl) ?_
  refine lv_iload_n hx hb dX3_readScaled_12 rfl (lv_at hl 0 rfl) ?_
  refine lv_iconst (v := iI 1) hx hb dX3_readScaled_13 rfl ?_
  refine lv_iconst (v := iI 1) hx hb dX3_readScaled_14 rfl ?_
  refine lv_bipush (v := iI 9) hx hb dX3_readScaled_15 rfl ?_
  refine g_V (As := [.int (iI (mv ((twoS t (true, p) 0 11)))), .int (iI 1), .int (iI 1), .int (iI 9)]) (rest := []) hx hb hml hown hts hK hZ hP hS (m_fig1 l G _ _ _ ((twoS t (true, p) 0 11)) h_o h_T hX (by omega) (by decide) (by decide) (by omega) (lo := 1) (hi := 9)) 4 (lw_V q1599 q1601 qs28 q59 q1602) h_o gk2 (by decide +kernel) (by decide) (by decide) rfl hl.1 rfl (Nat.le_of_ble_eq_true rfl) dX3_readScaled_17 (fun v ω kc_2 ks_2 H locs q_2 hP hS => ?_)
  obtain ⟨rfl, rfl, rfl, hh_o, hfr⟩ := q_2
  have h_o : ω (1, 0) = some (o, .inr (2, [.int rf, .ref aT, .int (iI ((t.length : Int))), .ref aN, .ref aR, .ref aD, .int ac, .ref aK, .ref aI, .ref aH, .ref aC, .int (iI ((((dgS t (twoS t (true, p) 0 11).2 1 9)).2.2 : Int))), .int (iI ((k : Int)))])) := hh_o
  have h_s := hfr.at (by rcases hns with rfl | rfl <;> decide) h_s
  have h_T := hfr.at (by decide) h_T
  have hF := hF.trans hfr (fun k hk => Or.inl hk)
  refine W.eq (g2 := F0 m_ 20 ls [.int (iI (mv ((dgS t (twoS t (true, p) 0 11).2 1 9))))]) rfl ?_
  refine lv_istore_n (lv' := [(3, .int (iI (mv ((dgS t (twoS t (true, p) 0 11).2 1 9))))), (2, .int (iI (mv ((twoS t (true, p) 0 11))))), (0, .ref o), (1, .ref as)]) hx hb dX3_readScaled_20 rfl hl (by decide) rfl (fun ls hl => ?_)
  refine lv_aload_n hx hb dX3_readScaled_21 rfl (lv_at hl 2 rfl) ?_
  refine lv_iload_n hx hb dX3_readScaled_22 rfl (lv_at hl 0 rfl) ?_
  refine lv_bipush (v := iI 10) hx hb dX3_readScaled_23 rfl ?_
  refine lv_iconst (v := iI 0) hx hb dX3_readScaled_25 rfl ?_
  refine lv_bipush (v := iI 99) hx hb dX3_readScaled_26 rfl ?_
  refine g_V (As := [.int (iI (mv ((dgS t (twoS t (true, p) 0 11).2 1 9)))), .int (iI 10), .int (iI 0), .int (iI 99)]) (rest := []) hx hb hml hown hts hK hZ hP hS (m_fig2 l G _ _ _ ((dgS t (twoS t (true, p) 0 11).2 1 9)) h_o h_T hX (by omega) (by decide) (by decide) (by omega) (lo := 0) (hi := 99)) 4 (lw_V q1599 q1601 qs28 q59 q1602) h_o gk2 (by decide +kernel) (by decide) (by decide) rfl hl.1 rfl (Nat.le_of_ble_eq_true rfl) dX3_readScaled_28 (fun v ω kc_3 ks_3 H locs q_3 hP hS => ?_)
  obtain ⟨rfl, rfl, rfl, hh_o, hfr⟩ := q_3
  have h_o : ω (1, 0) = some (o, .inr (2, [.int rf, .ref aT, .int (iI ((t.length : Int))), .ref aN, .ref aR, .ref aD, .int ac, .ref aK, .ref aI, .ref aH, .ref aC, .int (iI ((((twoS t (dgS t (twoS t (true, p) 0 11).2 1 9).2 0 99)).2.2 : Int))), .int (iI ((k : Int)))])) := hh_o
  have h_s := hfr.at (by rcases hns with rfl | rfl <;> decide) h_s
  have h_T := hfr.at (by decide) h_T
  have hF := hF.trans hfr (fun k hk => Or.inl hk)
  refine W.eq (g2 := F0 m_ 31 ls [.int (iI (mv ((twoS t (dgS t (twoS t (true, p) 0 11).2 1 9).2 0 99))))]) rfl ?_
  refine lv_istore (lv' := [(4, .int (iI (mv ((twoS t (dgS t (twoS t (true, p) 0 11).2 1 9).2 0 99))))), (3, .int (iI (mv ((dgS t (twoS t (true, p) 0 11).2 1 9))))), (2, .int (iI (mv ((twoS t (true, p) 0 11))))), (0, .ref o), (1, .ref as)]) hx hb dX3_readScaled_31 hl (by decide) rfl (fun ls hl => ?_)
  refine lv_iload hx hb dX3_readScaled_33 (lv_at hl 0 rfl) ?_
  refine lv_iconst (v := iI (-1)) hx hb dX3_readScaled_35 rfl ?_
  refine g_icmp_eq (tgt := 82) hx hb dX3_readScaled_36 (by decide) (by have := mv_rng hb2.2; omega) (by omega) (fun c_36 => ?_) (fun c_36 => ?_)
  · refine lv_iconst (v := iI 0) hx hb dX3_readScaled_82 rfl ?_
    refine g_iret hx hb hr hlk hP hS (v := (iI 0)) rfl dX3_readScaled_83 ?_
    have e : c_x t (true, p) σ k = ((twoS t (dgS t (twoS t (true, p) 0 11).2 1 9).2 0 99).2, σ, k) := by unfold c_x; exact mkS_no (mv_f.mp c_36)
    rw [e]
    exact ⟨bI_2 (mv_f.mp c_36), rfl, rfl, h_o, ⟨_, h_s, hT⟩, hF⟩
  · have hg3 := mv_ne c_36
    have hg2 := twoS_on hg3
    have hg1 := dgS_on hg2
    refine lv_aload_n hx hb dX3_readScaled_39 rfl (lv_at hl 3 rfl) ?_
    refine lv_aload_n hx hb dX3_readScaled_40 rfl (lv_at hl 4 rfl) ?_
    refine lv_iload_n hx hb dX3_readScaled_41 rfl (lv_at hl 2 rfl) ?_
    refine g_top (w := .int (iI (((twoS t (true, p) 0 11).1 : Int)))) (by rw [mv_t hg1]) ?_
    refine g_S (As := [.ref as, .int (iI (((twoS t (true, p) 0 11).1 : Int)))]) (rest := [.ref o]) hx hb hml hown hts hK hZ hP hS (m_isList l G _ _ _ h_s hT.1 hn12 (by omega)) 2 (lw_S q1618 q1619 q59 q1620) (by decide +kernel) (by decide) (by decide) rfl hl.1 rfl (Nat.le_of_ble_eq_true rfl) dX3_readScaled_42 (fun v ω kc_4 ks_4 H locs q_4 hP hS => ?_)
    obtain ⟨rfl, rfl, rfl, rfl⟩ := q_4
    refine W.eq (g2 := F0 m_ 45 ls [.int (bI (decide (0 ≤ ((twoS t (true, p) 0 11).1 : Int) ∧ ((twoS t (true, p) 0 11).1 : Int) ≤ (σ.1.length : Int) - 1))), .ref o]) rfl ?_
    refine g_ifz_eq (tgt := 71) hx hb dX3_readScaled_45 (by decide) (fun c_45 => ?_) (fun c_45 => ?_)
    · refine lv_iconst (v := iI 0) hx hb dX3_readScaled_71 rfl ?_
      refine g_top (w := .int (bI false)) rfl ?_
      refine g_V (As := [.int (bI false)]) (rest := []) hx hb hml hown hts hK hZ hP hS (m_done_false l G _ _ _ h_o) 1 (lw_V q1610 q1612 qs29 q59 q1613) h_o gk2 (by decide +kernel) (by decide) (by decide) rfl hl.1 rfl (Nat.le_of_ble_eq_true rfl) dX3_readScaled_72 (fun v ω kc_5 ks_5 H locs q_5 hP hS => ?_)
      obtain ⟨rfl, rfl, rfl, hh_o, hfr⟩ := q_5
      have h_o : ω (1, 0) = some (o, .inr (2, [.int rf, .ref aT, .int (iI ((t.length : Int))), .ref aN, .ref aR, .ref aD, .int ac, .ref aK, .ref aI, .ref aH, .ref aC, .int (iI ((((twoS t (dgS t (twoS t (true, p) 0 11).2 1 9).2 0 99)).2.2 : Int))), .int (iI (((k + 1 : Nat) : Int)))])) := hh_o
      have h_s := hfr.at (by rcases hns with rfl | rfl <;> decide) h_s
      have h_T := hfr.at (by decide) h_T
      have hF := hF.trans hfr (fun k hk => Or.inl hk)
      refine W.eq (g2 := F0 m_ 75 ls [.int (bI true)]) rfl ?_
      refine g_ifz_eq (tgt := 82) hx hb dX3_readScaled_75 (by decide) (fun c_75 => absurd c_75 (by decide)) (fun c_75 => ?_)
      refine lv_iconst (v := iI 1) hx hb dX3_readScaled_78 rfl ?_
      refine lv_goto (tgt := 83) hx hb dX3_readScaled_79 (by decide) ?_
      refine g_iret hx hb hr hlk hP hS (v := (iI 1)) rfl dX3_readScaled_83 ?_
      have e : c_x t (true, p) σ k = ((twoS t (dgS t (twoS t (true, p) 0 11).2 1 9).2 0 99).2, σ, k + 1) := by unfold c_x; exact mkS_not (mv_ne c_36) (by have zc_45 := of_decide_eq_false c_45; rw [← Bool.not_eq_true]; simp only [isL, isR, roomL, roomR, Bool.and_eq_true, decide_eq_true_eq]; omega)
      rw [e]
      exact ⟨bI_1 (mv_ne c_36), rfl, rfl, h_o, ⟨_, h_s, hT⟩, hF⟩
    · refine lv_aload_n hx hb dX3_readScaled_48 rfl (lv_at hl 4 rfl) ?_
      refine g_S (As := [.ref as]) (rest := [.ref o]) hx hb hml hown hts hK hZ hP hS (m_hasRoom l G _ _ _ h_s hT.1 hn12) 1 (lw_S q1604 q1605 q59 q1606) (by decide +kernel) (by decide) (by decide) rfl hl.1 rfl (Nat.le_of_ble_eq_true rfl) dX3_readScaled_49 (fun v ω kc_6 ks_6 H locs q_6 hP hS => ?_)
      obtain ⟨rfl, rfl, rfl, rfl⟩ := q_6
      refine W.eq (g2 := F0 m_ 52 ls [.int (bI (decide (σ.1.length < 12))), .ref o]) rfl ?_
      refine g_ifz_eq (tgt := 71) hx hb dX3_readScaled_52 (by decide) (fun c_52 => ?_) (fun c_52 => ?_)
      · refine lv_iconst (v := iI 0) hx hb dX3_readScaled_71 rfl ?_
        refine g_top (w := .int (bI false)) rfl ?_
        refine g_V (As := [.int (bI false)]) (rest := []) hx hb hml hown hts hK hZ hP hS (m_done_false l G _ _ _ h_o) 1 (lw_V q1610 q1612 qs29 q59 q1613) h_o gk2 (by decide +kernel) (by decide) (by decide) rfl hl.1 rfl (Nat.le_of_ble_eq_true rfl) dX3_readScaled_72 (fun v ω kc_7 ks_7 H locs q_7 hP hS => ?_)
        obtain ⟨rfl, rfl, rfl, hh_o, hfr⟩ := q_7
        have h_o : ω (1, 0) = some (o, .inr (2, [.int rf, .ref aT, .int (iI ((t.length : Int))), .ref aN, .ref aR, .ref aD, .int ac, .ref aK, .ref aI, .ref aH, .ref aC, .int (iI ((((twoS t (dgS t (twoS t (true, p) 0 11).2 1 9).2 0 99)).2.2 : Int))), .int (iI (((k + 1 : Nat) : Int)))])) := hh_o
        have h_s := hfr.at (by rcases hns with rfl | rfl <;> decide) h_s
        have h_T := hfr.at (by decide) h_T
        have hF := hF.trans hfr (fun k hk => Or.inl hk)
        refine W.eq (g2 := F0 m_ 75 ls [.int (bI true)]) rfl ?_
        refine g_ifz_eq (tgt := 82) hx hb dX3_readScaled_75 (by decide) (fun c_75 => absurd c_75 (by decide)) (fun c_75 => ?_)
        refine lv_iconst (v := iI 1) hx hb dX3_readScaled_78 rfl ?_
        refine lv_goto (tgt := 83) hx hb dX3_readScaled_79 (by decide) ?_
        refine g_iret hx hb hr hlk hP hS (v := (iI 1)) rfl dX3_readScaled_83 ?_
        have e : c_x t (true, p) σ k = ((twoS t (dgS t (twoS t (true, p) 0 11).2 1 9).2 0 99).2, σ, k + 1) := by unfold c_x; exact mkS_not (mv_ne c_36) (by have zc_45 := of_decide_eq_true c_45; have zc_52 := of_decide_eq_false c_52; rw [← Bool.not_eq_true]; simp only [isL, isR, roomL, roomR, Bool.and_eq_true, decide_eq_true_eq]; omega)
        rw [e]
        exact ⟨bI_1 (mv_ne c_36), rfl, rfl, h_o, ⟨_, h_s, hT⟩, hF⟩
      · have hroom := of_decide_eq_true c_52
        refine lv_aload_n hx hb dX3_readScaled_55 rfl (lv_at hl 4 rfl) ?_
        refine lv_iconst (v := iI 1) hx hb dX3_readScaled_56 rfl ?_
        refine lv_iload_n hx hb dX3_readScaled_57 rfl (lv_at hl 2 rfl) ?_
        refine g_top (w := .int (iI (((twoS t (true, p) 0 11).1 : Int)))) (by rw [mv_t hg1]) ?_
        refine lv_iload_n hx hb dX3_readScaled_58 rfl (lv_at hl 1 rfl) ?_
        refine g_top (w := .int (iI (((dgS t (twoS t (true, p) 0 11).2 1 9).1 : Int)))) (by rw [mv_t hg2]) ?_
        refine lv_iload hx hb dX3_readScaled_59 (lv_at hl 0 rfl) ?_
        refine g_top (w := .int (iI (((twoS t (dgS t (twoS t (true, p) 0 11).2 1 9).2 0 99).1 : Int)))) (by rw [mv_t hg3]) ?_
        refine g_S (As := [.ref as, .int (iI 1), .int (iI (((twoS t (true, p) 0 11).1 : Int))), .int (iI (((dgS t (twoS t (true, p) 0 11).2 1 9).1 : Int))), .int (iI (((twoS t (dgS t (twoS t (true, p) 0 11).2 1 9).2 0 99).1 : Int)))]) (rest := [.ref o]) hx hb hml hown hts hK hZ hP hS (m_make (kd := 1) (a := (twoS t (true, p) 0 11).1) (b := (dgS t (twoS t (true, p) 0 11).2 1 9).1) (d := (twoS t (dgS t (twoS t (true, p) 0 11).2 1 9).2 0 99).1) l G _ _ _ h_s hT (by omega) hA.2.2.1) 5 (lw_S q1607 q1608 q59 q1609) (by decide +kernel) (by decide) (by decide) rfl hl.1 rfl (Nat.le_of_ble_eq_true rfl) dX3_readScaled_61 (fun v ω kc_8 ks_8 H locs q_8 hP hS => ?_)
        obtain ⟨rfl, rfl, rfl, ⟨gM, hgM, hTM⟩, hfr⟩ := q_8
        have h_o := hfr.at (by rintro rfl; rcases hns with q | q <;> cases q) h_o
        have h_s : ω ns = some (as, .inl (G.2.1 0, 59, .inl (gM))) := hgM
        have h_T := hfr.at (by rintro rfl; rcases hns with q | q <;> cases q) h_T
        have hF := hF.trans hfr (fun k hk => Or.inr hk)
        refine W.eq (g2 := F0 m_ 64 ls [.int (iI ((σ.1.length : Int))), .ref o]) rfl ?_
        refine g_if_lt (tgt := 71) hx hb dX3_readScaled_64 (by decide) (by omega) (fun c_64 => ?_) (fun c_64 => ?_)
        · exact absurd c_64 (by omega)
        · refine lv_iconst (v := iI 1) hx hb dX3_readScaled_67 rfl ?_
          refine lv_goto (tgt := 72) hx hb dX3_readScaled_68 (by decide) ?_
          refine g_top (w := .int (bI true)) rfl ?_
          refine g_V (As := [.int (bI true)]) (rest := []) hx hb hml hown hts hK hZ hP hS (m_done_true l G _ _ _ h_o) 1 (lw_V q1610 q1612 qs29 q59 q1613) h_o gk2 (by decide +kernel) (by decide) (by decide) rfl hl.1 rfl (Nat.le_of_ble_eq_true rfl) dX3_readScaled_72 (fun v ω kc_9 ks_9 H locs q_9 hP hS => ?_)
          obtain ⟨rfl, rfl, rfl, hh_o, hfr⟩ := q_9
          have h_o : ω (1, 0) = some (o, .inr (2, [.int rf, .ref aT, .int (iI ((t.length : Int))), .ref aN, .ref aR, .ref aD, .int ac, .ref aK, .ref aI, .ref aH, .ref aC, .int (iI ((((twoS t (dgS t (twoS t (true, p) 0 11).2 1 9).2 0 99)).2.2 : Int))), .int (iI ((k : Int)))])) := hh_o
          have h_s := hfr.at (by rcases hns with rfl | rfl <;> decide) h_s
          have h_T := hfr.at (by decide) h_T
          have hF := hF.trans hfr (fun k hk => Or.inl hk)
          refine W.eq (g2 := F0 m_ 75 ls [.int (bI true)]) rfl ?_
          refine g_ifz_eq (tgt := 82) hx hb dX3_readScaled_75 (by decide) (fun c_75 => absurd c_75 (by decide)) (fun c_75 => ?_)
          refine lv_iconst (v := iI 1) hx hb dX3_readScaled_78 rfl ?_
          refine lv_goto (tgt := 83) hx hb dX3_readScaled_79 (by decide) ?_
          refine g_iret hx hb hr hlk hP hS (v := (iI 1)) rfl dX3_readScaled_83 ?_
          have e : c_x t (true, p) σ k = ((twoS t (dgS t (twoS t (true, p) 0 11).2 1 9).2 0 99).2, a_make σ (1, (twoS t (true, p) 0 11).1, (dgS t (twoS t (true, p) 0 11).2 1 9).1, (twoS t (dgS t (twoS t (true, p) 0 11).2 1 9).2 0 99).1), k) := by unfold c_x; exact mkS_can (mv_ne c_36) (by have zc_45 := of_decide_eq_true c_45; have zc_52 := of_decide_eq_true c_52; simp only [isL, isR, roomL, roomR, Bool.and_eq_true, decide_eq_true_eq]; omega)
          rw [e]
          exact ⟨bI_1 (mv_ne c_36), rfl, rfl, h_o, ⟨_, h_s, hTM⟩, hF⟩

set_option maxHeartbeats 4000000 in
theorem m_readJoined (l : Launch) (G : GT) (ω0 : Om) (kc ks : Nat) {o aT aN aR aD aK aI aH aC : Nat} {rf ac : Int32} {ns : Nm} {as : Nat} {f : Nat → Int32} {tx : Nat → Int32} {t : List Nat} {p k : Nat} {σ : AS} {kd : Nat} (h_o : ω0 (1, 0) = some (o, .inr (2, [.int rf, .ref aT, .int (iI ((t.length : Int))), .ref aN, .ref aR, .ref aD, .int ac, .ref aK, .ref aI, .ref aH, .ref aC, .int (iI ((p : Int))), .int (iI ((k : Int)))]))) (h_s : ω0 ns = some (as, .inl (G.2.1 0, 59, .inl (f)))) (h_T : ω0 (1, 1) = some (aT, .inl (G.2.1 0, 120, .inl (tx)))) (hns : ns = (1, 2) ∨ ns = (1, 3)) (hX : TX tx t) (hT : Tab f σ) (hA : okA σ) (hp : p ≤ t.length) (hkd : kd ≤ 7) : Ct l G yX3_readJoined cX3_readJoined 5 (some .boolean) 3 65 [.ref o, .ref as, .int (iI ((kd : Int)))] ω0 kc ks (fun v ω' kc' ks' => v = some (.int (bI (c_two t kd (true, p) σ k).1.1)) ∧ kc = kc' ∧ ks = ks' ∧ ω' (1, 0) = some (o, .inr (2, [.int rf, .ref aT, .int (iI ((t.length : Int))), .ref aN, .ref aR, .ref aD, .int ac, .ref aK, .ref aI, .ref aH, .ref aC, .int (iI (((c_two t kd (true, p) σ k).1.2 : Int))), .int (iI (((c_two t kd (true, p) σ k).2.2 : Int)))])) ∧ (∃ g : Nat → Int32, ω' ns = some (as, .inl (G.2.1 0, 59, .inl (g))) ∧ Tab g (c_two t kd (true, p) σ k).2.1) ∧ Fr (fun k => k = (1, 0) ∨ k = ns) ω0 ω') := by
  refine Ct.start (by decide) (Nat.le_of_ble_eq_true rfl) ?_
  intro p_ e_ s m_ below_ meth_ c_m H locs ls hx hb hr hlk hml hown hnm hts hK hZ hP hS hl
  have hown : s.vm.findClass RX3 = some m_.cls := hown
  have hl : lv_has ls 5 [(0, .ref o), (1, .ref as), (2, .int (iI ((kd : Int))))] := hl
  have hF : Fr ((fun k => k = (1, 0) ∨ k = ns)) ω0 ω0 := Fr.rf
  have hn12 : σ.1.length ≤ 12 := hA.1
  have ht120 := hX.2.2
  have hb0 := twoS_bd (t := t) (ps := (true, p)) (lo := 0) (hi := 11) (by decide) (by decide) (by decide) (by decide)
  have hb1 := twoS_bd (t := t) (ps := (twoS t (true, p) 0 11).2) (lo := 0) (hi := 11) (by decide) (by decide) (by decide) (by decide)
  have hq0 := (twoS_pos (t := t) (ps := (true, p)) (lo := 0) (hi := 11)).2 hp
  refine lv_aload_n hx hb dX3_readJoined_0 rfl (lv_at hl 0 rfl) ?_
  refine lv_iconst (v := iI 0) hx hb dX3_readJoined_1 rfl ?_
  refine lv_bipush (v := iI 10) hx hb dX3_readJoined_2 rfl ?_
  refine lv_iconst (v := iI 0) hx hb dX3_readJoined_4 rfl ?_
  refine lv_bipush (v := iI 11) hx hb dX3_readJoined_5 rfl ?_
  refine g_V (As := [.int (iI 0), .int (iI 10), .int (iI 0), .int (iI 11)]) (rest := []) hx hb hml hown hts hK hZ hP hS (m_fig2 l G _ _ _ ((0, true, p)) h_o h_T hX (Nat.zero_le _) (by decide) (by decide) (by show p ≤ 120; omega) (lo := 0) (hi := 11)) 4 (lw_V q1599 q1601 qs28 q59 q1602) h_o gk2 (by decide +kernel) (by decide) (by decide) rfl hl.1 rfl (Nat.le_of_ble_eq_true rfl) dX3_readJoined_7 (fun v ω kc_1 ks_1 H locs q_1 hP hS => ?_)
  obtain ⟨rfl, rfl, rfl, hh_o, hfr⟩ := q_1
  have h_o : ω (1, 0) = some (o, .inr (2, [.int rf, .ref aT, .int (iI ((t.length : Int))), .ref aN, .ref aR, .ref aD, .int ac, .ref aK, .ref aI, .ref aH, .ref aC, .int (iI ((((twoS t (true, p) 0 11)).2.2 : Int))), .int (iI ((k : Int)))])) := hh_o
  have h_s := hfr.at (by rcases hns with rfl | rfl <;> decide) h_s
  have h_T := hfr.at (by decide) h_T
  have hF := hF.trans hfr (fun k hk => Or.inl hk)
  refine W.eq (g2 := F0 m_ 10 ls [.int (iI (mv ((twoS t (true, p) 0 11))))]) rfl ?_
  refine lv_istore_n (lv' := [(3, .int (iI (mv ((twoS t (true, p) 0 11))))), (0, .ref o), (1, .ref as), (2, .int (iI ((kd : Int))))]) hx hb dX3_readJoined_10 rfl hl (by decide) rfl (fun ls hl => ?_)
  refine lv_aload_n hx hb dX3_readJoined_11 rfl (lv_at hl 1 rfl) ?_
  refine lv_iload_n hx hb dX3_readJoined_12 rfl (lv_at hl 0 rfl) ?_
  refine lv_bipush (v := iI 10) hx hb dX3_readJoined_13 rfl ?_
  refine lv_iconst (v := iI 0) hx hb dX3_readJoined_15 rfl ?_
  refine lv_bipush (v := iI 11) hx hb dX3_readJoined_16 rfl ?_
  refine g_V (As := [.int (iI (mv ((twoS t (true, p) 0 11)))), .int (iI 10), .int (iI 0), .int (iI 11)]) (rest := []) hx hb hml hown hts hK hZ hP hS (m_fig2 l G _ _ _ ((twoS t (true, p) 0 11)) h_o h_T hX (by omega) (by decide) (by decide) (by omega) (lo := 0) (hi := 11)) 4 (lw_V q1599 q1601 qs28 q59 q1602) h_o gk2 (by decide +kernel) (by decide) (by decide) rfl hl.1 rfl (Nat.le_of_ble_eq_true rfl) dX3_readJoined_18 (fun v ω kc_2 ks_2 H locs q_2 hP hS => ?_)
  obtain ⟨rfl, rfl, rfl, hh_o, hfr⟩ := q_2
  have h_o : ω (1, 0) = some (o, .inr (2, [.int rf, .ref aT, .int (iI ((t.length : Int))), .ref aN, .ref aR, .ref aD, .int ac, .ref aK, .ref aI, .ref aH, .ref aC, .int (iI ((((twoS t (twoS t (true, p) 0 11).2 0 11)).2.2 : Int))), .int (iI ((k : Int)))])) := hh_o
  have h_s := hfr.at (by rcases hns with rfl | rfl <;> decide) h_s
  have h_T := hfr.at (by decide) h_T
  have hF := hF.trans hfr (fun k hk => Or.inl hk)
  refine W.eq (g2 := F0 m_ 21 ls [.int (iI (mv ((twoS t (twoS t (true, p) 0 11).2 0 11))))]) rfl ?_
  refine lv_istore (lv' := [(4, .int (iI (mv ((twoS t (twoS t (true, p) 0 11).2 0 11))))), (3, .int (iI (mv ((twoS t (true, p) 0 11))))), (0, .ref o), (1, .ref as), (2, .int (iI ((kd : Int))))]) hx hb dX3_readJoined_21 hl (by decide) rfl (fun ls hl => ?_)
  refine lv_iload hx hb dX3_readJoined_23 (lv_at hl 0 rfl) ?_
  refine lv_iconst (v := iI (-1)) hx hb dX3_readJoined_25 rfl ?_
  refine g_icmp_eq (tgt := 81) hx hb dX3_readJoined_26 (by decide) (by have := mv_rng hb1.2; omega) (by omega) (fun c_26 => ?_) (fun c_26 => ?_)
  · refine lv_iconst (v := iI 0) hx hb dX3_readJoined_81 rfl ?_
    refine g_iret hx hb hr hlk hP hS (v := (iI 0)) rfl dX3_readJoined_82 ?_
    have e : c_two t kd (true, p) σ k = ((twoS t (twoS t (true, p) 0 11).2 0 11).2, σ, k) := by unfold c_two; exact mkS_no (mv_f.mp c_26)
    rw [e]
    exact ⟨bI_2 (mv_f.mp c_26), rfl, rfl, h_o, ⟨_, h_s, hT⟩, hF⟩
  · have hg2 := mv_ne c_26
    have hg1 := twoS_on hg2
    refine lv_aload_n hx hb dX3_readJoined_29 rfl (lv_at hl 2 rfl) ?_
    refine lv_aload_n hx hb dX3_readJoined_30 rfl (lv_at hl 3 rfl) ?_
    refine lv_iload_n hx hb dX3_readJoined_31 rfl (lv_at hl 1 rfl) ?_
    refine g_top (w := .int (iI (((twoS t (true, p) 0 11).1 : Int)))) (by rw [mv_t hg1]) ?_
    refine g_S (As := [.ref as, .int (iI (((twoS t (true, p) 0 11).1 : Int)))]) (rest := [.ref o]) hx hb hml hown hts hK hZ hP hS (m_isList l G _ _ _ h_s hT.1 hn12 (by omega)) 2 (lw_S q1618 q1619 q59 q1620) (by decide +kernel) (by decide) (by decide) rfl hl.1 rfl (Nat.le_of_ble_eq_true rfl) dX3_readJoined_32 (fun v ω kc_3 ks_3 H locs q_3 hP hS => ?_)
    obtain ⟨rfl, rfl, rfl, rfl⟩ := q_3
    refine W.eq (g2 := F0 m_ 35 ls [.int (bI (decide (0 ≤ ((twoS t (true, p) 0 11).1 : Int) ∧ ((twoS t (true, p) 0 11).1 : Int) ≤ (σ.1.length : Int) - 1))), .ref o]) rfl ?_
    refine g_ifz_eq (tgt := 70) hx hb dX3_readJoined_35 (by decide) (fun c_35 => ?_) (fun c_35 => ?_)
    · refine lv_iconst (v := iI 0) hx hb dX3_readJoined_70 rfl ?_
      refine g_top (w := .int (bI false)) rfl ?_
      refine g_V (As := [.int (bI false)]) (rest := []) hx hb hml hown hts hK hZ hP hS (m_done_false l G _ _ _ h_o) 1 (lw_V q1610 q1612 qs29 q59 q1613) h_o gk2 (by decide +kernel) (by decide) (by decide) rfl hl.1 rfl (Nat.le_of_ble_eq_true rfl) dX3_readJoined_71 (fun v ω kc_4 ks_4 H locs q_4 hP hS => ?_)
      obtain ⟨rfl, rfl, rfl, hh_o, hfr⟩ := q_4
      have h_o : ω (1, 0) = some (o, .inr (2, [.int rf, .ref aT, .int (iI ((t.length : Int))), .ref aN, .ref aR, .ref aD, .int ac, .ref aK, .ref aI, .ref aH, .ref aC, .int (iI ((((twoS t (twoS t (true, p) 0 11).2 0 11)).2.2 : Int))), .int (iI (((k + 1 : Nat) : Int)))])) := hh_o
      have h_s := hfr.at (by rcases hns with rfl | rfl <;> decide) h_s
      have h_T := hfr.at (by decide) h_T
      have hF := hF.trans hfr (fun k hk => Or.inl hk)
      refine W.eq (g2 := F0 m_ 74 ls [.int (bI true)]) rfl ?_
      refine g_ifz_eq (tgt := 81) hx hb dX3_readJoined_74 (by decide) (fun c_74 => absurd c_74 (by decide)) (fun c_74 => ?_)
      refine lv_iconst (v := iI 1) hx hb dX3_readJoined_77 rfl ?_
      refine lv_goto (tgt := 82) hx hb dX3_readJoined_78 (by decide) ?_
      refine g_iret hx hb hr hlk hP hS (v := (iI 1)) rfl dX3_readJoined_82 ?_
      have e : c_two t kd (true, p) σ k = ((twoS t (twoS t (true, p) 0 11).2 0 11).2, σ, k + 1) := by unfold c_two; exact mkS_not (mv_ne c_26) (by have zc_35 := of_decide_eq_false c_35; rw [← Bool.not_eq_true]; simp only [isL, isR, roomL, roomR, Bool.and_eq_true, decide_eq_true_eq]; omega)
      rw [e]
      exact ⟨bI_1 (mv_ne c_26), rfl, rfl, h_o, ⟨_, h_s, hT⟩, hF⟩
    · refine lv_aload_n hx hb dX3_readJoined_38 rfl (lv_at hl 3 rfl) ?_
      refine lv_iload hx hb dX3_readJoined_39 (lv_at hl 0 rfl) ?_
      refine g_top (w := .int (iI (((twoS t (twoS t (true, p) 0 11).2 0 11).1 : Int)))) (by rw [mv_t hg2]) ?_
      refine g_S (As := [.ref as, .int (iI (((twoS t (twoS t (true, p) 0 11).2 0 11).1 : Int)))]) (rest := [.ref o]) hx hb hml hown hts hK hZ hP hS (m_isList l G _ _ _ h_s hT.1 hn12 (by omega)) 2 (lw_S q1618 q1619 q59 q1620) (by decide +kernel) (by decide) (by decide) rfl hl.1 rfl (Nat.le_of_ble_eq_true rfl) dX3_readJoined_41 (fun v ω kc_5 ks_5 H locs q_5 hP hS => ?_)
      obtain ⟨rfl, rfl, rfl, rfl⟩ := q_5
      refine W.eq (g2 := F0 m_ 44 ls [.int (bI (decide (0 ≤ ((twoS t (twoS t (true, p) 0 11).2 0 11).1 : Int) ∧ ((twoS t (twoS t (true, p) 0 11).2 0 11).1 : Int) ≤ (σ.1.length : Int) - 1))), .ref o]) rfl ?_
      refine g_ifz_eq (tgt := 70) hx hb dX3_readJoined_44 (by decide) (fun c_44 => ?_) (fun c_44 => ?_)
      · refine lv_iconst (v := iI 0) hx hb dX3_readJoined_70 rfl ?_
        refine g_top (w := .int (bI false)) rfl ?_
        refine g_V (As := [.int (bI false)]) (rest := []) hx hb hml hown hts hK hZ hP hS (m_done_false l G _ _ _ h_o) 1 (lw_V q1610 q1612 qs29 q59 q1613) h_o gk2 (by decide +kernel) (by decide) (by decide) rfl hl.1 rfl (Nat.le_of_ble_eq_true rfl) dX3_readJoined_71 (fun v ω kc_6 ks_6 H locs q_6 hP hS => ?_)
        obtain ⟨rfl, rfl, rfl, hh_o, hfr⟩ := q_6
        have h_o : ω (1, 0) = some (o, .inr (2, [.int rf, .ref aT, .int (iI ((t.length : Int))), .ref aN, .ref aR, .ref aD, .int ac, .ref aK, .ref aI, .ref aH, .ref aC, .int (iI ((((twoS t (twoS t (true, p) 0 11).2 0 11)).2.2 : Int))), .int (iI (((k + 1 : Nat) : Int)))])) := hh_o
        have h_s := hfr.at (by rcases hns with rfl | rfl <;> decide) h_s
        have h_T := hfr.at (by decide) h_T
        have hF := hF.trans hfr (fun k hk => Or.inl hk)
        refine W.eq (g2 := F0 m_ 74 ls [.int (bI true)]) rfl ?_
        refine g_ifz_eq (tgt := 81) hx hb dX3_readJoined_74 (by decide) (fun c_74 => absurd c_74 (by decide)) (fun c_74 => ?_)
        refine lv_iconst (v := iI 1) hx hb dX3_readJoined_77 rfl ?_
        refine lv_goto (tgt := 82) hx hb dX3_readJoined_78 (by decide) ?_
        refine g_iret hx hb hr hlk hP hS (v := (iI 1)) rfl dX3_readJoined_82 ?_
        have e : c_two t kd (true, p) σ k = ((twoS t (twoS t (true, p) 0 11).2 0 11).2, σ, k + 1) := by unfold c_two; exact mkS_not (mv_ne c_26) (by have zc_35 := of_decide_eq_true c_35; have zc_44 := of_decide_eq_false c_44; rw [← Bool.not_eq_true]; simp only [isL, isR, roomL, roomR, Bool.and_eq_true, decide_eq_true_eq]; omega)
        rw [e]
        exact ⟨bI_1 (mv_ne c_26), rfl, rfl, h_o, ⟨_, h_s, hT⟩, hF⟩
      · refine lv_aload_n hx hb dX3_readJoined_47 rfl (lv_at hl 3 rfl) ?_
        refine g_S (As := [.ref as]) (rest := [.ref o]) hx hb hml hown hts hK hZ hP hS (m_hasRoom l G _ _ _ h_s hT.1 hn12) 1 (lw_S q1604 q1605 q59 q1606) (by decide +kernel) (by decide) (by decide) rfl hl.1 rfl (Nat.le_of_ble_eq_true rfl) dX3_readJoined_48 (fun v ω kc_7 ks_7 H locs q_7 hP hS => ?_)
        obtain ⟨rfl, rfl, rfl, rfl⟩ := q_7
        refine W.eq (g2 := F0 m_ 51 ls [.int (bI (decide (σ.1.length < 12))), .ref o]) rfl ?_
        refine g_ifz_eq (tgt := 70) hx hb dX3_readJoined_51 (by decide) (fun c_51 => ?_) (fun c_51 => ?_)
        · refine lv_iconst (v := iI 0) hx hb dX3_readJoined_70 rfl ?_
          refine g_top (w := .int (bI false)) rfl ?_
          refine g_V (As := [.int (bI false)]) (rest := []) hx hb hml hown hts hK hZ hP hS (m_done_false l G _ _ _ h_o) 1 (lw_V q1610 q1612 qs29 q59 q1613) h_o gk2 (by decide +kernel) (by decide) (by decide) rfl hl.1 rfl (Nat.le_of_ble_eq_true rfl) dX3_readJoined_71 (fun v ω kc_8 ks_8 H locs q_8 hP hS => ?_)
          obtain ⟨rfl, rfl, rfl, hh_o, hfr⟩ := q_8
          have h_o : ω (1, 0) = some (o, .inr (2, [.int rf, .ref aT, .int (iI ((t.length : Int))), .ref aN, .ref aR, .ref aD, .int ac, .ref aK, .ref aI, .ref aH, .ref aC, .int (iI ((((twoS t (twoS t (true, p) 0 11).2 0 11)).2.2 : Int))), .int (iI (((k + 1 : Nat) : Int)))])) := hh_o
          have h_s := hfr.at (by rcases hns with rfl | rfl <;> decide) h_s
          have h_T := hfr.at (by decide) h_T
          have hF := hF.trans hfr (fun k hk => Or.inl hk)
          refine W.eq (g2 := F0 m_ 74 ls [.int (bI true)]) rfl ?_
          refine g_ifz_eq (tgt := 81) hx hb dX3_readJoined_74 (by decide) (fun c_74 => absurd c_74 (by decide)) (fun c_74 => ?_)
          refine lv_iconst (v := iI 1) hx hb dX3_readJoined_77 rfl ?_
          refine lv_goto (tgt := 82) hx hb dX3_readJoined_78 (by decide) ?_
          refine g_iret hx hb hr hlk hP hS (v := (iI 1)) rfl dX3_readJoined_82 ?_
          have e : c_two t kd (true, p) σ k = ((twoS t (twoS t (true, p) 0 11).2 0 11).2, σ, k + 1) := by unfold c_two; exact mkS_not (mv_ne c_26) (by have zc_35 := of_decide_eq_true c_35; have zc_44 := of_decide_eq_true c_44; have zc_51 := of_decide_eq_false c_51; rw [← Bool.not_eq_true]; simp only [isL, isR, roomL, roomR, Bool.and_eq_true, decide_eq_true_eq]; omega)
          rw [e]
          exact ⟨bI_1 (mv_ne c_26), rfl, rfl, h_o, ⟨_, h_s, hT⟩, hF⟩
        · have hroom := of_decide_eq_true c_51
          refine lv_aload_n hx hb dX3_readJoined_54 rfl (lv_at hl 3 rfl) ?_
          refine lv_iload_n hx hb dX3_readJoined_55 rfl (lv_at hl 4 rfl) ?_
          refine lv_iload_n hx hb dX3_readJoined_56 rfl (lv_at hl 1 rfl) ?_
          refine g_top (w := .int (iI (((twoS t (true, p) 0 11).1 : Int)))) (by rw [mv_t hg1]) ?_
          refine lv_iload hx hb dX3_readJoined_57 (lv_at hl 0 rfl) ?_
          refine g_top (w := .int (iI (((twoS t (twoS t (true, p) 0 11).2 0 11).1 : Int)))) (by rw [mv_t hg2]) ?_
          refine lv_iconst (v := iI 0) hx hb dX3_readJoined_59 rfl ?_
          refine g_S (As := [.ref as, .int (iI ((kd : Int))), .int (iI (((twoS t (true, p) 0 11).1 : Int))), .int (iI (((twoS t (twoS t (true, p) 0 11).2 0 11).1 : Int))), .int (iI 0)]) (rest := [.ref o]) hx hb hml hown hts hK hZ hP hS (m_make (kd := kd) (a := (twoS t (true, p) 0 11).1) (b := (twoS t (twoS t (true, p) 0 11).2 0 11).1) (d := 0) l G _ _ _ h_s hT (by omega) hA.2.2.1) 5 (lw_S q1607 q1608 q59 q1609) (by decide +kernel) (by decide) (by decide) rfl hl.1 rfl (Nat.le_of_ble_eq_true rfl) dX3_readJoined_60 (fun v ω kc_9 ks_9 H locs q_9 hP hS => ?_)
          obtain ⟨rfl, rfl, rfl, ⟨gM, hgM, hTM⟩, hfr⟩ := q_9
          have h_o := hfr.at (by rintro rfl; rcases hns with q | q <;> cases q) h_o
          have h_s : ω ns = some (as, .inl (G.2.1 0, 59, .inl (gM))) := hgM
          have h_T := hfr.at (by rintro rfl; rcases hns with q | q <;> cases q) h_T
          have hF := hF.trans hfr (fun k hk => Or.inr hk)
          refine W.eq (g2 := F0 m_ 63 ls [.int (iI ((σ.1.length : Int))), .ref o]) rfl ?_
          refine g_if_lt (tgt := 70) hx hb dX3_readJoined_63 (by decide) (by omega) (fun c_63 => ?_) (fun c_63 => ?_)
          · exact absurd c_63 (by omega)
          · refine lv_iconst (v := iI 1) hx hb dX3_readJoined_66 rfl ?_
            refine lv_goto (tgt := 71) hx hb dX3_readJoined_67 (by decide) ?_
            refine g_top (w := .int (bI true)) rfl ?_
            refine g_V (As := [.int (bI true)]) (rest := []) hx hb hml hown hts hK hZ hP hS (m_done_true l G _ _ _ h_o) 1 (lw_V q1610 q1612 qs29 q59 q1613) h_o gk2 (by decide +kernel) (by decide) (by decide) rfl hl.1 rfl (Nat.le_of_ble_eq_true rfl) dX3_readJoined_71 (fun v ω kc_10 ks_10 H locs q_10 hP hS => ?_)
            obtain ⟨rfl, rfl, rfl, hh_o, hfr⟩ := q_10
            have h_o : ω (1, 0) = some (o, .inr (2, [.int rf, .ref aT, .int (iI ((t.length : Int))), .ref aN, .ref aR, .ref aD, .int ac, .ref aK, .ref aI, .ref aH, .ref aC, .int (iI ((((twoS t (twoS t (true, p) 0 11).2 0 11)).2.2 : Int))), .int (iI ((k : Int)))])) := hh_o
            have h_s := hfr.at (by rcases hns with rfl | rfl <;> decide) h_s
            have h_T := hfr.at (by decide) h_T
            have hF := hF.trans hfr (fun k hk => Or.inl hk)
            refine W.eq (g2 := F0 m_ 74 ls [.int (bI true)]) rfl ?_
            refine g_ifz_eq (tgt := 81) hx hb dX3_readJoined_74 (by decide) (fun c_74 => absurd c_74 (by decide)) (fun c_74 => ?_)
            refine lv_iconst (v := iI 1) hx hb dX3_readJoined_77 rfl ?_
            refine lv_goto (tgt := 82) hx hb dX3_readJoined_78 (by decide) ?_
            refine g_iret hx hb hr hlk hP hS (v := (iI 1)) rfl dX3_readJoined_82 ?_
            have e : c_two t kd (true, p) σ k = ((twoS t (twoS t (true, p) 0 11).2 0 11).2, a_make σ (kd, (twoS t (true, p) 0 11).1, (twoS t (twoS t (true, p) 0 11).2 0 11).1, 0), k) := by unfold c_two; exact mkS_can (mv_ne c_26) (by have zc_35 := of_decide_eq_true c_35; have zc_44 := of_decide_eq_true c_44; have zc_51 := of_decide_eq_true c_51; simp only [isL, isR, roomL, roomR, Bool.and_eq_true, decide_eq_true_eq]; omega)
            rw [e]
            exact ⟨bI_1 (mv_ne c_26), rfl, rfl, h_o, ⟨_, h_s, hTM⟩, hF⟩

set_option maxHeartbeats 4000000 in
theorem m_readOne (l : Launch) (G : GT) (ω0 : Om) (kc ks : Nat) {o aT aN aR aD aK aI aH aC : Nat} {rf ac : Int32} {ns : Nm} {as : Nat} {f : Nat → Int32} {tx : Nat → Int32} {t : List Nat} {p k : Nat} {σ : AS} {kd : Nat} (h_o : ω0 (1, 0) = some (o, .inr (2, [.int rf, .ref aT, .int (iI ((t.length : Int))), .ref aN, .ref aR, .ref aD, .int ac, .ref aK, .ref aI, .ref aH, .ref aC, .int (iI ((p : Int))), .int (iI ((k : Int)))]))) (h_s : ω0 ns = some (as, .inl (G.2.1 0, 59, .inl (f)))) (h_T : ω0 (1, 1) = some (aT, .inl (G.2.1 0, 120, .inl (tx)))) (hns : ns = (1, 2) ∨ ns = (1, 3)) (hX : TX tx t) (hT : Tab f σ) (hA : okA σ) (hp : p ≤ t.length) (hkd : kd ≤ 7) (hk6 : kd ≠ 6) : Ct l G yX3_readOne cX3_readOne 5 (some .boolean) 3 65 [.ref o, .ref as, .int (iI ((kd : Int)))] ω0 kc ks (fun v ω' kc' ks' => v = some (.int (bI (c_one t kd (true, p) σ k).1.1)) ∧ kc = kc' ∧ ks = ks' ∧ ω' (1, 0) = some (o, .inr (2, [.int rf, .ref aT, .int (iI ((t.length : Int))), .ref aN, .ref aR, .ref aD, .int ac, .ref aK, .ref aI, .ref aH, .ref aC, .int (iI (((c_one t kd (true, p) σ k).1.2 : Int))), .int (iI (((c_one t kd (true, p) σ k).2.2 : Int)))])) ∧ (∃ g : Nat → Int32, ω' ns = some (as, .inl (G.2.1 0, 59, .inl (g))) ∧ Tab g (c_one t kd (true, p) σ k).2.1) ∧ Fr (fun k => k = (1, 0) ∨ k = ns) ω0 ω') := by
  refine Ct.start (by decide) (Nat.le_of_ble_eq_true rfl) ?_
  intro p_ e_ s m_ below_ meth_ c_m H locs ls hx hb hr hlk hml hown hnm hts hK hZ hP hS hl
  have hown : s.vm.findClass RX3 = some m_.cls := hown
  have hl : lv_has ls 5 [(0, .ref o), (1, .ref as), (2, .int (iI ((kd : Int))))] := hl
  have hF : Fr ((fun k => k = (1, 0) ∨ k = ns)) ω0 ω0 := Fr.rf
  have hn12 : σ.1.length ≤ 12 := hA.1
  have ht120 := hX.2.2
  have hb0 := twoS_bd (t := t) (ps := (true, p)) (lo := 0) (hi := 11) (by decide) (by decide) (by decide) (by decide)
  have hb1 := dgS_bd (t := t) (ps := (twoS t (true, p) 0 11).2) (lo := 1) (hi := 9) (by decide)
  have hq0 := (twoS_pos (t := t) (ps := (true, p)) (lo := 0) (hi := 11)).2 hp
  refine lv_aload_n hx hb dX3_readOne_0 rfl (lv_at hl 0 rfl) ?_
  refine lv_iconst (v := iI 0) hx hb dX3_readOne_1 rfl ?_
  refine lv_bipush (v := iI 10) hx hb dX3_readOne_2 rfl ?_
  refine lv_iconst (v := iI 0) hx hb dX3_readOne_4 rfl ?_
  refine lv_bipush (v := iI 11) hx hb dX3_readOne_5 rfl ?_
  refine g_V (As := [.int (iI 0), .int (iI 10), .int (iI 0), .int (iI 11)]) (rest := []) hx hb hml hown hts hK hZ hP hS (m_fig2 l G _ _ _ ((0, true, p)) h_o h_T hX (Nat.zero_le _) (by decide) (by decide) (by show p ≤ 120; omega) (lo := 0) (hi := 11)) 4 (lw_V q1599 q1601 qs28 q59 q1602) h_o gk2 (by decide +kernel) (by decide) (by decide) rfl hl.1 rfl (Nat.le_of_ble_eq_true rfl) dX3_readOne_7 (fun v ω kc_1 ks_1 H locs q_1 hP hS => ?_)
  obtain ⟨rfl, rfl, rfl, hh_o, hfr⟩ := q_1
  have h_o : ω (1, 0) = some (o, .inr (2, [.int rf, .ref aT, .int (iI ((t.length : Int))), .ref aN, .ref aR, .ref aD, .int ac, .ref aK, .ref aI, .ref aH, .ref aC, .int (iI ((((twoS t (true, p) 0 11)).2.2 : Int))), .int (iI ((k : Int)))])) := hh_o
  have h_s := hfr.at (by rcases hns with rfl | rfl <;> decide) h_s
  have h_T := hfr.at (by decide) h_T
  have hF := hF.trans hfr (fun k hk => Or.inl hk)
  refine W.eq (g2 := F0 m_ 10 ls [.int (iI (mv ((twoS t (true, p) 0 11))))]) rfl ?_
  refine lv_istore_n (lv' := [(3, .int (iI (mv ((twoS t (true, p) 0 11))))), (0, .ref o), (1, .ref as), (2, .int (iI ((kd : Int))))]) hx hb dX3_readOne_10 rfl hl (by decide) rfl (fun ls hl => ?_)
  refine lv_iload_n hx hb dX3_readOne_11 rfl (lv_at hl 3 rfl) ?_
  refine lv_bipush (v := iI 6) hx hb dX3_readOne_12 rfl ?_
  refine g_icmp_ne (tgt := 29) hx hb dX3_readOne_14 (by decide) (by omega) (by omega) (fun c_14 => ?_) (fun c_14 => ?_)
  · refine lv_iload_n hx hb dX3_readOne_29 rfl (lv_at hl 0 rfl) ?_
    refine lv_istore (lv' := [(4, .int (iI (mv ((twoS t (true, p) 0 11))))), (3, .int (iI (mv ((twoS t (true, p) 0 11))))), (0, .ref o), (1, .ref as), (2, .int (iI ((kd : Int))))]) hx hb dX3_readOne_30 hl (by decide) rfl (fun ls hl => ?_)
    refine lv_iload hx hb dX3_readOne_32 (lv_at hl 0 rfl) ?_
    refine lv_iconst (v := iI (-1)) hx hb dX3_readOne_34 rfl ?_
    refine g_icmp_eq (tgt := 81) hx hb dX3_readOne_35 (by decide) (by have := mv_rng hb0.2; omega) (by omega) (fun c_35 => ?_) (fun c_35 => ?_)
    · refine lv_iconst (v := iI 0) hx hb dX3_readOne_81 rfl ?_
      refine g_iret hx hb hr hlk hP hS (v := (iI 0)) rfl dX3_readOne_82 ?_
      have e : c_one t kd (true, p) σ k = ((twoS t (true, p) 0 11).2, σ, k) := by unfold c_one; exact mkS_no (mv_f.mp c_35)
      rw [e]
      exact ⟨bI_2 (mv_f.mp c_35), rfl, rfl, h_o, ⟨_, h_s, hT⟩, hF⟩
    · have hg2 := mv_ne c_35
      have hg1 := hg2
      refine lv_aload_n hx hb dX3_readOne_38 rfl (lv_at hl 2 rfl) ?_
      refine lv_aload_n hx hb dX3_readOne_39 rfl (lv_at hl 3 rfl) ?_
      refine lv_iload_n hx hb dX3_readOne_40 rfl (lv_at hl 1 rfl) ?_
      refine g_top (w := .int (iI (((twoS t (true, p) 0 11).1 : Int)))) (by rw [mv_t hg1]) ?_
      refine g_S (As := [.ref as, .int (iI (((twoS t (true, p) 0 11).1 : Int)))]) (rest := [.ref o]) hx hb hml hown hts hK hZ hP hS (m_isList l G _ _ _ h_s hT.1 hn12 (by omega)) 2 (lw_S q1618 q1619 q59 q1620) (by decide +kernel) (by decide) (by decide) rfl hl.1 rfl (Nat.le_of_ble_eq_true rfl) dX3_readOne_41 (fun v ω kc_2 ks_2 H locs q_2 hP hS => ?_)
      obtain ⟨rfl, rfl, rfl, rfl⟩ := q_2
      refine W.eq (g2 := F0 m_ 44 ls [.int (bI (decide (0 ≤ ((twoS t (true, p) 0 11).1 : Int) ∧ ((twoS t (true, p) 0 11).1 : Int) ≤ (σ.1.length : Int) - 1))), .ref o]) rfl ?_
      refine g_ifz_eq (tgt := 70) hx hb dX3_readOne_44 (by decide) (fun c_44 => ?_) (fun c_44 => ?_)
      · refine lv_iconst (v := iI 0) hx hb dX3_readOne_70 rfl ?_
        refine g_top (w := .int (bI false)) rfl ?_
        refine g_V (As := [.int (bI false)]) (rest := []) hx hb hml hown hts hK hZ hP hS (m_done_false l G _ _ _ h_o) 1 (lw_V q1610 q1612 qs29 q59 q1613) h_o gk2 (by decide +kernel) (by decide) (by decide) rfl hl.1 rfl (Nat.le_of_ble_eq_true rfl) dX3_readOne_71 (fun v ω kc_3 ks_3 H locs q_3 hP hS => ?_)
        obtain ⟨rfl, rfl, rfl, hh_o, hfr⟩ := q_3
        have h_o : ω (1, 0) = some (o, .inr (2, [.int rf, .ref aT, .int (iI ((t.length : Int))), .ref aN, .ref aR, .ref aD, .int ac, .ref aK, .ref aI, .ref aH, .ref aC, .int (iI ((((twoS t (true, p) 0 11)).2.2 : Int))), .int (iI (((k + 1 : Nat) : Int)))])) := hh_o
        have h_s := hfr.at (by rcases hns with rfl | rfl <;> decide) h_s
        have h_T := hfr.at (by decide) h_T
        have hF := hF.trans hfr (fun k hk => Or.inl hk)
        refine W.eq (g2 := F0 m_ 74 ls [.int (bI true)]) rfl ?_
        refine g_ifz_eq (tgt := 81) hx hb dX3_readOne_74 (by decide) (fun c_74 => absurd c_74 (by decide)) (fun c_74 => ?_)
        refine lv_iconst (v := iI 1) hx hb dX3_readOne_77 rfl ?_
        refine lv_goto (tgt := 82) hx hb dX3_readOne_78 (by decide) ?_
        refine g_iret hx hb hr hlk hP hS (v := (iI 1)) rfl dX3_readOne_82 ?_
        have e : c_one t kd (true, p) σ k = ((twoS t (true, p) 0 11).2, σ, k + 1) := by unfold c_one; exact mkS_not (mv_ne c_35) (by have zc_44 := of_decide_eq_false c_44; rw [← Bool.not_eq_true]; simp only [isL, isR, roomL, roomR, Bool.and_eq_true, decide_eq_true_eq]; omega)
        rw [e]
        exact ⟨bI_1 (mv_ne c_35), rfl, rfl, h_o, ⟨_, h_s, hT⟩, hF⟩
      · refine lv_aload_n hx hb dX3_readOne_47 rfl (lv_at hl 3 rfl) ?_
        refine g_S (As := [.ref as]) (rest := [.ref o]) hx hb hml hown hts hK hZ hP hS (m_hasRoom l G _ _ _ h_s hT.1 hn12) 1 (lw_S q1604 q1605 q59 q1606) (by decide +kernel) (by decide) (by decide) rfl hl.1 rfl (Nat.le_of_ble_eq_true rfl) dX3_readOne_48 (fun v ω kc_4 ks_4 H locs q_4 hP hS => ?_)
        obtain ⟨rfl, rfl, rfl, rfl⟩ := q_4
        refine W.eq (g2 := F0 m_ 51 ls [.int (bI (decide (σ.1.length < 12))), .ref o]) rfl ?_
        refine g_ifz_eq (tgt := 70) hx hb dX3_readOne_51 (by decide) (fun c_51 => ?_) (fun c_51 => ?_)
        · refine lv_iconst (v := iI 0) hx hb dX3_readOne_70 rfl ?_
          refine g_top (w := .int (bI false)) rfl ?_
          refine g_V (As := [.int (bI false)]) (rest := []) hx hb hml hown hts hK hZ hP hS (m_done_false l G _ _ _ h_o) 1 (lw_V q1610 q1612 qs29 q59 q1613) h_o gk2 (by decide +kernel) (by decide) (by decide) rfl hl.1 rfl (Nat.le_of_ble_eq_true rfl) dX3_readOne_71 (fun v ω kc_5 ks_5 H locs q_5 hP hS => ?_)
          obtain ⟨rfl, rfl, rfl, hh_o, hfr⟩ := q_5
          have h_o : ω (1, 0) = some (o, .inr (2, [.int rf, .ref aT, .int (iI ((t.length : Int))), .ref aN, .ref aR, .ref aD, .int ac, .ref aK, .ref aI, .ref aH, .ref aC, .int (iI ((((twoS t (true, p) 0 11)).2.2 : Int))), .int (iI (((k + 1 : Nat) : Int)))])) := hh_o
          have h_s := hfr.at (by rcases hns with rfl | rfl <;> decide) h_s
          have h_T := hfr.at (by decide) h_T
          have hF := hF.trans hfr (fun k hk => Or.inl hk)
          refine W.eq (g2 := F0 m_ 74 ls [.int (bI true)]) rfl ?_
          refine g_ifz_eq (tgt := 81) hx hb dX3_readOne_74 (by decide) (fun c_74 => absurd c_74 (by decide)) (fun c_74 => ?_)
          refine lv_iconst (v := iI 1) hx hb dX3_readOne_77 rfl ?_
          refine lv_goto (tgt := 82) hx hb dX3_readOne_78 (by decide) ?_
          refine g_iret hx hb hr hlk hP hS (v := (iI 1)) rfl dX3_readOne_82 ?_
          have e : c_one t kd (true, p) σ k = ((twoS t (true, p) 0 11).2, σ, k + 1) := by unfold c_one; exact mkS_not (mv_ne c_35) (by have zc_44 := of_decide_eq_true c_44; have zc_51 := of_decide_eq_false c_51; rw [← Bool.not_eq_true]; simp only [isL, isR, roomL, roomR, Bool.and_eq_true, decide_eq_true_eq]; omega)
          rw [e]
          exact ⟨bI_1 (mv_ne c_35), rfl, rfl, h_o, ⟨_, h_s, hT⟩, hF⟩
        · have hroom := of_decide_eq_true c_51
          refine lv_aload_n hx hb dX3_readOne_54 rfl (lv_at hl 3 rfl) ?_
          refine lv_iload_n hx hb dX3_readOne_55 rfl (lv_at hl 4 rfl) ?_
          refine lv_iload_n hx hb dX3_readOne_56 rfl (lv_at hl 1 rfl) ?_
          refine g_top (w := .int (iI (((twoS t (true, p) 0 11).1 : Int)))) (by rw [mv_t hg1]) ?_
          refine lv_iload hx hb dX3_readOne_57 (lv_at hl 0 rfl) ?_
          refine g_top (w := .int (iI (((twoS t (true, p) 0 11).1 : Int)))) (by rw [mv_t hg2]) ?_
          refine lv_iconst (v := iI 0) hx hb dX3_readOne_59 rfl ?_
          refine g_S (As := [.ref as, .int (iI ((kd : Int))), .int (iI (((twoS t (true, p) 0 11).1 : Int))), .int (iI (((twoS t (true, p) 0 11).1 : Int))), .int (iI 0)]) (rest := [.ref o]) hx hb hml hown hts hK hZ hP hS (m_make (kd := kd) (a := (twoS t (true, p) 0 11).1) (b := (twoS t (true, p) 0 11).1) (d := 0) l G _ _ _ h_s hT (by omega) hA.2.2.1) 5 (lw_S q1607 q1608 q59 q1609) (by decide +kernel) (by decide) (by decide) rfl hl.1 rfl (Nat.le_of_ble_eq_true rfl) dX3_readOne_60 (fun v ω kc_6 ks_6 H locs q_6 hP hS => ?_)
          obtain ⟨rfl, rfl, rfl, ⟨gM, hgM, hTM⟩, hfr⟩ := q_6
          have h_o := hfr.at (by rintro rfl; rcases hns with q | q <;> cases q) h_o
          have h_s : ω ns = some (as, .inl (G.2.1 0, 59, .inl (gM))) := hgM
          have h_T := hfr.at (by rintro rfl; rcases hns with q | q <;> cases q) h_T
          have hF := hF.trans hfr (fun k hk => Or.inr hk)
          refine W.eq (g2 := F0 m_ 63 ls [.int (iI ((σ.1.length : Int))), .ref o]) rfl ?_
          refine g_if_lt (tgt := 70) hx hb dX3_readOne_63 (by decide) (by omega) (fun c_63 => ?_) (fun c_63 => ?_)
          · exact absurd c_63 (by omega)
          · refine lv_iconst (v := iI 1) hx hb dX3_readOne_66 rfl ?_
            refine lv_goto (tgt := 71) hx hb dX3_readOne_67 (by decide) ?_
            refine g_top (w := .int (bI true)) rfl ?_
            refine g_V (As := [.int (bI true)]) (rest := []) hx hb hml hown hts hK hZ hP hS (m_done_true l G _ _ _ h_o) 1 (lw_V q1610 q1612 qs29 q59 q1613) h_o gk2 (by decide +kernel) (by decide) (by decide) rfl hl.1 rfl (Nat.le_of_ble_eq_true rfl) dX3_readOne_71 (fun v ω kc_7 ks_7 H locs q_7 hP hS => ?_)
            obtain ⟨rfl, rfl, rfl, hh_o, hfr⟩ := q_7
            have h_o : ω (1, 0) = some (o, .inr (2, [.int rf, .ref aT, .int (iI ((t.length : Int))), .ref aN, .ref aR, .ref aD, .int ac, .ref aK, .ref aI, .ref aH, .ref aC, .int (iI ((((twoS t (true, p) 0 11)).2.2 : Int))), .int (iI ((k : Int)))])) := hh_o
            have h_s := hfr.at (by rcases hns with rfl | rfl <;> decide) h_s
            have h_T := hfr.at (by decide) h_T
            have hF := hF.trans hfr (fun k hk => Or.inl hk)
            refine W.eq (g2 := F0 m_ 74 ls [.int (bI true)]) rfl ?_
            refine g_ifz_eq (tgt := 81) hx hb dX3_readOne_74 (by decide) (fun c_74 => absurd c_74 (by decide)) (fun c_74 => ?_)
            refine lv_iconst (v := iI 1) hx hb dX3_readOne_77 rfl ?_
            refine lv_goto (tgt := 82) hx hb dX3_readOne_78 (by decide) ?_
            refine g_iret hx hb hr hlk hP hS (v := (iI 1)) rfl dX3_readOne_82 ?_
            have e : c_one t kd (true, p) σ k = ((twoS t (true, p) 0 11).2, a_make σ (kd, (twoS t (true, p) 0 11).1, (twoS t (true, p) 0 11).1, 0), k) := by unfold c_one; exact mkS_can (mv_ne c_35) (by have zc_44 := of_decide_eq_true c_44; have zc_51 := of_decide_eq_true c_51; simp only [isL, isR, roomL, roomR, Bool.and_eq_true, decide_eq_true_eq]; omega)
            rw [e]
            exact ⟨bI_1 (mv_ne c_35), rfl, rfl, h_o, ⟨_, h_s, hTM⟩, hF⟩
  · exact absurd c_14 (by omega)

set_option maxHeartbeats 4000000 in
theorem m_readOneE (l : Launch) (G : GT) (ω0 : Om) (kc ks : Nat) {o aT aN aR aD aK aI aH aC : Nat} {rf ac : Int32} {ns : Nm} {as : Nat} {f : Nat → Int32} {tx : Nat → Int32} {t : List Nat} {p k : Nat} {σ : AS} (h_o : ω0 (1, 0) = some (o, .inr (2, [.int rf, .ref aT, .int (iI ((t.length : Int))), .ref aN, .ref aR, .ref aD, .int ac, .ref aK, .ref aI, .ref aH, .ref aC, .int (iI ((p : Int))), .int (iI ((k : Int)))]))) (h_s : ω0 ns = some (as, .inl (G.2.1 0, 59, .inl (f)))) (h_T : ω0 (1, 1) = some (aT, .inl (G.2.1 0, 120, .inl (tx)))) (hns : ns = (1, 2) ∨ ns = (1, 3)) (hX : TX tx t) (hT : Tab f σ) (hA : okA σ) (hp : p ≤ t.length) : Ct l G yX3_readOne cX3_readOne 5 (some .boolean) 3 65 [.ref o, .ref as, .int (iI 6)] ω0 kc ks (fun v ω' kc' ks' => v = some (.int (bI (c_e t (true, p) σ k).1.1)) ∧ kc = kc' ∧ ks = ks' ∧ ω' (1, 0) = some (o, .inr (2, [.int rf, .ref aT, .int (iI ((t.length : Int))), .ref aN, .ref aR, .ref aD, .int ac, .ref aK, .ref aI, .ref aH, .ref aC, .int (iI (((c_e t (true, p) σ k).1.2 : Int))), .int (iI (((c_e t (true, p) σ k).2.2 : Int)))])) ∧ (∃ g : Nat → Int32, ω' ns = some (as, .inl (G.2.1 0, 59, .inl (g))) ∧ Tab g (c_e t (true, p) σ k).2.1) ∧ Fr (fun k => k = (1, 0) ∨ k = ns) ω0 ω') := by
  refine Ct.start (by decide) (Nat.le_of_ble_eq_true rfl) ?_
  intro p_ e_ s m_ below_ meth_ c_m H locs ls hx hb hr hlk hml hown hnm hts hK hZ hP hS hl
  have hown : s.vm.findClass RX3 = some m_.cls := hown
  have hl : lv_has ls 5 [(0, .ref o), (1, .ref as), (2, .int (iI 6))] := hl
  have hF : Fr ((fun k => k = (1, 0) ∨ k = ns)) ω0 ω0 := Fr.rf
  have hn12 : σ.1.length ≤ 12 := hA.1
  have ht120 := hX.2.2
  have hb0 := twoS_bd (t := t) (ps := (true, p)) (lo := 0) (hi := 11) (by decide) (by decide) (by decide) (by decide)
  have hb1 := dgS_bd (t := t) (ps := (twoS t (true, p) 0 11).2) (lo := 1) (hi := 9) (by decide)
  have hq0 := (twoS_pos (t := t) (ps := (true, p)) (lo := 0) (hi := 11)).2 hp
  refine lv_aload_n hx hb dX3_readOne_0 rfl (lv_at hl 0 rfl) ?_
  refine lv_iconst (v := iI 0) hx hb dX3_readOne_1 rfl ?_
  refine lv_bipush (v := iI 10) hx hb dX3_readOne_2 rfl ?_
  refine lv_iconst (v := iI 0) hx hb dX3_readOne_4 rfl ?_
  refine lv_bipush (v := iI 11) hx hb dX3_readOne_5 rfl ?_
  refine g_V (As := [.int (iI 0), .int (iI 10), .int (iI 0), .int (iI 11)]) (rest := []) hx hb hml hown hts hK hZ hP hS (m_fig2 l G _ _ _ ((0, true, p)) h_o h_T hX (Nat.zero_le _) (by decide) (by decide) (by show p ≤ 120; omega) (lo := 0) (hi := 11)) 4 (lw_V q1599 q1601 qs28 q59 q1602) h_o gk2 (by decide +kernel) (by decide) (by decide) rfl hl.1 rfl (Nat.le_of_ble_eq_true rfl) dX3_readOne_7 (fun v ω kc_1 ks_1 H locs q_1 hP hS => ?_)
  obtain ⟨rfl, rfl, rfl, hh_o, hfr⟩ := q_1
  have h_o : ω (1, 0) = some (o, .inr (2, [.int rf, .ref aT, .int (iI ((t.length : Int))), .ref aN, .ref aR, .ref aD, .int ac, .ref aK, .ref aI, .ref aH, .ref aC, .int (iI ((((twoS t (true, p) 0 11)).2.2 : Int))), .int (iI ((k : Int)))])) := hh_o
  have h_s := hfr.at (by rcases hns with rfl | rfl <;> decide) h_s
  have h_T := hfr.at (by decide) h_T
  have hF := hF.trans hfr (fun k hk => Or.inl hk)
  refine W.eq (g2 := F0 m_ 10 ls [.int (iI (mv ((twoS t (true, p) 0 11))))]) rfl ?_
  refine lv_istore_n (lv' := [(3, .int (iI (mv ((twoS t (true, p) 0 11))))), (0, .ref o), (1, .ref as), (2, .int (iI 6))]) hx hb dX3_readOne_10 rfl hl (by decide) rfl (fun ls hl => ?_)
  refine lv_iload_n hx hb dX3_readOne_11 rfl (lv_at hl 3 rfl) ?_
  refine lv_bipush (v := iI 6) hx hb dX3_readOne_12 rfl ?_
  refine g_icmp_ne (tgt := 29) hx hb dX3_readOne_14 (by decide) (by decide) (by decide) (fun c_14 => absurd c_14 (by decide)) (fun c_14 => ?_)
  refine lv_aload_n hx hb dX3_readOne_17 rfl (lv_at hl 1 rfl) ?_
  refine lv_iload_n hx hb dX3_readOne_18 rfl (lv_at hl 0 rfl) ?_
  refine lv_iconst (v := iI 1) hx hb dX3_readOne_19 rfl ?_
  refine lv_iconst (v := iI 1) hx hb dX3_readOne_20 rfl ?_
  refine lv_bipush (v := iI 9) hx hb dX3_readOne_21 rfl ?_
  refine g_V (As := [.int (iI (mv ((twoS t (true, p) 0 11)))), .int (iI 1), .int (iI 1), .int (iI 9)]) (rest := []) hx hb hml hown hts hK hZ hP hS (m_fig1 l G _ _ _ ((twoS t (true, p) 0 11)) h_o h_T hX (by omega) (by decide) (by decide) (by omega) (lo := 1) (hi := 9)) 4 (lw_V q1599 q1601 qs28 q59 q1602) h_o gk2 (by decide +kernel) (by decide) (by decide) rfl hl.1 rfl (Nat.le_of_ble_eq_true rfl) dX3_readOne_23 (fun v ω kc_2 ks_2 H locs q_2 hP hS => ?_)
  obtain ⟨rfl, rfl, rfl, hh_o, hfr⟩ := q_2
  have h_o : ω (1, 0) = some (o, .inr (2, [.int rf, .ref aT, .int (iI ((t.length : Int))), .ref aN, .ref aR, .ref aD, .int ac, .ref aK, .ref aI, .ref aH, .ref aC, .int (iI ((((dgS t (twoS t (true, p) 0 11).2 1 9)).2.2 : Int))), .int (iI ((k : Int)))])) := hh_o
  have h_s := hfr.at (by rcases hns with rfl | rfl <;> decide) h_s
  have h_T := hfr.at (by decide) h_T
  have hF := hF.trans hfr (fun k hk => Or.inl hk)
  refine W.eq (g2 := F0 m_ 26 ls [.int (iI (mv ((dgS t (twoS t (true, p) 0 11).2 1 9))))]) rfl ?_
  refine lv_goto (tgt := 30) hx hb dX3_readOne_26 (by decide) ?_
  refine lv_istore (lv' := [(4, .int (iI (mv ((dgS t (twoS t (true, p) 0 11).2 1 9))))), (3, .int (iI (mv ((twoS t (true, p) 0 11))))), (0, .ref o), (1, .ref as), (2, .int (iI 6))]) hx hb dX3_readOne_30 hl (by decide) rfl (fun ls hl => ?_)
  refine lv_iload hx hb dX3_readOne_32 (lv_at hl 0 rfl) ?_
  refine lv_iconst (v := iI (-1)) hx hb dX3_readOne_34 rfl ?_
  refine g_icmp_eq (tgt := 81) hx hb dX3_readOne_35 (by decide) (by have := mv_rng hb1.2; omega) (by omega) (fun c_35 => ?_) (fun c_35 => ?_)
  · refine lv_iconst (v := iI 0) hx hb dX3_readOne_81 rfl ?_
    refine g_iret hx hb hr hlk hP hS (v := (iI 0)) rfl dX3_readOne_82 ?_
    have e : c_e t (true, p) σ k = ((dgS t (twoS t (true, p) 0 11).2 1 9).2, σ, k) := by unfold c_e; exact mkS_no (mv_f.mp c_35)
    rw [e]
    exact ⟨bI_2 (mv_f.mp c_35), rfl, rfl, h_o, ⟨_, h_s, hT⟩, hF⟩
  · have hg2 := mv_ne c_35
    have hg1 := dgS_on hg2
    refine lv_aload_n hx hb dX3_readOne_38 rfl (lv_at hl 2 rfl) ?_
    refine lv_aload_n hx hb dX3_readOne_39 rfl (lv_at hl 3 rfl) ?_
    refine lv_iload_n hx hb dX3_readOne_40 rfl (lv_at hl 1 rfl) ?_
    refine g_top (w := .int (iI (((twoS t (true, p) 0 11).1 : Int)))) (by rw [mv_t hg1]) ?_
    refine g_S (As := [.ref as, .int (iI (((twoS t (true, p) 0 11).1 : Int)))]) (rest := [.ref o]) hx hb hml hown hts hK hZ hP hS (m_isList l G _ _ _ h_s hT.1 hn12 (by omega)) 2 (lw_S q1618 q1619 q59 q1620) (by decide +kernel) (by decide) (by decide) rfl hl.1 rfl (Nat.le_of_ble_eq_true rfl) dX3_readOne_41 (fun v ω kc_3 ks_3 H locs q_3 hP hS => ?_)
    obtain ⟨rfl, rfl, rfl, rfl⟩ := q_3
    refine W.eq (g2 := F0 m_ 44 ls [.int (bI (decide (0 ≤ ((twoS t (true, p) 0 11).1 : Int) ∧ ((twoS t (true, p) 0 11).1 : Int) ≤ (σ.1.length : Int) - 1))), .ref o]) rfl ?_
    refine g_ifz_eq (tgt := 70) hx hb dX3_readOne_44 (by decide) (fun c_44 => ?_) (fun c_44 => ?_)
    · refine lv_iconst (v := iI 0) hx hb dX3_readOne_70 rfl ?_
      refine g_top (w := .int (bI false)) rfl ?_
      refine g_V (As := [.int (bI false)]) (rest := []) hx hb hml hown hts hK hZ hP hS (m_done_false l G _ _ _ h_o) 1 (lw_V q1610 q1612 qs29 q59 q1613) h_o gk2 (by decide +kernel) (by decide) (by decide) rfl hl.1 rfl (Nat.le_of_ble_eq_true rfl) dX3_readOne_71 (fun v ω kc_4 ks_4 H locs q_4 hP hS => ?_)
      obtain ⟨rfl, rfl, rfl, hh_o, hfr⟩ := q_4
      have h_o : ω (1, 0) = some (o, .inr (2, [.int rf, .ref aT, .int (iI ((t.length : Int))), .ref aN, .ref aR, .ref aD, .int ac, .ref aK, .ref aI, .ref aH, .ref aC, .int (iI ((((dgS t (twoS t (true, p) 0 11).2 1 9)).2.2 : Int))), .int (iI (((k + 1 : Nat) : Int)))])) := hh_o
      have h_s := hfr.at (by rcases hns with rfl | rfl <;> decide) h_s
      have h_T := hfr.at (by decide) h_T
      have hF := hF.trans hfr (fun k hk => Or.inl hk)
      refine W.eq (g2 := F0 m_ 74 ls [.int (bI true)]) rfl ?_
      refine g_ifz_eq (tgt := 81) hx hb dX3_readOne_74 (by decide) (fun c_74 => absurd c_74 (by decide)) (fun c_74 => ?_)
      refine lv_iconst (v := iI 1) hx hb dX3_readOne_77 rfl ?_
      refine lv_goto (tgt := 82) hx hb dX3_readOne_78 (by decide) ?_
      refine g_iret hx hb hr hlk hP hS (v := (iI 1)) rfl dX3_readOne_82 ?_
      have e : c_e t (true, p) σ k = ((dgS t (twoS t (true, p) 0 11).2 1 9).2, σ, k + 1) := by unfold c_e; exact mkS_not (mv_ne c_35) (by have zc_44 := of_decide_eq_false c_44; rw [← Bool.not_eq_true]; simp only [isL, isR, roomL, roomR, Bool.and_eq_true, decide_eq_true_eq]; omega)
      rw [e]
      exact ⟨bI_1 (mv_ne c_35), rfl, rfl, h_o, ⟨_, h_s, hT⟩, hF⟩
    · refine lv_aload_n hx hb dX3_readOne_47 rfl (lv_at hl 3 rfl) ?_
      refine g_S (As := [.ref as]) (rest := [.ref o]) hx hb hml hown hts hK hZ hP hS (m_hasRoom l G _ _ _ h_s hT.1 hn12) 1 (lw_S q1604 q1605 q59 q1606) (by decide +kernel) (by decide) (by decide) rfl hl.1 rfl (Nat.le_of_ble_eq_true rfl) dX3_readOne_48 (fun v ω kc_5 ks_5 H locs q_5 hP hS => ?_)
      obtain ⟨rfl, rfl, rfl, rfl⟩ := q_5
      refine W.eq (g2 := F0 m_ 51 ls [.int (bI (decide (σ.1.length < 12))), .ref o]) rfl ?_
      refine g_ifz_eq (tgt := 70) hx hb dX3_readOne_51 (by decide) (fun c_51 => ?_) (fun c_51 => ?_)
      · refine lv_iconst (v := iI 0) hx hb dX3_readOne_70 rfl ?_
        refine g_top (w := .int (bI false)) rfl ?_
        refine g_V (As := [.int (bI false)]) (rest := []) hx hb hml hown hts hK hZ hP hS (m_done_false l G _ _ _ h_o) 1 (lw_V q1610 q1612 qs29 q59 q1613) h_o gk2 (by decide +kernel) (by decide) (by decide) rfl hl.1 rfl (Nat.le_of_ble_eq_true rfl) dX3_readOne_71 (fun v ω kc_6 ks_6 H locs q_6 hP hS => ?_)
        obtain ⟨rfl, rfl, rfl, hh_o, hfr⟩ := q_6
        have h_o : ω (1, 0) = some (o, .inr (2, [.int rf, .ref aT, .int (iI ((t.length : Int))), .ref aN, .ref aR, .ref aD, .int ac, .ref aK, .ref aI, .ref aH, .ref aC, .int (iI ((((dgS t (twoS t (true, p) 0 11).2 1 9)).2.2 : Int))), .int (iI (((k + 1 : Nat) : Int)))])) := hh_o
        have h_s := hfr.at (by rcases hns with rfl | rfl <;> decide) h_s
        have h_T := hfr.at (by decide) h_T
        have hF := hF.trans hfr (fun k hk => Or.inl hk)
        refine W.eq (g2 := F0 m_ 74 ls [.int (bI true)]) rfl ?_
        refine g_ifz_eq (tgt := 81) hx hb dX3_readOne_74 (by decide) (fun c_74 => absurd c_74 (by decide)) (fun c_74 => ?_)
        refine lv_iconst (v := iI 1) hx hb dX3_readOne_77 rfl ?_
        refine lv_goto (tgt := 82) hx hb dX3_readOne_78 (by decide) ?_
        refine g_iret hx hb hr hlk hP hS (v := (iI 1)) rfl dX3_readOne_82 ?_
        have e : c_e t (true, p) σ k = ((dgS t (twoS t (true, p) 0 11).2 1 9).2, σ, k + 1) := by unfold c_e; exact mkS_not (mv_ne c_35) (by have zc_44 := of_decide_eq_true c_44; have zc_51 := of_decide_eq_false c_51; rw [← Bool.not_eq_true]; simp only [isL, isR, roomL, roomR, Bool.and_eq_true, decide_eq_true_eq]; omega)
        rw [e]
        exact ⟨bI_1 (mv_ne c_35), rfl, rfl, h_o, ⟨_, h_s, hT⟩, hF⟩
      · have hroom := of_decide_eq_true c_51
        refine lv_aload_n hx hb dX3_readOne_54 rfl (lv_at hl 3 rfl) ?_
        refine lv_iload_n hx hb dX3_readOne_55 rfl (lv_at hl 4 rfl) ?_
        refine lv_iload_n hx hb dX3_readOne_56 rfl (lv_at hl 1 rfl) ?_
        refine g_top (w := .int (iI (((twoS t (true, p) 0 11).1 : Int)))) (by rw [mv_t hg1]) ?_
        refine lv_iload hx hb dX3_readOne_57 (lv_at hl 0 rfl) ?_
        refine g_top (w := .int (iI (((dgS t (twoS t (true, p) 0 11).2 1 9).1 : Int)))) (by rw [mv_t hg2]) ?_
        refine lv_iconst (v := iI 0) hx hb dX3_readOne_59 rfl ?_
        refine g_S (As := [.ref as, .int (iI 6), .int (iI (((twoS t (true, p) 0 11).1 : Int))), .int (iI (((dgS t (twoS t (true, p) 0 11).2 1 9).1 : Int))), .int (iI 0)]) (rest := [.ref o]) hx hb hml hown hts hK hZ hP hS (m_make (kd := 6) (a := (twoS t (true, p) 0 11).1) (b := (dgS t (twoS t (true, p) 0 11).2 1 9).1) (d := 0) l G _ _ _ h_s hT (by omega) hA.2.2.1) 5 (lw_S q1607 q1608 q59 q1609) (by decide +kernel) (by decide) (by decide) rfl hl.1 rfl (Nat.le_of_ble_eq_true rfl) dX3_readOne_60 (fun v ω kc_7 ks_7 H locs q_7 hP hS => ?_)
        obtain ⟨rfl, rfl, rfl, ⟨gM, hgM, hTM⟩, hfr⟩ := q_7
        have h_o := hfr.at (by rintro rfl; rcases hns with q | q <;> cases q) h_o
        have h_s : ω ns = some (as, .inl (G.2.1 0, 59, .inl (gM))) := hgM
        have h_T := hfr.at (by rintro rfl; rcases hns with q | q <;> cases q) h_T
        have hF := hF.trans hfr (fun k hk => Or.inr hk)
        refine W.eq (g2 := F0 m_ 63 ls [.int (iI ((σ.1.length : Int))), .ref o]) rfl ?_
        refine g_if_lt (tgt := 70) hx hb dX3_readOne_63 (by decide) (by omega) (fun c_63 => ?_) (fun c_63 => ?_)
        · exact absurd c_63 (by omega)
        · refine lv_iconst (v := iI 1) hx hb dX3_readOne_66 rfl ?_
          refine lv_goto (tgt := 71) hx hb dX3_readOne_67 (by decide) ?_
          refine g_top (w := .int (bI true)) rfl ?_
          refine g_V (As := [.int (bI true)]) (rest := []) hx hb hml hown hts hK hZ hP hS (m_done_true l G _ _ _ h_o) 1 (lw_V q1610 q1612 qs29 q59 q1613) h_o gk2 (by decide +kernel) (by decide) (by decide) rfl hl.1 rfl (Nat.le_of_ble_eq_true rfl) dX3_readOne_71 (fun v ω kc_8 ks_8 H locs q_8 hP hS => ?_)
          obtain ⟨rfl, rfl, rfl, hh_o, hfr⟩ := q_8
          have h_o : ω (1, 0) = some (o, .inr (2, [.int rf, .ref aT, .int (iI ((t.length : Int))), .ref aN, .ref aR, .ref aD, .int ac, .ref aK, .ref aI, .ref aH, .ref aC, .int (iI ((((dgS t (twoS t (true, p) 0 11).2 1 9)).2.2 : Int))), .int (iI ((k : Int)))])) := hh_o
          have h_s := hfr.at (by rcases hns with rfl | rfl <;> decide) h_s
          have h_T := hfr.at (by decide) h_T
          have hF := hF.trans hfr (fun k hk => Or.inl hk)
          refine W.eq (g2 := F0 m_ 74 ls [.int (bI true)]) rfl ?_
          refine g_ifz_eq (tgt := 81) hx hb dX3_readOne_74 (by decide) (fun c_74 => absurd c_74 (by decide)) (fun c_74 => ?_)
          refine lv_iconst (v := iI 1) hx hb dX3_readOne_77 rfl ?_
          refine lv_goto (tgt := 82) hx hb dX3_readOne_78 (by decide) ?_
          refine g_iret hx hb hr hlk hP hS (v := (iI 1)) rfl dX3_readOne_82 ?_
          have e : c_e t (true, p) σ k = ((dgS t (twoS t (true, p) 0 11).2 1 9).2, a_make σ (6, (twoS t (true, p) 0 11).1, (dgS t (twoS t (true, p) 0 11).2 1 9).1, 0), k) := by unfold c_e; exact mkS_can (mv_ne c_35) (by have zc_44 := of_decide_eq_true c_44; have zc_51 := of_decide_eq_true c_51; simp only [isL, isR, roomL, roomR, Bool.and_eq_true, decide_eq_true_eq]; omega)
          rw [e]
          exact ⟨bI_1 (mv_ne c_35), rfl, rfl, h_o, ⟨_, h_s, hTM⟩, hF⟩

