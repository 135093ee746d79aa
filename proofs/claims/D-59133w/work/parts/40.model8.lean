/-! ## the reference: readers in texts; texts -/
set_option maxHeartbeats 4000000 in
theorem m_readReaderN (l : Launch) (G : GT) (ω0 : Om) (kc ks : Nat) {o aT aN aR aD aK aI aH aC : Nat} {rf ac : Int32} {ns : Nm} {as : Nat} {f : Nat → Int32} {tx : Nat → Int32} {t : List Nat} {p k : Nat} {σ : AS} {ha cr : Nat → Int32} (h_o : ω0 (1, 0) = some (o, .inr (2, [.int rf, .ref aT, .int (iI ((t.length : Int))), .ref aN, .ref aR, .ref aD, .int ac, .ref aK, .ref aI, .ref aH, .ref aC, .int (iI ((p : Int))), .int (iI ((k : Int)))]))) (h_s : ω0 ns = some (as, .inl (G.2.1 0, 59, .inl (f)))) (h_T : ω0 (1, 1) = some (aT, .inl (G.2.1 0, 120, .inl (tx)))) (h_H : ω0 (1, 7) = some (aH, .inl (G.2.1 1, 12000, .inl (ha)))) (h_C : ω0 (1, 8) = some (aC, .inl (G.2.1 1, 1000, .inl (cr)))) (hns : ns = (1, 2) ∨ ns = (1, 3)) (hX : TX tx t) (hT : Tab f σ) (hA : okA σ) (hp : p ≤ t.length) : Ct l G yX3_readReader cX3_readReader 5 (some .boolean) 5 103 [.ref o, .ref as, .int (iI 110)] ω0 kc ks (fun v ω' kc' ks' => v = some (.int (bI (c_n t (true, p) σ k).1.1)) ∧ kc = kc' ∧ ks = ks' ∧ ω' (1, 0) = some (o, .inr (2, [.int rf, .ref aT, .int (iI ((t.length : Int))), .ref aN, .ref aR, .ref aD, .int ac, .ref aK, .ref aI, .ref aH, .ref aC, .int (iI (((c_n t (true, p) σ k).1.2 : Int))), .int (iI (((c_n t (true, p) σ k).2.2 : Int)))])) ∧ (∃ g : Nat → Int32, ω' ns = some (as, .inl (G.2.1 0, 59, .inl (g))) ∧ Tab g (c_n t (true, p) σ k).2.1) ∧ (∃ ha' cr' : Nat → Int32, ω' (1, 7) = some (aH, .inl (G.2.1 1, 12000, .inl (ha'))) ∧ ω' (1, 8) = some (aC, .inl (G.2.1 1, 1000, .inl (cr')))) ∧ Fr (fun k => k = (1, 0) ∨ k = (1, 7) ∨ k = (1, 8) ∨ k = ns) ω0 ω') := by
  refine Ct.start (by decide) (Nat.le_of_ble_eq_true rfl) ?_
  intro p_ e_ s m_ below_ meth_ c_m H locs ls hx hb hr hlk hml hown hnm hts hK hZ hP hS hl
  have hown : s.vm.findClass RX3 = some m_.cls := hown
  have hl : lv_has ls 5 [(0, .ref o), (1, .ref as), (2, .int (iI 110))] := hl
  have hF : Fr ((fun k => k = (1, 0) ∨ k = (1, 7) ∨ k = (1, 8) ∨ k = ns)) ω0 ω0 := Fr.rf
  have hn12 : σ.1.length ≤ 12 := hA.1
  have ht120 := hX.2.2
  have hb0 := dgS_bd (t := t) (ps := (true, p)) (lo := 0) (hi := 3) (by decide)
  have hb1 := twoS_bd (t := t) (ps := (dgS t (true, p) 0 3).2) (lo := 1) (hi := 99) (by decide) (by decide) (by decide) (by decide)
  have hq0 := (dgS_pos (t := t) (ps := (true, p)) (lo := 0) (hi := 3)).2.2 hp
  have hr4 := hA.2.2.1
  refine lv_aload_n hx hb dX3_readReader_0 rfl (lv_at hl 0 rfl) ?_
  refine lv_iconst (v := iI 0) hx hb dX3_readReader_1 rfl ?_
  refine lv_iconst (v := iI 1) hx hb dX3_readReader_2 rfl ?_
  refine lv_iconst (v := iI 0) hx hb dX3_readReader_3 rfl ?_
  refine lv_iconst (v := iI 3) hx hb dX3_readReader_4 rfl ?_
  refine g_V (As := [.int (iI 0), .int (iI 1), .int (iI 0), .int (iI 3)]) (rest := []) hx hb hml hown hts hK hZ hP hS (m_fig1 l G _ _ _ ((0, true, p)) h_o h_T hX (Nat.zero_le _) (by decide) (by decide) (by show p ≤ 120; omega) (lo := 0) (hi := 3)) 4 (lw_V q1599 q1601 qs28 q59 q1602) h_o gk2 (by decide +kernel) (by decide) (by decide) rfl hl.1 rfl (Nat.le_of_ble_eq_true rfl) dX3_readReader_5 (fun v ω kc_1 ks_1 H locs q_1 hP hS => ?_)
  obtain ⟨rfl, rfl, rfl, hh_o, hfr⟩ := q_1
  have h_o : ω (1, 0) = some (o, .inr (2, [.int rf, .ref aT, .int (iI ((t.length : Int))), .ref aN, .ref aR, .ref aD, .int ac, .ref aK, .ref aI, .ref aH, .ref aC, .int (iI ((((dgS t (true, p) 0 3)).2.2 : Int))), .int (iI ((k : Int)))])) := hh_o
  have h_s := hfr.at (by rcases hns with rfl | rfl <;> decide) h_s
  have h_T := hfr.at (by decide) h_T
  have h_H := hfr.at (by decide) h_H
  have h_C := hfr.at (by decide) h_C
  have hF := hF.trans hfr (fun k hk => Or.inl hk)
  refine W.eq (g2 := F0 m_ 8 ls [.int (iI (mv ((dgS t (true, p) 0 3))))]) rfl ?_
  refine lv_istore_n (lv' := [(3, .int (iI (mv ((dgS t (true, p) 0 3))))), (0, .ref o), (1, .ref as), (2, .int (iI 110))]) hx hb dX3_readReader_8 rfl hl (by decide) rfl (fun ls hl => ?_)
  refine lv_iload_n hx hb dX3_readReader_9 rfl (lv_at hl 3 rfl) ?_
  refine lv_bipush (v := iI 107) hx hb dX3_readReader_10 rfl ?_
  refine g_icmp_ne (tgt := 28) hx hb dX3_readReader_12 (by decide) (by decide) (by decide) (fun c_12 => ?_) (fun c_12 => absurd c_12 (by decide))
  refine lv_iload_n hx hb dX3_readReader_28 rfl (lv_at hl 0 rfl) ?_
  refine lv_istore (lv' := [(4, .int (iI (mv ((dgS t (true, p) 0 3))))), (3, .int (iI (mv ((dgS t (true, p) 0 3))))), (0, .ref o), (1, .ref as), (2, .int (iI 110))]) hx hb dX3_readReader_29 hl (by decide) rfl (fun ls hl => ?_)
  refine lv_iload hx hb dX3_readReader_31 (lv_at hl 0 rfl) ?_
  refine lv_iconst (v := iI (-1)) hx hb dX3_readReader_33 rfl ?_
  refine g_icmp_ne (tgt := 39) hx hb dX3_readReader_34 (by decide) (by have := mv_rng (show (dgS t (true, p) 0 3).1 ≤ 999 by omega); omega) (by omega) (fun c_34 => ?_) (fun c_34 => ?_)
  · have hgl := mv_ne c_34
    have hg0 := hgl
    refine lv_aload_n hx hb dX3_readReader_39 rfl (lv_at hl 2 rfl) ?_
    refine lv_aload_n hx hb dX3_readReader_40 rfl (lv_at hl 3 rfl) ?_
    refine g_V (As := [.ref as]) (rest := []) hx hb hml hown hts hK hZ hP hS (m_finds (T := σ.1) l G _ _ _ h_o h_s h_H h_C hns hn12 hA.2.1 hT.1 hT.2.2.2.1) 1 (lw_V q1636 q1638 qs34 q59 q1639) h_o gk2 (by decide +kernel) (by decide) (by decide) rfl hl.1 rfl (Nat.le_of_ble_eq_true rfl) dX3_readReader_41 (fun v ω kc_2 ks_2 H locs q_2 hP hS => ?_)
    obtain ⟨rfl, rfl, rfl, ⟨gH, cH, hgH, hgC, hHb⟩, hfr⟩ := q_2
    have h_o := hfr.at (by decide) h_o
    have h_s := hfr.at (by rcases hns with rfl | rfl <;> decide) h_s
    have h_T := hfr.at (by decide) h_T
    have h_H : ω (1, 7) = some (aH, .inl (G.2.1 1, 12000, .inl (gH))) := hgH
    have h_C : ω (1, 8) = some (aC, .inl (G.2.1 1, 1000, .inl (cH))) := hgC
    have hF := hF.trans hfr (fun k hk => hk.elim (fun q => Or.inr (Or.inl q)) (fun q => Or.inr (Or.inr (Or.inl q))))
    refine W.eq (g2 := F0 m_ 44 ls []) rfl ?_
    refine lv_iload_n hx hb dX3_readReader_44 rfl (lv_at hl 4 rfl) ?_
    · refine lv_lookup (off := 35) (tgt := 80) hx hb dX3_readReader_45 (by decide) (by decide +kernel) (by decide) ?_
      refine lv_aload_n hx hb dX3_readReader_80 rfl (lv_at hl 2 rfl) ?_
      refine lv_aload_n hx hb dX3_readReader_81 rfl (lv_at hl 3 rfl) ?_
      refine lv_iload_n hx hb dX3_readReader_82 rfl (lv_at hl 1 rfl) ?_
      refine g_top (w := .int (iI (((dgS t (true, p) 0 3).1 : Int)))) (by rw [mv_t hg0]) ?_
      refine g_S (As := [.ref as, .int (iI (((dgS t (true, p) 0 3).1 : Int)))]) (rest := [.ref o]) hx hb hml hown hts hK hZ hP hS (m_isReader l G _ _ _ h_s hT.2.1 hA.2.2.1 (by omega)) 2 (lw_S q1665 q1666 q59 q1667) (by decide +kernel) (by decide) (by decide) rfl hl.1 rfl (Nat.le_of_ble_eq_true rfl) dX3_readReader_83 (fun v ω kc_3 ks_3 H locs q_3 hP hS => ?_)
      obtain ⟨rfl, rfl, rfl, rfl⟩ := q_3
      refine W.eq (g2 := F0 m_ 86 ls [.int (bI (decide (0 ≤ ((dgS t (true, p) 0 3).1 : Int) ∧ ((dgS t (true, p) 0 3).1 : Int) ≤ (σ.2.1.length : Int) - 1))), .ref o]) rfl ?_
      refine g_ifz_eq (tgt := 112) hx hb dX3_readReader_86 (by decide) (fun c_86 => ?_) (fun c_86 => ?_)
      · refine lv_iconst (v := iI 0) hx hb dX3_readReader_112 rfl ?_
        refine g_top (w := .int (bI false)) rfl ?_
        refine g_V (As := [.int (bI false)]) (rest := []) hx hb hml hown hts hK hZ hP hS (m_done_false l G _ _ _ h_o) 1 (lw_V q1610 q1612 qs29 q59 q1613) h_o gk2 (by decide +kernel) (by decide) (by decide) rfl hl.1 rfl (Nat.le_of_ble_eq_true rfl) dX3_readReader_113 (fun v ω kc_4 ks_4 H locs q_4 hP hS => ?_)
        obtain ⟨rfl, rfl, rfl, hh_o, hfr⟩ := q_4
        have h_o : ω (1, 0) = some (o, .inr (2, [.int rf, .ref aT, .int (iI ((t.length : Int))), .ref aN, .ref aR, .ref aD, .int ac, .ref aK, .ref aI, .ref aH, .ref aC, .int (iI ((((dgS t (true, p) 0 3)).2.2 : Int))), .int (iI (((k + 1 : Nat) : Int)))])) := hh_o
        have h_s := hfr.at (by rcases hns with rfl | rfl <;> decide) h_s
        have h_T := hfr.at (by decide) h_T
        have h_H := hfr.at (by decide) h_H
        have h_C := hfr.at (by decide) h_C
        have hF := hF.trans hfr (fun k hk => Or.inl hk)
        refine W.eq (g2 := F0 m_ 116 ls [.int (bI true)]) rfl ?_
        refine g_iret hx hb hr hlk hP hS (v := (bI true)) (bI_nar _) dX3_readReader_116 ?_
        have e : c_n t (true, p) σ k = ((dgS t (true, p) 0 3).2, σ, k + 1) := by unfold c_n; exact mkS_not (mv_ne c_34) (by rw [Bool.and_eq_false_iff]; exact Or.inl (decide_eq_false (by have z := of_decide_eq_false c_86; omega)))
        rw [e]
        exact ⟨bI_1 (mv_ne c_34), rfl, rfl, h_o, ⟨_, h_s, hT⟩, ⟨_, _, h_H, h_C⟩, hF⟩
      · have hrl : (dgS t (true, p) 0 3).1 < σ.2.1.length := by have z := of_decide_eq_true c_86; omega
        obtain ⟨hq1r, hq2r⟩ := hT.2.2.2.2 _ _ (rd_at hrl)
        obtain ⟨hk1, hk2⟩ := okA_rd hA hrl
        have hcl := cnt_le (D σ.1 (rd σ (dgS t (true, p) 0 3).1).1) 1000
        refine lv_aload_n hx hb dX3_readReader_89 rfl (lv_at hl 2 rfl) ?_
        refine lv_aload_n hx hb dX3_readReader_90 rfl (lv_at hl 3 rfl) ?_
        refine lv_iload_n hx hb dX3_readReader_91 rfl (lv_at hl 1 rfl) ?_
        refine g_top (w := .int (iI (((dgS t (true, p) 0 3).1 : Int)))) (by rw [mv_t hg0]) ?_
        refine g_V (As := [.ref as, .int (iI (((dgS t (true, p) 0 3).1 : Int)))]) (rest := [.ref o]) hx hb hml hown hts hK hZ hP hS (m_next (so := (rd σ (dgS t (true, p) 0 3).1).2) l G _ _ _ h_o h_s h_H (by omega) (by omega) (by omega) hq1r hq2r (hHb _ hk1)) 2 (lw_V q1668 q1670 qs40 q59 q1671) h_o gk2 (by decide +kernel) (by decide) (by decide) rfl hl.1 rfl (Nat.le_of_ble_eq_true rfl) dX3_readReader_92 (fun v ω kc_5 ks_5 H locs q_5 hP hS => ?_)
        obtain ⟨rfl, rfl, rfl, rfl⟩ := q_5
        refine W.eq (g2 := F0 m_ 95 ls [.int (iI (a_nx σ (dgS t (true, p) 0 3).1)), .ref o]) rfl ?_
        refine lv_iconst (v := iI (-1)) hx hb dX3_readReader_95 rfl ?_
        refine g_icmp_eq (tgt := 112) hx hb dX3_readReader_96 (by decide) (by have := aat_rng (D σ.1 (rd σ (dgS t (true, p) 0 3).1).1) (rd σ (dgS t (true, p) 0 3).1).2; unfold a_nx; omega) (by omega) (fun c_96 => ?_) (fun c_96 => ?_)
        · refine lv_iconst (v := iI 0) hx hb dX3_readReader_112 rfl ?_
          refine g_top (w := .int (bI false)) rfl ?_
          refine g_V (As := [.int (bI false)]) (rest := []) hx hb hml hown hts hK hZ hP hS (m_done_false l G _ _ _ h_o) 1 (lw_V q1610 q1612 qs29 q59 q1613) h_o gk2 (by decide +kernel) (by decide) (by decide) rfl hl.1 rfl (Nat.le_of_ble_eq_true rfl) dX3_readReader_113 (fun v ω kc_6 ks_6 H locs q_6 hP hS => ?_)
          obtain ⟨rfl, rfl, rfl, hh_o, hfr⟩ := q_6
          have h_o : ω (1, 0) = some (o, .inr (2, [.int rf, .ref aT, .int (iI ((t.length : Int))), .ref aN, .ref aR, .ref aD, .int ac, .ref aK, .ref aI, .ref aH, .ref aC, .int (iI ((((dgS t (true, p) 0 3)).2.2 : Int))), .int (iI (((k + 1 : Nat) : Int)))])) := hh_o
          have h_s := hfr.at (by rcases hns with rfl | rfl <;> decide) h_s
          have h_T := hfr.at (by decide) h_T
          have h_H := hfr.at (by decide) h_H
          have h_C := hfr.at (by decide) h_C
          have hF := hF.trans hfr (fun k hk => Or.inl hk)
          refine W.eq (g2 := F0 m_ 116 ls [.int (bI true)]) rfl ?_
          refine g_iret hx hb hr hlk hP hS (v := (bI true)) (bI_nar _) dX3_readReader_116 ?_
          have e : c_n t (true, p) σ k = ((dgS t (true, p) 0 3).2, σ, k + 1) := by unfold c_n; exact mkS_not (mv_ne c_34) (by rw [Bool.and_eq_false_iff]; exact Or.inr (decide_eq_false (fun q => q c_96)))
          rw [e]
          exact ⟨bI_1 (mv_ne c_34), rfl, rfl, h_o, ⟨_, h_s, hT⟩, ⟨_, _, h_H, h_C⟩, hF⟩
        · refine lv_aload_n hx hb dX3_readReader_99 rfl (lv_at hl 2 rfl) ?_
          refine lv_aload_n hx hb dX3_readReader_100 rfl (lv_at hl 3 rfl) ?_
          refine lv_iload_n hx hb dX3_readReader_101 rfl (lv_at hl 1 rfl) ?_
          refine g_top (w := .int (iI (((dgS t (true, p) 0 3).1 : Int)))) (by rw [mv_t hg0]) ?_
          refine g_V (As := [.ref as, .int (iI (((dgS t (true, p) 0 3).1 : Int)))]) (rest := [.ref o]) hx hb hml hown hts hK hZ hP hS (m_readOn (σ := σ) (k := (rd σ (dgS t (true, p) 0 3).1).1) (so := (rd σ (dgS t (true, p) 0 3).1).2) l G _ _ _ h_o h_s h_H hns hT hn12 hA.2.2.1 (rd_at hrl) (by omega) (by omega) (hHb _ hk1)) 2 (lw_V q1682 q1684 qs42 q59 q1685) h_o gk2 (by decide +kernel) (by decide) (by decide) rfl hl.1 rfl (Nat.le_of_ble_eq_true rfl) dX3_readReader_102 (fun v ω kc_7 ks_7 H locs q_7 hP hS => ?_)
          obtain ⟨rfl, rfl, rfl, ⟨gM, hgM, hTM⟩, hfr⟩ := q_7
          have h_o := hfr.at (by rintro rfl; rcases hns with q | q <;> cases q) h_o
          have h_s : ω ns = some (as, .inl (G.2.1 0, 59, .inl (gM))) := hgM
          have h_T := hfr.at (by rintro rfl; rcases hns with q | q <;> cases q) h_T
          have h_H := hfr.at (by rintro rfl; rcases hns with q | q <;> cases q) h_H
          have h_C := hfr.at (by rintro rfl; rcases hns with q | q <;> cases q) h_C
          have hF := hF.trans hfr (fun k hk => Or.inr (Or.inr (Or.inr hk)))
          refine W.eq (g2 := F0 m_ 105 ls [.int (iI (a_nx σ (dgS t (true, p) 0 3).1)), .ref o]) rfl ?_
          refine g_if_lt (tgt := 112) hx hb dX3_readReader_105 (by decide) (by have := aat_rng (D σ.1 (rd σ (dgS t (true, p) 0 3).1).1) (rd σ (dgS t (true, p) 0 3).1).2; unfold a_nx; omega) (fun c_105 => ?_) (fun c_105 => ?_)
          · exact absurd c_105 (by have := aat_rng (D σ.1 (rd σ (dgS t (true, p) 0 3).1).1) (rd σ (dgS t (true, p) 0 3).1).2; unfold a_nx at c_96 ⊢; omega)
          · refine lv_iconst (v := iI 1) hx hb dX3_readReader_108 rfl ?_
            refine lv_goto (tgt := 113) hx hb dX3_readReader_109 (by decide) ?_
            refine g_top (w := .int (bI true)) rfl ?_
            refine g_V (As := [.int (bI true)]) (rest := []) hx hb hml hown hts hK hZ hP hS (m_done_true l G _ _ _ h_o) 1 (lw_V q1610 q1612 qs29 q59 q1613) h_o gk2 (by decide +kernel) (by decide) (by decide) rfl hl.1 rfl (Nat.le_of_ble_eq_true rfl) dX3_readReader_113 (fun v ω kc_8 ks_8 H locs q_8 hP hS => ?_)
            obtain ⟨rfl, rfl, rfl, hh_o, hfr⟩ := q_8
            have h_o : ω (1, 0) = some (o, .inr (2, [.int rf, .ref aT, .int (iI ((t.length : Int))), .ref aN, .ref aR, .ref aD, .int ac, .ref aK, .ref aI, .ref aH, .ref aC, .int (iI ((((dgS t (true, p) 0 3)).2.2 : Int))), .int (iI ((k : Int)))])) := hh_o
            have h_s := hfr.at (by rcases hns with rfl | rfl <;> decide) h_s
            have h_T := hfr.at (by decide) h_T
            have h_H := hfr.at (by decide) h_H
            have h_C := hfr.at (by decide) h_C
            have hF := hF.trans hfr (fun k hk => Or.inl hk)
            refine W.eq (g2 := F0 m_ 116 ls [.int (bI true)]) rfl ?_
            refine g_iret hx hb hr hlk hP hS (v := (bI true)) (bI_nar _) dX3_readReader_116 ?_
            have e : c_n t (true, p) σ k = ((dgS t (true, p) 0 3).2, a_read σ (dgS t (true, p) 0 3).1, k) := by unfold c_n; exact mkS_can (mv_ne c_34) (by rw [Bool.and_eq_true]; exact ⟨decide_eq_true hrl, decide_eq_true c_96⟩)
            rw [e]
            exact ⟨bI_1 (mv_ne c_34), rfl, rfl, h_o, ⟨_, h_s, hTM⟩, ⟨_, _, h_H, h_C⟩, hF⟩
  · refine lv_iconst (v := iI 0) hx hb dX3_readReader_37 rfl ?_
    refine g_iret hx hb hr hlk hP hS (v := (iI 0)) rfl dX3_readReader_38 ?_
    have e : c_n t (true, p) σ k = ((dgS t (true, p) 0 3).2, σ, k) := by unfold c_n; exact mkS_no (mv_f.mp c_34)
    rw [e]
    exact ⟨bI_2 (mv_f.mp c_34), rfl, rfl, h_o, ⟨_, h_s, hT⟩, ⟨_, _, h_H, h_C⟩, hF⟩

set_option maxHeartbeats 4000000 in
theorem m_readReaderK (l : Launch) (G : GT) (ω0 : Om) (kc ks : Nat) {o aT aN aR aD aK aI aH aC : Nat} {rf ac : Int32} {ns : Nm} {as : Nat} {f : Nat → Int32} {tx : Nat → Int32} {t : List Nat} {p k : Nat} {σ : AS} {ha cr : Nat → Int32} (h_o : ω0 (1, 0) = some (o, .inr (2, [.int rf, .ref aT, .int (iI ((t.length : Int))), .ref aN, .ref aR, .ref aD, .int ac, .ref aK, .ref aI, .ref aH, .ref aC, .int (iI ((p : Int))), .int (iI ((k : Int)))]))) (h_s : ω0 ns = some (as, .inl (G.2.1 0, 59, .inl (f)))) (h_T : ω0 (1, 1) = some (aT, .inl (G.2.1 0, 120, .inl (tx)))) (h_H : ω0 (1, 7) = some (aH, .inl (G.2.1 1, 12000, .inl (ha)))) (h_C : ω0 (1, 8) = some (aC, .inl (G.2.1 1, 1000, .inl (cr)))) (hns : ns = (1, 2) ∨ ns = (1, 3)) (hX : TX tx t) (hT : Tab f σ) (hA : okA σ) (hp : p ≤ t.length) : Ct l G yX3_readReader cX3_readReader 5 (some .boolean) 4 84 [.ref o, .ref as, .int (iI 107)] ω0 kc ks (fun v ω' kc' ks' => v = some (.int (bI (c_k t (true, p) σ k).1.1)) ∧ kc = kc' ∧ ks = ks' ∧ ω' (1, 0) = some (o, .inr (2, [.int rf, .ref aT, .int (iI ((t.length : Int))), .ref aN, .ref aR, .ref aD, .int ac, .ref aK, .ref aI, .ref aH, .ref aC, .int (iI (((c_k t (true, p) σ k).1.2 : Int))), .int (iI (((c_k t (true, p) σ k).2.2 : Int)))])) ∧ (∃ g : Nat → Int32, ω' ns = some (as, .inl (G.2.1 0, 59, .inl (g))) ∧ Tab g (c_k t (true, p) σ k).2.1) ∧ (∃ ha' cr' : Nat → Int32, ω' (1, 7) = some (aH, .inl (G.2.1 1, 12000, .inl (ha'))) ∧ ω' (1, 8) = some (aC, .inl (G.2.1 1, 1000, .inl (cr')))) ∧ Fr (fun k => k = (1, 0) ∨ k = (1, 7) ∨ k = (1, 8) ∨ k = ns) ω0 ω') := by
  refine Ct.start (by decide) (Nat.le_of_ble_eq_true rfl) ?_
  intro p_ e_ s m_ below_ meth_ c_m H locs ls hx hb hr hlk hml hown hnm hts hK hZ hP hS hl
  have hown : s.vm.findClass RX3 = some m_.cls := hown
  have hl : lv_has ls 5 [(0, .ref o), (1, .ref as), (2, .int (iI 107))] := hl
  have hF : Fr ((fun k => k = (1, 0) ∨ k = (1, 7) ∨ k = (1, 8) ∨ k = ns)) ω0 ω0 := Fr.rf
  have hn12 : σ.1.length ≤ 12 := hA.1
  have ht120 := hX.2.2
  have hb0 := dgS_bd (t := t) (ps := (true, p)) (lo := 0) (hi := 3) (by decide)
  have hb1 := twoS_bd (t := t) (ps := (dgS t (true, p) 0 3).2) (lo := 1) (hi := 99) (by decide) (by decide) (by decide) (by decide)
  have hq0 := (dgS_pos (t := t) (ps := (true, p)) (lo := 0) (hi := 3)).2.2 hp
  have hr4 := hA.2.2.1
  refine lv_aload_n hx hb dX3_readReader_0 rfl (lv_at hl 0 rfl) ?_
  refine lv_iconst (v := iI 0) hx hb dX3_readReader_1 rfl ?_
  refine lv_iconst (v := iI 1) hx hb dX3_readReader_2 rfl ?_
  refine lv_iconst (v := iI 0) hx hb dX3_readReader_3 rfl ?_
  refine lv_iconst (v := iI 3) hx hb dX3_readReader_4 rfl ?_
  refine g_V (As := [.int (iI 0), .int (iI 1), .int (iI 0), .int (iI 3)]) (rest := []) hx hb hml hown hts hK hZ hP hS (m_fig1 l G _ _ _ ((0, true, p)) h_o h_T hX (Nat.zero_le _) (by decide) (by decide) (by show p ≤ 120; omega) (lo := 0) (hi := 3)) 4 (lw_V q1599 q1601 qs28 q59 q1602) h_o gk2 (by decide +kernel) (by decide) (by decide) rfl hl.1 rfl (Nat.le_of_ble_eq_true rfl) dX3_readReader_5 (fun v ω kc_1 ks_1 H locs q_1 hP hS => ?_)
  obtain ⟨rfl, rfl, rfl, hh_o, hfr⟩ := q_1
  have h_o : ω (1, 0) = some (o, .inr (2, [.int rf, .ref aT, .int (iI ((t.length : Int))), .ref aN, .ref aR, .ref aD, .int ac, .ref aK, .ref aI, .ref aH, .ref aC, .int (iI ((((dgS t (true, p) 0 3)).2.2 : Int))), .int (iI ((k : Int)))])) := hh_o
  have h_s := hfr.at (by rcases hns with rfl | rfl <;> decide) h_s
  have h_T := hfr.at (by decide) h_T
  have h_H := hfr.at (by decide) h_H
  have h_C := hfr.at (by decide) h_C
  have hF := hF.trans hfr (fun k hk => Or.inl hk)
  refine W.eq (g2 := F0 m_ 8 ls [.int (iI (mv ((dgS t (true, p) 0 3))))]) rfl ?_
  refine lv_istore_n (lv' := [(3, .int (iI (mv ((dgS t (true, p) 0 3))))), (0, .ref o), (1, .ref as), (2, .int (iI 107))]) hx hb dX3_readReader_8 rfl hl (by decide) rfl (fun ls hl => ?_)
  refine lv_iload_n hx hb dX3_readReader_9 rfl (lv_at hl 3 rfl) ?_
  refine lv_bipush (v := iI 107) hx hb dX3_readReader_10 rfl ?_
  refine g_icmp_ne (tgt := 28) hx hb dX3_readReader_12 (by decide) (by decide) (by decide) (fun c_12 => absurd c_12 (by decide)) (fun c_12 => ?_)
  refine lv_aload_n hx hb dX3_readReader_15 rfl (lv_at hl 1 rfl) ?_
  refine lv_iload_n hx hb dX3_readReader_16 rfl (lv_at hl 0 rfl) ?_
  refine lv_bipush (v := iI 10) hx hb dX3_readReader_17 rfl ?_
  refine lv_iconst (v := iI 1) hx hb dX3_readReader_19 rfl ?_
  refine lv_bipush (v := iI 99) hx hb dX3_readReader_20 rfl ?_
  refine g_V (As := [.int (iI (mv ((dgS t (true, p) 0 3)))), .int (iI 10), .int (iI 1), .int (iI 99)]) (rest := []) hx hb hml hown hts hK hZ hP hS (m_fig2 l G _ _ _ ((dgS t (true, p) 0 3)) h_o h_T hX (by omega) (by decide) (by decide) (by omega) (lo := 1) (hi := 99)) 4 (lw_V q1599 q1601 qs28 q59 q1602) h_o gk2 (by decide +kernel) (by decide) (by decide) rfl hl.1 rfl (Nat.le_of_ble_eq_true rfl) dX3_readReader_22 (fun v ω kc_2 ks_2 H locs q_2 hP hS => ?_)
  obtain ⟨rfl, rfl, rfl, hh_o, hfr⟩ := q_2
  have h_o : ω (1, 0) = some (o, .inr (2, [.int rf, .ref aT, .int (iI ((t.length : Int))), .ref aN, .ref aR, .ref aD, .int ac, .ref aK, .ref aI, .ref aH, .ref aC, .int (iI ((((twoS t (dgS t (true, p) 0 3).2 1 99)).2.2 : Int))), .int (iI ((k : Int)))])) := hh_o
  have h_s := hfr.at (by rcases hns with rfl | rfl <;> decide) h_s
  have h_T := hfr.at (by decide) h_T
  have h_H := hfr.at (by decide) h_H
  have h_C := hfr.at (by decide) h_C
  have hF := hF.trans hfr (fun k hk => Or.inl hk)
  refine W.eq (g2 := F0 m_ 25 ls [.int (iI (mv ((twoS t (dgS t (true, p) 0 3).2 1 99))))]) rfl ?_
  refine lv_goto (tgt := 29) hx hb dX3_readReader_25 (by decide) ?_
  refine lv_istore (lv' := [(4, .int (iI (mv ((twoS t (dgS t (true, p) 0 3).2 1 99))))), (3, .int (iI (mv ((dgS t (true, p) 0 3))))), (0, .ref o), (1, .ref as), (2, .int (iI 107))]) hx hb dX3_readReader_29 hl (by decide) rfl (fun ls hl => ?_)
  refine lv_iload hx hb dX3_readReader_31 (lv_at hl 0 rfl) ?_
  refine lv_iconst (v := iI (-1)) hx hb dX3_readReader_33 rfl ?_
  refine g_icmp_ne (tgt := 39) hx hb dX3_readReader_34 (by decide) (by have := mv_rng (show (twoS t (dgS t (true, p) 0 3).2 1 99).1 ≤ 999 by omega); omega) (by omega) (fun c_34 => ?_) (fun c_34 => ?_)
  · have hgl := mv_ne c_34
    have hg0 := twoS_on hgl
    refine lv_aload_n hx hb dX3_readReader_39 rfl (lv_at hl 2 rfl) ?_
    refine lv_aload_n hx hb dX3_readReader_40 rfl (lv_at hl 3 rfl) ?_
    refine g_V (As := [.ref as]) (rest := []) hx hb hml hown hts hK hZ hP hS (m_finds (T := σ.1) l G _ _ _ h_o h_s h_H h_C hns hn12 hA.2.1 hT.1 hT.2.2.2.1) 1 (lw_V q1636 q1638 qs34 q59 q1639) h_o gk2 (by decide +kernel) (by decide) (by decide) rfl hl.1 rfl (Nat.le_of_ble_eq_true rfl) dX3_readReader_41 (fun v ω kc_3 ks_3 H locs q_3 hP hS => ?_)
    obtain ⟨rfl, rfl, rfl, ⟨gH, cH, hgH, hgC, hHb⟩, hfr⟩ := q_3
    have h_o := hfr.at (by decide) h_o
    have h_s := hfr.at (by rcases hns with rfl | rfl <;> decide) h_s
    have h_T := hfr.at (by decide) h_T
    have h_H : ω (1, 7) = some (aH, .inl (G.2.1 1, 12000, .inl (gH))) := hgH
    have h_C : ω (1, 8) = some (aC, .inl (G.2.1 1, 1000, .inl (cH))) := hgC
    have hF := hF.trans hfr (fun k hk => hk.elim (fun q => Or.inr (Or.inl q)) (fun q => Or.inr (Or.inr (Or.inl q))))
    refine W.eq (g2 := F0 m_ 44 ls []) rfl ?_
    refine lv_iload_n hx hb dX3_readReader_44 rfl (lv_at hl 4 rfl) ?_
    · refine lv_lookup (off := 72) (tgt := 117) hx hb dX3_readReader_45 (by decide) (by decide +kernel) (by decide) ?_
      refine lv_aload_n hx hb dX3_readReader_117 rfl (lv_at hl 2 rfl) ?_
      refine lv_aload_n hx hb dX3_readReader_118 rfl (lv_at hl 3 rfl) ?_
      refine lv_iload_n hx hb dX3_readReader_119 rfl (lv_at hl 1 rfl) ?_
      refine g_top (w := .int (iI (((dgS t (true, p) 0 3).1 : Int)))) (by rw [mv_t hg0]) ?_
      refine g_S (As := [.ref as, .int (iI (((dgS t (true, p) 0 3).1 : Int)))]) (rest := [.ref o]) hx hb hml hown hts hK hZ hP hS (m_isReader l G _ _ _ h_s hT.2.1 hA.2.2.1 (by omega)) 2 (lw_S q1665 q1666 q59 q1667) (by decide +kernel) (by decide) (by decide) rfl hl.1 rfl (Nat.le_of_ble_eq_true rfl) dX3_readReader_120 (fun v ω kc_4 ks_4 H locs q_4 hP hS => ?_)
      obtain ⟨rfl, rfl, rfl, rfl⟩ := q_4
      refine W.eq (g2 := F0 m_ 123 ls [.int (bI (decide (0 ≤ ((dgS t (true, p) 0 3).1 : Int) ∧ ((dgS t (true, p) 0 3).1 : Int) ≤ (σ.2.1.length : Int) - 1))), .ref o]) rfl ?_
      refine g_ifz_eq (tgt := 141) hx hb dX3_readReader_123 (by decide) (fun c_123 => ?_) (fun c_123 => ?_)
      · refine lv_iconst (v := iI 0) hx hb dX3_readReader_141 rfl ?_
        refine g_top (w := .int (bI false)) rfl ?_
        refine g_V (As := [.int (bI false)]) (rest := []) hx hb hml hown hts hK hZ hP hS (m_done_false l G _ _ _ h_o) 1 (lw_V q1610 q1612 qs29 q59 q1613) h_o gk2 (by decide +kernel) (by decide) (by decide) rfl hl.1 rfl (Nat.le_of_ble_eq_true rfl) dX3_readReader_142 (fun v ω kc_5 ks_5 H locs q_5 hP hS => ?_)
        obtain ⟨rfl, rfl, rfl, hh_o, hfr⟩ := q_5
        have h_o : ω (1, 0) = some (o, .inr (2, [.int rf, .ref aT, .int (iI ((t.length : Int))), .ref aN, .ref aR, .ref aD, .int ac, .ref aK, .ref aI, .ref aH, .ref aC, .int (iI ((((twoS t (dgS t (true, p) 0 3).2 1 99)).2.2 : Int))), .int (iI (((k + 1 : Nat) : Int)))])) := hh_o
        have h_s := hfr.at (by rcases hns with rfl | rfl <;> decide) h_s
        have h_T := hfr.at (by decide) h_T
        have h_H := hfr.at (by decide) h_H
        have h_C := hfr.at (by decide) h_C
        have hF := hF.trans hfr (fun k hk => Or.inl hk)
        refine W.eq (g2 := F0 m_ 145 ls [.int (bI true)]) rfl ?_
        refine g_iret hx hb hr hlk hP hS (v := (bI true)) (bI_nar _) dX3_readReader_145 ?_
        have e : c_k t (true, p) σ k = ((twoS t (dgS t (true, p) 0 3).2 1 99).2, σ, k + 1) := by unfold c_k; exact mkS_not (mv_ne c_34) (by exact decide_eq_false (by have z := of_decide_eq_false c_123; omega))
        rw [e]
        exact ⟨bI_1 (mv_ne c_34), rfl, rfl, h_o, ⟨_, h_s, hT⟩, ⟨_, _, h_H, h_C⟩, hF⟩
      · have hrl : (dgS t (true, p) 0 3).1 < σ.2.1.length := by have z := of_decide_eq_true c_123; omega
        obtain ⟨hq1r, hq2r⟩ := hT.2.2.2.2 _ _ (rd_at hrl)
        obtain ⟨hk1, hk2⟩ := okA_rd hA hrl
        have hcl := cnt_le (D σ.1 (rd σ (dgS t (true, p) 0 3).1).1) 1000
        refine lv_aload_n hx hb dX3_readReader_126 rfl (lv_at hl 2 rfl) ?_
        refine lv_aload_n hx hb dX3_readReader_127 rfl (lv_at hl 3 rfl) ?_
        refine lv_iload_n hx hb dX3_readReader_128 rfl (lv_at hl 1 rfl) ?_
        refine g_top (w := .int (iI (((dgS t (true, p) 0 3).1 : Int)))) (by rw [mv_t hg0]) ?_
        refine lv_iload hx hb dX3_readReader_129 (lv_at hl 0 rfl) ?_
        refine g_top (w := .int (iI (((twoS t (dgS t (true, p) 0 3).2 1 99).1 : Int)))) (by rw [mv_t hgl]) ?_
        refine g_V (As := [.ref as, .int (iI (((dgS t (true, p) 0 3).1 : Int))), .int (iI (((twoS t (dgS t (true, p) 0 3).2 1 99).1 : Int)))]) (rest := [.ref o]) hx hb hml hown hts hK hZ hP hS (m_skipOn (σ := σ) (k := (rd σ (dgS t (true, p) 0 3).1).1) (so := (rd σ (dgS t (true, p) 0 3).1).2) (mb := (twoS t (dgS t (true, p) 0 3).2 1 99).1) l G _ _ _ h_o h_s h_H hns hT hn12 hA.2.2.1 (rd_at hrl) (by omega) (by omega) hk2 (by omega) (hHb _ hk1)) 3 (lw_V q1686 q1688 qs43 q59 q1689) h_o gk2 (by decide +kernel) (by decide) (by decide) rfl hl.1 rfl (Nat.le_of_ble_eq_true rfl) dX3_readReader_131 (fun v ω kc_6 ks_6 H locs q_6 hP hS => ?_)
        obtain ⟨rfl, rfl, rfl, ⟨gM, hgM, hTM⟩, hfr⟩ := q_6
        have h_o := hfr.at (by rintro rfl; rcases hns with q | q <;> cases q) h_o
        have h_s : ω ns = some (as, .inl (G.2.1 0, 59, .inl (gM))) := hgM
        have h_T := hfr.at (by rintro rfl; rcases hns with q | q <;> cases q) h_T
        have h_H := hfr.at (by rintro rfl; rcases hns with q | q <;> cases q) h_H
        have h_C := hfr.at (by rintro rfl; rcases hns with q | q <;> cases q) h_C
        have hF := hF.trans hfr (fun k hk => Or.inr (Or.inr (Or.inr hk)))
        refine W.eq (g2 := F0 m_ 134 ls [.int (iI (((min (twoS t (dgS t (true, p) 0 3).2 1 99).1 (cnt (D σ.1 (rd σ (dgS t (true, p) 0 3).1).1) 1000 - (rd σ (dgS t (true, p) 0 3).1).2) : Nat) : Int))), .ref o]) rfl ?_
        refine g_if_lt (tgt := 141) hx hb dX3_readReader_134 (by decide) (by omega) (fun c_134 => ?_) (fun c_134 => ?_)
        · exact absurd c_134 (by omega)
        · refine lv_iconst (v := iI 1) hx hb dX3_readReader_137 rfl ?_
          refine lv_goto (tgt := 142) hx hb dX3_readReader_138 (by decide) ?_
          refine g_top (w := .int (bI true)) rfl ?_
          refine g_V (As := [.int (bI true)]) (rest := []) hx hb hml hown hts hK hZ hP hS (m_done_true l G _ _ _ h_o) 1 (lw_V q1610 q1612 qs29 q59 q1613) h_o gk2 (by decide +kernel) (by decide) (by decide) rfl hl.1 rfl (Nat.le_of_ble_eq_true rfl) dX3_readReader_142 (fun v ω kc_7 ks_7 H locs q_7 hP hS => ?_)
          obtain ⟨rfl, rfl, rfl, hh_o, hfr⟩ := q_7
          have h_o : ω (1, 0) = some (o, .inr (2, [.int rf, .ref aT, .int (iI ((t.length : Int))), .ref aN, .ref aR, .ref aD, .int ac, .ref aK, .ref aI, .ref aH, .ref aC, .int (iI ((((twoS t (dgS t (true, p) 0 3).2 1 99)).2.2 : Int))), .int (iI ((k : Int)))])) := hh_o
          have h_s := hfr.at (by rcases hns with rfl | rfl <;> decide) h_s
          have h_T := hfr.at (by decide) h_T
          have h_H := hfr.at (by decide) h_H
          have h_C := hfr.at (by decide) h_C
          have hF := hF.trans hfr (fun k hk => Or.inl hk)
          refine W.eq (g2 := F0 m_ 145 ls [.int (bI true)]) rfl ?_
          refine g_iret hx hb hr hlk hP hS (v := (bI true)) (bI_nar _) dX3_readReader_145 ?_
          have e : c_k t (true, p) σ k = ((twoS t (dgS t (true, p) 0 3).2 1 99).2, a_skip σ (dgS t (true, p) 0 3).1 (twoS t (dgS t (true, p) 0 3).2 1 99).1, k) := by unfold c_k; exact mkS_can (mv_ne c_34) (by exact decide_eq_true hrl)
          rw [e]
          exact ⟨bI_1 (mv_ne c_34), rfl, rfl, h_o, ⟨_, h_s, hTM⟩, ⟨_, _, h_H, h_C⟩, hF⟩
  · refine lv_iconst (v := iI 0) hx hb dX3_readReader_37 rfl ?_
    refine g_iret hx hb hr hlk hP hS (v := (iI 0)) rfl dX3_readReader_38 ?_
    have e : c_k t (true, p) σ k = ((twoS t (dgS t (true, p) 0 3).2 1 99).2, σ, k) := by unfold c_k; exact mkS_no (mv_f.mp c_34)
    rw [e]
    exact ⟨bI_2 (mv_f.mp c_34), rfl, rfl, h_o, ⟨_, h_s, hT⟩, ⟨_, _, h_H, h_C⟩, hF⟩

set_option maxHeartbeats 4000000 in
theorem m_readReaderZ (l : Launch) (G : GT) (ω0 : Om) (kc ks : Nat) {o aT aN aR aD aK aI aH aC : Nat} {rf ac : Int32} {ns : Nm} {as : Nat} {f : Nat → Int32} {tx : Nat → Int32} {t : List Nat} {p k : Nat} {σ : AS} {ha cr : Nat → Int32} (h_o : ω0 (1, 0) = some (o, .inr (2, [.int rf, .ref aT, .int (iI ((t.length : Int))), .ref aN, .ref aR, .ref aD, .int ac, .ref aK, .ref aI, .ref aH, .ref aC, .int (iI ((p : Int))), .int (iI ((k : Int)))]))) (h_s : ω0 ns = some (as, .inl (G.2.1 0, 59, .inl (f)))) (h_T : ω0 (1, 1) = some (aT, .inl (G.2.1 0, 120, .inl (tx)))) (h_H : ω0 (1, 7) = some (aH, .inl (G.2.1 1, 12000, .inl (ha)))) (h_C : ω0 (1, 8) = some (aC, .inl (G.2.1 1, 1000, .inl (cr)))) (hns : ns = (1, 2) ∨ ns = (1, 3)) (hX : TX tx t) (hT : Tab f σ) (hA : okA σ) (hp : p ≤ t.length) : Ct l G yX3_readReader cX3_readReader 5 (some .boolean) 4 84 [.ref o, .ref as, .int (iI 122)] ω0 kc ks (fun v ω' kc' ks' => v = some (.int (bI (c_z t (true, p) σ k).1.1)) ∧ kc = kc' ∧ ks = ks' ∧ ω' (1, 0) = some (o, .inr (2, [.int rf, .ref aT, .int (iI ((t.length : Int))), .ref aN, .ref aR, .ref aD, .int ac, .ref aK, .ref aI, .ref aH, .ref aC, .int (iI (((c_z t (true, p) σ k).1.2 : Int))), .int (iI (((c_z t (true, p) σ k).2.2 : Int)))])) ∧ (∃ g : Nat → Int32, ω' ns = some (as, .inl (G.2.1 0, 59, .inl (g))) ∧ Tab g (c_z t (true, p) σ k).2.1) ∧ (∃ ha' cr' : Nat → Int32, ω' (1, 7) = some (aH, .inl (G.2.1 1, 12000, .inl (ha'))) ∧ ω' (1, 8) = some (aC, .inl (G.2.1 1, 1000, .inl (cr')))) ∧ Fr (fun k => k = (1, 0) ∨ k = (1, 7) ∨ k = (1, 8) ∨ k = ns) ω0 ω') := by
  refine Ct.start (by decide) (Nat.le_of_ble_eq_true rfl) ?_
  intro p_ e_ s m_ below_ meth_ c_m H locs ls hx hb hr hlk hml hown hnm hts hK hZ hP hS hl
  have hown : s.vm.findClass RX3 = some m_.cls := hown
  have hl : lv_has ls 5 [(0, .ref o), (1, .ref as), (2, .int (iI 122))] := hl
  have hF : Fr ((fun k => k = (1, 0) ∨ k = (1, 7) ∨ k = (1, 8) ∨ k = ns)) ω0 ω0 := Fr.rf
  have hn12 : σ.1.length ≤ 12 := hA.1
  have ht120 := hX.2.2
  have hb0 := dgS_bd (t := t) (ps := (true, p)) (lo := 0) (hi := 3) (by decide)
  have hb1 := twoS_bd (t := t) (ps := (dgS t (true, p) 0 3).2) (lo := 1) (hi := 99) (by decide) (by decide) (by decide) (by decide)
  have hq0 := (dgS_pos (t := t) (ps := (true, p)) (lo := 0) (hi := 3)).2.2 hp
  have hr4 := hA.2.2.1
  refine lv_aload_n hx hb dX3_readReader_0 rfl (lv_at hl 0 rfl) ?_
  refine lv_iconst (v := iI 0) hx hb dX3_readReader_1 rfl ?_
  refine lv_iconst (v := iI 1) hx hb dX3_readReader_2 rfl ?_
  refine lv_iconst (v := iI 0) hx hb dX3_readReader_3 rfl ?_
  refine lv_iconst (v := iI 3) hx hb dX3_readReader_4 rfl ?_
  refine g_V (As := [.int (iI 0), .int (iI 1), .int (iI 0), .int (iI 3)]) (rest := []) hx hb hml hown hts hK hZ hP hS (m_fig1 l G _ _ _ ((0, true, p)) h_o h_T hX (Nat.zero_le _) (by decide) (by decide) (by show p ≤ 120; omega) (lo := 0) (hi := 3)) 4 (lw_V q1599 q1601 qs28 q59 q1602) h_o gk2 (by decide +kernel) (by decide) (by decide) rfl hl.1 rfl (Nat.le_of_ble_eq_true rfl) dX3_readReader_5 (fun v ω kc_1 ks_1 H locs q_1 hP hS => ?_)
  obtain ⟨rfl, rfl, rfl, hh_o, hfr⟩ := q_1
  have h_o : ω (1, 0) = some (o, .inr (2, [.int rf, .ref aT, .int (iI ((t.length : Int))), .ref aN, .ref aR, .ref aD, .int ac, .ref aK, .ref aI, .ref aH, .ref aC, .int (iI ((((dgS t (true, p) 0 3)).2.2 : Int))), .int (iI ((k : Int)))])) := hh_o
  have h_s := hfr.at (by rcases hns with rfl | rfl <;> decide) h_s
  have h_T := hfr.at (by decide) h_T
  have h_H := hfr.at (by decide) h_H
  have h_C := hfr.at (by decide) h_C
  have hF := hF.trans hfr (fun k hk => Or.inl hk)
  refine W.eq (g2 := F0 m_ 8 ls [.int (iI (mv ((dgS t (true, p) 0 3))))]) rfl ?_
  refine lv_istore_n (lv' := [(3, .int (iI (mv ((dgS t (true, p) 0 3))))), (0, .ref o), (1, .ref as), (2, .int (iI 122))]) hx hb dX3_readReader_8 rfl hl (by decide) rfl (fun ls hl => ?_)
  refine lv_iload_n hx hb dX3_readReader_9 rfl (lv_at hl 3 rfl) ?_
  refine lv_bipush (v := iI 107) hx hb dX3_readReader_10 rfl ?_
  refine g_icmp_ne (tgt := 28) hx hb dX3_readReader_12 (by decide) (by decide) (by decide) (fun c_12 => ?_) (fun c_12 => absurd c_12 (by decide))
  refine lv_iload_n hx hb dX3_readReader_28 rfl (lv_at hl 0 rfl) ?_
  refine lv_istore (lv' := [(4, .int (iI (mv ((dgS t (true, p) 0 3))))), (3, .int (iI (mv ((dgS t (true, p) 0 3))))), (0, .ref o), (1, .ref as), (2, .int (iI 122))]) hx hb dX3_readReader_29 hl (by decide) rfl (fun ls hl => ?_)
  refine lv_iload hx hb dX3_readReader_31 (lv_at hl 0 rfl) ?_
  refine lv_iconst (v := iI (-1)) hx hb dX3_readReader_33 rfl ?_
  refine g_icmp_ne (tgt := 39) hx hb dX3_readReader_34 (by decide) (by have := mv_rng (show (dgS t (true, p) 0 3).1 ≤ 999 by omega); omega) (by omega) (fun c_34 => ?_) (fun c_34 => ?_)
  · have hgl := mv_ne c_34
    have hg0 := hgl
    refine lv_aload_n hx hb dX3_readReader_39 rfl (lv_at hl 2 rfl) ?_
    refine lv_aload_n hx hb dX3_readReader_40 rfl (lv_at hl 3 rfl) ?_
    refine g_V (As := [.ref as]) (rest := []) hx hb hml hown hts hK hZ hP hS (m_finds (T := σ.1) l G _ _ _ h_o h_s h_H h_C hns hn12 hA.2.1 hT.1 hT.2.2.2.1) 1 (lw_V q1636 q1638 qs34 q59 q1639) h_o gk2 (by decide +kernel) (by decide) (by decide) rfl hl.1 rfl (Nat.le_of_ble_eq_true rfl) dX3_readReader_41 (fun v ω kc_2 ks_2 H locs q_2 hP hS => ?_)
    obtain ⟨rfl, rfl, rfl, ⟨gH, cH, hgH, hgC, hHb⟩, hfr⟩ := q_2
    have h_o := hfr.at (by decide) h_o
    have h_s := hfr.at (by rcases hns with rfl | rfl <;> decide) h_s
    have h_T := hfr.at (by decide) h_T
    have h_H : ω (1, 7) = some (aH, .inl (G.2.1 1, 12000, .inl (gH))) := hgH
    have h_C : ω (1, 8) = some (aC, .inl (G.2.1 1, 1000, .inl (cH))) := hgC
    have hF := hF.trans hfr (fun k hk => hk.elim (fun q => Or.inr (Or.inl q)) (fun q => Or.inr (Or.inr (Or.inl q))))
    refine W.eq (g2 := F0 m_ 44 ls []) rfl ?_
    refine lv_iload_n hx hb dX3_readReader_44 rfl (lv_at hl 4 rfl) ?_
    · refine lv_lookup (off := 101) (tgt := 146) hx hb dX3_readReader_45 (by decide) (by decide +kernel) (by decide) ?_
      refine lv_aload_n hx hb dX3_readReader_146 rfl (lv_at hl 2 rfl) ?_
      refine lv_aload_n hx hb dX3_readReader_147 rfl (lv_at hl 3 rfl) ?_
      refine lv_iload_n hx hb dX3_readReader_148 rfl (lv_at hl 1 rfl) ?_
      refine g_top (w := .int (iI (((dgS t (true, p) 0 3).1 : Int)))) (by rw [mv_t hg0]) ?_
      refine g_S (As := [.ref as, .int (iI (((dgS t (true, p) 0 3).1 : Int)))]) (rest := [.ref o]) hx hb hml hown hts hK hZ hP hS (m_isReader l G _ _ _ h_s hT.2.1 hA.2.2.1 (by omega)) 2 (lw_S q1665 q1666 q59 q1667) (by decide +kernel) (by decide) (by decide) rfl hl.1 rfl (Nat.le_of_ble_eq_true rfl) dX3_readReader_149 (fun v ω kc_3 ks_3 H locs q_3 hP hS => ?_)
      obtain ⟨rfl, rfl, rfl, rfl⟩ := q_3
      refine W.eq (g2 := F0 m_ 152 ls [.int (bI (decide (0 ≤ ((dgS t (true, p) 0 3).1 : Int) ∧ ((dgS t (true, p) 0 3).1 : Int) ≤ (σ.2.1.length : Int) - 1))), .ref o]) rfl ?_
      refine g_ifz_eq (tgt := 167) hx hb dX3_readReader_152 (by decide) (fun c_152 => ?_) (fun c_152 => ?_)
      · refine lv_iconst (v := iI 0) hx hb dX3_readReader_167 rfl ?_
        refine g_top (w := .int (bI false)) rfl ?_
        refine g_V (As := [.int (bI false)]) (rest := []) hx hb hml hown hts hK hZ hP hS (m_done_false l G _ _ _ h_o) 1 (lw_V q1610 q1612 qs29 q59 q1613) h_o gk2 (by decide +kernel) (by decide) (by decide) rfl hl.1 rfl (Nat.le_of_ble_eq_true rfl) dX3_readReader_168 (fun v ω kc_4 ks_4 H locs q_4 hP hS => ?_)
        obtain ⟨rfl, rfl, rfl, hh_o, hfr⟩ := q_4
        have h_o : ω (1, 0) = some (o, .inr (2, [.int rf, .ref aT, .int (iI ((t.length : Int))), .ref aN, .ref aR, .ref aD, .int ac, .ref aK, .ref aI, .ref aH, .ref aC, .int (iI ((((dgS t (true, p) 0 3)).2.2 : Int))), .int (iI (((k + 1 : Nat) : Int)))])) := hh_o
        have h_s := hfr.at (by rcases hns with rfl | rfl <;> decide) h_s
        have h_T := hfr.at (by decide) h_T
        have h_H := hfr.at (by decide) h_H
        have h_C := hfr.at (by decide) h_C
        have hF := hF.trans hfr (fun k hk => Or.inl hk)
        refine W.eq (g2 := F0 m_ 171 ls [.int (bI true)]) rfl ?_
        refine g_iret hx hb hr hlk hP hS (v := (bI true)) (bI_nar _) dX3_readReader_171 ?_
        have e : c_z t (true, p) σ k = ((dgS t (true, p) 0 3).2, σ, k + 1) := by unfold c_z; exact mkS_not (mv_ne c_34) (by exact decide_eq_false (by have z := of_decide_eq_false c_152; omega))
        rw [e]
        exact ⟨bI_1 (mv_ne c_34), rfl, rfl, h_o, ⟨_, h_s, hT⟩, ⟨_, _, h_H, h_C⟩, hF⟩
      · have hrl : (dgS t (true, p) 0 3).1 < σ.2.1.length := by have z := of_decide_eq_true c_152; omega
        obtain ⟨hq1r, hq2r⟩ := hT.2.2.2.2 _ _ (rd_at hrl)
        obtain ⟨hk1, hk2⟩ := okA_rd hA hrl
        have hcl := cnt_le (D σ.1 (rd σ (dgS t (true, p) 0 3).1).1) 1000
        refine lv_aload_n hx hb dX3_readReader_155 rfl (lv_at hl 3 rfl) ?_
        refine lv_iload_n hx hb dX3_readReader_156 rfl (lv_at hl 1 rfl) ?_
        refine g_top (w := .int (iI (((dgS t (true, p) 0 3).1 : Int)))) (by rw [mv_t hg0]) ?_
        refine g_S (As := [.ref as, .int (iI (((dgS t (true, p) 0 3).1 : Int)))]) (rest := [.ref o]) hx hb hml hown hts hK hZ hP hS (m_backOn (σ := σ) (k := (rd σ (dgS t (true, p) 0 3).1).1) (so := (rd σ (dgS t (true, p) 0 3).1).2) l G _ _ _ h_s hT hn12 hA.2.2.1 (rd_at hrl) (by omega) (by omega)) 2 (lw_S q1694 q1695 q59 q1696) (by decide +kernel) (by decide) (by decide) rfl hl.1 rfl (Nat.le_of_ble_eq_true rfl) dX3_readReader_157 (fun v ω kc_5 ks_5 H locs q_5 hP hS => ?_)
        obtain ⟨rfl, rfl, rfl, ⟨gM, hgM, hTM⟩, hfr⟩ := q_5
        have h_o := hfr.at (by rintro rfl; rcases hns with q | q <;> cases q) h_o
        have h_s : ω ns = some (as, .inl (G.2.1 0, 59, .inl (gM))) := hgM
        have h_T := hfr.at (by rintro rfl; rcases hns with q | q <;> cases q) h_T
        have h_H := hfr.at (by rintro rfl; rcases hns with q | q <;> cases q) h_H
        have h_C := hfr.at (by rintro rfl; rcases hns with q | q <;> cases q) h_C
        have hF := hF.trans hfr (fun k hk => Or.inr (Or.inr (Or.inr hk)))
        refine W.eq (g2 := F0 m_ 160 ls [.int (iI (((rd σ (dgS t (true, p) 0 3).1).2 : Int))), .ref o]) rfl ?_
        refine g_if_lt (tgt := 167) hx hb dX3_readReader_160 (by decide) (by omega) (fun c_160 => ?_) (fun c_160 => ?_)
        · exact absurd c_160 (by omega)
        · refine lv_iconst (v := iI 1) hx hb dX3_readReader_163 rfl ?_
          refine lv_goto (tgt := 168) hx hb dX3_readReader_164 (by decide) ?_
          refine g_top (w := .int (bI true)) rfl ?_
          refine g_V (As := [.int (bI true)]) (rest := []) hx hb hml hown hts hK hZ hP hS (m_done_true l G _ _ _ h_o) 1 (lw_V q1610 q1612 qs29 q59 q1613) h_o gk2 (by decide +kernel) (by decide) (by decide) rfl hl.1 rfl (Nat.le_of_ble_eq_true rfl) dX3_readReader_168 (fun v ω kc_6 ks_6 H locs q_6 hP hS => ?_)
          obtain ⟨rfl, rfl, rfl, hh_o, hfr⟩ := q_6
          have h_o : ω (1, 0) = some (o, .inr (2, [.int rf, .ref aT, .int (iI ((t.length : Int))), .ref aN, .ref aR, .ref aD, .int ac, .ref aK, .ref aI, .ref aH, .ref aC, .int (iI ((((dgS t (true, p) 0 3)).2.2 : Int))), .int (iI ((k : Int)))])) := hh_o
          have h_s := hfr.at (by rcases hns with rfl | rfl <;> decide) h_s
          have h_T := hfr.at (by decide) h_T
          have h_H := hfr.at (by decide) h_H
          have h_C := hfr.at (by decide) h_C
          have hF := hF.trans hfr (fun k hk => Or.inl hk)
          refine W.eq (g2 := F0 m_ 171 ls [.int (bI true)]) rfl ?_
          refine g_iret hx hb hr hlk hP hS (v := (bI true)) (bI_nar _) dX3_readReader_171 ?_
          have e : c_z t (true, p) σ k = ((dgS t (true, p) 0 3).2, a_back σ (dgS t (true, p) 0 3).1, k) := by unfold c_z; exact mkS_can (mv_ne c_34) (by exact decide_eq_true hrl)
          rw [e]
          exact ⟨bI_1 (mv_ne c_34), rfl, rfl, h_o, ⟨_, h_s, hTM⟩, ⟨_, _, h_H, h_C⟩, hF⟩
  · refine lv_iconst (v := iI 0) hx hb dX3_readReader_37 rfl ?_
    refine g_iret hx hb hr hlk hP hS (v := (iI 0)) rfl dX3_readReader_38 ?_
    have e : c_z t (true, p) σ k = ((dgS t (true, p) 0 3).2, σ, k) := by unfold c_z; exact mkS_no (mv_f.mp c_34)
    rw [e]
    exact ⟨bI_2 (mv_f.mp c_34), rfl, rfl, h_o, ⟨_, h_s, hT⟩, ⟨_, _, h_H, h_C⟩, hF⟩

set_option maxHeartbeats 4000000 in
theorem m_readReaderQ (l : Launch) (G : GT) (ω0 : Om) (kc ks : Nat) {o aT aN aR aD aK aI aH aC : Nat} {rf ac : Int32} {ns : Nm} {as : Nat} {f : Nat → Int32} {tx : Nat → Int32} {t : List Nat} {p k : Nat} {σ : AS} {ha cr : Nat → Int32} (h_o : ω0 (1, 0) = some (o, .inr (2, [.int rf, .ref aT, .int (iI ((t.length : Int))), .ref aN, .ref aR, .ref aD, .int ac, .ref aK, .ref aI, .ref aH, .ref aC, .int (iI ((p : Int))), .int (iI ((k : Int)))]))) (h_s : ω0 ns = some (as, .inl (G.2.1 0, 59, .inl (f)))) (h_T : ω0 (1, 1) = some (aT, .inl (G.2.1 0, 120, .inl (tx)))) (h_H : ω0 (1, 7) = some (aH, .inl (G.2.1 1, 12000, .inl (ha)))) (h_C : ω0 (1, 8) = some (aC, .inl (G.2.1 1, 1000, .inl (cr)))) (hns : ns = (1, 2) ∨ ns = (1, 3)) (hX : TX tx t) (hT : Tab f σ) (hA : okA σ) (hp : p ≤ t.length) : Ct l G yX3_readReader cX3_readReader 5 (some .boolean) 4 84 [.ref o, .ref as, .int (iI 113)] ω0 kc ks (fun v ω' kc' ks' => v = some (.int (bI (c_q t (true, p) σ k).1.1)) ∧ kc = kc' ∧ ks = ks' ∧ ω' (1, 0) = some (o, .inr (2, [.int rf, .ref aT, .int (iI ((t.length : Int))), .ref aN, .ref aR, .ref aD, .int ac, .ref aK, .ref aI, .ref aH, .ref aC, .int (iI (((c_q t (true, p) σ k).1.2 : Int))), .int (iI (((c_q t (true, p) σ k).2.2 : Int)))])) ∧ (∃ g : Nat → Int32, ω' ns = some (as, .inl (G.2.1 0, 59, .inl (g))) ∧ Tab g (c_q t (true, p) σ k).2.1) ∧ (∃ ha' cr' : Nat → Int32, ω' (1, 7) = some (aH, .inl (G.2.1 1, 12000, .inl (ha'))) ∧ ω' (1, 8) = some (aC, .inl (G.2.1 1, 1000, .inl (cr')))) ∧ Fr (fun k => k = (1, 0) ∨ k = (1, 7) ∨ k = (1, 8) ∨ k = ns) ω0 ω') := by
  refine Ct.start (by decide) (Nat.le_of_ble_eq_true rfl) ?_
  intro p_ e_ s m_ below_ meth_ c_m H locs ls hx hb hr hlk hml hown hnm hts hK hZ hP hS hl
  have hown : s.vm.findClass RX3 = some m_.cls := hown
  have hl : lv_has ls 5 [(0, .ref o), (1, .ref as), (2, .int (iI 113))] := hl
  have hF : Fr ((fun k => k = (1, 0) ∨ k = (1, 7) ∨ k = (1, 8) ∨ k = ns)) ω0 ω0 := Fr.rf
  have hn12 : σ.1.length ≤ 12 := hA.1
  have ht120 := hX.2.2
  have hb0 := dgS_bd (t := t) (ps := (true, p)) (lo := 0) (hi := 3) (by decide)
  have hb1 := twoS_bd (t := t) (ps := (dgS t (true, p) 0 3).2) (lo := 1) (hi := 99) (by decide) (by decide) (by decide) (by decide)
  have hq0 := (dgS_pos (t := t) (ps := (true, p)) (lo := 0) (hi := 3)).2.2 hp
  have hr4 := hA.2.2.1
  refine lv_aload_n hx hb dX3_readReader_0 rfl (lv_at hl 0 rfl) ?_
  refine lv_iconst (v := iI 0) hx hb dX3_readReader_1 rfl ?_
  refine lv_iconst (v := iI 1) hx hb dX3_readReader_2 rfl ?_
  refine lv_iconst (v := iI 0) hx hb dX3_readReader_3 rfl ?_
  refine lv_iconst (v := iI 3) hx hb dX3_readReader_4 rfl ?_
  refine g_V (As := [.int (iI 0), .int (iI 1), .int (iI 0), .int (iI 3)]) (rest := []) hx hb hml hown hts hK hZ hP hS (m_fig1 l G _ _ _ ((0, true, p)) h_o h_T hX (Nat.zero_le _) (by decide) (by decide) (by show p ≤ 120; omega) (lo := 0) (hi := 3)) 4 (lw_V q1599 q1601 qs28 q59 q1602) h_o gk2 (by decide +kernel) (by decide) (by decide) rfl hl.1 rfl (Nat.le_of_ble_eq_true rfl) dX3_readReader_5 (fun v ω kc_1 ks_1 H locs q_1 hP hS => ?_)
  obtain ⟨rfl, rfl, rfl, hh_o, hfr⟩ := q_1
  have h_o : ω (1, 0) = some (o, .inr (2, [.int rf, .ref aT, .int (iI ((t.length : Int))), .ref aN, .ref aR, .ref aD, .int ac, .ref aK, .ref aI, .ref aH, .ref aC, .int (iI ((((dgS t (true, p) 0 3)).2.2 : Int))), .int (iI ((k : Int)))])) := hh_o
  have h_s := hfr.at (by rcases hns with rfl | rfl <;> decide) h_s
  have h_T := hfr.at (by decide) h_T
  have h_H := hfr.at (by decide) h_H
  have h_C := hfr.at (by decide) h_C
  have hF := hF.trans hfr (fun k hk => Or.inl hk)
  refine W.eq (g2 := F0 m_ 8 ls [.int (iI (mv ((dgS t (true, p) 0 3))))]) rfl ?_
  refine lv_istore_n (lv' := [(3, .int (iI (mv ((dgS t (true, p) 0 3))))), (0, .ref o), (1, .ref as), (2, .int (iI 113))]) hx hb dX3_readReader_8 rfl hl (by decide) rfl (fun ls hl => ?_)
  refine lv_iload_n hx hb dX3_readReader_9 rfl (lv_at hl 3 rfl) ?_
  refine lv_bipush (v := iI 107) hx hb dX3_readReader_10 rfl ?_
  refine g_icmp_ne (tgt := 28) hx hb dX3_readReader_12 (by decide) (by decide) (by decide) (fun c_12 => ?_) (fun c_12 => absurd c_12 (by decide))
  refine lv_iload_n hx hb dX3_readReader_28 rfl (lv_at hl 0 rfl) ?_
  refine lv_istore (lv' := [(4, .int (iI (mv ((dgS t (true, p) 0 3))))), (3, .int (iI (mv ((dgS t (true, p) 0 3))))), (0, .ref o), (1, .ref as), (2, .int (iI 113))]) hx hb dX3_readReader_29 hl (by decide) rfl (fun ls hl => ?_)
  refine lv_iload hx hb dX3_readReader_31 (lv_at hl 0 rfl) ?_
  refine lv_iconst (v := iI (-1)) hx hb dX3_readReader_33 rfl ?_
  refine g_icmp_ne (tgt := 39) hx hb dX3_readReader_34 (by decide) (by have := mv_rng (show (dgS t (true, p) 0 3).1 ≤ 999 by omega); omega) (by omega) (fun c_34 => ?_) (fun c_34 => ?_)
  · have hgl := mv_ne c_34
    have hg0 := hgl
    refine lv_aload_n hx hb dX3_readReader_39 rfl (lv_at hl 2 rfl) ?_
    refine lv_aload_n hx hb dX3_readReader_40 rfl (lv_at hl 3 rfl) ?_
    refine g_V (As := [.ref as]) (rest := []) hx hb hml hown hts hK hZ hP hS (m_finds (T := σ.1) l G _ _ _ h_o h_s h_H h_C hns hn12 hA.2.1 hT.1 hT.2.2.2.1) 1 (lw_V q1636 q1638 qs34 q59 q1639) h_o gk2 (by decide +kernel) (by decide) (by decide) rfl hl.1 rfl (Nat.le_of_ble_eq_true rfl) dX3_readReader_41 (fun v ω kc_2 ks_2 H locs q_2 hP hS => ?_)
    obtain ⟨rfl, rfl, rfl, ⟨gH, cH, hgH, hgC, hHb⟩, hfr⟩ := q_2
    have h_o := hfr.at (by decide) h_o
    have h_s := hfr.at (by rcases hns with rfl | rfl <;> decide) h_s
    have h_T := hfr.at (by decide) h_T
    have h_H : ω (1, 7) = some (aH, .inl (G.2.1 1, 12000, .inl (gH))) := hgH
    have h_C : ω (1, 8) = some (aC, .inl (G.2.1 1, 1000, .inl (cH))) := hgC
    have hF := hF.trans hfr (fun k hk => hk.elim (fun q => Or.inr (Or.inl q)) (fun q => Or.inr (Or.inr (Or.inl q))))
    refine W.eq (g2 := F0 m_ 44 ls []) rfl ?_
    refine lv_iload_n hx hb dX3_readReader_44 rfl (lv_at hl 4 rfl) ?_
    · refine lv_lookup (off := 127) (tgt := 172) hx hb dX3_readReader_45 (by decide) (by decide +kernel) (by decide) ?_
      refine lv_aload_n hx hb dX3_readReader_172 rfl (lv_at hl 2 rfl) ?_
      refine lv_aload_n hx hb dX3_readReader_173 rfl (lv_at hl 3 rfl) ?_
      refine lv_iload_n hx hb dX3_readReader_174 rfl (lv_at hl 1 rfl) ?_
      refine g_top (w := .int (iI (((dgS t (true, p) 0 3).1 : Int)))) (by rw [mv_t hg0]) ?_
      refine g_S (As := [.ref as, .int (iI (((dgS t (true, p) 0 3).1 : Int)))]) (rest := [.ref o]) hx hb hml hown hts hK hZ hP hS (m_isReader l G _ _ _ h_s hT.2.1 hA.2.2.1 (by omega)) 2 (lw_S q1665 q1666 q59 q1667) (by decide +kernel) (by decide) (by decide) rfl hl.1 rfl (Nat.le_of_ble_eq_true rfl) dX3_readReader_175 (fun v ω kc_3 ks_3 H locs q_3 hP hS => ?_)
      obtain ⟨rfl, rfl, rfl, rfl⟩ := q_3
      refine W.eq (g2 := F0 m_ 178 ls [.int (bI (decide (0 ≤ ((dgS t (true, p) 0 3).1 : Int) ∧ ((dgS t (true, p) 0 3).1 : Int) ≤ (σ.2.1.length : Int) - 1))), .ref o]) rfl ?_
      refine g_ifz_eq (tgt := 193) hx hb dX3_readReader_178 (by decide) (fun c_178 => ?_) (fun c_178 => ?_)
      · refine lv_iconst (v := iI 0) hx hb dX3_readReader_193 rfl ?_
        refine g_top (w := .int (bI false)) rfl ?_
        refine g_V (As := [.int (bI false)]) (rest := []) hx hb hml hown hts hK hZ hP hS (m_done_false l G _ _ _ h_o) 1 (lw_V q1610 q1612 qs29 q59 q1613) h_o gk2 (by decide +kernel) (by decide) (by decide) rfl hl.1 rfl (Nat.le_of_ble_eq_true rfl) dX3_readReader_194 (fun v ω kc_4 ks_4 H locs q_4 hP hS => ?_)
        obtain ⟨rfl, rfl, rfl, hh_o, hfr⟩ := q_4
        have h_o : ω (1, 0) = some (o, .inr (2, [.int rf, .ref aT, .int (iI ((t.length : Int))), .ref aN, .ref aR, .ref aD, .int ac, .ref aK, .ref aI, .ref aH, .ref aC, .int (iI ((((dgS t (true, p) 0 3)).2.2 : Int))), .int (iI (((k + 1 : Nat) : Int)))])) := hh_o
        have h_s := hfr.at (by rcases hns with rfl | rfl <;> decide) h_s
        have h_T := hfr.at (by decide) h_T
        have h_H := hfr.at (by decide) h_H
        have h_C := hfr.at (by decide) h_C
        have hF := hF.trans hfr (fun k hk => Or.inl hk)
        refine W.eq (g2 := F0 m_ 197 ls [.int (bI true)]) rfl ?_
        refine g_iret hx hb hr hlk hP hS (v := (bI true)) (bI_nar _) dX3_readReader_197 ?_
        have e : c_q t (true, p) σ k = ((dgS t (true, p) 0 3).2, σ, k + 1) := by unfold c_q; exact mkS_not (mv_ne c_34) (by exact decide_eq_false (by have z := of_decide_eq_false c_178; omega))
        rw [e]
        exact ⟨bI_1 (mv_ne c_34), rfl, rfl, h_o, ⟨_, h_s, hT⟩, ⟨_, _, h_H, h_C⟩, hF⟩
      · have hrl : (dgS t (true, p) 0 3).1 < σ.2.1.length := by have z := of_decide_eq_true c_178; omega
        obtain ⟨hq1r, hq2r⟩ := hT.2.2.2.2 _ _ (rd_at hrl)
        obtain ⟨hk1, hk2⟩ := okA_rd hA hrl
        have hcl := cnt_le (D σ.1 (rd σ (dgS t (true, p) 0 3).1).1) 1000
        refine lv_aload_n hx hb dX3_readReader_181 rfl (lv_at hl 3 rfl) ?_
        refine lv_iload_n hx hb dX3_readReader_182 rfl (lv_at hl 1 rfl) ?_
        refine g_top (w := .int (iI (((dgS t (true, p) 0 3).1 : Int)))) (by rw [mv_t hg0]) ?_
        refine g_S (As := [.ref as, .int (iI (((dgS t (true, p) 0 3).1 : Int)))]) (rest := [.ref o]) hx hb hml hown hts hK hZ hP hS (m_stopOn (σ := σ) l G _ _ _ h_s hT hn12 hA.2.2.1 hrl) 2 (lw_S q1697 q1698 q59 q1699) (by decide +kernel) (by decide) (by decide) rfl hl.1 rfl (Nat.le_of_ble_eq_true rfl) dX3_readReader_183 (fun v ω kc_5 ks_5 H locs q_5 hP hS => ?_)
        obtain ⟨rfl, rfl, rfl, ⟨gM, hgM, hTM⟩, hfr⟩ := q_5
        have h_o := hfr.at (by rintro rfl; rcases hns with q | q <;> cases q) h_o
        have h_s : ω ns = some (as, .inl (G.2.1 0, 59, .inl (gM))) := hgM
        have h_T := hfr.at (by rintro rfl; rcases hns with q | q <;> cases q) h_T
        have h_H := hfr.at (by rintro rfl; rcases hns with q | q <;> cases q) h_H
        have h_C := hfr.at (by rintro rfl; rcases hns with q | q <;> cases q) h_C
        have hF := hF.trans hfr (fun k hk => Or.inr (Or.inr (Or.inr hk)))
        refine W.eq (g2 := F0 m_ 186 ls [.int (iI (((σ.2.1.length - 1 : Nat) : Int))), .ref o]) rfl ?_
        refine g_if_lt (tgt := 193) hx hb dX3_readReader_186 (by decide) (by omega) (fun c_186 => ?_) (fun c_186 => ?_)
        · exact absurd c_186 (by omega)
        · refine lv_iconst (v := iI 1) hx hb dX3_readReader_189 rfl ?_
          refine lv_goto (tgt := 194) hx hb dX3_readReader_190 (by decide) ?_
          refine g_top (w := .int (bI true)) rfl ?_
          refine g_V (As := [.int (bI true)]) (rest := []) hx hb hml hown hts hK hZ hP hS (m_done_true l G _ _ _ h_o) 1 (lw_V q1610 q1612 qs29 q59 q1613) h_o gk2 (by decide +kernel) (by decide) (by decide) rfl hl.1 rfl (Nat.le_of_ble_eq_true rfl) dX3_readReader_194 (fun v ω kc_6 ks_6 H locs q_6 hP hS => ?_)
          obtain ⟨rfl, rfl, rfl, hh_o, hfr⟩ := q_6
          have h_o : ω (1, 0) = some (o, .inr (2, [.int rf, .ref aT, .int (iI ((t.length : Int))), .ref aN, .ref aR, .ref aD, .int ac, .ref aK, .ref aI, .ref aH, .ref aC, .int (iI ((((dgS t (true, p) 0 3)).2.2 : Int))), .int (iI ((k : Int)))])) := hh_o
          have h_s := hfr.at (by rcases hns with rfl | rfl <;> decide) h_s
          have h_T := hfr.at (by decide) h_T
          have h_H := hfr.at (by decide) h_H
          have h_C := hfr.at (by decide) h_C
          have hF := hF.trans hfr (fun k hk => Or.inl hk)
          refine W.eq (g2 := F0 m_ 197 ls [.int (bI true)]) rfl ?_
          refine g_iret hx hb hr hlk hP hS (v := (bI true)) (bI_nar _) dX3_readReader_197 ?_
          have e : c_q t (true, p) σ k = ((dgS t (true, p) 0 3).2, a_stop σ (dgS t (true, p) 0 3).1, k) := by unfold c_q; exact mkS_can (mv_ne c_34) (by exact decide_eq_true hrl)
          rw [e]
          exact ⟨bI_1 (mv_ne c_34), rfl, rfl, h_o, ⟨_, h_s, hTM⟩, ⟨_, _, h_H, h_C⟩, hF⟩
  · refine lv_iconst (v := iI 0) hx hb dX3_readReader_37 rfl ?_
    refine g_iret hx hb hr hlk hP hS (v := (iI 0)) rfl dX3_readReader_38 ?_
    have e : c_q t (true, p) σ k = ((dgS t (true, p) 0 3).2, σ, k) := by unfold c_q; exact mkS_no (mv_f.mp c_34)
    rw [e]
    exact ⟨bI_2 (mv_f.mp c_34), rfl, rfl, h_o, ⟨_, h_s, hT⟩, ⟨_, _, h_H, h_C⟩, hF⟩

