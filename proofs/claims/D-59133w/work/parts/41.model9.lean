/-! ## the reference: a command; the text -/
set_option maxHeartbeats 4000000 in
theorem m_readCommand (l : Launch) (G : GT) (ω0 : Om) (kc ks : Nat) {o aT aN aR aD aK aI aH aC : Nat} {rf ac : Int32} {ns : Nm} {as : Nat} {f : Nat → Int32} {tx : Nat → Int32} {t : List Nat} {p k : Nat} {σ : AS} {ha cr : Nat → Int32} {c : Nat} (h_o : ω0 (1, 0) = some (o, .inr (2, [.int rf, .ref aT, .int (iI ((t.length : Int))), .ref aN, .ref aR, .ref aD, .int ac, .ref aK, .ref aI, .ref aH, .ref aC, .int (iI ((p : Int))), .int (iI ((k : Int)))]))) (h_s : ω0 ns = some (as, .inl (G.2.1 0, 59, .inl (f)))) (h_T : ω0 (1, 1) = some (aT, .inl (G.2.1 0, 120, .inl (tx)))) (h_H : ω0 (1, 7) = some (aH, .inl (G.2.1 1, 12000, .inl (ha)))) (h_C : ω0 (1, 8) = some (aC, .inl (G.2.1 1, 1000, .inl (cr)))) (hns : ns = (1, 2) ∨ ns = (1, 3)) (hX : TX tx t) (hT : Tab f σ) (hA : okA σ) (hp : p < t.length) (hc : t[p]? = some c) : Ct l G yX3_readCommand cX3_readCommand 4 (some .boolean) 6 127 [.ref o, .ref as] ω0 kc ks (fun v ω' kc' ks' => v = some (.int (bI (cmdS t c (true, p + 1) σ k).1.1)) ∧ kc = kc' ∧ ks = ks' ∧ ω' (1, 0) = some (o, .inr (2, [.int rf, .ref aT, .int (iI ((t.length : Int))), .ref aN, .ref aR, .ref aD, .int ac, .ref aK, .ref aI, .ref aH, .ref aC, .int (iI (((cmdS t c (true, p + 1) σ k).1.2 : Int))), .int (iI (((cmdS t c (true, p + 1) σ k).2.2 : Int)))])) ∧ (∃ g : Nat → Int32, ω' ns = some (as, .inl (G.2.1 0, 59, .inl (g))) ∧ Tab g (cmdS t c (true, p + 1) σ k).2.1) ∧ (∃ ha' cr' : Nat → Int32, ω' (1, 7) = some (aH, .inl (G.2.1 1, 12000, .inl (ha'))) ∧ ω' (1, 8) = some (aC, .inl (G.2.1 1, 1000, .inl (cr')))) ∧ Fr (fun k => k = (1, 0) ∨ k = (1, 7) ∨ k = (1, 8) ∨ k = ns) ω0 ω') := by
  refine Ct.start (by decide) (Nat.le_of_ble_eq_true rfl) ?_
  intro p_ e_ s m_ below_ meth_ c_m H locs ls hx hb hr hlk hml hown hnm hts hK hZ hP hS hl
  have hown : s.vm.findClass RX3 = some m_.cls := hown
  have hl : lv_has ls 4 [(0, .ref o), (1, .ref as)] := hl
  have hF : Fr ((fun k => k = (1, 0) ∨ k = (1, 7) ∨ k = (1, 8) ∨ k = ns)) ω0 ω0 := Fr.rf
  have hn12 : σ.1.length ≤ 12 := hA.1
  have ht120 := hX.2.2
  have hc255 := hX.2.1 p c hc
  have hb0 := twoS_bd (t := t) (ps := (true, p + 1)) (lo := 0) (hi := 11) (by decide) (by decide) (by decide) (by decide)
  have hr4 := hA.2.2.1
  refine lv_aload_n hx hb dX3_readCommand_0 rfl (lv_at hl 0 rfl) ?_
  refine g_get hx hb hown hts hK hP h_o gk2 1 (by decide) q1524 (fun _ h => h) rfl dX3_readCommand_1 ?_
  refine lv_aload_n hx hb dX3_readCommand_4 rfl (lv_at hl 0 rfl) ?_
  refine g_get hx hb hown hts hK hP h_o gk2 11 (by decide) q1534 (fun _ h => h) rfl dX3_readCommand_5 ?_
  refine g_iald hx hb hK hP h_T p (by first | rfl | omega) (by first | decide | omega) (by first | decide | omega) (v := .int (iI ((c : Int)))) (by rw [hX.1 p c hc]) dX3_readCommand_8 ?_
  refine lv_istore_n (lv' := [(2, .int (iI ((c : Int)))), (0, .ref o), (1, .ref as)]) hx hb dX3_readCommand_9 rfl hl (by decide) rfl (fun ls hl => ?_)
  refine lv_aload_n hx hb dX3_readCommand_10 rfl (lv_at hl 1 rfl) ?_
  refine lv_dup hx hb dX3_readCommand_11 rfl ?_
  refine g_get hx hb hown hts hK hP h_o gk2 11 (by decide) q1534 (fun _ h => h) rfl dX3_readCommand_12 ?_
  refine lv_iconst (v := iI 1) hx hb dX3_readCommand_15 rfl ?_
  refine g_iadd hx hb dX3_readCommand_16 (z := ((p + 1 : Nat) : Int)) (by omega) ?_
  refine g_put hx hb hown hts hK hP hS h_o gk2 11 (by decide) q1534 (fun _ h => h) rfl rfl rfl (Nat.le_of_ble_eq_true rfl) dX3_readCommand_17 (fun ω H locs e_1 n_1 hP hS => ?_)
  have h_o : ω (1, 0) = some (o, .inr (2, [.int rf, .ref aT, .int (iI ((t.length : Int))), .ref aN, .ref aR, .ref aD, .int ac, .ref aK, .ref aI, .ref aH, .ref aC, .int (iI (((p + 1 : Nat) : Int))), .int (iI ((k : Int)))])) := e_1
  have h_s := (n_1 _ (by rcases hns with rfl | rfl <;> decide)).trans h_s
  have h_T := (n_1 _ (by decide)).trans h_T
  have h_H := (n_1 _ (by decide)).trans h_H
  have h_C := (n_1 _ (by decide)).trans h_C
  have hF := hF.put n_1 (by first | exact Or.inl rfl | exact Or.inr (Or.inl rfl) | exact Or.inr (Or.inr (Or.inl rfl)) | exact Or.inr (Or.inr (Or.inr rfl)))
  refine lv_iload_n hx hb dX3_readCommand_20 rfl (lv_at hl 0 rfl) ?_
  rcases sign_cases c with rfl | rfl | rfl | rfl | rfl | rfl | rfl | rfl | rfl | rfl | rfl | rfl | rfl | rfl | rfl | rfl | rfl | rfl | rfl | rfl | rfl | rfl | rfl | hno
  · refine lv_tableIn (off := 107) (tgt := 128) hx hb dX3_readCommand_21 (by decide +kernel) (by decide +kernel) (by decide +kernel) (by decide) ?_
    refine lv_aload_n hx hb dX3_readCommand_128 rfl (lv_at hl 1 rfl) ?_
    refine lv_aload_n hx hb dX3_readCommand_129 rfl (lv_at hl 2 rfl) ?_
    refine g_V (As := [.ref as]) (rest := []) hx hb hml hown hts hK hZ hP hS (m_readSteps (p := p + 1) l G _ _ _ h_o h_s h_T hns hX hT hA (by omega)) 1 (lw_V q1595 q1597 qs27 q59 q1598) h_o gk2 (by decide +kernel) (by decide) (by decide) rfl hl.1 rfl (Nat.le_of_ble_eq_true rfl) dX3_readCommand_130 (fun v ω kc_2 ks_2 H locs q_2 hP hS => ?_)
    obtain ⟨rfl, rfl, rfl, hh_o, ⟨gR, hgR, hTR⟩, hfr⟩ := q_2
    have h_o : ω (1, 0) = some (o, .inr (2, [.int rf, .ref aT, .int (iI ((t.length : Int))), .ref aN, .ref aR, .ref aD, .int ac, .ref aK, .ref aI, .ref aH, .ref aC, .int (iI (((c_s t (true, p + 1) σ k).1.2 : Int))), .int (iI (((c_s t (true, p + 1) σ k).2.2 : Int)))])) := hh_o
    have h_s : ω ns = some (as, .inl (G.2.1 0, 59, .inl (gR))) := hgR
    have h_T := hfr.at (by rintro (q | q); cases q; rcases hns with z | z <;> rw [z] at q <;> cases q) h_T
    have h_H := hfr.at (by rintro (q | q); cases q; rcases hns with z | z <;> rw [z] at q <;> cases q) h_H
    have h_C := hfr.at (by rintro (q | q); cases q; rcases hns with z | z <;> rw [z] at q <;> cases q) h_C
    have hF := hF.trans hfr (fun k hk => hk.elim (fun q => Or.inl q) (fun q => Or.inr (Or.inr (Or.inr q))))
    refine W.eq (g2 := F0 m_ 133 ls [.int (bI ((c_s t (true, p + 1) σ k).1.1))]) rfl ?_
    refine g_iret hx hb hr hlk hP hS (v := (bI ((c_s t (true, p + 1) σ k).1.1))) (bI_nar _) dX3_readCommand_133 ?_
    have e : cmdS t 115 (true, p + 1) σ k = c_s t (true, p + 1) σ k := rfl
    rw [e]
    exact ⟨rfl, rfl, rfl, h_o, ⟨_, h_s, hTR⟩, ⟨_, _, h_H, h_C⟩, hF⟩
  · refine lv_tableIn (off := 113) (tgt := 134) hx hb dX3_readCommand_21 (by decide +kernel) (by decide +kernel) (by decide +kernel) (by decide) ?_
    refine lv_aload_n hx hb dX3_readCommand_134 rfl (lv_at hl 1 rfl) ?_
    refine lv_aload_n hx hb dX3_readCommand_135 rfl (lv_at hl 2 rfl) ?_
    refine g_V (As := [.ref as]) (rest := []) hx hb hml hown hts hK hZ hP hS (m_readScaled (p := p + 1) l G _ _ _ h_o h_s h_T hns hX hT hA (by omega)) 1 (lw_V q1614 q1616 qs30 q59 q1617) h_o gk2 (by decide +kernel) (by decide) (by decide) rfl hl.1 rfl (Nat.le_of_ble_eq_true rfl) dX3_readCommand_136 (fun v ω kc_3 ks_3 H locs q_3 hP hS => ?_)
    obtain ⟨rfl, rfl, rfl, hh_o, ⟨gR, hgR, hTR⟩, hfr⟩ := q_3
    have h_o : ω (1, 0) = some (o, .inr (2, [.int rf, .ref aT, .int (iI ((t.length : Int))), .ref aN, .ref aR, .ref aD, .int ac, .ref aK, .ref aI, .ref aH, .ref aC, .int (iI (((c_x t (true, p + 1) σ k).1.2 : Int))), .int (iI (((c_x t (true, p + 1) σ k).2.2 : Int)))])) := hh_o
    have h_s : ω ns = some (as, .inl (G.2.1 0, 59, .inl (gR))) := hgR
    have h_T := hfr.at (by rintro (q | q); cases q; rcases hns with z | z <;> rw [z] at q <;> cases q) h_T
    have h_H := hfr.at (by rintro (q | q); cases q; rcases hns with z | z <;> rw [z] at q <;> cases q) h_H
    have h_C := hfr.at (by rintro (q | q); cases q; rcases hns with z | z <;> rw [z] at q <;> cases q) h_C
    have hF := hF.trans hfr (fun k hk => hk.elim (fun q => Or.inl q) (fun q => Or.inr (Or.inr (Or.inr q))))
    refine W.eq (g2 := F0 m_ 139 ls [.int (bI ((c_x t (true, p + 1) σ k).1.1))]) rfl ?_
    refine g_iret hx hb hr hlk hP hS (v := (bI ((c_x t (true, p + 1) σ k).1.1))) (bI_nar _) dX3_readCommand_139 ?_
    have e : cmdS t 120 (true, p + 1) σ k = c_x t (true, p + 1) σ k := rfl
    rw [e]
    exact ⟨rfl, rfl, rfl, h_o, ⟨_, h_s, hTR⟩, ⟨_, _, h_H, h_C⟩, hF⟩
  · refine lv_tableIn (off := 119) (tgt := 140) hx hb dX3_readCommand_21 (by decide +kernel) (by decide +kernel) (by decide +kernel) (by decide) ?_
    refine lv_aload_n hx hb dX3_readCommand_140 rfl (lv_at hl 1 rfl) ?_
    refine lv_aload_n hx hb dX3_readCommand_141 rfl (lv_at hl 2 rfl) ?_
    refine lv_iconst (v := iI 2) hx hb dX3_readCommand_142 rfl ?_
    refine g_V (As := [.ref as, .int (iI 2)]) (rest := []) hx hb hml hown hts hK hZ hP hS (m_readJoined (kd := 2) (p := p + 1) l G _ _ _ h_o h_s h_T hns hX hT hA (by omega) (by decide)) 2 (lw_V q1621 q1623 qs31 q59 q1624) h_o gk2 (by decide +kernel) (by decide) (by decide) rfl hl.1 rfl (Nat.le_of_ble_eq_true rfl) dX3_readCommand_143 (fun v ω kc_4 ks_4 H locs q_4 hP hS => ?_)
    obtain ⟨rfl, rfl, rfl, hh_o, ⟨gR, hgR, hTR⟩, hfr⟩ := q_4
    have h_o : ω (1, 0) = some (o, .inr (2, [.int rf, .ref aT, .int (iI ((t.length : Int))), .ref aN, .ref aR, .ref aD, .int ac, .ref aK, .ref aI, .ref aH, .ref aC, .int (iI (((c_two t 2 (true, p + 1) σ k).1.2 : Int))), .int (iI (((c_two t 2 (true, p + 1) σ k).2.2 : Int)))])) := hh_o
    have h_s : ω ns = some (as, .inl (G.2.1 0, 59, .inl (gR))) := hgR
    have h_T := hfr.at (by rintro (q | q); cases q; rcases hns with z | z <;> rw [z] at q <;> cases q) h_T
    have h_H := hfr.at (by rintro (q | q); cases q; rcases hns with z | z <;> rw [z] at q <;> cases q) h_H
    have h_C := hfr.at (by rintro (q | q); cases q; rcases hns with z | z <;> rw [z] at q <;> cases q) h_C
    have hF := hF.trans hfr (fun k hk => hk.elim (fun q => Or.inl q) (fun q => Or.inr (Or.inr (Or.inr q))))
    refine W.eq (g2 := F0 m_ 146 ls [.int (bI ((c_two t 2 (true, p + 1) σ k).1.1))]) rfl ?_
    refine g_iret hx hb hr hlk hP hS (v := (bI ((c_two t 2 (true, p + 1) σ k).1.1))) (bI_nar _) dX3_readCommand_146 ?_
    have e : cmdS t 106 (true, p + 1) σ k = c_two t 2 (true, p + 1) σ k := rfl
    rw [e]
    exact ⟨rfl, rfl, rfl, h_o, ⟨_, h_s, hTR⟩, ⟨_, _, h_H, h_C⟩, hF⟩
  · refine lv_tableIn (off := 126) (tgt := 147) hx hb dX3_readCommand_21 (by decide +kernel) (by decide +kernel) (by decide +kernel) (by decide) ?_
    refine lv_aload_n hx hb dX3_readCommand_147 rfl (lv_at hl 1 rfl) ?_
    refine lv_aload_n hx hb dX3_readCommand_148 rfl (lv_at hl 2 rfl) ?_
    refine lv_iconst (v := iI 3) hx hb dX3_readCommand_149 rfl ?_
    refine g_V (As := [.ref as, .int (iI 3)]) (rest := []) hx hb hml hown hts hK hZ hP hS (m_readJoined (kd := 3) (p := p + 1) l G _ _ _ h_o h_s h_T hns hX hT hA (by omega) (by decide)) 2 (lw_V q1621 q1623 qs31 q59 q1624) h_o gk2 (by decide +kernel) (by decide) (by decide) rfl hl.1 rfl (Nat.le_of_ble_eq_true rfl) dX3_readCommand_150 (fun v ω kc_5 ks_5 H locs q_5 hP hS => ?_)
    obtain ⟨rfl, rfl, rfl, hh_o, ⟨gR, hgR, hTR⟩, hfr⟩ := q_5
    have h_o : ω (1, 0) = some (o, .inr (2, [.int rf, .ref aT, .int (iI ((t.length : Int))), .ref aN, .ref aR, .ref aD, .int ac, .ref aK, .ref aI, .ref aH, .ref aC, .int (iI (((c_two t 3 (true, p + 1) σ k).1.2 : Int))), .int (iI (((c_two t 3 (true, p + 1) σ k).2.2 : Int)))])) := hh_o
    have h_s : ω ns = some (as, .inl (G.2.1 0, 59, .inl (gR))) := hgR
    have h_T := hfr.at (by rintro (q | q); cases q; rcases hns with z | z <;> rw [z] at q <;> cases q) h_T
    have h_H := hfr.at (by rintro (q | q); cases q; rcases hns with z | z <;> rw [z] at q <;> cases q) h_H
    have h_C := hfr.at (by rintro (q | q); cases q; rcases hns with z | z <;> rw [z] at q <;> cases q) h_C
    have hF := hF.trans hfr (fun k hk => hk.elim (fun q => Or.inl q) (fun q => Or.inr (Or.inr (Or.inr q))))
    refine W.eq (g2 := F0 m_ 153 ls [.int (bI ((c_two t 3 (true, p + 1) σ k).1.1))]) rfl ?_
    refine g_iret hx hb hr hlk hP hS (v := (bI ((c_two t 3 (true, p + 1) σ k).1.1))) (bI_nar _) dX3_readCommand_153 ?_
    have e : cmdS t 104 (true, p + 1) σ k = c_two t 3 (true, p + 1) σ k := rfl
    rw [e]
    exact ⟨rfl, rfl, rfl, h_o, ⟨_, h_s, hTR⟩, ⟨_, _, h_H, h_C⟩, hF⟩
  · refine lv_tableIn (off := 133) (tgt := 154) hx hb dX3_readCommand_21 (by decide +kernel) (by decide +kernel) (by decide +kernel) (by decide) ?_
    refine lv_aload_n hx hb dX3_readCommand_154 rfl (lv_at hl 1 rfl) ?_
    refine lv_aload_n hx hb dX3_readCommand_155 rfl (lv_at hl 2 rfl) ?_
    refine lv_iconst (v := iI 4) hx hb dX3_readCommand_156 rfl ?_
    refine g_V (As := [.ref as, .int (iI 4)]) (rest := []) hx hb hml hown hts hK hZ hP hS (m_readJoined (kd := 4) (p := p + 1) l G _ _ _ h_o h_s h_T hns hX hT hA (by omega) (by decide)) 2 (lw_V q1621 q1623 qs31 q59 q1624) h_o gk2 (by decide +kernel) (by decide) (by decide) rfl hl.1 rfl (Nat.le_of_ble_eq_true rfl) dX3_readCommand_157 (fun v ω kc_6 ks_6 H locs q_6 hP hS => ?_)
    obtain ⟨rfl, rfl, rfl, hh_o, ⟨gR, hgR, hTR⟩, hfr⟩ := q_6
    have h_o : ω (1, 0) = some (o, .inr (2, [.int rf, .ref aT, .int (iI ((t.length : Int))), .ref aN, .ref aR, .ref aD, .int ac, .ref aK, .ref aI, .ref aH, .ref aC, .int (iI (((c_two t 4 (true, p + 1) σ k).1.2 : Int))), .int (iI (((c_two t 4 (true, p + 1) σ k).2.2 : Int)))])) := hh_o
    have h_s : ω ns = some (as, .inl (G.2.1 0, 59, .inl (gR))) := hgR
    have h_T := hfr.at (by rintro (q | q); cases q; rcases hns with z | z <;> rw [z] at q <;> cases q) h_T
    have h_H := hfr.at (by rintro (q | q); cases q; rcases hns with z | z <;> rw [z] at q <;> cases q) h_H
    have h_C := hfr.at (by rintro (q | q); cases q; rcases hns with z | z <;> rw [z] at q <;> cases q) h_C
    have hF := hF.trans hfr (fun k hk => hk.elim (fun q => Or.inl q) (fun q => Or.inr (Or.inr (Or.inr q))))
    refine W.eq (g2 := F0 m_ 160 ls [.int (bI ((c_two t 4 (true, p + 1) σ k).1.1))]) rfl ?_
    refine g_iret hx hb hr hlk hP hS (v := (bI ((c_two t 4 (true, p + 1) σ k).1.1))) (bI_nar _) dX3_readCommand_160 ?_
    have e : cmdS t 119 (true, p + 1) σ k = c_two t 4 (true, p + 1) σ k := rfl
    rw [e]
    exact ⟨rfl, rfl, rfl, h_o, ⟨_, h_s, hTR⟩, ⟨_, _, h_H, h_C⟩, hF⟩
  · refine lv_tableIn (off := 140) (tgt := 161) hx hb dX3_readCommand_21 (by decide +kernel) (by decide +kernel) (by decide +kernel) (by decide) ?_
    refine lv_aload_n hx hb dX3_readCommand_161 rfl (lv_at hl 1 rfl) ?_
    refine lv_aload_n hx hb dX3_readCommand_162 rfl (lv_at hl 2 rfl) ?_
    refine lv_iconst (v := iI 5) hx hb dX3_readCommand_163 rfl ?_
    refine g_V (As := [.ref as, .int (iI 5)]) (rest := []) hx hb hml hown hts hK hZ hP hS (m_readOne (kd := 5) (p := p + 1) l G _ _ _ h_o h_s h_T hns hX hT hA (by omega) (by decide) (by decide)) 2 (lw_V q1625 q1627 qs32 q59 q1628) h_o gk2 (by decide +kernel) (by decide) (by decide) rfl hl.1 rfl (Nat.le_of_ble_eq_true rfl) dX3_readCommand_164 (fun v ω kc_7 ks_7 H locs q_7 hP hS => ?_)
    obtain ⟨rfl, rfl, rfl, hh_o, ⟨gR, hgR, hTR⟩, hfr⟩ := q_7
    have h_o : ω (1, 0) = some (o, .inr (2, [.int rf, .ref aT, .int (iI ((t.length : Int))), .ref aN, .ref aR, .ref aD, .int ac, .ref aK, .ref aI, .ref aH, .ref aC, .int (iI (((c_one t 5 (true, p + 1) σ k).1.2 : Int))), .int (iI (((c_one t 5 (true, p + 1) σ k).2.2 : Int)))])) := hh_o
    have h_s : ω ns = some (as, .inl (G.2.1 0, 59, .inl (gR))) := hgR
    have h_T := hfr.at (by rintro (q | q); cases q; rcases hns with z | z <;> rw [z] at q <;> cases q) h_T
    have h_H := hfr.at (by rintro (q | q); cases q; rcases hns with z | z <;> rw [z] at q <;> cases q) h_H
    have h_C := hfr.at (by rintro (q | q); cases q; rcases hns with z | z <;> rw [z] at q <;> cases q) h_C
    have hF := hF.trans hfr (fun k hk => hk.elim (fun q => Or.inl q) (fun q => Or.inr (Or.inr (Or.inr q))))
    refine W.eq (g2 := F0 m_ 167 ls [.int (bI ((c_one t 5 (true, p + 1) σ k).1.1))]) rfl ?_
    refine g_iret hx hb hr hlk hP hS (v := (bI ((c_one t 5 (true, p + 1) σ k).1.1))) (bI_nar _) dX3_readCommand_167 ?_
    have e : cmdS t 118 (true, p + 1) σ k = c_one t 5 (true, p + 1) σ k := rfl
    rw [e]
    exact ⟨rfl, rfl, rfl, h_o, ⟨_, h_s, hTR⟩, ⟨_, _, h_H, h_C⟩, hF⟩
  · refine lv_tableIn (off := 147) (tgt := 168) hx hb dX3_readCommand_21 (by decide +kernel) (by decide +kernel) (by decide +kernel) (by decide) ?_
    refine lv_aload_n hx hb dX3_readCommand_168 rfl (lv_at hl 1 rfl) ?_
    refine lv_aload_n hx hb dX3_readCommand_169 rfl (lv_at hl 2 rfl) ?_
    refine lv_bipush (v := iI 6) hx hb dX3_readCommand_170 rfl ?_
    refine g_V (As := [.ref as, .int (iI 6)]) (rest := []) hx hb hml hown hts hK hZ hP hS (m_readOneE (p := p + 1) l G _ _ _ h_o h_s h_T hns hX hT hA (by omega)) 2 (lw_V q1625 q1627 qs32 q59 q1628) h_o gk2 (by decide +kernel) (by decide) (by decide) rfl hl.1 rfl (Nat.le_of_ble_eq_true rfl) dX3_readCommand_172 (fun v ω kc_8 ks_8 H locs q_8 hP hS => ?_)
    obtain ⟨rfl, rfl, rfl, hh_o, ⟨gR, hgR, hTR⟩, hfr⟩ := q_8
    have h_o : ω (1, 0) = some (o, .inr (2, [.int rf, .ref aT, .int (iI ((t.length : Int))), .ref aN, .ref aR, .ref aD, .int ac, .ref aK, .ref aI, .ref aH, .ref aC, .int (iI (((c_e t (true, p + 1) σ k).1.2 : Int))), .int (iI (((c_e t (true, p + 1) σ k).2.2 : Int)))])) := hh_o
    have h_s : ω ns = some (as, .inl (G.2.1 0, 59, .inl (gR))) := hgR
    have h_T := hfr.at (by rintro (q | q); cases q; rcases hns with z | z <;> rw [z] at q <;> cases q) h_T
    have h_H := hfr.at (by rintro (q | q); cases q; rcases hns with z | z <;> rw [z] at q <;> cases q) h_H
    have h_C := hfr.at (by rintro (q | q); cases q; rcases hns with z | z <;> rw [z] at q <;> cases q) h_C
    have hF := hF.trans hfr (fun k hk => hk.elim (fun q => Or.inl q) (fun q => Or.inr (Or.inr (Or.inr q))))
    refine W.eq (g2 := F0 m_ 175 ls [.int (bI ((c_e t (true, p + 1) σ k).1.1))]) rfl ?_
    refine g_iret hx hb hr hlk hP hS (v := (bI ((c_e t (true, p + 1) σ k).1.1))) (bI_nar _) dX3_readCommand_175 ?_
    have e : cmdS t 101 (true, p + 1) σ k = c_e t (true, p + 1) σ k := rfl
    rw [e]
    exact ⟨rfl, rfl, rfl, h_o, ⟨_, h_s, hTR⟩, ⟨_, _, h_H, h_C⟩, hF⟩
  · refine lv_tableIn (off := 155) (tgt := 176) hx hb dX3_readCommand_21 (by decide +kernel) (by decide +kernel) (by decide +kernel) (by decide) ?_
    refine lv_aload_n hx hb dX3_readCommand_176 rfl (lv_at hl 1 rfl) ?_
    refine lv_aload_n hx hb dX3_readCommand_177 rfl (lv_at hl 2 rfl) ?_
    refine lv_bipush (v := iI 7) hx hb dX3_readCommand_178 rfl ?_
    refine g_V (As := [.ref as, .int (iI 7)]) (rest := []) hx hb hml hown hts hK hZ hP hS (m_readOne (kd := 7) (p := p + 1) l G _ _ _ h_o h_s h_T hns hX hT hA (by omega) (by decide) (by decide)) 2 (lw_V q1625 q1627 qs32 q59 q1628) h_o gk2 (by decide +kernel) (by decide) (by decide) rfl hl.1 rfl (Nat.le_of_ble_eq_true rfl) dX3_readCommand_180 (fun v ω kc_9 ks_9 H locs q_9 hP hS => ?_)
    obtain ⟨rfl, rfl, rfl, hh_o, ⟨gR, hgR, hTR⟩, hfr⟩ := q_9
    have h_o : ω (1, 0) = some (o, .inr (2, [.int rf, .ref aT, .int (iI ((t.length : Int))), .ref aN, .ref aR, .ref aD, .int ac, .ref aK, .ref aI, .ref aH, .ref aC, .int (iI (((c_one t 7 (true, p + 1) σ k).1.2 : Int))), .int (iI (((c_one t 7 (true, p + 1) σ k).2.2 : Int)))])) := hh_o
    have h_s : ω ns = some (as, .inl (G.2.1 0, 59, .inl (gR))) := hgR
    have h_T := hfr.at (by rintro (q | q); cases q; rcases hns with z | z <;> rw [z] at q <;> cases q) h_T
    have h_H := hfr.at (by rintro (q | q); cases q; rcases hns with z | z <;> rw [z] at q <;> cases q) h_H
    have h_C := hfr.at (by rintro (q | q); cases q; rcases hns with z | z <;> rw [z] at q <;> cases q) h_C
    have hF := hF.trans hfr (fun k hk => hk.elim (fun q => Or.inl q) (fun q => Or.inr (Or.inr (Or.inr q))))
    refine W.eq (g2 := F0 m_ 183 ls [.int (bI ((c_one t 7 (true, p + 1) σ k).1.1))]) rfl ?_
    refine g_iret hx hb hr hlk hP hS (v := (bI ((c_one t 7 (true, p + 1) σ k).1.1))) (bI_nar _) dX3_readCommand_183 ?_
    have e : cmdS t 117 (true, p + 1) σ k = c_one t 7 (true, p + 1) σ k := rfl
    rw [e]
    exact ⟨rfl, rfl, rfl, h_o, ⟨_, h_s, hTR⟩, ⟨_, _, h_H, h_C⟩, hF⟩
  · refine lv_tableIn (off := 163) (tgt := 184) hx hb dX3_readCommand_21 (by decide +kernel) (by decide +kernel) (by decide +kernel) (by decide) ?_
    refine lv_aload_n hx hb dX3_readCommand_184 rfl (lv_at hl 1 rfl) ?_
    refine lv_iconst (v := iI 0) hx hb dX3_readCommand_185 rfl ?_
    refine lv_bipush (v := iI 10) hx hb dX3_readCommand_186 rfl ?_
    refine lv_iconst (v := iI 0) hx hb dX3_readCommand_188 rfl ?_
    refine lv_bipush (v := iI 11) hx hb dX3_readCommand_189 rfl ?_
    refine g_V (As := [.int (iI 0), .int (iI 10), .int (iI 0), .int (iI 11)]) (rest := []) hx hb hml hown hts hK hZ hP hS (m_fig2 l G _ _ _ ((0, true, p + 1)) h_o h_T hX (Nat.zero_le _) (by decide) (by decide) (by show p + 1 ≤ 120; omega) (lo := 0) (hi := 11)) 4 (lw_V q1599 q1601 qs28 q59 q1602) h_o gk2 (by decide +kernel) (by decide) (by decide) rfl hl.1 rfl (Nat.le_of_ble_eq_true rfl) dX3_readCommand_191 (fun v ω kc_10 ks_10 H locs q_10 hP hS => ?_)
    obtain ⟨rfl, rfl, rfl, hh_o, hfr⟩ := q_10
    have h_o : ω (1, 0) = some (o, .inr (2, [.int rf, .ref aT, .int (iI ((t.length : Int))), .ref aN, .ref aR, .ref aD, .int ac, .ref aK, .ref aI, .ref aH, .ref aC, .int (iI ((((twoS t (true, p + 1) 0 11)).2.2 : Int))), .int (iI ((k : Int)))])) := hh_o
    have h_s := hfr.at (by rcases hns with rfl | rfl <;> decide) h_s
    have h_T := hfr.at (by decide) h_T
    have h_H := hfr.at (by decide) h_H
    have h_C := hfr.at (by decide) h_C
    have hF := hF.trans hfr (fun k hk => Or.inl hk)
    refine W.eq (g2 := F0 m_ 194 ls [.int (iI (mv ((twoS t (true, p + 1) 0 11))))]) rfl ?_
    refine lv_istore_n (lv' := [(3, .int (iI (mv ((twoS t (true, p + 1) 0 11))))), (2, .int (iI 114)), (0, .ref o), (1, .ref as)]) hx hb dX3_readCommand_194 rfl hl (by decide) rfl (fun ls hl => ?_)
    refine lv_iload_n hx hb dX3_readCommand_195 rfl (lv_at hl 0 rfl) ?_
    refine lv_iconst (v := iI (-1)) hx hb dX3_readCommand_196 rfl ?_
    refine g_icmp_eq (tgt := 239) hx hb dX3_readCommand_197 (by decide) (by have := mv_rng (show (twoS t (true, p + 1) 0 11).1 ≤ 999 by omega); omega) (by omega) (fun c_197 => ?_) (fun c_197 => ?_)
    · refine lv_iconst (v := iI 0) hx hb dX3_readCommand_239 rfl ?_
      refine g_iret hx hb hr hlk hP hS (v := (iI 0)) rfl dX3_readCommand_240 ?_
      have e0 : cmdS t 114 (true, p + 1) σ k = c_r t (true, p + 1) σ k := rfl
      have e : c_r t (true, p + 1) σ k = ((twoS t (true, p + 1) 0 11).2, σ, k) := by unfold c_r; exact mkS_no (mv_f.mp c_197)
      rw [e0, e]
      exact ⟨bI_2 (mv_f.mp c_197), rfl, rfl, h_o, ⟨_, h_s, hT⟩, ⟨_, _, h_H, h_C⟩, hF⟩
    · have hg1 := mv_ne c_197
      refine lv_aload_n hx hb dX3_readCommand_200 rfl (lv_at hl 2 rfl) ?_
      refine lv_aload_n hx hb dX3_readCommand_201 rfl (lv_at hl 3 rfl) ?_
      refine lv_iload_n hx hb dX3_readCommand_202 rfl (lv_at hl 0 rfl) ?_
      refine g_top (w := .int (iI (((twoS t (true, p + 1) 0 11).1 : Int)))) (by rw [mv_t hg1]) ?_
      refine g_S (As := [.ref as, .int (iI (((twoS t (true, p + 1) 0 11).1 : Int)))]) (rest := [.ref o]) hx hb hml hown hts hK hZ hP hS (m_isList l G _ _ _ h_s hT.1 hn12 (by omega)) 2 (lw_S q1618 q1619 q59 q1620) (by decide +kernel) (by decide) (by decide) rfl hl.1 rfl (Nat.le_of_ble_eq_true rfl) dX3_readCommand_203 (fun v ω kc_11 ks_11 H locs q_11 hP hS => ?_)
      obtain ⟨rfl, rfl, rfl, rfl⟩ := q_11
      refine W.eq (g2 := F0 m_ 206 ls [.int (bI (decide (0 ≤ ((twoS t (true, p + 1) 0 11).1 : Int) ∧ ((twoS t (true, p + 1) 0 11).1 : Int) ≤ (σ.1.length : Int) - 1))), .ref o]) rfl ?_
      refine g_ifz_eq (tgt := 228) hx hb dX3_readCommand_206 (by decide) (fun c_206 => ?_) (fun c_206 => ?_)
      · refine lv_iconst (v := iI 0) hx hb dX3_readCommand_228 rfl ?_
        refine g_top (w := .int (bI false)) rfl ?_
        refine g_V (As := [.int (bI false)]) (rest := []) hx hb hml hown hts hK hZ hP hS (m_done_false l G _ _ _ h_o) 1 (lw_V q1610 q1612 qs29 q59 q1613) h_o gk2 (by decide +kernel) (by decide) (by decide) rfl hl.1 rfl (Nat.le_of_ble_eq_true rfl) dX3_readCommand_229 (fun v ω kc_12 ks_12 H locs q_12 hP hS => ?_)
        obtain ⟨rfl, rfl, rfl, hh_o, hfr⟩ := q_12
        have h_o : ω (1, 0) = some (o, .inr (2, [.int rf, .ref aT, .int (iI ((t.length : Int))), .ref aN, .ref aR, .ref aD, .int ac, .ref aK, .ref aI, .ref aH, .ref aC, .int (iI ((((twoS t (true, p + 1) 0 11)).2.2 : Int))), .int (iI (((k + 1 : Nat) : Int)))])) := hh_o
        have h_s := hfr.at (by rcases hns with rfl | rfl <;> decide) h_s
        have h_T := hfr.at (by decide) h_T
        have h_H := hfr.at (by decide) h_H
        have h_C := hfr.at (by decide) h_C
        have hF := hF.trans hfr (fun k hk => Or.inl hk)
        refine W.eq (g2 := F0 m_ 232 ls [.int (bI true)]) rfl ?_
        refine g_ifz_eq (tgt := 239) hx hb dX3_readCommand_232 (by decide) (fun c_232 => absurd c_232 (by decide)) (fun c_232 => ?_)
        refine lv_iconst (v := iI 1) hx hb dX3_readCommand_235 rfl ?_
        refine lv_goto (tgt := 240) hx hb dX3_readCommand_236 (by decide) ?_
        refine g_iret hx hb hr hlk hP hS (v := (iI 1)) rfl dX3_readCommand_240 ?_
        have e0 : cmdS t 114 (true, p + 1) σ k = c_r t (true, p + 1) σ k := rfl
        have e : c_r t (true, p + 1) σ k = ((twoS t (true, p + 1) 0 11).2, σ, k + 1) := by unfold c_r; exact mkS_not (mv_ne c_197) (by have z1 := of_decide_eq_false c_206; rw [← Bool.not_eq_true]; simp only [isL, roomR, Bool.and_eq_true, decide_eq_true_eq]; omega)
        rw [e0, e]
        exact ⟨bI_1 (mv_ne c_197), rfl, rfl, h_o, ⟨_, h_s, hT⟩, ⟨_, _, h_H, h_C⟩, hF⟩
      · refine lv_aload_n hx hb dX3_readCommand_209 rfl (lv_at hl 3 rfl) ?_
        refine lv_iconst (v := iI 1) hx hb dX3_readCommand_210 rfl ?_
        refine g_iald hx hb hK hP h_s 1 (by first | rfl | omega) (by first | decide | omega) (by first | decide | omega) (v := .int (iI ((σ.2.1.length : Int)))) (by rw [hT.2.1]) dX3_readCommand_211 ?_
        refine lv_iconst (v := iI 4) hx hb dX3_readCommand_212 rfl ?_
        refine g_icmp_ge (tgt := 228) hx hb dX3_readCommand_213 (by decide) (by omega) (by omega) (fun c_213 => ?_) (fun c_213 => ?_)
        · refine lv_iconst (v := iI 0) hx hb dX3_readCommand_228 rfl ?_
          refine g_top (w := .int (bI false)) rfl ?_
          refine g_V (As := [.int (bI false)]) (rest := []) hx hb hml hown hts hK hZ hP hS (m_done_false l G _ _ _ h_o) 1 (lw_V q1610 q1612 qs29 q59 q1613) h_o gk2 (by decide +kernel) (by decide) (by decide) rfl hl.1 rfl (Nat.le_of_ble_eq_true rfl) dX3_readCommand_229 (fun v ω kc_13 ks_13 H locs q_13 hP hS => ?_)
          obtain ⟨rfl, rfl, rfl, hh_o, hfr⟩ := q_13
          have h_o : ω (1, 0) = some (o, .inr (2, [.int rf, .ref aT, .int (iI ((t.length : Int))), .ref aN, .ref aR, .ref aD, .int ac, .ref aK, .ref aI, .ref aH, .ref aC, .int (iI ((((twoS t (true, p + 1) 0 11)).2.2 : Int))), .int (iI (((k + 1 : Nat) : Int)))])) := hh_o
          have h_s := hfr.at (by rcases hns with rfl | rfl <;> decide) h_s
          have h_T := hfr.at (by decide) h_T
          have h_H := hfr.at (by decide) h_H
          have h_C := hfr.at (by decide) h_C
          have hF := hF.trans hfr (fun k hk => Or.inl hk)
          refine W.eq (g2 := F0 m_ 232 ls [.int (bI true)]) rfl ?_
          refine g_ifz_eq (tgt := 239) hx hb dX3_readCommand_232 (by decide) (fun c_232 => absurd c_232 (by decide)) (fun c_232 => ?_)
          refine lv_iconst (v := iI 1) hx hb dX3_readCommand_235 rfl ?_
          refine lv_goto (tgt := 240) hx hb dX3_readCommand_236 (by decide) ?_
          refine g_iret hx hb hr hlk hP hS (v := (iI 1)) rfl dX3_readCommand_240 ?_
          have e0 : cmdS t 114 (true, p + 1) σ k = c_r t (true, p + 1) σ k := rfl
          have e : c_r t (true, p + 1) σ k = ((twoS t (true, p + 1) 0 11).2, σ, k + 1) := by unfold c_r; exact mkS_not (mv_ne c_197) (by have z1 := of_decide_eq_true c_206; rw [← Bool.not_eq_true]; simp only [isL, roomR, Bool.and_eq_true, decide_eq_true_eq]; omega)
          rw [e0, e]
          exact ⟨bI_1 (mv_ne c_197), rfl, rfl, h_o, ⟨_, h_s, hT⟩, ⟨_, _, h_H, h_C⟩, hF⟩
        · refine lv_aload_n hx hb dX3_readCommand_216 rfl (lv_at hl 3 rfl) ?_
          refine lv_iload_n hx hb dX3_readCommand_217 rfl (lv_at hl 0 rfl) ?_
          refine g_top (w := .int (iI (((twoS t (true, p + 1) 0 11).1 : Int)))) (by rw [mv_t hg1]) ?_
          refine g_S (As := [.ref as, .int (iI (((twoS t (true, p + 1) 0 11).1 : Int)))]) (rest := [.ref o]) hx hb hml hown hts hK hZ hP hS (m_begin (k := (twoS t (true, p + 1) 0 11).1) l G _ _ _ h_s hT hn12 (by omega)) 2 (lw_S q1629 q1630 q59 q1631) (by decide +kernel) (by decide) (by decide) rfl hl.1 rfl (Nat.le_of_ble_eq_true rfl) dX3_readCommand_218 (fun v ω kc_14 ks_14 H locs q_14 hP hS => ?_)
          obtain ⟨rfl, rfl, rfl, ⟨gM, hgM, hTM⟩, hfr⟩ := q_14
          have h_o := hfr.at (by rintro rfl; rcases hns with q | q <;> cases q) h_o
          have h_s : ω ns = some (as, .inl (G.2.1 0, 59, .inl (gM))) := hgM
          have h_T := hfr.at (by rintro rfl; rcases hns with q | q <;> cases q) h_T
          have h_H := hfr.at (by rintro rfl; rcases hns with q | q <;> cases q) h_H
          have h_C := hfr.at (by rintro rfl; rcases hns with q | q <;> cases q) h_C
          have hF := hF.trans hfr (fun k hk => Or.inr (Or.inr (Or.inr hk)))
          refine W.eq (g2 := F0 m_ 221 ls [.int (iI ((σ.2.1.length : Int))), .ref o]) rfl ?_
          refine g_if_lt (tgt := 228) hx hb dX3_readCommand_221 (by decide) (by omega) (fun c_221 => ?_) (fun c_221 => ?_)
          · exact absurd c_221 (by omega)
          · refine lv_iconst (v := iI 1) hx hb dX3_readCommand_224 rfl ?_
            refine lv_goto (tgt := 229) hx hb dX3_readCommand_225 (by decide) ?_
            refine g_top (w := .int (bI true)) rfl ?_
            refine g_V (As := [.int (bI true)]) (rest := []) hx hb hml hown hts hK hZ hP hS (m_done_true l G _ _ _ h_o) 1 (lw_V q1610 q1612 qs29 q59 q1613) h_o gk2 (by decide +kernel) (by decide) (by decide) rfl hl.1 rfl (Nat.le_of_ble_eq_true rfl) dX3_readCommand_229 (fun v ω kc_15 ks_15 H locs q_15 hP hS => ?_)
            obtain ⟨rfl, rfl, rfl, hh_o, hfr⟩ := q_15
            have h_o : ω (1, 0) = some (o, .inr (2, [.int rf, .ref aT, .int (iI ((t.length : Int))), .ref aN, .ref aR, .ref aD, .int ac, .ref aK, .ref aI, .ref aH, .ref aC, .int (iI ((((twoS t (true, p + 1) 0 11)).2.2 : Int))), .int (iI ((k : Int)))])) := hh_o
            have h_s := hfr.at (by rcases hns with rfl | rfl <;> decide) h_s
            have h_T := hfr.at (by decide) h_T
            have h_H := hfr.at (by decide) h_H
            have h_C := hfr.at (by decide) h_C
            have hF := hF.trans hfr (fun k hk => Or.inl hk)
            refine W.eq (g2 := F0 m_ 232 ls [.int (bI true)]) rfl ?_
            refine g_ifz_eq (tgt := 239) hx hb dX3_readCommand_232 (by decide) (fun c_232 => absurd c_232 (by decide)) (fun c_232 => ?_)
            refine lv_iconst (v := iI 1) hx hb dX3_readCommand_235 rfl ?_
            refine lv_goto (tgt := 240) hx hb dX3_readCommand_236 (by decide) ?_
            refine g_iret hx hb hr hlk hP hS (v := (iI 1)) rfl dX3_readCommand_240 ?_
            have e0 : cmdS t 114 (true, p + 1) σ k = c_r t (true, p + 1) σ k := rfl
            have e : c_r t (true, p + 1) σ k = ((twoS t (true, p + 1) 0 11).2, a_begin σ (twoS t (true, p + 1) 0 11).1, k) := by unfold c_r; exact mkS_can (mv_ne c_197) (by have z1 := of_decide_eq_true c_206; simp only [isL, roomR, Bool.and_eq_true, decide_eq_true_eq]; omega)
            rw [e0, e]
            exact ⟨bI_1 (mv_ne c_197), rfl, rfl, h_o, ⟨_, h_s, hTM⟩, ⟨_, _, h_H, h_C⟩, hF⟩
  · refine lv_tableIn (off := 220) (tgt := 241) hx hb dX3_readCommand_21 (by decide +kernel) (by decide +kernel) (by decide +kernel) (by decide) ?_
    refine lv_aload_n hx hb dX3_readCommand_241 rfl (lv_at hl 1 rfl) ?_
    refine lv_aload_n hx hb dX3_readCommand_242 rfl (lv_at hl 2 rfl) ?_
    refine lv_iload_n hx hb dX3_readCommand_243 rfl (lv_at hl 0 rfl) ?_
    refine g_V (As := [.ref as, .int (iI 110)]) (rest := []) hx hb hml hown hts hK hZ hP hS (m_readReaderN (p := p + 1) l G _ _ _ h_o h_s h_T h_H h_C hns hX hT hA (by omega)) 2 (lw_V q1632 q1634 qs33 q59 q1635) h_o gk2 (by decide +kernel) (by decide) (by decide) rfl hl.1 rfl (Nat.le_of_ble_eq_true rfl) dX3_readCommand_244 (fun v ω kc_16 ks_16 H locs q_16 hP hS => ?_)
    obtain ⟨rfl, rfl, rfl, hh_o, ⟨gR, hgR, hTR⟩, ⟨haR, crR, hgH, hgC⟩, hfr⟩ := q_16
    have h_o : ω (1, 0) = some (o, .inr (2, [.int rf, .ref aT, .int (iI ((t.length : Int))), .ref aN, .ref aR, .ref aD, .int ac, .ref aK, .ref aI, .ref aH, .ref aC, .int (iI (((c_n t (true, p + 1) σ k).1.2 : Int))), .int (iI (((c_n t (true, p + 1) σ k).2.2 : Int)))])) := hh_o
    have h_s : ω ns = some (as, .inl (G.2.1 0, 59, .inl (gR))) := hgR
    have h_T := hfr.at (by rintro (q | q | q | q); cases q; cases q; cases q; rcases hns with z | z <;> rw [z] at q <;> cases q) h_T
    have h_H : ω (1, 7) = some (aH, .inl (G.2.1 1, 12000, .inl (haR))) := hgH
    have h_C : ω (1, 8) = some (aC, .inl (G.2.1 1, 1000, .inl (crR))) := hgC
    have hF := hF.trans hfr (fun k hk => hk)
    refine W.eq (g2 := F0 m_ 247 ls [.int (bI ((c_n t (true, p + 1) σ k).1.1))]) rfl ?_
    refine g_iret hx hb hr hlk hP hS (v := (bI ((c_n t (true, p + 1) σ k).1.1))) (bI_nar _) dX3_readCommand_247 ?_
    have e : cmdS t 110 (true, p + 1) σ k = c_n t (true, p + 1) σ k := rfl
    rw [e]
    exact ⟨rfl, rfl, rfl, h_o, ⟨_, h_s, hTR⟩, ⟨_, _, h_H, h_C⟩, hF⟩
  · refine lv_tableIn (off := 220) (tgt := 241) hx hb dX3_readCommand_21 (by decide +kernel) (by decide +kernel) (by decide +kernel) (by decide) ?_
    refine lv_aload_n hx hb dX3_readCommand_241 rfl (lv_at hl 1 rfl) ?_
    refine lv_aload_n hx hb dX3_readCommand_242 rfl (lv_at hl 2 rfl) ?_
    refine lv_iload_n hx hb dX3_readCommand_243 rfl (lv_at hl 0 rfl) ?_
    refine g_V (As := [.ref as, .int (iI 107)]) (rest := []) hx hb hml hown hts hK hZ hP hS (m_readReaderK (p := p + 1) l G _ _ _ h_o h_s h_T h_H h_C hns hX hT hA (by omega)) 2 (lw_V q1632 q1634 qs33 q59 q1635) h_o gk2 (by decide +kernel) (by decide) (by decide) rfl hl.1 rfl (Nat.le_of_ble_eq_true rfl) dX3_readCommand_244 (fun v ω kc_17 ks_17 H locs q_17 hP hS => ?_)
    obtain ⟨rfl, rfl, rfl, hh_o, ⟨gR, hgR, hTR⟩, ⟨haR, crR, hgH, hgC⟩, hfr⟩ := q_17
    have h_o : ω (1, 0) = some (o, .inr (2, [.int rf, .ref aT, .int (iI ((t.length : Int))), .ref aN, .ref aR, .ref aD, .int ac, .ref aK, .ref aI, .ref aH, .ref aC, .int (iI (((c_k t (true, p + 1) σ k).1.2 : Int))), .int (iI (((c_k t (true, p + 1) σ k).2.2 : Int)))])) := hh_o
    have h_s : ω ns = some (as, .inl (G.2.1 0, 59, .inl (gR))) := hgR
    have h_T := hfr.at (by rintro (q | q | q | q); cases q; cases q; cases q; rcases hns with z | z <;> rw [z] at q <;> cases q) h_T
    have h_H : ω (1, 7) = some (aH, .inl (G.2.1 1, 12000, .inl (haR))) := hgH
    have h_C : ω (1, 8) = some (aC, .inl (G.2.1 1, 1000, .inl (crR))) := hgC
    have hF := hF.trans hfr (fun k hk => hk)
    refine W.eq (g2 := F0 m_ 247 ls [.int (bI ((c_k t (true, p + 1) σ k).1.1))]) rfl ?_
    refine g_iret hx hb hr hlk hP hS (v := (bI ((c_k t (true, p + 1) σ k).1.1))) (bI_nar _) dX3_readCommand_247 ?_
    have e : cmdS t 107 (true, p + 1) σ k = c_k t (true, p + 1) σ k := rfl
    rw [e]
    exact ⟨rfl, rfl, rfl, h_o, ⟨_, h_s, hTR⟩, ⟨_, _, h_H, h_C⟩, hF⟩
  · refine lv_tableIn (off := 220) (tgt := 241) hx hb dX3_readCommand_21 (by decide +kernel) (by decide +kernel) (by decide +kernel) (by decide) ?_
    refine lv_aload_n hx hb dX3_readCommand_241 rfl (lv_at hl 1 rfl) ?_
    refine lv_aload_n hx hb dX3_readCommand_242 rfl (lv_at hl 2 rfl) ?_
    refine lv_iload_n hx hb dX3_readCommand_243 rfl (lv_at hl 0 rfl) ?_
    refine g_V (As := [.ref as, .int (iI 122)]) (rest := []) hx hb hml hown hts hK hZ hP hS (m_readReaderZ (p := p + 1) l G _ _ _ h_o h_s h_T h_H h_C hns hX hT hA (by omega)) 2 (lw_V q1632 q1634 qs33 q59 q1635) h_o gk2 (by decide +kernel) (by decide) (by decide) rfl hl.1 rfl (Nat.le_of_ble_eq_true rfl) dX3_readCommand_244 (fun v ω kc_18 ks_18 H locs q_18 hP hS => ?_)
    obtain ⟨rfl, rfl, rfl, hh_o, ⟨gR, hgR, hTR⟩, ⟨haR, crR, hgH, hgC⟩, hfr⟩ := q_18
    have h_o : ω (1, 0) = some (o, .inr (2, [.int rf, .ref aT, .int (iI ((t.length : Int))), .ref aN, .ref aR, .ref aD, .int ac, .ref aK, .ref aI, .ref aH, .ref aC, .int (iI (((c_z t (true, p + 1) σ k).1.2 : Int))), .int (iI (((c_z t (true, p + 1) σ k).2.2 : Int)))])) := hh_o
    have h_s : ω ns = some (as, .inl (G.2.1 0, 59, .inl (gR))) := hgR
    have h_T := hfr.at (by rintro (q | q | q | q); cases q; cases q; cases q; rcases hns with z | z <;> rw [z] at q <;> cases q) h_T
    have h_H : ω (1, 7) = some (aH, .inl (G.2.1 1, 12000, .inl (haR))) := hgH
    have h_C : ω (1, 8) = some (aC, .inl (G.2.1 1, 1000, .inl (crR))) := hgC
    have hF := hF.trans hfr (fun k hk => hk)
    refine W.eq (g2 := F0 m_ 247 ls [.int (bI ((c_z t (true, p + 1) σ k).1.1))]) rfl ?_
    refine g_iret hx hb hr hlk hP hS (v := (bI ((c_z t (true, p + 1) σ k).1.1))) (bI_nar _) dX3_readCommand_247 ?_
    have e : cmdS t 122 (true, p + 1) σ k = c_z t (true, p + 1) σ k := rfl
    rw [e]
    exact ⟨rfl, rfl, rfl, h_o, ⟨_, h_s, hTR⟩, ⟨_, _, h_H, h_C⟩, hF⟩
  · refine lv_tableIn (off := 220) (tgt := 241) hx hb dX3_readCommand_21 (by decide +kernel) (by decide +kernel) (by decide +kernel) (by decide) ?_
    refine lv_aload_n hx hb dX3_readCommand_241 rfl (lv_at hl 1 rfl) ?_
    refine lv_aload_n hx hb dX3_readCommand_242 rfl (lv_at hl 2 rfl) ?_
    refine lv_iload_n hx hb dX3_readCommand_243 rfl (lv_at hl 0 rfl) ?_
    refine g_V (As := [.ref as, .int (iI 113)]) (rest := []) hx hb hml hown hts hK hZ hP hS (m_readReaderQ (p := p + 1) l G _ _ _ h_o h_s h_T h_H h_C hns hX hT hA (by omega)) 2 (lw_V q1632 q1634 qs33 q59 q1635) h_o gk2 (by decide +kernel) (by decide) (by decide) rfl hl.1 rfl (Nat.le_of_ble_eq_true rfl) dX3_readCommand_244 (fun v ω kc_19 ks_19 H locs q_19 hP hS => ?_)
    obtain ⟨rfl, rfl, rfl, hh_o, ⟨gR, hgR, hTR⟩, ⟨haR, crR, hgH, hgC⟩, hfr⟩ := q_19
    have h_o : ω (1, 0) = some (o, .inr (2, [.int rf, .ref aT, .int (iI ((t.length : Int))), .ref aN, .ref aR, .ref aD, .int ac, .ref aK, .ref aI, .ref aH, .ref aC, .int (iI (((c_q t (true, p + 1) σ k).1.2 : Int))), .int (iI (((c_q t (true, p + 1) σ k).2.2 : Int)))])) := hh_o
    have h_s : ω ns = some (as, .inl (G.2.1 0, 59, .inl (gR))) := hgR
    have h_T := hfr.at (by rintro (q | q | q | q); cases q; cases q; cases q; rcases hns with z | z <;> rw [z] at q <;> cases q) h_T
    have h_H : ω (1, 7) = some (aH, .inl (G.2.1 1, 12000, .inl (haR))) := hgH
    have h_C : ω (1, 8) = some (aC, .inl (G.2.1 1, 1000, .inl (crR))) := hgC
    have hF := hF.trans hfr (fun k hk => hk)
    refine W.eq (g2 := F0 m_ 247 ls [.int (bI ((c_q t (true, p + 1) σ k).1.1))]) rfl ?_
    refine g_iret hx hb hr hlk hP hS (v := (bI ((c_q t (true, p + 1) σ k).1.1))) (bI_nar _) dX3_readCommand_247 ?_
    have e : cmdS t 113 (true, p + 1) σ k = c_q t (true, p + 1) σ k := rfl
    rw [e]
    exact ⟨rfl, rfl, rfl, h_o, ⟨_, h_s, hTR⟩, ⟨_, _, h_H, h_C⟩, hF⟩
  · refine lv_tableIn (off := 227) (tgt := 248) hx hb dX3_readCommand_21 (by decide +kernel) (by decide +kernel) (by decide +kernel) (by decide) ?_
    refine lv_aload_n hx hb dX3_readCommand_248 rfl (lv_at hl 1 rfl) ?_
    refine lv_aload_n hx hb dX3_readCommand_249 rfl (lv_at hl 2 rfl) ?_
    refine g_S (As := [.ref as]) (rest := [.ref o]) hx hb hml hown hts hK hZ hP hS (m_reason l G _ _ _ h_s hT hn12 hA.2.2.1 (fun i y hy => by have := (hA.2.2.2 i y hy).1; omega)) 1 (lw_S q1700 q1701 q59 q1702) (by decide +kernel) (by decide) (by decide) rfl hl.1 rfl (Nat.le_of_ble_eq_true rfl) dX3_readCommand_250 (fun v ω kc_20 ks_20 H locs q_20 hP hS => ?_)
    obtain ⟨rfl, rfl, rfl, rfl⟩ := q_20
    refine W.eq (g2 := F0 m_ 253 ls [.int (iI ((a_why σ : Int))), .ref o]) rfl ?_
    refine g_if_ne (tgt := 267) hx hb dX3_readCommand_253 (by decide) (by have := why_le σ; omega) (fun c_253 => ?_) (fun c_253 => ?_)
    · refine lv_iconst (v := iI 0) hx hb dX3_readCommand_267 rfl ?_
      refine g_top (w := .int (bI false)) rfl ?_
      refine g_V (As := [.int (bI false)]) (rest := []) hx hb hml hown hts hK hZ hP hS (m_done_false l G _ _ _ h_o) 1 (lw_V q1610 q1612 qs29 q59 q1613) h_o gk2 (by decide +kernel) (by decide) (by decide) rfl hl.1 rfl (Nat.le_of_ble_eq_true rfl) dX3_readCommand_268 (fun v ω kc_21 ks_21 H locs q_21 hP hS => ?_)
      obtain ⟨rfl, rfl, rfl, hh_o, hfr⟩ := q_21
      have h_o : ω (1, 0) = some (o, .inr (2, [.int rf, .ref aT, .int (iI ((t.length : Int))), .ref aN, .ref aR, .ref aD, .int ac, .ref aK, .ref aI, .ref aH, .ref aC, .int (iI (((p + 1 : Nat) : Int))), .int (iI (((k + 1 : Nat) : Int)))])) := hh_o
      have h_s := hfr.at (by rcases hns with rfl | rfl <;> decide) h_s
      have h_T := hfr.at (by decide) h_T
      have h_H := hfr.at (by decide) h_H
      have h_C := hfr.at (by decide) h_C
      have hF := hF.trans hfr (fun k hk => Or.inl hk)
      refine W.eq (g2 := F0 m_ 271 ls [.int (bI true)]) rfl ?_
      refine g_iret hx hb hr hlk hP hS (v := (bI true)) (bI_nar _) dX3_readCommand_271 ?_
      have e0 : cmdS t 100 (true, p + 1) σ k = c_d (true, p + 1) σ k := rfl
      have e : c_d (true, p + 1) σ k = ((true, p + 1), σ, k + 1) := mkS_not rfl (decide_eq_false (by omega))
      rw [e0, e]
      exact ⟨rfl, rfl, rfl, h_o, ⟨_, h_s, hT⟩, ⟨_, _, h_H, h_C⟩, hF⟩
    · have hwy : a_why σ = 0 := by omega
      refine lv_aload_n hx hb dX3_readCommand_256 rfl (lv_at hl 2 rfl) ?_
      refine g_S (As := [.ref as]) (rest := [.ref o]) hx hb hml hown hts hK hZ hP hS (m_drop (σ := σ) l G _ _ _ h_s hT hn12 (why_0 hwy).1) 1 (lw_S q1703 q1704 q59 q1705) (by decide +kernel) (by decide) (by decide) rfl hl.1 rfl (Nat.le_of_ble_eq_true rfl) dX3_readCommand_257 (fun v ω kc_22 ks_22 H locs q_22 hP hS => ?_)
      obtain ⟨rfl, rfl, rfl, ⟨gM, hgM, hTM⟩, hfr⟩ := q_22
      have h_o := hfr.at (by rintro rfl; rcases hns with q | q <;> cases q) h_o
      have h_s : ω ns = some (as, .inl (G.2.1 0, 59, .inl (gM))) := hgM
      have h_T := hfr.at (by rintro rfl; rcases hns with q | q <;> cases q) h_T
      have h_H := hfr.at (by rintro rfl; rcases hns with q | q <;> cases q) h_H
      have h_C := hfr.at (by rintro rfl; rcases hns with q | q <;> cases q) h_C
      have hF := hF.trans hfr (fun k hk => Or.inr (Or.inr (Or.inr hk)))
      refine W.eq (g2 := F0 m_ 260 ls [.int (iI (((σ.1.length - 1 : Nat) : Int))), .ref o]) rfl ?_
      refine g_if_lt (tgt := 267) hx hb dX3_readCommand_260 (by decide) (by omega) (fun c_260 => ?_) (fun c_260 => ?_)
      · exact absurd c_260 (by omega)
      · refine lv_iconst (v := iI 1) hx hb dX3_readCommand_263 rfl ?_
        refine lv_goto (tgt := 268) hx hb dX3_readCommand_264 (by decide) ?_
        refine g_top (w := .int (bI true)) rfl ?_
        refine g_V (As := [.int (bI true)]) (rest := []) hx hb hml hown hts hK hZ hP hS (m_done_true l G _ _ _ h_o) 1 (lw_V q1610 q1612 qs29 q59 q1613) h_o gk2 (by decide +kernel) (by decide) (by decide) rfl hl.1 rfl (Nat.le_of_ble_eq_true rfl) dX3_readCommand_268 (fun v ω kc_23 ks_23 H locs q_23 hP hS => ?_)
        obtain ⟨rfl, rfl, rfl, hh_o, hfr⟩ := q_23
        have h_o : ω (1, 0) = some (o, .inr (2, [.int rf, .ref aT, .int (iI ((t.length : Int))), .ref aN, .ref aR, .ref aD, .int ac, .ref aK, .ref aI, .ref aH, .ref aC, .int (iI (((p + 1 : Nat) : Int))), .int (iI ((k : Int)))])) := hh_o
        have h_s := hfr.at (by rcases hns with rfl | rfl <;> decide) h_s
        have h_T := hfr.at (by decide) h_T
        have h_H := hfr.at (by decide) h_H
        have h_C := hfr.at (by decide) h_C
        have hF := hF.trans hfr (fun k hk => Or.inl hk)
        refine W.eq (g2 := F0 m_ 271 ls [.int (bI true)]) rfl ?_
        refine g_iret hx hb hr hlk hP hS (v := (bI true)) (bI_nar _) dX3_readCommand_271 ?_
        have e0 : cmdS t 100 (true, p + 1) σ k = c_d (true, p + 1) σ k := rfl
        have e : c_d (true, p + 1) σ k = ((true, p + 1), a_drop σ, k) := mkS_can rfl (decide_eq_true hwy)
        rw [e0, e]
        exact ⟨rfl, rfl, rfl, h_o, ⟨_, h_s, hTM⟩, ⟨_, _, h_H, h_C⟩, hF⟩
  · refine lv_tableIn (off := 251) (tgt := 272) hx hb dX3_readCommand_21 (by decide +kernel) (by decide +kernel) (by decide +kernel) (by decide) ?_
    refine lv_aload_n hx hb dX3_readCommand_272 rfl (lv_at hl 1 rfl) ?_
    refine lv_dup hx hb dX3_readCommand_273 rfl ?_
    refine g_get hx hb hown hts hK hP h_o gk2 11 (by decide) q1534 (fun _ h => h) rfl dX3_readCommand_274 ?_
    refine lv_iconst (v := iI 1) hx hb dX3_readCommand_277 rfl ?_
    refine g_isub hx hb dX3_readCommand_278 (z := (p : Int)) (by omega) ?_
    refine g_put hx hb hown hts hK hP hS h_o gk2 11 (by decide) q1534 (fun _ h => h) rfl rfl rfl (Nat.le_of_ble_eq_true rfl) dX3_readCommand_279 (fun ω H locs e_24 n_24 hP hS => ?_)
    have h_o : ω (1, 0) = some (o, .inr (2, [.int rf, .ref aT, .int (iI ((t.length : Int))), .ref aN, .ref aR, .ref aD, .int ac, .ref aK, .ref aI, .ref aH, .ref aC, .int (iI ((p : Int))), .int (iI ((k : Int)))])) := e_24
    have h_s := (n_24 _ (by rcases hns with rfl | rfl <;> decide)).trans h_s
    have h_T := (n_24 _ (by decide)).trans h_T
    have h_H := (n_24 _ (by decide)).trans h_H
    have h_C := (n_24 _ (by decide)).trans h_C
    have hF := hF.put n_24 (by first | exact Or.inl rfl | exact Or.inr (Or.inl rfl) | exact Or.inr (Or.inr (Or.inl rfl)) | exact Or.inr (Or.inr (Or.inr rfl)))
    refine lv_iconst (v := iI 0) hx hb dX3_readCommand_282 rfl ?_
    refine g_iret hx hb hr hlk hP hS (v := (iI 0)) rfl dX3_readCommand_283 ?_
    have e : cmdS t 102 (true, p + 1) σ k = ((false, p), σ, k) := rfl
    rw [e]
    exact ⟨rfl, rfl, rfl, h_o, ⟨_, h_s, hT⟩, ⟨_, _, h_H, h_C⟩, hF⟩
  · refine lv_tableIn (off := 251) (tgt := 272) hx hb dX3_readCommand_21 (by decide +kernel) (by decide +kernel) (by decide +kernel) (by decide) ?_
    refine lv_aload_n hx hb dX3_readCommand_272 rfl (lv_at hl 1 rfl) ?_
    refine lv_dup hx hb dX3_readCommand_273 rfl ?_
    refine g_get hx hb hown hts hK hP h_o gk2 11 (by decide) q1534 (fun _ h => h) rfl dX3_readCommand_274 ?_
    refine lv_iconst (v := iI 1) hx hb dX3_readCommand_277 rfl ?_
    refine g_isub hx hb dX3_readCommand_278 (z := (p : Int)) (by omega) ?_
    refine g_put hx hb hown hts hK hP hS h_o gk2 11 (by decide) q1534 (fun _ h => h) rfl rfl rfl (Nat.le_of_ble_eq_true rfl) dX3_readCommand_279 (fun ω H locs e_25 n_25 hP hS => ?_)
    have h_o : ω (1, 0) = some (o, .inr (2, [.int rf, .ref aT, .int (iI ((t.length : Int))), .ref aN, .ref aR, .ref aD, .int ac, .ref aK, .ref aI, .ref aH, .ref aC, .int (iI ((p : Int))), .int (iI ((k : Int)))])) := e_25
    have h_s := (n_25 _ (by rcases hns with rfl | rfl <;> decide)).trans h_s
    have h_T := (n_25 _ (by decide)).trans h_T
    have h_H := (n_25 _ (by decide)).trans h_H
    have h_C := (n_25 _ (by decide)).trans h_C
    have hF := hF.put n_25 (by first | exact Or.inl rfl | exact Or.inr (Or.inl rfl) | exact Or.inr (Or.inr (Or.inl rfl)) | exact Or.inr (Or.inr (Or.inr rfl)))
    refine lv_iconst (v := iI 0) hx hb dX3_readCommand_282 rfl ?_
    refine g_iret hx hb hr hlk hP hS (v := (iI 0)) rfl dX3_readCommand_283 ?_
    have e : cmdS t 103 (true, p + 1) σ k = ((false, p), σ, k) := rfl
    rw [e]
    exact ⟨rfl, rfl, rfl, h_o, ⟨_, h_s, hT⟩, ⟨_, _, h_H, h_C⟩, hF⟩
  · refine lv_tableIn (off := 251) (tgt := 272) hx hb dX3_readCommand_21 (by decide +kernel) (by decide +kernel) (by decide +kernel) (by decide) ?_
    refine lv_aload_n hx hb dX3_readCommand_272 rfl (lv_at hl 1 rfl) ?_
    refine lv_dup hx hb dX3_readCommand_273 rfl ?_
    refine g_get hx hb hown hts hK hP h_o gk2 11 (by decide) q1534 (fun _ h => h) rfl dX3_readCommand_274 ?_
    refine lv_iconst (v := iI 1) hx hb dX3_readCommand_277 rfl ?_
    refine g_isub hx hb dX3_readCommand_278 (z := (p : Int)) (by omega) ?_
    refine g_put hx hb hown hts hK hP hS h_o gk2 11 (by decide) q1534 (fun _ h => h) rfl rfl rfl (Nat.le_of_ble_eq_true rfl) dX3_readCommand_279 (fun ω H locs e_26 n_26 hP hS => ?_)
    have h_o : ω (1, 0) = some (o, .inr (2, [.int rf, .ref aT, .int (iI ((t.length : Int))), .ref aN, .ref aR, .ref aD, .int ac, .ref aK, .ref aI, .ref aH, .ref aC, .int (iI ((p : Int))), .int (iI ((k : Int)))])) := e_26
    have h_s := (n_26 _ (by rcases hns with rfl | rfl <;> decide)).trans h_s
    have h_T := (n_26 _ (by decide)).trans h_T
    have h_H := (n_26 _ (by decide)).trans h_H
    have h_C := (n_26 _ (by decide)).trans h_C
    have hF := hF.put n_26 (by first | exact Or.inl rfl | exact Or.inr (Or.inl rfl) | exact Or.inr (Or.inr (Or.inl rfl)) | exact Or.inr (Or.inr (Or.inr rfl)))
    refine lv_iconst (v := iI 0) hx hb dX3_readCommand_282 rfl ?_
    refine g_iret hx hb hr hlk hP hS (v := (iI 0)) rfl dX3_readCommand_283 ?_
    have e : cmdS t 105 (true, p + 1) σ k = ((false, p), σ, k) := rfl
    rw [e]
    exact ⟨rfl, rfl, rfl, h_o, ⟨_, h_s, hT⟩, ⟨_, _, h_H, h_C⟩, hF⟩
  · refine lv_tableIn (off := 251) (tgt := 272) hx hb dX3_readCommand_21 (by decide +kernel) (by decide +kernel) (by decide +kernel) (by decide) ?_
    refine lv_aload_n hx hb dX3_readCommand_272 rfl (lv_at hl 1 rfl) ?_
    refine lv_dup hx hb dX3_readCommand_273 rfl ?_
    refine g_get hx hb hown hts hK hP h_o gk2 11 (by decide) q1534 (fun _ h => h) rfl dX3_readCommand_274 ?_
    refine lv_iconst (v := iI 1) hx hb dX3_readCommand_277 rfl ?_
    refine g_isub hx hb dX3_readCommand_278 (z := (p : Int)) (by omega) ?_
    refine g_put hx hb hown hts hK hP hS h_o gk2 11 (by decide) q1534 (fun _ h => h) rfl rfl rfl (Nat.le_of_ble_eq_true rfl) dX3_readCommand_279 (fun ω H locs e_27 n_27 hP hS => ?_)
    have h_o : ω (1, 0) = some (o, .inr (2, [.int rf, .ref aT, .int (iI ((t.length : Int))), .ref aN, .ref aR, .ref aD, .int ac, .ref aK, .ref aI, .ref aH, .ref aC, .int (iI ((p : Int))), .int (iI ((k : Int)))])) := e_27
    have h_s := (n_27 _ (by rcases hns with rfl | rfl <;> decide)).trans h_s
    have h_T := (n_27 _ (by decide)).trans h_T
    have h_H := (n_27 _ (by decide)).trans h_H
    have h_C := (n_27 _ (by decide)).trans h_C
    have hF := hF.put n_27 (by first | exact Or.inl rfl | exact Or.inr (Or.inl rfl) | exact Or.inr (Or.inr (Or.inl rfl)) | exact Or.inr (Or.inr (Or.inr rfl)))
    refine lv_iconst (v := iI 0) hx hb dX3_readCommand_282 rfl ?_
    refine g_iret hx hb hr hlk hP hS (v := (iI 0)) rfl dX3_readCommand_283 ?_
    have e : cmdS t 108 (true, p + 1) σ k = ((false, p), σ, k) := rfl
    rw [e]
    exact ⟨rfl, rfl, rfl, h_o, ⟨_, h_s, hT⟩, ⟨_, _, h_H, h_C⟩, hF⟩
  · refine lv_tableIn (off := 251) (tgt := 272) hx hb dX3_readCommand_21 (by decide +kernel) (by decide +kernel) (by decide +kernel) (by decide) ?_
    refine lv_aload_n hx hb dX3_readCommand_272 rfl (lv_at hl 1 rfl) ?_
    refine lv_dup hx hb dX3_readCommand_273 rfl ?_
    refine g_get hx hb hown hts hK hP h_o gk2 11 (by decide) q1534 (fun _ h => h) rfl dX3_readCommand_274 ?_
    refine lv_iconst (v := iI 1) hx hb dX3_readCommand_277 rfl ?_
    refine g_isub hx hb dX3_readCommand_278 (z := (p : Int)) (by omega) ?_
    refine g_put hx hb hown hts hK hP hS h_o gk2 11 (by decide) q1534 (fun _ h => h) rfl rfl rfl (Nat.le_of_ble_eq_true rfl) dX3_readCommand_279 (fun ω H locs e_28 n_28 hP hS => ?_)
    have h_o : ω (1, 0) = some (o, .inr (2, [.int rf, .ref aT, .int (iI ((t.length : Int))), .ref aN, .ref aR, .ref aD, .int ac, .ref aK, .ref aI, .ref aH, .ref aC, .int (iI ((p : Int))), .int (iI ((k : Int)))])) := e_28
    have h_s := (n_28 _ (by rcases hns with rfl | rfl <;> decide)).trans h_s
    have h_T := (n_28 _ (by decide)).trans h_T
    have h_H := (n_28 _ (by decide)).trans h_H
    have h_C := (n_28 _ (by decide)).trans h_C
    have hF := hF.put n_28 (by first | exact Or.inl rfl | exact Or.inr (Or.inl rfl) | exact Or.inr (Or.inr (Or.inl rfl)) | exact Or.inr (Or.inr (Or.inr rfl)))
    refine lv_iconst (v := iI 0) hx hb dX3_readCommand_282 rfl ?_
    refine g_iret hx hb hr hlk hP hS (v := (iI 0)) rfl dX3_readCommand_283 ?_
    have e : cmdS t 109 (true, p + 1) σ k = ((false, p), σ, k) := rfl
    rw [e]
    exact ⟨rfl, rfl, rfl, h_o, ⟨_, h_s, hT⟩, ⟨_, _, h_H, h_C⟩, hF⟩
  · refine lv_tableIn (off := 251) (tgt := 272) hx hb dX3_readCommand_21 (by decide +kernel) (by decide +kernel) (by decide +kernel) (by decide) ?_
    refine lv_aload_n hx hb dX3_readCommand_272 rfl (lv_at hl 1 rfl) ?_
    refine lv_dup hx hb dX3_readCommand_273 rfl ?_
    refine g_get hx hb hown hts hK hP h_o gk2 11 (by decide) q1534 (fun _ h => h) rfl dX3_readCommand_274 ?_
    refine lv_iconst (v := iI 1) hx hb dX3_readCommand_277 rfl ?_
    refine g_isub hx hb dX3_readCommand_278 (z := (p : Int)) (by omega) ?_
    refine g_put hx hb hown hts hK hP hS h_o gk2 11 (by decide) q1534 (fun _ h => h) rfl rfl rfl (Nat.le_of_ble_eq_true rfl) dX3_readCommand_279 (fun ω H locs e_29 n_29 hP hS => ?_)
    have h_o : ω (1, 0) = some (o, .inr (2, [.int rf, .ref aT, .int (iI ((t.length : Int))), .ref aN, .ref aR, .ref aD, .int ac, .ref aK, .ref aI, .ref aH, .ref aC, .int (iI ((p : Int))), .int (iI ((k : Int)))])) := e_29
    have h_s := (n_29 _ (by rcases hns with rfl | rfl <;> decide)).trans h_s
    have h_T := (n_29 _ (by decide)).trans h_T
    have h_H := (n_29 _ (by decide)).trans h_H
    have h_C := (n_29 _ (by decide)).trans h_C
    have hF := hF.put n_29 (by first | exact Or.inl rfl | exact Or.inr (Or.inl rfl) | exact Or.inr (Or.inr (Or.inl rfl)) | exact Or.inr (Or.inr (Or.inr rfl)))
    refine lv_iconst (v := iI 0) hx hb dX3_readCommand_282 rfl ?_
    refine g_iret hx hb hr hlk hP hS (v := (iI 0)) rfl dX3_readCommand_283 ?_
    have e : cmdS t 111 (true, p + 1) σ k = ((false, p), σ, k) := rfl
    rw [e]
    exact ⟨rfl, rfl, rfl, h_o, ⟨_, h_s, hT⟩, ⟨_, _, h_H, h_C⟩, hF⟩
  · refine lv_tableIn (off := 251) (tgt := 272) hx hb dX3_readCommand_21 (by decide +kernel) (by decide +kernel) (by decide +kernel) (by decide) ?_
    refine lv_aload_n hx hb dX3_readCommand_272 rfl (lv_at hl 1 rfl) ?_
    refine lv_dup hx hb dX3_readCommand_273 rfl ?_
    refine g_get hx hb hown hts hK hP h_o gk2 11 (by decide) q1534 (fun _ h => h) rfl dX3_readCommand_274 ?_
    refine lv_iconst (v := iI 1) hx hb dX3_readCommand_277 rfl ?_
    refine g_isub hx hb dX3_readCommand_278 (z := (p : Int)) (by omega) ?_
    refine g_put hx hb hown hts hK hP hS h_o gk2 11 (by decide) q1534 (fun _ h => h) rfl rfl rfl (Nat.le_of_ble_eq_true rfl) dX3_readCommand_279 (fun ω H locs e_30 n_30 hP hS => ?_)
    have h_o : ω (1, 0) = some (o, .inr (2, [.int rf, .ref aT, .int (iI ((t.length : Int))), .ref aN, .ref aR, .ref aD, .int ac, .ref aK, .ref aI, .ref aH, .ref aC, .int (iI ((p : Int))), .int (iI ((k : Int)))])) := e_30
    have h_s := (n_30 _ (by rcases hns with rfl | rfl <;> decide)).trans h_s
    have h_T := (n_30 _ (by decide)).trans h_T
    have h_H := (n_30 _ (by decide)).trans h_H
    have h_C := (n_30 _ (by decide)).trans h_C
    have hF := hF.put n_30 (by first | exact Or.inl rfl | exact Or.inr (Or.inl rfl) | exact Or.inr (Or.inr (Or.inl rfl)) | exact Or.inr (Or.inr (Or.inr rfl)))
    refine lv_iconst (v := iI 0) hx hb dX3_readCommand_282 rfl ?_
    refine g_iret hx hb hr hlk hP hS (v := (iI 0)) rfl dX3_readCommand_283 ?_
    have e : cmdS t 112 (true, p + 1) σ k = ((false, p), σ, k) := rfl
    rw [e]
    exact ⟨rfl, rfl, rfl, h_o, ⟨_, h_s, hT⟩, ⟨_, _, h_H, h_C⟩, hF⟩
  · refine lv_tableIn (off := 251) (tgt := 272) hx hb dX3_readCommand_21 (by decide +kernel) (by decide +kernel) (by decide +kernel) (by decide) ?_
    refine lv_aload_n hx hb dX3_readCommand_272 rfl (lv_at hl 1 rfl) ?_
    refine lv_dup hx hb dX3_readCommand_273 rfl ?_
    refine g_get hx hb hown hts hK hP h_o gk2 11 (by decide) q1534 (fun _ h => h) rfl dX3_readCommand_274 ?_
    refine lv_iconst (v := iI 1) hx hb dX3_readCommand_277 rfl ?_
    refine g_isub hx hb dX3_readCommand_278 (z := (p : Int)) (by omega) ?_
    refine g_put hx hb hown hts hK hP hS h_o gk2 11 (by decide) q1534 (fun _ h => h) rfl rfl rfl (Nat.le_of_ble_eq_true rfl) dX3_readCommand_279 (fun ω H locs e_31 n_31 hP hS => ?_)
    have h_o : ω (1, 0) = some (o, .inr (2, [.int rf, .ref aT, .int (iI ((t.length : Int))), .ref aN, .ref aR, .ref aD, .int ac, .ref aK, .ref aI, .ref aH, .ref aC, .int (iI ((p : Int))), .int (iI ((k : Int)))])) := e_31
    have h_s := (n_31 _ (by rcases hns with rfl | rfl <;> decide)).trans h_s
    have h_T := (n_31 _ (by decide)).trans h_T
    have h_H := (n_31 _ (by decide)).trans h_H
    have h_C := (n_31 _ (by decide)).trans h_C
    have hF := hF.put n_31 (by first | exact Or.inl rfl | exact Or.inr (Or.inl rfl) | exact Or.inr (Or.inr (Or.inl rfl)) | exact Or.inr (Or.inr (Or.inr rfl)))
    refine lv_iconst (v := iI 0) hx hb dX3_readCommand_282 rfl ?_
    refine g_iret hx hb hr hlk hP hS (v := (iI 0)) rfl dX3_readCommand_283 ?_
    have e : cmdS t 116 (true, p + 1) σ k = ((false, p), σ, k) := rfl
    rw [e]
    exact ⟨rfl, rfl, rfl, h_o, ⟨_, h_s, hT⟩, ⟨_, _, h_H, h_C⟩, hF⟩
  · refine lv_tableIn (off := 251) (tgt := 272) hx hb dX3_readCommand_21 (by decide +kernel) (by decide +kernel) (by decide +kernel) (by decide) ?_
    refine lv_aload_n hx hb dX3_readCommand_272 rfl (lv_at hl 1 rfl) ?_
    refine lv_dup hx hb dX3_readCommand_273 rfl ?_
    refine g_get hx hb hown hts hK hP h_o gk2 11 (by decide) q1534 (fun _ h => h) rfl dX3_readCommand_274 ?_
    refine lv_iconst (v := iI 1) hx hb dX3_readCommand_277 rfl ?_
    refine g_isub hx hb dX3_readCommand_278 (z := (p : Int)) (by omega) ?_
    refine g_put hx hb hown hts hK hP hS h_o gk2 11 (by decide) q1534 (fun _ h => h) rfl rfl rfl (Nat.le_of_ble_eq_true rfl) dX3_readCommand_279 (fun ω H locs e_32 n_32 hP hS => ?_)
    have h_o : ω (1, 0) = some (o, .inr (2, [.int rf, .ref aT, .int (iI ((t.length : Int))), .ref aN, .ref aR, .ref aD, .int ac, .ref aK, .ref aI, .ref aH, .ref aC, .int (iI ((p : Int))), .int (iI ((k : Int)))])) := e_32
    have h_s := (n_32 _ (by rcases hns with rfl | rfl <;> decide)).trans h_s
    have h_T := (n_32 _ (by decide)).trans h_T
    have h_H := (n_32 _ (by decide)).trans h_H
    have h_C := (n_32 _ (by decide)).trans h_C
    have hF := hF.put n_32 (by first | exact Or.inl rfl | exact Or.inr (Or.inl rfl) | exact Or.inr (Or.inr (Or.inl rfl)) | exact Or.inr (Or.inr (Or.inr rfl)))
    refine lv_iconst (v := iI 0) hx hb dX3_readCommand_282 rfl ?_
    refine g_iret hx hb hr hlk hP hS (v := (iI 0)) rfl dX3_readCommand_283 ?_
    have e : cmdS t 121 (true, p + 1) σ k = ((false, p), σ, k) := rfl
    rw [e]
    exact ⟨rfl, rfl, rfl, h_o, ⟨_, h_s, hT⟩, ⟨_, _, h_H, h_C⟩, hF⟩
  · refine lv_tableOut (tgt := 272) hx hb dX3_readCommand_21 (by rw [iI_toInt (by omega)]; omega) (by decide) ?_
    refine lv_aload_n hx hb dX3_readCommand_272 rfl (lv_at hl 1 rfl) ?_
    refine lv_dup hx hb dX3_readCommand_273 rfl ?_
    refine g_get hx hb hown hts hK hP h_o gk2 11 (by decide) q1534 (fun _ h => h) rfl dX3_readCommand_274 ?_
    refine lv_iconst (v := iI 1) hx hb dX3_readCommand_277 rfl ?_
    refine g_isub hx hb dX3_readCommand_278 (z := (p : Int)) (by omega) ?_
    refine g_put hx hb hown hts hK hP hS h_o gk2 11 (by decide) q1534 (fun _ h => h) rfl rfl rfl (Nat.le_of_ble_eq_true rfl) dX3_readCommand_279 (fun ω H locs e_33 n_33 hP hS => ?_)
    have h_o : ω (1, 0) = some (o, .inr (2, [.int rf, .ref aT, .int (iI ((t.length : Int))), .ref aN, .ref aR, .ref aD, .int ac, .ref aK, .ref aI, .ref aH, .ref aC, .int (iI ((p : Int))), .int (iI ((k : Int)))])) := e_33
    have h_s := (n_33 _ (by rcases hns with rfl | rfl <;> decide)).trans h_s
    have h_T := (n_33 _ (by decide)).trans h_T
    have h_H := (n_33 _ (by decide)).trans h_H
    have h_C := (n_33 _ (by decide)).trans h_C
    have hF := hF.put n_33 (by first | exact Or.inl rfl | exact Or.inr (Or.inl rfl) | exact Or.inr (Or.inr (Or.inl rfl)) | exact Or.inr (Or.inr (Or.inr rfl)))
    refine lv_iconst (v := iI 0) hx hb dX3_readCommand_282 rfl ?_
    refine g_iret hx hb hr hlk hP hS (v := (iI 0)) rfl dX3_readCommand_283 ?_
    have e : cmdS t c (true, p + 1) σ k = ((false, p), σ, k) := cmdS_out hno
    rw [e]
    exact ⟨rfl, rfl, rfl, h_o, ⟨_, h_s, hT⟩, ⟨_, _, h_H, h_C⟩, hF⟩

set_option maxHeartbeats 4000000 in
theorem m_readText (l : Launch) (G : GT) (ω0 : Om) (kc ks : Nat) {o aT aN aR aD aK aI aH aC : Nat} {rf ac sp sk : Int32} {ns : Nm} {as : Nat} {f : Nat → Int32} {tx : Nat → Int32} {t : List Nat} {ha cr : Nat → Int32} (h_o : ω0 (1, 0) = some (o, .inr (2, [.int rf, .ref aT, .int (iI ((t.length : Int))), .ref aN, .ref aR, .ref aD, .int ac, .ref aK, .ref aI, .ref aH, .ref aC, .int sp, .int sk]))) (h_s : ω0 ns = some (as, .inl (G.2.1 0, 59, .inl (f)))) (h_T : ω0 (1, 1) = some (aT, .inl (G.2.1 0, 120, .inl (tx)))) (h_H : ω0 (1, 7) = some (aH, .inl (G.2.1 1, 12000, .inl (ha)))) (h_C : ω0 (1, 8) = some (aC, .inl (G.2.1 1, 1000, .inl (cr)))) (hns : ns = (1, 2) ∨ ns = (1, 3)) (hX : TX tx t) : Ct l G yX3_readText cX3_readText 2 (some .int) 7 150 [.ref o, .ref as] ω0 kc ks (fun v ω' kc' ks' => v = some (.int (iI (a_err t))) ∧ kc = kc' ∧ ks = ks' ∧ (∃ q : Int, ω' (1, 0) = some (o, .inr (2, [.int rf, .ref aT, .int (iI ((t.length : Int))), .ref aN, .ref aR, .ref aD, .int ac, .ref aK, .ref aI, .ref aH, .ref aC, .int (iI q), .int (iI (((parseS t).2.2 : Int)))]))) ∧ (∃ g : Nat → Int32, ω' ns = some (as, .inl (G.2.1 0, 59, .inl (g))) ∧ ((parseS t).1.1 = true → Tab g (parseS t).2.1)) ∧ (∃ ha' cr' : Nat → Int32, ω' (1, 7) = some (aH, .inl (G.2.1 1, 12000, .inl (ha'))) ∧ ω' (1, 8) = some (aC, .inl (G.2.1 1, 1000, .inl (cr')))) ∧ Fr (fun k => k = (1, 0) ∨ k = (1, 7) ∨ k = (1, 8) ∨ k = ns) ω0 ω') := by
  refine Ct.start (by decide) (Nat.le_of_ble_eq_true rfl) ?_
  intro p_ e_ s m_ below_ meth_ c_m H locs ls hx hb hr hlk hml hown hnm hts hK hZ hP hS hl
  have hown : s.vm.findClass RX3 = some m_.cls := hown
  have hl : lv_has ls 2 [(0, .ref o), (1, .ref as)] := hl
  have hF : Fr ((fun k => k = (1, 0) ∨ k = (1, 7) ∨ k = (1, 8) ∨ k = ns)) ω0 ω0 := Fr.rf
  have ht120 := hX.2.2
  refine lv_aload_n hx hb dX3_readText_0 rfl (lv_at hl 1 rfl) ?_
  refine g_S (As := [.ref as]) (rest := []) hx hb hml hown hts hK hZ hP hS (m_clear l G _ _ _ h_s) 1 (lw_S q1520 q1521 q59 q1522) (by decide +kernel) (by decide) (by decide) rfl hl.1 rfl (Nat.le_of_ble_eq_true rfl) dX3_readText_1 (fun v ω kc_1 ks_1 H locs q_1 hP hS => ?_)
  obtain ⟨rfl, rfl, rfl, ⟨g0, hg0, hz0⟩, hfr⟩ := q_1
  have h_o := hfr.at (by rintro rfl; rcases hns with q | q <;> cases q) h_o
  have h_s : ω ns = some (as, .inl (G.2.1 0, 59, .inl (g0))) := hg0
  have h_T := hfr.at (by rintro rfl; rcases hns with q | q <;> cases q) h_T
  have h_H := hfr.at (by rintro rfl; rcases hns with q | q <;> cases q) h_H
  have h_C := hfr.at (by rintro rfl; rcases hns with q | q <;> cases q) h_C
  have hF := hF.trans hfr (fun k hk => Or.inr (Or.inr (Or.inr hk)))
  have hT0 : Tab g0 (([], [], iI 0) : AS) := ⟨hz0 0 (by decide), hz0 1 (by decide), hz0 2 (by decide), fun k x hx => by simp at hx, fun i y hy => by simp at hy⟩
  refine W.eq (g2 := F0 m_ 4 ls []) rfl ?_
  refine lv_aload_n hx hb dX3_readText_4 rfl (lv_at hl 0 rfl) ?_
  refine lv_iconst (v := iI 0) hx hb dX3_readText_5 rfl ?_
  refine g_put hx hb hown hts hK hP hS h_o gk2 12 (by decide) q1535 (fun _ h => h) rfl rfl rfl (Nat.le_of_ble_eq_true rfl) dX3_readText_6 (fun ω H locs e_2 n_2 hP hS => ?_)
  have h_o : ω (1, 0) = some (o, .inr (2, [.int rf, .ref aT, .int (iI ((t.length : Int))), .ref aN, .ref aR, .ref aD, .int ac, .ref aK, .ref aI, .ref aH, .ref aC, .int sp, .int (iI 0)])) := e_2
  have h_s := (n_2 _ (by rcases hns with rfl | rfl <;> decide)).trans h_s
  have h_T := (n_2 _ (by decide)).trans h_T
  have h_H := (n_2 _ (by decide)).trans h_H
  have h_C := (n_2 _ (by decide)).trans h_C
  have hF := hF.put n_2 (by first | exact Or.inl rfl | exact Or.inr (Or.inl rfl) | exact Or.inr (Or.inr (Or.inl rfl)) | exact Or.inr (Or.inr (Or.inr rfl)))
  refine lv_aload_n hx hb dX3_readText_9 rfl (lv_at hl 0 rfl) ?_
  refine lv_iconst (v := iI 0) hx hb dX3_readText_10 rfl ?_
  refine g_put hx hb hown hts hK hP hS h_o gk2 11 (by decide) q1534 (fun _ h => h) rfl rfl rfl (Nat.le_of_ble_eq_true rfl) dX3_readText_11 (fun ω H locs e_3 n_3 hP hS => ?_)
  have h_o : ω (1, 0) = some (o, .inr (2, [.int rf, .ref aT, .int (iI ((t.length : Int))), .ref aN, .ref aR, .ref aD, .int ac, .ref aK, .ref aI, .ref aH, .ref aC, .int (iI 0), .int (iI 0)])) := e_3
  have h_s := (n_3 _ (by rcases hns with rfl | rfl <;> decide)).trans h_s
  have h_T := (n_3 _ (by decide)).trans h_T
  have h_H := (n_3 _ (by decide)).trans h_H
  have h_C := (n_3 _ (by decide)).trans h_C
  have hF := hF.put n_3 (by first | exact Or.inl rfl | exact Or.inr (Or.inl rfl) | exact Or.inr (Or.inr (Or.inl rfl)) | exact Or.inr (Or.inr (Or.inr rfl)))
  refine lv_aload_n hx hb dX3_readText_14 rfl (lv_at hl 0 rfl) ?_
  refine g_get hx hb hown hts hK hP h_o gk2 2 (by decide) q1525 (fun _ h => h) rfl dX3_readText_15 ?_
  refine g_if_eq (tgt := 32) hx hb dX3_readText_18 (by decide) (by omega) (fun c_18 => ?_) (fun c_18 => ?_)
  · refine lv_iconst (v := iI 0) hx hb dX3_readText_32 rfl ?_
    refine g_iret hx hb hr hlk hP hS (v := (iI 0)) rfl dX3_readText_33 ?_
    have hst : pStart t = ((false, 0), ([], [], iI 0), 0) := by unfold pStart; rw [if_neg (by rw [List.getElem?_eq_none (by omega)]; simp)]
    have hpz : parseS t = ((false, 0), ([], [], iI 0), 0) := by unfold parseS; rw [hst]; exact pLoop_stop t _ (by simp)
    unfold a_err
    rw [hpz]
    exact ⟨rfl, rfl, rfl, ⟨_, h_o⟩, ⟨_, h_s, fun q => by cases q⟩, ⟨_, _, h_H, h_C⟩, hF⟩
  · obtain ⟨c0, hc0⟩ : ∃ c, t[0]? = some c := ⟨_, List.getElem?_eq_getElem (by omega)⟩
    have hc255 := hX.2.1 0 c0 hc0
    refine lv_aload_n hx hb dX3_readText_21 rfl (lv_at hl 0 rfl) ?_
    refine g_get hx hb hown hts hK hP h_o gk2 1 (by decide) q1524 (fun _ h => h) rfl dX3_readText_22 ?_
    refine lv_iconst (v := iI 0) hx hb dX3_readText_25 rfl ?_
    refine g_iald hx hb hK hP h_T 0 (by first | rfl | omega) (by first | decide | omega) (by first | decide | omega) (v := .int (iI ((c0 : Int)))) (by rw [hX.1 0 c0 hc0]) dX3_readText_26 ?_
    refine lv_bipush (v := iI 76) hx hb dX3_readText_27 rfl ?_
    refine g_icmp_eq (tgt := 34) hx hb dX3_readText_29 (by decide) (by omega) (by omega) (fun c_29 => ?_) (fun c_29 => ?_)
    · have hst : pStart t = ((true, 1), ([], [], iI 0), 0) := by unfold pStart; rw [hc0, if_pos (by congr 1; omega)]
      refine lv_aload_n hx hb dX3_readText_34 rfl (lv_at hl 0 rfl) ?_
      refine lv_iconst (v := iI 1) hx hb dX3_readText_35 rfl ?_
      refine g_put hx hb hown hts hK hP hS h_o gk2 11 (by decide) q1534 (fun _ h => h) rfl rfl rfl (Nat.le_of_ble_eq_true rfl) dX3_readText_36 (fun ω H locs e_4 n_4 hP hS => ?_)
      have h_o : ω (1, 0) = some (o, .inr (2, [.int rf, .ref aT, .int (iI ((t.length : Int))), .ref aN, .ref aR, .ref aD, .int ac, .ref aK, .ref aI, .ref aH, .ref aC, .int (iI 1), .int (iI 0)])) := e_4
      have h_s := (n_4 _ (by rcases hns with rfl | rfl <;> decide)).trans h_s
      have h_T := (n_4 _ (by decide)).trans h_T
      have h_H := (n_4 _ (by decide)).trans h_H
      have h_C := (n_4 _ (by decide)).trans h_C
      have hF := hF.put n_4 (by first | exact Or.inl rfl | exact Or.inr (Or.inl rfl) | exact Or.inr (Or.inr (Or.inl rfl)) | exact Or.inr (Or.inr (Or.inr rfl)))
      have loop_39 : ∀ (nn : Nat) (x : PS) (n : Nat) (g : Nat → Int32) (ha : Nat → Int32) (cr : Nat → Int32), (x.1.1 = true) → (x.1.2 ≤ t.length) → (t.length - x.1.2 ≤ n) → (pLoop t n x = parseS t) → (Tab g x.2.1) → (okA x.2.1) → (t.length - x.1.2) < nn → ∀ (ω : Om) (H : Heap) (locs : List Loc), ω (1, 0) = some (o, .inr (2, [.int rf, .ref aT, .int (iI ((t.length : Int))), .ref aN, .ref aR, .ref aD, .int ac, .ref aK, .ref aI, .ref aH, .ref aC, .int (iI ((x.1.2 : Int))), .int (iI ((x.2.2 : Int)))])) → ω ns = some (as, .inl (G.2.1 0, 59, .inl (g))) → ω (1, 1) = some (aT, .inl (G.2.1 0, 120, .inl (tx))) → ω (1, 7) = some (aH, .inl (G.2.1 1, 12000, .inl (ha))) → ω (1, 8) = some (aC, .inl (G.2.1 1, 1000, .inl (cr))) → Fr ((fun k => k = (1, 0) ∨ k = (1, 7) ∨ k = (1, 8) ∨ k = ns)) ω0 ω → Hp G ω kc ks H → va_S (gA G) s.heap H locs →  ∀ ls : Array Slot, lv_has ls 2 [(0, .ref o), (1, .ref as)] → gW p_ l e_ G 7 150 s m_ [.ref o, .ref as] below_ meth_ c_m (fun v ω' kc' ks' => v = some (.int (iI (a_err t))) ∧ kc = kc' ∧ ks = ks' ∧ (∃ q : Int, ω' (1, 0) = some (o, .inr (2, [.int rf, .ref aT, .int (iI ((t.length : Int))), .ref aN, .ref aR, .ref aD, .int ac, .ref aK, .ref aI, .ref aH, .ref aC, .int (iI q), .int (iI (((parseS t).2.2 : Int)))]))) ∧ (∃ g : Nat → Int32, ω' ns = some (as, .inl (G.2.1 0, 59, .inl (g))) ∧ ((parseS t).1.1 = true → Tab g (parseS t).2.1)) ∧ (∃ ha' cr' : Nat → Int32, ω' (1, 7) = some (aH, .inl (G.2.1 1, 12000, .inl (ha'))) ∧ ω' (1, 8) = some (aC, .inl (G.2.1 1, 1000, .inl (cr')))) ∧ Fr (fun k => k = (1, 0) ∨ k = (1, 7) ∨ k = (1, 8) ∨ k = ns) ω0 ω') H locs 39 ls [] := by
        intro nn
        induction nn with
        | zero => intro x n g ha cr hx0 hxp hxn hxl hTx hAx hlt; exact absurd hlt (Nat.not_lt_zero _)
        | succ nn ih_39 =>
          intro x n g ha cr hx0 hxp hxn hxl hTx hAx hlt ω H locs h_o h_s h_T h_H h_C hF hP hS ls hl
          refine lv_aload_n hx hb dX3_readText_39 rfl (lv_at hl 0 rfl) ?_
          refine g_get hx hb hown hts hK hP h_o gk2 11 (by decide) q1534 (fun _ h => h) rfl dX3_readText_40 ?_
          refine lv_aload_n hx hb dX3_readText_43 rfl (lv_at hl 0 rfl) ?_
          refine g_get hx hb hown hts hK hP h_o gk2 2 (by decide) q1525 (fun _ h => h) rfl dX3_readText_44 ?_
          refine g_icmp_ge (tgt := 63) hx hb dX3_readText_47 (by decide) (by omega) (by omega) (fun c_47 => ?_) (fun c_47 => ?_)
          · have hxs := (pLoop_stop t n (x := x) (by rintro ⟨-, q⟩; omega)).symm.trans hxl
            refine lv_iconst (v := iI (-1)) hx hb dX3_readText_63 rfl ?_
            refine g_iret hx hb hr hlk hP hS (v := (iI (-1))) rfl dX3_readText_64 ?_
            unfold a_err
            rw [← hxs]
            exact ⟨so_i (by rw [hx0]; rfl), rfl, rfl, ⟨_, h_o⟩, ⟨_, h_s, fun _ => hTx⟩, ⟨_, _, h_H, h_C⟩, hF⟩
          · have hlt2 : x.1.2 < t.length := by omega
            obtain ⟨c, hc⟩ : ∃ c, t[x.1.2]? = some c := ⟨_, List.getElem?_eq_getElem hlt2⟩
            obtain ⟨n', hn', hxg⟩ := pLoop_go t ⟨hx0, hlt2⟩ hxn
            have hxg2 : pLoop t n x = pLoop t n' (cmdS t c (true, x.1.2 + 1) x.2.1 x.2.2) := by rw [hxg]; simp [List.getD, hc]
            have hcp := cmd_pos (t := t) (c := c) (p := x.1.2) (σ := x.2.1) (sk := x.2.2) (by omega)
            refine lv_aload_n hx hb dX3_readText_50 rfl (lv_at hl 0 rfl) ?_
            refine lv_aload_n hx hb dX3_readText_51 rfl (lv_at hl 1 rfl) ?_
            refine g_V (As := [.ref as]) (rest := []) hx hb hml hown hts hK hZ hP hS (m_readCommand (p := x.1.2) (k := x.2.2) l G _ _ _ h_o h_s h_T h_H h_C hns hX hTx hAx hlt2 hc) 1 (lw_V q1591 q1593 qs26 q59 q1594) h_o gk2 (by decide +kernel) (by decide) (by decide) rfl hl.1 rfl (Nat.le_of_ble_eq_true rfl) dX3_readText_52 (fun v ω kc_5 ks_5 H locs q_5 hP hS => ?_)
            obtain ⟨rfl, rfl, rfl, hh_o, ⟨gR, hgR, hTR⟩, ⟨haR, crR, hgH, hgC⟩, hfr⟩ := q_5
            have h_o : ω (1, 0) = some (o, .inr (2, [.int rf, .ref aT, .int (iI ((t.length : Int))), .ref aN, .ref aR, .ref aD, .int ac, .ref aK, .ref aI, .ref aH, .ref aC, .int (iI (((cmdS t c (true, x.1.2 + 1) x.2.1 x.2.2).1.2 : Int))), .int (iI (((cmdS t c (true, x.1.2 + 1) x.2.1 x.2.2).2.2 : Int)))])) := hh_o
            have h_s : ω ns = some (as, .inl (G.2.1 0, 59, .inl (gR))) := hgR
            have h_T := hfr.at (by rintro (q | q | q | q); cases q; cases q; cases q; rcases hns with z | z <;> rw [z] at q <;> cases q) h_T
            have h_H : ω (1, 7) = some (aH, .inl (G.2.1 1, 12000, .inl (haR))) := hgH
            have h_C : ω (1, 8) = some (aC, .inl (G.2.1 1, 1000, .inl (crR))) := hgC
            have hF := hF.trans hfr (fun k hk => hk)
            refine W.eq (g2 := F0 m_ 55 ls [.int (bI ((cmdS t c (true, x.1.2 + 1) x.2.1 x.2.2).1.1))]) rfl ?_
            refine g_ifz_ne (tgt := 39) hx hb dX3_readText_55 (by decide) (fun c_55 => ?_) (fun c_55 => ?_)
            · exact ih_39 (cmdS t c (true, x.1.2 + 1) x.2.1 x.2.2) n' gR haR crR c_55 hcp.2 (by have := hcp.1 c_55; omega) (hxg2.symm.trans hxl) hTR (cmd_okA hAx) (by have := hcp.1 c_55; omega) _ _ _ h_o h_s h_T h_H h_C hF hP hS ls (lv_sub hl [0, 1] rfl)
            · refine lv_aload_n hx hb dX3_readText_58 rfl (lv_at hl 0 rfl) ?_
              refine g_get hx hb hown hts hK hP h_o gk2 11 (by decide) q1534 (fun _ h => h) rfl dX3_readText_59 ?_
              refine g_iret hx hb hr hlk hP hS (v := (iI (((cmdS t c (true, x.1.2 + 1) x.2.1 x.2.2).1.2 : Int)))) rfl dX3_readText_62 ?_
              have hpe : parseS t = cmdS t c (true, x.1.2 + 1) x.2.1 x.2.2 := by rw [← hxl, hxg2]; exact pLoop_stop t _ (by rw [c_55]; simp)
              unfold a_err
              rw [hpe]
              exact ⟨so_i (by rw [c_55]; rfl), rfl, rfl, ⟨_, h_o⟩, ⟨_, h_s, fun _ => hTR⟩, ⟨_, _, h_H, h_C⟩, hF⟩
      exact loop_39 _ (((true, 1), ([], [], iI 0), 0)) t.length g0 ha cr rfl (by show 1 ≤ t.length; omega) (by show t.length - 1 ≤ t.length; omega) (by unfold parseS; rw [hst]) hT0 okA_0 (Nat.lt_succ_self _) _ _ _ h_o h_s h_T h_H h_C hF hP hS ls (lv_sub hl [0, 1] rfl)
    · refine lv_iconst (v := iI 0) hx hb dX3_readText_32 rfl ?_
      refine g_iret hx hb hr hlk hP hS (v := (iI 0)) rfl dX3_readText_33 ?_
      have hst : pStart t = ((false, 0), ([], [], iI 0), 0) := by unfold pStart; rw [if_neg (by rw [hc0]; intro q; injection q with q; omega)]
      have hpz : parseS t = ((false, 0), ([], [], iI 0), 0) := by unfold parseS; rw [hst]; exact pLoop_stop t _ (by simp)
      unfold a_err
      rw [hpz]
      exact ⟨rfl, rfl, rfl, ⟨_, h_o⟩, ⟨_, h_s, fun q => by cases q⟩, ⟨_, _, h_H, h_C⟩, hF⟩

