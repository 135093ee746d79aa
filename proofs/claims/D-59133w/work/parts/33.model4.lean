set_option maxHeartbeats 4000000 in
theorem m_joins (l : Launch) (G : GT) (ω0 : Om) (kc ks : Nat) {o aT aN aR aD aK aI aH aC : Nat} {rf sz ac sp sk : Int32} {ns : Nm} {as : Nat} {f : Nat → Int32} {ha : Nat → Int32} {k kd a b d : Nat} {E : Nat → Nat → Bool} (h_o : ω0 (1, 0) = some (o, .inr (2, [.int rf, .ref aT, .int sz, .ref aN, .ref aR, .ref aD, .int ac, .ref aK, .ref aI, .ref aH, .ref aC, .int sp, .int sk]))) (h_s : ω0 ns = some (as, .inl (G.2.1 0, 59, .inl (f)))) (h_H : ω0 (1, 7) = some (aH, .inl (G.2.1 1, 12000, .inl (ha)))) (hns : ns = (1, 2) ∨ ns = (1, 3)) (hk : k < 12) (hq0 : f (3 + 4 * k) = iI kd) (hq1 : f (3 + 4 * k + 1) = iI a) (hq2 : f (3 + 4 * k + 2) = iI b) (hq3 : f (3 + 4 * k + 3) = iI d) (ok : okQ k (kd, a, b, d)) (hkd : kd = 2 ∨ kd = 3 ∨ kd = 4) (hE : ∀ i, i < k → ∀ v, v < 1000 → ha (1000 * i + v) = bI (E i v)) : Ct l G yX3_joins cX3_joins 6 none 2 34 [.ref o, .ref as, .int (iI ((k : Int)))] ω0 kc ks (fun w ω' kc' ks' => w = none ∧ kc = kc' ∧ ks = ks' ∧ (∃ g : Nat → Int32, ω' (1, 7) = some (aH, .inl (G.2.1 1, 12000, .inl (g))) ∧ (∀ u, u < 1000 → g (1000 * k + u) = bI (comb (kd, a, b, d) E u)) ∧ (∀ j, (j < 1000 * k ∨ 1000 * k + 1000 ≤ j) → g j = ha j)) ∧ Fr (fun k => k = (1, 7)) ω0 ω') := by
  refine Ct.start (by decide) (Nat.le_of_ble_eq_true rfl) ?_
  intro p_ e_ s m_ below_ meth_ c_m H locs ls hx hb hr hlk hml hown hnm hts hK hZ hP hS hl
  have hown : s.vm.findClass RX3 = some m_.cls := hown
  have hl : lv_has ls 6 [(0, .ref o), (1, .ref as), (2, .int (iI ((k : Int))))] := hl
  have hF : Fr ((fun k => k = (1, 7))) ω0 ω0 := Fr.rf
  have hak : a < k := ok.2.2.2.2.2.1 (by show kd ≠ 0; omega)
  have hbk : b < k := ok.2.2.2.2.2.2.2 (by show 2 ≤ kd ∧ kd ≤ 4; omega)
  refine lv_iconst (v := iI 0) hx hb dX3_joins_0 rfl ?_
  refine lv_istore_n (lv' := [(3, .int (iI 0)), (0, .ref o), (1, .ref as), (2, .int (iI ((k : Int))))]) hx hb dX3_joins_1 rfl hl (by decide) rfl (fun ls hl => ?_)
  have loop_2 : ∀ (nn : Nat) (v : Nat) (g : Nat → Int32), (v ≤ 1000) → (∀ u, u < v → g (1000 * k + u) = bI (comb (kd, a, b, d) E u)) → ((∀ j, (j < 1000 * k ∨ 1000 * k + 1000 ≤ j) → g j = ha j)) → (1000 - v) < nn → ∀ (ω : Om) (H : Heap) (locs : List Loc), ω (1, 0) = some (o, .inr (2, [.int rf, .ref aT, .int sz, .ref aN, .ref aR, .ref aD, .int ac, .ref aK, .ref aI, .ref aH, .ref aC, .int sp, .int sk])) → ω ns = some (as, .inl (G.2.1 0, 59, .inl (f))) → ω (1, 7) = some (aH, .inl (G.2.1 1, 12000, .inl (g))) → Fr ((fun k => k = (1, 7))) ω0 ω → Hp G ω kc ks H → va_S (gA G) s.heap H locs →  ∀ ls : Array Slot, lv_has ls 6 [(0, .ref o), (1, .ref as), (2, .int (iI ((k : Int)))), (3, .int (iI ((v : Int))))] → gW p_ l e_ G 2 34 s m_ [.ref o, .ref as, .int (iI ((k : Int)))] below_ meth_ c_m (fun w ω' kc' ks' => w = none ∧ kc = kc' ∧ ks = ks' ∧ (∃ g : Nat → Int32, ω' (1, 7) = some (aH, .inl (G.2.1 1, 12000, .inl (g))) ∧ (∀ u, u < 1000 → g (1000 * k + u) = bI (comb (kd, a, b, d) E u)) ∧ (∀ j, (j < 1000 * k ∨ 1000 * k + 1000 ≤ j) → g j = ha j)) ∧ Fr (fun k => k = (1, 7)) ω0 ω') H locs 2 ls [] := by
    intro nn
    induction nn with
    | zero => intro v g hv hg1 hg2 hlt; exact absurd hlt (Nat.not_lt_zero _)
    | succ nn ih_2 =>
      intro v g hv hg1 hg2 hlt ω H locs h_o h_s h_H hF hP hS ls hl
      refine lv_iload_n hx hb dX3_joins_2 rfl (lv_at hl 3 rfl) ?_
      refine lv_sipush (v := iI 999) hx hb dX3_joins_3 rfl ?_
      refine g_icmp_gt (tgt := 111) hx hb dX3_joins_6 (by decide) (by omega) (by omega) (fun c_6 => ?_) (fun c_6 => ?_)
      · refine g_vret hx hb hr hlk hP hS dX3_joins_111 ?_
        exact ⟨rfl, rfl, rfl, ⟨g, h_H, fun u hu => hg1 u (by omega), hg2⟩, hF⟩
      · refine lv_aload_n hx hb dX3_joins_9 rfl (lv_at hl 0 rfl) ?_
        refine lv_aload_n hx hb dX3_joins_10 rfl (lv_at hl 1 rfl) ?_
        refine lv_iload_n hx hb dX3_joins_11 rfl (lv_at hl 2 rfl) ?_
        refine lv_iconst (v := iI 1) hx hb dX3_joins_12 rfl ?_
        refine g_S (As := [.ref as, .int (iI ((k : Int))), .int (iI 1)]) (rest := [.ref o]) hx hb hml hown hts hK hZ hP hS (m_of (k := k) (w := 1) l G _ _ _ h_s hk (by decide) hq1) 3 (lw_S q1640 q1641 q59 q1642) (by decide +kernel) (by decide) (by decide) rfl hl.1 rfl (Nat.le_of_ble_eq_true rfl) dX3_joins_13 (fun v ω kc_1 ks_1 H locs q_1 hP hS => ?_)
        obtain ⟨rfl, rfl, rfl, rfl⟩ := q_1
        refine W.eq (g2 := F0 m_ 16 ls [.int (iI ((a : Int))), .ref o]) rfl ?_
        refine lv_iload_n hx hb dX3_joins_16 rfl (lv_at hl 3 rfl) ?_
        refine g_V (As := [.int (iI ((a : Int))), .int (iI ((v : Int)))]) (rest := []) hx hb hml hown hts hK hZ hP hS (m_member l G _ _ _ h_o h_H (k := a) (by omega) (by omega) ((hg2 _ (Or.inl (by omega))).trans (hE a hak v (by omega)))) 2 (lw_V q1649 q1651 qs36 q59 q1652) h_o gk2 (by decide +kernel) (by decide) (by decide) rfl hl.1 rfl (Nat.le_of_ble_eq_true rfl) dX3_joins_17 (fun v ω kc_2 ks_2 H locs q_2 hP hS => ?_)
        obtain ⟨rfl, rfl, rfl, rfl⟩ := q_2
        refine W.eq (g2 := F0 m_ 20 ls [.int (bI (E a v))]) rfl ?_
        refine lv_istore (lv' := [(4, .int (bI (E a v))), (0, .ref o), (1, .ref as), (2, .int (iI ((k : Int)))), (3, .int (iI ((v : Int))))]) hx hb dX3_joins_20 hl (by decide) rfl (fun ls hl => ?_)
        refine lv_aload_n hx hb dX3_joins_22 rfl (lv_at hl 1 rfl) ?_
        refine lv_aload_n hx hb dX3_joins_23 rfl (lv_at hl 2 rfl) ?_
        refine lv_iload_n hx hb dX3_joins_24 rfl (lv_at hl 3 rfl) ?_
        refine lv_iconst (v := iI 2) hx hb dX3_joins_25 rfl ?_
        refine g_S (As := [.ref as, .int (iI ((k : Int))), .int (iI 2)]) (rest := [.ref o]) hx hb hml hown hts hK hZ hP hS (m_of (k := k) (w := 2) l G _ _ _ h_s hk (by decide) hq2) 3 (lw_S q1640 q1641 q59 q1642) (by decide +kernel) (by decide) (by decide) rfl hl.1 rfl (Nat.le_of_ble_eq_true rfl) dX3_joins_26 (fun v ω kc_3 ks_3 H locs q_3 hP hS => ?_)
        obtain ⟨rfl, rfl, rfl, rfl⟩ := q_3
        refine W.eq (g2 := F0 m_ 29 ls [.int (iI ((b : Int))), .ref o]) rfl ?_
        refine lv_iload_n hx hb dX3_joins_29 rfl (lv_at hl 4 rfl) ?_
        refine g_V (As := [.int (iI ((b : Int))), .int (iI ((v : Int)))]) (rest := []) hx hb hml hown hts hK hZ hP hS (m_member l G _ _ _ h_o h_H (k := b) (by omega) (by omega) ((hg2 _ (Or.inl (by omega))).trans (hE b hbk v (by omega)))) 2 (lw_V q1649 q1651 qs36 q59 q1652) h_o gk2 (by decide +kernel) (by decide) (by decide) rfl hl.1 rfl (Nat.le_of_ble_eq_true rfl) dX3_joins_30 (fun v ω kc_4 ks_4 H locs q_4 hP hS => ?_)
        obtain ⟨rfl, rfl, rfl, rfl⟩ := q_4
        refine W.eq (g2 := F0 m_ 33 ls [.int (bI (E b v))]) rfl ?_
        refine lv_istore (lv' := [(5, .int (bI (E b v))), (4, .int (bI (E a v))), (0, .ref o), (1, .ref as), (2, .int (iI ((k : Int)))), (3, .int (iI ((v : Int))))]) hx hb dX3_joins_33 hl (by decide) rfl (fun ls hl => ?_)
        refine lv_aload_n hx hb dX3_joins_35 rfl (lv_at hl 2 rfl) ?_
        refine g_get hx hb hown hts hK hP h_o gk2 9 (by decide) q1532 (fun _ h => h) rfl dX3_joins_36 ?_
        refine lv_sipush (v := iI 1000) hx hb dX3_joins_39 rfl ?_
        refine lv_iload_n hx hb dX3_joins_42 rfl (lv_at hl 4 rfl) ?_
        refine g_imul hx hb dX3_joins_43 rfl ?_
        refine lv_iload_n hx hb dX3_joins_44 rfl (lv_at hl 5 rfl) ?_
        refine g_iadd hx hb dX3_joins_45 (z := ((1000 * k + v : Nat) : Int)) (by omega) ?_
        refine lv_aload_n hx hb dX3_joins_46 rfl (lv_at hl 3 rfl) ?_
        refine lv_iload_n hx hb dX3_joins_47 rfl (lv_at hl 4 rfl) ?_
        refine lv_iconst (v := iI 0) hx hb dX3_joins_48 rfl ?_
        refine g_S (As := [.ref as, .int (iI ((k : Int))), .int (iI 0)]) (rest := [.int (iI (((1000 * k + v : Nat) : Int))), .ref aH]) hx hb hml hown hts hK hZ hP hS (m_of (k := k) (w := 0) l G _ _ _ h_s hk (by decide) hq0) 3 (lw_S q1640 q1641 q59 q1642) (by decide +kernel) (by decide) (by decide) rfl hl.1 rfl (Nat.le_of_ble_eq_true rfl) dX3_joins_49 (fun v ω kc_5 ks_5 H locs q_5 hP hS => ?_)
        obtain ⟨rfl, rfl, rfl, rfl⟩ := q_5
        refine W.eq (g2 := F0 m_ 52 ls [.int (iI ((kd : Int))), .int (iI (((1000 * k + v : Nat) : Int))), .ref aH]) rfl ?_
        refine lv_iconst (v := iI 2) hx hb dX3_joins_52 rfl ?_
        refine g_icmp_ne (tgt := 74) hx hb dX3_joins_53 (by decide) (by omega) (by omega) (fun c_53 => ?_) (fun c_53 => ?_)
        · refine lv_iload hx hb dX3_joins_74 (lv_at hl 1 rfl) ?_
          refine g_ifz_eq (tgt := 103) hx hb dX3_joins_76 (by decide) (fun c_76 => ?_) (fun c_76 => ?_)
          · refine lv_iconst (v := iI 0) hx hb dX3_joins_103 rfl ?_
            refine W.eq (g2 := F0 m_ 104 ls [.int (bI false), .int (iI (((1000 * k + v : Nat) : Int))), .ref aH]) rfl ?_
            refine g_zast hx hb hK hP hS h_H (1000 * k + v) (by first | rfl | omega) (by first | decide | omega) (by first | decide | omega) dX3_joins_104 (fun ω H locs e_6 n_6 hP hS => ?_)
            have h_o := (n_6 _ (by decide)).trans h_o
            have h_s := (n_6 _ (by rcases hns with rfl | rfl <;> decide)).trans h_s
            have h_H : ω (1, 7) = some (aH, .inl (G.2.1 1, 12000, .inl (upd g (1000 * k + v) (bI false)))) := e_6
            have hF := hF.put n_6 rfl
            refine lv_iinc (v := iI (((v + 1 : Nat) : Int))) (lv' := [(3, .int (iI (((v + 1 : Nat) : Int)))), (5, .int (bI (E b v))), (4, .int (bI (E a v))), (0, .ref o), (1, .ref as), (2, .int (iI ((k : Int))))]) hx hb dX3_joins_105 hl (k := 5) rfl (iI_add _ _ |>.trans (congrArg iI (by omega))) (by decide) rfl (fun ls hl => ?_)
            refine lv_goto (tgt := 2) hx hb dX3_joins_108 (by decide) ?_
            have hcb : comb (kd, a, b, d) E v = false := by rw [comb_j hkd]; simp [c_53, c_76]
            exact ih_2 (v + 1) (upd g (1000 * k + v) (bI false)) (by omega) (fun u hu => by rw [upd]; by_cases q : u = v; (subst q; rw [if_pos rfl, hcb]); (rw [if_neg (by omega)]; exact hg1 u (by omega))) (fun j hj => by rw [upd, if_neg (by omega)]; exact hg2 j hj) (by omega) _ _ _ h_o h_s h_H hF hP hS ls (lv_sub hl [3, 4, 5, 0] rfl)
          · refine lv_iload hx hb dX3_joins_79 (lv_at hl 0 rfl) ?_
            refine lv_aload_n hx hb dX3_joins_81 rfl (lv_at hl 3 rfl) ?_
            refine lv_iload_n hx hb dX3_joins_82 rfl (lv_at hl 4 rfl) ?_
            refine lv_iconst (v := iI 0) hx hb dX3_joins_83 rfl ?_
            refine g_S (As := [.ref as, .int (iI ((k : Int))), .int (iI 0)]) (rest := [.int (bI (E b v)), .int (iI (((1000 * k + v : Nat) : Int))), .ref aH]) hx hb hml hown hts hK hZ hP hS (m_of (k := k) (w := 0) l G _ _ _ h_s hk (by decide) hq0) 3 (lw_S q1640 q1641 q59 q1642) (by decide +kernel) (by decide) (by decide) rfl hl.1 rfl (Nat.le_of_ble_eq_true rfl) dX3_joins_84 (fun v ω kc_7 ks_7 H locs q_7 hP hS => ?_)
            obtain ⟨rfl, rfl, rfl, rfl⟩ := q_7
            refine W.eq (g2 := F0 m_ 87 ls [.int (iI ((kd : Int))), .int (bI (E b v)), .int (iI (((1000 * k + v : Nat) : Int))), .ref aH]) rfl ?_
            refine lv_iconst (v := iI 3) hx hb dX3_joins_87 rfl ?_
            refine g_icmp_ne (tgt := 95) hx hb dX3_joins_88 (by decide) (by omega) (by omega) (fun c_88 => ?_) (fun c_88 => ?_)
            · refine lv_iconst (v := iI 0) hx hb dX3_joins_95 rfl ?_
              refine W.eq (g2 := F0 m_ 96 ls [.int (bI false), .int (bI (E b v)), .int (iI (((1000 * k + v : Nat) : Int))), .ref aH]) rfl ?_
              refine g_bcmp_ne (tgt := 103) hx hb dX3_joins_96 (by decide) (fun (c_96 : E b v = true) => ?_) (fun (c_96 : E b v = false) => ?_)
              · refine lv_iconst (v := iI 0) hx hb dX3_joins_103 rfl ?_
                refine W.eq (g2 := F0 m_ 104 ls [.int (bI false), .int (iI (((1000 * k + v : Nat) : Int))), .ref aH]) rfl ?_
                refine g_zast hx hb hK hP hS h_H (1000 * k + v) (by first | rfl | omega) (by first | decide | omega) (by first | decide | omega) dX3_joins_104 (fun ω H locs e_8 n_8 hP hS => ?_)
                have h_o := (n_8 _ (by decide)).trans h_o
                have h_s := (n_8 _ (by rcases hns with rfl | rfl <;> decide)).trans h_s
                have h_H : ω (1, 7) = some (aH, .inl (G.2.1 1, 12000, .inl (upd g (1000 * k + v) (bI false)))) := e_8
                have hF := hF.put n_8 rfl
                refine lv_iinc (v := iI (((v + 1 : Nat) : Int))) (lv' := [(3, .int (iI (((v + 1 : Nat) : Int)))), (5, .int (bI (E b v))), (4, .int (bI (E a v))), (0, .ref o), (1, .ref as), (2, .int (iI ((k : Int))))]) hx hb dX3_joins_105 hl (k := 5) rfl (iI_add _ _ |>.trans (congrArg iI (by omega))) (by decide) rfl (fun ls hl => ?_)
                refine lv_goto (tgt := 2) hx hb dX3_joins_108 (by decide) ?_
                have hcb : comb (kd, a, b, d) E v = false := by rw [comb_j hkd]; simp [c_53, c_76, c_88, c_96]
                exact ih_2 (v + 1) (upd g (1000 * k + v) (bI false)) (by omega) (fun u hu => by rw [upd]; by_cases q : u = v; (subst q; rw [if_pos rfl, hcb]); (rw [if_neg (by omega)]; exact hg1 u (by omega))) (fun j hj => by rw [upd, if_neg (by omega)]; exact hg2 j hj) (by omega) _ _ _ h_o h_s h_H hF hP hS ls (lv_sub hl [3, 4, 5, 0] rfl)
              · refine lv_iconst (v := iI 1) hx hb dX3_joins_99 rfl ?_
                refine lv_goto (tgt := 104) hx hb dX3_joins_100 (by decide) ?_
                refine W.eq (g2 := F0 m_ 104 ls [.int (bI true), .int (iI (((1000 * k + v : Nat) : Int))), .ref aH]) rfl ?_
                refine g_zast hx hb hK hP hS h_H (1000 * k + v) (by first | rfl | omega) (by first | decide | omega) (by first | decide | omega) dX3_joins_104 (fun ω H locs e_9 n_9 hP hS => ?_)
                have h_o := (n_9 _ (by decide)).trans h_o
                have h_s := (n_9 _ (by rcases hns with rfl | rfl <;> decide)).trans h_s
                have h_H : ω (1, 7) = some (aH, .inl (G.2.1 1, 12000, .inl (upd g (1000 * k + v) (bI true)))) := e_9
                have hF := hF.put n_9 rfl
                refine lv_iinc (v := iI (((v + 1 : Nat) : Int))) (lv' := [(3, .int (iI (((v + 1 : Nat) : Int)))), (5, .int (bI (E b v))), (4, .int (bI (E a v))), (0, .ref o), (1, .ref as), (2, .int (iI ((k : Int))))]) hx hb dX3_joins_105 hl (k := 5) rfl (iI_add _ _ |>.trans (congrArg iI (by omega))) (by decide) rfl (fun ls hl => ?_)
                refine lv_goto (tgt := 2) hx hb dX3_joins_108 (by decide) ?_
                have hcb : comb (kd, a, b, d) E v = true := by rw [comb_j hkd]; simp [c_53, c_76, c_88, c_96]
                exact ih_2 (v + 1) (upd g (1000 * k + v) (bI true)) (by omega) (fun u hu => by rw [upd]; by_cases q : u = v; (subst q; rw [if_pos rfl, hcb]); (rw [if_neg (by omega)]; exact hg1 u (by omega))) (fun j hj => by rw [upd, if_neg (by omega)]; exact hg2 j hj) (by omega) _ _ _ h_o h_s h_H hF hP hS ls (lv_sub hl [3, 4, 5, 0] rfl)
            · refine lv_iconst (v := iI 1) hx hb dX3_joins_91 rfl ?_
              refine lv_goto (tgt := 96) hx hb dX3_joins_92 (by decide) ?_
              refine W.eq (g2 := F0 m_ 96 ls [.int (bI true), .int (bI (E b v)), .int (iI (((1000 * k + v : Nat) : Int))), .ref aH]) rfl ?_
              refine g_bcmp_ne (tgt := 103) hx hb dX3_joins_96 (by decide) (fun (c_96 : E b v = false) => ?_) (fun (c_96 : E b v = true) => ?_)
              · refine lv_iconst (v := iI 0) hx hb dX3_joins_103 rfl ?_
                refine W.eq (g2 := F0 m_ 104 ls [.int (bI false), .int (iI (((1000 * k + v : Nat) : Int))), .ref aH]) rfl ?_
                refine g_zast hx hb hK hP hS h_H (1000 * k + v) (by first | rfl | omega) (by first | decide | omega) (by first | decide | omega) dX3_joins_104 (fun ω H locs e_10 n_10 hP hS => ?_)
                have h_o := (n_10 _ (by decide)).trans h_o
                have h_s := (n_10 _ (by rcases hns with rfl | rfl <;> decide)).trans h_s
                have h_H : ω (1, 7) = some (aH, .inl (G.2.1 1, 12000, .inl (upd g (1000 * k + v) (bI false)))) := e_10
                have hF := hF.put n_10 rfl
                refine lv_iinc (v := iI (((v + 1 : Nat) : Int))) (lv' := [(3, .int (iI (((v + 1 : Nat) : Int)))), (5, .int (bI (E b v))), (4, .int (bI (E a v))), (0, .ref o), (1, .ref as), (2, .int (iI ((k : Int))))]) hx hb dX3_joins_105 hl (k := 5) rfl (iI_add _ _ |>.trans (congrArg iI (by omega))) (by decide) rfl (fun ls hl => ?_)
                refine lv_goto (tgt := 2) hx hb dX3_joins_108 (by decide) ?_
                have hcb : comb (kd, a, b, d) E v = false := by rw [comb_j hkd]; simp [c_53, c_76, c_88, c_96]
                exact ih_2 (v + 1) (upd g (1000 * k + v) (bI false)) (by omega) (fun u hu => by rw [upd]; by_cases q : u = v; (subst q; rw [if_pos rfl, hcb]); (rw [if_neg (by omega)]; exact hg1 u (by omega))) (fun j hj => by rw [upd, if_neg (by omega)]; exact hg2 j hj) (by omega) _ _ _ h_o h_s h_H hF hP hS ls (lv_sub hl [3, 4, 5, 0] rfl)
              · refine lv_iconst (v := iI 1) hx hb dX3_joins_99 rfl ?_
                refine lv_goto (tgt := 104) hx hb dX3_joins_100 (by decide) ?_
                refine W.eq (g2 := F0 m_ 104 ls [.int (bI true), .int (iI (((1000 * k + v : Nat) : Int))), .ref aH]) rfl ?_
                refine g_zast hx hb hK hP hS h_H (1000 * k + v) (by first | rfl | omega) (by first | decide | omega) (by first | decide | omega) dX3_joins_104 (fun ω H locs e_11 n_11 hP hS => ?_)
                have h_o := (n_11 _ (by decide)).trans h_o
                have h_s := (n_11 _ (by rcases hns with rfl | rfl <;> decide)).trans h_s
                have h_H : ω (1, 7) = some (aH, .inl (G.2.1 1, 12000, .inl (upd g (1000 * k + v) (bI true)))) := e_11
                have hF := hF.put n_11 rfl
                refine lv_iinc (v := iI (((v + 1 : Nat) : Int))) (lv' := [(3, .int (iI (((v + 1 : Nat) : Int)))), (5, .int (bI (E b v))), (4, .int (bI (E a v))), (0, .ref o), (1, .ref as), (2, .int (iI ((k : Int))))]) hx hb dX3_joins_105 hl (k := 5) rfl (iI_add _ _ |>.trans (congrArg iI (by omega))) (by decide) rfl (fun ls hl => ?_)
                refine lv_goto (tgt := 2) hx hb dX3_joins_108 (by decide) ?_
                have hcb : comb (kd, a, b, d) E v = true := by rw [comb_j hkd]; simp [c_53, c_76, c_88, c_96]
                exact ih_2 (v + 1) (upd g (1000 * k + v) (bI true)) (by omega) (fun u hu => by rw [upd]; by_cases q : u = v; (subst q; rw [if_pos rfl, hcb]); (rw [if_neg (by omega)]; exact hg1 u (by omega))) (fun j hj => by rw [upd, if_neg (by omega)]; exact hg2 j hj) (by omega) _ _ _ h_o h_s h_H hF hP hS ls (lv_sub hl [3, 4, 5, 0] rfl)
        · refine lv_iload hx hb dX3_joins_56 (lv_at hl 1 rfl) ?_
          refine g_ifz_ne (tgt := 66) hx hb dX3_joins_58 (by decide) (fun c_58 => ?_) (fun c_58 => ?_)
          · refine lv_iconst (v := iI 1) hx hb dX3_joins_66 rfl ?_
            refine lv_goto (tgt := 104) hx hb dX3_joins_67 (by decide) ?_
            refine W.eq (g2 := F0 m_ 104 ls [.int (bI true), .int (iI (((1000 * k + v : Nat) : Int))), .ref aH]) rfl ?_
            refine g_zast hx hb hK hP hS h_H (1000 * k + v) (by first | rfl | omega) (by first | decide | omega) (by first | decide | omega) dX3_joins_104 (fun ω H locs e_12 n_12 hP hS => ?_)
            have h_o := (n_12 _ (by decide)).trans h_o
            have h_s := (n_12 _ (by rcases hns with rfl | rfl <;> decide)).trans h_s
            have h_H : ω (1, 7) = some (aH, .inl (G.2.1 1, 12000, .inl (upd g (1000 * k + v) (bI true)))) := e_12
            have hF := hF.put n_12 rfl
            refine lv_iinc (v := iI (((v + 1 : Nat) : Int))) (lv' := [(3, .int (iI (((v + 1 : Nat) : Int)))), (5, .int (bI (E b v))), (4, .int (bI (E a v))), (0, .ref o), (1, .ref as), (2, .int (iI ((k : Int))))]) hx hb dX3_joins_105 hl (k := 5) rfl (iI_add _ _ |>.trans (congrArg iI (by omega))) (by decide) rfl (fun ls hl => ?_)
            refine lv_goto (tgt := 2) hx hb dX3_joins_108 (by decide) ?_
            have hcb : comb (kd, a, b, d) E v = true := by rw [comb_j hkd]; simp [c_53, c_58]
            exact ih_2 (v + 1) (upd g (1000 * k + v) (bI true)) (by omega) (fun u hu => by rw [upd]; by_cases q : u = v; (subst q; rw [if_pos rfl, hcb]); (rw [if_neg (by omega)]; exact hg1 u (by omega))) (fun j hj => by rw [upd, if_neg (by omega)]; exact hg2 j hj) (by omega) _ _ _ h_o h_s h_H hF hP hS ls (lv_sub hl [3, 4, 5, 0] rfl)
          · refine lv_iload hx hb dX3_joins_61 (lv_at hl 0 rfl) ?_
            refine g_ifz_eq (tgt := 70) hx hb dX3_joins_63 (by decide) (fun c_63 => ?_) (fun c_63 => ?_)
            · refine lv_iconst (v := iI 0) hx hb dX3_joins_70 rfl ?_
              refine lv_goto (tgt := 104) hx hb dX3_joins_71 (by decide) ?_
              refine W.eq (g2 := F0 m_ 104 ls [.int (bI false), .int (iI (((1000 * k + v : Nat) : Int))), .ref aH]) rfl ?_
              refine g_zast hx hb hK hP hS h_H (1000 * k + v) (by first | rfl | omega) (by first | decide | omega) (by first | decide | omega) dX3_joins_104 (fun ω H locs e_13 n_13 hP hS => ?_)
              have h_o := (n_13 _ (by decide)).trans h_o
              have h_s := (n_13 _ (by rcases hns with rfl | rfl <;> decide)).trans h_s
              have h_H : ω (1, 7) = some (aH, .inl (G.2.1 1, 12000, .inl (upd g (1000 * k + v) (bI false)))) := e_13
              have hF := hF.put n_13 rfl
              refine lv_iinc (v := iI (((v + 1 : Nat) : Int))) (lv' := [(3, .int (iI (((v + 1 : Nat) : Int)))), (5, .int (bI (E b v))), (4, .int (bI (E a v))), (0, .ref o), (1, .ref as), (2, .int (iI ((k : Int))))]) hx hb dX3_joins_105 hl (k := 5) rfl (iI_add _ _ |>.trans (congrArg iI (by omega))) (by decide) rfl (fun ls hl => ?_)
              refine lv_goto (tgt := 2) hx hb dX3_joins_108 (by decide) ?_
              have hcb : comb (kd, a, b, d) E v = false := by rw [comb_j hkd]; simp [c_53, c_58, c_63]
              exact ih_2 (v + 1) (upd g (1000 * k + v) (bI false)) (by omega) (fun u hu => by rw [upd]; by_cases q : u = v; (subst q; rw [if_pos rfl, hcb]); (rw [if_neg (by omega)]; exact hg1 u (by omega))) (fun j hj => by rw [upd, if_neg (by omega)]; exact hg2 j hj) (by omega) _ _ _ h_o h_s h_H hF hP hS ls (lv_sub hl [3, 4, 5, 0] rfl)
            · refine lv_iconst (v := iI 1) hx hb dX3_joins_66 rfl ?_
              refine lv_goto (tgt := 104) hx hb dX3_joins_67 (by decide) ?_
              refine W.eq (g2 := F0 m_ 104 ls [.int (bI true), .int (iI (((1000 * k + v : Nat) : Int))), .ref aH]) rfl ?_
              refine g_zast hx hb hK hP hS h_H (1000 * k + v) (by first | rfl | omega) (by first | decide | omega) (by first | decide | omega) dX3_joins_104 (fun ω H locs e_14 n_14 hP hS => ?_)
              have h_o := (n_14 _ (by decide)).trans h_o
              have h_s := (n_14 _ (by rcases hns with rfl | rfl <;> decide)).trans h_s
              have h_H : ω (1, 7) = some (aH, .inl (G.2.1 1, 12000, .inl (upd g (1000 * k + v) (bI true)))) := e_14
              have hF := hF.put n_14 rfl
              refine lv_iinc (v := iI (((v + 1 : Nat) : Int))) (lv' := [(3, .int (iI (((v + 1 : Nat) : Int)))), (5, .int (bI (E b v))), (4, .int (bI (E a v))), (0, .ref o), (1, .ref as), (2, .int (iI ((k : Int))))]) hx hb dX3_joins_105 hl (k := 5) rfl (iI_add _ _ |>.trans (congrArg iI (by omega))) (by decide) rfl (fun ls hl => ?_)
              refine lv_goto (tgt := 2) hx hb dX3_joins_108 (by decide) ?_
              have hcb : comb (kd, a, b, d) E v = true := by rw [comb_j hkd]; simp [c_53, c_58, c_63]
              exact ih_2 (v + 1) (upd g (1000 * k + v) (bI true)) (by omega) (fun u hu => by rw [upd]; by_cases q : u = v; (subst q; rw [if_pos rfl, hcb]); (rw [if_neg (by omega)]; exact hg1 u (by omega))) (fun j hj => by rw [upd, if_neg (by omega)]; exact hg2 j hj) (by omega) _ _ _ h_o h_s h_H hF hP hS ls (lv_sub hl [3, 4, 5, 0] rfl)
  exact loop_2 _ 0 ha (by omega) (fun u hu => absurd hu (Nat.not_lt_zero _)) (fun _ _ => rfl) (Nat.lt_succ_self _) _ _ _ h_o h_s h_H hF hP hS ls (lv_sub hl [1, 2, 3, 0] rfl)

set_option maxHeartbeats 4000000 in
theorem m_finds (l : Launch) (G : GT) (ω0 : Om) (kc ks : Nat) {o aT aN aR aD aK aI aH aC : Nat} {rf sz ac sp sk : Int32} {ns : Nm} {as : Nat} {f : Nat → Int32} {ha cr : Nat → Int32} {T : List Q4} (h_o : ω0 (1, 0) = some (o, .inr (2, [.int rf, .ref aT, .int sz, .ref aN, .ref aR, .ref aD, .int ac, .ref aK, .ref aI, .ref aH, .ref aC, .int sp, .int sk]))) (h_s : ω0 ns = some (as, .inl (G.2.1 0, 59, .inl (f)))) (h_H : ω0 (1, 7) = some (aH, .inl (G.2.1 1, 12000, .inl (ha)))) (h_C : ω0 (1, 8) = some (aC, .inl (G.2.1 1, 1000, .inl (cr)))) (hns : ns = (1, 2) ∨ ns = (1, 3)) (hn : T.length ≤ 12) (hok : ∀ (k : Nat) (x : Q4), T[k]? = some x → okQ k x) (h0 : f 0 = iI (T.length : Nat)) (hT : ∀ (k : Nat) (x : Q4), T[k]? = some x → f (3 + 4 * k) = iI (x.1 : Nat) ∧ f (3 + 4 * k + 1) = iI (x.2.1 : Nat) ∧ f (3 + 4 * k + 2) = iI (x.2.2.1 : Nat) ∧ f (3 + 4 * k + 3) = iI (x.2.2.2 : Nat)) : Ct l G yX3_finds cX3_finds 4 none 3 61 [.ref o, .ref as] ω0 kc ks (fun w ω' kc' ks' => w = none ∧ kc = kc' ∧ ks = ks' ∧ (∃ g c' : Nat → Int32, ω' (1, 7) = some (aH, .inl (G.2.1 1, 12000, .inl (g))) ∧ ω' (1, 8) = some (aC, .inl (G.2.1 1, 1000, .inl (c'))) ∧ Hb g T.length (D T)) ∧ Fr (fun k => k = (1, 7) ∨ k = (1, 8)) ω0 ω') := by
  refine Ct.start (by decide) (Nat.le_of_ble_eq_true rfl) ?_
  intro p_ e_ s m_ below_ meth_ c_m H locs ls hx hb hr hlk hml hown hnm hts hK hZ hP hS hl
  have hown : s.vm.findClass RX3 = some m_.cls := hown
  have hl : lv_has ls 4 [(0, .ref o), (1, .ref as)] := hl
  have hF : Fr ((fun k => k = (1, 7) ∨ k = (1, 8))) ω0 ω0 := Fr.rf
  refine lv_iconst (v := iI 0) hx hb dX3_finds_0 rfl ?_
  refine lv_istore_n (lv' := [(2, .int (iI 0)), (0, .ref o), (1, .ref as)]) hx hb dX3_finds_1 rfl hl (by decide) rfl (fun ls hl => ?_)
  have loop_2 : ∀ (nn : Nat) (k : Nat) (gk : Nat → Int32) (ck : Nat → Int32), (k ≤ T.length) → (Hb gk k (D T)) → (T.length - k) < nn → ∀ (ω : Om) (H : Heap) (locs : List Loc), ω (1, 0) = some (o, .inr (2, [.int rf, .ref aT, .int sz, .ref aN, .ref aR, .ref aD, .int ac, .ref aK, .ref aI, .ref aH, .ref aC, .int sp, .int sk])) → ω ns = some (as, .inl (G.2.1 0, 59, .inl (f))) → ω (1, 7) = some (aH, .inl (G.2.1 1, 12000, .inl (gk))) → ω (1, 8) = some (aC, .inl (G.2.1 1, 1000, .inl (ck))) → Fr ((fun k => k = (1, 7) ∨ k = (1, 8))) ω0 ω → Hp G ω kc ks H → va_S (gA G) s.heap H locs →  ∀ ls : Array Slot, lv_has ls 4 [(0, .ref o), (1, .ref as), (2, .int (iI ((k : Int))))] → gW p_ l e_ G 3 61 s m_ [.ref o, .ref as] below_ meth_ c_m (fun w ω' kc' ks' => w = none ∧ kc = kc' ∧ ks = ks' ∧ (∃ g c' : Nat → Int32, ω' (1, 7) = some (aH, .inl (G.2.1 1, 12000, .inl (g))) ∧ ω' (1, 8) = some (aC, .inl (G.2.1 1, 1000, .inl (c'))) ∧ Hb g T.length (D T)) ∧ Fr (fun k => k = (1, 7) ∨ k = (1, 8)) ω0 ω') H locs 2 ls [] := by
    intro nn
    induction nn with
    | zero => intro k gk ck hk hgk hlt; exact absurd hlt (Nat.not_lt_zero _)
    | succ nn ih_2 =>
      intro k gk ck hk hgk hlt ω H locs h_o h_s h_H h_C hF hP hS ls hl
      refine lv_iload_n hx hb dX3_finds_2 rfl (lv_at hl 2 rfl) ?_
      refine lv_aload_n hx hb dX3_finds_3 rfl (lv_at hl 1 rfl) ?_
      refine lv_iconst (v := iI 0) hx hb dX3_finds_4 rfl ?_
      refine g_iald hx hb hK hP h_s 0 (by first | rfl | omega) (by first | decide | omega) (by first | decide | omega) (v := .int (iI ((T.length : Int)))) (by rw [h0]) dX3_finds_5 ?_
      refine g_icmp_ge (tgt := 124) hx hb dX3_finds_6 (by decide) (by omega) (by omega) (fun c_6 => ?_) (fun c_6 => ?_)
      · refine g_vret hx hb hr hlk hP hS dX3_finds_124 ?_
        exact ⟨rfl, rfl, rfl, ⟨gk, ck, h_H, h_C, by rw [show T.length = k by omega]; exact hgk⟩, hF⟩
      · have hxk := q4_lt (show k < T.length by omega)
        have ok := hok k _ hxk
        obtain ⟨hx0, hx1, hx2, hx3⟩ := hT k _ hxk
        refine lv_iconst (v := iI 0) hx hb dX3_finds_9 rfl ?_
        refine lv_istore_n (lv' := [(3, .int (iI 0)), (0, .ref o), (1, .ref as), (2, .int (iI ((k : Int))))]) hx hb dX3_finds_10 rfl hl (by decide) rfl (fun ls hl => ?_)
        have loop_11 : ∀ (nn : Nat) (v : Nat) (g : Nat → Int32), (v ≤ 1000) → (∀ u, u < v → g (1000 * k + u) = bI (stp (q4 T k) u)) → (∀ i, i < k → ∀ j, j < 1000 → g (1000 * i + j) = gk (1000 * i + j)) → (1000 - v) < nn → ∀ (ω : Om) (H : Heap) (locs : List Loc), ω (1, 0) = some (o, .inr (2, [.int rf, .ref aT, .int sz, .ref aN, .ref aR, .ref aD, .int ac, .ref aK, .ref aI, .ref aH, .ref aC, .int sp, .int sk])) → ω ns = some (as, .inl (G.2.1 0, 59, .inl (f))) → ω (1, 7) = some (aH, .inl (G.2.1 1, 12000, .inl (g))) → ω (1, 8) = some (aC, .inl (G.2.1 1, 1000, .inl (ck))) → Fr ((fun k => k = (1, 7) ∨ k = (1, 8))) ω0 ω → Hp G ω kc ks H → va_S (gA G) s.heap H locs →  ∀ ls : Array Slot, lv_has ls 4 [(0, .ref o), (1, .ref as), (2, .int (iI ((k : Int)))), (3, .int (iI ((v : Int))))] → gW p_ l e_ G 3 61 s m_ [.ref o, .ref as] below_ meth_ c_m (fun w ω' kc' ks' => w = none ∧ kc = kc' ∧ ks = ks' ∧ (∃ g c' : Nat → Int32, ω' (1, 7) = some (aH, .inl (G.2.1 1, 12000, .inl (g))) ∧ ω' (1, 8) = some (aC, .inl (G.2.1 1, 1000, .inl (c'))) ∧ Hb g T.length (D T)) ∧ Fr (fun k => k = (1, 7) ∨ k = (1, 8)) ω0 ω') H locs 11 ls [] := by
          intro nn
          induction nn with
          | zero => intro v g hv hg1 hg2 hlt; exact absurd hlt (Nat.not_lt_zero _)
          | succ nn ih_11 =>
            intro v g hv hg1 hg2 hlt ω H locs h_o h_s h_H h_C hF hP hS ls hl
            have okb : (q4 T k).2.2.1 ≤ 99 := ok.2.2.1
            have oka : (q4 T k).2.1 ≤ 999 := ok.2.1
            have ok7 : (q4 T k).1 ≤ 7 := ok.1
            refine lv_iload_n hx hb dX3_finds_11 rfl (lv_at hl 3 rfl) ?_
            refine lv_sipush (v := iI 999) hx hb dX3_finds_12 rfl ?_
            refine g_icmp_gt (tgt := 78) hx hb dX3_finds_15 (by decide) (by omega) (by omega) (fun c_15 => ?_) (fun c_15 => ?_)
            · refine lv_aload_n hx hb dX3_finds_78 rfl (lv_at hl 1 rfl) ?_
              refine lv_iload_n hx hb dX3_finds_79 rfl (lv_at hl 2 rfl) ?_
              refine lv_iconst (v := iI 0) hx hb dX3_finds_80 rfl ?_
              refine g_S (As := [.ref as, .int (iI ((k : Int))), .int (iI 0)]) (rest := []) hx hb hml hown hts hK hZ hP hS (m_of (k := k) (w := 0) l G _ _ _ h_s (by omega) (by decide) hx0) 3 (lw_S q1640 q1641 q59 q1642) (by decide +kernel) (by decide) (by decide) rfl hl.1 rfl (Nat.le_of_ble_eq_true rfl) dX3_finds_81 (fun v ω kc_1 ks_1 H locs q_1 hP hS => ?_)
              obtain ⟨rfl, rfl, rfl, rfl⟩ := q_1
              refine W.eq (g2 := F0 m_ 84 ls [.int (iI (((q4 T k).1 : Int)))]) rfl ?_
              refine lv_istore_n (lv' := [(3, .int (iI (((q4 T k).1 : Int)))), (0, .ref o), (1, .ref as), (2, .int (iI ((k : Int))))]) hx hb dX3_finds_84 rfl hl (by decide) rfl (fun ls hl => ?_)
              refine lv_iload_n hx hb dX3_finds_85 rfl (lv_at hl 0 rfl) ?_
              refine g_i2l hx hb dX3_finds_86 (by omega) ?_
              refine lv_ldc2 hx hb hown (hts _ q1643) dX3_finds_87 ?_
              refine g_top (w := .long (lI (2))) (by decide) ?_
              refine lv_ldc2 hx hb hown (hts _ q1644) dX3_finds_90 ?_
              refine g_top (w := .long (lI (4))) (by decide) ?_
              refine g_S (As := [.long (lI (((q4 T k).1 : Int))), .long (lI 2), .long (lI 4)]) (rest := []) hx hb hml hown hts hK hZ hP hS (m_in l G _ _ _ (by omega) (by omega) (by omega)) 3 (lw_S q1572 q1573 q59 q1574) (by decide +kernel) (by decide) (by decide) rfl hl.1 rfl (Nat.le_of_ble_eq_true rfl) dX3_finds_93 (fun v ω kc_2 ks_2 H locs q_2 hP hS => ?_)
              obtain ⟨rfl, rfl, rfl, rfl⟩ := q_2
              refine W.eq (g2 := F0 m_ 96 ls [.int (bI (decide (2 ≤ ((q4 T k).1 : Int) ∧ ((q4 T k).1 : Int) ≤ 4)))]) rfl ?_
              refine g_ifz_eq (tgt := 108) hx hb dX3_finds_96 (by decide) (fun c_96 => ?_) (fun c_96 => ?_)
              · refine lv_iload_n hx hb dX3_finds_108 rfl (lv_at hl 0 rfl) ?_
                refine g_if_eq (tgt := 118) hx hb dX3_finds_109 (by decide) (by omega) (fun c_109 => ?_) (fun c_109 => ?_)
                · refine lv_iinc (v := iI (((k + 1 : Nat) : Int))) (lv' := [(2, .int (iI (((k + 1 : Nat) : Int)))), (3, .int (iI (((q4 T k).1 : Int)))), (0, .ref o), (1, .ref as)]) hx hb dX3_finds_118 hl (k := 3) rfl (iI_add _ _ |>.trans (congrArg iI (by omega))) (by decide) rfl (fun ls hl => ?_)
                  refine lv_goto (tgt := 2) hx hb dX3_finds_121 (by decide) ?_
                  have hnew : Hb g (k + 1) (D T) := by
                    intro i hi u hu
                    by_cases q : i = k
                    · subst q
                      rw [D_comb hxk ok]
                      rw [hg1 u (by omega)]; exact congrArg bI (stp_comb (by omega))
                    · exact (hg2 i (by omega) u hu).trans (hgk i (by omega) u hu)
                  exact ih_2 (k + 1) g ck (by omega) hnew (by omega) _ _ _ h_o h_s h_H h_C hF hP hS ls (lv_sub hl [2, 3, 0] rfl)
                · have hj3 : (q4 T k).1 = 1 ∨ (q4 T k).1 = 5 ∨ (q4 T k).1 = 6 ∨ (q4 T k).1 = 7 := by have := of_decide_eq_false c_96; omega
                  refine lv_aload_n hx hb dX3_finds_112 rfl (lv_at hl 1 rfl) ?_
                  refine lv_aload_n hx hb dX3_finds_113 rfl (lv_at hl 2 rfl) ?_
                  refine lv_iload_n hx hb dX3_finds_114 rfl (lv_at hl 3 rfl) ?_
                  refine g_V (As := [.ref as, .int (iI ((k : Int)))]) (rest := []) hx hb hml hown hts hK hZ hP hS (m_follows (E := D T) l G _ _ _ h_o h_s h_H h_C hns (by omega) hx0 hx1 hx2 hx3 ok hj3 (fun u hu => (hg2 _ (ok.2.2.2.2.2.1 (by omega)) u hu).trans (hgk _ (ok.2.2.2.2.2.1 (by omega)) u hu)) (fun u hu => by rw [hg1 u (by omega)]; exact congrArg bI (stp_f (Or.inl (by omega))))) 2 (lw_V q1653 q1655 qs37 q59 q1656) h_o gk2 (by decide +kernel) (by decide) (by decide) rfl hl.1 rfl (Nat.le_of_ble_eq_true rfl) dX3_finds_115 (fun v ω kc_3 ks_3 H locs q_3 hP hS => ?_)
                  obtain ⟨rfl, rfl, rfl, ⟨gF, cF, hgH, hgC, hgF, hgF2⟩, hfr⟩ := q_3
                  have h_o := hfr.at (by decide) h_o
                  have h_s := hfr.at (by rcases hns with rfl | rfl <;> decide) h_s
                  have h_H : ω (1, 7) = some (aH, .inl (G.2.1 1, 12000, .inl (gF))) := hgH
                  have h_C : ω (1, 8) = some (aC, .inl (G.2.1 1, 1000, .inl (cF))) := hgC
                  have hF := hF.trans hfr (fun k hk => hk)
                  refine W.eq (g2 := F0 m_ 118 ls []) rfl ?_
                  refine lv_iinc (v := iI (((k + 1 : Nat) : Int))) (lv' := [(2, .int (iI (((k + 1 : Nat) : Int)))), (3, .int (iI (((q4 T k).1 : Int)))), (0, .ref o), (1, .ref as)]) hx hb dX3_finds_118 hl (k := 3) rfl (iI_add _ _ |>.trans (congrArg iI (by omega))) (by decide) rfl (fun ls hl => ?_)
                  refine lv_goto (tgt := 2) hx hb dX3_finds_121 (by decide) ?_
                  have hnew : Hb gF (k + 1) (D T) := by
                    intro i hi u hu
                    by_cases q : i = k
                    · subst q
                      rw [D_comb hxk ok]
                      exact hgF u hu
                    · exact ((hgF2 _ (Or.inl (by omega))).trans (hg2 i (by omega) u hu)).trans (hgk i (by omega) u hu)
                  exact ih_2 (k + 1) gF cF (by omega) hnew (by omega) _ _ _ h_o h_s h_H h_C hF hP hS ls (lv_sub hl [2, 3, 0] rfl)
              · have hj3 : (q4 T k).1 = 2 ∨ (q4 T k).1 = 3 ∨ (q4 T k).1 = 4 := by have := of_decide_eq_true c_96; omega
                refine lv_aload_n hx hb dX3_finds_99 rfl (lv_at hl 1 rfl) ?_
                refine lv_aload_n hx hb dX3_finds_100 rfl (lv_at hl 2 rfl) ?_
                refine lv_iload_n hx hb dX3_finds_101 rfl (lv_at hl 3 rfl) ?_
                refine g_V (As := [.ref as, .int (iI ((k : Int)))]) (rest := []) hx hb hml hown hts hK hZ hP hS (m_joins (E := D T) l G _ _ _ h_o h_s h_H hns (by omega) hx0 hx1 hx2 hx3 ok hj3 (fun i hi u hu => (hg2 i hi u hu).trans (hgk i hi u hu))) 2 (lw_V q1645 q1647 qs35 q59 q1648) h_o gk2 (by decide +kernel) (by decide) (by decide) rfl hl.1 rfl (Nat.le_of_ble_eq_true rfl) dX3_finds_102 (fun v ω kc_4 ks_4 H locs q_4 hP hS => ?_)
                obtain ⟨rfl, rfl, rfl, ⟨gJ, hgH, hgJ, hgJ2⟩, hfr⟩ := q_4
                have h_o := hfr.at (by decide) h_o
                have h_s := hfr.at (by rcases hns with rfl | rfl <;> decide) h_s
                have h_H : ω (1, 7) = some (aH, .inl (G.2.1 1, 12000, .inl (gJ))) := hgH
                have h_C := hfr.at (by decide) h_C
                have hF := hF.trans hfr (fun k hk => Or.inl hk)
                refine W.eq (g2 := F0 m_ 105 ls []) rfl ?_
                refine lv_goto (tgt := 118) hx hb dX3_finds_105 (by decide) ?_
                refine lv_iinc (v := iI (((k + 1 : Nat) : Int))) (lv' := [(2, .int (iI (((k + 1 : Nat) : Int)))), (3, .int (iI (((q4 T k).1 : Int)))), (0, .ref o), (1, .ref as)]) hx hb dX3_finds_118 hl (k := 3) rfl (iI_add _ _ |>.trans (congrArg iI (by omega))) (by decide) rfl (fun ls hl => ?_)
                refine lv_goto (tgt := 2) hx hb dX3_finds_121 (by decide) ?_
                have hnew : Hb gJ (k + 1) (D T) := by
                  intro i hi u hu
                  by_cases q : i = k
                  · subst q
                    rw [D_comb hxk ok]
                    exact hgJ u hu
                  · exact ((hgJ2 _ (Or.inl (by omega))).trans (hg2 i (by omega) u hu)).trans (hgk i (by omega) u hu)
                exact ih_2 (k + 1) gJ ck (by omega) hnew (by omega) _ _ _ h_o h_s h_H h_C hF hP hS ls (lv_sub hl [2, 3, 0] rfl)
            · refine lv_aload_n hx hb dX3_finds_18 rfl (lv_at hl 0 rfl) ?_
              refine g_get hx hb hown hts hK hP h_o gk2 9 (by decide) q1532 (fun _ h => h) rfl dX3_finds_19 ?_
              refine lv_sipush (v := iI 1000) hx hb dX3_finds_22 rfl ?_
              refine lv_iload_n hx hb dX3_finds_25 rfl (lv_at hl 2 rfl) ?_
              refine g_imul hx hb dX3_finds_26 (z := ((1000 * k : Nat) : Int)) (by omega) ?_
              refine lv_iload_n hx hb dX3_finds_27 rfl (lv_at hl 3 rfl) ?_
              refine g_iadd hx hb dX3_finds_28 (z := ((1000 * k + v : Nat) : Int)) (by omega) ?_
              refine lv_aload_n hx hb dX3_finds_29 rfl (lv_at hl 1 rfl) ?_
              refine lv_iload_n hx hb dX3_finds_30 rfl (lv_at hl 2 rfl) ?_
              refine lv_iconst (v := iI 0) hx hb dX3_finds_31 rfl ?_
              refine g_S (As := [.ref as, .int (iI ((k : Int))), .int (iI 0)]) (rest := [.int (iI (((1000 * k + v : Nat) : Int))), .ref aH]) hx hb hml hown hts hK hZ hP hS (m_of (k := k) (w := 0) l G _ _ _ h_s (by omega) (by decide) hx0) 3 (lw_S q1640 q1641 q59 q1642) (by decide +kernel) (by decide) (by decide) rfl hl.1 rfl (Nat.le_of_ble_eq_true rfl) dX3_finds_32 (fun v ω kc_5 ks_5 H locs q_5 hP hS => ?_)
              obtain ⟨rfl, rfl, rfl, rfl⟩ := q_5
              refine W.eq (g2 := F0 m_ 35 ls [.int (iI (((q4 T k).1 : Int))), .int (iI (((1000 * k + v : Nat) : Int))), .ref aH]) rfl ?_
              refine g_if_ne (tgt := 70) hx hb dX3_finds_35 (by decide) (by omega) (fun c_35 => ?_) (fun c_35 => ?_)
              · refine lv_iconst (v := iI 0) hx hb dX3_finds_70 rfl ?_
                refine W.eq (g2 := F0 m_ 71 ls [.int (bI false), .int (iI (((1000 * k + v : Nat) : Int))), .ref aH]) rfl ?_
                refine g_zast hx hb hK hP hS h_H (1000 * k + v) (by first | rfl | omega) (by first | decide | omega) (by first | decide | omega) dX3_finds_71 (fun ω H locs e_6 n_6 hP hS => ?_)
                have h_o := (n_6 _ (by decide)).trans h_o
                have h_s := (n_6 _ (by rcases hns with rfl | rfl <;> decide)).trans h_s
                have h_H : ω (1, 7) = some (aH, .inl (G.2.1 1, 12000, .inl (upd g (1000 * k + v) (bI false)))) := e_6
                have h_C := (n_6 _ (by decide)).trans h_C
                have hF := hF.put n_6 (by first | exact Or.inl rfl | exact Or.inr rfl)
                refine lv_iinc (v := iI (((v + 1 : Nat) : Int))) (lv' := [(3, .int (iI (((v + 1 : Nat) : Int)))), (0, .ref o), (1, .ref as), (2, .int (iI ((k : Int))))]) hx hb dX3_finds_72 hl (k := 3) rfl (iI_add _ _ |>.trans (congrArg iI (by omega))) (by decide) rfl (fun ls hl => ?_)
                refine lv_goto (tgt := 11) hx hb dX3_finds_75 (by decide) ?_
                have hst : stp (q4 T k) v = false := stp_f (Or.inl c_35)
                exact ih_11 (v + 1) (upd g (1000 * k + v) (bI false)) (by omega) (fun u hu => by rw [upd]; by_cases q : u = v; (subst q; rw [if_pos rfl, hst]); (rw [if_neg (by omega)]; exact hg1 u (by omega))) (fun i hi j hj => by rw [upd, if_neg (by omega)]; exact hg2 i hi j hj) (by omega) _ _ _ h_o h_s h_H h_C hF hP hS ls (lv_sub hl [1, 2, 3, 0] rfl)
              · refine lv_iload_n hx hb dX3_finds_38 rfl (lv_at hl 3 rfl) ?_
                refine lv_aload_n hx hb dX3_finds_39 rfl (lv_at hl 1 rfl) ?_
                refine lv_iload_n hx hb dX3_finds_40 rfl (lv_at hl 2 rfl) ?_
                refine lv_iconst (v := iI 1) hx hb dX3_finds_41 rfl ?_
                refine g_S (As := [.ref as, .int (iI ((k : Int))), .int (iI 1)]) (rest := [.int (iI ((v : Int))), .int (iI (((1000 * k + v : Nat) : Int))), .ref aH]) hx hb hml hown hts hK hZ hP hS (m_of (k := k) (w := 1) l G _ _ _ h_s (by omega) (by decide) hx1) 3 (lw_S q1640 q1641 q59 q1642) (by decide +kernel) (by decide) (by decide) rfl hl.1 rfl (Nat.le_of_ble_eq_true rfl) dX3_finds_42 (fun v ω kc_7 ks_7 H locs q_7 hP hS => ?_)
                obtain ⟨rfl, rfl, rfl, rfl⟩ := q_7
                refine W.eq (g2 := F0 m_ 45 ls [.int (iI (((q4 T k).2.1 : Int))), .int (iI ((v : Int))), .int (iI (((1000 * k + v : Nat) : Int))), .ref aH]) rfl ?_
                refine g_icmp_lt (tgt := 70) hx hb dX3_finds_45 (by decide) (by omega) (by omega) (fun c_45 => ?_) (fun c_45 => ?_)
                · refine lv_iconst (v := iI 0) hx hb dX3_finds_70 rfl ?_
                  refine W.eq (g2 := F0 m_ 71 ls [.int (bI false), .int (iI (((1000 * k + v : Nat) : Int))), .ref aH]) rfl ?_
                  refine g_zast hx hb hK hP hS h_H (1000 * k + v) (by first | rfl | omega) (by first | decide | omega) (by first | decide | omega) dX3_finds_71 (fun ω H locs e_8 n_8 hP hS => ?_)
                  have h_o := (n_8 _ (by decide)).trans h_o
                  have h_s := (n_8 _ (by rcases hns with rfl | rfl <;> decide)).trans h_s
                  have h_H : ω (1, 7) = some (aH, .inl (G.2.1 1, 12000, .inl (upd g (1000 * k + v) (bI false)))) := e_8
                  have h_C := (n_8 _ (by decide)).trans h_C
                  have hF := hF.put n_8 (by first | exact Or.inl rfl | exact Or.inr rfl)
                  refine lv_iinc (v := iI (((v + 1 : Nat) : Int))) (lv' := [(3, .int (iI (((v + 1 : Nat) : Int)))), (0, .ref o), (1, .ref as), (2, .int (iI ((k : Int))))]) hx hb dX3_finds_72 hl (k := 3) rfl (iI_add _ _ |>.trans (congrArg iI (by omega))) (by decide) rfl (fun ls hl => ?_)
                  refine lv_goto (tgt := 11) hx hb dX3_finds_75 (by decide) ?_
                  have hst : stp (q4 T k) v = false := stp_f (Or.inr (Or.inl c_45))
                  exact ih_11 (v + 1) (upd g (1000 * k + v) (bI false)) (by omega) (fun u hu => by rw [upd]; by_cases q : u = v; (subst q; rw [if_pos rfl, hst]); (rw [if_neg (by omega)]; exact hg1 u (by omega))) (fun i hi j hj => by rw [upd, if_neg (by omega)]; exact hg2 i hi j hj) (by omega) _ _ _ h_o h_s h_H h_C hF hP hS ls (lv_sub hl [1, 2, 3, 0] rfl)
                · refine lv_iload_n hx hb dX3_finds_48 rfl (lv_at hl 3 rfl) ?_
                  refine lv_aload_n hx hb dX3_finds_49 rfl (lv_at hl 1 rfl) ?_
                  refine lv_iload_n hx hb dX3_finds_50 rfl (lv_at hl 2 rfl) ?_
                  refine lv_iconst (v := iI 1) hx hb dX3_finds_51 rfl ?_
                  refine g_S (As := [.ref as, .int (iI ((k : Int))), .int (iI 1)]) (rest := [.int (iI ((v : Int))), .int (iI (((1000 * k + v : Nat) : Int))), .ref aH]) hx hb hml hown hts hK hZ hP hS (m_of (k := k) (w := 1) l G _ _ _ h_s (by omega) (by decide) hx1) 3 (lw_S q1640 q1641 q59 q1642) (by decide +kernel) (by decide) (by decide) rfl hl.1 rfl (Nat.le_of_ble_eq_true rfl) dX3_finds_52 (fun v ω kc_9 ks_9 H locs q_9 hP hS => ?_)
                  obtain ⟨rfl, rfl, rfl, rfl⟩ := q_9
                  refine W.eq (g2 := F0 m_ 55 ls [.int (iI (((q4 T k).2.1 : Int))), .int (iI ((v : Int))), .int (iI (((1000 * k + v : Nat) : Int))), .ref aH]) rfl ?_
                  refine g_isub hx hb dX3_finds_55 (z := ((v - (q4 T k).2.1 : Nat) : Int)) (by omega) ?_
                  refine lv_aload_n hx hb dX3_finds_56 rfl (lv_at hl 1 rfl) ?_
                  refine lv_iload_n hx hb dX3_finds_57 rfl (lv_at hl 2 rfl) ?_
                  refine lv_iconst (v := iI 2) hx hb dX3_finds_58 rfl ?_
                  refine g_S (As := [.ref as, .int (iI ((k : Int))), .int (iI 2)]) (rest := [.int (iI (((v - (q4 T k).2.1 : Nat) : Int))), .int (iI (((1000 * k + v : Nat) : Int))), .ref aH]) hx hb hml hown hts hK hZ hP hS (m_of (k := k) (w := 2) l G _ _ _ h_s (by omega) (by decide) hx2) 3 (lw_S q1640 q1641 q59 q1642) (by decide +kernel) (by decide) (by decide) rfl hl.1 rfl (Nat.le_of_ble_eq_true rfl) dX3_finds_59 (fun v ω kc_10 ks_10 H locs q_10 hP hS => ?_)
                  obtain ⟨rfl, rfl, rfl, rfl⟩ := q_10
                  refine W.eq (g2 := F0 m_ 62 ls [.int (iI (((q4 T k).2.2.1 : Int))), .int (iI (((v - (q4 T k).2.1 : Nat) : Int))), .int (iI (((1000 * k + v : Nat) : Int))), .ref aH]) rfl ?_
                  refine g_irem hx hb dX3_finds_62 (z := (((v - (q4 T k).2.1) % (q4 T k).2.2.1 : Nat) : Int)) (by simp) (by omega) (by omega) (by omega) (by have h9 := ok.2.2.2.2.1 (by omega); omega) ?_
                  refine g_if_ne (tgt := 70) hx hb dX3_finds_63 (by decide) (by have h8 := Nat.mod_le (v - (q4 T k).2.1) (q4 T k).2.2.1; omega) (fun c_63 => ?_) (fun c_63 => ?_)
                  · refine lv_iconst (v := iI 0) hx hb dX3_finds_70 rfl ?_
                    refine W.eq (g2 := F0 m_ 71 ls [.int (bI false), .int (iI (((1000 * k + v : Nat) : Int))), .ref aH]) rfl ?_
                    refine g_zast hx hb hK hP hS h_H (1000 * k + v) (by first | rfl | omega) (by first | decide | omega) (by first | decide | omega) dX3_finds_71 (fun ω H locs e_11 n_11 hP hS => ?_)
                    have h_o := (n_11 _ (by decide)).trans h_o
                    have h_s := (n_11 _ (by rcases hns with rfl | rfl <;> decide)).trans h_s
                    have h_H : ω (1, 7) = some (aH, .inl (G.2.1 1, 12000, .inl (upd g (1000 * k + v) (bI false)))) := e_11
                    have h_C := (n_11 _ (by decide)).trans h_C
                    have hF := hF.put n_11 (by first | exact Or.inl rfl | exact Or.inr rfl)
                    refine lv_iinc (v := iI (((v + 1 : Nat) : Int))) (lv' := [(3, .int (iI (((v + 1 : Nat) : Int)))), (0, .ref o), (1, .ref as), (2, .int (iI ((k : Int))))]) hx hb dX3_finds_72 hl (k := 3) rfl (iI_add _ _ |>.trans (congrArg iI (by omega))) (by decide) rfl (fun ls hl => ?_)
                    refine lv_goto (tgt := 11) hx hb dX3_finds_75 (by decide) ?_
                    have hst : stp (q4 T k) v = false := stp_f (Or.inr (Or.inr ⟨c_45, c_63⟩))
                    exact ih_11 (v + 1) (upd g (1000 * k + v) (bI false)) (by omega) (fun u hu => by rw [upd]; by_cases q : u = v; (subst q; rw [if_pos rfl, hst]); (rw [if_neg (by omega)]; exact hg1 u (by omega))) (fun i hi j hj => by rw [upd, if_neg (by omega)]; exact hg2 i hi j hj) (by omega) _ _ _ h_o h_s h_H h_C hF hP hS ls (lv_sub hl [1, 2, 3, 0] rfl)
                  · refine lv_iconst (v := iI 1) hx hb dX3_finds_66 rfl ?_
                    refine lv_goto (tgt := 71) hx hb dX3_finds_67 (by decide) ?_
                    refine W.eq (g2 := F0 m_ 71 ls [.int (bI true), .int (iI (((1000 * k + v : Nat) : Int))), .ref aH]) rfl ?_
                    refine g_zast hx hb hK hP hS h_H (1000 * k + v) (by first | rfl | omega) (by first | decide | omega) (by first | decide | omega) dX3_finds_71 (fun ω H locs e_12 n_12 hP hS => ?_)
                    have h_o := (n_12 _ (by decide)).trans h_o
                    have h_s := (n_12 _ (by rcases hns with rfl | rfl <;> decide)).trans h_s
                    have h_H : ω (1, 7) = some (aH, .inl (G.2.1 1, 12000, .inl (upd g (1000 * k + v) (bI true)))) := e_12
                    have h_C := (n_12 _ (by decide)).trans h_C
                    have hF := hF.put n_12 (by first | exact Or.inl rfl | exact Or.inr rfl)
                    refine lv_iinc (v := iI (((v + 1 : Nat) : Int))) (lv' := [(3, .int (iI (((v + 1 : Nat) : Int)))), (0, .ref o), (1, .ref as), (2, .int (iI ((k : Int))))]) hx hb dX3_finds_72 hl (k := 3) rfl (iI_add _ _ |>.trans (congrArg iI (by omega))) (by decide) rfl (fun ls hl => ?_)
                    refine lv_goto (tgt := 11) hx hb dX3_finds_75 (by decide) ?_
                    have hst : stp (q4 T k) v = true := stp_t c_35 c_45 c_63
                    exact ih_11 (v + 1) (upd g (1000 * k + v) (bI true)) (by omega) (fun u hu => by rw [upd]; by_cases q : u = v; (subst q; rw [if_pos rfl, hst]); (rw [if_neg (by omega)]; exact hg1 u (by omega))) (fun i hi j hj => by rw [upd, if_neg (by omega)]; exact hg2 i hi j hj) (by omega) _ _ _ h_o h_s h_H h_C hF hP hS ls (lv_sub hl [1, 2, 3, 0] rfl)
        exact loop_11 _ 0 gk (by omega) (fun u hu => absurd hu (Nat.not_lt_zero _)) (fun _ _ _ _ => rfl) (Nat.lt_succ_self _) _ _ _ h_o h_s h_H h_C hF hP hS ls (lv_sub hl [1, 2, 3, 0] rfl)
  exact loop_2 _ 0 ha cr (by omega) (fun k hk => absurd hk (Nat.not_lt_zero _)) (Nat.lt_succ_self _) _ _ _ h_o h_s h_H h_C hF hP hS ls (lv_sub hl [1, 2, 0] rfl)

