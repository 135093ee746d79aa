/-! ## the reference: a list that follows another; lists that join two; all lists -/
set_option maxHeartbeats 4000000 in
theorem m_follows (l : Launch) (G : GT) (ω0 : Om) (kc ks : Nat) {o aT aN aR aD aK aI aH aC : Nat} {rf sz ac sp sk : Int32} {ns : Nm} {as : Nat} {f : Nat → Int32} {ha cr : Nat → Int32} {k kd a b d : Nat} {E : Nat → Nat → Bool} (h_o : ω0 (1, 0) = some (o, .inr (2, [.int rf, .ref aT, .int sz, .ref aN, .ref aR, .ref aD, .int ac, .ref aK, .ref aI, .ref aH, .ref aC, .int sp, .int sk]))) (h_s : ω0 ns = some (as, .inl (G.2.1 0, 59, .inl (f)))) (h_H : ω0 (1, 7) = some (aH, .inl (G.2.1 1, 12000, .inl (ha)))) (h_C : ω0 (1, 8) = some (aC, .inl (G.2.1 1, 1000, .inl (cr)))) (hns : ns = (1, 2) ∨ ns = (1, 3)) (hk : k < 12) (hq0 : f (3 + 4 * k) = iI kd) (hq1 : f (3 + 4 * k + 1) = iI a) (hq2 : f (3 + 4 * k + 2) = iI b) (hq3 : f (3 + 4 * k + 3) = iI d) (ok : okQ k (kd, a, b, d)) (hkd : kd = 1 ∨ kd = 5 ∨ kd = 6 ∨ kd = 7) (hE : ∀ v, v < 1000 → ha (1000 * a + v) = bI (E a v)) (hz : ∀ u, u < 1000 → ha (1000 * k + u) = bI false) : Ct l G yX3_follows cX3_follows 7 none 2 35 [.ref o, .ref as, .int (iI ((k : Int)))] ω0 kc ks (fun w ω' kc' ks' => w = none ∧ kc = kc' ∧ ks = ks' ∧ (∃ g c' : Nat → Int32, ω' (1, 7) = some (aH, .inl (G.2.1 1, 12000, .inl (g))) ∧ ω' (1, 8) = some (aC, .inl (G.2.1 1, 1000, .inl (c'))) ∧ (∀ u, u < 1000 → g (1000 * k + u) = bI (comb (kd, a, b, d) E u)) ∧ (∀ j, (j < 1000 * k ∨ 1000 * k + 1000 ≤ j) → g j = ha j)) ∧ Fr (fun k => k = (1, 7) ∨ k = (1, 8)) ω0 ω') := by
  refine Ct.start (by decide) (Nat.le_of_ble_eq_true rfl) ?_
  intro p_ e_ s m_ below_ meth_ c_m H locs ls hx hb hr hlk hml hown hnm hts hK hZ hP hS hl
  have hown : s.vm.findClass RX3 = some m_.cls := hown
  have hl : lv_has ls 7 [(0, .ref o), (1, .ref as), (2, .int (iI ((k : Int))))] := hl
  have hF : Fr ((fun k => k = (1, 7) ∨ k = (1, 8))) ω0 ω0 := Fr.rf
  have hak : a < k := ok.2.2.2.2.2.1 (by show kd ≠ 0; omega)
  have hb99 : b ≤ 99 := ok.2.2.1
  have hd99 : d ≤ 99 := ok.2.2.2.1
  refine lv_aload_n hx hb dX3_follows_0 rfl (lv_at hl 1 rfl) ?_
  refine lv_iload_n hx hb dX3_follows_1 rfl (lv_at hl 2 rfl) ?_
  refine lv_iconst (v := iI 1) hx hb dX3_follows_2 rfl ?_
  refine g_S (As := [.ref as, .int (iI ((k : Int))), .int (iI 1)]) (rest := []) hx hb hml hown hts hK hZ hP hS (m_of (k := k) (w := 1) l G _ _ _ h_s hk (by decide) hq1) 3 (lw_S q1640 q1641 q59 q1642) (by decide +kernel) (by decide) (by decide) rfl hl.1 rfl (Nat.le_of_ble_eq_true rfl) dX3_follows_3 (fun v ω kc_1 ks_1 H locs q_1 hP hS => ?_)
  obtain ⟨rfl, rfl, rfl, rfl⟩ := q_1
  refine W.eq (g2 := F0 m_ 6 ls [.int (iI ((a : Int)))]) rfl ?_
  refine lv_istore_n (lv' := [(3, .int (iI ((a : Int)))), (0, .ref o), (1, .ref as), (2, .int (iI ((k : Int))))]) hx hb dX3_follows_6 rfl hl (by decide) rfl (fun ls hl => ?_)
  refine lv_iconst (v := iI 0) hx hb dX3_follows_7 rfl ?_
  refine lv_istore (lv' := [(4, .int (iI 0)), (3, .int (iI ((a : Int)))), (0, .ref o), (1, .ref as), (2, .int (iI ((k : Int))))]) hx hb dX3_follows_8 hl (by decide) rfl (fun ls hl => ?_)
  refine lv_iconst (v := iI 0) hx hb dX3_follows_10 rfl ?_
  refine lv_istore (lv' := [(5, .int (iI 0)), (4, .int (iI 0)), (3, .int (iI ((a : Int)))), (0, .ref o), (1, .ref as), (2, .int (iI ((k : Int))))]) hx hb dX3_follows_11 hl (by decide) rfl (fun ls hl => ?_)
  refine lv_iconst (v := iI 0) hx hb dX3_follows_13 rfl ?_
  refine lv_istore (lv' := [(6, .int (iI 0)), (5, .int (iI 0)), (4, .int (iI 0)), (3, .int (iI ((a : Int)))), (0, .ref o), (1, .ref as), (2, .int (iI ((k : Int))))]) hx hb dX3_follows_14 hl (by decide) rfl (fun ls hl => ?_)
  have loop_16 : ∀ (nn : Nat) (u : Nat) (c1 : Nat → Int32), (u ≤ 1000) → (∀ j, j < u → c1 j = bI false) → (1000 - u) < nn → ∀ (ω : Om) (H : Heap) (locs : List Loc), ω (1, 0) = some (o, .inr (2, [.int rf, .ref aT, .int sz, .ref aN, .ref aR, .ref aD, .int ac, .ref aK, .ref aI, .ref aH, .ref aC, .int sp, .int sk])) → ω ns = some (as, .inl (G.2.1 0, 59, .inl (f))) → ω (1, 7) = some (aH, .inl (G.2.1 1, 12000, .inl (ha))) → ω (1, 8) = some (aC, .inl (G.2.1 1, 1000, .inl (c1))) → Fr ((fun k => k = (1, 7) ∨ k = (1, 8))) ω0 ω → Hp G ω kc ks H → va_S (gA G) s.heap H locs →  ∀ ls : Array Slot, lv_has ls 7 [(0, .ref o), (1, .ref as), (2, .int (iI ((k : Int)))), (3, .int (iI ((a : Int)))), (4, .int (iI 0)), (5, .int (iI 0)), (6, .int (iI ((u : Int))))] → gW p_ l e_ G 2 35 s m_ [.ref o, .ref as, .int (iI ((k : Int)))] below_ meth_ c_m (fun w ω' kc' ks' => w = none ∧ kc = kc' ∧ ks = ks' ∧ (∃ g c' : Nat → Int32, ω' (1, 7) = some (aH, .inl (G.2.1 1, 12000, .inl (g))) ∧ ω' (1, 8) = some (aC, .inl (G.2.1 1, 1000, .inl (c'))) ∧ (∀ u, u < 1000 → g (1000 * k + u) = bI (comb (kd, a, b, d) E u)) ∧ (∀ j, (j < 1000 * k ∨ 1000 * k + 1000 ≤ j) → g j = ha j)) ∧ Fr (fun k => k = (1, 7) ∨ k = (1, 8)) ω0 ω') H locs 16 ls [] := by
    intro nn
    induction nn with
    | zero => intro u c1 hu hc1 hlt; exact absurd hlt (Nat.not_lt_zero _)
    | succ nn ih_16 =>
      intro u c1 hu hc1 hlt ω H locs h_o h_s h_H h_C hF hP hS ls hl
      refine lv_iload hx hb dX3_follows_16 (lv_at hl 6 rfl) ?_
      refine lv_sipush (v := iI 999) hx hb dX3_follows_18 rfl ?_
      refine g_icmp_gt (tgt := 38) hx hb dX3_follows_21 (by decide) (by omega) (by omega) (fun c_21 => ?_) (fun c_21 => ?_)
      · refine lv_iconst (v := iI 0) hx hb dX3_follows_38 rfl ?_
        refine lv_istore (lv' := [(6, .int (iI 0)), (0, .ref o), (1, .ref as), (2, .int (iI ((k : Int)))), (3, .int (iI ((a : Int)))), (4, .int (iI 0)), (5, .int (iI 0))]) hx hb dX3_follows_39 hl (by decide) rfl (fun ls hl => ?_)
        have loop_41 : ∀ (nn : Nat) (v : Nat) (pl : Nat) (su : Nat) (g : Nat → Int32) (c1 : Nat → Int32), (v ≤ 1000) → (pl = cnt (E a) v) → (su = sm (E a) v) → ((∀ u, u < 1000 → g (1000 * k + u) = bI (part (kd, a, b, d) (E a) v u))) → ((∀ j, (j < 1000 * k ∨ 1000 * k + 1000 ≤ j) → g j = ha j)) → (kd = 5 → ∀ u, u < 1000 → c1 u = bI (crs (E a) v u)) → (1000 - v) < nn → ∀ (ω : Om) (H : Heap) (locs : List Loc), ω (1, 0) = some (o, .inr (2, [.int rf, .ref aT, .int sz, .ref aN, .ref aR, .ref aD, .int ac, .ref aK, .ref aI, .ref aH, .ref aC, .int sp, .int sk])) → ω ns = some (as, .inl (G.2.1 0, 59, .inl (f))) → ω (1, 7) = some (aH, .inl (G.2.1 1, 12000, .inl (g))) → ω (1, 8) = some (aC, .inl (G.2.1 1, 1000, .inl (c1))) → Fr ((fun k => k = (1, 7) ∨ k = (1, 8))) ω0 ω → Hp G ω kc ks H → va_S (gA G) s.heap H locs →  ∀ ls : Array Slot, lv_has ls 7 [(0, .ref o), (1, .ref as), (2, .int (iI ((k : Int)))), (3, .int (iI ((a : Int)))), (4, .int (iI ((pl : Int)))), (5, .int (iI ((su : Int)))), (6, .int (iI ((v : Int))))] → gW p_ l e_ G 2 35 s m_ [.ref o, .ref as, .int (iI ((k : Int)))] below_ meth_ c_m (fun w ω' kc' ks' => w = none ∧ kc = kc' ∧ ks = ks' ∧ (∃ g c' : Nat → Int32, ω' (1, 7) = some (aH, .inl (G.2.1 1, 12000, .inl (g))) ∧ ω' (1, 8) = some (aC, .inl (G.2.1 1, 1000, .inl (c'))) ∧ (∀ u, u < 1000 → g (1000 * k + u) = bI (comb (kd, a, b, d) E u)) ∧ (∀ j, (j < 1000 * k ∨ 1000 * k + 1000 ≤ j) → g j = ha j)) ∧ Fr (fun k => k = (1, 7) ∨ k = (1, 8)) ω0 ω') H locs 41 ls [] := by
          intro nn
          induction nn with
          | zero => intro v pl su g c1 hv hpl hsu hg1 hg2 hcr hlt; exact absurd hlt (Nat.not_lt_zero _)
          | succ nn ih_41 =>
            intro v pl su g c1 hv hpl hsu hg1 hg2 hcr hlt ω H locs h_o h_s h_H h_C hF hP hS ls hl
            have hb1 := cnt_le (E a) v
            have hb2 := sm_bd (E a) hv
            refine lv_iload hx hb dX3_follows_41 (lv_at hl 6 rfl) ?_
            refine lv_sipush (v := iI 999) hx hb dX3_follows_43 rfl ?_
            refine g_icmp_gt (tgt := 188) hx hb dX3_follows_46 (by decide) (by omega) (by omega) (fun c_46 => ?_) (fun c_46 => ?_)
            · refine g_vret hx hb hr hlk hP hS dX3_follows_188 ?_
              refine ⟨rfl, rfl, rfl, ⟨g, c1, h_H, h_C, fun u hu => ?_, hg2⟩, hF⟩
              have e : v = 1000 := by omega
              subst e
              rw [hg1 u hu]
              exact congrArg bI (part_end ok hkd hu)
            · refine lv_aload_n hx hb dX3_follows_49 rfl (lv_at hl 0 rfl) ?_
              refine lv_iload_n hx hb dX3_follows_50 rfl (lv_at hl 3 rfl) ?_
              refine lv_iload hx hb dX3_follows_51 (lv_at hl 6 rfl) ?_
              refine g_V (As := [.int (iI ((a : Int))), .int (iI ((v : Int)))]) (rest := []) hx hb hml hown hts hK hZ hP hS (m_member l G _ _ _ h_o h_H (k := a) (by omega) (by omega) ((hg2 _ (Or.inl (by omega))).trans (hE v (by omega)))) 2 (lw_V q1649 q1651 qs36 q59 q1652) h_o gk2 (by decide +kernel) (by decide) (by decide) rfl hl.1 rfl (Nat.le_of_ble_eq_true rfl) dX3_follows_53 (fun v ω kc_2 ks_2 H locs q_2 hP hS => ?_)
              obtain ⟨rfl, rfl, rfl, rfl⟩ := q_2
              refine W.eq (g2 := F0 m_ 56 ls [.int (bI (E a v))]) rfl ?_
              refine g_ifz_eq (tgt := 182) hx hb dX3_follows_56 (by decide) (fun c_56 => ?_) (fun c_56 => ?_)
              · refine lv_iinc (v := iI (((v + 1 : Nat) : Int))) (lv' := [(6, .int (iI (((v + 1 : Nat) : Int)))), (0, .ref o), (1, .ref as), (2, .int (iI ((k : Int)))), (3, .int (iI ((a : Int)))), (4, .int (iI ((pl : Int)))), (5, .int (iI ((su : Int))))]) hx hb dX3_follows_182 hl (k := 6) rfl (iI_add _ _ |>.trans (congrArg iI (by omega))) (by decide) rfl (fun ls hl => ?_)
                refine lv_goto (tgt := 41) hx hb dX3_follows_185 (by decide) ?_
                exact ih_41 (v + 1) pl su g c1 (by omega) (by rw [hpl, cnt_f c_56]) (by rw [hsu, sm_f c_56]) (fun u hu => by rw [part_skip c_56]; exact hg1 u hu) (by omega) (fun q u hu => by rw [crs_succ, show a_siev (E a) v = false by simp [a_siev, c_56], Bool.and_false, Bool.or_false]; exact hcr q u hu) (by omega) _ _ _ h_o h_s h_H h_C hF hP hS ls (lv_sub hl [1, 2, 3, 4, 5, 6, 0] rfl)
              · have hvb : v * b ≤ 999 * 99 := Nat.mul_le_mul (by omega) hb99
                refine lv_iinc (v := iI (((pl + 1 : Nat) : Int))) (lv' := [(4, .int (iI (((pl + 1 : Nat) : Int)))), (0, .ref o), (1, .ref as), (2, .int (iI ((k : Int)))), (3, .int (iI ((a : Int)))), (5, .int (iI ((su : Int)))), (6, .int (iI ((v : Int))))]) hx hb dX3_follows_59 hl (k := 4) rfl (iI_add _ _ |>.trans (congrArg iI (by omega))) (by decide) rfl (fun ls hl => ?_)
                refine lv_iload hx hb dX3_follows_62 (lv_at hl 5 rfl) ?_
                refine lv_iload hx hb dX3_follows_64 (lv_at hl 6 rfl) ?_
                refine g_iadd hx hb dX3_follows_66 (z := ((su + v : Nat) : Int)) (by omega) ?_
                refine lv_istore (lv' := [(5, .int (iI (((su + v : Nat) : Int)))), (4, .int (iI (((pl + 1 : Nat) : Int)))), (0, .ref o), (1, .ref as), (2, .int (iI ((k : Int)))), (3, .int (iI ((a : Int)))), (6, .int (iI ((v : Int))))]) hx hb dX3_follows_67 hl (by decide) rfl (fun ls hl => ?_)
                refine lv_aload_n hx hb dX3_follows_69 rfl (lv_at hl 3 rfl) ?_
                refine lv_iload_n hx hb dX3_follows_70 rfl (lv_at hl 4 rfl) ?_
                refine lv_iconst (v := iI 0) hx hb dX3_follows_71 rfl ?_
                refine g_S (As := [.ref as, .int (iI ((k : Int))), .int (iI 0)]) (rest := []) hx hb hml hown hts hK hZ hP hS (m_of (k := k) (w := 0) l G _ _ _ h_s hk (by decide) hq0) 3 (lw_S q1640 q1641 q59 q1642) (by decide +kernel) (by decide) (by decide) rfl hl.1 rfl (Nat.le_of_ble_eq_true rfl) dX3_follows_72 (fun v ω kc_3 ks_3 H locs q_3 hP hS => ?_)
                obtain ⟨rfl, rfl, rfl, rfl⟩ := q_3
                refine W.eq (g2 := F0 m_ 75 ls [.int (iI ((kd : Int)))]) rfl ?_
                rcases hkd with rfl | rfl | rfl | rfl
                · refine lv_lookup (off := 33) (tgt := 108) hx hb dX3_follows_75 (by decide) (by decide +kernel) (by decide) ?_
                  refine lv_aload_n hx hb dX3_follows_108 rfl (lv_at hl 2 rfl) ?_
                  refine lv_iload_n hx hb dX3_follows_109 rfl (lv_at hl 4 rfl) ?_
                  refine lv_iload hx hb dX3_follows_110 (lv_at hl 6 rfl) ?_
                  refine lv_aload_n hx hb dX3_follows_112 rfl (lv_at hl 3 rfl) ?_
                  refine lv_iload_n hx hb dX3_follows_113 rfl (lv_at hl 4 rfl) ?_
                  refine lv_iconst (v := iI 2) hx hb dX3_follows_114 rfl ?_
                  refine g_S (As := [.ref as, .int (iI ((k : Int))), .int (iI 2)]) (rest := [.int (iI ((v : Int))), .int (iI ((k : Int))), .ref o]) hx hb hml hown hts hK hZ hP hS (m_of (k := k) (w := 2) l G _ _ _ h_s hk (by decide) hq2) 3 (lw_S q1640 q1641 q59 q1642) (by decide +kernel) (by decide) (by decide) rfl hl.1 rfl (Nat.le_of_ble_eq_true rfl) dX3_follows_115 (fun v ω kc_4 ks_4 H locs q_4 hP hS => ?_)
                  obtain ⟨rfl, rfl, rfl, rfl⟩ := q_4
                  refine W.eq (g2 := F0 m_ 118 ls [.int (iI ((b : Int))), .int (iI ((v : Int))), .int (iI ((k : Int))), .ref o]) rfl ?_
                  refine g_imul hx hb dX3_follows_118 (z := ((v * b : Nat) : Int)) (by simp) ?_
                  refine lv_aload_n hx hb dX3_follows_119 rfl (lv_at hl 3 rfl) ?_
                  refine lv_iload_n hx hb dX3_follows_120 rfl (lv_at hl 4 rfl) ?_
                  refine lv_iconst (v := iI 3) hx hb dX3_follows_121 rfl ?_
                  refine g_S (As := [.ref as, .int (iI ((k : Int))), .int (iI 3)]) (rest := [.int (iI (((v * b : Nat) : Int))), .int (iI ((k : Int))), .ref o]) hx hb hml hown hts hK hZ hP hS (m_of (k := k) (w := 3) l G _ _ _ h_s hk (by decide) hq3) 3 (lw_S q1640 q1641 q59 q1642) (by decide +kernel) (by decide) (by decide) rfl hl.1 rfl (Nat.le_of_ble_eq_true rfl) dX3_follows_122 (fun v ω kc_5 ks_5 H locs q_5 hP hS => ?_)
                  obtain ⟨rfl, rfl, rfl, rfl⟩ := q_5
                  refine W.eq (g2 := F0 m_ 125 ls [.int (iI ((d : Int))), .int (iI (((v * b : Nat) : Int))), .int (iI ((k : Int))), .ref o]) rfl ?_
                  refine g_iadd hx hb dX3_follows_125 (z := ((v * b + d : Nat) : Int)) (by simp) ?_
                  refine g_V (As := [.int (iI ((k : Int))), .int (iI (((v * b + d : Nat) : Int)))]) (rest := []) hx hb hml hown hts hK hZ hP hS (m_adds l G _ _ _ h_o h_H hk (by omega)) 2 (lw_V q1657 q1659 qs38 q59 q1660) h_o gk2 (by decide +kernel) (by decide) (by decide) rfl hl.1 rfl (Nat.le_of_ble_eq_true rfl) dX3_follows_126 (fun v ω kc_6 ks_6 H locs q_6 hP hS => ?_)
                  obtain ⟨rfl, rfl, rfl, ⟨gF, hgH, hgF⟩, hfr⟩ := q_6
                  have h_o := hfr.at (by decide) h_o
                  have h_s := hfr.at (by rcases hns with rfl | rfl <;> decide) h_s
                  have h_H : ω (1, 7) = some (aH, .inl (G.2.1 1, 12000, .inl (gF))) := hgH
                  have h_C := hfr.at (by decide) h_C
                  have hF := hF.trans hfr (fun k hk => Or.inl hk)
                  refine W.eq (g2 := F0 m_ 129 ls []) rfl ?_
                  refine lv_goto (tgt := 182) hx hb dX3_follows_129 (by decide) ?_
                  refine lv_iinc (v := iI (((v + 1 : Nat) : Int))) (lv' := [(6, .int (iI (((v + 1 : Nat) : Int)))), (5, .int (iI (((su + v : Nat) : Int)))), (4, .int (iI (((pl + 1 : Nat) : Int)))), (0, .ref o), (1, .ref as), (2, .int (iI ((k : Int)))), (3, .int (iI ((a : Int))))]) hx hb dX3_follows_182 hl (k := 6) rfl (iI_add _ _ |>.trans (congrArg iI (by omega))) (by decide) rfl (fun ls hl => ?_)
                  refine lv_goto (tgt := 41) hx hb dX3_follows_185 (by decide) ?_
                  exact ih_41 (v + 1) (pl + 1) (su + v) gF c1 (by omega) (by rw [hpl, cnt_t c_56]) (by rw [hsu, sm_t c_56]) (fun u hu => by rw [part_1 rfl c_56, hgF, hg1 u hu]; by_cases q : v * b + d = u; (rw [if_pos ⟨by omega, by omega⟩]; simp [q]); (rw [if_neg (by omega)]; simp [q])) (fun j hj => by rw [hgF, if_neg (by omega)]; exact hg2 j hj) (fun q => by omega) (by omega) _ _ _ h_o h_s h_H h_C hF hP hS ls (lv_sub hl [3, 4, 5, 6, 2, 1, 0] rfl)
                · refine lv_lookup (off := 57) (tgt := 132) hx hb dX3_follows_75 (by decide) (by decide +kernel) (by decide) ?_
                  refine lv_aload_n hx hb dX3_follows_132 rfl (lv_at hl 2 rfl) ?_
                  refine lv_iload_n hx hb dX3_follows_133 rfl (lv_at hl 4 rfl) ?_
                  refine lv_iload hx hb dX3_follows_134 (lv_at hl 6 rfl) ?_
                  refine g_V (As := [.int (iI ((k : Int))), .int (iI ((v : Int)))]) (rest := []) hx hb hml hown hts hK hZ hP hS (m_sieves l G _ _ _ h_o h_H h_C hk (by omega) (hcr rfl)) 2 (lw_V q1661 q1663 qs39 q59 q1664) h_o gk2 (by decide +kernel) (by decide) (by decide) rfl hl.1 rfl (Nat.le_of_ble_eq_true rfl) dX3_follows_136 (fun v ω kc_7 ks_7 H locs q_7 hP hS => ?_)
                  obtain ⟨rfl, rfl, rfl, ⟨gF, cF, hgH, hgC, hgF, hcF⟩, hfr⟩ := q_7
                  have h_o := hfr.at (by decide) h_o
                  have h_s := hfr.at (by rcases hns with rfl | rfl <;> decide) h_s
                  have h_H : ω (1, 7) = some (aH, .inl (G.2.1 1, 12000, .inl (gF))) := hgH
                  have h_C : ω (1, 8) = some (aC, .inl (G.2.1 1, 1000, .inl (cF))) := hgC
                  have hF := hF.trans hfr (fun k hk => hk)
                  refine W.eq (g2 := F0 m_ 139 ls []) rfl ?_
                  refine lv_goto (tgt := 182) hx hb dX3_follows_139 (by decide) ?_
                  refine lv_iinc (v := iI (((v + 1 : Nat) : Int))) (lv' := [(6, .int (iI (((v + 1 : Nat) : Int)))), (5, .int (iI (((su + v : Nat) : Int)))), (4, .int (iI (((pl + 1 : Nat) : Int)))), (0, .ref o), (1, .ref as), (2, .int (iI ((k : Int)))), (3, .int (iI ((a : Int))))]) hx hb dX3_follows_182 hl (k := 6) rfl (iI_add _ _ |>.trans (congrArg iI (by omega))) (by decide) rfl (fun ls hl => ?_)
                  refine lv_goto (tgt := 41) hx hb dX3_follows_185 (by decide) ?_
                  exact ih_41 (v + 1) (pl + 1) (su + v) gF cF (by omega) (by rw [hpl, cnt_t c_56]) (by rw [hsu, sm_t c_56]) (fun u hu => by rw [part_5 rfl c_56, hgF]; by_cases q : u = v; (subst q; rw [if_pos rfl, if_pos rfl]); (rw [if_neg (by omega), if_neg q, hg1 u hu])) (fun j hj => by rw [hgF, if_neg (by omega)]; exact hg2 j hj) (fun q u hu => by rw [crs_succ, hcF u hu]; rw [show a_siev (E a) v = !crs (E a) v v by rw [crs_self c_56]; simp]) (by omega) _ _ _ h_o h_s h_H h_C hF hP hS ls (lv_sub hl [3, 4, 5, 6, 2, 1, 0] rfl)
                · refine lv_lookup (off := 67) (tgt := 142) hx hb dX3_follows_75 (by decide) (by decide +kernel) (by decide) ?_
                  refine lv_aload_n hx hb dX3_follows_142 rfl (lv_at hl 2 rfl) ?_
                  refine g_get hx hb hown hts hK hP h_o gk2 9 (by decide) q1532 (fun _ h => h) rfl dX3_follows_143 ?_
                  refine lv_sipush (v := iI 1000) hx hb dX3_follows_146 rfl ?_
                  refine lv_iload_n hx hb dX3_follows_149 rfl (lv_at hl 4 rfl) ?_
                  refine g_imul hx hb dX3_follows_150 (z := ((1000 * k : Nat) : Int)) (by omega) ?_
                  refine lv_iload hx hb dX3_follows_151 (lv_at hl 6 rfl) ?_
                  refine g_iadd hx hb dX3_follows_153 (z := ((1000 * k + v : Nat) : Int)) (by omega) ?_
                  refine lv_iload hx hb dX3_follows_154 (lv_at hl 1 rfl) ?_
                  refine lv_aload_n hx hb dX3_follows_156 rfl (lv_at hl 3 rfl) ?_
                  refine lv_iload_n hx hb dX3_follows_157 rfl (lv_at hl 4 rfl) ?_
                  refine lv_iconst (v := iI 2) hx hb dX3_follows_158 rfl ?_
                  refine g_S (As := [.ref as, .int (iI ((k : Int))), .int (iI 2)]) (rest := [.int (iI (((pl + 1 : Nat) : Int))), .int (iI (((1000 * k + v : Nat) : Int))), .ref aH]) hx hb hml hown hts hK hZ hP hS (m_of (k := k) (w := 2) l G _ _ _ h_s hk (by decide) hq2) 3 (lw_S q1640 q1641 q59 q1642) (by decide +kernel) (by decide) (by decide) rfl hl.1 rfl (Nat.le_of_ble_eq_true rfl) dX3_follows_159 (fun v ω kc_8 ks_8 H locs q_8 hP hS => ?_)
                  obtain ⟨rfl, rfl, rfl, rfl⟩ := q_8
                  refine W.eq (g2 := F0 m_ 162 ls [.int (iI ((b : Int))), .int (iI (((pl + 1 : Nat) : Int))), .int (iI (((1000 * k + v : Nat) : Int))), .ref aH]) rfl ?_
                  refine g_irem hx hb dX3_follows_162 (z := (((pl + 1) % b : Nat) : Int)) (by simp) (by omega) (by omega) (by omega) (by have h7 : 1 ≤ b := (ok.2.2.2.2.2.2.1 (Or.inr rfl)).1; omega) ?_
                  refine g_if_ne (tgt := 170) hx hb dX3_follows_163 (by decide) (by have := Nat.mod_lt (pl + 1) (show 0 < b by have := (ok.2.2.2.2.2.2.1 (Or.inr rfl)).1; show 0 < b; exact this); omega) (fun c_163 => ?_) (fun c_163 => ?_)
                  · refine lv_iconst (v := iI 0) hx hb dX3_follows_170 rfl ?_
                    refine W.eq (g2 := F0 m_ 171 ls [.int (bI false), .int (iI (((1000 * k + v : Nat) : Int))), .ref aH]) rfl ?_
                    refine g_zast hx hb hK hP hS h_H (1000 * k + v) (by first | rfl | omega) (by first | decide | omega) (by first | decide | omega) dX3_follows_171 (fun ω H locs e_9 n_9 hP hS => ?_)
                    have h_o := (n_9 _ (by decide)).trans h_o
                    have h_s := (n_9 _ (by rcases hns with rfl | rfl <;> decide)).trans h_s
                    have h_H : ω (1, 7) = some (aH, .inl (G.2.1 1, 12000, .inl (upd g (1000 * k + v) (bI false)))) := e_9
                    have h_C := (n_9 _ (by decide)).trans h_C
                    have hF := hF.put n_9 (by first | exact Or.inl rfl | exact Or.inr rfl)
                    refine lv_goto (tgt := 182) hx hb dX3_follows_172 (by decide) ?_
                    refine lv_iinc (v := iI (((v + 1 : Nat) : Int))) (lv' := [(6, .int (iI (((v + 1 : Nat) : Int)))), (5, .int (iI (((su + v : Nat) : Int)))), (4, .int (iI (((pl + 1 : Nat) : Int)))), (0, .ref o), (1, .ref as), (2, .int (iI ((k : Int)))), (3, .int (iI ((a : Int))))]) hx hb dX3_follows_182 hl (k := 6) rfl (iI_add _ _ |>.trans (congrArg iI (by omega))) (by decide) rfl (fun ls hl => ?_)
                    refine lv_goto (tgt := 41) hx hb dX3_follows_185 (by decide) ?_
                    have h6 : cnt (E a) (v + 1) % b ≠ 0 := by rw [cnt_t c_56, ← hpl]; omega
                    exact ih_41 (v + 1) (pl + 1) (su + v) (upd g (1000 * k + v) (bI false)) c1 (by omega) (by rw [hpl, cnt_t c_56]) (by rw [hsu, sm_t c_56]) (fun u hu => by rw [part_6v c_56 (decide_eq_false h6).symm, upd]; by_cases q : u = v; (subst q; rw [if_pos rfl, if_pos rfl]); (rw [if_neg (by omega), if_neg q, hg1 u hu])) (fun j hj => by rw [upd, if_neg (by omega)]; exact hg2 j hj) (fun q => by omega) (by omega) _ _ _ h_o h_s h_H h_C hF hP hS ls (lv_sub hl [3, 4, 5, 6, 2, 1, 0] rfl)
                  · refine lv_iconst (v := iI 1) hx hb dX3_follows_166 rfl ?_
                    refine lv_goto (tgt := 171) hx hb dX3_follows_167 (by decide) ?_
                    refine W.eq (g2 := F0 m_ 171 ls [.int (bI true), .int (iI (((1000 * k + v : Nat) : Int))), .ref aH]) rfl ?_
                    refine g_zast hx hb hK hP hS h_H (1000 * k + v) (by first | rfl | omega) (by first | decide | omega) (by first | decide | omega) dX3_follows_171 (fun ω H locs e_10 n_10 hP hS => ?_)
                    have h_o := (n_10 _ (by decide)).trans h_o
                    have h_s := (n_10 _ (by rcases hns with rfl | rfl <;> decide)).trans h_s
                    have h_H : ω (1, 7) = some (aH, .inl (G.2.1 1, 12000, .inl (upd g (1000 * k + v) (bI true)))) := e_10
                    have h_C := (n_10 _ (by decide)).trans h_C
                    have hF := hF.put n_10 (by first | exact Or.inl rfl | exact Or.inr rfl)
                    refine lv_goto (tgt := 182) hx hb dX3_follows_172 (by decide) ?_
                    refine lv_iinc (v := iI (((v + 1 : Nat) : Int))) (lv' := [(6, .int (iI (((v + 1 : Nat) : Int)))), (5, .int (iI (((su + v : Nat) : Int)))), (4, .int (iI (((pl + 1 : Nat) : Int)))), (0, .ref o), (1, .ref as), (2, .int (iI ((k : Int)))), (3, .int (iI ((a : Int))))]) hx hb dX3_follows_182 hl (k := 6) rfl (iI_add _ _ |>.trans (congrArg iI (by omega))) (by decide) rfl (fun ls hl => ?_)
                    refine lv_goto (tgt := 41) hx hb dX3_follows_185 (by decide) ?_
                    have h6 : cnt (E a) (v + 1) % b = 0 := by rw [cnt_t c_56, ← hpl]; omega
                    exact ih_41 (v + 1) (pl + 1) (su + v) (upd g (1000 * k + v) (bI true)) c1 (by omega) (by rw [hpl, cnt_t c_56]) (by rw [hsu, sm_t c_56]) (fun u hu => by rw [part_6v c_56 (decide_eq_true h6).symm, upd]; by_cases q : u = v; (subst q; rw [if_pos rfl, if_pos rfl]); (rw [if_neg (by omega), if_neg q, hg1 u hu])) (fun j hj => by rw [upd, if_neg (by omega)]; exact hg2 j hj) (fun q => by omega) (by omega) _ _ _ h_o h_s h_H h_C hF hP hS ls (lv_sub hl [3, 4, 5, 6, 2, 1, 0] rfl)
                · refine lv_lookup (off := 100) (tgt := 175) hx hb dX3_follows_75 (by decide) (by decide +kernel) (by decide) ?_
                  refine lv_aload_n hx hb dX3_follows_175 rfl (lv_at hl 2 rfl) ?_
                  refine lv_iload_n hx hb dX3_follows_176 rfl (lv_at hl 4 rfl) ?_
                  refine lv_iload hx hb dX3_follows_177 (lv_at hl 0 rfl) ?_
                  refine g_V (As := [.int (iI ((k : Int))), .int (iI (((su + v : Nat) : Int)))]) (rest := []) hx hb hml hown hts hK hZ hP hS (m_adds l G _ _ _ h_o h_H hk (by omega)) 2 (lw_V q1657 q1659 qs38 q59 q1660) h_o gk2 (by decide +kernel) (by decide) (by decide) rfl hl.1 rfl (Nat.le_of_ble_eq_true rfl) dX3_follows_179 (fun v ω kc_11 ks_11 H locs q_11 hP hS => ?_)
                  obtain ⟨rfl, rfl, rfl, ⟨gF, hgH, hgF⟩, hfr⟩ := q_11
                  have h_o := hfr.at (by decide) h_o
                  have h_s := hfr.at (by rcases hns with rfl | rfl <;> decide) h_s
                  have h_H : ω (1, 7) = some (aH, .inl (G.2.1 1, 12000, .inl (gF))) := hgH
                  have h_C := hfr.at (by decide) h_C
                  have hF := hF.trans hfr (fun k hk => Or.inl hk)
                  refine W.eq (g2 := F0 m_ 182 ls []) rfl ?_
                  refine lv_iinc (v := iI (((v + 1 : Nat) : Int))) (lv' := [(6, .int (iI (((v + 1 : Nat) : Int)))), (5, .int (iI (((su + v : Nat) : Int)))), (4, .int (iI (((pl + 1 : Nat) : Int)))), (0, .ref o), (1, .ref as), (2, .int (iI ((k : Int)))), (3, .int (iI ((a : Int))))]) hx hb dX3_follows_182 hl (k := 6) rfl (iI_add _ _ |>.trans (congrArg iI (by omega))) (by decide) rfl (fun ls hl => ?_)
                  refine lv_goto (tgt := 41) hx hb dX3_follows_185 (by decide) ?_
                  exact ih_41 (v + 1) (pl + 1) (su + v) gF c1 (by omega) (by rw [hpl, cnt_t c_56]) (by rw [hsu, sm_t c_56]) (fun u hu => by rw [part_7 (show (7 : Nat) ≠ 1 by decide) (show (7 : Nat) ≠ 5 by decide) (show (7 : Nat) ≠ 6 by decide) c_56, hgF, hg1 u hu]; rw [sm_t c_56, ← hsu]; by_cases q : su + v = u; (rw [if_pos ⟨by omega, by omega⟩]; simp [q]); (rw [if_neg (by omega)]; simp [q])) (fun j hj => by rw [hgF, if_neg (by omega)]; exact hg2 j hj) (fun q => by omega) (by omega) _ _ _ h_o h_s h_H h_C hF hP hS ls (lv_sub hl [3, 4, 5, 6, 2, 1, 0] rfl)
        exact loop_41 _ 0 0 0 ha c1 (by omega) rfl rfl (fun u hu => by rw [part_0]; exact hz u hu) (fun _ _ => rfl) (fun _ u hu => hc1 u (by omega)) (Nat.lt_succ_self _) _ _ _ h_o h_s h_H h_C hF hP hS ls (lv_sub hl [1, 2, 3, 4, 5, 6, 0] rfl)
      · refine lv_aload_n hx hb dX3_follows_24 rfl (lv_at hl 0 rfl) ?_
        refine g_get hx hb hown hts hK hP h_o gk2 10 (by decide) q1533 (fun _ h => h) rfl dX3_follows_25 ?_
        refine lv_iload hx hb dX3_follows_28 (lv_at hl 6 rfl) ?_
        refine lv_iconst (v := iI 0) hx hb dX3_follows_30 rfl ?_
        refine W.eq (g2 := F0 m_ 31 ls [.int (bI false), .int (iI ((u : Int))), .ref aC]) rfl ?_
        refine g_zast hx hb hK hP hS h_C u (by first | rfl | omega) (by first | decide | omega) (by first | decide | omega) dX3_follows_31 (fun ω H locs e_12 n_12 hP hS => ?_)
        have h_o := (n_12 _ (by decide)).trans h_o
        have h_s := (n_12 _ (by rcases hns with rfl | rfl <;> decide)).trans h_s
        have h_H := (n_12 _ (by decide)).trans h_H
        have h_C : ω (1, 8) = some (aC, .inl (G.2.1 1, 1000, .inl (upd c1 u (bI false)))) := e_12
        have hF := hF.put n_12 (by first | exact Or.inl rfl | exact Or.inr rfl)
        refine lv_iinc (v := iI (((u + 1 : Nat) : Int))) (lv' := [(6, .int (iI (((u + 1 : Nat) : Int)))), (0, .ref o), (1, .ref as), (2, .int (iI ((k : Int)))), (3, .int (iI ((a : Int)))), (4, .int (iI 0)), (5, .int (iI 0))]) hx hb dX3_follows_32 hl (k := 6) rfl (iI_add _ _ |>.trans (congrArg iI (by omega))) (by decide) rfl (fun ls hl => ?_)
        refine lv_goto (tgt := 16) hx hb dX3_follows_35 (by decide) ?_
        exact ih_16 (u + 1) (upd c1 u (bI false)) (by omega) (fun j hj => by rw [upd]; split; rfl; exact hc1 j (by omega)) (by omega) _ _ _ h_o h_s h_H h_C hF hP hS ls (lv_sub hl [1, 2, 3, 4, 5, 6, 0] rfl)
  exact loop_16 _ 0 cr (by omega) (fun j hj => absurd hj (Nat.not_lt_zero _)) (Nat.lt_succ_self _) _ _ _ h_o h_s h_H h_C hF hP hS ls (lv_sub hl [4, 5, 6, 3, 2, 1, 0] rfl)

