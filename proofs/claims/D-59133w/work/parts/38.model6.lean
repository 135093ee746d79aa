/-! ## the reference: texts -/
set_option maxHeartbeats 4000000 in
theorem m_figures (l : Launch) (G : GT) (ω0 : Om) (kc ks : Nat) {o aT aN aR aD aK aI aH aC : Nat} {rf ac sk : Int32} {tx : Nat → Int32} {t : List Nat} {z : Int} {J lo hi p : Nat} (h_o : ω0 (1, 0) = some (o, .inr (2, [.int rf, .ref aT, .int (iI ((t.length : Int))), .ref aN, .ref aR, .ref aD, .int ac, .ref aK, .ref aI, .ref aH, .ref aC, .int (iI ((p : Int))), .int sk]))) (h_T : ω0 (1, 1) = some (aT, .inl (G.2.1 0, 120, .inl (tx)))) (hX : TX tx t) (hz : iR z) (hJ : J ≤ 3) (hlo : lo ≤ 9) (hhi : hi ≤ 999) (hp : p ≤ 120) : Ct l G yX3_figures cX3_figures 9 (some .int) 2 37 [.ref o, .int (iI z), .int (iI ((fU J : Int))), .int (iI ((lo : Int))), .int (iI ((hi : Int)))] ω0 kc ks (fun v ω' kc' ks' => v = some (.int (iI (if z = -1 then -1 else mv (fgS t lo hi J 0 p)))) ∧ kc = kc' ∧ ks = ks' ∧ ω' (1, 0) = some (o, .inr (2, [.int rf, .ref aT, .int (iI ((t.length : Int))), .ref aN, .ref aR, .ref aD, .int ac, .ref aK, .ref aI, .ref aH, .ref aC, .int (iI (((if z = -1 then p else (fgS t lo hi J 0 p).2.2 : Nat) : Int))), .int sk])) ∧ Fr (fun k => k = (1, 0)) ω0 ω') := by
  refine Ct.start (by decide) (Nat.le_of_ble_eq_true rfl) ?_
  intro p_ e_ s m_ below_ meth_ c_m H locs ls hx hb hr hlk hml hown hnm hts hK hZ hP hS hl
  have hown : s.vm.findClass RX3 = some m_.cls := hown
  have hl : lv_has ls 9 [(0, .ref o), (1, .int (iI z)), (2, .int (iI ((fU J : Int)))), (3, .int (iI ((lo : Int)))), (4, .int (iI ((hi : Int))))] := hl
  have hF : Fr ((fun k => k = (1, 0))) ω0 ω0 := Fr.rf
  obtain ⟨hX1, hX2, hX3⟩ := hX
  refine lv_iconst (v := iI 0) hx hb dX3_figures_0 rfl ?_
  refine lv_istore (lv' := [(5, .int (iI 0)), (0, .ref o), (1, .int (iI z)), (2, .int (iI ((fU J : Int)))), (3, .int (iI ((lo : Int)))), (4, .int (iI ((hi : Int))))]) hx hb dX3_figures_1 hl (by decide) rfl (fun ls hl => ?_)
  refine lv_iload_n hx hb dX3_figures_3 rfl (lv_at hl 3 rfl) ?_
  refine lv_istore (lv' := [(6, .int (iI ((fU J : Int)))), (5, .int (iI 0)), (0, .ref o), (1, .int (iI z)), (2, .int (iI ((fU J : Int)))), (3, .int (iI ((lo : Int)))), (4, .int (iI ((hi : Int))))]) hx hb dX3_figures_4 hl (by decide) rfl (fun ls hl => ?_)
  have loop_6 : ∀ (nn : Nat) (j : Nat) (v : Nat) (q : Nat), (j ≤ 3) → (v ≤ 999) → (q ≤ 120) → (z ≠ -1 → fgS t lo hi j v q = fgS t lo hi J 0 p) → (z = -1 → q = p) → j < nn → ∀ (ω : Om) (H : Heap) (locs : List Loc), ω (1, 0) = some (o, .inr (2, [.int rf, .ref aT, .int (iI ((t.length : Int))), .ref aN, .ref aR, .ref aD, .int ac, .ref aK, .ref aI, .ref aH, .ref aC, .int (iI ((q : Int))), .int sk])) → ω (1, 1) = some (aT, .inl (G.2.1 0, 120, .inl (tx))) → Fr ((fun k => k = (1, 0))) ω0 ω → Hp G ω kc ks H → va_S (gA G) s.heap H locs →  ∀ ls : Array Slot, lv_has ls 9 [(0, .ref o), (1, .int (iI z)), (2, .int (iI ((fU J : Int)))), (3, .int (iI ((lo : Int)))), (4, .int (iI ((hi : Int)))), (5, .int (iI ((v : Int)))), (6, .int (iI ((fU j : Int))))] → gW p_ l e_ G 2 37 s m_ [.ref o, .int (iI z), .int (iI ((fU J : Int))), .int (iI ((lo : Int))), .int (iI ((hi : Int)))] below_ meth_ c_m (fun v ω' kc' ks' => v = some (.int (iI (if z = -1 then -1 else mv (fgS t lo hi J 0 p)))) ∧ kc = kc' ∧ ks = ks' ∧ ω' (1, 0) = some (o, .inr (2, [.int rf, .ref aT, .int (iI ((t.length : Int))), .ref aN, .ref aR, .ref aD, .int ac, .ref aK, .ref aI, .ref aH, .ref aC, .int (iI (((if z = -1 then p else (fgS t lo hi J 0 p).2.2 : Nat) : Int))), .int sk])) ∧ Fr (fun k => k = (1, 0)) ω0 ω') H locs 6 ls [] := by
    intro nn
    induction nn with
    | zero => intro j v q hj hv hq hfg hz1 hlt; exact absurd hlt (Nat.not_lt_zero _)
    | succ nn ih_6 =>
      intro j v q hj hv hq hfg hz1 hlt ω H locs h_o h_T hF hP hS ls hl
      have hfu : fU j ≤ 100 := fU_le
      refine lv_iload hx hb dX3_figures_6 (lv_at hl 6 rfl) ?_
      refine g_if_le (tgt := 112) hx hb dX3_figures_8 (by decide) (by omega) (fun c_8 => ?_) (fun c_8 => ?_)
      · have hj0 := fU_0 hj c_8
        refine lv_iload_n hx hb dX3_figures_112 rfl (lv_at hl 1 rfl) ?_
        refine lv_iconst (v := iI (-1)) hx hb dX3_figures_113 rfl ?_
        refine g_icmp_ne (tgt := 121) hx hb dX3_figures_114 (by decide) (by omega) (by omega) (fun c_114 => ?_) (fun c_114 => ?_)
        · refine lv_iload hx hb dX3_figures_121 (lv_at hl 5 rfl) ?_
          refine g_iret hx hb hr hlk hP hS (v := (iI ((v : Int)))) rfl dX3_figures_123 ?_
          subst hj0
          have hfg2 := hfg c_114
          refine ⟨so_i (by rw [if_neg c_114, ← hfg2]; rfl), rfl, rfl, ?_, hF⟩
          rw [if_neg c_114, ← hfg2]
          exact h_o
        · refine lv_iconst (v := iI (-1)) hx hb dX3_figures_117 rfl ?_
          refine lv_goto (tgt := 123) hx hb dX3_figures_118 (by decide) ?_
          refine g_iret hx hb hr hlk hP hS (v := (iI (-1))) rfl dX3_figures_123 ?_
          refine ⟨so_i (by rw [if_pos c_114]), rfl, rfl, ?_, hF⟩
          rw [if_pos c_114, ← hz1 c_114]
          exact h_o
      · have hj1 := fU_pos c_8
        refine lv_iload_n hx hb dX3_figures_11 rfl (lv_at hl 1 rfl) ?_
        refine lv_iconst (v := iI (-1)) hx hb dX3_figures_12 rfl ?_
        refine g_icmp_eq (tgt := 112) hx hb dX3_figures_13 (by decide) (by omega) (by omega) (fun c_13 => ?_) (fun c_13 => ?_)
        · refine lv_iload_n hx hb dX3_figures_112 rfl (lv_at hl 1 rfl) ?_
          refine lv_iconst (v := iI (-1)) hx hb dX3_figures_113 rfl ?_
          refine g_icmp_ne (tgt := 121) hx hb dX3_figures_114 (by decide) (by omega) (by omega) (fun c_114 => ?_) (fun c_114 => ?_)
          · exact absurd c_13 c_114
          · refine lv_iconst (v := iI (-1)) hx hb dX3_figures_117 rfl ?_
            refine lv_goto (tgt := 123) hx hb dX3_figures_118 (by decide) ?_
            refine g_iret hx hb hr hlk hP hS (v := (iI (-1))) rfl dX3_figures_123 ?_
            refine ⟨so_i (by rw [if_pos c_114]), rfl, rfl, ?_, hF⟩
            rw [if_pos c_114, ← hz1 c_114]
            exact h_o
        · refine lv_aload_n hx hb dX3_figures_16 rfl (lv_at hl 0 rfl) ?_
          refine g_get hx hb hown hts hK hP h_o gk2 11 (by decide) q1534 (fun _ h => h) rfl dX3_figures_17 ?_
          refine lv_aload_n hx hb dX3_figures_20 rfl (lv_at hl 0 rfl) ?_
          refine g_get hx hb hown hts hK hP h_o gk2 2 (by decide) q1525 (fun _ h => h) rfl dX3_figures_21 ?_
          refine g_icmp_ge (tgt := 42) hx hb dX3_figures_24 (by decide) (by omega) (by omega) (fun c_24 => ?_) (fun c_24 => ?_)
          · refine lv_iconst (v := iI (-1)) hx hb dX3_figures_42 rfl ?_
            refine lv_istore (lv' := [(7, .int (iI (-1))), (0, .ref o), (1, .int (iI z)), (2, .int (iI ((fU J : Int)))), (3, .int (iI ((lo : Int)))), (4, .int (iI ((hi : Int)))), (5, .int (iI ((v : Int)))), (6, .int (iI ((fU j : Int))))]) hx hb dX3_figures_43 hl (by decide) rfl (fun ls hl => ?_)
            refine lv_iload hx hb dX3_figures_45 (lv_at hl 6 rfl) ?_
            refine lv_iload hx hb dX3_figures_47 (lv_at hl 0 rfl) ?_
            refine lv_iload hx hb dX3_figures_49 (lv_at hl 7 rfl) ?_
            refine g_imul hx hb dX3_figures_51 rfl ?_
            refine g_iadd hx hb dX3_figures_52 rfl ?_
            refine lv_istore (lv' := [(8, .int (iI (((v : Int)) + ((-1) * ((fU j : Int)))))), (7, .int (iI (-1))), (0, .ref o), (1, .int (iI z)), (2, .int (iI ((fU J : Int)))), (3, .int (iI ((lo : Int)))), (4, .int (iI ((hi : Int)))), (5, .int (iI ((v : Int)))), (6, .int (iI ((fU j : Int))))]) hx hb dX3_figures_53 hl (by decide) rfl (fun ls hl => ?_)
            refine lv_iload hx hb dX3_figures_55 (lv_at hl 1 rfl) ?_
            refine g_i2l hx hb dX3_figures_57 (by omega) ?_
            refine lv_lconst (v := lI 0) hx hb dX3_figures_58 rfl ?_
            refine lv_ldc2 hx hb hown (hts _ q1603) dX3_figures_59 ?_
            refine g_top (w := .long (lI (9))) (by decide) ?_
            refine g_S (As := [.long (lI (-1)), .long (lI 0), .long (lI 9)]) (rest := []) hx hb hml hown hts hK hZ hP hS (m_in l G _ _ _ (by omega) (by omega) (by omega)) 3 (lw_S q1572 q1573 q59 q1574) (by decide +kernel) (by decide) (by decide) rfl hl.1 rfl (Nat.le_of_ble_eq_true rfl) dX3_figures_62 (fun v ω kc_1 ks_1 H locs q_1 hP hS => ?_)
            obtain ⟨rfl, rfl, rfl, rfl⟩ := q_1
            refine W.eq (g2 := F0 m_ 65 ls [.int (bI (decide (0 ≤ (-1 : Int) ∧ (-1 : Int) ≤ 9)))]) rfl ?_
            refine g_ifz_eq (tgt := 86) hx hb dX3_figures_65 (by decide) (fun c_65 => ?_) (fun c_65 => ?_)
            · refine lv_iconst (v := iI (-1)) hx hb dX3_figures_86 rfl ?_
              refine g_iret hx hb hr hlk hP hS (v := (iI (-1))) rfl dX3_figures_87 ?_
              have hres : fgS t lo hi J 0 p = (0, false, q) := by rw [← hfg c_13, fgS_n hj1 (by omega)]
              refine ⟨so_i (by rw [if_neg c_13, hres]; rfl), rfl, rfl, ?_, hF⟩
              rw [if_neg c_13, hres]
              exact h_o
            · exact absurd c_65 (by decide)
          · obtain ⟨c, hc⟩ : ∃ c, t[q]? = some c := ⟨_, List.getElem?_eq_getElem (by omega)⟩
            have hc255 := hX2 q c hc
            refine lv_aload_n hx hb dX3_figures_27 rfl (lv_at hl 0 rfl) ?_
            refine g_get hx hb hown hts hK hP h_o gk2 1 (by decide) q1524 (fun _ h => h) rfl dX3_figures_28 ?_
            refine lv_aload_n hx hb dX3_figures_31 rfl (lv_at hl 0 rfl) ?_
            refine g_get hx hb hown hts hK hP h_o gk2 11 (by decide) q1534 (fun _ h => h) rfl dX3_figures_32 ?_
            refine g_iald hx hb hK hP h_T q (by first | rfl | omega) (by first | decide | omega) (by first | decide | omega) (v := .int (iI ((c : Int)))) (by rw [hX1 q c hc]) dX3_figures_35 ?_
            refine lv_bipush (v := iI 48) hx hb dX3_figures_36 rfl ?_
            refine g_isub hx hb dX3_figures_38 rfl ?_
            refine lv_goto (tgt := 43) hx hb dX3_figures_39 (by decide) ?_
            refine lv_istore (lv' := [(7, .int (iI (((c : Int)) - 48))), (0, .ref o), (1, .int (iI z)), (2, .int (iI ((fU J : Int)))), (3, .int (iI ((lo : Int)))), (4, .int (iI ((hi : Int)))), (5, .int (iI ((v : Int)))), (6, .int (iI ((fU j : Int))))]) hx hb dX3_figures_43 hl (by decide) rfl (fun ls hl => ?_)
            refine lv_iload hx hb dX3_figures_45 (lv_at hl 6 rfl) ?_
            refine lv_iload hx hb dX3_figures_47 (lv_at hl 0 rfl) ?_
            refine lv_iload hx hb dX3_figures_49 (lv_at hl 7 rfl) ?_
            refine g_imul hx hb dX3_figures_51 rfl ?_
            refine g_iadd hx hb dX3_figures_52 rfl ?_
            refine lv_istore (lv' := [(8, .int (iI (((v : Int)) + ((((c : Int)) - 48) * ((fU j : Int)))))), (7, .int (iI (((c : Int)) - 48))), (0, .ref o), (1, .int (iI z)), (2, .int (iI ((fU J : Int)))), (3, .int (iI ((lo : Int)))), (4, .int (iI ((hi : Int)))), (5, .int (iI ((v : Int)))), (6, .int (iI ((fU j : Int))))]) hx hb dX3_figures_53 hl (by decide) rfl (fun ls hl => ?_)
            refine lv_iload hx hb dX3_figures_55 (lv_at hl 1 rfl) ?_
            refine g_i2l hx hb dX3_figures_57 (by omega) ?_
            refine lv_lconst (v := lI 0) hx hb dX3_figures_58 rfl ?_
            refine lv_ldc2 hx hb hown (hts _ q1603) dX3_figures_59 ?_
            refine g_top (w := .long (lI (9))) (by decide) ?_
            refine g_S (As := [.long (lI (((c : Int)) - 48)), .long (lI 0), .long (lI 9)]) (rest := []) hx hb hml hown hts hK hZ hP hS (m_in l G _ _ _ (by omega) (by omega) (by omega)) 3 (lw_S q1572 q1573 q59 q1574) (by decide +kernel) (by decide) (by decide) rfl hl.1 rfl (Nat.le_of_ble_eq_true rfl) dX3_figures_62 (fun v ω kc_2 ks_2 H locs q_2 hP hS => ?_)
            obtain ⟨rfl, rfl, rfl, rfl⟩ := q_2
            refine W.eq (g2 := F0 m_ 65 ls [.int (bI (decide (0 ≤ ((c : Int) - 48) ∧ ((c : Int) - 48) ≤ 9)))]) rfl ?_
            refine g_ifz_eq (tgt := 86) hx hb dX3_figures_65 (by decide) (fun c_65 => ?_) (fun c_65 => ?_)
            · refine lv_iconst (v := iI (-1)) hx hb dX3_figures_86 rfl ?_
              refine g_iret hx hb hr hlk hP hS (v := (iI (-1))) rfl dX3_figures_87 ?_
              have hres : fgS t lo hi J 0 p = (0, false, q) := by rw [← hfg c_13, fgS_f hj1 hc (w := (c - 48) * fU j) rfl (by have hd := of_decide_eq_false c_65; omega)]
              refine ⟨so_i (by rw [if_neg c_13, hres]; rfl), rfl, rfl, ?_, hF⟩
              rw [if_neg c_13, hres]
              exact h_o
            · have hd := of_decide_eq_true c_65
              have hc9 : c - 48 ≤ 9 := by omega
              have hwb : (c - 48) * fU j ≤ 9 * 100 := Nat.mul_le_mul hc9 fU_le
              obtain ⟨w, hw⟩ : ∃ w, w = (c - 48) * fU j := ⟨_, rfl⟩
              have hwe : ((c : Int) - 48) * (fU j : Int) = (w : Int) := by rw [hw, show ((c : Int) - 48) = ((c - 48 : Nat) : Int) by omega]; simp
              rw [← hw] at hwb
              refine lv_iload hx hb dX3_figures_68 (lv_at hl 0 rfl) ?_
              refine lv_iload hx hb dX3_figures_70 (lv_at hl 6 rfl) ?_
              refine g_icmp_gt (tgt := 86) hx hb dX3_figures_72 (by decide) (by omega) (by omega) (fun c_72 => ?_) (fun c_72 => ?_)
              · refine lv_iconst (v := iI (-1)) hx hb dX3_figures_86 rfl ?_
                refine g_iret hx hb hr hlk hP hS (v := (iI (-1))) rfl dX3_figures_87 ?_
                have hres : fgS t lo hi J 0 p = (0, false, q) := by rw [← hfg c_13, fgS_f hj1 hc (w := (c - 48) * fU j) rfl (by rw [← hw]; omega)]
                refine ⟨so_i (by rw [if_neg c_13, hres]; rfl), rfl, rfl, ?_, hF⟩
                rw [if_neg c_13, hres]
                exact h_o
              · refine lv_iload hx hb dX3_figures_75 (lv_at hl 0 rfl) ?_
                refine lv_iload hx hb dX3_figures_77 (lv_at hl 8 rfl) ?_
                refine g_iadd hx hb dX3_figures_79 rfl ?_
                refine lv_iconst (v := iI 1) hx hb dX3_figures_80 rfl ?_
                refine g_isub hx hb dX3_figures_81 rfl ?_
                refine lv_iload_n hx hb dX3_figures_82 rfl (lv_at hl 5 rfl) ?_
                refine g_icmp_ge (tgt := 88) hx hb dX3_figures_83 (by decide) (by omega) (by omega) (fun c_83 => ?_) (fun c_83 => ?_)
                · refine lv_iload hx hb dX3_figures_88 (lv_at hl 0 rfl) ?_
                  refine g_top (w := .int (iI (((v + w : Nat) : Int)))) (congrArg (fun x => Value.int (iI x)) (by omega)) ?_
                  refine lv_istore (lv' := [(5, .int (iI (((v + w : Nat) : Int)))), (8, .int (iI (((v : Int)) + ((((c : Int)) - 48) * ((fU j : Int)))))), (7, .int (iI (((c : Int)) - 48))), (0, .ref o), (1, .int (iI z)), (2, .int (iI ((fU J : Int)))), (3, .int (iI ((lo : Int)))), (4, .int (iI ((hi : Int)))), (6, .int (iI ((fU j : Int))))]) hx hb dX3_figures_90 hl (by decide) rfl (fun ls hl => ?_)
                  refine lv_aload_n hx hb dX3_figures_92 rfl (lv_at hl 3 rfl) ?_
                  refine lv_dup hx hb dX3_figures_93 rfl ?_
                  refine g_get hx hb hown hts hK hP h_o gk2 11 (by decide) q1534 (fun _ h => h) rfl dX3_figures_94 ?_
                  refine lv_iconst (v := iI 1) hx hb dX3_figures_97 rfl ?_
                  refine g_iadd hx hb dX3_figures_98 (z := ((q + 1 : Nat) : Int)) (by omega) ?_
                  refine g_put hx hb hown hts hK hP hS h_o gk2 11 (by decide) q1534 (fun _ h => h) rfl rfl rfl (Nat.le_of_ble_eq_true rfl) dX3_figures_99 (fun ω H locs e_3 n_3 hP hS => ?_)
                  have h_o : ω (1, 0) = some (o, .inr (2, [.int rf, .ref aT, .int (iI ((t.length : Int))), .ref aN, .ref aR, .ref aD, .int ac, .ref aK, .ref aI, .ref aH, .ref aC, .int (iI (((q + 1 : Nat) : Int))), .int sk])) := e_3
                  have h_T := (n_3 _ (by decide)).trans h_T
                  have hF := hF.put n_3 rfl
                  refine lv_iload hx hb dX3_figures_102 (lv_at hl 8 rfl) ?_
                  refine lv_bipush (v := iI 10) hx hb dX3_figures_104 rfl ?_
                  refine g_idiv hx hb dX3_figures_106 (z := ((fU (j - 1) : Nat) : Int)) (by have h9 := fU_div hj; omega) (by omega) (by omega) (by omega) (by omega) ?_
                  refine lv_istore (lv' := [(6, .int (iI (((fU (j - 1) : Nat) : Int)))), (5, .int (iI (((v + w : Nat) : Int)))), (8, .int (iI (((v : Int)) + ((((c : Int)) - 48) * ((fU j : Int)))))), (7, .int (iI (((c : Int)) - 48))), (0, .ref o), (1, .int (iI z)), (2, .int (iI ((fU J : Int)))), (3, .int (iI ((lo : Int)))), (4, .int (iI ((hi : Int))))]) hx hb dX3_figures_107 hl (by decide) rfl (fun ls hl => ?_)
                  refine lv_goto (tgt := 6) hx hb dX3_figures_109 (by decide) ?_
                  exact ih_6 (j - 1) (v + w) (q + 1) (by omega) (by omega) (by omega) (fun h => (fgS_y hj1 hc hw (by omega) (by omega) (by omega) (by omega)).symm.trans (hfg h)) (fun h => absurd h c_13) (by omega) _ _ _ h_o h_T hF hP hS ls (lv_sub hl [4, 5, 6, 7, 8, 1, 0] rfl)
                · refine lv_iconst (v := iI (-1)) hx hb dX3_figures_86 rfl ?_
                  refine g_iret hx hb hr hlk hP hS (v := (iI (-1))) rfl dX3_figures_87 ?_
                  have hres : fgS t lo hi J 0 p = (0, false, q) := by rw [← hfg c_13, fgS_f hj1 hc (w := (c - 48) * fU j) rfl (by rw [← hw]; omega)]
                  refine ⟨so_i (by rw [if_neg c_13, hres]; rfl), rfl, rfl, ?_, hF⟩
                  rw [if_neg c_13, hres]
                  exact h_o
  exact loop_6 _ J 0 p (by omega) (by omega) (by omega) (fun _ => rfl) (fun _ => rfl) (Nat.lt_succ_self _) _ _ _ h_o h_T hF hP hS ls (lv_sub hl [2, 3, 4, 5, 6, 1, 0] rfl)

