/-! ## the reference: members -/
set_option maxHeartbeats 4000000 in
theorem m_sieves (l : Launch) (G : GT) (ω0 : Om) (kc ks : Nat) {o aT aN aR aD aK aI aH aC : Nat} {rf sz ac sp sk : Int32} {ha cr : Nat → Int32} {k v : Nat} {X : Nat → Bool} (h_o : ω0 (1, 0) = some (o, .inr (2, [.int rf, .ref aT, .int sz, .ref aN, .ref aR, .ref aD, .int ac, .ref aK, .ref aI, .ref aH, .ref aC, .int sp, .int sk]))) (h_H : ω0 (1, 7) = some (aH, .inl (G.2.1 1, 12000, .inl (ha)))) (h_C : ω0 (1, 8) = some (aC, .inl (G.2.1 1, 1000, .inl (cr)))) (hk : k < 12) (hv : v < 1000) (hC : ∀ u, u < 1000 → cr u = bI (X u)) : Ct l G yX3_sieves cX3_sieves 4 none 1 12 [.ref o, .int (iI ((k : Int))), .int (iI ((v : Int)))] ω0 kc ks (fun w ω' kc' ks' => w = none ∧ kc = kc' ∧ ks = ks' ∧ (∃ g c' : Nat → Int32, ω' (1, 7) = some (aH, .inl (G.2.1 1, 12000, .inl (g))) ∧ ω' (1, 8) = some (aC, .inl (G.2.1 1, 1000, .inl (c'))) ∧ (∀ j, g j = if j = 1000 * k + v then bI (!X v) else ha j) ∧ (∀ u, u < 1000 → c' u = bI (X u || (decide (1 < v ∧ 2 * v ≤ u ∧ u % v = 0) && !X v)))) ∧ Fr (fun k => k = (1, 7) ∨ k = (1, 8)) ω0 ω') := by
  refine Ct.start (by decide) (Nat.le_of_ble_eq_true rfl) ?_
  intro p_ e_ s m_ below_ meth_ c_m H locs ls hx hb hr hlk hml hown hnm hts hK hZ hP hS hl
  have hown : s.vm.findClass RX3 = some m_.cls := hown
  have hl : lv_has ls 4 [(0, .ref o), (1, .int (iI ((k : Int)))), (2, .int (iI ((v : Int))))] := hl
  have hF : Fr ((fun k => k = (1, 7) ∨ k = (1, 8))) ω0 ω0 := Fr.rf
  refine lv_aload_n hx hb dX3_sieves_0 rfl (lv_at hl 0 rfl) ?_
  refine g_get hx hb hown hts hK hP h_o gk2 9 (by decide) q1532 (fun _ h => h) rfl dX3_sieves_1 ?_
  refine lv_sipush (v := iI 1000) hx hb dX3_sieves_4 rfl ?_
  refine lv_iload_n hx hb dX3_sieves_7 rfl (lv_at hl 1 rfl) ?_
  refine g_imul hx hb dX3_sieves_8 rfl ?_
  refine lv_iload_n hx hb dX3_sieves_9 rfl (lv_at hl 2 rfl) ?_
  refine g_iadd hx hb dX3_sieves_10 rfl ?_
  refine lv_aload_n hx hb dX3_sieves_11 rfl (lv_at hl 0 rfl) ?_
  refine g_get hx hb hown hts hK hP h_o gk2 10 (by decide) q1533 (fun _ h => h) rfl dX3_sieves_12 ?_
  refine lv_iload_n hx hb dX3_sieves_15 rfl (lv_at hl 2 rfl) ?_
  refine g_zald hx hb hK hP h_C v (by first | rfl | omega) (by first | decide | omega) (by first | decide | omega) (v := .int (bI (X v))) (by rw [hC v hv]) dX3_sieves_16 ?_
  refine g_ifz_ne (tgt := 24) hx hb dX3_sieves_17 (by decide) (fun c_17 => ?_) (fun c_17 => ?_)
  · refine lv_iconst (v := iI 0) hx hb dX3_sieves_24 rfl ?_
    refine W.eq (g2 := F0 m_ 25 ls [.int (bI false), .int (iI ((1000 * ((k : Int))) + ((v : Int)))), .ref aH]) rfl ?_
    refine g_zast hx hb hK hP hS h_H (1000 * k + v) (by first | rfl | omega) (by first | decide | omega) (by first | decide | omega) dX3_sieves_25 (fun ω H locs e_1 n_1 hP hS => ?_)
    have h_o := (n_1 _ (by decide)).trans h_o
    have h_H : ω (1, 7) = some (aH, .inl (G.2.1 1, 12000, .inl (upd ha (1000 * k + v) (bI false)))) := e_1
    have h_C := (n_1 _ (by decide)).trans h_C
    have hF := hF.put n_1 (by first | exact Or.inl rfl | exact Or.inr rfl)
    refine lv_iconst (v := iI 2) hx hb dX3_sieves_26 rfl ?_
    refine lv_iload_n hx hb dX3_sieves_27 rfl (lv_at hl 2 rfl) ?_
    refine g_imul hx hb dX3_sieves_28 (z := ((2 * v : Nat) : Int)) (by omega) ?_
    refine lv_istore_n (lv' := [(3, .int (iI (((2 * v : Nat) : Int)))), (0, .ref o), (1, .int (iI ((k : Int)))), (2, .int (iI ((v : Int))))]) hx hb dX3_sieves_29 rfl hl (by decide) rfl (fun ls hl => ?_)
    have loop_30 : ∀ (nn : Nat) (mu : Nat) (i : Nat) (g : Nat → Int32), (2 ≤ i) → (mu = v * i) → (mu < 2000) → (∀ u, u < 1000 → g u = bI (X u || (decide (1 < v ∧ 2 * v ≤ u ∧ u % v = 0 ∧ u < mu) && !X v))) → (2000 - mu) < nn → ∀ (ω : Om) (H : Heap) (locs : List Loc), ω (1, 0) = some (o, .inr (2, [.int rf, .ref aT, .int sz, .ref aN, .ref aR, .ref aD, .int ac, .ref aK, .ref aI, .ref aH, .ref aC, .int sp, .int sk])) → ω (1, 7) = some (aH, .inl (G.2.1 1, 12000, .inl (upd ha (1000 * k + v) (bI false)))) → ω (1, 8) = some (aC, .inl (G.2.1 1, 1000, .inl (g))) → Fr ((fun k => k = (1, 7) ∨ k = (1, 8))) ω0 ω → Hp G ω kc ks H → va_S (gA G) s.heap H locs →  ∀ ls : Array Slot, lv_has ls 4 [(0, .ref o), (1, .int (iI ((k : Int)))), (2, .int (iI ((v : Int)))), (3, .int (iI ((mu : Int))))] → gW p_ l e_ G 1 12 s m_ [.ref o, .int (iI ((k : Int))), .int (iI ((v : Int)))] below_ meth_ c_m (fun w ω' kc' ks' => w = none ∧ kc = kc' ∧ ks = ks' ∧ (∃ g c' : Nat → Int32, ω' (1, 7) = some (aH, .inl (G.2.1 1, 12000, .inl (g))) ∧ ω' (1, 8) = some (aC, .inl (G.2.1 1, 1000, .inl (c'))) ∧ (∀ j, g j = if j = 1000 * k + v then bI (!X v) else ha j) ∧ (∀ u, u < 1000 → c' u = bI (X u || (decide (1 < v ∧ 2 * v ≤ u ∧ u % v = 0) && !X v)))) ∧ Fr (fun k => k = (1, 7) ∨ k = (1, 8)) ω0 ω') H locs 30 ls [] := by
      intro nn
      induction nn with
      | zero => intro mu i g hi hm hm2 hg hlt; exact absurd hlt (Nat.not_lt_zero _)
      | succ nn ih_30 =>
        intro mu i g hi hm hm2 hg hlt ω H locs h_o h_H h_C hF hP hS ls hl
        refine lv_iload_n hx hb dX3_sieves_30 rfl (lv_at hl 3 rfl) ?_
        refine lv_sipush (v := iI 999) hx hb dX3_sieves_31 rfl ?_
        refine g_icmp_gt (tgt := 65) hx hb dX3_sieves_34 (by decide) (by omega) (by omega) (fun c_34 => ?_) (fun c_34 => ?_)
        · refine g_vret hx hb hr hlk hP hS dX3_sieves_65 ?_
          refine ⟨rfl, rfl, rfl, ⟨_, g, h_H, h_C, fun j => ?_, fun u hu => ?_⟩, hF⟩
          · rw [upd]; split <;> simp [c_17]
          · rw [hg u hu]; congr 2; first | (congr 1; rw [decide_eq_decide]; constructor; (rintro ⟨a, b, c, -⟩; exact ⟨a, b, c⟩); (rintro ⟨a, b, c⟩; exact ⟨a, b, c, by omega⟩)) | (simp_all) | (rw [decide_eq_false (by omega), decide_eq_false (by omega)])
        · refine lv_iload_n hx hb dX3_sieves_37 rfl (lv_at hl 2 rfl) ?_
          refine lv_iconst (v := iI 1) hx hb dX3_sieves_38 rfl ?_
          refine g_icmp_le (tgt := 65) hx hb dX3_sieves_39 (by decide) (by omega) (by omega) (fun c_39 => ?_) (fun c_39 => ?_)
          · refine g_vret hx hb hr hlk hP hS dX3_sieves_65 ?_
            refine ⟨rfl, rfl, rfl, ⟨_, g, h_H, h_C, fun j => ?_, fun u hu => ?_⟩, hF⟩
            · rw [upd]; split <;> simp [c_17]
            · rw [hg u hu]; congr 2; first | (congr 1; rw [decide_eq_decide]; constructor; (rintro ⟨a, b, c, -⟩; exact ⟨a, b, c⟩); (rintro ⟨a, b, c⟩; exact ⟨a, b, c, by omega⟩)) | (simp_all) | (rw [decide_eq_false (by omega), decide_eq_false (by omega)])
          · refine lv_aload_n hx hb dX3_sieves_42 rfl (lv_at hl 0 rfl) ?_
            refine g_get hx hb hown hts hK hP h_o gk2 10 (by decide) q1533 (fun _ h => h) rfl dX3_sieves_43 ?_
            refine lv_iload_n hx hb dX3_sieves_46 rfl (lv_at hl 2 rfl) ?_
            refine g_zald hx hb hK hP h_C v (by first | rfl | omega) (by first | decide | omega) (by first | decide | omega) (v := .int (bI (X v))) (by rw [hg v hv, cross_self]) dX3_sieves_47 ?_
            refine g_ifz_ne (tgt := 65) hx hb dX3_sieves_48 (by decide) (fun c_48 => ?_) (fun c_48 => ?_)
            · refine g_vret hx hb hr hlk hP hS dX3_sieves_65 ?_
              refine ⟨rfl, rfl, rfl, ⟨_, g, h_H, h_C, fun j => ?_, fun u hu => ?_⟩, hF⟩
              · rw [upd]; split <;> simp [c_17]
              · rw [hg u hu]; congr 2; first | (congr 1; rw [decide_eq_decide]; constructor; (rintro ⟨a, b, c, -⟩; exact ⟨a, b, c⟩); (rintro ⟨a, b, c⟩; exact ⟨a, b, c, by omega⟩)) | (simp_all) | (rw [decide_eq_false (by omega), decide_eq_false (by omega)])
            · refine lv_aload_n hx hb dX3_sieves_51 rfl (lv_at hl 0 rfl) ?_
              refine g_get hx hb hown hts hK hP h_o gk2 10 (by decide) q1533 (fun _ h => h) rfl dX3_sieves_52 ?_
              refine lv_iload_n hx hb dX3_sieves_55 rfl (lv_at hl 3 rfl) ?_
              refine lv_iconst (v := iI 1) hx hb dX3_sieves_56 rfl ?_
              refine W.eq (g2 := F0 m_ 57 ls [.int (bI true), .int (iI ((mu : Int))), .ref aC]) rfl ?_
              refine g_zast hx hb hK hP hS h_C mu (by first | rfl | omega) (by first | decide | omega) (by first | decide | omega) dX3_sieves_57 (fun ω H locs e_2 n_2 hP hS => ?_)
              have h_o := (n_2 _ (by decide)).trans h_o
              have h_H := (n_2 _ (by decide)).trans h_H
              have h_C : ω (1, 8) = some (aC, .inl (G.2.1 1, 1000, .inl (upd g mu (bI true)))) := e_2
              have hF := hF.put n_2 (by first | exact Or.inl rfl | exact Or.inr rfl)
              refine lv_iload_n hx hb dX3_sieves_58 rfl (lv_at hl 3 rfl) ?_
              refine lv_iload_n hx hb dX3_sieves_59 rfl (lv_at hl 2 rfl) ?_
              refine g_iadd hx hb dX3_sieves_60 (z := ((mu + v : Nat) : Int)) (by omega) ?_
              refine lv_istore_n (lv' := [(3, .int (iI (((mu + v : Nat) : Int)))), (0, .ref o), (1, .int (iI ((k : Int)))), (2, .int (iI ((v : Int))))]) hx hb dX3_sieves_61 rfl hl (by decide) rfl (fun ls hl => ?_)
              refine lv_goto (tgt := 30) hx hb dX3_sieves_62 (by decide) ?_
              have c_39 : 1 < v := by omega
              exact ih_30 (mu + v) (i + 1) (upd g mu (bI true)) (by omega) (by rw [hm, Nat.mul_succ]) (by omega) (fun u hu => by by_cases q : u = mu; (subst q; rw [cross_hit c_39 c_48 hi hm]; simp [upd]); (rw [upd, if_neg q, hg u hu, cross_step c_39 c_48 hi hm q])) (by omega) _ _ _ h_o h_H h_C hF hP hS ls (lv_sub hl [1, 2, 3, 0] rfl)
    exact loop_30 _ (2 * v) 2 cr (by omega) (by omega) (by omega) (fun u hu => by rw [hC u hu, decide_eq_false (by rintro ⟨-, a, -, b⟩; omega)]; simp) (Nat.lt_succ_self _) _ _ _ h_o h_H h_C hF hP hS ls (lv_sub hl [1, 2, 3, 0] rfl)
  · refine lv_iconst (v := iI 1) hx hb dX3_sieves_20 rfl ?_
    refine lv_goto (tgt := 25) hx hb dX3_sieves_21 (by decide) ?_
    refine W.eq (g2 := F0 m_ 25 ls [.int (bI true), .int (iI ((1000 * ((k : Int))) + ((v : Int)))), .ref aH]) rfl ?_
    refine g_zast hx hb hK hP hS h_H (1000 * k + v) (by first | rfl | omega) (by first | decide | omega) (by first | decide | omega) dX3_sieves_25 (fun ω H locs e_3 n_3 hP hS => ?_)
    have h_o := (n_3 _ (by decide)).trans h_o
    have h_H : ω (1, 7) = some (aH, .inl (G.2.1 1, 12000, .inl (upd ha (1000 * k + v) (bI true)))) := e_3
    have h_C := (n_3 _ (by decide)).trans h_C
    have hF := hF.put n_3 (by first | exact Or.inl rfl | exact Or.inr rfl)
    refine lv_iconst (v := iI 2) hx hb dX3_sieves_26 rfl ?_
    refine lv_iload_n hx hb dX3_sieves_27 rfl (lv_at hl 2 rfl) ?_
    refine g_imul hx hb dX3_sieves_28 (z := ((2 * v : Nat) : Int)) (by omega) ?_
    refine lv_istore_n (lv' := [(3, .int (iI (((2 * v : Nat) : Int)))), (0, .ref o), (1, .int (iI ((k : Int)))), (2, .int (iI ((v : Int))))]) hx hb dX3_sieves_29 rfl hl (by decide) rfl (fun ls hl => ?_)
    have loop_30 : ∀ (nn : Nat) (mu : Nat) (i : Nat) (g : Nat → Int32), (2 ≤ i) → (mu = v * i) → (mu < 2000) → (∀ u, u < 1000 → g u = bI (X u || (decide (1 < v ∧ 2 * v ≤ u ∧ u % v = 0 ∧ u < mu) && !X v))) → (2000 - mu) < nn → ∀ (ω : Om) (H : Heap) (locs : List Loc), ω (1, 0) = some (o, .inr (2, [.int rf, .ref aT, .int sz, .ref aN, .ref aR, .ref aD, .int ac, .ref aK, .ref aI, .ref aH, .ref aC, .int sp, .int sk])) → ω (1, 7) = some (aH, .inl (G.2.1 1, 12000, .inl (upd ha (1000 * k + v) (bI true)))) → ω (1, 8) = some (aC, .inl (G.2.1 1, 1000, .inl (g))) → Fr ((fun k => k = (1, 7) ∨ k = (1, 8))) ω0 ω → Hp G ω kc ks H → va_S (gA G) s.heap H locs →  ∀ ls : Array Slot, lv_has ls 4 [(0, .ref o), (1, .int (iI ((k : Int)))), (2, .int (iI ((v : Int)))), (3, .int (iI ((mu : Int))))] → gW p_ l e_ G 1 12 s m_ [.ref o, .int (iI ((k : Int))), .int (iI ((v : Int)))] below_ meth_ c_m (fun w ω' kc' ks' => w = none ∧ kc = kc' ∧ ks = ks' ∧ (∃ g c' : Nat → Int32, ω' (1, 7) = some (aH, .inl (G.2.1 1, 12000, .inl (g))) ∧ ω' (1, 8) = some (aC, .inl (G.2.1 1, 1000, .inl (c'))) ∧ (∀ j, g j = if j = 1000 * k + v then bI (!X v) else ha j) ∧ (∀ u, u < 1000 → c' u = bI (X u || (decide (1 < v ∧ 2 * v ≤ u ∧ u % v = 0) && !X v)))) ∧ Fr (fun k => k = (1, 7) ∨ k = (1, 8)) ω0 ω') H locs 30 ls [] := by
      intro nn
      induction nn with
      | zero => intro mu i g hi hm hm2 hg hlt; exact absurd hlt (Nat.not_lt_zero _)
      | succ nn ih_30 =>
        intro mu i g hi hm hm2 hg hlt ω H locs h_o h_H h_C hF hP hS ls hl
        refine lv_iload_n hx hb dX3_sieves_30 rfl (lv_at hl 3 rfl) ?_
        refine lv_sipush (v := iI 999) hx hb dX3_sieves_31 rfl ?_
        refine g_icmp_gt (tgt := 65) hx hb dX3_sieves_34 (by decide) (by omega) (by omega) (fun c_34 => ?_) (fun c_34 => ?_)
        · refine g_vret hx hb hr hlk hP hS dX3_sieves_65 ?_
          refine ⟨rfl, rfl, rfl, ⟨_, g, h_H, h_C, fun j => ?_, fun u hu => ?_⟩, hF⟩
          · rw [upd]; split <;> simp [c_17]
          · rw [hg u hu]; congr 2; first | (congr 1; rw [decide_eq_decide]; constructor; (rintro ⟨a, b, c, -⟩; exact ⟨a, b, c⟩); (rintro ⟨a, b, c⟩; exact ⟨a, b, c, by omega⟩)) | (simp_all) | (rw [decide_eq_false (by omega), decide_eq_false (by omega)])
        · refine lv_iload_n hx hb dX3_sieves_37 rfl (lv_at hl 2 rfl) ?_
          refine lv_iconst (v := iI 1) hx hb dX3_sieves_38 rfl ?_
          refine g_icmp_le (tgt := 65) hx hb dX3_sieves_39 (by decide) (by omega) (by omega) (fun c_39 => ?_) (fun c_39 => ?_)
          · refine g_vret hx hb hr hlk hP hS dX3_sieves_65 ?_
            refine ⟨rfl, rfl, rfl, ⟨_, g, h_H, h_C, fun j => ?_, fun u hu => ?_⟩, hF⟩
            · rw [upd]; split <;> simp [c_17]
            · rw [hg u hu]; congr 2; first | (congr 1; rw [decide_eq_decide]; constructor; (rintro ⟨a, b, c, -⟩; exact ⟨a, b, c⟩); (rintro ⟨a, b, c⟩; exact ⟨a, b, c, by omega⟩)) | (simp_all) | (rw [decide_eq_false (by omega), decide_eq_false (by omega)])
          · refine lv_aload_n hx hb dX3_sieves_42 rfl (lv_at hl 0 rfl) ?_
            refine g_get hx hb hown hts hK hP h_o gk2 10 (by decide) q1533 (fun _ h => h) rfl dX3_sieves_43 ?_
            refine lv_iload_n hx hb dX3_sieves_46 rfl (lv_at hl 2 rfl) ?_
            refine g_zald hx hb hK hP h_C v (by first | rfl | omega) (by first | decide | omega) (by first | decide | omega) (v := .int (bI (X v))) (by rw [hg v hv, cross_self]) dX3_sieves_47 ?_
            refine g_ifz_ne (tgt := 65) hx hb dX3_sieves_48 (by decide) (fun c_48 => ?_) (fun c_48 => ?_)
            · refine g_vret hx hb hr hlk hP hS dX3_sieves_65 ?_
              refine ⟨rfl, rfl, rfl, ⟨_, g, h_H, h_C, fun j => ?_, fun u hu => ?_⟩, hF⟩
              · rw [upd]; split <;> simp [c_17]
              · rw [hg u hu]; congr 2; first | (congr 1; rw [decide_eq_decide]; constructor; (rintro ⟨a, b, c, -⟩; exact ⟨a, b, c⟩); (rintro ⟨a, b, c⟩; exact ⟨a, b, c, by omega⟩)) | (simp_all) | (rw [decide_eq_false (by omega), decide_eq_false (by omega)])
            · refine lv_aload_n hx hb dX3_sieves_51 rfl (lv_at hl 0 rfl) ?_
              refine g_get hx hb hown hts hK hP h_o gk2 10 (by decide) q1533 (fun _ h => h) rfl dX3_sieves_52 ?_
              refine lv_iload_n hx hb dX3_sieves_55 rfl (lv_at hl 3 rfl) ?_
              refine lv_iconst (v := iI 1) hx hb dX3_sieves_56 rfl ?_
              refine W.eq (g2 := F0 m_ 57 ls [.int (bI true), .int (iI ((mu : Int))), .ref aC]) rfl ?_
              refine g_zast hx hb hK hP hS h_C mu (by first | rfl | omega) (by first | decide | omega) (by first | decide | omega) dX3_sieves_57 (fun ω H locs e_4 n_4 hP hS => ?_)
              have h_o := (n_4 _ (by decide)).trans h_o
              have h_H := (n_4 _ (by decide)).trans h_H
              have h_C : ω (1, 8) = some (aC, .inl (G.2.1 1, 1000, .inl (upd g mu (bI true)))) := e_4
              have hF := hF.put n_4 (by first | exact Or.inl rfl | exact Or.inr rfl)
              refine lv_iload_n hx hb dX3_sieves_58 rfl (lv_at hl 3 rfl) ?_
              refine lv_iload_n hx hb dX3_sieves_59 rfl (lv_at hl 2 rfl) ?_
              refine g_iadd hx hb dX3_sieves_60 (z := ((mu + v : Nat) : Int)) (by omega) ?_
              refine lv_istore_n (lv' := [(3, .int (iI (((mu + v : Nat) : Int)))), (0, .ref o), (1, .int (iI ((k : Int)))), (2, .int (iI ((v : Int))))]) hx hb dX3_sieves_61 rfl hl (by decide) rfl (fun ls hl => ?_)
              refine lv_goto (tgt := 30) hx hb dX3_sieves_62 (by decide) ?_
              have c_39 : 1 < v := by omega
              exact ih_30 (mu + v) (i + 1) (upd g mu (bI true)) (by omega) (by rw [hm, Nat.mul_succ]) (by omega) (fun u hu => by by_cases q : u = mu; (subst q; rw [cross_hit c_39 c_48 hi hm]; simp [upd]); (rw [upd, if_neg q, hg u hu, cross_step c_39 c_48 hi hm q])) (by omega) _ _ _ h_o h_H h_C hF hP hS ls (lv_sub hl [1, 2, 3, 0] rfl)
    exact loop_30 _ (2 * v) 2 cr (by omega) (by omega) (by omega) (fun u hu => by rw [hC u hu, decide_eq_false (by rintro ⟨-, a, -, b⟩; omega)]; simp) (Nat.lt_succ_self _) _ _ _ h_o h_H h_C hF hP hS ls (lv_sub hl [1, 2, 3, 0] rfl)

set_option maxHeartbeats 4000000 in
theorem m_countUpTo (l : Launch) (G : GT) (ω0 : Om) (kc ks : Nat) {o aT aN aR aD aK aI aH aC : Nat} {rf sz ac sp sk : Int32} {ha : Nat → Int32} {k N : Nat} {X : Nat → Bool} (h_o : ω0 (1, 0) = some (o, .inr (2, [.int rf, .ref aT, .int sz, .ref aN, .ref aR, .ref aD, .int ac, .ref aK, .ref aI, .ref aH, .ref aC, .int sp, .int sk]))) (h_H : ω0 (1, 7) = some (aH, .inl (G.2.1 1, 12000, .inl (ha)))) (hk : k < 12) (hN : N < 1000) (hX : ∀ u, u < 1000 → ha (1000 * k + u) = bI (X u)) : Ct l G yX3_countUpTo cX3_countUpTo 5 (some .int) 2 34 [.ref o, .int (iI ((k : Int))), .int (iI ((N : Int)))] ω0 kc ks (pu ω0 kc ks (some (.int (iI (cnt X (N + 1) : Nat))))) := by
  refine Ct.start (by decide) (Nat.le_of_ble_eq_true rfl) ?_
  intro p_ e_ s m_ below_ meth_ c_m H locs ls hx hb hr hlk hml hown hnm hts hK hZ hP hS hl
  have hown : s.vm.findClass RX3 = some m_.cls := hown
  have hl : lv_has ls 5 [(0, .ref o), (1, .int (iI ((k : Int)))), (2, .int (iI ((N : Int))))] := hl
  refine lv_iconst (v := iI 0) hx hb dX3_countUpTo_0 rfl ?_
  refine lv_istore_n (lv' := [(3, .int (iI 0)), (0, .ref o), (1, .int (iI ((k : Int)))), (2, .int (iI ((N : Int))))]) hx hb dX3_countUpTo_1 rfl hl (by decide) rfl (fun ls hl => ?_)
  refine lv_iconst (v := iI 0) hx hb dX3_countUpTo_2 rfl ?_
  refine lv_istore (lv' := [(4, .int (iI 0)), (3, .int (iI 0)), (0, .ref o), (1, .int (iI ((k : Int)))), (2, .int (iI ((N : Int))))]) hx hb dX3_countUpTo_3 hl (by decide) rfl (fun ls hl => ?_)
  have loop_5 : ∀ (nn : Nat) (v : Nat) (n : Nat), (v ≤ N + 1) → (n = cnt X v) → (N + 1 - v) < nn → ∀ (H : Heap) (locs : List Loc), Hp G ω0 kc ks H → va_S (gA G) s.heap H locs → ∀ ls : Array Slot, lv_has ls 5 [(0, .ref o), (1, .int (iI ((k : Int)))), (2, .int (iI ((N : Int)))), (3, .int (iI ((n : Int)))), (4, .int (iI ((v : Int))))] → gW p_ l e_ G 2 34 s m_ [.ref o, .int (iI ((k : Int))), .int (iI ((N : Int)))] below_ meth_ c_m (pu ω0 kc ks (some (.int (iI (cnt X (N + 1) : Nat))))) H locs 5 ls [] := by
    intro nn
    induction nn with
    | zero => intro v n hv hn hlt; exact absurd hlt (Nat.not_lt_zero _)
    | succ nn ih_5 =>
      intro v n hv hn hlt H locs hP hS ls hl
      have hcl := cnt_le X v
      refine lv_iload hx hb dX3_countUpTo_5 (lv_at hl 4 rfl) ?_
      refine lv_iload_n hx hb dX3_countUpTo_7 rfl (lv_at hl 2 rfl) ?_
      refine g_icmp_gt (tgt := 35) hx hb dX3_countUpTo_8 (by decide) (by omega) (by omega) (fun c_8 => ?_) (fun c_8 => ?_)
      · refine lv_iload_n hx hb dX3_countUpTo_35 rfl (lv_at hl 3 rfl) ?_
        refine g_iret hx hb hr hlk hP hS (v := (iI ((n : Int)))) rfl dX3_countUpTo_36 ?_
        have e : v = N + 1 := by omega
        subst e
        rw [hn]
        exact ⟨rfl, rfl, rfl, rfl⟩
      · refine lv_iload_n hx hb dX3_countUpTo_11 rfl (lv_at hl 3 rfl) ?_
        refine lv_aload_n hx hb dX3_countUpTo_12 rfl (lv_at hl 0 rfl) ?_
        refine lv_iload_n hx hb dX3_countUpTo_13 rfl (lv_at hl 1 rfl) ?_
        refine lv_iload hx hb dX3_countUpTo_14 (lv_at hl 4 rfl) ?_
        refine g_V (As := [.int (iI ((k : Int))), .int (iI ((v : Int)))]) (rest := [.int (iI ((n : Int)))]) hx hb hml hown hts hK hZ hP hS (m_member l G _ _ _ h_o h_H hk (by omega) (hX _ (by omega))) 2 (lw_V q1649 q1651 qs36 q59 q1652) h_o gk2 (by decide +kernel) (by decide) (by decide) rfl hl.1 rfl (Nat.le_of_ble_eq_true rfl) dX3_countUpTo_16 (fun v ω kc_1 ks_1 H locs q_1 hP hS => ?_)
        obtain ⟨rfl, rfl, rfl, rfl⟩ := q_1
        refine W.eq (g2 := F0 m_ 19 ls [.int (bI (X v)), .int (iI ((n : Int)))]) rfl ?_
        refine g_ifz_eq (tgt := 26) hx hb dX3_countUpTo_19 (by decide) (fun c_19 => ?_) (fun c_19 => ?_)
        · refine lv_iconst (v := iI 0) hx hb dX3_countUpTo_26 rfl ?_
          refine g_iadd hx hb dX3_countUpTo_27 (z := (n : Int)) (by omega) ?_
          refine lv_istore_n (lv' := [(3, .int (iI ((n : Int)))), (0, .ref o), (1, .int (iI ((k : Int)))), (2, .int (iI ((N : Int)))), (4, .int (iI ((v : Int))))]) hx hb dX3_countUpTo_28 rfl hl (by decide) rfl (fun ls hl => ?_)
          refine lv_iinc (v := iI (((v + 1 : Nat) : Int))) (lv' := [(4, .int (iI (((v + 1 : Nat) : Int)))), (3, .int (iI ((n : Int)))), (0, .ref o), (1, .int (iI ((k : Int)))), (2, .int (iI ((N : Int))))]) hx hb dX3_countUpTo_29 hl (k := 4) rfl (iI_add _ _ |>.trans (congrArg iI (by omega))) (by decide) rfl (fun ls hl => ?_)
          refine lv_goto (tgt := 5) hx hb dX3_countUpTo_32 (by decide) ?_
          exact ih_5 (v + 1) n (by omega) (by first | rw [cnt_t c_19, hn] | rw [cnt_f c_19, hn]) (by omega) _ _ hP hS ls (lv_sub hl [2, 3, 4, 1, 0] rfl)
        · refine lv_iconst (v := iI 1) hx hb dX3_countUpTo_22 rfl ?_
          refine lv_goto (tgt := 27) hx hb dX3_countUpTo_23 (by decide) ?_
          refine g_iadd hx hb dX3_countUpTo_27 (z := ((n + 1 : Nat) : Int)) (by omega) ?_
          refine lv_istore_n (lv' := [(3, .int (iI (((n + 1 : Nat) : Int)))), (0, .ref o), (1, .int (iI ((k : Int)))), (2, .int (iI ((N : Int)))), (4, .int (iI ((v : Int))))]) hx hb dX3_countUpTo_28 rfl hl (by decide) rfl (fun ls hl => ?_)
          refine lv_iinc (v := iI (((v + 1 : Nat) : Int))) (lv' := [(4, .int (iI (((v + 1 : Nat) : Int)))), (3, .int (iI (((n + 1 : Nat) : Int)))), (0, .ref o), (1, .int (iI ((k : Int)))), (2, .int (iI ((N : Int))))]) hx hb dX3_countUpTo_29 hl (k := 4) rfl (iI_add _ _ |>.trans (congrArg iI (by omega))) (by decide) rfl (fun ls hl => ?_)
          refine lv_goto (tgt := 5) hx hb dX3_countUpTo_32 (by decide) ?_
          exact ih_5 (v + 1) (n + 1) (by omega) (by first | rw [cnt_t c_19, hn] | rw [cnt_f c_19, hn]) (by omega) _ _ hP hS ls (lv_sub hl [2, 3, 4, 1, 0] rfl)
  exact loop_5 _ 0 0 (by omega) rfl (Nat.lt_succ_self _) _ _ hP hS ls (lv_sub hl [2, 3, 4, 1, 0] rfl)

set_option maxHeartbeats 4000000 in
theorem m_at (l : Launch) (G : GT) (ω0 : Om) (kc ks : Nat) {o aT aN aR aD aK aI aH aC : Nat} {rf sz ac sp sk : Int32} {ha : Nat → Int32} {k : Nat} {z : Int} {X : Nat → Bool} (h_o : ω0 (1, 0) = some (o, .inr (2, [.int rf, .ref aT, .int sz, .ref aN, .ref aR, .ref aD, .int ac, .ref aK, .ref aI, .ref aH, .ref aC, .int sp, .int sk]))) (h_H : ω0 (1, 7) = some (aH, .inl (G.2.1 1, 12000, .inl (ha)))) (hk : k < 12) (hz : iR z) (hX : ∀ u, u < 1000 → ha (1000 * k + u) = bI (X u)) : Ct l G yX3_at cX3_at 5 (some .int) 2 34 [.ref o, .int (iI ((k : Int))), .int (iI z)] ω0 kc ks (pu ω0 kc ks (some (.int (iI (aat X z))))) := by
  refine Ct.start (by decide) (Nat.le_of_ble_eq_true rfl) ?_
  intro p_ e_ s m_ below_ meth_ c_m H locs ls hx hb hr hlk hml hown hnm hts hK hZ hP hS hl
  have hown : s.vm.findClass RX3 = some m_.cls := hown
  have hl : lv_has ls 5 [(0, .ref o), (1, .int (iI ((k : Int)))), (2, .int (iI z))] := hl
  refine lv_iconst (v := iI 0) hx hb dX3_at_0 rfl ?_
  refine lv_istore_n (lv' := [(3, .int (iI 0)), (0, .ref o), (1, .int (iI ((k : Int)))), (2, .int (iI z))]) hx hb dX3_at_1 rfl hl (by decide) rfl (fun ls hl => ?_)
  refine lv_iconst (v := iI 0) hx hb dX3_at_2 rfl ?_
  refine lv_istore (lv' := [(4, .int (iI 0)), (3, .int (iI 0)), (0, .ref o), (1, .int (iI ((k : Int)))), (2, .int (iI z))]) hx hb dX3_at_3 hl (by decide) rfl (fun ls hl => ?_)
  have loop_5 : ∀ (nn : Nat) (v : Nat) (n : Nat), (v ≤ 1000) → (n = cnt X v) → (∀ w, w < v → X w = true → (cnt X w : Int) ≠ z) → (1000 - v) < nn → ∀ (H : Heap) (locs : List Loc), Hp G ω0 kc ks H → va_S (gA G) s.heap H locs → ∀ ls : Array Slot, lv_has ls 5 [(0, .ref o), (1, .int (iI ((k : Int)))), (2, .int (iI z)), (3, .int (iI ((n : Int)))), (4, .int (iI ((v : Int))))] → gW p_ l e_ G 2 34 s m_ [.ref o, .int (iI ((k : Int))), .int (iI z)] below_ meth_ c_m (pu ω0 kc ks (some (.int (iI (aat X z))))) H locs 5 ls [] := by
    intro nn
    induction nn with
    | zero => intro v n hv hn hw hlt; exact absurd hlt (Nat.not_lt_zero _)
    | succ nn ih_5 =>
      intro v n hv hn hw hlt H locs hP hS ls hl
      have hcl := cnt_le X v
      refine lv_iload hx hb dX3_at_5 (lv_at hl 4 rfl) ?_
      refine lv_sipush (v := iI 999) hx hb dX3_at_7 rfl ?_
      refine g_icmp_gt (tgt := 40) hx hb dX3_at_10 (by decide) (by omega) (by omega) (fun c_10 => ?_) (fun c_10 => ?_)
      · refine lv_iconst (v := iI (-1)) hx hb dX3_at_40 rfl ?_
        refine g_iret hx hb hr hlk hP hS (v := (iI (-1))) rfl dX3_at_41 ?_
        exact ⟨so_i (aat_none (fun w h1 h2 => hw w (by omega) h2)).symm, rfl, rfl, rfl⟩
      · refine lv_aload_n hx hb dX3_at_13 rfl (lv_at hl 0 rfl) ?_
        refine lv_iload_n hx hb dX3_at_14 rfl (lv_at hl 1 rfl) ?_
        refine lv_iload hx hb dX3_at_15 (lv_at hl 4 rfl) ?_
        refine g_V (As := [.int (iI ((k : Int))), .int (iI ((v : Int)))]) (rest := []) hx hb hml hown hts hK hZ hP hS (m_member l G _ _ _ h_o h_H hk (by omega) (hX _ (by omega))) 2 (lw_V q1649 q1651 qs36 q59 q1652) h_o gk2 (by decide +kernel) (by decide) (by decide) rfl hl.1 rfl (Nat.le_of_ble_eq_true rfl) dX3_at_17 (fun v ω kc_1 ks_1 H locs q_1 hP hS => ?_)
        obtain ⟨rfl, rfl, rfl, rfl⟩ := q_1
        refine W.eq (g2 := F0 m_ 20 ls [.int (bI (X v))]) rfl ?_
        refine g_ifz_eq (tgt := 34) hx hb dX3_at_20 (by decide) (fun c_20 => ?_) (fun c_20 => ?_)
        · refine lv_iinc (v := iI (((v + 1 : Nat) : Int))) (lv' := [(4, .int (iI (((v + 1 : Nat) : Int)))), (0, .ref o), (1, .int (iI ((k : Int)))), (2, .int (iI z)), (3, .int (iI ((n : Int))))]) hx hb dX3_at_34 hl (k := 4) rfl (iI_add _ _ |>.trans (congrArg iI (by omega))) (by decide) rfl (fun ls hl => ?_)
          refine lv_goto (tgt := 5) hx hb dX3_at_37 (by decide) ?_
          exact ih_5 (v + 1) n (by omega) (by first | rw [cnt_t c_20, hn] | rw [cnt_f c_20, hn]) (fun w hw2 hXw => by by_cases q : w = v; (subst q; first | (rw [← hn]; exact c_25) | (rw [hXw] at c_20; cases c_20)); exact hw w (by omega) hXw) (by omega) _ _ hP hS ls (lv_sub hl [1, 2, 3, 4, 0] rfl)
        · refine lv_iload_n hx hb dX3_at_23 rfl (lv_at hl 3 rfl) ?_
          refine lv_iload_n hx hb dX3_at_24 rfl (lv_at hl 2 rfl) ?_
          refine g_icmp_ne (tgt := 31) hx hb dX3_at_25 (by decide) (by omega) (by omega) (fun c_25 => ?_) (fun c_25 => ?_)
          · refine lv_iinc (v := iI (((n + 1 : Nat) : Int))) (lv' := [(3, .int (iI (((n + 1 : Nat) : Int)))), (0, .ref o), (1, .int (iI ((k : Int)))), (2, .int (iI z)), (4, .int (iI ((v : Int))))]) hx hb dX3_at_31 hl (k := 3) rfl (iI_add _ _ |>.trans (congrArg iI (by omega))) (by decide) rfl (fun ls hl => ?_)
            refine lv_iinc (v := iI (((v + 1 : Nat) : Int))) (lv' := [(4, .int (iI (((v + 1 : Nat) : Int)))), (3, .int (iI (((n + 1 : Nat) : Int)))), (0, .ref o), (1, .int (iI ((k : Int)))), (2, .int (iI z))]) hx hb dX3_at_34 hl (k := 4) rfl (iI_add _ _ |>.trans (congrArg iI (by omega))) (by decide) rfl (fun ls hl => ?_)
            refine lv_goto (tgt := 5) hx hb dX3_at_37 (by decide) ?_
            exact ih_5 (v + 1) (n + 1) (by omega) (by first | rw [cnt_t c_20, hn] | rw [cnt_f c_20, hn]) (fun w hw2 hXw => by by_cases q : w = v; (subst q; first | (rw [← hn]; exact c_25) | (rw [hXw] at c_20; cases c_20)); exact hw w (by omega) hXw) (by omega) _ _ hP hS ls (lv_sub hl [2, 3, 4, 1, 0] rfl)
          · refine lv_iload hx hb dX3_at_28 (lv_at hl 4 rfl) ?_
            refine g_iret hx hb hr hlk hP hS (v := (iI ((v : Int)))) rfl dX3_at_30 ?_
            exact ⟨so_i (aat_hit (by omega) c_20 (by omega)).symm, rfl, rfl, rfl⟩
  exact loop_5 _ 0 0 (by omega) rfl (fun w hw => absurd hw (Nat.not_lt_zero _)) (Nat.lt_succ_self _) _ _ hP hS ls (lv_sub hl [2, 3, 4, 1, 0] rfl)

set_option maxHeartbeats 4000000 in
theorem m_next (l : Launch) (G : GT) (ω0 : Om) (kc ks : Nat) {o aT aN aR aD aK aI aH aC : Nat} {rf sz ac sp sk : Int32} {ns : Nm} {as : Nat} {f : Nat → Int32} {ha : Nat → Int32} {r k so : Nat} {X : Nat → Bool} (h_o : ω0 (1, 0) = some (o, .inr (2, [.int rf, .ref aT, .int sz, .ref aN, .ref aR, .ref aD, .int ac, .ref aK, .ref aI, .ref aH, .ref aC, .int sp, .int sk]))) (h_s : ω0 ns = some (as, .inl (G.2.1 0, 59, .inl (f)))) (h_H : ω0 (1, 7) = some (aH, .inl (G.2.1 1, 12000, .inl (ha)))) (hr0 : r < 4) (hk : k < 12) (hso : so < 2000) (h1 : f (51 + 2 * r) = iI k) (h2 : f (51 + 2 * r + 1) = iI so) (hX : ∀ u, u < 1000 → ha (1000 * k + u) = bI (X u)) : Ct l G yX3_next cX3_next 3 (some .int) 3 58 [.ref o, .ref as, .int (iI ((r : Int)))] ω0 kc ks (pu ω0 kc ks (some (.int (iI (aat X so))))) := by
  refine Ct.start (by decide) (Nat.le_of_ble_eq_true rfl) ?_
  intro p_ e_ s m_ below_ meth_ c_m H locs ls hx hb hr hlk hml hown hnm hts hK hZ hP hS hl
  have hown : s.vm.findClass RX3 = some m_.cls := hown
  have hl : lv_has ls 3 [(0, .ref o), (1, .ref as), (2, .int (iI ((r : Int))))] := hl
  refine lv_aload_n hx hb dX3_next_0 rfl (lv_at hl 0 rfl) ?_
  refine lv_aload_n hx hb dX3_next_1 rfl (lv_at hl 1 rfl) ?_
  refine lv_iload_n hx hb dX3_next_2 rfl (lv_at hl 2 rfl) ?_
  refine g_S (As := [.ref as, .int (iI ((r : Int)))]) (rest := [.ref o]) hx hb hml hown hts hK hZ hP hS (m_listOfReader l G _ _ _ h_s hr0 h1) 2 (lw_S q1672 q1673 q59 q1674) (by decide +kernel) (by decide) (by decide) rfl hl.1 rfl (Nat.le_of_ble_eq_true rfl) dX3_next_3 (fun v ω kc_1 ks_1 H locs q_1 hP hS => ?_)
  obtain ⟨rfl, rfl, rfl, rfl⟩ := q_1
  refine W.eq (g2 := F0 m_ 6 ls [.int (iI ((k : Int))), .ref o]) rfl ?_
  refine lv_aload_n hx hb dX3_next_6 rfl (lv_at hl 1 rfl) ?_
  refine lv_iload_n hx hb dX3_next_7 rfl (lv_at hl 2 rfl) ?_
  refine g_S (As := [.ref as, .int (iI ((r : Int)))]) (rest := [.int (iI ((k : Int))), .ref o]) hx hb hml hown hts hK hZ hP hS (m_readBy l G _ _ _ h_s hr0 h2) 2 (lw_S q1675 q1676 q59 q1677) (by decide +kernel) (by decide) (by decide) rfl hl.1 rfl (Nat.le_of_ble_eq_true rfl) dX3_next_8 (fun v ω kc_2 ks_2 H locs q_2 hP hS => ?_)
  obtain ⟨rfl, rfl, rfl, rfl⟩ := q_2
  refine W.eq (g2 := F0 m_ 11 ls [.int (iI ((so : Int))), .int (iI ((k : Int))), .ref o]) rfl ?_
  refine g_V (As := [.int (iI ((k : Int))), .int (iI ((so : Int)))]) (rest := []) hx hb hml hown hts hK hZ hP hS (m_at l G _ _ _ h_o h_H hk (by omega) hX) 2 (lw_V q1678 q1680 qs41 q59 q1681) h_o gk2 (by decide +kernel) (by decide) (by decide) rfl hl.1 rfl (Nat.le_of_ble_eq_true rfl) dX3_next_11 (fun v ω kc_3 ks_3 H locs q_3 hP hS => ?_)
  obtain ⟨rfl, rfl, rfl, rfl⟩ := q_3
  refine W.eq (g2 := F0 m_ 14 ls [.int (iI (aat X so))]) rfl ?_
  refine g_iret hx hb hr hlk hP hS (v := (iI (aat X so))) rfl dX3_next_14 ?_
  exact ⟨rfl, rfl, rfl, rfl⟩

