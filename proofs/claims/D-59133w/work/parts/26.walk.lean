/-! ## what the printed walks say over and over -/
/-- ω' is ω but for cells that T names -/
def Fr (T : Nm → Prop) (ω ω' : Om) : Prop := ∀ k, ¬ T k → ω' k = ω k
theorem Fr.rf {T : Nm → Prop} {ω : Om} : Fr T ω ω := fun _ _ => rfl
theorem Fr.put {T : Nm → Prop} {ω ω' ω1 : Om} {n : Nm} (h : Fr T ω ω') (hne : ∀ k, k ≠ n → ω1 k = ω' k) (hn : T n) : Fr T ω ω1 := fun k hk => (hne k (fun q => hk (q ▸ hn))).trans (h k hk)
theorem Fr.trans {T T2 : Nm → Prop} {ω ω1 ω2 : Om} (h1 : Fr T ω ω1) (h2 : Fr T2 ω1 ω2) (hs : ∀ k, T2 k → T k) : Fr T ω ω2 := fun k hk => (h2 k (fun q => hk (hs k q))).trans (h1 k hk)
theorem Fr.at {T : Nm → Prop} {ω ω' : Om} (h : Fr T ω ω') {k : Nm} {x : Nat × va_E} (hk : ¬ T k) (h0 : ω k = some x) : ω' k = some x := (h k hk).trans h0
theorem Fr.weaken {T T2 : Nm → Prop} {ω ω' : Om} (h : Fr T ω ω') (hs : ∀ k, T k → T2 k) : Fr T2 ω ω' := fun k hk => h k (fun q => hk (hs k q))
/-- an answer, and nothing is changed -/
abbrev pu (ω : Om) (kc ks : Nat) (x : Option Value) : Option Value → Om → Nat → Nat → Prop := fun v ω' kc' ks' => v = x ∧ ω = ω' ∧ kc = kc' ∧ ks = ks'
abbrev gW (p : Program) (l : Launch) (e : Env) (G : GT) (fr lo : Nat) (s : State) (m : MethodId) (av : List Value) (below : List Frame) (meth : Method) (c : Code) (P : Option Value → Om → Nat → Nat → Prop) (H : Heap) (locs : List Loc) (pc : Nat) (ls : Array Slot) (st : List Value) : Prop :=
  W p l e (gR G fr lo s.heap.size (hs s.heap)) s m av.toArray below meth c H locs (H.size - s.heap.size) (hs H - hs s.heap) (MQ below (CtQ G P) av.toArray s (gNC G - s.heap.size) (gNS G - hs s.heap) (gA G)) (F0 m pc ls st)
theorem bI_dt {p : Prop} [Decidable p] (h : p) : (some (Value.int (iI 1)) : Option Value) = some (.int (bI (decide p))) := by rw [decide_eq_true h]; rfl
theorem bI_df {p : Prop} [Decidable p] (h : ¬ p) : (some (Value.int (iI 0)) : Option Value) = some (.int (bI (decide p))) := by rw [decide_eq_false h]; rfl
theorem bI_1 {b : Bool} (h : b = true) : (some (Value.int (iI 1)) : Option Value) = some (.int (bI b)) := by rw [h]; rfl
theorem bI_2 {b : Bool} (h : b = false) : (some (Value.int (iI 0)) : Option Value) = some (.int (bI b)) := by rw [h]; rfl
theorem so_i {a b : Int} (h : a = b) : (some (Value.int (iI a)) : Option Value) = some (.int (iI b)) := by rw [h]
theorem lcmp_i {a b : Int} (ha : lR a) (hb : lR b) : lg_cmp (lI a) (lI b) = iI (if a < b then -1 else if a = b then 0 else 1) := by
  unfold lg_cmp
  simp only [lI_lt ha hb, lI_eq ha hb, lI_lt hb ha, gt_iff_lt]
  rcases Int.lt_trichotomy a b with h | h | h
  · have h2 : ¬ b < a := by omega
    have h3 : ¬ a = b := by omega
    simp only [if_neg h2, if_neg h3, if_pos h]; decide
  · have h2 : ¬ b < a := by omega
    have h3 : ¬ a < b := by omega
    simp only [if_neg h2, if_neg h3, if_pos h]; decide
  · have h2 : ¬ a < b := by omega
    have h3 : ¬ a = b := by omega
    simp only [if_neg h2, if_neg h3, if_pos h]; decide
section GL
variable {p : Program} {l : Launch} {e : Env} {R : Room} {s : State} {m : MethodId} {args : Array Value} {below : List Frame} {meth : Method} {c : Code} {H : Heap} {locs : List Loc} {cells slots : Nat} {Q : State → Prop}
variable {cc : ByteArray} {pc : Nat} {ls : Array Slot} {rest : List Value} {a b : Int}
theorem g_lcmp_eq (hx : p.tables.exec = Jvm.exec) (hb : c.code = cc) {off : Int} {tgt : Nat} (hd1 : decode cc pc = .ok (.lcmp, 1)) (hd2 : decode cc (pc + 1) = .ok (.ifCond .eq off, 3)) (ht : ((pc + 1 : Nat) : Int) + off = (tgt : Int)) (ha : lR a) (hb2 : lR b) (kt : a = b → W p l e R s m args below meth c H locs cells slots Q (F0 m tgt ls rest)) (kf : a ≠ b → W p l e R s m args below meth c H locs cells slots Q (F0 m (pc + 4) ls rest)) : W p l e R s m args below meth c H locs cells slots Q (F0 m pc ls (.long (lI b) :: .long (lI a) :: rest)) := by
  refine W.lcmp hx hb hd1 ?_
  rw [lcmp_i ha hb2]
  refine g_if_eq hx hb hd2 ht (by split; decide; split <;> decide) (fun h => kt ?_) (fun h => kf ?_)
  · split at h <;> first | omega | (split at h <;> omega)
  · split at h <;> first | omega | (split at h <;> omega)
theorem g_lcmp_ne (hx : p.tables.exec = Jvm.exec) (hb : c.code = cc) {off : Int} {tgt : Nat} (hd1 : decode cc pc = .ok (.lcmp, 1)) (hd2 : decode cc (pc + 1) = .ok (.ifCond .ne off, 3)) (ht : ((pc + 1 : Nat) : Int) + off = (tgt : Int)) (ha : lR a) (hb2 : lR b) (kt : a ≠ b → W p l e R s m args below meth c H locs cells slots Q (F0 m tgt ls rest)) (kf : a = b → W p l e R s m args below meth c H locs cells slots Q (F0 m (pc + 4) ls rest)) : W p l e R s m args below meth c H locs cells slots Q (F0 m pc ls (.long (lI b) :: .long (lI a) :: rest)) := by
  refine W.lcmp hx hb hd1 ?_
  rw [lcmp_i ha hb2]
  refine g_if_ne hx hb hd2 ht (by split; decide; split <;> decide) (fun h => kt ?_) (fun h => kf ?_)
  · split at h <;> first | omega | (split at h <;> omega)
  · split at h <;> first | omega | (split at h <;> omega)
theorem g_lcmp_lt (hx : p.tables.exec = Jvm.exec) (hb : c.code = cc) {off : Int} {tgt : Nat} (hd1 : decode cc pc = .ok (.lcmp, 1)) (hd2 : decode cc (pc + 1) = .ok (.ifCond .lt off, 3)) (ht : ((pc + 1 : Nat) : Int) + off = (tgt : Int)) (ha : lR a) (hb2 : lR b) (kt : a < b → W p l e R s m args below meth c H locs cells slots Q (F0 m tgt ls rest)) (kf : b ≤ a → W p l e R s m args below meth c H locs cells slots Q (F0 m (pc + 4) ls rest)) : W p l e R s m args below meth c H locs cells slots Q (F0 m pc ls (.long (lI b) :: .long (lI a) :: rest)) := by
  refine W.lcmp hx hb hd1 ?_
  rw [lcmp_i ha hb2]
  refine g_if_lt hx hb hd2 ht (by split; decide; split <;> decide) (fun h => kt ?_) (fun h => kf ?_)
  · split at h <;> first | omega | (split at h <;> omega)
  · split at h <;> first | omega | (split at h <;> omega)
theorem g_lcmp_ge (hx : p.tables.exec = Jvm.exec) (hb : c.code = cc) {off : Int} {tgt : Nat} (hd1 : decode cc pc = .ok (.lcmp, 1)) (hd2 : decode cc (pc + 1) = .ok (.ifCond .ge off, 3)) (ht : ((pc + 1 : Nat) : Int) + off = (tgt : Int)) (ha : lR a) (hb2 : lR b) (kt : b ≤ a → W p l e R s m args below meth c H locs cells slots Q (F0 m tgt ls rest)) (kf : a < b → W p l e R s m args below meth c H locs cells slots Q (F0 m (pc + 4) ls rest)) : W p l e R s m args below meth c H locs cells slots Q (F0 m pc ls (.long (lI b) :: .long (lI a) :: rest)) := by
  refine W.lcmp hx hb hd1 ?_
  rw [lcmp_i ha hb2]
  refine g_if_ge hx hb hd2 ht (by split; decide; split <;> decide) (fun h => kt ?_) (fun h => kf ?_)
  · split at h <;> first | omega | (split at h <;> omega)
  · split at h <;> first | omega | (split at h <;> omega)
theorem g_lcmp_gt (hx : p.tables.exec = Jvm.exec) (hb : c.code = cc) {off : Int} {tgt : Nat} (hd1 : decode cc pc = .ok (.lcmp, 1)) (hd2 : decode cc (pc + 1) = .ok (.ifCond .gt off, 3)) (ht : ((pc + 1 : Nat) : Int) + off = (tgt : Int)) (ha : lR a) (hb2 : lR b) (kt : b < a → W p l e R s m args below meth c H locs cells slots Q (F0 m tgt ls rest)) (kf : a ≤ b → W p l e R s m args below meth c H locs cells slots Q (F0 m (pc + 4) ls rest)) : W p l e R s m args below meth c H locs cells slots Q (F0 m pc ls (.long (lI b) :: .long (lI a) :: rest)) := by
  refine W.lcmp hx hb hd1 ?_
  rw [lcmp_i ha hb2]
  refine g_if_gt hx hb hd2 ht (by split; decide; split <;> decide) (fun h => kt ?_) (fun h => kf ?_)
  · split at h <;> first | omega | (split at h <;> omega)
  · split at h <;> first | omega | (split at h <;> omega)
theorem g_lcmp_le (hx : p.tables.exec = Jvm.exec) (hb : c.code = cc) {off : Int} {tgt : Nat} (hd1 : decode cc pc = .ok (.lcmp, 1)) (hd2 : decode cc (pc + 1) = .ok (.ifCond .le off, 3)) (ht : ((pc + 1 : Nat) : Int) + off = (tgt : Int)) (ha : lR a) (hb2 : lR b) (kt : a ≤ b → W p l e R s m args below meth c H locs cells slots Q (F0 m tgt ls rest)) (kf : b < a → W p l e R s m args below meth c H locs cells slots Q (F0 m (pc + 4) ls rest)) : W p l e R s m args below meth c H locs cells slots Q (F0 m pc ls (.long (lI b) :: .long (lI a) :: rest)) := by
  refine W.lcmp hx hb hd1 ?_
  rw [lcmp_i ha hb2]
  refine g_if_le hx hb hd2 ht (by split; decide; split <;> decide) (fun h => kt ?_) (fun h => kf ?_)
  · split at h <;> first | omega | (split at h <;> omega)
  · split at h <;> first | omega | (split at h <;> omega)
theorem bI_inj {b d : Bool} : bI b = bI d ↔ b = d := by cases b <;> cases d <;> decide
theorem g_bcmp_eq {β γ : Bool} (hx : p.tables.exec = Jvm.exec) (hb : c.code = cc) {off : Int} {tgt : Nat} (hdg : decode cc pc = .ok (.if_icmp .eq off, 3)) (ht : (pc : Int) + off = (tgt : Int)) (kt : β = γ → W p l e R s m args below meth c H locs cells slots Q (F0 m tgt ls rest)) (kf : β = (!γ) → W p l e R s m args below meth c H locs cells slots Q (F0 m (pc + 3) ls rest)) : W p l e R s m args below meth c H locs cells slots Q (F0 m pc ls (.int (bI γ) :: .int (bI β) :: rest)) :=
  lv_icmp_eq hx hb hdg ht (fun h => kt (bI_inj.mp h)) (fun h => kf (by have : β ≠ γ := fun q => h (bI_inj.mpr q); cases β <;> cases γ <;> simp_all))
theorem g_bcmp_ne {β γ : Bool} (hx : p.tables.exec = Jvm.exec) (hb : c.code = cc) {off : Int} {tgt : Nat} (hdg : decode cc pc = .ok (.if_icmp .ne off, 3)) (ht : (pc : Int) + off = (tgt : Int)) (kt : β = (!γ) → W p l e R s m args below meth c H locs cells slots Q (F0 m tgt ls rest)) (kf : β = γ → W p l e R s m args below meth c H locs cells slots Q (F0 m (pc + 3) ls rest)) : W p l e R s m args below meth c H locs cells slots Q (F0 m pc ls (.int (bI γ) :: .int (bI β) :: rest)) :=
  lv_icmp_ne hx hb hdg ht (fun h => kt (by have : β ≠ γ := fun q => h (bI_inj.mpr q); cases β <;> cases γ <;> simp_all)) (fun h => kf (bI_inj.mp h))
end GL
theorem Ct.imp {l : Launch} {G : GT} {y : MethodName} {cc : ByteArray} {n : Nat} {ret : Option FieldType} {fr lo : Nat} {av : List Value} {ω : Om} {kc ks : Nat} {P P' : Option Value → Om → Nat → Nat → Prop} (h : Ct l G y cc n ret fr lo av ω kc ks P) (hi : ∀ v ω' kc' ks', P v ω' kc' ks' → P' v ω' kc' ks') : Ct l G y cc n ret fr lo av ω kc ks P' := by
  intro sz zs p e a1 a2 a3 s m args below b1 b2 b3 b4
  obtain ⟨k, o, c1, c2, c3, c4, c5⟩ := h sz zs p e a1 a2 a3 s m args below b1 b2 b3 b4
  refine ⟨k, o, c1, c2, c3, ?_, c5⟩
  obtain ⟨⟨v, ω', kc', ks', d1, d2, d3⟩, d4⟩ := c4
  exact ⟨⟨v, ω', kc', ks', d1, hi _ _ _ _ d2, d3⟩, d4⟩
