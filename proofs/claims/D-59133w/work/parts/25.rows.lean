/-! ## rows over named cells -/
section GH
variable {p : Program} {l : Launch} {e : Env} {R : Room} {s : State} {m : MethodId} {args : Array Value} {below : List Frame} {meth : Method} {c : Code} {H : Heap} {locs : List Loc} {cells slots : Nat} {Q : State → Prop}
variable {cc : ByteArray} {pc : Nat} {ls : Array Slot} {rest : List Value} {G : GT} {ω : Om} {kc ks : Nat} {n : Nm} {a : Nat}
theorem g_get (hx : p.tables.exec = Jvm.exec) (hb : c.code = cc) {own ref C : String} {T : u_T} {N ci index : Nat} {ty : Nat → FieldType} {fs : List Value} {v : Value} (hown : s.vm.findClass own = some m.cls) (hts : ∀ w ∈ lw_all, w.before args s = true) (hK : Kt G s) (hP : Hp G ω kc ks H) (hω : ω n = some (a, .inr (ci, fs))) (hc : ClsOK ci C T N ty) (k : Nat) (hk : k < N) (hlink : (Cond.fieldLink own index ref (T k).2.1 (T k).2.2.1) ∈ lw_all) (hsame : ∀ x, s.fieldFound? (T k).1 (T k).2.1 (T k).2.2.1 = some x → s.fieldFound? ref (T k).2.1 (T k).2.2.1 = some x) (hv : fs[k]? = some v) (hdg : decode cc pc = .ok (.getfield index, 3))
    (kk : W p l e R s m args below meth c H locs cells slots Q (F0 m (pc + 3) ls (v :: rest))) : W p l e R s m args below meth c H locs cells slots Q (F0 m pc ls (.ref a :: rest)) := va_get hx hb hts hc.2.1 hown hK.1 (hP.one hω) 0 rfl hc.1 k hk (hts _ hlink) hsame hv hdg kk
theorem g_getN (hx : p.tables.exec = Jvm.exec) (hb : c.code = cc) {own ref C host : String} {T : u_T} {N ci index : Nat} {ty : Nat → FieldType} {fs : List Value} {v : Value} (hown : s.vm.findClass own = some m.cls) (hts : ∀ w ∈ lw_all, w.before args s = true) (hK : Kt G s) (hP : Hp G ω kc ks H) (hω : ω n = some (a, .inr (ci, fs))) (hc : ClsOK ci C T N ty) (k : Nat) (hk : k < N) (hlink : (Cond.fieldLinkNest own index ref (T k).2.1 (T k).2.2.1 host) ∈ gnw) (hsame : ∀ x, s.fieldFound? (T k).1 (T k).2.1 (T k).2.2.1 = some x → s.fieldFound? ref (T k).2.1 (T k).2.2.1 = some x) (hv : fs[k]? = some v) (hdg : decode cc pc = .ok (.getfield index, 3))
    (kk : W p l e R s m args below meth c H locs cells slots Q (F0 m (pc + 3) ls (v :: rest))) : W p l e R s m args below meth c H locs cells slots Q (F0 m pc ls (.ref a :: rest)) := va_getN hx hb hts hc.2.1 hown hK.1 (hP.one hω) 0 rfl hc.1 k hk (va_Nw.use rfl (hK.2.1 _ hlink)) hsame hv hdg kk
theorem g_put (hx : p.tables.exec = Jvm.exec) (hb : c.code = cc) {own ref C : String} {T : u_T} {N ci index : Nat} {ty : Nat → FieldType} {fs : List Value} {v : Value} (hown : s.vm.findClass own = some m.cls) (hts : ∀ w ∈ lw_all, w.before args s = true) (hK : Kt G s) (hP : Hp G ω kc ks H) (hS0 : va_S (gA G) s.heap H locs) (hω : ω n = some (a, .inr (ci, fs))) (hc : ClsOK ci C T N ty) (k : Nat) (hk : k < N) (hlink : (Cond.fieldLink own index ref (T k).2.1 (T k).2.2.1) ∈ lw_all) (hsame : ∀ x, s.fieldFound? (T k).1 (T k).2.1 (T k).2.2.1 = some x → s.fieldFound? ref (T k).2.1 (T k).2.2.1 = some x) (hfin : (T k).2.2.2 = false) (hn : narrow (ty k) v = v) (hfit : fits (ty k) v = true) (hl : k < fs.length) (hdg : decode cc pc = .ok (.putfield index, 3))
    (kk : ∀ (ω1 : Om) (H1 : Heap) (locs1 : List Loc), ω1 n = some (a, .inr (ci, fs.set k v)) → (∀ k, k ≠ n → ω1 k = ω k) → Hp G ω1 kc ks H1 → va_S (gA G) s.heap H1 locs1 → W p l e R s m args below meth c H1 locs1 (H1.size - s.heap.size) (hs H1 - hs s.heap) Q (F0 m (pc + 3) ls rest)) : W p l e R s m args below meth c H locs cells slots Q (F0 m pc ls (v :: .ref a :: rest)) := by
  have hap := va_apart (own := own) hts hc.2.1 ty hc.2.2.1 hc.2.2.2 hK.1 hc.1
  have hd := hc.2.2.1 k hk
  obtain ⟨r, h1, cell, q1, q2, q3, q4⟩ := hP.at hω
  have hr : r = (C, T, N) := Option.some.inj (h1.symm.trans hc.1)
  subst hr
  obtain ⟨hS, hfc, kC, hkC, hkind⟩ := hK.1.1 ci _ hc.1
  obtain ⟨cf, kf, fi, f, hi, hsl⟩ := hS k hk
  have hlay := hts _ (hc.2.1 _ (u_in_lay hk))
  unfold u_lay at hlay
  rw [if_neg (by rw [hfin]; decide)] at hlay
  have hst := (u_facts hfc hkC (u_lays hts hc.2.1 hk) hi).1
  have h6 := u_store hfc hkC hkind hlay hi hd hn hfit
  refine W.putK hx hb (f := f) ⟨hown, hts _ hlink, ⟨_, _, _, hsame _ hi⟩, hst⟩ (by rw [q2]; exact h6) q1 q3 (by rw [hsl]; exact k2_hasslot (q4 k hk)) rfl rfl hdg fun H' e1 e2 e3 => ?_
  rw [hsl] at e1 ⊢
  refine W_tight (kk (om_up ω n (a, .inr (ci, fs.set k v))) H' _ om_s (fun j hj => om_n hj) (hP.put hω ⟨_, hc.1, t_OB.to (V := updV (vp_V fs) k v) ⟨_, e1, q2, q3, t_set q4 hap hk v⟩ (fun j _ => vp_updV_set hl v j)⟩ e2 e3 (fun c0 h0 => ?_)) (hS0.put e2 e3 (hP.1.1 _ _ hω).2))
  cases q1.symm.trans h0
  exact ⟨_, e1, by simp [Cell.setSlot]⟩
theorem g_putF (hx : p.tables.exec = Jvm.exec) (hb : c.code = cc) {own ref C : String} {T : u_T} {N ci index : Nat} {ty : Nat → FieldType} {fs : List Value} {v : Value} (hown : s.vm.findClass own = some m.cls) (hts : ∀ w ∈ lw_all, w.before args s = true) (hK : Kt G s) (hP : Hp G ω kc ks H) (hS0 : va_S (gA G) s.heap H locs) (hω : ω n = some (a, .inr (ci, fs))) (hc : ClsOK ci C T N ty) (k : Nat) (hk : k < N) (hlink : (Cond.fieldLink own index ref (T k).2.1 (T k).2.2.1) ∈ lw_all) (hsame : ∀ x, s.fieldFound? (T k).1 (T k).2.1 (T k).2.2.1 = some x → s.fieldFound? ref (T k).2.1 (T k).2.2.1 = some x) (hfin : (T k).2.2.2 = true) (hin2 : meth.name = "<init>") (hdecl : (T k).1 = own) (hn : narrow (ty k) v = v) (hfit : fits (ty k) v = true) (hl : k < fs.length) (hdg : decode cc pc = .ok (.putfield index, 3))
    (kk : ∀ (ω1 : Om) (H1 : Heap) (locs1 : List Loc), ω1 n = some (a, .inr (ci, fs.set k v)) → (∀ k, k ≠ n → ω1 k = ω k) → Hp G ω1 kc ks H1 → va_S (gA G) s.heap H1 locs1 → W p l e R s m args below meth c H1 locs1 (H1.size - s.heap.size) (hs H1 - hs s.heap) Q (F0 m (pc + 3) ls rest)) : W p l e R s m args below meth c H locs cells slots Q (F0 m pc ls (v :: .ref a :: rest)) := by
  have hap := va_apart (own := own) hts hc.2.1 ty hc.2.2.1 hc.2.2.2 hK.1 hc.1
  have hd := hc.2.2.1 k hk
  obtain ⟨r, h1, cell, q1, q2, q3, q4⟩ := hP.at hω
  have hr : r = (C, T, N) := Option.some.inj (h1.symm.trans hc.1)
  subst hr
  obtain ⟨hS, hfc, kC, hkC, hkind⟩ := hK.1.1 ci _ hc.1
  obtain ⟨cf, kf, fi, f, hi, hsl⟩ := hS k hk
  have hlay := hts _ (hc.2.1 _ (u_in_lay hk))
  unfold u_lay at hlay
  rw [if_pos hfin] at hlay
  have hst := (u_facts hfc hkC (u_lays hts hc.2.1 hk) hi).1
  have hcf : m.cls = cf := by
    obtain ⟨_, _, c', _, _, _, -, -, hf', -, -, -, hown2, -⟩ := Cond.laysFinal_spec hlay
    have e1 : c' = cf := by have := hi.symm.trans hf'; simp at this; exact this.1.symm
    rw [hdecl] at hown2
    rw [← e1]; exact Option.some.inj (hown.symm.trans hown2)
  have h6 := u_fits hfc hkC hkind (Or.inr hlay) hi hd hn hfit
  refine W.putFinK hx hb hown (hts _ hlink) (hsame _ hi) hst hcf hin2 (by rw [q2]; exact h6) q1 q3 (by rw [hsl]; exact k2_hasslot (q4 k hk)) rfl rfl hdg fun H' e1 e2 e3 => ?_
  rw [hsl] at e1 ⊢
  refine W_tight (kk (om_up ω n (a, .inr (ci, fs.set k v))) H' _ om_s (fun j hj => om_n hj) (hP.put hω ⟨_, hc.1, t_OB.to (V := updV (vp_V fs) k v) ⟨_, e1, q2, q3, t_set q4 hap hk v⟩ (fun j _ => vp_updV_set hl v j)⟩ e2 e3 (fun c0 h0 => ?_)) (hS0.put e2 e3 (hP.1.1 _ _ hω).2))
  cases q1.symm.trans h0
  exact ⟨_, e1, by simp [Cell.setSlot]⟩
theorem g_iald (hx : p.tables.exec = Jvm.exec) (hb : c.code = cc) (hK : Kt G s) (hP : Hp G ω kc ks H) {N : Nat} {f : Nat → Int32} (hω : ω n = some (a, .inl (G.2.1 0, N, .inl f))) {z : Int} (j : Nat) (hj : z = (j : Int)) (hlt : j < N) (hN : N < 2147483648) {v : Value} (hv : (.int (f j) : Value) = v) (hdg : decode cc pc = .ok (.iaload, 1)) (kk : W p l e R s m args below meth c H locs cells slots Q (F0 m (pc + 1) ls (v :: rest))) : W p l e R s m args below meth c H locs cells slots Q (F0 m pc ls (.int (iI z) :: .ref a :: rest)) := by
  subst hv
  have hin := iI_in hj hlt hN
  have hjj := iI_at hj ⟨by omega, by omega⟩
  refine va_iald hx hb hK.1 (hP.one hω) 0 0 rfl (gtys_at G (by decide)) hin hdg ?_
  rw [hjj]; exact kk
theorem g_zald (hx : p.tables.exec = Jvm.exec) (hb : c.code = cc) (hK : Kt G s) (hP : Hp G ω kc ks H) {N : Nat} {f : Nat → Int32} (hω : ω n = some (a, .inl (G.2.1 1, N, .inl f))) {z : Int} (j : Nat) (hj : z = (j : Int)) (hlt : j < N) (hN : N < 2147483648) {v : Value} (hv : (.int (f j) : Value) = v) (hdg : decode cc pc = .ok (.baload, 1)) (kk : W p l e R s m args below meth c H locs cells slots Q (F0 m (pc + 1) ls (v :: rest))) : W p l e R s m args below meth c H locs cells slots Q (F0 m pc ls (.int (iI z) :: .ref a :: rest)) := by
  subst hv
  have hin := iI_in hj hlt hN
  have hjj := iI_at hj ⟨by omega, by omega⟩
  refine va_zald hx hb hK.1 (hP.one hω) 0 1 rfl (gtys_at G (by decide)) hin hdg ?_
  rw [hjj]; exact kk
theorem g_cald (hx : p.tables.exec = Jvm.exec) (hb : c.code = cc) (hK : Kt G s) (hP : Hp G ω kc ks H) {N : Nat} {f : Nat → Int32} (hω : ω n = some (a, .inl (G.2.1 2, N, .inl f))) {z : Int} (j : Nat) (hj : z = (j : Int)) (hlt : j < N) (hN : N < 2147483648) {v : Value} (hv : (.int (f j) : Value) = v) (hdg : decode cc pc = .ok (.caload, 1)) (kk : W p l e R s m args below meth c H locs cells slots Q (F0 m (pc + 1) ls (v :: rest))) : W p l e R s m args below meth c H locs cells slots Q (F0 m pc ls (.int (iI z) :: .ref a :: rest)) := by
  subst hv
  have hin := iI_in hj hlt hN
  have hjj := iI_at hj ⟨by omega, by omega⟩
  refine va_cald hx hb hK.1 (hP.one hω) 0 2 rfl (gtys_at G (by decide)) hin hdg ?_
  rw [hjj]; exact kk
theorem g_lald (hx : p.tables.exec = Jvm.exec) (hb : c.code = cc) (hK : Kt G s) (hP : Hp G ω kc ks H) {N : Nat} {f : Nat → Int64} (hω : ω n = some (a, .inl (G.2.1 3, N, .inr (.inl f)))) {z : Int} (j : Nat) (hj : z = (j : Int)) (hlt : j < N) (hN : N < 2147483648) {v : Value} (hv : (.long (f j) : Value) = v) (hdg : decode cc pc = .ok (.laload, 1)) (kk : W p l e R s m args below meth c H locs cells slots Q (F0 m (pc + 1) ls (v :: rest))) : W p l e R s m args below meth c H locs cells slots Q (F0 m pc ls (.int (iI z) :: .ref a :: rest)) := by
  subst hv
  have hin := iI_in hj hlt hN
  have hjj := iI_at hj ⟨by omega, by omega⟩
  refine va_lald hx hb hK.1 (hP.one hω) 0 3 rfl (gtys_at G (by decide)) hin hdg ?_
  rw [hjj]; exact kk
theorem g_oald (hx : p.tables.exec = Jvm.exec) (hb : c.code = cc) (hK : Kt G s) (hP : Hp G ω kc ks H) {N : Nat} {f : Nat → Option Nat} (hω : ω n = some (a, .inl (G.2.1 4, N, .inr (.inr (.inr (.inr f)))))) {z : Int} (j : Nat) (hj : z = (j : Int)) (hlt : j < N) (hN : N < 2147483648) {v : Value} (hv : va_rf (f j) = v) (hdg : decode cc pc = .ok (.aaload, 1)) (kk : W p l e R s m args below meth c H locs cells slots Q (F0 m (pc + 1) ls (v :: rest))) : W p l e R s m args below meth c H locs cells slots Q (F0 m pc ls (.int (iI z) :: .ref a :: rest)) := by
  subst hv
  have hin := iI_in hj hlt hN
  have hjj := iI_at hj ⟨by omega, by omega⟩
  refine va_aldq (C := "java/lang/Object") hx hb hK.1 (hP.one hω) 0 4 rfl (gtys_at G (by decide)) hin hdg ?_
  rw [hjj]; exact kk
theorem g_sald (hx : p.tables.exec = Jvm.exec) (hb : c.code = cc) (hK : Kt G s) (hP : Hp G ω kc ks H) {N : Nat} {f : Nat → Option Nat} (hω : ω n = some (a, .inl (G.2.1 5, N, .inr (.inr (.inr (.inr f)))))) {z : Int} (j : Nat) (hj : z = (j : Int)) (hlt : j < N) (hN : N < 2147483648) {v : Value} (hv : va_rf (f j) = v) (hdg : decode cc pc = .ok (.aaload, 1)) (kk : W p l e R s m args below meth c H locs cells slots Q (F0 m (pc + 1) ls (v :: rest))) : W p l e R s m args below meth c H locs cells slots Q (F0 m pc ls (.int (iI z) :: .ref a :: rest)) := by
  subst hv
  have hin := iI_in hj hlt hN
  have hjj := iI_at hj ⟨by omega, by omega⟩
  refine va_aldq (C := "RuleLists$Shelf") hx hb hK.1 (hP.one hω) 0 5 rfl (gtys_at G (by decide)) hin hdg ?_
  rw [hjj]; exact kk
theorem g_iast (hx : p.tables.exec = Jvm.exec) (hb : c.code = cc) (hK : Kt G s) (hP : Hp G ω kc ks H) (hS0 : va_S (gA G) s.heap H locs) {N : Nat} {f : Nat → Int32} (hω : ω n = some (a, .inl (G.2.1 0, N, .inl (f)))) {z : Int} (j : Nat) (hj : z = (j : Int)) (hlt : j < N) (hN : N < 2147483648) {x : Int32} (hdg : decode cc pc = .ok (.iastore, 1))
    (kk : ∀ (ω1 : Om) (H1 : Heap) (locs1 : List Loc), ω1 n = some (a, .inl (G.2.1 0, N, .inl (upd f j x))) → (∀ k, k ≠ n → ω1 k = ω k) → Hp G ω1 kc ks H1 → va_S (gA G) s.heap H1 locs1 → W p l e R s m args below meth c H1 locs1 (H1.size - s.heap.size) (hs H1 - hs s.heap) Q (F0 m (pc + 1) ls rest)) : W p l e R s m args below meth c H locs cells slots Q (F0 m pc ls (.int x :: .int (iI z) :: .ref a :: rest)) := by
  have hin := iI_in hj hlt hN
  have hjj := iI_at hj ⟨by omega, by omega⟩

  refine W.iast hx hb (hP.at hω) ((hK.1.2 0 _ (gtys_at G (by decide))).1 N (fun j => .int (f j))) (fun q => by cases q) (by show ¬ (iI z < 0 ∨ (arrV _ _ _).slots.size ≤ _); rw [arrV_size]; exact hin) rfl rfl hdg fun H1 e z1 oq => ?_
  rw [hjj] at e ⊢
  have e2 : va_at G.1 gcl (a, .inl (G.2.1 0, N, .inl (upd f j x))) H1 := by
    show H1[a]? = some (vp_cell _ _)
    rw [e]
    rw [vp_cell_i, vp_cell_i, arrV_store]
    congr 2
    funext q
    by_cases hq : q = j
    · subst hq
      simp [updV, upd]
    · simp [updV, upd, hq]
  refine W_tight (kk (om_up ω n (a, .inl (G.2.1 0, N, .inl (upd f j x)))) H1 _ om_s (fun j hj => om_n hj) (hP.put hω e2 z1 oq (fun c0 h0 => ?_)) (hS0.put z1 oq (hP.1.1 _ _ hω).2))
  have h1 : H[a]? = some (vp_cell _ _) := hP.at hω
  cases h1.symm.trans h0
  exact ⟨_, e, by simp [Cell.setSlot]⟩
theorem g_last (hx : p.tables.exec = Jvm.exec) (hb : c.code = cc) (hK : Kt G s) (hP : Hp G ω kc ks H) (hS0 : va_S (gA G) s.heap H locs) {N : Nat} {f : Nat → Int64} (hω : ω n = some (a, .inl (G.2.1 3, N, .inr (.inl (f))))) {z : Int} (j : Nat) (hj : z = (j : Int)) (hlt : j < N) (hN : N < 2147483648) {x : Int64} (hdg : decode cc pc = .ok (.lastore, 1))
    (kk : ∀ (ω1 : Om) (H1 : Heap) (locs1 : List Loc), ω1 n = some (a, .inl (G.2.1 3, N, .inr (.inl (vp_updL f j x)))) → (∀ k, k ≠ n → ω1 k = ω k) → Hp G ω1 kc ks H1 → va_S (gA G) s.heap H1 locs1 → W p l e R s m args below meth c H1 locs1 (H1.size - s.heap.size) (hs H1 - hs s.heap) Q (F0 m (pc + 1) ls rest)) : W p l e R s m args below meth c H locs cells slots Q (F0 m pc ls (.long x :: .int (iI z) :: .ref a :: rest)) := by
  have hin := iI_in hj hlt hN
  have hjj := iI_at hj ⟨by omega, by omega⟩

  refine W.last hx hb (hP.at hω) ((hK.1.2 3 _ (gtys_at G (by decide))).1 N (fun j => .long (f j))) (fun q => by cases q) (by show ¬ (iI z < 0 ∨ (arrV _ _ _).slots.size ≤ _); rw [arrV_size]; exact hin) rfl rfl hdg fun H1 e z1 oq => ?_
  rw [hjj] at e ⊢
  have e2 : va_at G.1 gcl (a, .inl (G.2.1 3, N, .inr (.inl (vp_updL f j x)))) H1 := by
    show H1[a]? = some (vp_cell _ _)
    rw [e]
    rw [vp_cell_l, vp_cell_l, arrV_store]
    congr 2
    funext q
    by_cases hq : q = j
    · subst hq
      simp [updV, vp_updL]
    · simp [updV, vp_updL, hq]
  refine W_tight (kk (om_up ω n (a, .inl (G.2.1 3, N, .inr (.inl (vp_updL f j x))))) H1 _ om_s (fun j hj => om_n hj) (hP.put hω e2 z1 oq (fun c0 h0 => ?_)) (hS0.put z1 oq (hP.1.1 _ _ hω).2))
  have h1 : H[a]? = some (vp_cell _ _) := hP.at hω
  cases h1.symm.trans h0
  exact ⟨_, e, by simp [Cell.setSlot]⟩
theorem g_zast (hx : p.tables.exec = Jvm.exec) (hb : c.code = cc) (hK : Kt G s) (hP : Hp G ω kc ks H) (hS0 : va_S (gA G) s.heap H locs) {N : Nat} {f : Nat → Int32} (hω : ω n = some (a, .inl (G.2.1 1, N, .inl (f)))) {z : Int} (j : Nat) (hj : z = (j : Int)) (hlt : j < N) (hN : N < 2147483648) {x : Bool} (hdg : decode cc pc = .ok (.bastore, 1))
    (kk : ∀ (ω1 : Om) (H1 : Heap) (locs1 : List Loc), ω1 n = some (a, .inl (G.2.1 1, N, .inl (upd f j (bI x)))) → (∀ k, k ≠ n → ω1 k = ω k) → Hp G ω1 kc ks H1 → va_S (gA G) s.heap H1 locs1 → W p l e R s m args below meth c H1 locs1 (H1.size - s.heap.size) (hs H1 - hs s.heap) Q (F0 m (pc + 1) ls rest)) : W p l e R s m args below meth c H locs cells slots Q (F0 m pc ls (.int (bI x) :: .int (iI z) :: .ref a :: rest)) := by
  have hin := iI_in hj hlt hN
  have hjj := iI_at hj ⟨by omega, by omega⟩

  refine W.zast hx hb (hP.at hω) ((hK.1.2 1 _ (gtys_at G (by decide))).1 N (fun j => .int (f j))) (fun q => by cases q) (by show ¬ (iI z < 0 ∨ (arrV _ _ _).slots.size ≤ _); rw [arrV_size]; exact hin) rfl rfl hdg fun H1 e z1 oq => ?_
  rw [hjj] at e ⊢
  have e2 : va_at G.1 gcl (a, .inl (G.2.1 1, N, .inl (upd f j (bI x)))) H1 := by
    show H1[a]? = some (vp_cell _ _)
    rw [e]
    rw [vp_cell_i, vp_cell_i, arrV_store]
    congr 2
    funext q
    by_cases hq : q = j
    · subst hq
      simp [updV, upd, bI_nar]
    · simp [updV, upd, bI_nar, hq]
  refine W_tight (kk (om_up ω n (a, .inl (G.2.1 1, N, .inl (upd f j (bI x))))) H1 _ om_s (fun j hj => om_n hj) (hP.put hω e2 z1 oq (fun c0 h0 => ?_)) (hS0.put z1 oq (hP.1.1 _ _ hω).2))
  have h1 : H[a]? = some (vp_cell _ _) := hP.at hω
  cases h1.symm.trans h0
  exact ⟨_, e, by simp [Cell.setSlot]⟩
theorem g_cast (hx : p.tables.exec = Jvm.exec) (hb : c.code = cc) (hK : Kt G s) (hP : Hp G ω kc ks H) (hS0 : va_S (gA G) s.heap H locs) {N : Nat} {f : Nat → Int32} (hω : ω n = some (a, .inl (G.2.1 2, N, .inl (f)))) {z : Int} (j : Nat) (hj : z = (j : Int)) (hlt : j < N) (hN : N < 2147483648) {x : Int32} (hx2 : narrow .char (.int x) = .int x) (hdg : decode cc pc = .ok (.castore, 1))
    (kk : ∀ (ω1 : Om) (H1 : Heap) (locs1 : List Loc), ω1 n = some (a, .inl (G.2.1 2, N, .inl (upd f j x))) → (∀ k, k ≠ n → ω1 k = ω k) → Hp G ω1 kc ks H1 → va_S (gA G) s.heap H1 locs1 → W p l e R s m args below meth c H1 locs1 (H1.size - s.heap.size) (hs H1 - hs s.heap) Q (F0 m (pc + 1) ls rest)) : W p l e R s m args below meth c H locs cells slots Q (F0 m pc ls (.int x :: .int (iI z) :: .ref a :: rest)) := by
  have hin := iI_in hj hlt hN
  have hjj := iI_at hj ⟨by omega, by omega⟩

  refine W.cast hx hb (hP.at hω) ((hK.1.2 2 _ (gtys_at G (by decide))).1 N (fun j => .int (f j))) (fun q => by cases q) (by show ¬ (iI z < 0 ∨ (arrV _ _ _).slots.size ≤ _); rw [arrV_size]; exact hin) rfl rfl hdg fun H1 e z1 oq => ?_
  rw [hjj] at e ⊢
  have e2 : va_at G.1 gcl (a, .inl (G.2.1 2, N, .inl (upd f j x))) H1 := by
    show H1[a]? = some (vp_cell _ _)
    rw [e]
    rw [vp_cell_i, vp_cell_i, arrV_store]
    congr 2
    funext q
    by_cases hq : q = j
    · subst hq
      simp [updV, upd, hx2]
    · simp [updV, upd, hx2, hq]
  refine W_tight (kk (om_up ω n (a, .inl (G.2.1 2, N, .inl (upd f j x)))) H1 _ om_s (fun j hj => om_n hj) (hP.put hω e2 z1 oq (fun c0 h0 => ?_)) (hS0.put z1 oq (hP.1.1 _ _ hω).2))
  have h1 : H[a]? = some (vp_cell _ _) := hP.at hω
  cases h1.symm.trans h0
  exact ⟨_, e, by simp [Cell.setSlot]⟩
theorem g_alen (hx : p.tables.exec = Jvm.exec) (hb : c.code = cc) (hK : Kt G s) (hP : Hp G ω kc ks H) (t : Nat) (ht : t < 6) {x : vp_A} (hω : ω n = some (a, .inl (G.2.1 t, x))) {N : Nat} (hN : x.1 = N) (hdg : decode cc pc = .ok (.arraylength, 1)) (kk : W p l e R s m args below meth c H locs cells slots Q (F0 m (pc + 1) ls (.int (iI (N : Int)) :: rest))) : W p l e R s m args below meth c H locs cells slots Q (F0 m pc ls (.ref a :: rest)) := by
  subst hN
  refine va_alen hx hb hK.1 (hP.one hω) 0 t rfl (gtys_at G ht) rfl hdg ?_
  rw [← iI_nat]; exact kk
theorem g_astN (hx : p.tables.exec = Jvm.exec) (hb : c.code = cc) (hK : Kt G s) (hP : Hp G ω kc ks H) (hS0 : va_S (gA G) s.heap H locs) (t : Nat) (ht : t < 6) {E : String} (hE : gty t = .object E) {N : Nat} {f : Nat → Option Nat} (hω : ω n = some (a, .inl (G.2.1 t, N, .inr (.inr (.inr (.inr f)))))) {z : Int} (j : Nat) (hj : z = (j : Int)) (hlt : j < N) (hN : N < 2147483648) (hdg : decode cc pc = .ok (.aastore, 1))
    (kk : ∀ (ω1 : Om) (H1 : Heap) (locs1 : List Loc), ω1 n = some (a, .inl (G.2.1 t, N, .inr (.inr (.inr (.inr (va_up f j none)))))) → (∀ k, k ≠ n → ω1 k = ω k) → Hp G ω1 kc ks H1 → va_S (gA G) s.heap H1 locs1 → W p l e R s m args below meth c H1 locs1 (H1.size - s.heap.size) (hs H1 - hs s.heap) Q (F0 m (pc + 1) ls rest)) : W p l e R s m args below meth c H locs cells slots Q (F0 m pc ls (.null :: .int (iI z) :: .ref a :: rest)) := by
  have hin := iI_in hj hlt hN
  have hjj := iI_at hj ⟨by omega, by omega⟩
  have hAr := (hK.1.2 t _ (gtys_at G ht)).1
  rw [hE] at hAr
  refine va_WaastN (C := E) hx hb (hP.at hω) (hAr N (fun j => va_rf (f j))) (fun h => by cases h) (by show ¬ (iI z < 0 ∨ (arrV _ _ _).slots.size ≤ _); rw [arrV_size]; exact hin) rfl rfl hdg fun H1 e z1 oq => ?_
  rw [hjj] at e ⊢
  have e2 : va_at G.1 gcl (a, .inl (G.2.1 t, N, .inr (.inr (.inr (.inr (va_up f j none)))))) H1 := by
    show H1[a]? = some (vp_cell _ _)
    rw [e]
    rw [vp_cell_q, vp_cell_q, arrV_store]
    congr 2
    funext q
    by_cases hq : q = j
    · subst hq
      simp [updV, va_up, va_rf]
    · simp [updV, va_up, hq]
  refine W_tight (kk (om_up ω n _) H1 _ om_s (fun j hj => om_n hj) (hP.put hω e2 z1 oq (fun c0 h0 => ?_)) (hS0.put z1 oq (hP.1.1 _ _ hω).2))
  have h1 : H[a]? = some (vp_cell _ _) := hP.at hω
  cases h1.symm.trans h0
  exact ⟨_, e, by simp [Cell.setSlot]⟩
/-- a reference into an array whose component class takes it -/
theorem g_ast (hx : p.tables.exec = Jvm.exec) (hb : c.code = cc) (hK : Kt G s) (hP : Hp G ω kc ks H) (hS0 : va_S (gA G) s.heap H locs) (t : Nat) (ht : t < 6) {E : String} (hE : gty t = .object E) {N : Nat} {f : Nat → Option Nat} (hω : ω n = some (a, .inl (G.2.1 t, N, .inr (.inr (.inr (.inr f)))))) {nv : Nm} {v ci : Nat} {fs : List Value} {C : String} {T : u_T} {NC : Nat} {ty : Nat → FieldType} (hv : ω nv = some (v, .inr (ci, fs))) (hc : ClsOK ci C T NC ty) (hca : ∀ comp c0 : ClassId, s.vm.findClass E = some comp → s.vm.findClass C = some c0 → s.vm.assignable c0 comp = true) {z : Int} (j : Nat) (hj : z = (j : Int)) (hlt : j < N) (hN : N < 2147483648) (hdg : decode cc pc = .ok (.aastore, 1))
    (kk : ∀ (ω1 : Om) (H1 : Heap) (locs1 : List Loc), ω1 n = some (a, .inl (G.2.1 t, N, .inr (.inr (.inr (.inr (va_up f j (some v))))))) → (∀ k, k ≠ n → ω1 k = ω k) → Hp G ω1 kc ks H1 → va_S (gA G) s.heap H1 locs1 → W p l e R s m args below meth c H1 locs1 (H1.size - s.heap.size) (hs H1 - hs s.heap) Q (F0 m (pc + 1) ls rest)) : W p l e R s m args below meth c H locs cells slots Q (F0 m pc ls (.ref v :: .int (iI z) :: .ref a :: rest)) := by
  have hin := iI_in hj hlt hN
  have hjj := iI_at hj ⟨by omega, by omega⟩
  have h0 : ¬ iI z < 0 := fun q => hin (Or.inl q)
  have hlt2 : (iI z).toNatClampNeg < N := by rw [hjj]; exact hlt
  obtain ⟨r, hr, cellV, g1, g2, g3, -⟩ := hP.at hv
  have hr2 : r = (C, T, NC) := Option.some.inj (hr.symm.trans hc.1)
  subst hr2
  have hcls := (hK.1.1 ci _ hc.1).2
  have hRA := (hK.1.2 t _ (gtys_at G ht)).2
  rw [hE] at hRA
  obtain ⟨kA, comp, k1, k2, k3, -⟩ := hRA
  obtain ⟨kC, hkC, -⟩ := hcls.2
  have hcp : ∃ kcomp, s.vm.classes[comp]? = some kcomp := by
    simp only [Vm.findClass] at k3
    have hlt3 := (Array.findIdx?_eq_some_iff_getElem.mp k3).1
    exact ⟨_, Array.getElem?_eq_getElem hlt3⟩
  obtain ⟨kcomp, hkcomp⟩ := hcp
  refine W.aast hx hb (hP.at hω) (fun q h => by cases h) (fun h => by cases h) k1 k2 rfl hkcomp ⟨h0, by show _ < (arrV _ _ _).slots.size; rw [arrV_size]; exact hlt2⟩ g1 (fun q h => by rw [g3] at h; cases h) (by rw [g2]; exact hkC) (by rw [g2]; exact hca comp _ k3 hcls.1) rfl rfl hdg fun H1 e z1 oq => ?_
  rw [hjj] at e ⊢
  have e2 : va_at G.1 gcl (a, .inl (G.2.1 t, N, .inr (.inr (.inr (.inr (va_up f j (some v))))))) H1 := by
    show H1[a]? = some (vp_cell _ _)
    rw [e]
    rw [vp_cell_q, vp_cell_q, arrV_store]
    congr 2
    funext q
    by_cases hq : q = j
    · subst hq
      simp [updV, va_up, va_rf]
    · simp [updV, va_up, hq]
  refine W_tight (kk (om_up ω n _) H1 _ om_s (fun j hj => om_n hj) (hP.put hω e2 z1 oq (fun c0 h0 => ?_)) (hS0.put z1 oq (hP.1.1 _ _ hω).2))
  have h1 : H[a]? = some (vp_cell _ _) := hP.at hω
  cases h1.symm.trans h0
  exact ⟨_, e, by simp [Cell.setSlot]⟩
end GH
section GN
variable {p : Program} {l : Launch} {e : Env} {s : State} {m : MethodId} {args : Array Value} {below : List Frame} {meth : Method} {c : Code} {H : Heap} {locs : List Loc} {Q : State → Prop}
variable {cc : ByteArray} {pc : Nat} {ls : Array Slot} {rest st : List Value} {G : GT} {ω : Om} {kc ks fr0 lo0 : Nat}
theorem g_new (hx : p.tables.exec = Jvm.exec) (hb : c.code = cc) {own C : String} {T : u_T} {N ci index : Nat} {ty : Nat → FieldType} (hown : s.vm.findClass own = some m.cls) (hts : ∀ w ∈ lw_all, w.before args s = true) (hcl : (Cond.classLink own index C) ∈ lw_all) (hinst : (Cond.instantiable C N) ∈ lw_all) (hini : (Cond.initialized C) ∈ lw_all) (hK : Kt G s) (hP : Hp G ω kc ks H) (hS0 : va_S (gA G) s.heap H locs) (hc : ClsOK ci C T N ty) (nn : Nm) (fs : List Value) (hfs : ∀ j, j < N → defaultValue (ty j) = vp_V fs j) (kc' ks' : Nat) (h1 : kc' + 1 ≤ kc) (h2 : ks' + N ≤ ks) (hdg : decode cc pc = .ok (.new index, 3))
    (kk : ∀ (q : Nat) (ω1 : Om) (H1 : Heap), ω1 nn = some (q, .inr (ci, fs)) → (∀ k, k ≠ nn → ω1 k = ω k) → (∀ k x, ω k = some x → x.1 ≠ q) → Hp G ω1 kc' ks' H1 → va_S (gA G) s.heap H1 locs → W p l e (gR G fr0 lo0 s.heap.size (hs s.heap)) s m args below meth c H1 locs (H1.size - s.heap.size) (hs H1 - hs s.heap) Q (F0 m (pc + 3) ls (.ref q :: rest))) :
    W p l e (gR G fr0 lo0 s.heap.size (hs s.heap)) s m args below meth c H locs (H.size - s.heap.size) (hs H - hs s.heap) Q (F0 m pc ls rest) := by
  refine W_mono fun b6 => ?_
  have hP' : Hp G ω (kc' + 1) (ks' + N) H := hP.less h1 h2
  have b1 := hP'.2.2.1
  have b2 := hP'.2.2.2
  have b3 := hS0.1
  have hKn := hK.1.1 ci _ hc.1
  refine W.newcK hx hb hown (hts _ hcl) (hts _ hinst) (hts _ hini) rfl hdg (by show _ ≤ gNC G - s.heap.size; omega) (by show _ ≤ gNS G - hs s.heap; omega) hKn.2.1 rfl fun H1 kC hkC e1 z1 o1 => ?_
  have hsz : (blank (G.1.1 ci) kC).slots.size = N := by
    obtain ⟨cC, kC', f1, f2, f3, f4⟩ := Cond.instantiable_spec (hts _ hinst)
    cases hKn.2.1.symm.trans f1
    cases hkC.symm.trans f2
    have f5 := f4
    simp at f5
    simpa [blank] using f5.2.2
  exact W_tight (kk H.size (om_up ω nn (H.size, .inr (ci, fs))) H1 om_s (fun k hk => om_n hk) (fun k x hx he => by have := hP.lt hx; omega) (hP'.new nn ⟨_, hc.1, (u_born ty hts hc.2.1 hKn hkC e1 hc.2.2.1).to hfs⟩ z1 o1 e1 hsz)
    ⟨Nat.le_trans hS0.1 (by omega), fun x h1 h2 => (o1 x (Nat.lt_of_lt_of_le h1 hS0.1)).trans (hS0.2.1 x h1 h2), hS0.2.2⟩)
theorem g_newa (hx : p.tables.exec = Jvm.exec) (hb : c.code = cc) (atype : ArrayType) (t : Nat) (ht : t < 6) (htt : newarray.typeOf atype = gty t) (hts : ∀ w ∈ lw_all, w.before args s = true) (harr : (Cond.arrayClass (newarray.typeOf atype)) ∈ lw_all) (hK : Kt G s) (hP : Hp G ω kc ks H) (hS0 : va_S (gA G) s.heap H locs) (hna : ∀ (U : State) (cA : ClassId), va_RA U cA (newarray.typeOf atype) → U.vm.findClass ("[" ++ (newarray.typeOf atype).toString) = some cA) (nn : Nm) {z : Int} (N : Nat) (hz : z = (N : Int)) (hN : N ≤ 16777216) (a0 : vp_A) (ha : ∀ cA : ClassId, vp_cell cA a0 = arrV cA N (fun _ => defaultValue (newarray.typeOf atype))) (kc' ks' : Nat) (h1 : kc' + 1 ≤ kc) (h2 : ks' + N ≤ ks) (hdg : decode cc pc = .ok (.newarray atype, 2))
    (kk : ∀ (q : Nat) (ω1 : Om) (H1 : Heap), ω1 nn = some (q, .inl (G.2.1 t, a0)) → (∀ k, k ≠ nn → ω1 k = ω k) → (∀ k x, ω k = some x → x.1 ≠ q) → Hp G ω1 kc' ks' H1 → va_S (gA G) s.heap H1 locs → W p l e (gR G fr0 lo0 s.heap.size (hs s.heap)) s m args below meth c H1 locs (H1.size - s.heap.size) (hs H1 - hs s.heap) Q (F0 m (pc + 2) ls (.ref q :: rest))) :
    W p l e (gR G fr0 lo0 s.heap.size (hs s.heap)) s m args below meth c H locs (H.size - s.heap.size) (hs H - hs s.heap) Q (F0 m pc ls (.int (iI z) :: rest)) := by
  refine W_mono fun b6 => ?_
  have hP' : Hp G ω (kc' + 1) (ks' + N) H := hP.less h1 h2
  have b1 := hP'.2.2.1
  have b2 := hP'.2.2.2
  have b3 := hS0.1
  subst hz
  have hcb : componentBytes (newarray.typeOf atype) ≤ 8 := by cases atype <;> decide
  refine va_newaK hx hb (hts _ harr) rfl hdg rfl (by rw [iI_nat]; exact nI_pos (by omega)) (by rw [iI_nat]; exact nI_clamp (by omega)) (Nat.le_trans (Nat.mul_le_mul_left N hcb) (by omega)) (by show _ ≤ gNC G - s.heap.size; omega) (by show _ ≤ gNS G - hs s.heap; omega) rfl fun H1 cA e1 z1 o1 hAr hNm => ?_
  have hcA : cA = G.2.1 t := by
    have h3 := (hK.1.2 t _ (gtys_at G ht)).2
    rw [← htt] at h3
    exact Option.some.inj (hNm.symm.trans (hna s _ h3))
  subst hcA
  exact W_tight (kk H.size (om_up ω nn (H.size, .inl (G.2.1 t, a0))) H1 om_s (fun k hk => om_n hk) (fun k x hx he => by have := hP.lt hx; omega) (hP'.new nn (show H1[H.size]? = some (vp_cell _ _) by rw [ha]; exact e1) z1 o1 e1 (arrV_size _ _ _))
    ⟨Nat.le_trans hS0.1 (by omega), fun x h1 h2 => (o1 x (Nat.lt_of_lt_of_le h1 hS0.1)).trans (hS0.2.1 x h1 h2), hS0.2.2⟩)
theorem g_newq (hx : p.tables.exec = Jvm.exec) (hb : c.code = cc) {own : String} {index : Nat} (t : Nat) (ht : t < 6) {C : String} (hC : gty t = .object C) (hown : s.vm.findClass own = some m.cls) (hts : ∀ w ∈ lw_all, w.before args s = true) (hcl : (Cond.classLink own index C) ∈ lw_all) (hover : va_AO C s) (hK : Kt G s) (hP : Hp G ω kc ks H) (hS0 : va_S (gA G) s.heap H locs) (nn : Nm) {z : Int} (N : Nat) (hz : z = (N : Int)) (hN : N ≤ 16777216) (kc' ks' : Nat) (h1 : kc' + 1 ≤ kc) (h2 : ks' + N ≤ ks) (hdg : decode cc pc = .ok (.anewarray index, 3))
    (kk : ∀ (q : Nat) (ω1 : Om) (H1 : Heap), ω1 nn = some (q, .inl (G.2.1 t, N, .inr (.inr (.inr (.inr (fun _ => none)))))) → (∀ k, k ≠ nn → ω1 k = ω k) → (∀ k x, ω k = some x → x.1 ≠ q) → Hp G ω1 kc' ks' H1 → va_S (gA G) s.heap H1 locs → W p l e (gR G fr0 lo0 s.heap.size (hs s.heap)) s m args below meth c H1 locs (H1.size - s.heap.size) (hs H1 - hs s.heap) Q (F0 m (pc + 3) ls (.ref q :: rest))) :
    W p l e (gR G fr0 lo0 s.heap.size (hs s.heap)) s m args below meth c H locs (H.size - s.heap.size) (hs H - hs s.heap) Q (F0 m pc ls (.int (iI z) :: rest)) := by
  refine W_mono fun b6 => ?_
  have hP' : Hp G ω (kc' + 1) (ks' + N) H := hP.less h1 h2
  have b1 := hP'.2.2.1
  have b2 := hP'.2.2.2
  have b3 := hS0.1
  subst hz
  have hcl2 : (iI (N : Int)).toNatClampNeg = N := by rw [iI_nat]; exact nI_clamp (by omega)
  refine W.anew hx hb hown (hts _ hcl) (va_AO.use hover) rfl hdg rfl (by rw [iI_nat]; exact nI_pos (by omega)) (by rw [hcl2]; omega) (by show _ ≤ gNC G - s.heap.size; omega) (by rw [hcl2]; show _ ≤ gNS G - hs s.heap; omega) fun cA kA comp f1 f2 f3 f4 => ?_
  rw [hcl2]
  generalize hH1 : H.push ({ cls := cA, slots := Array.replicate N .null, vm := .none } : Cell) = H1
  have z1 : H1.size = H.size + 1 := by rw [← hH1, Array.size_push]
  have e1 : H1[H.size]? = some (arrV cA N (fun _ => .null)) := by rw [← hH1, Array.getElem?_push_size, ← arrV_new]
  have o1 : ∀ q : Nat, q < H.size → H1[q]? = H[q]? := fun q hq => by rw [← hH1, Array.getElem?_push, if_neg (Nat.ne_of_lt hq)]
  have hcA : cA = G.2.1 t := by
    have h3 := (hK.1.2 t _ (gtys_at G ht)).2
    rw [hC] at h3
    obtain ⟨_, _, -, -, -, h4⟩ := h3
    exact Option.some.inj (f1.symm.trans h4)
  subst hcA
  exact W_tight (kk H.size (om_up ω nn (H.size, _)) H1 om_s (fun k hk => om_n hk) (fun k x hx he => by have := hP.lt hx; omega) (hP'.new nn (show H1[H.size]? = some (vp_cell _ _) by rw [vp_cell_q]; exact e1) z1 o1 e1 (arrV_size _ _ _))
    ⟨Nat.le_trans hS0.1 (by omega), fun x h1 h2 => (o1 x (Nat.lt_of_lt_of_le h1 hS0.1)).trans (hS0.2.1 x h1 h2), hS0.2.2⟩)
variable {P : Option Value → Om → Nat → Nat → Prop} {R : Room}
theorem g_fin {a1 a2 : Nat} (hP : Hp G ω kc ks H) (hS : va_S (gA G) s.heap H locs) {g : JFrame} (k : W p l e R s m args below meth c H locs (gNC G - s.heap.size) (gNS G - hs s.heap) Q g) : W p l e R s m args below meth c H locs (H.size - s.heap.size) (hs H - hs s.heap) Q g :=
  W.widen (k := gNC G - s.heap.size) (n := gNS G - hs s.heap) (by have := hP.2.2.1; omega) (by have := hP.2.2.2; omega) k
theorem g_iret (hx : p.tables.exec = Jvm.exec) (hb : c.code = cc) {ty : FieldType} (hr : meth.sig.returnType = some ty) (hlk : meth.locks = false) (hP : Hp G ω kc ks H) (hS : va_S (gA G) s.heap H locs) {v : Int32} (hn : narrow ty (.int v) = .int v) (hdg : decode cc pc = .ok (.ireturn, 1)) (hq : P (some (.int v)) ω kc ks) :
    W p l e R s m args below meth c H locs (H.size - s.heap.size) (hs H - hs s.heap) (MQ below (CtQ G P) args s (gNC G - s.heap.size) (gNS G - hs s.heap) (gA G)) (F0 m pc ls [.int v]) :=
  g_fin (a1 := 0) (a2 := 0) hP hS (W.zret hx hb hr hn (fun t ht hW => ⟨⟨_, ω, kc, ks, rfl, hq, by rw [ht]; exact hP⟩, hS.F ht⟩) hS.2.2 hdg)
theorem g_vret (hx : p.tables.exec = Jvm.exec) (hb : c.code = cc) (hr : meth.sig.returnType = none) (hlk : meth.locks = false) (hP : Hp G ω kc ks H) (hS : va_S (gA G) s.heap H locs) (hdg : decode cc pc = .ok (.return_, 1)) (hq : P none ω kc ks) :
    W p l e R s m args below meth c H locs (H.size - s.heap.size) (hs H - hs s.heap) (MQ below (CtQ G P) args s (gNC G - s.heap.size) (gNS G - hs s.heap) (gA G)) (F0 m pc ls []) :=
  g_fin (a1 := 0) (a2 := 0) hP hS (W.vret hx hb hr (fun t ht hW => ⟨⟨_, ω, kc, ks, rfl, hq, by rw [ht]; exact hP⟩, hS.F ht⟩) hS.2.2 hdg)
theorem g_aret (hx : p.tables.exec = Jvm.exec) (hb : c.code = cc) {rt : FieldType} (hr : meth.sig.returnType = some rt) (hrt : (∃ n, rt = .object n) ∨ ∃ t, rt = .array t) (hlk : meth.locks = false) (hP : Hp G ω kc ks H) (hS : va_S (gA G) s.heap H locs) {v : Value} (hv : v = .null ∨ ∃ a, v = .ref a) (hdg : decode cc pc = .ok (.areturn, 1)) (hq : P (some v) ω kc ks) :
    W p l e R s m args below meth c H locs (H.size - s.heap.size) (hs H - hs s.heap) (MQ below (CtQ G P) args s (gNC G - s.heap.size) (gNS G - hs s.heap) (gA G)) (F0 m pc ls [v]) :=
  g_fin (a1 := 0) (a2 := 0) hP hS (W.aret hx hb hr hrt hv (fun t ht hW => ⟨⟨_, ω, kc, ks, rfl, hq, by rw [ht]; exact hP⟩, hS.F ht⟩) hS.2.2 hdg)
/-! ## calls -/
variable {nL maxL nA index fr lo : Nat} {own C : String} {y : MethodName} {bytes : ByteArray} {ret : Option FieldType} {b : Nat} {As : List Value}
theorem g_V (hx : p.tables.exec = Jvm.exec) (hb : c.code = cc) (hml : c.maxLocals = nL) (hown : s.vm.findClass own = some m.cls) (hts : ∀ w ∈ lw_all, w.before args s = true) (hK : Kt G s) (hZ : St G s s.heap) (hP : Hp G ω kc ks H) (hS : va_S (gA G) s.heap H locs)
    (ct : Ct l G y bytes maxL ret fr lo (.ref b :: As) ω kc ks P) (nA : Nat) (hg : GoodIn lw_all (wsV own index C y (ws_ y bytes maxL ret))) {nb : Nm} {ci : Nat} {fs : List Value} {T : u_T} {N : Nat} {ty : Nat → FieldType} (hrec : ω nb = some (b, .inr (ci, fs))) (hc : ClsOK ci C T N ty)
    (hd : y.cls = C ∧ y.cls ≠ "java/lang/invoke/MethodHandle" ∧ y.cls ≠ "java/lang/invoke/VarHandle" ∧ (parseMethodDescriptor y.desc).map (fun d => d.parameters.length) = some nA) (hR1 : fr + 1 ≤ fr0) (hR2 : 8 + (maxL + 11) + lo ≤ lo0) (hn : As.length = nA) (hsz : ls.size = nL) (hst : st = As.reverse ++ .ref b :: rest) (hW : (rest.map fun v => v.category).sum ≤ 8) (hdg : decode cc pc = .ok (.invokevirtual index, 3))
    (kk : ∀ (v : Option Value) (ω' : Om) (kc' ks' : Nat) (H1 : Heap) (locs1 : List Loc), P v ω' kc' ks' → Hp G ω' kc' ks' H1 → va_S (gA G) s.heap H1 locs1 → W p l e (gR G fr0 lo0 s.heap.size (hs s.heap)) s m args below meth c H1 locs1 (H1.size - s.heap.size) (hs H1 - hs s.heap) Q (F0 m (pc + 3) ls (v.toList ++ rest))) :
    W p l e (gR G fr0 lo0 s.heap.size (hs s.heap)) s m args below meth c H locs (H.size - s.heap.size) (hs H - hs s.heap) Q (F0 m pc ls st) := by
  refine W_mono fun b6 => ?_
  have b1 := hP.2.2.1
  have b2 := hP.2.2.2
  have b3 := hS.1
  have b4 : hs s.heap ≤ hs H ∨ hs H < hs s.heap := by omega
  refine ct_go (va_runV (C := C) (As := As) (rest := rest) (Pc := va_Pc (.ref b :: As) (CtP G H.size (hs H) ω kc ks)) ⟨hx, hb, hml, hown, hts⟩ (ct H.size (hs H)) (cwV nA hts hg rfl rfl rfl hd ⟨hR1, hR2⟩) ⟨ct_blind, va_recv hK.1 (hP.one hrec) hc.1 (q0 := 0) rfl, fun U hU hW => ⟨rfl, by rw [hU], by rw [hU], by rw [hU]; exact hP, hK.moved hW, by rw [hU]; exact St.moved hW.alike (hZ.kept hS.2.1)⟩⟩ rfl hn hsz hst (lv_room hW) hdg ⟨?_, ?_⟩) hS kk
  · show _ + (gNC G - H.size) ≤ gNC G - s.heap.size
    omega
  · show _ + (gNS G - hs H) ≤ gNS G - hs s.heap
    omega
theorem g_S (hx : p.tables.exec = Jvm.exec) (hb : c.code = cc) (hml : c.maxLocals = nL) (hown : s.vm.findClass own = some m.cls) (hts : ∀ w ∈ lw_all, w.before args s = true) (hK : Kt G s) (hZ : St G s s.heap) (hP : Hp G ω kc ks H) (hS : va_S (gA G) s.heap H locs)
    (ct : Ct l G y bytes maxL ret fr lo As ω kc ks P) (nA : Nat) (hg : GoodIn lw_all (va_wsS own index y (ws_ y bytes maxL ret)))
    (hd : y.cls ≠ "java/lang/invoke/MethodHandle" ∧ y.cls ≠ "java/lang/invoke/VarHandle" ∧ (parseMethodDescriptor y.desc).map (fun d => d.parameters.length) = some nA) (hR1 : fr + 1 ≤ fr0) (hR2 : 8 + (maxL + 11) + lo ≤ lo0) (hn : As.length = nA) (hsz : ls.size = nL) (hst : st = As.reverse ++ rest) (hW : (rest.map fun v => v.category).sum ≤ 8) (hdg : decode cc pc = .ok (.invokestatic index, 3))
    (kk : ∀ (v : Option Value) (ω' : Om) (kc' ks' : Nat) (H1 : Heap) (locs1 : List Loc), P v ω' kc' ks' → Hp G ω' kc' ks' H1 → va_S (gA G) s.heap H1 locs1 → W p l e (gR G fr0 lo0 s.heap.size (hs s.heap)) s m args below meth c H1 locs1 (H1.size - s.heap.size) (hs H1 - hs s.heap) Q (F0 m (pc + 3) ls (v.toList ++ rest))) :
    W p l e (gR G fr0 lo0 s.heap.size (hs s.heap)) s m args below meth c H locs (H.size - s.heap.size) (hs H - hs s.heap) Q (F0 m pc ls st) := by
  refine W_mono fun b6 => ?_
  have b1 := hP.2.2.1
  have b2 := hP.2.2.2
  have b3 := hS.1
  refine ct_go (va_runS (As := As) (rest := rest) (Pc := va_Pc As (CtP G H.size (hs H) ω kc ks)) ⟨hx, hb, hml, hown, hts⟩ (ct H.size (hs H)) (va_cwS nA hts hg rfl rfl rfl hd ⟨hR1, hR2⟩) ⟨ct_blind, fun U hU hW => ⟨rfl, by rw [hU], by rw [hU], by rw [hU]; exact hP, hK.moved hW, by rw [hU]; exact St.moved hW.alike (hZ.kept hS.2.1)⟩⟩ rfl hn hsz hst (lv_room hW) hdg ⟨?_, ?_⟩) hS kk
  · show _ + (gNC G - H.size) ≤ gNC G - s.heap.size
    omega
  · show _ + (gNS G - hs H) ≤ gNS G - hs s.heap
    omega
theorem g_I (hx : p.tables.exec = Jvm.exec) (hb : c.code = cc) (hml : c.maxLocals = nL) (hown : s.vm.findClass own = some m.cls) (hts : ∀ w ∈ lw_all, w.before args s = true) (hK : Kt G s) (hZ : St G s s.heap) (hP : Hp G ω kc ks H) (hS : va_S (gA G) s.heap H locs)
    (ct : Ct l G y bytes maxL none fr lo (.ref b :: As) ω kc ks P) (nA : Nat) (hgc : Cond.code y bytes maxL none ∈ lw_all) (hini : Cond.initialized y.cls ∈ lw_all) (hlink : Cond.methodLink own index y ∈ lw_all) (hinst : Cond.instanceMethod y ∈ lw_all) (hy1 : y.name = "<init>")
    (hd : y.cls ≠ "java/lang/invoke/MethodHandle" ∧ y.cls ≠ "java/lang/invoke/VarHandle" ∧ (parseMethodDescriptor y.desc).map (fun d => d.parameters.length) = some nA) (hR1 : fr + 1 ≤ fr0) (hR2 : 8 + (maxL + 11) + lo ≤ lo0) (hn : As.length = nA) (hsz : ls.size = nL) (hst : st = As.reverse ++ .ref b :: rest) (hW : (rest.map fun v => v.category).sum ≤ 8) (hdg : decode cc pc = .ok (.invokespecial index, 3))
    (kk : ∀ (v : Option Value) (ω' : Om) (kc' ks' : Nat) (H1 : Heap) (locs1 : List Loc), P v ω' kc' ks' → Hp G ω' kc' ks' H1 → va_S (gA G) s.heap H1 locs1 → W p l e (gR G fr0 lo0 s.heap.size (hs s.heap)) s m args below meth c H1 locs1 (H1.size - s.heap.size) (hs H1 - hs s.heap) Q (F0 m (pc + 3) ls (v.toList ++ rest))) :
    W p l e (gR G fr0 lo0 s.heap.size (hs s.heap)) s m args below meth c H locs (H.size - s.heap.size) (hs H - hs s.heap) Q (F0 m pc ls st) := by
  refine W_mono fun b6 => ?_
  have b1 := hP.2.2.1
  have b2 := hP.2.2.2
  have b3 := hS.1
  refine ct_go (va_runI (As := As) (rest := rest) (Pc := va_Pc (.ref b :: As) (CtP G H.size (hs H) ω kc ks)) ⟨hx, hb, hml, hown, hts⟩ (ct H.size (hs H)) (cwI nA hts (lw_meth hgc) rfl rfl rfl (hts _ hini) (hts _ hlink) (hts _ hinst) hy1 hd ⟨hR1, hR2⟩) ⟨ct_blind, fun U hU hW => ⟨rfl, by rw [hU], by rw [hU], by rw [hU]; exact hP, hK.moved hW, by rw [hU]; exact St.moved hW.alike (hZ.kept hS.2.1)⟩⟩ rfl hn hsz hst (lv_room hW) hdg ⟨?_, ?_⟩) hS kk
  · show _ + (gNC G - H.size) ≤ gNC G - s.heap.size
    omega
  · show _ + (gNS G - hs H) ≤ gNS G - hs s.heap
    omega
end GN
