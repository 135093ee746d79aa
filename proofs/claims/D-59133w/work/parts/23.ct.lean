/-! ## what a method's start knows of the tables and of the statics -/
def gfw : List (String × MethodName × MethodName) := [
  ("java/util/ArrayList", ⟨"java/util/List", "size", "()I"⟩, ⟨"java/util/ArrayList", "size", "()I"⟩),
  ("java/util/ArrayList", ⟨"java/util/List", "add", "(Ljava/lang/Object;)Z"⟩, ⟨"java/util/ArrayList", "add", "(Ljava/lang/Object;)Z"⟩),
  ("java/util/ArrayList", ⟨"java/util/List", "get", "(I)Ljava/lang/Object;"⟩, ⟨"java/util/ArrayList", "get", "(I)Ljava/lang/Object;"⟩),
  ("java/util/ArrayList", ⟨"java/util/List", "isEmpty", "()Z"⟩, ⟨"java/util/ArrayList", "isEmpty", "()Z"⟩),
  ("java/util/ArrayList", ⟨"java/util/List", "remove", "(I)Ljava/lang/Object;"⟩, ⟨"java/util/ArrayList", "remove", "(I)Ljava/lang/Object;"⟩),
  ("java/util/ArrayDeque", ⟨"java/util/Deque", "size", "()I"⟩, ⟨"java/util/ArrayDeque", "size", "()I"⟩),
  ("java/util/ArrayDeque", ⟨"java/util/Deque", "removeFirst", "()Ljava/lang/Object;"⟩, ⟨"java/util/ArrayDeque", "removeFirst", "()Ljava/lang/Object;"⟩),
  ("java/util/ArrayDeque", ⟨"java/util/Deque", "addLast", "(Ljava/lang/Object;)V"⟩, ⟨"java/util/ArrayDeque", "addLast", "(Ljava/lang/Object;)V"⟩),
  ("java/util/ArrayDeque", ⟨"java/util/Deque", "removeLast", "()Ljava/lang/Object;"⟩, ⟨"java/util/ArrayDeque", "removeLast", "()Ljava/lang/Object;"⟩),
  ("RuleLists$Members", ⟨"java/util/Iterator", "hasNext", "()Z"⟩, ⟨"RuleLists$Members", "hasNext", "()Z"⟩),
  ("RuleLists$Members", ⟨"java/util/Iterator", "next", "()Ljava/lang/Object;"⟩, ⟨"RuleLists$Members", "next", "()Ljava/lang/Object;"⟩)]
theorem gfw_ok : ∀ q ∈ gfw, q.2.1.cls ≠ "java/lang/invoke/MethodHandle" ∧ q.2.1.cls ≠ "java/lang/invoke/VarHandle" := by decide +kernel
theorem nw_moved {w : Cond} (hk : nwk w = true) {s U : State} (hW : s.WarmedH U.vm) (h : va_Nw w s) : va_Nw w U := by
  cases w <;> first | exact va_Nw.warmC hW h | exact va_Nw.warmF hW h | exact va_Nw.warmM hW h | exact va_Nw.warmD hW h | cases hk
def Kt (G : GT) (U : State) : Prop := va_K G.1 gcl (gtys G) U ∧ (∀ w ∈ gnw, va_Nw w U) ∧ (∀ q ∈ gfw, va_Fw q.1 q.2.1 q.2.2 U) ∧ va_AO "java/lang/Object" U ∧ va_AO "RuleLists$Shelf" U
theorem Kt.moved {G : GT} {s U : State} (hW : s.WarmedH U.vm) (h : Kt G s) : Kt G U :=
  ⟨va_K.moved hW.alike h.1, fun w hw => nw_moved (gnk w hw).2 hW (h.2.1 w hw), fun q hq => va_Fw.moved (gfw_ok q hq) hW.alike (h.2.2.1 q hq), h.2.2.2.1.moved hW.alike, h.2.2.2.2.moved hW.alike⟩
def St (G : GT) (U : State) (H : Heap) : Prop :=
  va_Z "java/util/ArrayList" "DEFAULTCAPACITY_EMPTY_ELEMENTDATA" "[Ljava/lang/Object;" (.ref (gE G)) (gA G) U H ∧ va_T (.object "java/lang/Object") (gE G) 0 (fun _ => .null) (gA G) U H ∧
  va_Z "java/lang/Integer$IntegerCache" "high" "I" (.int 127) (gA G) U H ∧ va_Z "java/lang/Integer$IntegerCache" "cache" "[Ljava/lang/Integer;" (.ref (gCA G)) (gA G) U H ∧
  va_T (.object "java/lang/Integer") (gCA G) 256 (fun k => .ref (gCo G k)) (gA G) U H ∧ vb_C (gCo G) (gA G) U H ∧
  vx_Zq Bundle.tN "UNASSIGNED_STACK" Bundle.steD (gA G) U H ∧ vx_Zq Bundle.tN "SUPPRESSED_SENTINEL" Bundle.listD (gA G) U H
theorem St.moved {G : GT} {u U : State} {H : Heap} (hvm : u.vm.Alike U.vm) (h : St G u H) : St G U H :=
  ⟨va_Z.moved hvm h.1, va_T.moved hvm h.2.1, va_Z.moved hvm h.2.2.1, va_Z.moved hvm h.2.2.2.1, va_T.moved hvm h.2.2.2.2.1, vb_C.moved hvm h.2.2.2.2.2.1, vx_Zq.moved hvm h.2.2.2.2.2.2.1, vx_Zq.moved hvm h.2.2.2.2.2.2.2⟩
theorem St.kept {G : GT} {U : State} {H H1 : Heap} (h : St G U H) (hq : ∀ a : Nat, a < H.size → ¬ gA G a → H1[a]? = H[a]?) : St G U H1 :=
  ⟨h.1.kept hq, h.2.1.kept hq, h.2.2.1.kept hq, h.2.2.2.1.kept hq, h.2.2.2.2.1.kept hq, h.2.2.2.2.2.1.kept hq, h.2.2.2.2.2.2.1.kept hq, h.2.2.2.2.2.2.2.kept hq⟩
/-! ## a contract: from the cells ω with kc cells and ks slots to spare, the method answers v and leaves ω' with kc', ks' to spare, and P says how -/
def gR (G : GT) (fr lo sz zs : Nat) : Room := { frames := fr, cells := gNC G - sz, slots := gNS G - zs, locals := lo }
def CtQ (G : GT) (P : Option Value → Om → Nat → Nat → Prop) : Array Value → State → Outcome → State → Prop := fun _ st oc t =>
  (∃ (v : Option Value) (ω' : Om) (kc' ks' : Nat), oc = .returned v ∧ P v ω' kc' ks' ∧ Hp G ω' kc' ks' t.heap) ∧ va_F (gA G) st t
def CtP (G : GT) (sz zs : Nat) (ω : Om) (kc ks : Nat) : State → Prop := fun U => U.heap.size = sz ∧ hs U.heap = zs ∧ Hp G ω kc ks U.heap ∧ Kt G U ∧ St G U U.heap
def Ct (l : Launch) (G : GT) (y : MethodName) (cc : ByteArray) (n : Nat) (ret : Option FieldType) (fr lo : Nat) (av : List Value) (ω : Om) (kc ks : Nat) (P : Option Value → Om → Nat → Nat → Prop) : Prop :=
  ∀ sz zs : Nat, Met l y (ws_ y cc n ret) (gR G fr lo sz zs) (va_Pc av (CtP G sz zs ω kc ks)) (CtQ G P) (gNC G - sz) (gNS G - zs) (gA G)
theorem ct_blind {G : GT} {sz zs : Nat} {ω : Om} {kc ks : Nat} {av : List Value} : FrameBlind (va_Pc av (CtP G sz zs ω kc ks)) := by
  intro a U g mk h
  obtain ⟨h0, h1, h2, h3, h4, h5⟩ := h
  exact ⟨h0, h1, h2, h3, Kt.moved (s := U) (U := U.calling g mk a) (State.WarmedH.refl U) h4, St.moved (u := U) (U := U.calling g mk a) (Vm.Alike.refl U.vm) h5⟩
section G1
variable {p : Program} {l : Launch} {e : Env} {R : Room} {s : State} {m : MethodId} {args : Array Value} {below : List Frame} {meth : Method} {c : Code} {H : Heap} {locs : List Loc} {cells slots : Nat} {Q : State → Prop}
/-- the count is what the heap says -/
theorem W_tight {g : JFrame} (k : W p l e R s m args below meth c H locs (H.size - s.heap.size) (hs H - hs s.heap) Q g) : W p l e R s m args below meth c H locs cells slots Q g := by
  intro T hT X
  refine k T hT { X with same := ?_ }
  obtain ⟨e1, z1, z2, u1, u2, o⟩ := X.same
  have hT2 : (T.setVm s.vm).heap = H := hT
  have hd := hs_drop (H0 := s.heap) (H := H) (by rw [← hT2]; exact z1) (fun q c hc => by
    obtain ⟨c', g1, -, g3, -⟩ := o q c hc
    exact ⟨c', by rw [← hT2]; exact g1, g3⟩)
  refine ⟨e1, z1, by rw [hT2] at z1 ⊢; omega, u1, ?_, o⟩
  rw [hT2]
  have : ((H.toList.drop s.heap.size).map (fun c => c.slots.size)).sum = hs H - hs s.heap := by omega
  exact Nat.le_of_eq this
/-- slots only grow -/
theorem W_mono {g : JFrame} (k : hs s.heap ≤ hs H → W p l e R s m args below meth c H locs cells slots Q g) : W p l e R s m args below meth c H locs cells slots Q g := by
  intro T hT X
  refine k ?_ T hT X
  obtain ⟨e1, z1, z2, u1, u2, o⟩ := X.same
  have hT2 : (T.setVm s.vm).heap = H := hT
  have hd := hs_drop (H0 := s.heap) (H := H) (by rw [← hT2]; exact z1) (fun q c hc => by
    obtain ⟨c', g1, -, g3, -⟩ := o q c hc
    exact ⟨c', by rw [← hT2]; exact g1, g3⟩)
  omega
variable {pc : Nat} {ls : Array Slot} {rest st0 : List Value} {a : Array Value} {mc ms : Nat} {G : GT} {P : Option Value → Om → Nat → Nat → Prop}
theorem ct_go (hr : va_Run p l e R s m args below meth c H locs cells slots mc ms (F0 m pc ls st0) rest (CtQ G P a) (gA G)) (hS : va_S (gA G) s.heap H locs)
    (kk : ∀ (v : Option Value) (ω' : Om) (kc' ks' : Nat) (H1 : Heap) (locs1 : List Loc), P v ω' kc' ks' → Hp G ω' kc' ks' H1 → va_S (gA G) s.heap H1 locs1 → W p l e R s m args below meth c H1 locs1 (H1.size - s.heap.size) (hs H1 - hs s.heap) Q (F0 m (pc + 3) ls (v.toList ++ rest))) : W p l e R s m args below meth c H locs cells slots Q (F0 m pc ls st0) := by
  intro T hT X
  obtain ⟨v, st₀, t, T', L, h0, X', hL, e1, e2, ⟨⟨v', ω', kc', ks', hv, hp, hh⟩, hz, hk⟩, st⟩ := hr T hT X
  cases hv
  rw [h0] at hz hk
  obtain ⟨t2, a1, b1⟩ := W_tight (kk v ω' kc' ks' T'.heap (locs ++ L) hp (by rw [e1]; exact hh)
    ⟨Nat.le_trans hS.1 (by rw [e1]; exact hz), fun q h1 h2 => by rw [e1, hk q (Nat.lt_of_lt_of_le h1 hS.1) h2]; exact hS.2.1 q h1 h2, fun q hq => by
      rcases List.mem_append.mp hq with h | h
      · exact hS.2.2 q h
      · exact hL q h⟩) T' rfl X'
  exact ⟨t2, st t2 a1, b1⟩
end G1
section G2
variable {l : Launch} {G : GT} {y : MethodName} {cc : ByteArray} {n : Nat} {ret : Option FieldType} {fr lo : Nat} {av : List Value} {ω : Om} {kc ks : Nat} {P : Option Value → Om → Nat → Nat → Prop}
theorem Ct.start (hy : plainName y.cls = true) (hlen : (lg_sl av).length ≤ n)
    (body : ∀ (p : Program) (e : Env) (s : State) (m : MethodId) (below : List Frame) (meth : Method) (c : Code) (H : Heap) (locs : List Loc) (ls : Array Slot), p.tables.exec = Jvm.exec → c.code = cc → meth.sig.returnType = ret → meth.locks = false → c.maxLocals = n → s.vm.findClass y.cls = some m.cls → meth.name = y.name → (∀ w ∈ lw_all, w.before av.toArray s = true) → Kt G s → St G s s.heap → Hp G ω kc ks H → va_S (gA G) s.heap H locs → lv_has ls n (lv_args 0 av) →
      W p l e (gR G fr lo s.heap.size (hs s.heap)) s m av.toArray below meth c H locs (H.size - s.heap.size) (hs H - hs s.heap) (MQ below (CtQ G P) av.toArray s (gNC G - s.heap.size) (gNS G - hs s.heap) (gA G)) (F0 m 0 ls [])) : Ct l G y cc n ret fr lo av ω kc ks P := by
  intro sz zs
  refine Met.ofW (cc := cc) (maxL := n) (ret := ret) hy rfl ?_
  intro p e s m args below meth c s₁ B hml hv
  obtain ⟨rfl, rfl, rfl, hP, hK, hZ⟩ := hv
  have hts := atoms_spec (ws := ws_ y cc n ret) B.pre
  rw [lg_entry_eq]
  have h := body p e s m below meth c s.heap [] _ B.exec B.bytes B.returns B.notSynchronized hml (findClass_of_methodNamed B.named) (name_of_methodNamed B.named B.method).1 (fun w h => hts w (List.mem_cons_of_mem _ h)) hK hZ hP va_S.rf (lv_entry av hlen)
  rw [Nat.sub_self, Nat.sub_self] at h
  exact h
end G2
