/-! the words that no list carries: castable, nest mates' links, declares -/
def nwk : Cond → Bool
  | .castable _ _ => true
  | .fieldLinkNest _ _ _ _ _ _ => true
  | .methodLinkNest _ _ _ _ => true
  | .declares _ => true
  | _ => false
def gnw_0 : List Cond := [(Jvm.Cond.fieldLinkNest "RuleLists" (207 : Nat) "RuleLists$Shelf" "rules" "Ljava/util/List;" "RuleLists"), (Jvm.Cond.fieldLinkNest "RuleLists" (238 : Nat) "RuleLists$Shelf" "readers" "Ljava/util/List;" "RuleLists"), (Jvm.Cond.fieldLinkNest "RuleLists" (249 : Nat) "RuleLists$Shelf" "readings" "I" "RuleLists"), (Jvm.Cond.fieldLinkNest "RuleLists" (101 : Nat) "RuleLists$Parser" "shelf" "LRuleLists$Shelf;" "RuleLists"), (Jvm.Cond.fieldLinkNest "RuleLists" (105 : Nat) "RuleLists$Parser" "skipped" "I" "RuleLists"), (Jvm.Cond.methodLinkNest "RuleLists$Parser" (37 : Nat) ({ cls := "RuleLists", name := "inRange", desc := "(III)Z" } : Jvm.MethodName) "RuleLists"), (Jvm.Cond.declares ({ cls := "java/util/List", name := "size", desc := "()I" } : Jvm.MethodName)), (Jvm.Cond.castable "java/util/ArrayList" "java/util/List"), (Jvm.Cond.methodLinkNest "RuleLists$Steps" (3 : Nat) ({ cls := "RuleLists$Rule", name := "<init>", desc := "()V" } : Jvm.MethodName) "RuleLists"), (Jvm.Cond.declares ({ cls := "java/util/List", name := "add", desc := "(Ljava/lang/Object;)Z" } : Jvm.MethodName)), (Jvm.Cond.methodLinkNest "RuleLists$Shelf" (46 : Nat) ({ cls := "RuleLists", name := "inRange", desc := "(III)Z" } : Jvm.MethodName) "RuleLists"), (Jvm.Cond.declares ({ cls := "java/util/List", name := "get", desc := "(I)Ljava/lang/Object;" } : Jvm.MethodName)), (Jvm.Cond.methodLinkNest "RuleLists$One" (1 : Nat) ({ cls := "RuleLists$Rule", name := "<init>", desc := "()V" } : Jvm.MethodName) "RuleLists"), (Jvm.Cond.methodLinkNest "RuleLists$Two" (1 : Nat) ({ cls := "RuleLists$Rule", name := "<init>", desc := "()V" } : Jvm.MethodName) "RuleLists"), (Jvm.Cond.fieldLinkNest "RuleLists$Shelf" (58 : Nat) "RuleLists$Reader" "list" "I" "RuleLists"), (Jvm.Cond.fieldLinkNest "RuleLists" (241 : Nat) "RuleLists$Reader" "list" "I" "RuleLists"), (Jvm.Cond.fieldLinkNest "RuleLists$Shelf" (103 : Nat) "RuleLists$Reader" "soFar" "I" "RuleLists"), (Jvm.Cond.fieldLinkNest "RuleLists" (246 : Nat) "RuleLists$Reader" "soFar" "I" "RuleLists"), (Jvm.Cond.declares ({ cls := "java/util/List", name := "isEmpty", desc := "()Z" } : Jvm.MethodName)), (Jvm.Cond.declares ({ cls := "java/util/List", name := "remove", desc := "(I)Ljava/lang/Object;" } : Jvm.MethodName)), (Jvm.Cond.declares ({ cls := "RuleLists$Rule", name := "more", desc := "()I" } : Jvm.MethodName)), (Jvm.Cond.declares ({ cls := "RuleLists$One", name := "use", desc := "()I" } : Jvm.MethodName)), (Jvm.Cond.declares ({ cls := "RuleLists$Two", name := "nextOne", desc := "()I" } : Jvm.MethodName)), (Jvm.Cond.declares ({ cls := "RuleLists$Two", name := "nextOther", desc := "()I" } : Jvm.MethodName)), (Jvm.Cond.declares ({ cls := "RuleLists$Two", name := "pass", desc := "(ZZ)V" } : Jvm.MethodName)), (Jvm.Cond.declares ({ cls := "RuleLists$Rule", name := "isDivided", desc := "(I)Z" } : Jvm.MethodName)), (Jvm.Cond.declares ({ cls := "RuleLists$Rule", name := "latest", desc := "()I" } : Jvm.MethodName)), (Jvm.Cond.castable "java/lang/IllegalArgumentException" "java/lang/IllegalArgumentException"), (Jvm.Cond.declares ({ cls := "java/lang/RuntimeException", name := "<init>", desc := "()V" } : Jvm.MethodName)), (Jvm.Cond.declares ({ cls := "java/lang/RuntimeException", name := "<init>", desc := "(Ljava/lang/String;)V" } : Jvm.MethodName))]
theorem gnk_0 : ∀ w ∈ gnw_0, w ∈ lw_tbl ∧ nwk w = true := by
  intro w h
  unfold gnw_0 at h
  simp only [List.mem_cons, List.not_mem_nil, or_false] at h
  rcases h with rfl | rfl | rfl | rfl | rfl | rfl | rfl | rfl | rfl | rfl | rfl | rfl | rfl | rfl | rfl | rfl | rfl | rfl | rfl | rfl | rfl | rfl | rfl | rfl | rfl | rfl | rfl | rfl | rfl | rfl
  · exact ⟨q132, rfl⟩
  · exact ⟨q134, rfl⟩
  · exact ⟨q136, rfl⟩
  · exact ⟨q199, rfl⟩
  · exact ⟨q203, rfl⟩
  · exact ⟨q244, rfl⟩
  · exact ⟨q258, rfl⟩
  · exact ⟨q259, rfl⟩
  · exact ⟨q274, rfl⟩
  · exact ⟨q305, rfl⟩
  · exact ⟨q386, rfl⟩
  · exact ⟨q396, rfl⟩
  · exact ⟨q419, rfl⟩
  · exact ⟨q457, rfl⟩
  · exact ⟨q581, rfl⟩
  · exact ⟨q582, rfl⟩
  · exact ⟨q584, rfl⟩
  · exact ⟨q585, rfl⟩
  · exact ⟨q598, rfl⟩
  · exact ⟨q615, rfl⟩
  · exact ⟨q661, rfl⟩
  · exact ⟨q668, rfl⟩
  · exact ⟨q678, rfl⟩
  · exact ⟨q685, rfl⟩
  · exact ⟨q692, rfl⟩
  · exact ⟨q722, rfl⟩
  · exact ⟨q731, rfl⟩
  · exact ⟨q817, rfl⟩
  · exact ⟨q818, rfl⟩
  · exact ⟨q819, rfl⟩
def gnw_1 : List Cond := [(Jvm.Cond.declares ({ cls := "java/lang/Exception", name := "<init>", desc := "()V" } : Jvm.MethodName)), (Jvm.Cond.declares ({ cls := "java/lang/Exception", name := "<init>", desc := "(Ljava/lang/String;)V" } : Jvm.MethodName)), (Jvm.Cond.declares ({ cls := "java/lang/Throwable", name := "<init>", desc := "()V" } : Jvm.MethodName)), (Jvm.Cond.declares ({ cls := "java/lang/Throwable", name := "<init>", desc := "(Ljava/lang/String;)V" } : Jvm.MethodName)), (Jvm.Cond.castable "java/lang/IllegalStateException" "java/lang/IllegalStateException"), (Jvm.Cond.declares ({ cls := "java/util/Collection", name := "clear", desc := "()V" } : Jvm.MethodName)), (Jvm.Cond.castable "java/util/ArrayDeque" "java/util/Deque"), (Jvm.Cond.declares ({ cls := "java/util/Deque", name := "size", desc := "()I" } : Jvm.MethodName)), (Jvm.Cond.declares ({ cls := "java/util/Deque", name := "removeFirst", desc := "()Ljava/lang/Object;" } : Jvm.MethodName)), (Jvm.Cond.declares ({ cls := "java/util/Deque", name := "addLast", desc := "(Ljava/lang/Object;)V" } : Jvm.MethodName)), (Jvm.Cond.castable "java/lang/ArrayIndexOutOfBoundsException" "java/lang/ArrayIndexOutOfBoundsException"), (Jvm.Cond.declares ({ cls := "java/lang/IndexOutOfBoundsException", name := "<init>", desc := "()V" } : Jvm.MethodName)), (Jvm.Cond.declares ({ cls := "java/lang/IndexOutOfBoundsException", name := "<init>", desc := "(Ljava/lang/String;)V" } : Jvm.MethodName)), (Jvm.Cond.castable "java/lang/IndexOutOfBoundsException" "java/lang/IndexOutOfBoundsException"), (Jvm.Cond.declares ({ cls := "java/util/Collection", name := "isEmpty", desc := "()Z" } : Jvm.MethodName)), (Jvm.Cond.declares ({ cls := "java/util/Deque", name := "removeLast", desc := "()Ljava/lang/Object;" } : Jvm.MethodName)), (Jvm.Cond.declares ({ cls := "RuleLists$Rule", name := "test", desc := "(I)Z" } : Jvm.MethodName)), (Jvm.Cond.declares ({ cls := "java/util/Iterator", name := "hasNext", desc := "()Z" } : Jvm.MethodName)), (Jvm.Cond.castable "RuleLists$Members" "java/util/Iterator"), (Jvm.Cond.declares ({ cls := "java/util/Iterator", name := "next", desc := "()Ljava/lang/Object;" } : Jvm.MethodName)), (Jvm.Cond.castable "java/lang/ArrayIndexOutOfBoundsException" "java/lang/IndexOutOfBoundsException"), (Jvm.Cond.castable "RuleLists$AddedUp" "RuleLists$Rule"), (Jvm.Cond.castable "RuleLists$Joined" "RuleLists$Rule"), (Jvm.Cond.castable "RuleLists$Scaled" "RuleLists$Rule"), (Jvm.Cond.castable "RuleLists$Shared" "RuleLists$Rule"), (Jvm.Cond.castable "RuleLists$Sieved" "RuleLists$Rule"), (Jvm.Cond.castable "RuleLists$Steps" "RuleLists$Rule"), (Jvm.Cond.castable "RuleLists$Thinned" "RuleLists$Rule"), (Jvm.Cond.castable "RuleLists$Without" "RuleLists$Rule"), (Jvm.Cond.castable "RuleLists$Shelf" "java/lang/Object")]
theorem gnk_1 : ∀ w ∈ gnw_1, w ∈ lw_tbl ∧ nwk w = true := by
  intro w h
  unfold gnw_1 at h
  simp only [List.mem_cons, List.not_mem_nil, or_false] at h
  rcases h with rfl | rfl | rfl | rfl | rfl | rfl | rfl | rfl | rfl | rfl | rfl | rfl | rfl | rfl | rfl | rfl | rfl | rfl | rfl | rfl | rfl | rfl | rfl | rfl | rfl | rfl | rfl | rfl | rfl | rfl
  · exact ⟨q820, rfl⟩
  · exact ⟨q821, rfl⟩
  · exact ⟨q822, rfl⟩
  · exact ⟨q823, rfl⟩
  · exact ⟨q885, rfl⟩
  · exact ⟨q907, rfl⟩
  · exact ⟨q908, rfl⟩
  · exact ⟨q944, rfl⟩
  · exact ⟨q956, rfl⟩
  · exact ⟨q975, rfl⟩
  · exact ⟨q1034, rfl⟩
  · exact ⟨q1035, rfl⟩
  · exact ⟨q1036, rfl⟩
  · exact ⟨q1057, rfl⟩
  · exact ⟨q1198, rfl⟩
  · exact ⟨q1207, rfl⟩
  · exact ⟨q1240, rfl⟩
  · exact ⟨q1351, rfl⟩
  · exact ⟨q1352, rfl⟩
  · exact ⟨q1362, rfl⟩
  · exact ⟨q1912, rfl⟩
  · exact ⟨q1913, rfl⟩
  · exact ⟨q1914, rfl⟩
  · exact ⟨q1915, rfl⟩
  · exact ⟨q1916, rfl⟩
  · exact ⟨q1917, rfl⟩
  · exact ⟨q1918, rfl⟩
  · exact ⟨q1919, rfl⟩
  · exact ⟨q1920, rfl⟩
  · exact ⟨q1921, rfl⟩
def gnw_2 : List Cond := [(Jvm.Cond.castable "RuleLists" "java/lang/Object"), (Jvm.Cond.castable "java/util/ArrayList" "java/lang/Object"), (Jvm.Cond.castable "java/util/ArrayDeque" "java/lang/Object"), (Jvm.Cond.castable "RuleListsModel" "java/lang/Object"), (Jvm.Cond.castable "java/lang/IllegalArgumentException" "java/lang/Object"), (Jvm.Cond.castable "java/lang/IllegalStateException" "java/lang/Object"), (Jvm.Cond.castable "RuleLists$Parser" "java/lang/Object"), (Jvm.Cond.castable "RuleLists$Steps" "java/lang/Object"), (Jvm.Cond.castable "RuleLists$Scaled" "java/lang/Object"), (Jvm.Cond.castable "RuleLists$Joined" "java/lang/Object"), (Jvm.Cond.castable "RuleLists$Shared" "java/lang/Object"), (Jvm.Cond.castable "RuleLists$Without" "java/lang/Object"), (Jvm.Cond.castable "RuleLists$Sieved" "java/lang/Object"), (Jvm.Cond.castable "RuleLists$Thinned" "java/lang/Object"), (Jvm.Cond.castable "RuleLists$AddedUp" "java/lang/Object"), (Jvm.Cond.castable "RuleLists$Reader" "java/lang/Object"), (Jvm.Cond.castable "java/lang/ArrayIndexOutOfBoundsException" "java/lang/Object"), (Jvm.Cond.castable "java/lang/IndexOutOfBoundsException" "java/lang/Object"), (Jvm.Cond.castable "RuleLists$Members" "java/lang/Object"), (Jvm.Cond.castable "java/lang/Integer" "java/lang/Object"), (Jvm.Cond.castable "java/lang/Throwable" "java/lang/Object"), (Jvm.Cond.castable "java/lang/String" "java/lang/Object"), (Jvm.Cond.declares ({ cls := "java/lang/Object", name := "getClass", desc := "()Ljava/lang/Class;" } : Jvm.MethodName)), (Jvm.Cond.castable "[Ljava/lang/Object;" "java/lang/Object"), (Jvm.Cond.castable "[LRuleLists$Shelf;" "java/lang/Object"), (Jvm.Cond.castable "[C" "java/lang/Object"), (Jvm.Cond.castable "[I" "java/lang/Object"), (Jvm.Cond.castable "[B" "java/lang/Object"), (Jvm.Cond.castable "[Z" "java/lang/Object"), (Jvm.Cond.castable "[J" "java/lang/Object")]
theorem gnk_2 : ∀ w ∈ gnw_2, w ∈ lw_tbl ∧ nwk w = true := by
  intro w h
  unfold gnw_2 at h
  simp only [List.mem_cons, List.not_mem_nil, or_false] at h
  rcases h with rfl | rfl | rfl | rfl | rfl | rfl | rfl | rfl | rfl | rfl | rfl | rfl | rfl | rfl | rfl | rfl | rfl | rfl | rfl | rfl | rfl | rfl | rfl | rfl | rfl | rfl | rfl | rfl | rfl | rfl
  · exact ⟨q1922, rfl⟩
  · exact ⟨q1923, rfl⟩
  · exact ⟨q1924, rfl⟩
  · exact ⟨q1925, rfl⟩
  · exact ⟨q1926, rfl⟩
  · exact ⟨q1927, rfl⟩
  · exact ⟨q1928, rfl⟩
  · exact ⟨q1929, rfl⟩
  · exact ⟨q1930, rfl⟩
  · exact ⟨q1931, rfl⟩
  · exact ⟨q1932, rfl⟩
  · exact ⟨q1933, rfl⟩
  · exact ⟨q1934, rfl⟩
  · exact ⟨q1935, rfl⟩
  · exact ⟨q1936, rfl⟩
  · exact ⟨q1937, rfl⟩
  · exact ⟨q1938, rfl⟩
  · exact ⟨q1939, rfl⟩
  · exact ⟨q1940, rfl⟩
  · exact ⟨q1941, rfl⟩
  · exact ⟨q1942, rfl⟩
  · exact ⟨q1943, rfl⟩
  · exact ⟨q1946, rfl⟩
  · exact ⟨q1947, rfl⟩
  · exact ⟨q1948, rfl⟩
  · exact ⟨q1949, rfl⟩
  · exact ⟨q1950, rfl⟩
  · exact ⟨q1951, rfl⟩
  · exact ⟨q1952, rfl⟩
  · exact ⟨q1953, rfl⟩
def gnw : List Cond := gnw_0 ++ (gnw_1 ++ (gnw_2))
theorem gnk : ∀ w ∈ gnw, w ∈ lw_tbl ∧ nwk w = true := List.forall_mem_append.mpr ⟨gnk_0, List.forall_mem_append.mpr ⟨gnk_1, gnk_2⟩⟩
theorem nw132 : (Jvm.Cond.fieldLinkNest "RuleLists" (207 : Nat) "RuleLists$Shelf" "rules" "Ljava/util/List;" "RuleLists") ∈ gnw := List.mem_append_left _ (List.mem_of_getElem? (i := 0) rfl)
theorem nw134 : (Jvm.Cond.fieldLinkNest "RuleLists" (238 : Nat) "RuleLists$Shelf" "readers" "Ljava/util/List;" "RuleLists") ∈ gnw := List.mem_append_left _ (List.mem_of_getElem? (i := 1) rfl)
theorem nw136 : (Jvm.Cond.fieldLinkNest "RuleLists" (249 : Nat) "RuleLists$Shelf" "readings" "I" "RuleLists") ∈ gnw := List.mem_append_left _ (List.mem_of_getElem? (i := 2) rfl)
theorem nw199 : (Jvm.Cond.fieldLinkNest "RuleLists" (101 : Nat) "RuleLists$Parser" "shelf" "LRuleLists$Shelf;" "RuleLists") ∈ gnw := List.mem_append_left _ (List.mem_of_getElem? (i := 3) rfl)
theorem nw203 : (Jvm.Cond.fieldLinkNest "RuleLists" (105 : Nat) "RuleLists$Parser" "skipped" "I" "RuleLists") ∈ gnw := List.mem_append_left _ (List.mem_of_getElem? (i := 4) rfl)
theorem nw244 : (Jvm.Cond.methodLinkNest "RuleLists$Parser" (37 : Nat) ({ cls := "RuleLists", name := "inRange", desc := "(III)Z" } : Jvm.MethodName) "RuleLists") ∈ gnw := List.mem_append_left _ (List.mem_of_getElem? (i := 5) rfl)
theorem nw258 : (Jvm.Cond.declares ({ cls := "java/util/List", name := "size", desc := "()I" } : Jvm.MethodName)) ∈ gnw := List.mem_append_left _ (List.mem_of_getElem? (i := 6) rfl)
theorem nw259 : (Jvm.Cond.castable "java/util/ArrayList" "java/util/List") ∈ gnw := List.mem_append_left _ (List.mem_of_getElem? (i := 7) rfl)
theorem nw274 : (Jvm.Cond.methodLinkNest "RuleLists$Steps" (3 : Nat) ({ cls := "RuleLists$Rule", name := "<init>", desc := "()V" } : Jvm.MethodName) "RuleLists") ∈ gnw := List.mem_append_left _ (List.mem_of_getElem? (i := 8) rfl)
theorem nw305 : (Jvm.Cond.declares ({ cls := "java/util/List", name := "add", desc := "(Ljava/lang/Object;)Z" } : Jvm.MethodName)) ∈ gnw := List.mem_append_left _ (List.mem_of_getElem? (i := 9) rfl)
theorem nw386 : (Jvm.Cond.methodLinkNest "RuleLists$Shelf" (46 : Nat) ({ cls := "RuleLists", name := "inRange", desc := "(III)Z" } : Jvm.MethodName) "RuleLists") ∈ gnw := List.mem_append_left _ (List.mem_of_getElem? (i := 10) rfl)
theorem nw396 : (Jvm.Cond.declares ({ cls := "java/util/List", name := "get", desc := "(I)Ljava/lang/Object;" } : Jvm.MethodName)) ∈ gnw := List.mem_append_left _ (List.mem_of_getElem? (i := 11) rfl)
theorem nw419 : (Jvm.Cond.methodLinkNest "RuleLists$One" (1 : Nat) ({ cls := "RuleLists$Rule", name := "<init>", desc := "()V" } : Jvm.MethodName) "RuleLists") ∈ gnw := List.mem_append_left _ (List.mem_of_getElem? (i := 12) rfl)
theorem nw457 : (Jvm.Cond.methodLinkNest "RuleLists$Two" (1 : Nat) ({ cls := "RuleLists$Rule", name := "<init>", desc := "()V" } : Jvm.MethodName) "RuleLists") ∈ gnw := List.mem_append_left _ (List.mem_of_getElem? (i := 13) rfl)
theorem nw581 : (Jvm.Cond.fieldLinkNest "RuleLists$Shelf" (58 : Nat) "RuleLists$Reader" "list" "I" "RuleLists") ∈ gnw := List.mem_append_left _ (List.mem_of_getElem? (i := 14) rfl)
theorem nw582 : (Jvm.Cond.fieldLinkNest "RuleLists" (241 : Nat) "RuleLists$Reader" "list" "I" "RuleLists") ∈ gnw := List.mem_append_left _ (List.mem_of_getElem? (i := 15) rfl)
theorem nw584 : (Jvm.Cond.fieldLinkNest "RuleLists$Shelf" (103 : Nat) "RuleLists$Reader" "soFar" "I" "RuleLists") ∈ gnw := List.mem_append_left _ (List.mem_of_getElem? (i := 16) rfl)
theorem nw585 : (Jvm.Cond.fieldLinkNest "RuleLists" (246 : Nat) "RuleLists$Reader" "soFar" "I" "RuleLists") ∈ gnw := List.mem_append_left _ (List.mem_of_getElem? (i := 17) rfl)
theorem nw598 : (Jvm.Cond.declares ({ cls := "java/util/List", name := "isEmpty", desc := "()Z" } : Jvm.MethodName)) ∈ gnw := List.mem_append_left _ (List.mem_of_getElem? (i := 18) rfl)
theorem nw615 : (Jvm.Cond.declares ({ cls := "java/util/List", name := "remove", desc := "(I)Ljava/lang/Object;" } : Jvm.MethodName)) ∈ gnw := List.mem_append_left _ (List.mem_of_getElem? (i := 19) rfl)
theorem nw661 : (Jvm.Cond.declares ({ cls := "RuleLists$Rule", name := "more", desc := "()I" } : Jvm.MethodName)) ∈ gnw := List.mem_append_left _ (List.mem_of_getElem? (i := 20) rfl)
theorem nw668 : (Jvm.Cond.declares ({ cls := "RuleLists$One", name := "use", desc := "()I" } : Jvm.MethodName)) ∈ gnw := List.mem_append_left _ (List.mem_of_getElem? (i := 21) rfl)
theorem nw678 : (Jvm.Cond.declares ({ cls := "RuleLists$Two", name := "nextOne", desc := "()I" } : Jvm.MethodName)) ∈ gnw := List.mem_append_left _ (List.mem_of_getElem? (i := 22) rfl)
theorem nw685 : (Jvm.Cond.declares ({ cls := "RuleLists$Two", name := "nextOther", desc := "()I" } : Jvm.MethodName)) ∈ gnw := List.mem_append_left _ (List.mem_of_getElem? (i := 23) rfl)
theorem nw692 : (Jvm.Cond.declares ({ cls := "RuleLists$Two", name := "pass", desc := "(ZZ)V" } : Jvm.MethodName)) ∈ gnw := List.mem_append_left _ (List.mem_of_getElem? (i := 24) rfl)
theorem nw722 : (Jvm.Cond.declares ({ cls := "RuleLists$Rule", name := "isDivided", desc := "(I)Z" } : Jvm.MethodName)) ∈ gnw := List.mem_append_left _ (List.mem_of_getElem? (i := 25) rfl)
theorem nw731 : (Jvm.Cond.declares ({ cls := "RuleLists$Rule", name := "latest", desc := "()I" } : Jvm.MethodName)) ∈ gnw := List.mem_append_left _ (List.mem_of_getElem? (i := 26) rfl)
theorem nw817 : (Jvm.Cond.castable "java/lang/IllegalArgumentException" "java/lang/IllegalArgumentException") ∈ gnw := List.mem_append_left _ (List.mem_of_getElem? (i := 27) rfl)
theorem nw818 : (Jvm.Cond.declares ({ cls := "java/lang/RuntimeException", name := "<init>", desc := "()V" } : Jvm.MethodName)) ∈ gnw := List.mem_append_left _ (List.mem_of_getElem? (i := 28) rfl)
theorem nw819 : (Jvm.Cond.declares ({ cls := "java/lang/RuntimeException", name := "<init>", desc := "(Ljava/lang/String;)V" } : Jvm.MethodName)) ∈ gnw := List.mem_append_left _ (List.mem_of_getElem? (i := 29) rfl)
theorem nw820 : (Jvm.Cond.declares ({ cls := "java/lang/Exception", name := "<init>", desc := "()V" } : Jvm.MethodName)) ∈ gnw := List.mem_append_right _ (List.mem_append_left _ (List.mem_of_getElem? (i := 0) rfl))
theorem nw821 : (Jvm.Cond.declares ({ cls := "java/lang/Exception", name := "<init>", desc := "(Ljava/lang/String;)V" } : Jvm.MethodName)) ∈ gnw := List.mem_append_right _ (List.mem_append_left _ (List.mem_of_getElem? (i := 1) rfl))
theorem nw822 : (Jvm.Cond.declares ({ cls := "java/lang/Throwable", name := "<init>", desc := "()V" } : Jvm.MethodName)) ∈ gnw := List.mem_append_right _ (List.mem_append_left _ (List.mem_of_getElem? (i := 2) rfl))
theorem nw823 : (Jvm.Cond.declares ({ cls := "java/lang/Throwable", name := "<init>", desc := "(Ljava/lang/String;)V" } : Jvm.MethodName)) ∈ gnw := List.mem_append_right _ (List.mem_append_left _ (List.mem_of_getElem? (i := 3) rfl))
theorem nw885 : (Jvm.Cond.castable "java/lang/IllegalStateException" "java/lang/IllegalStateException") ∈ gnw := List.mem_append_right _ (List.mem_append_left _ (List.mem_of_getElem? (i := 4) rfl))
theorem nw907 : (Jvm.Cond.declares ({ cls := "java/util/Collection", name := "clear", desc := "()V" } : Jvm.MethodName)) ∈ gnw := List.mem_append_right _ (List.mem_append_left _ (List.mem_of_getElem? (i := 5) rfl))
theorem nw908 : (Jvm.Cond.castable "java/util/ArrayDeque" "java/util/Deque") ∈ gnw := List.mem_append_right _ (List.mem_append_left _ (List.mem_of_getElem? (i := 6) rfl))
theorem nw944 : (Jvm.Cond.declares ({ cls := "java/util/Deque", name := "size", desc := "()I" } : Jvm.MethodName)) ∈ gnw := List.mem_append_right _ (List.mem_append_left _ (List.mem_of_getElem? (i := 7) rfl))
theorem nw956 : (Jvm.Cond.declares ({ cls := "java/util/Deque", name := "removeFirst", desc := "()Ljava/lang/Object;" } : Jvm.MethodName)) ∈ gnw := List.mem_append_right _ (List.mem_append_left _ (List.mem_of_getElem? (i := 8) rfl))
theorem nw975 : (Jvm.Cond.declares ({ cls := "java/util/Deque", name := "addLast", desc := "(Ljava/lang/Object;)V" } : Jvm.MethodName)) ∈ gnw := List.mem_append_right _ (List.mem_append_left _ (List.mem_of_getElem? (i := 9) rfl))
theorem nw1034 : (Jvm.Cond.castable "java/lang/ArrayIndexOutOfBoundsException" "java/lang/ArrayIndexOutOfBoundsException") ∈ gnw := List.mem_append_right _ (List.mem_append_left _ (List.mem_of_getElem? (i := 10) rfl))
theorem nw1035 : (Jvm.Cond.declares ({ cls := "java/lang/IndexOutOfBoundsException", name := "<init>", desc := "()V" } : Jvm.MethodName)) ∈ gnw := List.mem_append_right _ (List.mem_append_left _ (List.mem_of_getElem? (i := 11) rfl))
theorem nw1036 : (Jvm.Cond.declares ({ cls := "java/lang/IndexOutOfBoundsException", name := "<init>", desc := "(Ljava/lang/String;)V" } : Jvm.MethodName)) ∈ gnw := List.mem_append_right _ (List.mem_append_left _ (List.mem_of_getElem? (i := 12) rfl))
theorem nw1057 : (Jvm.Cond.castable "java/lang/IndexOutOfBoundsException" "java/lang/IndexOutOfBoundsException") ∈ gnw := List.mem_append_right _ (List.mem_append_left _ (List.mem_of_getElem? (i := 13) rfl))
theorem nw1198 : (Jvm.Cond.declares ({ cls := "java/util/Collection", name := "isEmpty", desc := "()Z" } : Jvm.MethodName)) ∈ gnw := List.mem_append_right _ (List.mem_append_left _ (List.mem_of_getElem? (i := 14) rfl))
theorem nw1207 : (Jvm.Cond.declares ({ cls := "java/util/Deque", name := "removeLast", desc := "()Ljava/lang/Object;" } : Jvm.MethodName)) ∈ gnw := List.mem_append_right _ (List.mem_append_left _ (List.mem_of_getElem? (i := 15) rfl))
theorem nw1240 : (Jvm.Cond.declares ({ cls := "RuleLists$Rule", name := "test", desc := "(I)Z" } : Jvm.MethodName)) ∈ gnw := List.mem_append_right _ (List.mem_append_left _ (List.mem_of_getElem? (i := 16) rfl))
theorem nw1351 : (Jvm.Cond.declares ({ cls := "java/util/Iterator", name := "hasNext", desc := "()Z" } : Jvm.MethodName)) ∈ gnw := List.mem_append_right _ (List.mem_append_left _ (List.mem_of_getElem? (i := 17) rfl))
theorem nw1352 : (Jvm.Cond.castable "RuleLists$Members" "java/util/Iterator") ∈ gnw := List.mem_append_right _ (List.mem_append_left _ (List.mem_of_getElem? (i := 18) rfl))
theorem nw1362 : (Jvm.Cond.declares ({ cls := "java/util/Iterator", name := "next", desc := "()Ljava/lang/Object;" } : Jvm.MethodName)) ∈ gnw := List.mem_append_right _ (List.mem_append_left _ (List.mem_of_getElem? (i := 19) rfl))
theorem nw1912 : (Jvm.Cond.castable "java/lang/ArrayIndexOutOfBoundsException" "java/lang/IndexOutOfBoundsException") ∈ gnw := List.mem_append_right _ (List.mem_append_left _ (List.mem_of_getElem? (i := 20) rfl))
theorem nw1913 : (Jvm.Cond.castable "RuleLists$AddedUp" "RuleLists$Rule") ∈ gnw := List.mem_append_right _ (List.mem_append_left _ (List.mem_of_getElem? (i := 21) rfl))
theorem nw1914 : (Jvm.Cond.castable "RuleLists$Joined" "RuleLists$Rule") ∈ gnw := List.mem_append_right _ (List.mem_append_left _ (List.mem_of_getElem? (i := 22) rfl))
theorem nw1915 : (Jvm.Cond.castable "RuleLists$Scaled" "RuleLists$Rule") ∈ gnw := List.mem_append_right _ (List.mem_append_left _ (List.mem_of_getElem? (i := 23) rfl))
theorem nw1916 : (Jvm.Cond.castable "RuleLists$Shared" "RuleLists$Rule") ∈ gnw := List.mem_append_right _ (List.mem_append_left _ (List.mem_of_getElem? (i := 24) rfl))
theorem nw1917 : (Jvm.Cond.castable "RuleLists$Sieved" "RuleLists$Rule") ∈ gnw := List.mem_append_right _ (List.mem_append_left _ (List.mem_of_getElem? (i := 25) rfl))
theorem nw1918 : (Jvm.Cond.castable "RuleLists$Steps" "RuleLists$Rule") ∈ gnw := List.mem_append_right _ (List.mem_append_left _ (List.mem_of_getElem? (i := 26) rfl))
theorem nw1919 : (Jvm.Cond.castable "RuleLists$Thinned" "RuleLists$Rule") ∈ gnw := List.mem_append_right _ (List.mem_append_left _ (List.mem_of_getElem? (i := 27) rfl))
theorem nw1920 : (Jvm.Cond.castable "RuleLists$Without" "RuleLists$Rule") ∈ gnw := List.mem_append_right _ (List.mem_append_left _ (List.mem_of_getElem? (i := 28) rfl))
theorem nw1921 : (Jvm.Cond.castable "RuleLists$Shelf" "java/lang/Object") ∈ gnw := List.mem_append_right _ (List.mem_append_left _ (List.mem_of_getElem? (i := 29) rfl))
theorem nw1922 : (Jvm.Cond.castable "RuleLists" "java/lang/Object") ∈ gnw := List.mem_append_right _ (List.mem_append_right _ (List.mem_of_getElem? (i := 0) rfl))
theorem nw1923 : (Jvm.Cond.castable "java/util/ArrayList" "java/lang/Object") ∈ gnw := List.mem_append_right _ (List.mem_append_right _ (List.mem_of_getElem? (i := 1) rfl))
theorem nw1924 : (Jvm.Cond.castable "java/util/ArrayDeque" "java/lang/Object") ∈ gnw := List.mem_append_right _ (List.mem_append_right _ (List.mem_of_getElem? (i := 2) rfl))
theorem nw1925 : (Jvm.Cond.castable "RuleListsModel" "java/lang/Object") ∈ gnw := List.mem_append_right _ (List.mem_append_right _ (List.mem_of_getElem? (i := 3) rfl))
theorem nw1926 : (Jvm.Cond.castable "java/lang/IllegalArgumentException" "java/lang/Object") ∈ gnw := List.mem_append_right _ (List.mem_append_right _ (List.mem_of_getElem? (i := 4) rfl))
theorem nw1927 : (Jvm.Cond.castable "java/lang/IllegalStateException" "java/lang/Object") ∈ gnw := List.mem_append_right _ (List.mem_append_right _ (List.mem_of_getElem? (i := 5) rfl))
theorem nw1928 : (Jvm.Cond.castable "RuleLists$Parser" "java/lang/Object") ∈ gnw := List.mem_append_right _ (List.mem_append_right _ (List.mem_of_getElem? (i := 6) rfl))
theorem nw1929 : (Jvm.Cond.castable "RuleLists$Steps" "java/lang/Object") ∈ gnw := List.mem_append_right _ (List.mem_append_right _ (List.mem_of_getElem? (i := 7) rfl))
theorem nw1930 : (Jvm.Cond.castable "RuleLists$Scaled" "java/lang/Object") ∈ gnw := List.mem_append_right _ (List.mem_append_right _ (List.mem_of_getElem? (i := 8) rfl))
theorem nw1931 : (Jvm.Cond.castable "RuleLists$Joined" "java/lang/Object") ∈ gnw := List.mem_append_right _ (List.mem_append_right _ (List.mem_of_getElem? (i := 9) rfl))
theorem nw1932 : (Jvm.Cond.castable "RuleLists$Shared" "java/lang/Object") ∈ gnw := List.mem_append_right _ (List.mem_append_right _ (List.mem_of_getElem? (i := 10) rfl))
theorem nw1933 : (Jvm.Cond.castable "RuleLists$Without" "java/lang/Object") ∈ gnw := List.mem_append_right _ (List.mem_append_right _ (List.mem_of_getElem? (i := 11) rfl))
theorem nw1934 : (Jvm.Cond.castable "RuleLists$Sieved" "java/lang/Object") ∈ gnw := List.mem_append_right _ (List.mem_append_right _ (List.mem_of_getElem? (i := 12) rfl))
theorem nw1935 : (Jvm.Cond.castable "RuleLists$Thinned" "java/lang/Object") ∈ gnw := List.mem_append_right _ (List.mem_append_right _ (List.mem_of_getElem? (i := 13) rfl))
theorem nw1936 : (Jvm.Cond.castable "RuleLists$AddedUp" "java/lang/Object") ∈ gnw := List.mem_append_right _ (List.mem_append_right _ (List.mem_of_getElem? (i := 14) rfl))
theorem nw1937 : (Jvm.Cond.castable "RuleLists$Reader" "java/lang/Object") ∈ gnw := List.mem_append_right _ (List.mem_append_right _ (List.mem_of_getElem? (i := 15) rfl))
theorem nw1938 : (Jvm.Cond.castable "java/lang/ArrayIndexOutOfBoundsException" "java/lang/Object") ∈ gnw := List.mem_append_right _ (List.mem_append_right _ (List.mem_of_getElem? (i := 16) rfl))
theorem nw1939 : (Jvm.Cond.castable "java/lang/IndexOutOfBoundsException" "java/lang/Object") ∈ gnw := List.mem_append_right _ (List.mem_append_right _ (List.mem_of_getElem? (i := 17) rfl))
theorem nw1940 : (Jvm.Cond.castable "RuleLists$Members" "java/lang/Object") ∈ gnw := List.mem_append_right _ (List.mem_append_right _ (List.mem_of_getElem? (i := 18) rfl))
theorem nw1941 : (Jvm.Cond.castable "java/lang/Integer" "java/lang/Object") ∈ gnw := List.mem_append_right _ (List.mem_append_right _ (List.mem_of_getElem? (i := 19) rfl))
theorem nw1942 : (Jvm.Cond.castable "java/lang/Throwable" "java/lang/Object") ∈ gnw := List.mem_append_right _ (List.mem_append_right _ (List.mem_of_getElem? (i := 20) rfl))
theorem nw1943 : (Jvm.Cond.castable "java/lang/String" "java/lang/Object") ∈ gnw := List.mem_append_right _ (List.mem_append_right _ (List.mem_of_getElem? (i := 21) rfl))
theorem nw1946 : (Jvm.Cond.declares ({ cls := "java/lang/Object", name := "getClass", desc := "()Ljava/lang/Class;" } : Jvm.MethodName)) ∈ gnw := List.mem_append_right _ (List.mem_append_right _ (List.mem_of_getElem? (i := 22) rfl))
theorem nw1947 : (Jvm.Cond.castable "[Ljava/lang/Object;" "java/lang/Object") ∈ gnw := List.mem_append_right _ (List.mem_append_right _ (List.mem_of_getElem? (i := 23) rfl))
theorem nw1948 : (Jvm.Cond.castable "[LRuleLists$Shelf;" "java/lang/Object") ∈ gnw := List.mem_append_right _ (List.mem_append_right _ (List.mem_of_getElem? (i := 24) rfl))
theorem nw1949 : (Jvm.Cond.castable "[C" "java/lang/Object") ∈ gnw := List.mem_append_right _ (List.mem_append_right _ (List.mem_of_getElem? (i := 25) rfl))
theorem nw1950 : (Jvm.Cond.castable "[I" "java/lang/Object") ∈ gnw := List.mem_append_right _ (List.mem_append_right _ (List.mem_of_getElem? (i := 26) rfl))
theorem nw1951 : (Jvm.Cond.castable "[B" "java/lang/Object") ∈ gnw := List.mem_append_right _ (List.mem_append_right _ (List.mem_of_getElem? (i := 27) rfl))
theorem nw1952 : (Jvm.Cond.castable "[Z" "java/lang/Object") ∈ gnw := List.mem_append_right _ (List.mem_append_right _ (List.mem_of_getElem? (i := 28) rfl))
theorem nw1953 : (Jvm.Cond.castable "[J" "java/lang/Object") ∈ gnw := List.mem_append_right _ (List.mem_append_right _ (List.mem_of_getElem? (i := 29) rfl))
