set_option maxRecDepth 100000
/-! THE LAYER: the heap as a map of labelled cells; V: the machine at pc with locals L, stack st and a heap that holds M -/
abbrev mp_L : Type := Nat × Nat × Nat
abbrev mp_M : Type := Nat → Option (mp_L × va_E)
abbrev mp_G : Type := va_G × (Nat → ClassId) × Nat
def mp_up (M : mp_M) (a : Nat) (x : mp_L × va_E) : mp_M := fun q => if q = a then some x else M q
theorem mp_self (M : mp_M) (a : Nat) (x : mp_L × va_E) : mp_up M a x a = some x := if_pos rfl
theorem mp_ne {M : mp_M} {a q : Nat} {x : mp_L × va_E} (h : q ≠ a) : mp_up M a x q = M q := if_neg h
/-- another label (or another content): another cell -/
theorem mp_oth {M : mp_M} {a q : Nat} {x y z : mp_L × va_E} (hq : M q = some y) (ha : M a = some z) (hne : y ≠ z) : mp_up M a x q = some y := by
  rw [mp_ne (fun h => hne ?_)]
  · exact hq
  · rw [h, ha] at hq
    exact (Option.some.inj hq).symm
theorem mp_lab {M : mp_M} {a q : Nat} {x y z : mp_L × va_E} (hq : M q = some y) (ha : M a = some z) (hne : y.1 ≠ z.1) : mp_up M a x q = some y := mp_oth hq ha (fun h => hne (by rw [h]))
theorem mp_fresh {M : mp_M} {a q : Nat} {x y : mp_L × va_E} (hq : M q = some y) (ha : M a = none) : mp_up M a x q = some y := by
  rw [mp_ne (fun h => ?_)]
  · exact hq
  · rw [h, ha] at hq
    cases hq
abbrev clL : List vw_C := [(RX0, TX0, 3), (RX1, TX1, 3), (RX2, TX2, 2), (RX3, TX3, 12), (RX4, TX4, 1), (RX5, TX5, 8), (RX6, TX6, 2), (RJ2, TJ2, 3), (RJ4, TJ4, 4), (RJ5, TJ5, 4)]
def tyL (G : mp_G) : List (ClassId × FieldType) := [(G.2.1 0, .int), (G.2.1 1, .boolean), (G.2.1 2, .byte), (G.2.1 3, .object "java/lang/Object"), (G.2.1 4, .object "ReplicaDocument$Item"), (G.2.1 5, .object "ReplicaDocument$Replica")]
/-- the heap holds the map; all its cells lie from b on -/
def Hd (G : mp_G) (b : Nat) (M : mp_M) (H : Heap) : Prop := ∃ ws : va_W, va_P G.1 clL ws H ∧ va_D (fun q => b ≤ q) ws ∧ ∀ (a : Nat) (x : mp_L × va_E), M a = some x → (a, x.2) ∈ ws
theorem hd_set {ws : va_W} {k a : Nat} {e0 e : va_E} {lab : mp_L} {M : mp_M} (hk : ws[k]? = some (a, e0)) (hM : ∀ (q : Nat) (x : mp_L × va_E), M q = some x → (q, x.2) ∈ ws) : ∀ (q : Nat) (x : mp_L × va_E), mp_up M a (lab, e) q = some x → (q, x.2) ∈ ws.set k (a, e) := by
  intro q x hx
  have hl := (List.getElem?_eq_some_iff.mp hk).1
  by_cases hq : q = a
  · subst hq
    rw [mp_self] at hx
    cases hx
    exact List.mem_of_getElem? (i := k) (by rw [List.getElem?_set_self hl])
  · rw [mp_ne hq] at hx
    obtain ⟨j, hj⟩ := List.getElem?_of_mem (hM q x hx)
    refine List.mem_of_getElem? (i := j) ?_
    rw [List.getElem?_set_ne (fun h => ?_)]
    · exact hj
    · subst h
      rw [hk] at hj
      exact hq (by cases hj; rfl)
theorem hd_push {ws : va_W} {a : Nat} {e : va_E} {lab : mp_L} {M : mp_M} (hM : ∀ (q : Nat) (x : mp_L × va_E), M q = some x → (q, x.2) ∈ ws) : ∀ (q : Nat) (x : mp_L × va_E), mp_up M a (lab, e) q = some x → (q, x.2) ∈ ws ++ [(a, e)] := by
  intro q x hx
  by_cases hq : q = a
  · subst hq
    rw [mp_self] at hx
    cases hx
    exact List.mem_append_right _ List.mem_cons_self
  · rw [mp_ne hq] at hx
    exact List.mem_append_left _ (hM q x hx)
theorem hd_none {A : Nat → Prop} {ws : va_W} {a : Nat} {e : va_E} {M : mp_M} (hD : va_D A (ws ++ [(a, e)])) (hM : ∀ (q : Nat) (x : mp_L × va_E), M q = some x → (q, x.2) ∈ ws) : M a = none := by
  cases h : M a with
  | none => rfl
  | some x =>
    obtain ⟨j, hj⟩ := List.getElem?_of_mem (hM a x h)
    have hl := (List.getElem?_eq_some_iff.mp hj).1
    have h1 : (ws ++ [(a, e)])[j]? = some (a, x.2) := by rw [List.getElem?_append_left hl]; exact hj
    have h2 : (ws ++ [(a, e)])[ws.length]? = some (a, e) := by rw [List.getElem?_append_right (Nat.le_refl _)]; simp
    have := hD.1 j ws.length _ _ h1 h2 rfl
    omega
/-! the environment: words that ride in no list, statics -/
def evN : List Cond := [(Jvm.Cond.fieldLinkNest "ReplicaDocument$Replica" (40 : Nat) "ReplicaDocument$Item" "op" "LReplicaDocument$Op;" "ReplicaDocument"), (Jvm.Cond.fieldLinkNest "ReplicaDocument$Replica" (81 : Nat) "ReplicaDocument$Item" "past" "I" "ReplicaDocument"), (Jvm.Cond.fieldLinkNest "ReplicaDocument$Replica" (57 : Nat) "ReplicaDocument$Item" "node" "LReplicaDocument$Node;" "ReplicaDocument"), (Jvm.Cond.fieldLinkNest "ReplicaDocument$Replica" (69 : Nat) "ReplicaDocument$Item" "home" "LReplicaDocument$Node;" "ReplicaDocument"), (Jvm.Cond.fieldLinkNest "ReplicaDocument$Replica" (110 : Nat) "ReplicaDocument$Item" "shown" "Z" "ReplicaDocument"), (Jvm.Cond.fieldLinkNest "ReplicaDocument$Replica" (85 : Nat) "ReplicaDocument$Item" "followed" "Z" "ReplicaDocument"), (Jvm.Cond.castable "ReplicaDocument$Replica" "java/lang/Object"), (Jvm.Cond.fieldLinkNest "ReplicaDocument$MapNode" (32 : Nat) "ReplicaDocument$Item" "op" "LReplicaDocument$Op;" "ReplicaDocument"), (Jvm.Cond.fieldLinkNest "ReplicaDocument$MapNode" (24 : Nat) "ReplicaDocument$Item" "place" "I" "ReplicaDocument"), (Jvm.Cond.fieldLinkNest "ReplicaDocument$MapNode" (46 : Nat) "ReplicaDocument$Item" "node" "LReplicaDocument$Node;" "ReplicaDocument"), (Jvm.Cond.fieldLinkNest "ReplicaDocument$MapNode" (42 : Nat) "ReplicaDocument$Item" "home" "LReplicaDocument$Node;" "ReplicaDocument"), (Jvm.Cond.fieldLinkNest "ReplicaDocument$MapNode" (28 : Nat) "ReplicaDocument$Item" "shown" "Z" "ReplicaDocument"), (Jvm.Cond.fieldLinkNest "ReplicaDocument$MapNode" (21 : Nat) "ReplicaDocument$Item" "next" "LReplicaDocument$Item;" "ReplicaDocument"), (Jvm.Cond.castable "ReplicaDocument$MapNode" "ReplicaDocument$Node"), (Jvm.Cond.castable "ReplicaDocument$MapNode" "java/lang/Object"), (Jvm.Cond.castable "ReplicaDocument$Op" "java/lang/Object"), (Jvm.Cond.castable "ReplicaDocument$Item" "java/lang/Object"), (Jvm.Cond.fieldLinkNest "ReplicaDocument$ListNode" (21 : Nat) "ReplicaDocument$Item" "op" "LReplicaDocument$Op;" "ReplicaDocument"), (Jvm.Cond.fieldLinkNest "ReplicaDocument$ListNode" (31 : Nat) "ReplicaDocument$Item" "home" "LReplicaDocument$Node;" "ReplicaDocument"), (Jvm.Cond.fieldLinkNest "ReplicaDocument$ListNode" (35 : Nat) "ReplicaDocument$Item" "shown" "Z" "ReplicaDocument"), (Jvm.Cond.fieldLinkNest "ReplicaDocument$ListNode" (16 : Nat) "ReplicaDocument$Item" "next" "LReplicaDocument$Item;" "ReplicaDocument"), (Jvm.Cond.castable "ReplicaDocument$ListNode" "ReplicaDocument$Node"), (Jvm.Cond.castable "ReplicaDocument$ListNode" "java/lang/Object"), (Jvm.Cond.declares ({ cls := "ReplicaDocument$Node", name := "maker", desc := "()LReplicaDocument$Item;" } : Jvm.MethodName)), (Jvm.Cond.declares ({ cls := "ReplicaDocument$Node", name := "sum", desc := "(I)I" } : Jvm.MethodName)), (Jvm.Cond.castable "[B" "java/lang/Cloneable"), (Jvm.Cond.castable "[B" "java/lang/Object"), (Jvm.Cond.castable "[Ljava/lang/Object;" "java/lang/Object"), (Jvm.Cond.castable "[LReplicaDocument$Replica;" "java/lang/Object"), (Jvm.Cond.castable "[LReplicaDocument$Item;" "java/lang/Object"), (Jvm.Cond.castable "[I" "java/lang/Object"), (Jvm.Cond.castable "[Z" "java/lang/Object"), (Jvm.Cond.castable "java/util/ArrayList" "java/lang/Object"), (Jvm.Cond.castable "java/lang/StringBuilder" "java/lang/Object"), (Jvm.Cond.castable "java/lang/String" "java/lang/Object"), (Jvm.Cond.declares ({ cls := "java/lang/Object", name := "getClass", desc := "()Ljava/lang/Class;" } : Jvm.MethodName)), (Jvm.Cond.methodLinkNest "ReplicaDocument" (52 : Nat) ({ cls := "ReplicaDocument$Replica", name := "<init>", desc := "()V" } : Jvm.MethodName) "ReplicaDocument"), (Jvm.Cond.fieldLinkNest "ReplicaDocument" (173 : Nat) "ReplicaDocument$MapNode" "entries" "[LReplicaDocument$Item;" "ReplicaDocument"), (Jvm.Cond.fieldLinkNest "ReplicaDocument" (189 : Nat) "ReplicaDocument$Replica" "root" "LReplicaDocument$MapNode;" "ReplicaDocument"), (Jvm.Cond.fieldLinkNest "ReplicaDocument" (144 : Nat) "ReplicaDocument$Replica" "log" "Ljava/util/ArrayList;" "ReplicaDocument"), (Jvm.Cond.fieldLinkNest "ReplicaDocument" (134 : Nat) "ReplicaDocument$Replica" "waiting" "Ljava/util/ArrayList;" "ReplicaDocument"), (Jvm.Cond.methodLinkNest "ReplicaDocument" (104 : Nat) ({ cls := "ReplicaDocument$Op", name := "<init>", desc := "(Ljava/lang/String;)V" } : Jvm.MethodName) "ReplicaDocument"), (Jvm.Cond.fieldLinkNest "ReplicaDocument" (152 : Nat) "ReplicaDocument$Item" "op" "LReplicaDocument$Op;" "ReplicaDocument"), (Jvm.Cond.fieldLinkNest "ReplicaDocument" (163 : Nat) "ReplicaDocument$Item" "past" "I" "ReplicaDocument"), (Jvm.Cond.fieldLinkNest "ReplicaDocument" (30 : Nat) "ReplicaDocument$Item" "home" "LReplicaDocument$Node;" "ReplicaDocument"), (Jvm.Cond.fieldLinkNest "ReplicaDocument" (24 : Nat) "ReplicaDocument$Item" "shown" "Z" "ReplicaDocument"), (Jvm.Cond.fieldLinkNest "ReplicaDocument" (91 : Nat) "ReplicaDocument$Item" "followed" "Z" "ReplicaDocument"), (Jvm.Cond.fieldLinkNest "ReplicaDocument" (177 : Nat) "ReplicaDocument$Item" "next" "LReplicaDocument$Item;" "ReplicaDocument"), (Jvm.Cond.fieldLinkNest "ReplicaDocument" (183 : Nat) "ReplicaDocument$ListNode" "first" "LReplicaDocument$Item;" "ReplicaDocument"), (Jvm.Cond.castable "ReplicaDocument" "java/lang/Object"), (Jvm.Cond.castable "ReplicaDocumentModel" "java/lang/Object"), (Cond.selects "java/lang/StringBuilder" yJ3_ensureCapacityInternal yJ3_ensureCapacityInternal), (Cond.selects "java/lang/StringBuilder" yJ3_newCapacity yJ3_newCapacity), (Cond.selects "java/lang/StringBuilder" yJ3_putStringAt yJ3_putStringAt), (Cond.selects "java/lang/StringBuilder" yJ3_inflateIfNeededFor yJ3_inflateIfNeededFor)]
theorem evs_J3_ensureCapacityInternal : (Cond.selects "java/lang/StringBuilder" yJ3_ensureCapacityInternal yJ3_ensureCapacityInternal) ∈ evN := List.mem_of_getElem? (i := 51) rfl
theorem evs_J3_newCapacity : (Cond.selects "java/lang/StringBuilder" yJ3_newCapacity yJ3_newCapacity) ∈ evN := List.mem_of_getElem? (i := 52) rfl
theorem evs_J3_putStringAt : (Cond.selects "java/lang/StringBuilder" yJ3_putStringAt yJ3_putStringAt) ∈ evN := List.mem_of_getElem? (i := 53) rfl
theorem evs_J3_inflateIfNeededFor : (Cond.selects "java/lang/StringBuilder" yJ3_inflateIfNeededFor yJ3_inflateIfNeededFor) ∈ evN := List.mem_of_getElem? (i := 54) rfl
theorem ev474 : (Jvm.Cond.fieldLinkNest "ReplicaDocument$Replica" (40 : Nat) "ReplicaDocument$Item" "op" "LReplicaDocument$Op;" "ReplicaDocument") ∈ evN := List.mem_of_getElem? (i := 0) rfl
theorem ev479 : (Jvm.Cond.fieldLinkNest "ReplicaDocument$Replica" (81 : Nat) "ReplicaDocument$Item" "past" "I" "ReplicaDocument") ∈ evN := List.mem_of_getElem? (i := 1) rfl
theorem ev484 : (Jvm.Cond.fieldLinkNest "ReplicaDocument$Replica" (57 : Nat) "ReplicaDocument$Item" "node" "LReplicaDocument$Node;" "ReplicaDocument") ∈ evN := List.mem_of_getElem? (i := 2) rfl
theorem ev488 : (Jvm.Cond.fieldLinkNest "ReplicaDocument$Replica" (69 : Nat) "ReplicaDocument$Item" "home" "LReplicaDocument$Node;" "ReplicaDocument") ∈ evN := List.mem_of_getElem? (i := 3) rfl
theorem ev492 : (Jvm.Cond.fieldLinkNest "ReplicaDocument$Replica" (110 : Nat) "ReplicaDocument$Item" "shown" "Z" "ReplicaDocument") ∈ evN := List.mem_of_getElem? (i := 4) rfl
theorem ev494 : (Jvm.Cond.fieldLinkNest "ReplicaDocument$Replica" (85 : Nat) "ReplicaDocument$Item" "followed" "Z" "ReplicaDocument") ∈ evN := List.mem_of_getElem? (i := 5) rfl
theorem ev1047 : (Jvm.Cond.castable "ReplicaDocument$Replica" "java/lang/Object") ∈ evN := List.mem_of_getElem? (i := 6) rfl
theorem ev476 : (Jvm.Cond.fieldLinkNest "ReplicaDocument$MapNode" (32 : Nat) "ReplicaDocument$Item" "op" "LReplicaDocument$Op;" "ReplicaDocument") ∈ evN := List.mem_of_getElem? (i := 7) rfl
theorem ev482 : (Jvm.Cond.fieldLinkNest "ReplicaDocument$MapNode" (24 : Nat) "ReplicaDocument$Item" "place" "I" "ReplicaDocument") ∈ evN := List.mem_of_getElem? (i := 8) rfl
theorem ev483 : (Jvm.Cond.fieldLinkNest "ReplicaDocument$MapNode" (46 : Nat) "ReplicaDocument$Item" "node" "LReplicaDocument$Node;" "ReplicaDocument") ∈ evN := List.mem_of_getElem? (i := 9) rfl
theorem ev486 : (Jvm.Cond.fieldLinkNest "ReplicaDocument$MapNode" (42 : Nat) "ReplicaDocument$Item" "home" "LReplicaDocument$Node;" "ReplicaDocument") ∈ evN := List.mem_of_getElem? (i := 10) rfl
theorem ev489 : (Jvm.Cond.fieldLinkNest "ReplicaDocument$MapNode" (28 : Nat) "ReplicaDocument$Item" "shown" "Z" "ReplicaDocument") ∈ evN := List.mem_of_getElem? (i := 11) rfl
theorem ev496 : (Jvm.Cond.fieldLinkNest "ReplicaDocument$MapNode" (21 : Nat) "ReplicaDocument$Item" "next" "LReplicaDocument$Item;" "ReplicaDocument") ∈ evN := List.mem_of_getElem? (i := 12) rfl
theorem ev775 : (Jvm.Cond.castable "ReplicaDocument$MapNode" "ReplicaDocument$Node") ∈ evN := List.mem_of_getElem? (i := 13) rfl
theorem ev1050 : (Jvm.Cond.castable "ReplicaDocument$MapNode" "java/lang/Object") ∈ evN := List.mem_of_getElem? (i := 14) rfl
theorem ev1054 : (Jvm.Cond.castable "ReplicaDocument$Op" "java/lang/Object") ∈ evN := List.mem_of_getElem? (i := 15) rfl
theorem ev1048 : (Jvm.Cond.castable "ReplicaDocument$Item" "java/lang/Object") ∈ evN := List.mem_of_getElem? (i := 16) rfl
theorem ev475 : (Jvm.Cond.fieldLinkNest "ReplicaDocument$ListNode" (21 : Nat) "ReplicaDocument$Item" "op" "LReplicaDocument$Op;" "ReplicaDocument") ∈ evN := List.mem_of_getElem? (i := 17) rfl
theorem ev485 : (Jvm.Cond.fieldLinkNest "ReplicaDocument$ListNode" (31 : Nat) "ReplicaDocument$Item" "home" "LReplicaDocument$Node;" "ReplicaDocument") ∈ evN := List.mem_of_getElem? (i := 18) rfl
theorem ev490 : (Jvm.Cond.fieldLinkNest "ReplicaDocument$ListNode" (35 : Nat) "ReplicaDocument$Item" "shown" "Z" "ReplicaDocument") ∈ evN := List.mem_of_getElem? (i := 19) rfl
theorem ev495 : (Jvm.Cond.fieldLinkNest "ReplicaDocument$ListNode" (16 : Nat) "ReplicaDocument$Item" "next" "LReplicaDocument$Item;" "ReplicaDocument") ∈ evN := List.mem_of_getElem? (i := 20) rfl
theorem ev769 : (Jvm.Cond.castable "ReplicaDocument$ListNode" "ReplicaDocument$Node") ∈ evN := List.mem_of_getElem? (i := 21) rfl
theorem ev1056 : (Jvm.Cond.castable "ReplicaDocument$ListNode" "java/lang/Object") ∈ evN := List.mem_of_getElem? (i := 22) rfl
theorem ev768 : (Jvm.Cond.declares ({ cls := "ReplicaDocument$Node", name := "maker", desc := "()LReplicaDocument$Item;" } : Jvm.MethodName)) ∈ evN := List.mem_of_getElem? (i := 23) rfl
theorem ev793 : (Jvm.Cond.declares ({ cls := "ReplicaDocument$Node", name := "sum", desc := "(I)I" } : Jvm.MethodName)) ∈ evN := List.mem_of_getElem? (i := 24) rfl
theorem ev316 : (Jvm.Cond.castable "[B" "java/lang/Cloneable") ∈ evN := List.mem_of_getElem? (i := 25) rfl
theorem ev1062 : (Jvm.Cond.castable "[B" "java/lang/Object") ∈ evN := List.mem_of_getElem? (i := 26) rfl
theorem ev1063 : (Jvm.Cond.castable "[Ljava/lang/Object;" "java/lang/Object") ∈ evN := List.mem_of_getElem? (i := 27) rfl
theorem ev1060 : (Jvm.Cond.castable "[LReplicaDocument$Replica;" "java/lang/Object") ∈ evN := List.mem_of_getElem? (i := 28) rfl
theorem ev1061 : (Jvm.Cond.castable "[LReplicaDocument$Item;" "java/lang/Object") ∈ evN := List.mem_of_getElem? (i := 29) rfl
theorem ev1064 : (Jvm.Cond.castable "[I" "java/lang/Object") ∈ evN := List.mem_of_getElem? (i := 30) rfl
theorem ev1065 : (Jvm.Cond.castable "[Z" "java/lang/Object") ∈ evN := List.mem_of_getElem? (i := 31) rfl
theorem ev1051 : (Jvm.Cond.castable "java/util/ArrayList" "java/lang/Object") ∈ evN := List.mem_of_getElem? (i := 32) rfl
theorem ev1052 : (Jvm.Cond.castable "java/lang/StringBuilder" "java/lang/Object") ∈ evN := List.mem_of_getElem? (i := 33) rfl
theorem ev1055 : (Jvm.Cond.castable "java/lang/String" "java/lang/Object") ∈ evN := List.mem_of_getElem? (i := 34) rfl
theorem ev1059 : (Jvm.Cond.declares ({ cls := "java/lang/Object", name := "getClass", desc := "()Ljava/lang/Class;" } : Jvm.MethodName)) ∈ evN := List.mem_of_getElem? (i := 35) rfl
theorem ev69 : (Jvm.Cond.methodLinkNest "ReplicaDocument" (52 : Nat) ({ cls := "ReplicaDocument$Replica", name := "<init>", desc := "()V" } : Jvm.MethodName) "ReplicaDocument") ∈ evN := List.mem_of_getElem? (i := 36) rfl
theorem ev83 : (Jvm.Cond.fieldLinkNest "ReplicaDocument" (173 : Nat) "ReplicaDocument$MapNode" "entries" "[LReplicaDocument$Item;" "ReplicaDocument") ∈ evN := List.mem_of_getElem? (i := 37) rfl
theorem ev116 : (Jvm.Cond.fieldLinkNest "ReplicaDocument" (189 : Nat) "ReplicaDocument$Replica" "root" "LReplicaDocument$MapNode;" "ReplicaDocument") ∈ evN := List.mem_of_getElem? (i := 38) rfl
theorem ev118 : (Jvm.Cond.fieldLinkNest "ReplicaDocument" (144 : Nat) "ReplicaDocument$Replica" "log" "Ljava/util/ArrayList;" "ReplicaDocument") ∈ evN := List.mem_of_getElem? (i := 39) rfl
theorem ev120 : (Jvm.Cond.fieldLinkNest "ReplicaDocument" (134 : Nat) "ReplicaDocument$Replica" "waiting" "Ljava/util/ArrayList;" "ReplicaDocument") ∈ evN := List.mem_of_getElem? (i := 40) rfl
theorem ev445 : (Jvm.Cond.methodLinkNest "ReplicaDocument" (104 : Nat) ({ cls := "ReplicaDocument$Op", name := "<init>", desc := "(Ljava/lang/String;)V" } : Jvm.MethodName) "ReplicaDocument") ∈ evN := List.mem_of_getElem? (i := 41) rfl
theorem ev477 : (Jvm.Cond.fieldLinkNest "ReplicaDocument" (152 : Nat) "ReplicaDocument$Item" "op" "LReplicaDocument$Op;" "ReplicaDocument") ∈ evN := List.mem_of_getElem? (i := 42) rfl
theorem ev480 : (Jvm.Cond.fieldLinkNest "ReplicaDocument" (163 : Nat) "ReplicaDocument$Item" "past" "I" "ReplicaDocument") ∈ evN := List.mem_of_getElem? (i := 43) rfl
theorem ev487 : (Jvm.Cond.fieldLinkNest "ReplicaDocument" (30 : Nat) "ReplicaDocument$Item" "home" "LReplicaDocument$Node;" "ReplicaDocument") ∈ evN := List.mem_of_getElem? (i := 44) rfl
theorem ev491 : (Jvm.Cond.fieldLinkNest "ReplicaDocument" (24 : Nat) "ReplicaDocument$Item" "shown" "Z" "ReplicaDocument") ∈ evN := List.mem_of_getElem? (i := 45) rfl
theorem ev493 : (Jvm.Cond.fieldLinkNest "ReplicaDocument" (91 : Nat) "ReplicaDocument$Item" "followed" "Z" "ReplicaDocument") ∈ evN := List.mem_of_getElem? (i := 46) rfl
theorem ev497 : (Jvm.Cond.fieldLinkNest "ReplicaDocument" (177 : Nat) "ReplicaDocument$Item" "next" "LReplicaDocument$Item;" "ReplicaDocument") ∈ evN := List.mem_of_getElem? (i := 47) rfl
theorem ev522 : (Jvm.Cond.fieldLinkNest "ReplicaDocument" (183 : Nat) "ReplicaDocument$ListNode" "first" "LReplicaDocument$Item;" "ReplicaDocument") ∈ evN := List.mem_of_getElem? (i := 48) rfl
theorem ev1049 : (Jvm.Cond.castable "ReplicaDocument" "java/lang/Object") ∈ evN := List.mem_of_getElem? (i := 49) rfl
theorem ev1053 : (Jvm.Cond.castable "ReplicaDocumentModel" "java/lang/Object") ∈ evN := List.mem_of_getElem? (i := 50) rfl
theorem evN_tbl : ∀ w ∈ evN, w ∈ lw_tbl ∨ w = (Cond.selects "java/lang/StringBuilder" yJ3_ensureCapacityInternal yJ3_ensureCapacityInternal) ∨ w = (Cond.selects "java/lang/StringBuilder" yJ3_newCapacity yJ3_newCapacity) ∨ w = (Cond.selects "java/lang/StringBuilder" yJ3_putStringAt yJ3_putStringAt) ∨ w = (Cond.selects "java/lang/StringBuilder" yJ3_inflateIfNeededFor yJ3_inflateIfNeededFor) := by
  intro w h
  simp only [evN, List.mem_cons, List.not_mem_nil, or_false] at h
  rcases h with h | h | h | h | h | h | h | h | h | h | h | h | h | h | h | h | h | h | h | h | h | h | h | h | h | h | h | h | h | h | h | h | h | h | h | h | h | h | h | h | h | h | h | h | h | h | h | h | h | h | h | h | h | h | h
  · rw [h]; exact Or.inl q474
  · rw [h]; exact Or.inl q479
  · rw [h]; exact Or.inl q484
  · rw [h]; exact Or.inl q488
  · rw [h]; exact Or.inl q492
  · rw [h]; exact Or.inl q494
  · rw [h]; exact Or.inl q1047
  · rw [h]; exact Or.inl q476
  · rw [h]; exact Or.inl q482
  · rw [h]; exact Or.inl q483
  · rw [h]; exact Or.inl q486
  · rw [h]; exact Or.inl q489
  · rw [h]; exact Or.inl q496
  · rw [h]; exact Or.inl q775
  · rw [h]; exact Or.inl q1050
  · rw [h]; exact Or.inl q1054
  · rw [h]; exact Or.inl q1048
  · rw [h]; exact Or.inl q475
  · rw [h]; exact Or.inl q485
  · rw [h]; exact Or.inl q490
  · rw [h]; exact Or.inl q495
  · rw [h]; exact Or.inl q769
  · rw [h]; exact Or.inl q1056
  · rw [h]; exact Or.inl q768
  · rw [h]; exact Or.inl q793
  · rw [h]; exact Or.inl q316
  · rw [h]; exact Or.inl q1062
  · rw [h]; exact Or.inl q1063
  · rw [h]; exact Or.inl q1060
  · rw [h]; exact Or.inl q1061
  · rw [h]; exact Or.inl q1064
  · rw [h]; exact Or.inl q1065
  · rw [h]; exact Or.inl q1051
  · rw [h]; exact Or.inl q1052
  · rw [h]; exact Or.inl q1055
  · rw [h]; exact Or.inl q1059
  · rw [h]; exact Or.inl q69
  · rw [h]; exact Or.inl q83
  · rw [h]; exact Or.inl q116
  · rw [h]; exact Or.inl q118
  · rw [h]; exact Or.inl q120
  · rw [h]; exact Or.inl q445
  · rw [h]; exact Or.inl q477
  · rw [h]; exact Or.inl q480
  · rw [h]; exact Or.inl q487
  · rw [h]; exact Or.inl q491
  · rw [h]; exact Or.inl q493
  · rw [h]; exact Or.inl q497
  · rw [h]; exact Or.inl q522
  · rw [h]; exact Or.inl q1049
  · rw [h]; exact Or.inl q1053
  · simp [h]
  · simp [h]
  · simp [h]
  · simp [h]
def ev_k : Cond → Bool
  | .fieldLinkNest .. => true
  | .methodLinkNest .. => true
  | .castable .. => true
  | .declares .. => true
  | .selects .. => true
  | _ => false
theorem evN_k : ∀ w ∈ evN, ev_k w = true := by decide +kernel
theorem ev_warm {w : Cond} (hk : ev_k w = true) {s U : State} (hW : s.WarmedH U.vm) (h : va_Nw w s) : va_Nw w U := by
  cases w <;> first
    | exact va_Nw.warmF hW h
    | exact va_Nw.warmM hW h
    | exact va_Nw.warmC hW h
    | exact va_Nw.warmD hW h
    | exact word_at (args := #[]) hW (Or.inl rfl) h
    | (exact absurd hk (by decide))
    | (simp [ev_k] at hk)
theorem ev_onT {w : Cond} (hk : ev_k w = true) : w.onTables = true := by
  cases w <;> first
    | rfl
    | (simp [ev_k] at hk)
def yN_maker : MethodName := ⟨"ReplicaDocument$Node", "maker", "()LReplicaDocument$Item;"⟩
def yN_sum : MethodName := ⟨"ReplicaDocument$Node", "sum", "(I)I"⟩
def evF (G : mp_G) (U : State) : Prop := va_Fw RX2 yN_maker yX2_maker U ∧ va_Fw RX6 yN_maker yX6_maker U ∧ va_Fw RX2 yN_sum yX2_sum U ∧ va_Fw RX6 yN_sum yX6_sum U ∧ va_AO "java/lang/Object" U ∧ va_AO "ReplicaDocument$Item" U ∧ va_AO "ReplicaDocument$Replica" U ∧ va_Nc RX2 RX6 U ∧ va_Nc RX6 RX2 U ∧ va_Mi "[Ljava/lang/Object;" (G.2.1 9) U ∧ va_Dc U
def evH (G : mp_G) (b : Nat) (U : State) (H : Heap) : Prop := va_Z "java/lang/String" "COMPACT_STRINGS" "Z" (.int 1) (fun q => b ≤ q) U H ∧ va_Z "java/util/ArrayList" "DEFAULTCAPACITY_EMPTY_ELEMENTDATA" "[Ljava/lang/Object;" (.ref G.2.2) (fun q => b ≤ q) U H ∧ va_T (.object "java/lang/Object") G.2.2 0 (fun _ => .null) (fun q => b ≤ q) U H ∧ ∃ o : Option Nat, va_Z "jdk/internal/util/Preconditions" "SIOOBE_FORMATTER" "Ljava/util/function/BiFunction;" (va_rf o) (fun q => b ≤ q) U H
def Ev (G : mp_G) (b : Nat) (U : State) : Prop := va_K G.1 clL (tyL G) U ∧ (∀ w ∈ evN, va_Nw w U) ∧ evF G U ∧ evH G b U U.heap
theorem evF.moved {G : mp_G} {u U : State} (hvm : u.vm.Alike U.vm) (h : evF G u) : evF G U := by
  obtain ⟨h1, h2, h3, h4, h5, h6, h7, h8, h9, h10, h11⟩ := h
  exact ⟨h1.moved (by decide) hvm, h2.moved (by decide) hvm, h3.moved (by decide) hvm, h4.moved (by decide) hvm, h5.moved hvm, h6.moved hvm, h7.moved hvm, h8.moved hvm, h9.moved hvm, h10.moved hvm, h11.moved hvm⟩
theorem evH.moved {G : mp_G} {b : Nat} {u U : State} {H : Heap} (hvm : u.vm.Alike U.vm) (h : evH G b u H) : evH G b U H := ⟨h.1.moved hvm, h.2.1.moved hvm, h.2.2.1.moved hvm, h.2.2.2.elim fun o ho => ⟨o, ho.moved hvm⟩⟩
theorem evH.kept {G : mp_G} {b : Nat} {u : State} {H H1 : Heap} (hq : ∀ a : Nat, a < H.size → ¬ b ≤ a → H1[a]? = H[a]?) (h : evH G b u H) : evH G b u H1 := ⟨h.1.kept hq, h.2.1.kept hq, h.2.2.1.kept hq, h.2.2.2.elim fun o ho => ⟨o, ho.kept hq⟩⟩
theorem Ev.call {G : mp_G} {b : Nat} {s U : State} {H : Heap} {locs : List Loc} (h : Ev G b s) (hW : s.WarmedH U.vm) (hU : U.heap = H) (hS : va_S (fun q => b ≤ q) s.heap H locs) : Ev G b U := by
  refine ⟨va_K.moved hW.alike h.1, fun w hw => ev_warm (evN_k w hw) hW (h.2.1 w hw), h.2.2.1.moved hW.alike, ?_⟩
  rw [hU]
  exact evH.kept (fun a h1 h2 => hS.2.1 a h1 h2) (h.2.2.2.moved hW.alike)
theorem Ev.same {G : mp_G} {b : Nat} {u U : State} (h : Ev G b u) (hvm : u.vm = U.vm) (hh : u.heap = U.heap) : Ev G b U := by
  have ha : u.vm.Alike U.vm := by rw [hvm]; exact Vm.Alike.refl _
  refine ⟨va_K.moved ha h.1, fun w hw => va_Nw.same (ev_onT (evN_k w hw)) hvm (h.2.1 w hw), h.2.2.1.moved ha, ?_⟩
  rw [← hh]
  exact h.2.2.2.moved ha
/-! the judgement -/
def vL (ls : Array Slot) (nL : Nat) (L : List (Option Value)) : Prop := ls.size = nL ∧ lv_wf ls ∧ ∀ (i : Nat) (v : Value), L[i]? = some (some v) → ls[i]? = some (.val v) ∧ v.category = 1
def vl_prs (L : List (Option Value)) : List (Nat × Value) := L.zipIdx.filterMap (fun q => q.1.map (fun v => (q.2, v)))
theorem vl_mem {L : List (Option Value)} {i : Nat} {v : Value} : (i, v) ∈ vl_prs L ↔ L[i]? = some (some v) := by
  unfold vl_prs
  rw [List.mem_filterMap]
  constructor
  · rintro ⟨⟨o, j⟩, h1, h2⟩
    rw [List.mem_zipIdx_iff_getElem?] at h1
    cases o with
    | none => cases h2
    | some w =>
      cases h2
      exact h1
  · intro h
    exact ⟨(some v, i), List.mem_zipIdx_iff_getElem?.mpr h, rfl⟩
theorem vL.has {ls : Array Slot} {nL : Nat} {L : List (Option Value)} (h : vL ls nL L) : lv_has ls nL (vl_prs L) := ⟨h.1, h.2.1, fun q hq => (h.2.2 q.1 q.2 (vl_mem.mp hq)).1⟩
theorem vL.at {ls : Array Slot} {nL : Nat} {L : List (Option Value)} (h : vL ls nL L) {i : Nat} {v : Value} (hi : L[i]? = some (some v)) : ls[i]? = some (.val v) := (h.2.2 i v hi).1
theorem vL.store {ls ls' : Array Slot} {nL : Nat} {L : List (Option Value)} (h : vL ls nL L) {i : Nat} {v : Value} (hv : v.category = 1) (h' : lv_has ls' nL ((i, v) :: (vl_prs L).filter (fun q => !(q.1 == i) && !(q.1 + 1 == i && q.2.category == 2)))) : vL ls' nL (L.set i (some v)) := by
  refine ⟨h'.1, h'.2.1, fun j w hj => ?_⟩
  by_cases hji : j = i
  · subst hji
    rw [List.getElem?_set] at hj
    simp only [if_true] at hj
    split at hj
    · cases hj
      exact ⟨h'.2.2 (j, v) List.mem_cons_self, hv⟩
    · cases hj
  · rw [List.getElem?_set_ne (Ne.symm hji)] at hj
    have hc := (h.2.2 j w hj).2
    refine ⟨h'.2.2 (j, w) (List.mem_cons_of_mem _ (List.mem_filter.mpr ⟨vl_mem.mpr hj, ?_⟩)), hc⟩
    simp [hji, hc]
theorem vL.entry (vs : List Value) (n : Nat) (hc : ∀ v ∈ vs, v.category = 1) (hn : vs.length ≤ n) : vL ((vs.map Slot.val ++ List.replicate (n - vs.length) Slot.unset).toArray) n (vs.map some ++ List.replicate (n - vs.length) none) := by
  have key : ∀ (i : Nat) (x : Slot), (vs.map Slot.val ++ List.replicate (n - vs.length) Slot.unset).toArray[i]? = some x → (∃ v, vs[i]? = some v ∧ x = .val v) ∨ x = .unset := by
    intro i x hx
    rw [List.getElem?_toArray] at hx
    by_cases hl : i < vs.length
    · rw [List.getElem?_append_left (by simpa using hl), List.getElem?_map] at hx
      cases hv : vs[i]? with
      | none => rw [hv] at hx; cases hx
      | some v => rw [hv] at hx; cases hx; exact Or.inl ⟨v, rfl, rfl⟩
    · rw [List.getElem?_append_right (by simpa using hl)] at hx
      exact Or.inr (List.eq_of_mem_replicate (List.mem_of_getElem? hx))
  refine ⟨by simp; omega, ⟨fun i v h1 h2 => ?_, fun i h => ?_⟩, fun i v h => ?_⟩
  · rcases key i _ h1 with ⟨w, h3, h4⟩ | h3
    · cases h4
      have := hc v (List.mem_of_getElem? h3)
      omega
    · cases h3
  · rcases key i _ h with ⟨w, h3, h4⟩ | h3
    · cases h4
    · cases h3
  · by_cases hl : i < vs.length
    · rw [List.getElem?_append_left (by simpa using hl), List.getElem?_map] at h
      cases hv : vs[i]? with
      | none => rw [hv] at h; cases h
      | some w =>
        rw [hv] at h
        cases h
        refine ⟨?_, hc v (List.mem_of_getElem? hv)⟩
        rw [List.getElem?_toArray, List.getElem?_append_left (by simpa using hl), List.getElem?_map, hv]
        rfl
    · rw [List.getElem?_append_right (by simpa using hl)] at h
      have := List.eq_of_mem_replicate (List.mem_of_getElem? h)
      cases this
def V (p : Program) (l : Launch) (e : Env) (R : Room) (s : State) (m : MethodId) (args : Array Value) (below : List Frame) (meth : Method) (c : Code) (Q : State → Prop) (G : mp_G) (b nL cells slots pc : Nat) (L : List (Option Value)) (st : List Value) (M : mp_M) : Prop :=
  ∀ (H : Heap) (locs : List Loc) (ls : Array Slot), Hd G b M H → va_S (fun q => b ≤ q) s.heap H locs → vL ls nL L → W p l e R s m args below meth c H locs cells slots Q (F0 m pc ls st)
/-- a call at pc, M before it -/
def VR (p : Program) (l : Launch) (e : Env) (R : Room) (s : State) (m : MethodId) (args : Array Value) (below : List Frame) (meth : Method) (c : Code) (G : mp_G) (b nL cells slots mc ms pc : Nat) (L : List (Option Value)) (st rest : List Value) (M : mp_M) (Qa : State → Outcome → State → Prop) : Prop :=
  ∀ (H : Heap) (locs : List Loc) (ls : Array Slot), Hd G b M H → va_S (fun q => b ≤ q) s.heap H locs → vL ls nL L → va_Run p l e R s m args below meth c H locs cells slots mc ms (F0 m pc ls st) rest Qa (fun q => b ≤ q)
def Cx (p : Program) (m : MethodId) (meth : Method) (c : Code) (s : State) (args : Array Value) (G : mp_G) (b : Nat) (own : String) (cc : ByteArray) (nL : Nat) (ret : Option FieldType) : Prop :=
  CallFix p m c cc nL s args lw_all own ∧ meth.sig.returnType = ret ∧ meth.locks = false ∧ Ev G b s ∧ b ≤ s.heap.size
/-- a contract's end -/
def Qp (G : mp_G) (b : Nat) (post : Option Value → mp_M → Prop) : Array Value → State → Outcome → State → Prop := fun _ st o t => ∃ (v : Option Value) (M' : mp_M), o = .returned v ∧ post v M' ∧ Hd G b M' t.heap ∧ va_F (fun q => b ≤ q) st t
def pI (post : Int32 → mp_M → Prop) : Option Value → mp_M → Prop := fun v M => ∃ r : Int32, v = some (.int r) ∧ post r M
def pR (post : Option Nat → mp_M → Prop) : Option Value → mp_M → Prop := fun v M => ∃ r : Option Nat, v = some (va_rf r) ∧ post r M
def pV (post : mp_M → Prop) : Option Value → mp_M → Prop := fun v M => v = none ∧ post M
abbrev rmOf (d mc ms : Nat) : Room := { frames := d, cells := mc, slots := ms, locals := 64 * d }
abbrev PcV (G : mp_G) (b : Nat) (av : List Value) (M : mp_M) : Array Value → State → Prop := va_Pc av (fun U => b ≤ U.heap.size ∧ Hd G b M U.heap ∧ Ev G b U)
/-- a method's contract, at arguments av and map M: d frames below it, mc cells and ms slots made -/
def Ct (l : Launch) (y : MethodName) (cc : ByteArray) (nL : Nat) (ret : Option FieldType) (d mc ms : Nat) (G : mp_G) (b : Nat) (av : List Value) (M : mp_M) (post : Option Value → mp_M → Prop) : Prop :=
  Met l y (ws_ y cc nL ret) (rmOf d mc ms) (PcV G b av M) (Qp G b post) mc ms (fun q => b ≤ q)
theorem PcV.blind {G : mp_G} {b : Nat} {av : List Value} {M : mp_M} : FrameBlind (PcV G b av M) := fun a U g mk q => by
  obtain ⟨q0, q1, qP, qE⟩ := q
  exact ⟨q0, q1, qP, qE.same rfl rfl⟩
theorem Ct.ofV {l : Launch} {y : MethodName} {cc : ByteArray} {nL : Nat} {ret : Option FieldType} {d mc ms : Nat} {G : mp_G} {b : Nat} {av : List Value} {M : mp_M} {post : Option Value → mp_M → Prop} (hy : plainName y.cls = true) (hc : ∀ v ∈ av, v.category = 1) (hn : av.length ≤ nL)
    (body : ∀ (p : Program) (e : Env) (s : State) (m : MethodId) (below : List Frame) (meth : Method) (c : Code), Cx p m meth c s av.toArray G b y.cls cc nL ret → meth.name = y.name → V p l e (rmOf d mc ms) s m av.toArray below meth c (MQ below (Qp G b post) av.toArray s mc ms (fun q => b ≤ q)) G b nL 0 0 0 (av.map some ++ List.replicate (nL - av.length) none) [] M) : Ct l y cc nL ret d mc ms G b av M post := by
  refine Met.ofW (cc := cc) (maxL := nL) (ret := ret) hy rfl ?_
  intro p e s m args below meth c s₁ B hml hv
  obtain ⟨rfl, hb0, hH, hE⟩ := hv
  have hts := atoms_spec (ws := ws_ y cc nL ret) B.pre
  rw [entry_eq m av hc nL]
  exact body p e s m below meth c ⟨⟨B.exec, B.bytes, hml, findClass_of_methodNamed B.named, fun w h => hts w (List.mem_cons_of_mem _ h)⟩, B.returns, B.notSynchronized, hE, hb0⟩ (name_of_methodNamed B.named B.method).1 s.heap [] _ hH va_S.rf (vL.entry av nL hc hn)
theorem Ct.post {l : Launch} {y : MethodName} {cc : ByteArray} {nL : Nat} {ret : Option FieldType} {d mc ms : Nat} {G : mp_G} {b : Nat} {av : List Value} {M : mp_M} {post post' : Option Value → mp_M → Prop} (h : Ct l y cc nL ret d mc ms G b av M post) (hp : ∀ v M', post v M' → post' v M') : Ct l y cc nL ret d mc ms G b av M post' := by
  unfold Ct Met at h ⊢
  refine MetFree.mono h (fun _ _ q => q) (fun _ _ _ _ _ q => q) (fun a st o t _ q => ?_)
  obtain ⟨⟨v, M', h1, h2, h3⟩, h4⟩ := q
  exact ⟨⟨v, M', h1, hp v M' h2, h3⟩, h4⟩
section VROWS
variable {p : Program} {l : Launch} {e : Env} {R : Room} {s : State} {m : MethodId} {args : Array Value} {below : List Frame} {meth : Method} {c : Code} {Q : State → Prop} {G : mp_G} {b nL cells slots pc : Nat} {L : List (Option Value)} {rest : List Value} {M : mp_M} {own : String} {cc : ByteArray} {ret : Option FieldType}
theorem V_iconst (C : Cx p m meth c s args G b own cc nL ret) {n : Int} (v : Int32) (hd : decode cc pc = .ok (.iconst n, 1)) (hv : Int32.ofInt n = v) (k : V p l e R s m args below meth c Q G b nL cells slots (pc + 1) L (.int v :: rest) M) : V p l e R s m args below meth c Q G b nL cells slots pc L (rest) M :=
  fun H locs ls h1 h2 h3 => lv_iconst C.1.1 C.1.2.1 hd hv (k H locs ls h1 h2 h3)
theorem V_bipush (C : Cx p m meth c s args G b own cc nL ret) {n : Int} (v : Int32) (hd : decode cc pc = .ok (.bipush n, 2)) (hv : (Int8.ofInt n).toInt32 = v) (k : V p l e R s m args below meth c Q G b nL cells slots (pc + 2) L (.int v :: rest) M) : V p l e R s m args below meth c Q G b nL cells slots pc L (rest) M :=
  fun H locs ls h1 h2 h3 => lv_bipush C.1.1 C.1.2.1 hd hv (k H locs ls h1 h2 h3)
theorem V_sipush (C : Cx p m meth c s args G b own cc nL ret) {n : Int} (v : Int32) (hd : decode cc pc = .ok (.sipush n, 3)) (hv : (Int16.ofInt n).toInt32 = v) (k : V p l e R s m args below meth c Q G b nL cells slots (pc + 3) L (.int v :: rest) M) : V p l e R s m args below meth c Q G b nL cells slots pc L (rest) M :=
  fun H locs ls h1 h2 h3 => lv_sipush C.1.1 C.1.2.1 hd hv (k H locs ls h1 h2 h3)
theorem V_null (C : Cx p m meth c s args G b own cc nL ret)  (hd : decode cc pc = .ok (.aconst_null, 1))  (k : V p l e R s m args below meth c Q G b nL cells slots (pc + 1) L (.null :: rest) M) : V p l e R s m args below meth c Q G b nL cells slots pc L (rest) M :=
  fun H locs ls h1 h2 h3 => lv_null C.1.1 C.1.2.1 hd (k H locs ls h1 h2 h3)
theorem V_iload_n (C : Cx p m meth c s args G b own cc nL ret) {k0 : Fin 4} {i : Nat} {x : Int32} (hd : decode cc pc = .ok (.iload_n k0, 1)) (hi : (k0 : Nat) = i) (hl : L[i]? = some (some (.int x))) (k : V p l e R s m args below meth c Q G b nL cells slots (pc + 1) L (.int x :: rest) M) : V p l e R s m args below meth c Q G b nL cells slots pc L (rest) M :=
  fun H locs ls h1 h2 h3 => lv_iload_n C.1.1 C.1.2.1 hd hi (h3.at hl) (k H locs ls h1 h2 h3)
theorem V_iload (C : Cx p m meth c s args G b own cc nL ret) {i : Nat} {x : Int32} (hd : decode cc pc = .ok (.iload i, 2)) (hl : L[i]? = some (some (.int x))) (k : V p l e R s m args below meth c Q G b nL cells slots (pc + 2) L (.int x :: rest) M) : V p l e R s m args below meth c Q G b nL cells slots pc L (rest) M :=
  fun H locs ls h1 h2 h3 => lv_iload C.1.1 C.1.2.1 hd (h3.at hl) (k H locs ls h1 h2 h3)
theorem V_aload_n (C : Cx p m meth c s args G b own cc nL ret) {k0 : Fin 4} {i : Nat} {x : Nat} (hd : decode cc pc = .ok (.aload_n k0, 1)) (hi : (k0 : Nat) = i) (hl : L[i]? = some (some (.ref x))) (k : V p l e R s m args below meth c Q G b nL cells slots (pc + 1) L (.ref x :: rest) M) : V p l e R s m args below meth c Q G b nL cells slots pc L (rest) M :=
  fun H locs ls h1 h2 h3 => lv_aload_n C.1.1 C.1.2.1 hd hi (h3.at hl) (k H locs ls h1 h2 h3)
theorem V_aload (C : Cx p m meth c s args G b own cc nL ret) {i : Nat} {x : Nat} (hd : decode cc pc = .ok (.aload i, 2)) (hl : L[i]? = some (some (.ref x))) (k : V p l e R s m args below meth c Q G b nL cells slots (pc + 2) L (.ref x :: rest) M) : V p l e R s m args below meth c Q G b nL cells slots pc L (rest) M :=
  fun H locs ls h1 h2 h3 => lv_aload C.1.1 C.1.2.1 hd (h3.at hl) (k H locs ls h1 h2 h3)
theorem V_aload_nq (C : Cx p m meth c s args G b own cc nL ret) {k0 : Fin 4} {i : Nat} {o : Option Nat} (hd : decode cc pc = .ok (.aload_n k0, 1)) (hi : (k0 : Nat) = i) (hl : L[i]? = some (some (va_rf o))) (k : V p l e R s m args below meth c Q G b nL cells slots (pc + 1) L (va_rf o :: rest) M) : V p l e R s m args below meth c Q G b nL cells slots pc L rest M := by
  cases o with
  | none => exact fun H locs ls h1 h2 h3 => lv_aload_nN C.1.1 C.1.2.1 hd hi (h3.at hl) (k H locs ls h1 h2 h3)
  | some a => exact fun H locs ls h1 h2 h3 => lv_aload_n C.1.1 C.1.2.1 hd hi (h3.at hl) (k H locs ls h1 h2 h3)
theorem V_aloadq (C : Cx p m meth c s args G b own cc nL ret) {i : Nat} {o : Option Nat} (hd : decode cc pc = .ok (.aload i, 2)) (hl : L[i]? = some (some (va_rf o))) (k : V p l e R s m args below meth c Q G b nL cells slots (pc + 2) L (va_rf o :: rest) M) : V p l e R s m args below meth c Q G b nL cells slots pc L rest M := by
  cases o with
  | none => exact fun H locs ls h1 h2 h3 => lv_aloadN C.1.1 C.1.2.1 hd (h3.at hl) (k H locs ls h1 h2 h3)
  | some a => exact fun H locs ls h1 h2 h3 => lv_aload C.1.1 C.1.2.1 hd (h3.at hl) (k H locs ls h1 h2 h3)
theorem V_istore_n (C : Cx p m meth c s args G b own cc nL ret) {k0 : Fin 4} {i : Nat} {x : Int32} {L' : List (Option Value)} (hd : decode cc pc = .ok (.istore_n k0, 1)) (hi : (k0 : Nat) = i) (hn : i < nL) (hL : L.set i (some (.int x)) = L') (k : V p l e R s m args below meth c Q G b nL cells slots (pc + 1) L' rest M) : V p l e R s m args below meth c Q G b nL cells slots pc L (.int x :: rest) M := by
  subst hL
  exact fun H locs ls h1 h2 h3 => lv_istore_n C.1.1 C.1.2.1 hd hi h3.has hn rfl (fun ls' h' => k H locs ls' h1 h2 (h3.store rfl h'))
theorem V_istore (C : Cx p m meth c s args G b own cc nL ret) {i : Nat} {x : Int32} {L' : List (Option Value)} (hd : decode cc pc = .ok (.istore i, 2)) (hn : i < nL) (hL : L.set i (some (.int x)) = L') (k : V p l e R s m args below meth c Q G b nL cells slots (pc + 2) L' rest M) : V p l e R s m args below meth c Q G b nL cells slots pc L (.int x :: rest) M := by
  subst hL
  exact fun H locs ls h1 h2 h3 => lv_istore C.1.1 C.1.2.1 hd h3.has hn rfl (fun ls' h' => k H locs ls' h1 h2 (h3.store rfl h'))
theorem V_astore_n (C : Cx p m meth c s args G b own cc nL ret) {k0 : Fin 4} {i : Nat} {x : Nat} {L' : List (Option Value)} (hd : decode cc pc = .ok (.astore_n k0, 1)) (hi : (k0 : Nat) = i) (hn : i < nL) (hL : L.set i (some (.ref x)) = L') (k : V p l e R s m args below meth c Q G b nL cells slots (pc + 1) L' rest M) : V p l e R s m args below meth c Q G b nL cells slots pc L (.ref x :: rest) M := by
  subst hL
  exact fun H locs ls h1 h2 h3 => lv_astore_n C.1.1 C.1.2.1 hd hi h3.has hn rfl (fun ls' h' => k H locs ls' h1 h2 (h3.store rfl h'))
theorem V_astore (C : Cx p m meth c s args G b own cc nL ret) {i : Nat} {x : Nat} {L' : List (Option Value)} (hd : decode cc pc = .ok (.astore i, 2)) (hn : i < nL) (hL : L.set i (some (.ref x)) = L') (k : V p l e R s m args below meth c Q G b nL cells slots (pc + 2) L' rest M) : V p l e R s m args below meth c Q G b nL cells slots pc L (.ref x :: rest) M := by
  subst hL
  exact fun H locs ls h1 h2 h3 => lv_astore C.1.1 C.1.2.1 hd h3.has hn rfl (fun ls' h' => k H locs ls' h1 h2 (h3.store rfl h'))
theorem V_astore_nq (C : Cx p m meth c s args G b own cc nL ret) {k0 : Fin 4} {i : Nat} {o : Option Nat} {L' : List (Option Value)} (hd : decode cc pc = .ok (.astore_n k0, 1)) (hi : (k0 : Nat) = i) (hn : i < nL) (hL : L.set i (some (va_rf o)) = L') (k : V p l e R s m args below meth c Q G b nL cells slots (pc + 1) L' rest M) : V p l e R s m args below meth c Q G b nL cells slots pc L (va_rf o :: rest) M := by
  subst hL
  cases o with
  | none => exact fun H locs ls h1 h2 h3 => lv_astore_nN C.1.1 C.1.2.1 hd hi h3.has hn rfl (fun ls' h' => k H locs ls' h1 h2 (h3.store rfl h'))
  | some a => exact fun H locs ls h1 h2 h3 => lv_astore_n C.1.1 C.1.2.1 hd hi h3.has hn rfl (fun ls' h' => k H locs ls' h1 h2 (h3.store rfl h'))
theorem V_astoreq (C : Cx p m meth c s args G b own cc nL ret) {i : Nat} {o : Option Nat} {L' : List (Option Value)} (hd : decode cc pc = .ok (.astore i, 2)) (hn : i < nL) (hL : L.set i (some (va_rf o)) = L') (k : V p l e R s m args below meth c Q G b nL cells slots (pc + 2) L' rest M) : V p l e R s m args below meth c Q G b nL cells slots pc L (va_rf o :: rest) M := by
  subst hL
  cases o with
  | none => exact fun H locs ls h1 h2 h3 => lv_astoreN C.1.1 C.1.2.1 hd h3.has hn rfl (fun ls' h' => k H locs ls' h1 h2 (h3.store rfl h'))
  | some a => exact fun H locs ls h1 h2 h3 => lv_astore C.1.1 C.1.2.1 hd h3.has hn rfl (fun ls' h' => k H locs ls' h1 h2 (h3.store rfl h'))
theorem V_iinc (C : Cx p m meth c s args G b own cc nL ret) {i : Nat} {n : Int} {x v : Int32} {L' : List (Option Value)} (hd : decode cc pc = .ok (.iinc i n, 3)) (hl : L[i]? = some (some (.int x))) (hv : x + Int32.ofInt n = v) (hn : i < nL) (hL : L.set i (some (.int v)) = L') (k : V p l e R s m args below meth c Q G b nL cells slots (pc + 3) L' rest M) : V p l e R s m args below meth c Q G b nL cells slots pc L rest M := by
  subst hL
  intro H locs ls h1 h2 h3
  obtain ⟨j, hj⟩ := List.getElem?_of_mem (vl_mem.mpr hl)
  exact lv_iinc C.1.1 C.1.2.1 hd h3.has hj hv hn rfl (fun ls' h' => k H locs ls' h1 h2 (h3.store rfl h'))
theorem V_iadd (C : Cx p m meth c s args G b own cc nL ret) {x y : Int32} (hd : decode cc pc = .ok (.iadd, 1))  (k : V p l e R s m args below meth c Q G b nL cells slots (pc + 1) L (.int (x + y) :: rest) M) : V p l e R s m args below meth c Q G b nL cells slots pc L (.int y :: .int x :: rest) M :=
  fun H locs ls h1 h2 h3 => lv_iadd C.1.1 C.1.2.1 hd (k H locs ls h1 h2 h3)
theorem V_isub (C : Cx p m meth c s args G b own cc nL ret) {x y : Int32} (hd : decode cc pc = .ok (.isub, 1))  (k : V p l e R s m args below meth c Q G b nL cells slots (pc + 1) L (.int (x - y) :: rest) M) : V p l e R s m args below meth c Q G b nL cells slots pc L (.int y :: .int x :: rest) M :=
  fun H locs ls h1 h2 h3 => lv_isub C.1.1 C.1.2.1 hd (k H locs ls h1 h2 h3)
theorem V_imul (C : Cx p m meth c s args G b own cc nL ret) {x y : Int32} (hd : decode cc pc = .ok (.imul, 1))  (k : V p l e R s m args below meth c Q G b nL cells slots (pc + 1) L (.int (x * y) :: rest) M) : V p l e R s m args below meth c Q G b nL cells slots pc L (.int y :: .int x :: rest) M :=
  fun H locs ls h1 h2 h3 => lv_imul C.1.1 C.1.2.1 hd (k H locs ls h1 h2 h3)
theorem V_iand (C : Cx p m meth c s args G b own cc nL ret) {x y : Int32} (hd : decode cc pc = .ok (.iand, 1))  (k : V p l e R s m args below meth c Q G b nL cells slots (pc + 1) L (.int (x &&& y) :: rest) M) : V p l e R s m args below meth c Q G b nL cells slots pc L (.int y :: .int x :: rest) M :=
  fun H locs ls h1 h2 h3 => lv_iand C.1.1 C.1.2.1 hd (k H locs ls h1 h2 h3)
theorem V_ior (C : Cx p m meth c s args G b own cc nL ret) {x y : Int32} (hd : decode cc pc = .ok (.ior, 1))  (k : V p l e R s m args below meth c Q G b nL cells slots (pc + 1) L (.int (x ||| y) :: rest) M) : V p l e R s m args below meth c Q G b nL cells slots pc L (.int y :: .int x :: rest) M :=
  fun H locs ls h1 h2 h3 => lv_ior C.1.1 C.1.2.1 hd (k H locs ls h1 h2 h3)
theorem V_ishl (C : Cx p m meth c s args G b own cc nL ret) {x y : Int32} (hd : decode cc pc = .ok (.ishl, 1))  (k : V p l e R s m args below meth c Q G b nL cells slots (pc + 1) L (.int (x <<< (y &&& 31)) :: rest) M) : V p l e R s m args below meth c Q G b nL cells slots pc L (.int y :: .int x :: rest) M :=
  fun H locs ls h1 h2 h3 => lv_ishl C.1.1 C.1.2.1 hd (k H locs ls h1 h2 h3)
theorem V_ishr (C : Cx p m meth c s args G b own cc nL ret) {x y : Int32} (hd : decode cc pc = .ok (.ishr, 1))  (k : V p l e R s m args below meth c Q G b nL cells slots (pc + 1) L (.int (x >>> (y &&& 31)) :: rest) M) : V p l e R s m args below meth c Q G b nL cells slots pc L (.int y :: .int x :: rest) M :=
  fun H locs ls h1 h2 h3 => lv_ishr C.1.1 C.1.2.1 hd (k H locs ls h1 h2 h3)
theorem V_idiv (C : Cx p m meth c s args G b own cc nL ret) {x y : Int32} (hd : decode cc pc = .ok (.idiv, 1)) (hne : ¬ y = 0) (k : V p l e R s m args below meth c Q G b nL cells slots (pc + 1) L (.int (x / y) :: rest) M) : V p l e R s m args below meth c Q G b nL cells slots pc L (.int y :: .int x :: rest) M :=
  fun H locs ls h1 h2 h3 => lv_idiv C.1.1 C.1.2.1 hd hne (k H locs ls h1 h2 h3)
theorem V_irem (C : Cx p m meth c s args G b own cc nL ret) {x y : Int32} (hd : decode cc pc = .ok (.irem, 1)) (hne : ¬ y = 0) (k : V p l e R s m args below meth c Q G b nL cells slots (pc + 1) L (.int (x - x / y * y) :: rest) M) : V p l e R s m args below meth c Q G b nL cells slots pc L (.int y :: .int x :: rest) M :=
  fun H locs ls h1 h2 h3 => lv_irem C.1.1 C.1.2.1 hd hne (k H locs ls h1 h2 h3)
theorem V_i2c (C : Cx p m meth c s args G b own cc nL ret) {x : Int32} (v : Int32) (hd : decode cc pc = .ok (.i2c, 1)) (hv : (x.toUInt32 % 65536).toInt32 = v) (k : V p l e R s m args below meth c Q G b nL cells slots (pc + 1) L (.int v :: rest) M) : V p l e R s m args below meth c Q G b nL cells slots pc L (.int x :: rest) M :=
  fun H locs ls h1 h2 h3 => lv_i2c C.1.1 C.1.2.1 hd hv (k H locs ls h1 h2 h3)
theorem V_i2b (C : Cx p m meth c s args G b own cc nL ret) {x : Int32} (v : Int32) (hd : decode cc pc = .ok (.i2b, 1)) (hv : x.toInt8.toInt32 = v) (k : V p l e R s m args below meth c Q G b nL cells slots (pc + 1) L (.int v :: rest) M) : V p l e R s m args below meth c Q G b nL cells slots pc L (.int x :: rest) M :=
  fun H locs ls h1 h2 h3 => lv_i2b C.1.1 C.1.2.1 hd hv (k H locs ls h1 h2 h3)
theorem V_dup (C : Cx p m meth c s args G b own cc nL ret) {va : Value} (hd : decode cc pc = .ok (.dup, 1)) (hva : va.category = 1) (k : V p l e R s m args below meth c Q G b nL cells slots (pc + 1) L (va :: va :: rest) M) : V p l e R s m args below meth c Q G b nL cells slots pc L (va :: rest) M :=
  fun H locs ls h1 h2 h3 => lv_dup C.1.1 C.1.2.1 hd hva (k H locs ls h1 h2 h3)
theorem V_pop (C : Cx p m meth c s args G b own cc nL ret) {va : Value} (hd : decode cc pc = .ok (.pop, 1)) (hva : va.category = 1) (k : V p l e R s m args below meth c Q G b nL cells slots (pc + 1) L (rest) M) : V p l e R s m args below meth c Q G b nL cells slots pc L (va :: rest) M :=
  fun H locs ls h1 h2 h3 => lv_pop C.1.1 C.1.2.1 hd hva (k H locs ls h1 h2 h3)
theorem V_dup_x1 (C : Cx p m meth c s args G b own cc nL ret) {va vb : Value} (hd : decode cc pc = .ok (.dup_x1, 1)) (hva : va.category = 1) (hvb : vb.category = 1) (k : V p l e R s m args below meth c Q G b nL cells slots (pc + 1) L (va :: vb :: va :: rest) M) : V p l e R s m args below meth c Q G b nL cells slots pc L (va :: vb :: rest) M :=
  fun H locs ls h1 h2 h3 => lv_dup_x1 C.1.1 C.1.2.1 hd hva hvb (k H locs ls h1 h2 h3)
theorem V_dup2 (C : Cx p m meth c s args G b own cc nL ret) {va vb : Value} (hd : decode cc pc = .ok (.dup2, 1)) (hva : va.category = 1) (hvb : vb.category = 1) (k : V p l e R s m args below meth c Q G b nL cells slots (pc + 1) L (va :: vb :: va :: vb :: rest) M) : V p l e R s m args below meth c Q G b nL cells slots pc L (va :: vb :: rest) M :=
  fun H locs ls h1 h2 h3 => lv_dup2_11 C.1.1 C.1.2.1 hd hva hvb (k H locs ls h1 h2 h3)
theorem V_top {x y : Int32} (h : x = y) (k : V p l e R s m args below meth c Q G b nL cells slots pc L (.int y :: rest) M) : V p l e R s m args below meth c Q G b nL cells slots pc L (.int x :: rest) M := h ▸ k
theorem V_top0 {x : Int32} (k : ∀ y : Int32, y = x → V p l e R s m args below meth c Q G b nL cells slots pc L (.int y :: rest) M) : V p l e R s m args below meth c Q G b nL cells slots pc L (.int x :: rest) M := k x rfl
theorem V_if_eq (C : Cx p m meth c s args G b own cc nL ret) {x : Int32} {off : Int} (tgt : Nat) (hd : decode cc pc = .ok (.ifCond .eq off, 3)) (ht : (pc : Int) + off = (tgt : Int)) (kt : x = 0 → V p l e R s m args below meth c Q G b nL cells slots tgt L rest M) (kf : ¬ x = 0 → V p l e R s m args below meth c Q G b nL cells slots (pc + 3) L rest M) : V p l e R s m args below meth c Q G b nL cells slots pc L (.int x :: rest) M :=
  fun H locs ls h1 h2 h3 => lv_if_eq C.1.1 C.1.2.1 hd ht (fun q => kt q H locs ls h1 h2 h3) (fun q => kf q H locs ls h1 h2 h3)
theorem V_icmp_eq (C : Cx p m meth c s args G b own cc nL ret) {x y : Int32} {off : Int} (tgt : Nat) (hd : decode cc pc = .ok (.if_icmp .eq off, 3)) (ht : (pc : Int) + off = (tgt : Int)) (kt : x = y → V p l e R s m args below meth c Q G b nL cells slots tgt L rest M) (kf : ¬ x = y → V p l e R s m args below meth c Q G b nL cells slots (pc + 3) L rest M) : V p l e R s m args below meth c Q G b nL cells slots pc L (.int y :: .int x :: rest) M :=
  fun H locs ls h1 h2 h3 => lv_icmp_eq C.1.1 C.1.2.1 hd ht (fun q => kt q H locs ls h1 h2 h3) (fun q => kf q H locs ls h1 h2 h3)
theorem V_if_ne (C : Cx p m meth c s args G b own cc nL ret) {x : Int32} {off : Int} (tgt : Nat) (hd : decode cc pc = .ok (.ifCond .ne off, 3)) (ht : (pc : Int) + off = (tgt : Int)) (kt : ¬ x = 0 → V p l e R s m args below meth c Q G b nL cells slots tgt L rest M) (kf : x = 0 → V p l e R s m args below meth c Q G b nL cells slots (pc + 3) L rest M) : V p l e R s m args below meth c Q G b nL cells slots pc L (.int x :: rest) M :=
  fun H locs ls h1 h2 h3 => lv_if_ne C.1.1 C.1.2.1 hd ht (fun q => kt q H locs ls h1 h2 h3) (fun q => kf q H locs ls h1 h2 h3)
theorem V_icmp_ne (C : Cx p m meth c s args G b own cc nL ret) {x y : Int32} {off : Int} (tgt : Nat) (hd : decode cc pc = .ok (.if_icmp .ne off, 3)) (ht : (pc : Int) + off = (tgt : Int)) (kt : ¬ x = y → V p l e R s m args below meth c Q G b nL cells slots tgt L rest M) (kf : x = y → V p l e R s m args below meth c Q G b nL cells slots (pc + 3) L rest M) : V p l e R s m args below meth c Q G b nL cells slots pc L (.int y :: .int x :: rest) M :=
  fun H locs ls h1 h2 h3 => lv_icmp_ne C.1.1 C.1.2.1 hd ht (fun q => kt q H locs ls h1 h2 h3) (fun q => kf q H locs ls h1 h2 h3)
theorem V_if_lt (C : Cx p m meth c s args G b own cc nL ret) {x : Int32} {off : Int} (tgt : Nat) (hd : decode cc pc = .ok (.ifCond .lt off, 3)) (ht : (pc : Int) + off = (tgt : Int)) (kt : x < 0 → V p l e R s m args below meth c Q G b nL cells slots tgt L rest M) (kf : ¬ x < 0 → V p l e R s m args below meth c Q G b nL cells slots (pc + 3) L rest M) : V p l e R s m args below meth c Q G b nL cells slots pc L (.int x :: rest) M :=
  fun H locs ls h1 h2 h3 => lv_if_lt C.1.1 C.1.2.1 hd ht (fun q => kt q H locs ls h1 h2 h3) (fun q => kf q H locs ls h1 h2 h3)
theorem V_icmp_lt (C : Cx p m meth c s args G b own cc nL ret) {x y : Int32} {off : Int} (tgt : Nat) (hd : decode cc pc = .ok (.if_icmp .lt off, 3)) (ht : (pc : Int) + off = (tgt : Int)) (kt : x < y → V p l e R s m args below meth c Q G b nL cells slots tgt L rest M) (kf : ¬ x < y → V p l e R s m args below meth c Q G b nL cells slots (pc + 3) L rest M) : V p l e R s m args below meth c Q G b nL cells slots pc L (.int y :: .int x :: rest) M :=
  fun H locs ls h1 h2 h3 => lv_icmp_lt C.1.1 C.1.2.1 hd ht (fun q => kt q H locs ls h1 h2 h3) (fun q => kf q H locs ls h1 h2 h3)
theorem V_if_ge (C : Cx p m meth c s args G b own cc nL ret) {x : Int32} {off : Int} (tgt : Nat) (hd : decode cc pc = .ok (.ifCond .ge off, 3)) (ht : (pc : Int) + off = (tgt : Int)) (kt : 0 ≤ x → V p l e R s m args below meth c Q G b nL cells slots tgt L rest M) (kf : ¬ 0 ≤ x → V p l e R s m args below meth c Q G b nL cells slots (pc + 3) L rest M) : V p l e R s m args below meth c Q G b nL cells slots pc L (.int x :: rest) M :=
  fun H locs ls h1 h2 h3 => lv_if_ge C.1.1 C.1.2.1 hd ht (fun q => kt q H locs ls h1 h2 h3) (fun q => kf q H locs ls h1 h2 h3)
theorem V_icmp_ge (C : Cx p m meth c s args G b own cc nL ret) {x y : Int32} {off : Int} (tgt : Nat) (hd : decode cc pc = .ok (.if_icmp .ge off, 3)) (ht : (pc : Int) + off = (tgt : Int)) (kt : y ≤ x → V p l e R s m args below meth c Q G b nL cells slots tgt L rest M) (kf : ¬ y ≤ x → V p l e R s m args below meth c Q G b nL cells slots (pc + 3) L rest M) : V p l e R s m args below meth c Q G b nL cells slots pc L (.int y :: .int x :: rest) M :=
  fun H locs ls h1 h2 h3 => lv_icmp_ge C.1.1 C.1.2.1 hd ht (fun q => kt q H locs ls h1 h2 h3) (fun q => kf q H locs ls h1 h2 h3)
theorem V_if_gt (C : Cx p m meth c s args G b own cc nL ret) {x : Int32} {off : Int} (tgt : Nat) (hd : decode cc pc = .ok (.ifCond .gt off, 3)) (ht : (pc : Int) + off = (tgt : Int)) (kt : 0 < x → V p l e R s m args below meth c Q G b nL cells slots tgt L rest M) (kf : ¬ 0 < x → V p l e R s m args below meth c Q G b nL cells slots (pc + 3) L rest M) : V p l e R s m args below meth c Q G b nL cells slots pc L (.int x :: rest) M :=
  fun H locs ls h1 h2 h3 => lv_if_gt C.1.1 C.1.2.1 hd ht (fun q => kt q H locs ls h1 h2 h3) (fun q => kf q H locs ls h1 h2 h3)
theorem V_icmp_gt (C : Cx p m meth c s args G b own cc nL ret) {x y : Int32} {off : Int} (tgt : Nat) (hd : decode cc pc = .ok (.if_icmp .gt off, 3)) (ht : (pc : Int) + off = (tgt : Int)) (kt : y < x → V p l e R s m args below meth c Q G b nL cells slots tgt L rest M) (kf : ¬ y < x → V p l e R s m args below meth c Q G b nL cells slots (pc + 3) L rest M) : V p l e R s m args below meth c Q G b nL cells slots pc L (.int y :: .int x :: rest) M :=
  fun H locs ls h1 h2 h3 => lv_icmp_gt C.1.1 C.1.2.1 hd ht (fun q => kt q H locs ls h1 h2 h3) (fun q => kf q H locs ls h1 h2 h3)
theorem V_if_le (C : Cx p m meth c s args G b own cc nL ret) {x : Int32} {off : Int} (tgt : Nat) (hd : decode cc pc = .ok (.ifCond .le off, 3)) (ht : (pc : Int) + off = (tgt : Int)) (kt : x ≤ 0 → V p l e R s m args below meth c Q G b nL cells slots tgt L rest M) (kf : ¬ x ≤ 0 → V p l e R s m args below meth c Q G b nL cells slots (pc + 3) L rest M) : V p l e R s m args below meth c Q G b nL cells slots pc L (.int x :: rest) M :=
  fun H locs ls h1 h2 h3 => lv_if_le C.1.1 C.1.2.1 hd ht (fun q => kt q H locs ls h1 h2 h3) (fun q => kf q H locs ls h1 h2 h3)
theorem V_icmp_le (C : Cx p m meth c s args G b own cc nL ret) {x y : Int32} {off : Int} (tgt : Nat) (hd : decode cc pc = .ok (.if_icmp .le off, 3)) (ht : (pc : Int) + off = (tgt : Int)) (kt : x ≤ y → V p l e R s m args below meth c Q G b nL cells slots tgt L rest M) (kf : ¬ x ≤ y → V p l e R s m args below meth c Q G b nL cells slots (pc + 3) L rest M) : V p l e R s m args below meth c Q G b nL cells slots pc L (.int y :: .int x :: rest) M :=
  fun H locs ls h1 h2 h3 => lv_icmp_le C.1.1 C.1.2.1 hd ht (fun q => kt q H locs ls h1 h2 h3) (fun q => kf q H locs ls h1 h2 h3)
theorem V_goto (C : Cx p m meth c s args G b own cc nL ret) {off : Int} (tgt : Nat) (hd : decode cc pc = .ok (.goto off, 3)) (ht : (pc : Int) + off = (tgt : Int)) (k : V p l e R s m args below meth c Q G b nL cells slots tgt L rest M) : V p l e R s m args below meth c Q G b nL cells slots pc L rest M :=
  fun H locs ls h1 h2 h3 => lv_goto C.1.1 C.1.2.1 hd ht (k H locs ls h1 h2 h3)
theorem V_ifnull (C : Cx p m meth c s args G b own cc nL ret) {o : Option Nat} {off : Int} (tgt : Nat) (hd : decode cc pc = .ok (.ifnull off, 3)) (ht : (pc : Int) + off = (tgt : Int)) (kt : o = none → V p l e R s m args below meth c Q G b nL cells slots tgt L rest M) (kf : ∀ a, o = some a → V p l e R s m args below meth c Q G b nL cells slots (pc + 3) L rest M) : V p l e R s m args below meth c Q G b nL cells slots pc L (va_rf o :: rest) M := by
  cases o with
  | none => exact fun H locs ls h1 h2 h3 => lv_ifnullN C.1.1 C.1.2.1 hd ht (kt rfl H locs ls h1 h2 h3)
  | some a => exact fun H locs ls h1 h2 h3 => lv_ifnull C.1.1 C.1.2.1 hd (kf a rfl H locs ls h1 h2 h3)
theorem V_ifnonnull (C : Cx p m meth c s args G b own cc nL ret) {o : Option Nat} {off : Int} (tgt : Nat) (hd : decode cc pc = .ok (.ifnonnull off, 3)) (ht : (pc : Int) + off = (tgt : Int)) (kt : ∀ a, o = some a → V p l e R s m args below meth c Q G b nL cells slots tgt L rest M) (kf : o = none → V p l e R s m args below meth c Q G b nL cells slots (pc + 3) L rest M) : V p l e R s m args below meth c Q G b nL cells slots pc L (va_rf o :: rest) M := by
  cases o with
  | none => exact fun H locs ls h1 h2 h3 => lv_ifnonnullN C.1.1 C.1.2.1 hd (kf rfl H locs ls h1 h2 h3)
  | some a => exact fun H locs ls h1 h2 h3 => lv_ifnonnull C.1.1 C.1.2.1 hd ht (kt a rfl H locs ls h1 h2 h3)
theorem V_acmp_eq (C : Cx p m meth c s args G b own cc nL ret) {rx ry : Option Nat} {off : Int} (tgt : Nat) (hd : decode cc pc = .ok (.if_acmp .eq off, 3)) (ht : (pc : Int) + off = (tgt : Int)) (kt : rx = ry → V p l e R s m args below meth c Q G b nL cells slots tgt L rest M) (kf : ¬ rx = ry → V p l e R s m args below meth c Q G b nL cells slots (pc + 3) L rest M) : V p l e R s m args below meth c Q G b nL cells slots pc L (va_rf ry :: va_rf rx :: rest) M :=
  fun H locs ls h1 h2 h3 => lv_acmp_eq C.1.1 C.1.2.1 hd ht (fun q => kt q H locs ls h1 h2 h3) (fun q => kf q H locs ls h1 h2 h3)
theorem V_acmp_ne (C : Cx p m meth c s args G b own cc nL ret) {rx ry : Option Nat} {off : Int} (tgt : Nat) (hd : decode cc pc = .ok (.if_acmp .ne off, 3)) (ht : (pc : Int) + off = (tgt : Int)) (kt : ¬ rx = ry → V p l e R s m args below meth c Q G b nL cells slots tgt L rest M) (kf : rx = ry → V p l e R s m args below meth c Q G b nL cells slots (pc + 3) L rest M) : V p l e R s m args below meth c Q G b nL cells slots pc L (va_rf ry :: va_rf rx :: rest) M :=
  fun H locs ls h1 h2 h3 => lv_acmp_ne C.1.1 C.1.2.1 hd ht (fun q => kt q H locs ls h1 h2 h3) (fun q => kf q H locs ls h1 h2 h3)
theorem V_widen {k n : Nat} (h1 : cells ≤ k) (h2 : slots ≤ n) (kk : V p l e R s m args below meth c Q G b nL k n pc L rest M) : V p l e R s m args below meth c Q G b nL cells slots pc L rest M :=
  fun H locs ls a1 a2 a3 => W.widen h1 h2 (kk H locs ls a1 a2 a3)
theorem V_tableIn (C : Cx p m meth c s args G b own cc nL ret) {dflt lo hi : Int} {offs : Array Int} {len : Nat} {x : Int32} {off : Int} (tgt : Nat) (hd : decode cc pc = .ok (.tableswitch dflt lo hi offs, len)) (g1 : ¬ x.toInt < lo) (g2 : ¬ hi < x.toInt) (ho : offs[(x.toInt - lo).toNat]? = some off) (ht : (pc : Int) + off = (tgt : Int)) (k : V p l e R s m args below meth c Q G b nL cells slots tgt L rest M) : V p l e R s m args below meth c Q G b nL cells slots pc L (.int x :: rest) M :=
  fun H locs ls h1 h2 h3 => lv_tableIn C.1.1 C.1.2.1 hd g1 g2 ho ht (k H locs ls h1 h2 h3)
theorem V_tableOut (C : Cx p m meth c s args G b own cc nL ret) {dflt lo hi : Int} {offs : Array Int} {len : Nat} {x : Int32} (tgt : Nat) (hd : decode cc pc = .ok (.tableswitch dflt lo hi offs, len)) (h : x.toInt < lo ∨ hi < x.toInt) (ht : (pc : Int) + dflt = (tgt : Int)) (k : V p l e R s m args below meth c Q G b nL cells slots tgt L rest M) : V p l e R s m args below meth c Q G b nL cells slots pc L (.int x :: rest) M :=
  fun H locs ls h1 h2 h3 => lv_tableOut C.1.1 C.1.2.1 hd h ht (k H locs ls h1 h2 h3)
theorem V_get (C : Cx p m meth c s args G b own cc nL ret) {C0 : String} {T : u_T} {N ci index a : Nat} {ref : String} {lab : mp_L} {fs : List Value} {v : Value} (k0 : Nat) (hin : ∀ w ∈ u_ws C0 T N, w ∈ lw_all) (hc : clL[ci]? = some (C0, T, N)) (hM : M a = some (lab, .inr (ci, fs))) (hk : k0 < N) (hlink : Cond.fieldLink own index ref (T k0).2.1 (T k0).2.2.1 ∈ lw_all) (hsame : ∀ x, s.fieldFound? (T k0).1 (T k0).2.1 (T k0).2.2.1 = some x → s.fieldFound? ref (T k0).2.1 (T k0).2.2.1 = some x) (hv : fs[k0]? = some v) (hd : decode cc pc = .ok (.getfield index, 3)) (k : V p l e R s m args below meth c Q G b nL cells slots (pc + 3) L (v :: rest) M) : V p l e R s m args below meth c Q G b nL cells slots pc L (.ref a :: rest) M := by
  intro H locs ls h1 h2 h3
  have h1' := h1
  obtain ⟨ws, g1, g2, g3⟩ := h1'
  obtain ⟨q0, hq⟩ := List.getElem?_of_mem (g3 a _ hM)
  exact va_get C.1.1 C.1.2.1 C.1.2.2.2.2 hin C.1.2.2.2.1 C.2.2.2.1.1 g1 q0 hq hc k0 hk (C.1.2.2.2.2 _ hlink) hsame hv hd (k H locs ls h1 h2 h3)
theorem V_getN (C : Cx p m meth c s args G b own cc nL ret) {C0 host : String} {T : u_T} {N ci index a : Nat} {ref : String} {lab : mp_L} {fs : List Value} {v : Value} (k0 : Nat) (hin : ∀ w ∈ u_ws C0 T N, w ∈ lw_all) (hc : clL[ci]? = some (C0, T, N)) (hM : M a = some (lab, .inr (ci, fs))) (hk : k0 < N) (hlink : Cond.fieldLinkNest own index ref (T k0).2.1 (T k0).2.2.1 host ∈ evN) (hsame : ∀ x, s.fieldFound? (T k0).1 (T k0).2.1 (T k0).2.2.1 = some x → s.fieldFound? ref (T k0).2.1 (T k0).2.2.1 = some x) (hv : fs[k0]? = some v) (hd : decode cc pc = .ok (.getfield index, 3)) (k : V p l e R s m args below meth c Q G b nL cells slots (pc + 3) L (v :: rest) M) : V p l e R s m args below meth c Q G b nL cells slots pc L (.ref a :: rest) M := by
  intro H locs ls h1 h2 h3
  have h1' := h1
  obtain ⟨ws, g1, g2, g3⟩ := h1'
  obtain ⟨q0, hq⟩ := List.getElem?_of_mem (g3 a _ hM)
  exact va_getN C.1.1 C.1.2.1 C.1.2.2.2.2 hin C.1.2.2.2.1 C.2.2.2.1.1 g1 q0 hq hc k0 hk (va_Nw.use rfl (C.2.2.2.1.2.1 _ hlink)) hsame hv hd (k H locs ls h1 h2 h3)
theorem V_put (C : Cx p m meth c s args G b own cc nL ret) {C0 host : String} {T : u_T} {N ci index a : Nat} {ref : String} {lab : mp_L} {fs fs' : List Value} {v : Value} {ty : FieldType} (k0 : Nat) (hin : ∀ w ∈ u_ws C0 T N, w ∈ lw_all) (ty0 : Nat → FieldType) (hty : ∀ k, k < N → parseFieldDescriptor (T k).2.2.1 = some (ty0 k)) (hnm : ∀ a, a < N → ∀ b, b < N → a ≠ b → (T a).2.1 ≠ (T b).2.1) (hc : clL[ci]? = some (C0, T, N)) (hM : M a = some (lab, .inr (ci, fs))) (hk : k0 < N) (hlink : Cond.fieldLink own index ref (T k0).2.1 (T k0).2.2.1 ∈ lw_all) (hsame : ∀ x, s.fieldFound? (T k0).1 (T k0).2.1 (T k0).2.2.1 = some x → s.fieldFound? ref (T k0).2.1 (T k0).2.2.1 = some x) (hfin : (T k0).2.2.2 = false) (hde : ty0 k0 = ty) (hn : narrow ty v = v) (hfit : fits ty v = true) (hl : k0 < fs.length) (hfs : fs.set k0 v = fs') (hd : decode cc pc = .ok (.putfield index, 3)) (k : V p l e R s m args below meth c Q G b nL cells slots (pc + 3) L rest (mp_up M a (lab, .inr (ci, fs')))) : V p l e R s m args below meth c Q G b nL cells slots pc L (v :: .ref a :: rest) M := by
  intro H locs ls h1 h2 h3
  obtain ⟨ws, g1, g2, g3⟩ := h1
  obtain ⟨q0, hq⟩ := List.getElem?_of_mem (g3 a _ hM)
  subst hfs
  subst hde
  exact va_put C.1.1 C.1.2.1 C.1.2.2.2.2 hin ty0 hty hnm C.1.2.2.2.1 C.2.2.2.1.1 g1 g2 h2 q0 hq hc k0 hk (C.1.2.2.2.2 _ hlink) hsame hfin (hty k0 hk) hn hfit hl hd (fun H1 locs1 e1 e2 e3 => k H1 locs1 ls ⟨_, e1, e2, hd_set hq g3⟩ e3 h3)
theorem V_putN (C : Cx p m meth c s args G b own cc nL ret) {C0 host : String} {T : u_T} {N ci index a : Nat} {ref : String} {lab : mp_L} {fs fs' : List Value} {v : Value} {ty : FieldType} (k0 : Nat) (hin : ∀ w ∈ u_ws C0 T N, w ∈ lw_all) (ty0 : Nat → FieldType) (hty : ∀ k, k < N → parseFieldDescriptor (T k).2.2.1 = some (ty0 k)) (hnm : ∀ a, a < N → ∀ b, b < N → a ≠ b → (T a).2.1 ≠ (T b).2.1) (hc : clL[ci]? = some (C0, T, N)) (hM : M a = some (lab, .inr (ci, fs))) (hk : k0 < N) (hlink : Cond.fieldLinkNest own index ref (T k0).2.1 (T k0).2.2.1 host ∈ evN) (hsame : ∀ x, s.fieldFound? (T k0).1 (T k0).2.1 (T k0).2.2.1 = some x → s.fieldFound? ref (T k0).2.1 (T k0).2.2.1 = some x) (hfin : (T k0).2.2.2 = false) (hde : ty0 k0 = ty) (hn : narrow ty v = v) (hfit : fits ty v = true) (hl : k0 < fs.length) (hfs : fs.set k0 v = fs') (hd : decode cc pc = .ok (.putfield index, 3)) (k : V p l e R s m args below meth c Q G b nL cells slots (pc + 3) L rest (mp_up M a (lab, .inr (ci, fs')))) : V p l e R s m args below meth c Q G b nL cells slots pc L (v :: .ref a :: rest) M := by
  intro H locs ls h1 h2 h3
  obtain ⟨ws, g1, g2, g3⟩ := h1
  obtain ⟨q0, hq⟩ := List.getElem?_of_mem (g3 a _ hM)
  subst hfs
  subst hde
  exact va_putN C.1.1 C.1.2.1 C.1.2.2.2.2 hin ty0 hty hnm C.1.2.2.2.1 C.2.2.2.1.1 g1 g2 h2 q0 hq hc k0 hk (va_Nw.use rfl (C.2.2.2.1.2.1 _ hlink)) hsame hfin (hty k0 hk) hn hfit hl hd (fun H1 locs1 e1 e2 e3 => k H1 locs1 ls ⟨_, e1, e2, hd_set hq g3⟩ e3 h3)
theorem V_putF (C : Cx p m meth c s args G b own cc nL ret) {C0 host : String} {T : u_T} {N ci index a : Nat} {ref : String} {lab : mp_L} {fs fs' : List Value} {v : Value} {ty : FieldType} (k0 : Nat) (hin : ∀ w ∈ u_ws C0 T N, w ∈ lw_all) (ty0 : Nat → FieldType) (hty : ∀ k, k < N → parseFieldDescriptor (T k).2.2.1 = some (ty0 k)) (hnm : ∀ a, a < N → ∀ b, b < N → a ≠ b → (T a).2.1 ≠ (T b).2.1) (hc : clL[ci]? = some (C0, T, N)) (hM : M a = some (lab, .inr (ci, fs))) (hk : k0 < N) (hlink : Cond.fieldLink own index ref (T k0).2.1 (T k0).2.2.1 ∈ lw_all) (hsame : ∀ x, s.fieldFound? (T k0).1 (T k0).2.1 (T k0).2.2.1 = some x → s.fieldFound? ref (T k0).2.1 (T k0).2.2.1 = some x) (hfin : (T k0).2.2.2 = true) (hin2 : meth.name = "<init>") (hdecl : (T k0).1 = own) (hde : ty0 k0 = ty) (hn : narrow ty v = v) (hfit : fits ty v = true) (hl : k0 < fs.length) (hfs : fs.set k0 v = fs') (hd : decode cc pc = .ok (.putfield index, 3)) (k : V p l e R s m args below meth c Q G b nL cells slots (pc + 3) L rest (mp_up M a (lab, .inr (ci, fs')))) : V p l e R s m args below meth c Q G b nL cells slots pc L (v :: .ref a :: rest) M := by
  intro H locs ls h1 h2 h3
  obtain ⟨ws, g1, g2, g3⟩ := h1
  obtain ⟨q0, hq⟩ := List.getElem?_of_mem (g3 a _ hM)
  subst hfs
  subst hde
  exact va_putF C.1.1 C.1.2.1 C.1.2.2.2.2 hin ty0 hty hnm C.1.2.2.2.1 C.2.2.2.1.1 g1 g2 h2 q0 hq hc k0 hk (C.1.2.2.2.2 _ hlink) hsame hfin hin2 hdecl (hty k0 hk) hn hfit hl hd (fun H1 locs1 e1 e2 e3 => k H1 locs1 ls ⟨_, e1, e2, hd_set hq g3⟩ e3 h3)
theorem V_iald (C : Cx p m meth c s args G b own cc nL ret) {a n : Nat} {f : Nat → Int32} {lab : mp_L} {i : Int32} (hM : M a = some (lab, .inl (G.2.1 0, n, .inl f))) (hi : vp_in i n) (hd : decode cc pc = .ok (.iaload, 1)) (k : V p l e R s m args below meth c Q G b nL cells slots (pc + 1) L (.int (f i.toNatClampNeg) :: rest) M) : V p l e R s m args below meth c Q G b nL cells slots pc L (.int i :: .ref a :: rest) M := by
  intro H locs ls h1 h2 h3
  have h1' := h1
  obtain ⟨ws, g1, g2, g3⟩ := h1'
  obtain ⟨q0, hq⟩ := List.getElem?_of_mem (g3 a _ hM)
  exact va_iald C.1.1 C.1.2.1 C.2.2.2.1.1 g1 q0 0 hq rfl hi hd (k H locs ls h1 h2 h3)
theorem V_zald (C : Cx p m meth c s args G b own cc nL ret) {a n : Nat} {f : Nat → Int32} {lab : mp_L} {i : Int32} (hM : M a = some (lab, .inl (G.2.1 1, n, .inl f))) (hi : vp_in i n) (hd : decode cc pc = .ok (.baload, 1)) (k : V p l e R s m args below meth c Q G b nL cells slots (pc + 1) L (.int (f i.toNatClampNeg) :: rest) M) : V p l e R s m args below meth c Q G b nL cells slots pc L (.int i :: .ref a :: rest) M := by
  intro H locs ls h1 h2 h3
  have h1' := h1
  obtain ⟨ws, g1, g2, g3⟩ := h1'
  obtain ⟨q0, hq⟩ := List.getElem?_of_mem (g3 a _ hM)
  exact va_zald C.1.1 C.1.2.1 C.2.2.2.1.1 g1 q0 1 hq rfl hi hd (k H locs ls h1 h2 h3)
theorem V_bald (C : Cx p m meth c s args G b own cc nL ret) {a n : Nat} {f : Nat → Int32} {lab : mp_L} {i : Int32} (hM : M a = some (lab, .inl (G.2.1 2, n, .inl f))) (hi : vp_in i n) (hd : decode cc pc = .ok (.baload, 1)) (k : V p l e R s m args below meth c Q G b nL cells slots (pc + 1) L (.int (f i.toNatClampNeg) :: rest) M) : V p l e R s m args below meth c Q G b nL cells slots pc L (.int i :: .ref a :: rest) M := by
  intro H locs ls h1 h2 h3
  have h1' := h1
  obtain ⟨ws, g1, g2, g3⟩ := h1'
  obtain ⟨q0, hq⟩ := List.getElem?_of_mem (g3 a _ hM)
  exact va_bald C.1.1 C.1.2.1 C.2.2.2.1.1 g1 q0 2 hq rfl hi hd (k H locs ls h1 h2 h3)
theorem V_iast (C : Cx p m meth c s args G b own cc nL ret) {a n : Nat} {f : Nat → Int32} {lab : mp_L} {i x : Int32} (hM : M a = some (lab, .inl (G.2.1 0, n, .inl f))) (hi : vp_in i n) (hd : decode cc pc = .ok (.iastore, 1)) (k : V p l e R s m args below meth c Q G b nL cells slots (pc + 1) L rest (mp_up M a (lab, .inl (G.2.1 0, n, .inl (upd f i.toNatClampNeg x))))) : V p l e R s m args below meth c Q G b nL cells slots pc L (.int x :: .int i :: .ref a :: rest) M := by
  intro H locs ls h1 h2 h3
  obtain ⟨ws, g1, g2, g3⟩ := h1
  obtain ⟨q0, hq⟩ := List.getElem?_of_mem (g3 a _ hM)
  exact va_iast C.1.1 C.1.2.1 C.2.2.2.1.1 g1 g2 h2 q0 0 hq rfl hi hd (fun H1 locs1 e1 e2 e3 => k H1 locs1 ls ⟨_, e1, e2, hd_set hq g3⟩ e3 h3)
theorem V_zast (C : Cx p m meth c s args G b own cc nL ret) {a n : Nat} {f : Nat → Int32} {lab : mp_L} {i x : Int32} (hM : M a = some (lab, .inl (G.2.1 1, n, .inl f))) (hi : vp_in i n) (hd : decode cc pc = .ok (.bastore, 1)) (k : V p l e R s m args below meth c Q G b nL cells slots (pc + 1) L rest (mp_up M a (lab, .inl (G.2.1 1, n, .inl (upd f i.toNatClampNeg (vp_nar .boolean x)))))) : V p l e R s m args below meth c Q G b nL cells slots pc L (.int x :: .int i :: .ref a :: rest) M := by
  intro H locs ls h1 h2 h3
  obtain ⟨ws, g1, g2, g3⟩ := h1
  obtain ⟨q0, hq⟩ := List.getElem?_of_mem (g3 a _ hM)
  exact va_zast C.1.1 C.1.2.1 C.2.2.2.1.1 g1 g2 h2 q0 1 hq rfl hi hd (fun H1 locs1 e1 e2 e3 => k H1 locs1 ls ⟨_, e1, e2, hd_set hq g3⟩ e3 h3)
theorem V_bast (C : Cx p m meth c s args G b own cc nL ret) {a n : Nat} {f : Nat → Int32} {lab : mp_L} {i x : Int32} (hM : M a = some (lab, .inl (G.2.1 2, n, .inl f))) (hi : vp_in i n) (hd : decode cc pc = .ok (.bastore, 1)) (k : V p l e R s m args below meth c Q G b nL cells slots (pc + 1) L rest (mp_up M a (lab, .inl (G.2.1 2, n, .inl (upd f i.toNatClampNeg (vp_nar .byte x)))))) : V p l e R s m args below meth c Q G b nL cells slots pc L (.int x :: .int i :: .ref a :: rest) M := by
  intro H locs ls h1 h2 h3
  obtain ⟨ws, g1, g2, g3⟩ := h1
  obtain ⟨q0, hq⟩ := List.getElem?_of_mem (g3 a _ hM)
  exact va_bast C.1.1 C.1.2.1 C.2.2.2.1.1 g1 g2 h2 q0 2 hq rfl hi hd (fun H1 locs1 e1 e2 e3 => k H1 locs1 ls ⟨_, e1, e2, hd_set hq g3⟩ e3 h3)
theorem V_aald (C : Cx p m meth c s args G b own cc nL ret) {a n : Nat} {f : Nat → Option Nat} {lab : mp_L} {i : Int32} {E : String} (ti : Nat) (ht : (tyL G)[ti]? = some (G.2.1 ti, .object E)) (hM : M a = some (lab, .inl (G.2.1 ti, n, .inr (.inr (.inr (.inr f)))))) (hi : vp_in i n) (hd : decode cc pc = .ok (.aaload, 1)) (k : V p l e R s m args below meth c Q G b nL cells slots (pc + 1) L (va_rf (f i.toNatClampNeg) :: rest) M) : V p l e R s m args below meth c Q G b nL cells slots pc L (.int i :: .ref a :: rest) M := by
  intro H locs ls h1 h2 h3
  have h1' := h1
  obtain ⟨ws, g1, g2, g3⟩ := h1'
  obtain ⟨q0, hq⟩ := List.getElem?_of_mem (g3 a _ hM)
  exact va_aldq C.1.1 C.1.2.1 C.2.2.2.1.1 g1 q0 ti hq ht hi hd (k H locs ls h1 h2 h3)
theorem V_alen (C : Cx p m meth c s args G b own cc nL ret) {a ti n : Nat} {y : (Nat → Int32) ⊕ (Nat → Int64) ⊕ (Nat → UInt32) ⊕ (Nat → UInt64) ⊕ (Nat → Option Nat)} {lab : mp_L} {ty : FieldType} (ht : (tyL G)[ti]? = some (G.2.1 ti, ty)) (hM : M a = some (lab, .inl (G.2.1 ti, n, y))) (hd : decode cc pc = .ok (.arraylength, 1)) (k : V p l e R s m args below meth c Q G b nL cells slots (pc + 1) L (.int (nI n) :: rest) M) : V p l e R s m args below meth c Q G b nL cells slots pc L (.ref a :: rest) M := by
  intro H locs ls h1 h2 h3
  have h1' := h1
  obtain ⟨ws, g1, g2, g3⟩ := h1'
  obtain ⟨q0, hq⟩ := List.getElem?_of_mem (g3 a _ hM)
  exact va_alen C.1.1 C.1.2.1 C.2.2.2.1.1 g1 q0 ti hq ht rfl hd (k H locs ls h1 h2 h3)
/-- a store of an element: an object of the array's own class -/
theorem V_aast (C : Cx p m meth c s args G b own cc nL ret) {a n ti ci v : Nat} {f : Nat → Option Nat} {lab labv : mp_L} {i : Int32} {r : vw_C} {vs : List Value} (ht : (tyL G)[ti]? = some (G.2.1 ti, .object r.1)) (hM : M a = some (lab, .inl (G.2.1 ti, n, .inr (.inr (.inr (.inr f)))))) (hv : M v = some (labv, .inr (ci, vs))) (hc : clL[ci]? = some r) (hi : vp_in i n) (hd : decode cc pc = .ok (.aastore, 1)) (k : V p l e R s m args below meth c Q G b nL cells slots (pc + 1) L rest (mp_up M a (lab, .inl (G.2.1 ti, n, .inr (.inr (.inr (.inr (va_up f i.toNatClampNeg (some v)))))))) ) : V p l e R s m args below meth c Q G b nL cells slots pc L (.ref v :: .int i :: .ref a :: rest) M := by
  intro H locs ls h1 h2 h3
  obtain ⟨ws, g1, g2, g3⟩ := h1
  obtain ⟨q0, hq⟩ := List.getElem?_of_mem (g3 a _ hM)
  obtain ⟨q1, hq1⟩ := List.getElem?_of_mem (g3 v _ hv)
  exact va_astq C.1.1 C.1.2.1 C.2.2.2.1.1 g1 g2 h2 q0 ti q1 ci hq ht hq1 hc hi hd (fun H1 locs1 e1 e2 e3 => k H1 locs1 ls ⟨_, e1, e2, hd_set hq g3⟩ e3 h3)
theorem V_aastN (C : Cx p m meth c s args G b own cc nL ret) {a n ti : Nat} {f : Nat → Option Nat} {lab : mp_L} {i : Int32} {E : String} (ht : (tyL G)[ti]? = some (G.2.1 ti, .object E)) (hM : M a = some (lab, .inl (G.2.1 ti, n, .inr (.inr (.inr (.inr f)))))) (hi : vp_in i n) (hd : decode cc pc = .ok (.aastore, 1)) (k : V p l e R s m args below meth c Q G b nL cells slots (pc + 1) L rest (mp_up M a (lab, .inl (G.2.1 ti, n, .inr (.inr (.inr (.inr (va_up f i.toNatClampNeg none))))))) ) : V p l e R s m args below meth c Q G b nL cells slots pc L (.null :: .int i :: .ref a :: rest) M := by
  intro H locs ls h1 h2 h3
  obtain ⟨ws, g1, g2, g3⟩ := h1
  obtain ⟨q0, hq⟩ := List.getElem?_of_mem (g3 a _ hM)
  exact va_astqN C.1.1 C.1.2.1 C.2.2.2.1.1 g1 g2 h2 q0 ti hq ht hi hd (fun H1 locs1 e1 e2 e3 => k H1 locs1 ls ⟨_, e1, e2, hd_set hq g3⟩ e3 h3)
/-- a store into an Object[]: any object of ours -/
theorem V_aastM (C : Cx p m meth c s args G b own cc nL ret) {a n ci v : Nat} {f : Nat → Option Nat} {lab labv : mp_L} {i : Int32} {r : vw_C} {vs : List Value} (hM : M a = some (lab, .inl (G.2.1 3, n, .inr (.inr (.inr (.inr f)))))) (hv : M v = some (labv, .inr (ci, vs))) (hc : clL[ci]? = some r) (hcast : Cond.castable r.1 "java/lang/Object" ∈ evN) (hi : vp_in i n) (hd : decode cc pc = .ok (.aastore, 1)) (k : V p l e R s m args below meth c Q G b nL cells slots (pc + 1) L rest (mp_up M a (lab, .inl (G.2.1 3, n, .inr (.inr (.inr (.inr (va_up f i.toNatClampNeg (some v)))))))) ) : V p l e R s m args below meth c Q G b nL cells slots pc L (.ref v :: .int i :: .ref a :: rest) M := by
  intro H locs ls h1 h2 h3
  obtain ⟨ws, g1, g2, g3⟩ := h1
  obtain ⟨q0, hq⟩ := List.getElem?_of_mem (g3 a _ hM)
  obtain ⟨q1, hq1⟩ := List.getElem?_of_mem (g3 v _ hv)
  obtain ⟨c0, t0, f1, f2, f3⟩ := Cond.castable_spec (va_Nw.use (A := args) rfl (C.2.2.2.1.2.1 _ hcast))
  exact va_astqM C.1.1 C.1.2.1 C.2.2.2.1.1 g1 g2 h2 q0 3 hq rfl (va_rAny C.2.2.2.1.1 g1 hq1 hc (fun comp c1 e1 e2 => by cases f1.symm.trans e2; cases f2.symm.trans e1; exact f3)) hi hd (fun H1 locs1 e1 e2 e3 => k H1 locs1 ls ⟨_, e1, e2, hd_set hq g3⟩ e3 h3)
theorem V_new (C : Cx p m meth c s args G b own cc nL ret) {C0 : String} {T : u_T} {N ci index : Nat} {fs : List Value} (lab : mp_L) (hin : ∀ w ∈ u_ws C0 T N, w ∈ lw_all) (ty0 : Nat → FieldType) (hty : ∀ k, k < N → parseFieldDescriptor (T k).2.2.1 = some (ty0 k)) (hcl : Cond.classLink own index C0 ∈ lw_all) (hins : Cond.instantiable C0 N ∈ lw_all) (hini : Cond.initialized C0 ∈ lw_all) (hc : clL[ci]? = some (C0, T, N)) (hfs : ∀ j, j < N → defaultValue (ty0 j) = vp_V fs j) (hcells : cells + 1 ≤ R.cells) (hslots : slots + N ≤ R.slots) (hd : decode cc pc = .ok (.new index, 3)) (k : ∀ q : Nat, M q = none → V p l e R s m args below meth c Q G b nL (cells + 1) (slots + N) (pc + 3) L (.ref q :: rest) (mp_up M q (lab, .inr (ci, fs)))) : V p l e R s m args below meth c Q G b nL cells slots pc L rest M := by
  intro H locs ls h1 h2 h3
  obtain ⟨ws, g1, g2, g3⟩ := h1
  exact va_new C.1.1 C.1.2.1 C.1.2.2.2.2 hin ty0 hty C.1.2.2.2.1 (C.1.2.2.2.2 _ hcl) (C.1.2.2.2.2 _ hins) (C.1.2.2.2.2 _ hini) C.2.2.2.1.1 g1 g2 h2 (fun q hq => Nat.le_trans C.2.2.2.2 hq) hc hfs hcells hslots hd (fun q H1 e1 e2 e3 => k q (hd_none e2 g3) H1 locs ls ⟨_, e1, e2, hd_push g3⟩ e3 h3)
theorem tyK {ti : Nat} {ty : FieldType} {cA : ClassId} (hK : va_K G.1 clL (tyL G) s) (ht : (tyL G)[ti]? = some (G.2.1 ti, ty)) (h : va_RA s cA ty) : cA = G.2.1 ti := by
  have h2 := (hK.2 ti _ ht).2
  cases ty with
  | object C0 =>
    obtain ⟨_, _, _, _, _, e1⟩ := h
    obtain ⟨_, _, _, _, _, e2⟩ := h2
    exact Option.some.inj (e1.symm.trans e2)
  | _ => exact Option.some.inj ((show s.vm.findClass _ = some cA from h).symm.trans (show s.vm.findClass _ = some _ from h2))
theorem tyLast {cA : ClassId} {ty : FieldType} (h : va_K G.1 clL (tyL G ++ [(cA, ty)]) s) : va_RA s cA ty := (h.2 6 (cA, ty) rfl).2
theorem V_newa (C : Cx p m meth c s args G b own cc nL ret) {atype : ArrayType} {ti : Nat} {ty : FieldType} {n : Int32} (N0 : Nat) (lab : mp_L) (harr : Cond.arrayClass (newarray.typeOf atype) ∈ lw_all) (hty : newarray.typeOf atype = ty) (ht : (tyL G)[ti]? = some (G.2.1 ti, ty)) (hdf : defaultValue ty = .int 0) (hn : ¬ n < 0) (hN : n.toNatClampNeg = N0) (hbytes : N0 * componentBytes ty ≤ 536870912) (hcells : cells + 1 ≤ R.cells) (hslots : slots + N0 ≤ R.slots) (hd : decode cc pc = .ok (.newarray atype, 2)) (k : ∀ q : Nat, M q = none → V p l e R s m args below meth c Q G b nL (cells + 1) (slots + N0) (pc + 2) L (.ref q :: rest) (mp_up M q (lab, .inl (G.2.1 ti, N0, .inl (fun _ => 0))))) : V p l e R s m args below meth c Q G b nL cells slots pc L (.int n :: rest) M := by
  intro H locs ls h1 h2 h3
  obtain ⟨ws, g1, g2, g3⟩ := h1
  refine va_newa (a0 := (N0, .inl (fun _ => 0))) C.1.1 C.1.2.1 (C.1.2.2.2.2 _ harr) hty C.2.2.2.1.1 g1 g2 h2 (fun q hq => Nat.le_trans C.2.2.2.2 hq) (fun cA => by rw [vp_cell_i, hdf]) hn hN hbytes hcells hslots hd (fun q cA H1 eK e1 e2 e3 => ?_)
  have hcA := tyK C.2.2.2.1.1 ht (tyLast eK)
  subst hcA
  exact k q (hd_none e2 g3) H1 locs ls ⟨_, e1, e2, hd_push g3⟩ e3 h3
theorem V_newq (C : Cx p m meth c s args G b own cc nL ret) {index ti : Nat} {E : String} {n : Int32} (N0 : Nat) (lab : mp_L) (hcl : Cond.classLink own index E ∈ lw_all) (hover : va_AO E s) (ht : (tyL G)[ti]? = some (G.2.1 ti, .object E)) (hn : ¬ n < 0) (hN : n.toNatClampNeg = N0) (hbytes : N0 * 4 ≤ 536870912) (hcells : cells + 1 ≤ R.cells) (hslots : slots + N0 ≤ R.slots) (hd : decode cc pc = .ok (.anewarray index, 3)) (k : ∀ q : Nat, M q = none → V p l e R s m args below meth c Q G b nL (cells + 1) (slots + N0) (pc + 3) L (.ref q :: rest) (mp_up M q (lab, .inl (G.2.1 ti, N0, .inr (.inr (.inr (.inr (fun _ => none)))))))) : V p l e R s m args below meth c Q G b nL cells slots pc L (.int n :: rest) M := by
  intro H locs ls h1 h2 h3
  obtain ⟨ws, g1, g2, g3⟩ := h1
  refine va_newq C.1.1 C.1.2.1 C.1.2.2.2.1 (C.1.2.2.2.2 _ hcl) hover C.2.2.2.1.1 g1 g2 h2 (fun q hq => Nat.le_trans C.2.2.2.2 hq) hn hN hbytes hcells hslots hd (fun q cA H1 eK e1 e2 e3 => ?_)
  have hcA := tyK C.2.2.2.1.1 ht (tyLast eK)
  subst hcA
  exact k q (hd_none e2 g3) H1 locs ls ⟨_, e1, e2, hd_push g3⟩ e3 h3
/-- what a call or a cast asks of a receiver -/
theorem hd_recv (hK : va_K G.1 clL (tyL G) s) {H : Heap} (hH : Hd G b M H) {a ci : Nat} {lab : mp_L} {fs : List Value} {r : vw_C} (hM : M a = some (lab, .inr (ci, fs))) (hc : clL[ci]? = some r) : ∃ cell : Cell, H[a]? = some cell ∧ cell.vm.isStatics = false ∧ s.vm.findClass r.1 = some cell.cls := by
  obtain ⟨ws, g1, g2, g3⟩ := hH
  obtain ⟨q0, hq⟩ := List.getElem?_of_mem (g3 a _ hM)
  exact va_recv hK g1 hc hq
/-- checkcast: null, or an object of that very class -/
theorem V_castS (C : Cx p m meth c s args G b own cc nL ret) {index a ci : Nat} {lab : mp_L} {fs : List Value} {r : vw_C} (hM : M a = some (lab, .inr (ci, fs))) (hc : clL[ci]? = some r) (hlink : Cond.classLink own index r.1 ∈ lw_all) (hd : decode cc pc = .ok (.checkcast index, 3)) (k : V p l e R s m args below meth c Q G b nL cells slots (pc + 3) L (.ref a :: rest) M) : V p l e R s m args below meth c Q G b nL cells slots pc L (.ref a :: rest) M :=
  fun H locs ls h1 h2 h3 => va_castS C.1.1 C.1.2.1 C.1.2.2.2.1 (C.1.2.2.2.2 _ hlink) (C.2.2.2.1.1.1 ci r hc).2 (hd_recv C.2.2.2.1.1 h1 hM hc) hd (k H locs ls h1 h2 h3)
theorem V_castN (C : Cx p m meth c s args G b own cc nL ret) {index : Nat} (hd : decode cc pc = .ok (.checkcast index, 3)) (k : V p l e R s m args below meth c Q G b nL cells slots (pc + 3) L (.null :: rest) M) : V p l e R s m args below meth c Q G b nL cells slots pc L (.null :: rest) M :=
  fun H locs ls h1 h2 h3 => lv_castN C.1.1 C.1.2.1 hd (k H locs ls h1 h2 h3)
theorem V_instS (C : Cx p m meth c s args G b own cc nL ret) {index a ci : Nat} {lab : mp_L} {fs : List Value} {r : vw_C} (hM : M a = some (lab, .inr (ci, fs))) (hc : clL[ci]? = some r) (hlink : Cond.classLink own index r.1 ∈ lw_all) (hd : decode cc pc = .ok (.instanceof index, 3)) (k : V p l e R s m args below meth c Q G b nL cells slots (pc + 3) L (.int 1 :: rest) M) : V p l e R s m args below meth c Q G b nL cells slots pc L (.ref a :: rest) M :=
  fun H locs ls h1 h2 h3 => va_instS C.1.1 C.1.2.1 C.1.2.2.2.1 (C.1.2.2.2.2 _ hlink) (C.2.2.2.1.1.1 ci r hc).2 (hd_recv C.2.2.2.1.1 h1 hM hc) hd (k H locs ls h1 h2 h3)
theorem V_instN (C : Cx p m meth c s args G b own cc nL ret) {index : Nat} (hd : decode cc pc = .ok (.instanceof index, 3)) (k : V p l e R s m args below meth c Q G b nL cells slots (pc + 3) L (.int 0 :: rest) M) : V p l e R s m args below meth c Q G b nL cells slots pc L (.null :: rest) M :=
  fun H locs ls h1 h2 h3 => lv_instN C.1.1 C.1.2.1 hd (k H locs ls h1 h2 h3)
theorem V_instNo (C : Cx p m meth c s args G b own cc nL ret) {index a ci : Nat} {lab : mp_L} {fs : List Value} {r : vw_C} {nm : String} (hM : M a = some (lab, .inr (ci, fs))) (hc : clL[ci]? = some r) (hlink : Cond.classLink own index nm ∈ lw_all) (hno : va_Nc r.1 nm s) (hd : decode cc pc = .ok (.instanceof index, 3)) (k : V p l e R s m args below meth c Q G b nL cells slots (pc + 3) L (.int 0 :: rest) M) : V p l e R s m args below meth c Q G b nL cells slots pc L (.ref a :: rest) M :=
  fun H locs ls h1 h2 h3 => va_instNo C.1.1 C.1.2.1 C.1.2.2.2.1 (C.1.2.2.2.2 _ hlink) hno (hd_recv C.2.2.2.1.1 h1 hM hc) hd (k H locs ls h1 h2 h3)
theorem V_gets (C : Cx p m meth c s args G b own cc nL ret) {C0 n d ref : String} {v : Value} {index : Nat} (hZ : va_Z C0 n d v (fun q => b ≤ q) s s.heap) (hlink : Cond.fieldLink own index ref n d ∈ lw_all) (hsame : ∀ x, s.fieldFound? C0 n d = some x → s.fieldFound? ref n d = some x) (hd : decode cc pc = .ok (.getstatic index, 3)) (k : V p l e R s m args below meth c Q G b nL cells slots (pc + 3) L (v :: rest) M) : V p l e R s m args below meth c Q G b nL cells slots pc L rest M :=
  fun H locs ls h1 h2 h3 => va_gets C.1.1 C.1.2.1 hZ h2 C.1.2.2.2.1 (C.1.2.2.2.2 _ hlink) hsame hd (k H locs ls h1 h2 h3)
theorem V_objInit (C : Cx p m meth c s args G b own cc nL ret) {index a : Nat} (hlink : Cond.methodLink own index Lib.objectInit ∈ lw_all) (hinst : Cond.instanceMethod Lib.objectInit ∈ lw_all) (hcode : Cond.code Lib.objectInit ⟨#[0xb1]⟩ 1 none ∈ lw_all) (hd : decode cc pc = .ok (.invokespecial index, 3)) (hframes : 1 ≤ R.frames) (hlocals : (rest.map fun v => v.category).sum + 12 ≤ R.locals) (k : V p l e R s m args below meth c Q G b nL cells slots (pc + 3) L rest M) : V p l e R s m args below meth c Q G b nL cells slots pc L (.ref a :: rest) M :=
  fun H locs ls h1 h2 h3 => W.objInit C.1.1 C.1.2.1 C.1.2.2.2.1 (C.1.2.2.2.2 _ hlink) (C.1.2.2.2.2 _ hinst) (C.1.2.2.2.2 _ hcode) rfl (by rw [C.1.2.2.1]; exact h3.1) rfl hd hframes (by show 2 * 0 + _ + 12 ≤ _; omega) (k H locs ls h1 h2 h3)
end VROWS
section VRET
variable {p : Program} {l : Launch} {e : Env} {R : Room} {s : State} {m : MethodId} {args : Array Value} {below : List Frame} {meth : Method} {c : Code} {G : mp_G} {b nL cells slots pc mc ms : Nat} {L : List (Option Value)} {M : mp_M} {own : String} {cc : ByteArray} {ret : Option FieldType} {post : Option Value → mp_M → Prop}
theorem V_ret {st : List Value} {v : Option Value} (hc : cells ≤ mc) (hs : slots ≤ ms) (hp : post v M) (hw : ∀ (H : Heap) (locs : List Loc) (ls : Array Slot), (∀ t : State, t.heap = H → s.WarmedH t.vm → Qp G b post args s (.returned v) t) → (∀ q ∈ locs, b ≤ q.base) → W p l e R s m args below meth c H locs mc ms (MQ below (Qp G b post) args s mc ms (fun q => b ≤ q)) (F0 m pc ls st)) : V p l e R s m args below meth c (MQ below (Qp G b post) args s mc ms (fun q => b ≤ q)) G b nL cells slots pc L st M := by
  intro H locs ls h1 h2 h3
  refine W.widen hc hs (hw H locs ls (fun t ht hW => ⟨v, M, rfl, hp, by rw [ht]; exact h1, h2.F ht⟩) h2.2.2)
theorem V_iret (C : Cx p m meth c s args G b own cc nL (some .int)) {x : Int32} (hd : decode cc pc = .ok (.ireturn, 1)) (hc : cells ≤ mc) (hs : slots ≤ ms) (hp : post (some (.int x)) M) : V p l e R s m args below meth c (MQ below (Qp G b post) args s mc ms (fun q => b ≤ q)) G b nL cells slots pc L [.int x] M :=
  V_ret hc hs hp (fun H locs ls hq hf => W.iret C.1.1 C.1.2.1 C.2.1 hq hf hd C.2.2.1)
theorem V_zret {ty : FieldType} (C : Cx p m meth c s args G b own cc nL (some ty)) {x : Int32} (hn : narrow ty (.int x) = .int x) (hd : decode cc pc = .ok (.ireturn, 1)) (hc : cells ≤ mc) (hs : slots ≤ ms) (hp : post (some (.int x)) M) : V p l e R s m args below meth c (MQ below (Qp G b post) args s mc ms (fun q => b ≤ q)) G b nL cells slots pc L [.int x] M :=
  V_ret hc hs hp (fun H locs ls hq hf => W.zret C.1.1 C.1.2.1 C.2.1 hn hq hf hd C.2.2.1)
theorem V_vret (C : Cx p m meth c s args G b own cc nL none) (hd : decode cc pc = .ok (.return_, 1)) (hc : cells ≤ mc) (hs : slots ≤ ms) (hp : post none M) : V p l e R s m args below meth c (MQ below (Qp G b post) args s mc ms (fun q => b ≤ q)) G b nL cells slots pc L [] M :=
  V_ret hc hs hp (fun H locs ls hq hf => W.vret C.1.1 C.1.2.1 C.2.1 hq hf hd C.2.2.1)
theorem V_aret {rt : FieldType} (C : Cx p m meth c s args G b own cc nL (some rt)) {o : Option Nat} (hrt : (∃ n, rt = .object n) ∨ ∃ t, rt = .array t) (hd : decode cc pc = .ok (.areturn, 1)) (hc : cells ≤ mc) (hs : slots ≤ ms) (hp : post (some (va_rf o)) M) : V p l e R s m args below meth c (MQ below (Qp G b post) args s mc ms (fun q => b ≤ q)) G b nL cells slots pc L [va_rf o] M :=
  V_ret hc hs hp (fun H locs ls hq hf => W.aret C.1.1 C.1.2.1 C.2.1 hrt (by cases o with | none => exact Or.inl rfl | some a => exact Or.inr ⟨a, rfl⟩) hq hf hd C.2.2.1)
end VRET
