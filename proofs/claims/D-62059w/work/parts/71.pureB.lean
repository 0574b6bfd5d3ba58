set_option maxRecDepth 100000
/-! PURE, B: the order of a list's elements, by paths of ids -/
/-- a path ahead of another: a prefix, or the greater id where they first differ -/
def plt : List Nat → List Nat → Bool
  | [], [] => false
  | [], _ :: _ => true
  | _ :: _, [] => false
  | x :: a, y :: b => decide (y < x) || (decide (x = y) && plt a b)
theorem plt_irr : ∀ a : List Nat, plt a a = false := by
  intro a
  induction a with
  | nil => rfl
  | cons x a ih => simp [plt, ih]
theorem plt_app : ∀ (X a b : List Nat), plt (X ++ a) (X ++ b) = plt a b := by
  intro X
  induction X with
  | nil => intro a b; rfl
  | cons x X ih => intro a b; simp [plt, ih]
theorem plt_pre (Q : List Nat) (c : Nat) (r : List Nat) : plt Q (Q ++ c :: r) = true := by
  have := plt_app Q [] (c :: r)
  rw [List.append_nil] at this
  rw [this]
  rfl
theorem plt_tr : ∀ {a b c : List Nat}, plt a b = true → plt b c = true → plt a c = true := by
  intro a
  induction a with
  | nil =>
    intro b c h1 h2
    cases b with
    | nil => cases h1
    | cons y b =>
      cases c with
      | nil => cases h2
      | cons z c => rfl
  | cons x a ih =>
    intro b c h1 h2
    cases b with
    | nil => cases h1
    | cons y b =>
      cases c with
      | nil => cases h2
      | cons z c =>
        simp only [plt, Bool.or_eq_true, Bool.and_eq_true, decide_eq_true_eq] at h1 h2 ⊢
        rcases h1 with h1 | ⟨h1, h1'⟩ <;> rcases h2 with h2 | ⟨h2, h2'⟩
        · exact Or.inl (by omega)
        · exact Or.inl (by omega)
        · exact Or.inl (by omega)
        · exact Or.inr ⟨by omega, ih h1' h2'⟩
theorem plt_tot : ∀ {a b : List Nat}, plt a b = false → plt b a = false → a = b := by
  intro a
  induction a with
  | nil =>
    intro b h1 h2
    cases b with
    | nil => rfl
    | cons y b => cases h1
  | cons x a ih =>
    intro b h1 h2
    cases b with
    | nil => cases h2
    | cons y b =>
      simp only [plt, Bool.or_eq_false_iff, Bool.and_eq_false_iff, decide_eq_false_iff_not] at h1 h2
      have e : x = y := by omega
      subst e
      rw [ih (h1.2.resolve_left (fun z => z rfl)) (h2.2.resolve_left (fun z => z rfl))]
theorem plt_cases : ∀ {Q Y : List Nat}, plt Q Y = true → (∃ c r, Y = Q ++ c :: r) ∨ ∃ X u v Q' Y', Q = X ++ u :: Q' ∧ Y = X ++ v :: Y' ∧ v < u := by
  intro Q
  induction Q with
  | nil =>
    intro Y h
    cases Y with
    | nil => cases h
    | cons y Y => exact Or.inl ⟨y, Y, rfl⟩
  | cons x Q ih =>
    intro Y h
    cases Y with
    | nil => cases h
    | cons y Y =>
      simp only [plt, Bool.or_eq_true, Bool.and_eq_true, decide_eq_true_eq] at h
      rcases h with h | ⟨h, h'⟩
      · exact Or.inr ⟨[], x, y, Q, Y, rfl, rfl, h⟩
      · subst h
        rcases ih h' with ⟨c, r, e⟩ | ⟨X, u, v, Q', Y', e1, e2, e3⟩
        · exact Or.inl ⟨c, r, by rw [e]; rfl⟩
        · exact Or.inr ⟨x :: X, u, v, Q', Y', by rw [e1]; rfl, by rw [e2]; rfl, e3⟩
/-- a sorted chain: where one stands ahead -/
theorem srt_idx {L : List Nat} {pt : Nat → List Nat} (hs : L.Pairwise (fun x y => plt (pt x) (pt y) = true)) {i j x y : Nat} (hx : L[i]? = some x) (hy : L[j]? = some y) (h : plt (pt x) (pt y) = true) : i < j := by
  rw [List.pairwise_iff_getElem] at hs
  obtain ⟨h1, e1⟩ := List.getElem?_eq_some_iff.mp hx
  obtain ⟨h2, e2⟩ := List.getElem?_eq_some_iff.mp hy
  rcases Nat.lt_trichotomy i j with z | z | z
  · exact z
  · subst z
    rw [e1] at e2
    subst e2
    rw [plt_irr] at h
    cases h
  · have := hs j i h2 h1 z
    rw [e1, e2] at this
    have := plt_tr h this
    rw [plt_irr] at this
    cases this
theorem srt_get {L : List Nat} {pt : Nat → List Nat} (hs : L.Pairwise (fun x y => plt (pt x) (pt y) = true)) {i j x y : Nat} (hx : L[i]? = some x) (hy : L[j]? = some y) (h : i < j) : plt (pt x) (pt y) = true := by
  rw [List.pairwise_iff_getElem] at hs
  obtain ⟨h1, e1⟩ := List.getElem?_eq_some_iff.mp hx
  obtain ⟨h2, e2⟩ := List.getElem?_eq_some_iff.mp hy
  have := hs i j h1 h2 h
  rw [e1, e2] at this
  exact this
/-- an element comes into a sorted chain: behind its parent (or at the front), and behind what has a greater id -/
theorem rga {L : List Nat} {pt : Nat → List Nat} {idf : Nat → Nat} {q ss i : Nat} {Q : List Nat}
    (hs : L.Pairwise (fun x y => plt (pt x) (pt y) = true))
    (hanc : ∀ y ∈ L, ∀ X v Y', pt y = X ++ v :: Y' → ∃ z ∈ L, pt z = X ++ [v] ∧ idf z = v ∧ (z = y ∨ plt (pt z) (pt y) = true))
    (hinc : ∀ y ∈ L, ∀ u ∈ pt y, u ≤ idf y)
    (hemp : ∀ y ∈ L, pt y ≠ [])
    (hq : pt q = Q ++ [idf q])
    (hpar : (ss = 0 ∧ Q = []) ∨ ∃ p, 0 < ss ∧ L[ss - 1]? = some p ∧ Q = pt p ∧ idf p < idf q)
    (his : ss ≤ i) (hil : i ≤ L.length)
    (hsk : ∀ j k, ss ≤ j → j < i → L[j]? = some k → idf q < idf k)
    (hnx : ∀ k, L[i]? = some k → idf k < idf q) :
    (insAt L i q).Pairwise (fun x y => plt (pt x) (pt y) = true) := by
  -- what lies behind the parent
  have hQ : ∀ j y, ss ≤ j → L[j]? = some y → plt Q (pt y) = true := by
    intro j y hj hy
    rcases hpar with ⟨h1, h2⟩ | ⟨p, h1, h2, h3, h4⟩
    · rw [h2]
      have hne := hemp y (List.mem_of_getElem? hy)
      cases e : pt y with
      | nil => exact absurd e hne
      | cons a b => rfl
    · rw [h3]
      exact srt_get hs h2 hy (by omega)
  have hQin : ∀ u ∈ Q, u < idf q := by
    intro u hu
    rcases hpar with ⟨h1, h2⟩ | ⟨p, h1, h2, h3, h4⟩
    · rw [h2] at hu; cases hu
    · rw [h3] at hu
      have := hinc p (List.mem_of_getElem? h2) u hu
      omega
  -- an ancestor of y, itself behind the parent, stands between the parent and y
  have hbtw : ∀ j y z, ss ≤ j → L[j]? = some y → z ∈ L → (z = y ∨ plt (pt z) (pt y) = true) → plt Q (pt z) = true → ∃ jz, ss ≤ jz ∧ jz ≤ j ∧ L[jz]? = some z := by
    intro j y z hj hy hz hzy hQz
    obtain ⟨jz, hjz⟩ := List.getElem?_of_mem hz
    refine ⟨jz, ?_, ?_, hjz⟩
    · rcases hpar with ⟨h1, h2⟩ | ⟨p, h1, h2, h3, h4⟩
      · omega
      · rw [h3] at hQz
        have := srt_idx hs h2 hjz hQz
        omega
    · rcases hzy with e | e
      · subst e
        rcases Nat.lt_or_ge j jz with w | w
        · have := srt_get hs hy hjz w
          rw [plt_irr] at this
          cases this
        · exact w
      · have := srt_idx hs hjz hy e
        omega
  have hA : ∀ j x, j < i → L[j]? = some x → plt (pt x) (pt q) = true := by
    intro j x hji hx
    rw [hq]
    rcases Nat.lt_or_ge j ss with w | w
    · rcases hpar with ⟨h1, h2⟩ | ⟨p, h1, h2, h3, h4⟩
      · omega
      · have h5 := plt_pre Q (idf q) []
        rcases Nat.lt_or_ge j (ss - 1) with v | v
        · have h6 := srt_get hs hx h2 v
          rw [← h3] at h6
          exact plt_tr h6 h5
        · rw [show j = ss - 1 by omega, h2] at hx
          cases hx
          rw [← h3]
          exact h5
    · have hxm := List.mem_of_getElem? hx
      rcases plt_cases (hQ j x w hx) with ⟨c, r, e⟩ | ⟨X, u, v, Q', Y', e1, e2, e3⟩
      · obtain ⟨z, hz, hz1, hz2, hz3⟩ := hanc x hxm Q c r e
        obtain ⟨jz, g1, g2, g3⟩ := hbtw j x z w hx hz hz3 (by rw [hz1]; exact plt_pre Q c [])
        have := hsk jz z g1 (by omega) g3
        rw [hz2] at this
        rw [e, plt_app]
        simp [plt, this]
      · obtain ⟨z, hz, hz1, hz2, hz3⟩ := hanc x hxm X v Y' e2
        obtain ⟨jz, g1, g2, g3⟩ := hbtw j x z w hx hz hz3 (by rw [hz1, e1, plt_app]; simp [plt, e3])
        have h7 := hsk jz z g1 (by omega) g3
        rw [hz2] at h7
        have h8 := hQin u (by rw [e1]; simp)
        omega
  have hB0 : ∀ y, L[i]? = some y → plt (pt q) (pt y) = true := by
    intro y hy
    have hym := List.mem_of_getElem? hy
    rw [hq]
    rcases plt_cases (hQ i y his hy) with ⟨c, r, e⟩ | ⟨X, u, v, Q', Y', e1, e2, e3⟩
    · have h1 := hinc y hym c (by rw [e]; simp)
      have h2 := hnx y hy
      rw [e, plt_app]
      simp only [plt, Bool.or_eq_true, decide_eq_true_eq]
      exact Or.inl (by omega)
    · rw [e1, e2, List.append_assoc, plt_app]
      simp [plt, e3]
  have hB : ∀ j y, i ≤ j → L[j]? = some y → plt (pt q) (pt y) = true := by
    intro j y hij hy
    have hjl := (List.getElem?_eq_some_iff.mp hy).1
    have h0 : L[i]? = some (L[i]'(by omega)) := List.getElem?_eq_getElem (by omega)
    rcases Nat.eq_or_lt_of_le hij with w | w
    · subst w
      exact hB0 y hy
    · exact plt_tr (hB0 _ h0) (srt_get hs h0 hy w)
  unfold insAt
  rw [List.pairwise_append]
  refine ⟨hs.sublist (List.take_sublist _ _), ?_, ?_⟩
  · rw [List.pairwise_cons]
    refine ⟨fun y hy => ?_, hs.sublist (List.drop_sublist _ _)⟩
    obtain ⟨j, hj⟩ := List.getElem?_of_mem hy
    rw [List.getElem?_drop] at hj
    exact hB (i + j) y (by omega) hj
  · intro x hx y hy
    obtain ⟨j, hj⟩ := List.getElem?_of_mem hx
    rw [List.getElem?_take] at hj
    split at hj
    · rename_i hji
      rcases List.mem_cons.mp hy with e | e
      · rw [e]
        exact hA j x hji hj
      · obtain ⟨j2, hj2⟩ := List.getElem?_of_mem e
        rw [List.getElem?_drop] at hj2
        exact srt_get hs hj hj2 (by omega)
    · cases hj
