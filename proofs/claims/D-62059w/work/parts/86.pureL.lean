set_option maxRecDepth 100000
/-! PURE, L: edit's operation -/
theorem edO_f {r cv k0 t0 s0 v0 : Nat} {nm : List Nat} : oB (edO r cv k0 t0 s0 v0 nm) 0 = 4 * cv + r ∧ oB (edO r cv k0 t0 s0 v0 nm) 1 = k0 ∧ oB (edO r cv k0 t0 s0 v0 nm) 2 = t0 ∧ oB (edO r cv k0 t0 s0 v0 nm) 3 = s0 ∧ oB (edO r cv k0 t0 s0 v0 nm) 4 = v0 ∧ oB (edO r cv k0 t0 s0 v0 nm) 5 = nm.length ∧ (edO r cv k0 t0 s0 v0 nm).length = 6 + nm.length := by
  refine ⟨rfl, rfl, rfl, rfl, rfl, rfl, ?_⟩
  unfold edO
  rw [List.length_append]
  rfl
theorem edO_b {r cv k0 t0 s0 v0 i : Nat} {nm : List Nat} : oB (edO r cv k0 t0 s0 v0 nm) (6 + i) = nm.getD i 0 := by
  unfold edO oB
  rw [List.getD_eq_getElem?_getD, List.getD_eq_getElem?_getD, List.getElem?_append_right (by simp)]
  congr 2
  simp
theorem gD_mem {nm : List Nat} {i : Nat} (h : i < nm.length) : nm.getD i 0 ∈ nm := by
  rw [List.getD_eq_getElem?_getD, List.getElem?_eq_getElem h]
  exact List.getElem_mem h
/-- the ids that the new operation names are in the log -/
theorem nm_log {ln : Nat} {lo : Nat → List Nat} {fo : Nat → Bool} {k0 t0 s0 x : Nat} (hL : LogOk ln lo) (h : x ∈ nmL (nmQ ln lo fo k0 t0 s0) 159) : ∃ k, k < ln ∧ oB (lo k) 0 = x := by
  obtain ⟨h1, h2, h3⟩ := nmL_lt h
  obtain ⟨k, hk⟩ := nmQ_pl h3
  rw [show 4 + (x - 4) = x by omega] at hk
  have := cpl_id hL (by omega) hk
  exact ⟨k, this.1, this.2⟩
theorem nmL_in {Q : Nat → Bool} : ∀ {k i : Nat}, i < k → Q i = true → 4 + i ∈ nmL Q k := by
  intro k
  induction k with
  | zero => intro i h; omega
  | succ k ih =>
    intro i hi hq
    unfold nmL
    rcases Nat.lt_or_ge i k with z | z
    · split
      · exact List.mem_append.mpr (Or.inl (ih z hq))
      · exact ih z hq
    · have e : i = k := by omega
      subst e
      rw [if_pos hq]
      exact List.mem_append.mpr (Or.inr (List.mem_singleton.mpr rfl))
theorem nm_has {ln : Nat} {lo : Nat → List Nat} {fo : Nat → Bool} {k0 t0 s0 x p : Nat} (hL : LogOk ln lo) (hx : x < 256) (hp : cplace ln lo (nI x) = some p) (h : x = t0 ∨ (k0 = 3 ∧ x = s0)) : x ∈ nmL (nmQ ln lo fo k0 t0 s0) 159 := by
  obtain ⟨h1, h2⟩ := cpl_id hL hx hp
  have hid := good_id (hL.1 p h1)
  have := nmL_in (Q := nmQ ln lo fo k0 t0 s0) (k := 159) (i := x - 4) (by omega) (by
    unfold nmQ
    rw [show 4 + (x - 4) = x by omega, hp]
    dsimp only
    rcases h with z | ⟨z1, z2⟩
    · simp [z]
    · simp [z1, z2])
  rw [show 4 + (x - 4) = x by omega] at this
  exact this
theorem inB_mem {r cv k0 t0 s0 v0 x : Nat} {nm : List Nat} (h : x ∈ nm) : inB (edO r cv k0 t0 s0 v0 nm) x := by
  obtain ⟨i, hi⟩ := List.getElem?_of_mem h
  have hl := (List.getElem?_eq_some_iff.mp hi).1
  refine ⟨i, by rw [edO_f.2.2.2.2.2.1]; exact hl, ?_⟩
  rw [edO_b, List.getD_eq_getElem?_getD, hi]
  rfl
/-- the new operation can come to the log -/
theorem ed_new {ln : Nat} {lo : Nat → List Nat} {hi : Nat → Option Nat} {fo : Nat → Bool} {r k0 t0 s0 v0 : Nat} (hL : LogOk ln lo) (hr : r ≤ 2) (hk : k0 < 256) (ht : t0 < 256) (hs : s0 < 256) (hv : v0 < 256) (hsh : shI (nI k0) (nI t0) (nI s0) (nI v0) = true) (hft : cfits ln lo hi (nI k0) (nI t0) (nI s0) = true) (hc : ¬ 40 < cgreat lo ln + 1) (h6 : ¬ 6 < (nmL (nmQ ln lo fo k0 t0 s0) 159).length) : NewOk ln lo (edO r (cgreat lo ln + 1) k0 t0 s0 v0 (nmL (nmQ ln lo fo k0 t0 s0) 159)) := by
  have hin := fun x => nm_log (fo := fo) (k0 := k0) (t0 := t0) (s0 := s0) (x := x) hL
  have hha := fun x p => nm_has (fo := fo) (k0 := k0) (t0 := t0) (s0 := s0) (x := x) (p := p) hL
  have hsrt := nmL_srt (Q := nmQ ln lo fo k0 t0 s0) 159
  generalize nmL (nmQ ln lo fo k0 t0 s0) 159 = nm at h6 hin hha hsrt ⊢
  obtain ⟨f0, f1, f2, f3, f4, f5, fl⟩ := edO_f (r := r) (cv := cgreat lo ln + 1) (k0 := k0) (t0 := t0) (s0 := s0) (v0 := v0) (nm := nm)
  rw [shI_n hk ht hs hv, Bool.and_eq_true, decide_eq_true_eq] at hsh
  obtain ⟨ft1, ft2, ft3⟩ := ft_ids hL hk ht hs hft
  have hk5 := hsh.1
  have hnm : ∀ x, x ∈ nm → 4 ≤ x ∧ x ≤ 162 ∧ x % 4 ≠ 3 ∧ x < 4 * (cgreat lo ln + 1) := by
    intro x hx
    obtain ⟨k, h1, h2⟩ := hin x hx
    have := good_id (hL.1 k h1)
    have := cg_ge (lo := lo) h1
    omega
  have hbb : ∀ i, i < nm.length → nm.getD i 0 ∈ nm := fun i hi => gD_mem hi
  have hgood : OpGood (edO r (cgreat lo ln + 1) k0 t0 s0 v0 nm) := by
    refine ⟨⟨by rw [fl, f5], by rw [f5]; omega, fun f => ?_⟩, ?_, fun i hi => ?_, ?_, ?_⟩
    · rcases Nat.lt_or_ge f 6 with z | z
      · rcases (show f = 0 ∨ f = 1 ∨ f = 2 ∨ f = 3 ∨ f = 4 ∨ f = 5 by omega) with e | e | e | e | e | e <;> subst e
        · rw [f0]; omega
        · rw [f1]; omega
        · rw [f2]; omega
        · rw [f3]; omega
        · rw [f4]; omega
        · rw [f5]; omega
      · obtain ⟨i, rfl⟩ : ∃ i, f = 6 + i := ⟨f - 6, by omega⟩
        rw [edO_b]
        rcases Nat.lt_or_ge i nm.length with w | w
        · have := hnm _ (hbb i w); omega
        · rw [List.getD_eq_getElem?_getD, List.getElem?_eq_none w]; decide
    · unfold wfB preB
      rw [f0, f1, f2, f3, f4, f5, fl]
      rw [Bool.and_eq_true, Bool.and_eq_true]
      refine ⟨⟨?_, ?_⟩, hsh.2⟩
      · unfold isIdB
        simp only [Bool.and_eq_true, decide_eq_true_eq]
        refine ⟨⟨⟨⟨?_, ?_⟩, ?_⟩, ⟨?_, ?_⟩, ?_⟩, ?_⟩ <;> first | trivial | omega
      · rw [allI_iff]
        intro i hi
        have hi2 : i < nm.length := by omega
        have h9 := hnm _ (hbb i hi2)
        unfold befB isIdB
        rw [edO_b]
        simp only [Bool.and_eq_true, Bool.or_eq_true, decide_eq_true_eq]
        refine ⟨by omega, ?_⟩
        by_cases z : i = 0
        · exact Or.inl z
        · right
          obtain ⟨i', rfl⟩ : ∃ i', i = i' + 1 := ⟨i - 1, by omega⟩
          rw [show 5 + (i' + 1) = 6 + i' by omega, edO_b]
          rw [List.pairwise_iff_getElem] at hsrt
          have := hsrt i' (i' + 1) (by omega) hi2 (by omega)
          rw [List.getD_eq_getElem?_getD, List.getD_eq_getElem?_getD, List.getElem?_eq_getElem hi2, List.getElem?_eq_getElem (show i' < nm.length by omega)]
          exact this
    · rw [f5] at hi
      rw [edO_b, f0]
      have := hnm _ (hbb i hi)
      omega
    · rw [f2]
      by_cases z3 : k0 = 3
      · obtain ⟨⟨p, hp⟩, -⟩ := ft1 z3
        exact Or.inr (inB_mem (hha t0 p ht hp (Or.inl rfl)))
      · by_cases z4 : k0 = 4
        · obtain ⟨p, hp⟩ := ft2 z4
          exact Or.inr (inB_mem (hha t0 p ht hp (Or.inl rfl)))
        · rcases ft3 z3 z4 with z | ⟨p, hp⟩
          · exact Or.inl z
          · exact Or.inr (inB_mem (hha t0 p ht hp (Or.inl rfl)))
    · rw [f1, f3]
      intro z3
      rcases (ft1 z3).2 with z | ⟨p, hp⟩
      · exact Or.inl z
      · exact Or.inr (inB_mem (hha s0 p hs hp (Or.inr ⟨z3, rfl⟩)))
  refine ⟨hgood, fun k hk2 => ?_, fun i hi => ?_⟩
  · rw [f0]
    have := cg_ge (lo := lo) hk2
    omega
  · rw [f5] at hi
    rw [edO_b]
    exact hin _ (hbb i hi)
theorem edN_eq {r cv k0 t0 s0 v0 : Nat} {nm : List Nat} (hk : k0 < 256) (ht : t0 < 256) (hs : s0 < 256) (hv : v0 < 256) : edN r cv (nI k0) (nI t0) (nI s0) (nI v0) nm = oB (edO r cv k0 t0 s0 v0 nm) := by
  funext f
  unfold edN edO oB
  rw [nI_clamp (by omega), nI_clamp (by omega), nI_clamp (by omega), nI_clamp (by omega)]
theorem apB_eq (ap : Nat → Bool) (n : Nat) : apB ap n = fun i => if i = n then true else apA ap n i := rfl
/-- edit puts its operation to the log -/
theorem rt_ed {r n : Nat} {po : Nat → Nat → Nat} {ap : Nat → Bool} {od : List Nat} {ln : Nat} {lo : Nat → List Nat} {wt : List (List Nat)} {bs : List Nat} (h : RT r n po ap od ln lo wt) (hn : n < 16) (hN : NewOk ln lo bs) (hid : oB bs 0 % 4 = r) : RT r (n + 1) (poA po n (oB bs)) (apB ap n) (od ++ [n]) (ln + 1) (ex lo ln bs) wt := by
  obtain ⟨hT, hw, hr, hc⟩ := id h
  have hl : bs.length = 6 + oB bs 5 := hN.1.1.1
  have hfr : ∀ j, j < n → po j 0 ≠ oB bs 0 := by
    intro j hj e
    cases ha : ap j with
    | true =>
      obtain ⟨k, hk, rfl⟩ := tie_inv hT hj ha
      have := hN.2.1 k hk
      rw [tie_b hT hk (by omega)] at this
      exact this e
    | false =>
      have := hr j hj ha
      rw [e] at this
      exact this hid
  have hT2 := tie_add hT hn (by rw [opL_An hl]; exact hN.1) hfr
  have hT3 := tie_step hT2 (j := n) (by omega) (by unfold apA; rw [if_pos rfl]) (by rw [opL_An hl]; exact hN)
  rw [opL_An hl] at hT3
  refine ⟨hT3, ?_, ?_, by omega⟩
  · have e1 : unA (n + 1) (apB ap n) = unA n ap := by
      unfold unA
      rw [List.range_succ, List.filter_append]
      have : List.filter (fun j => !apB ap n j) [n] = [] := by simp [apB]
      rw [this, List.append_nil]
      refine List.filter_congr (fun x hx => ?_)
      have := List.mem_range.mp hx
      unfold apB apA
      rw [if_neg (by omega), if_neg (by omega)]
    rw [e1, hw]
    refine List.map_congr_left (fun x hx => ?_)
    have := (un_mem.mp hx).1
    rw [opL_A (by omega)]
  · intro j hj ha
    unfold apB apA at ha
    by_cases z : j = n
    · rw [if_pos z] at ha; cases ha
    · rw [if_neg z, if_neg z] at ha
      unfold poA
      rw [if_neg z]
      exact hr j (by omega) ha
