set_option maxRecDepth 100000
/-! PURE, I: the replica and the model side by side: settle, receive -/
abbrev unA (n : Nat) (ap : Nat → Bool) : List Nat := (List.range n).filter (fun j => !ap j)
/-- replica r in the model (n, po, ap, od) and in the component (ln, lo, wt) -/
def RT (r n : Nat) (po : Nat → Nat → Nat) (ap : Nat → Bool) (od : List Nat) (ln : Nat) (lo : Nat → List Nat) (wt : List (List Nat)) : Prop :=
  Tie n po ap od ln lo ∧ wt = (unA n ap).map (opL po) ∧ (∀ j, j < n → ap j = false → po j 0 % 4 ≠ r) ∧ ln + wt.length = n
theorem un_mem {n : Nat} {ap : Nat → Bool} {j : Nat} : j ∈ unA n ap ↔ j < n ∧ ap j = false := by
  unfold unA
  rw [List.mem_filter, List.mem_range, Bool.not_eq_true']
theorem un_nd (n : Nat) (ap : Nat → Bool) : (unA n ap).Nodup := List.nodup_range.filter _
theorem rt_at {r n : Nat} {po : Nat → Nat → Nat} {ap : Nat → Bool} {od : List Nat} {ln : Nat} {lo : Nat → List Nat} {wt : List (List Nat)} (h : RT r n po ap od ln lo wt) {i : Nat} (hi : i < wt.length) : ∃ j, (unA n ap)[i]? = some j ∧ j < n ∧ ap j = false ∧ wt.getD i [] = opL po j := by
  have hl : (unA n ap).length = wt.length := by rw [h.2.1, List.length_map]
  obtain ⟨j, hj⟩ : ∃ j, (unA n ap)[i]? = some j := ⟨_, List.getElem?_eq_getElem (by omega)⟩
  have hm := un_mem.mp (List.mem_of_getElem? hj)
  refine ⟨j, hj, hm.1, hm.2, ?_⟩
  rw [h.2.1, List.getD_eq_getElem?_getD, List.getElem?_map, hj]
  rfl
theorem rt_of {r n : Nat} {po : Nat → Nat → Nat} {ap : Nat → Bool} {od : List Nat} {ln : Nat} {lo : Nat → List Nat} {wt : List (List Nat)} (h : RT r n po ap od ln lo wt) {j : Nat} (hj : j < n) (ha : ap j = false) : ∃ i, i < wt.length ∧ (unA n ap)[i]? = some j ∧ wt.getD i [] = opL po j := by
  obtain ⟨i, hi⟩ := List.getElem?_of_mem (un_mem.mpr ⟨hj, ha⟩)
  have hl : (unA n ap).length = wt.length := by rw [h.2.1, List.length_map]
  refine ⟨i, by have := (List.getElem?_eq_some_iff.mp hi).1; omega, hi, ?_⟩
  rw [h.2.1, List.getD_eq_getElem?_getD, List.getElem?_map, hi]
  rfl
theorem rt_wt {r n : Nat} {po : Nat → Nat → Nat} {ap : Nat → Bool} {od : List Nat} {ln : Nat} {lo : Nat → List Nat} {wt : List (List Nat)} (h : RT r n po ap od ln lo wt) : WtOk ln lo wt := by
  obtain ⟨hT, hw, hr, hc⟩ := h
  obtain ⟨h1, h2, h3, h4, h5, h6, h7⟩ := id hT
  refine ⟨?_, ?_, ?_, by omega⟩
  · intro bs hb
    rw [hw] at hb
    obtain ⟨j, hj, rfl⟩ := List.mem_map.mp hb
    exact h5 j (un_mem.mp hj).1
  · intro bs hb k hk
    rw [hw] at hb
    obtain ⟨j, hj, rfl⟩ := List.mem_map.mp hb
    have hj2 := un_mem.mp hj
    rw [tie_b hT hk (by omega), opL_b (by omega)]
    intro e
    have := h4 _ _ (tie_lt hT hk).1 hj2.1 e
    have h8 := (tie_lt hT hk).2
    rw [this, hj2.2] at h8
    cases h8
  · rw [hw, List.pairwise_map]
    refine (un_nd n ap).imp_of_mem (fun {x y} hx hy hxy => ?_)
    rw [opL_b (by omega), opL_b (by omega)]
    exact fun e => hxy (h4 _ _ (un_mem.mp hx).1 (un_mem.mp hy).1 e)
theorem rt_rdy {r n : Nat} {po : Nat → Nat → Nat} {ap : Nat → Bool} {od : List Nat} {ln : Nat} {lo : Nat → List Nat} {wt : List (List Nat)} (h : RT r n po ap od ln lo wt) {j : Nat} (hj : j < n) : cready ln lo (opL po j) = mready n po ap j := by
  unfold cready mready
  rw [opL_b (by omega)]
  rw [Bool.eq_iff_iff, allI_iff, allI_iff]
  constructor
  · intro z i hi
    have := z i hi
    rw [opL_b (by omega)] at this
    rw [tie_mf h.1, Option.isSome_map]
    exact this
  · intro z i hi
    have := z i hi
    rw [tie_mf h.1, Option.isSome_map] at this
    rw [opL_b (by omega)]
    exact this
theorem cleast_min {ln : Nat} {lo : Nat → List Nat} {wt : List (List Nat)} : ∀ {n i k : Nat}, cleast ln lo wt n = some i → k < n → cready ln lo (wt.getD k []) = true → oB (wt.getD i []) 0 ≤ oB (wt.getD k []) 0 := by
  intro n
  induction n with
  | zero => intro i k h; cases h
  | succ n ih =>
    intro i k h hk hr
    unfold cleast at h
    split at h
    · rename_i hc
      cases h
      rcases Nat.lt_or_ge k n with z | z
      · unfold cleC at hc
        cases e : cleast ln lo wt n with
        | none =>
          exfalso
          have : ∀ m, cleast ln lo wt m = none → ∀ k, k < m → cready ln lo (wt.getD k []) = true → False := by
            intro m
            induction m with
            | zero => intro _ k hk; omega
            | succ m ihm =>
              intro hm k hk hr
              unfold cleast at hm
              split at hm
              · cases hm
              · rename_i hc2
                rcases Nat.lt_or_ge k m with y | y
                · exact ihm hm k y hr
                · rw [show k = m by omega] at hr
                  unfold cleC at hc2
                  rw [hm, hr] at hc2
                  exact hc2 rfl
          exact this n e k z hr
        | some b =>
          rw [e] at hc
          simp only [Bool.and_eq_true, decide_eq_true_eq] at hc
          have := ih e z hr
          omega
      · rw [show k = n by omega]; exact Nat.le_refl _
    · rename_i hc
      rcases Nat.lt_or_ge k n with z | z
      · exact ih h z hr
      · have ek : k = n := by omega
        subst ek
        unfold cleC at hc
        rw [h, hr] at hc
        simp only [Bool.true_and, decide_eq_true_eq] at hc
        omega
theorem cleast_none {ln : Nat} {lo : Nat → List Nat} {wt : List (List Nat)} : ∀ m, cleast ln lo wt m = none → ∀ k, k < m → cready ln lo (wt.getD k []) = false := by
  intro m
  induction m with
  | zero => intro _ k hk; omega
  | succ m ihm =>
    intro hm k hk
    unfold cleast at hm
    split at hm
    · cases hm
    · rename_i hc2
      rcases Nat.lt_or_ge k m with y | y
      · exact ihm hm k y
      · rw [show k = m by omega]
        unfold cleC at hc2
        rw [hm] at hc2
        cases e : cready ln lo (wt.getD m []) with
        | false => rfl
        | true => rw [e] at hc2; exact absurd rfl hc2
theorem bst_none {n : Nat} {po : Nat → Nat → Nat} {ap : Nat → Bool} : ∀ m, bstI n po ap m = none → ∀ k, k < m → ap k = false → mready n po ap k = false := by
  intro m
  induction m with
  | zero => intro _ k hk; omega
  | succ m ihm =>
    intro hm k hk ha
    unfold bstI at hm
    split at hm
    · cases hm
    · rename_i hc2
      rcases Nat.lt_or_ge k m with y | y
      · exact ihm hm k y ha
      · have ek : k = m := by omega
        subst ek
        unfold bstC at hc2
        rw [hm, ha] at hc2
        cases e : mready n po ap k with
        | false => rfl
        | true => rw [e] at hc2; exact absurd rfl hc2
theorem bst_min {n : Nat} {po : Nat → Nat → Nat} {ap : Nat → Bool} : ∀ {m i k : Nat}, bstI n po ap m = some i → k < m → ap k = false → mready n po ap k = true → po i 0 ≤ po k 0 := by
  intro m
  induction m with
  | zero => intro i k h; cases h
  | succ m ih =>
    intro i k h hk ha hr
    unfold bstI at h
    split at h
    · rename_i hc
      cases h
      rcases Nat.lt_or_ge k m with z | z
      · unfold bstC at hc
        cases e : bstI n po ap m with
        | none =>
          have := bst_none m e k z ha
          rw [hr] at this
          cases this
        | some b =>
          rw [e] at hc
          simp only [Bool.and_eq_true, decide_eq_true_eq] at hc
          have := ih e z ha hr
          omega
      · rw [show k = m by omega]; exact Nat.le_refl _
    · rename_i hc
      rcases Nat.lt_or_ge k m with z | z
      · exact ih h z ha hr
      · have ek : k = m := by omega
        subst ek
        unfold bstC at hc
        rw [h, hr, ha] at hc
        simp only [Bool.not_false, Bool.true_and, decide_eq_true_eq] at hc
        omega
/-- both choose the same -/
theorem rt_pick {r n : Nat} {po : Nat → Nat → Nat} {ap : Nat → Bool} {od : List Nat} {ln : Nat} {lo : Nat → List Nat} {wt : List (List Nat)} (h : RT r n po ap od ln lo wt) : (bstI n po ap n = none ∧ cleast ln lo wt wt.length = none) ∨ ∃ i j, bstI n po ap n = some j ∧ cleast ln lo wt wt.length = some i ∧ i < wt.length ∧ (unA n ap)[i]? = some j ∧ j < n ∧ ap j = false ∧ wt.getD i [] = opL po j := by
  cases e : bstI n po ap n with
  | none =>
    left
    refine ⟨rfl, ?_⟩
    cases e2 : cleast ln lo wt wt.length with
    | none => rfl
    | some i =>
      obtain ⟨j, h1, h2, h3, h4⟩ := rt_at h (cleast_lt e2)
      have h5 := cleast_rdy e2
      rw [h4, rt_rdy h h2, bst_none n e j h2 h3] at h5
      cases h5
  | some j =>
    right
    obtain ⟨hj, ha, hr⟩ := bst_lt e
    obtain ⟨i0, g1, g2, g3⟩ := rt_of h hj ha
    cases e2 : cleast ln lo wt wt.length with
    | none =>
      have := cleast_none _ e2 i0 g1
      rw [g3, rt_rdy h hj, hr] at this
      cases this
    | some i =>
      have hil := cleast_lt e2
      obtain ⟨j2, h1, h2, h3, h4⟩ := rt_at h hil
      have h5 := cleast_rdy e2
      rw [h4, rt_rdy h h2] at h5
      have m1 := cleast_min e2 g1 (by rw [g3, rt_rdy h hj]; exact hr)
      rw [g3, h4, opL_b (by omega), opL_b (by omega)] at m1
      have m2 := bst_min e h2 h3 h5
      have : j = j2 := h.1.2.2.2.1 j j2 hj h2 (by omega)
      subst this
      exact ⟨i, j, rfl, rfl, hil, h1, hj, ha, h4⟩
theorem ers_flt {j : Nat} : ∀ {W : List Nat} {i : Nat}, W.Nodup → W[i]? = some j → W.filter (fun x => !decide (x = j)) = W.eraseIdx i := by
  intro W
  induction W with
  | nil => intro i _ h; simp at h
  | cons a W ih =>
    intro i hn h
    rw [List.nodup_cons] at hn
    cases i with
    | zero =>
      simp only [List.getElem?_cons_zero, Option.some.injEq] at h
      subst h
      rw [List.eraseIdx_cons_zero, List.filter_cons, if_neg (by simp)]
      refine List.filter_eq_self.mpr (fun x hx => ?_)
      simp only [Bool.not_eq_true', decide_eq_false_iff_not]
      intro z
      rw [z] at hx
      exact hn.1 hx
    | succ i =>
      rw [List.getElem?_cons_succ] at h
      rw [List.eraseIdx_cons_succ, List.filter_cons, if_pos, ih hn.2 h]
      simp only [Bool.not_eq_true', decide_eq_false_iff_not]
      intro z
      rw [z] at hn
      exact hn.1 (List.mem_of_getElem? h)
theorem ers_map {f : Nat → List Nat} : ∀ (W : List Nat) (i : Nat), (W.eraseIdx i).map f = (W.map f).eraseIdx i := by
  intro W
  induction W with
  | nil => intro i; rfl
  | cons a W ih =>
    intro i
    cases i with
    | zero => rfl
    | succ i => simp only [List.eraseIdx_cons_succ, List.map_cons, ih]
theorem un_step {n : Nat} {ap : Nat → Bool} {i j : Nat} (h : (unA n ap)[i]? = some j) : unA n (fun k => if k = j then true else ap k) = (unA n ap).eraseIdx i := by
  rw [← ers_flt (un_nd n ap) h]
  unfold unA
  rw [List.filter_filter]
  refine List.filter_congr (fun x _ => ?_)
  by_cases z : x = j
  · simp [z]
  · simp [z]
theorem oi_app {od : List Nat} {j k : Nat} (h : k < od.length) : oi (od ++ [j]) k = oi od k := by
  unfold oi
  rw [List.getD_eq_getElem?_getD, List.getD_eq_getElem?_getD, List.getElem?_append_left h]
theorem oi_lst {od : List Nat} {j : Nat} : oi (od ++ [j]) od.length = j := by
  unfold oi
  rw [List.getD_eq_getElem?_getD, List.getElem?_append_right (Nat.le_refl _), Nat.sub_self]
  rfl
theorem ready_log {n : Nat} {po : Nat → Nat → Nat} {ap : Nat → Bool} {od : List Nat} {ln : Nat} {lo : Nat → List Nat} (h : Tie n po ap od ln lo) {j : Nat} (hj : j < n) (ha : ap j = false) (hr : cready ln lo (opL po j) = true) : NewOk ln lo (opL po j) := by
  obtain ⟨h1, h2, h3, h4, h5, h6, h7⟩ := id h
  refine ⟨h5 j hj, fun k hk => ?_, (rdy_iff h6 (h5 j hj)).mp hr⟩
  rw [tie_b h hk (by omega), opL_b (by omega)]
  intro e
  have h8 := (tie_lt h hk).2
  rw [h4 _ _ (tie_lt h hk).1 hj e, ha] at h8
  cases h8
theorem tie_step {n : Nat} {po : Nat → Nat → Nat} {ap : Nat → Bool} {od : List Nat} {ln : Nat} {lo : Nat → List Nat} (h : Tie n po ap od ln lo) {j : Nat} (hj : j < n) (ha : ap j = false) (hN : NewOk ln lo (opL po j)) : Tie n po (fun i => if i = j then true else ap i) (od ++ [j]) (ln + 1) (ex lo ln (opL po j)) := by
  obtain ⟨h1, h2, h3, h4, h5, h6, h7⟩ := id h
  refine ⟨⟨?_, fun x => ?_⟩, by rw [List.length_append, h2]; rfl, fun k hk => ?_, h4, h5, new_log h6 hN, h7⟩
  · rw [List.nodup_append]
    refine ⟨h1.1, List.nodup_cons.mpr ⟨by simp, List.nodup_nil⟩, fun x hx y hy => ?_⟩
    rw [List.mem_singleton] at hy
    rw [hy]
    intro z
    have := ((h1.2 x).mp hx).2
    rw [z, ha] at this
    cases this
  · rw [List.mem_append, List.mem_singleton, h1.2]
    by_cases z : x = j
    · subst z
      simp [hj]
    · simp [z]
  · by_cases z : k = ln
    · rw [z, ex_s, ← h2, oi_lst]
    · rw [ex_n z, oi_app (by omega)]
      exact h3 k (by omega)
theorem rt_step {r n : Nat} {po : Nat → Nat → Nat} {x : so_} {y : cs_} (h : RT r n po x.1 x.2 y.1 y.2.1 y.2.2) : RT r n po (setS n po x).1 (setS n po x).2 (csS y).1 (csS y).2.1 (csS y).2.2 := by
  unfold setS csS
  rcases rt_pick h with ⟨e1, e2⟩ | ⟨i, j, e1, e2, hi, hu, hj, ha, hw⟩
  · rw [e1, e2]; exact h
  · rw [e1, e2]
    dsimp only
    have hr := cleast_rdy e2
    rw [hw] at hr
    rw [hw]
    have hN := ready_log h.1 hj ha hr
    refine ⟨tie_step h.1 hj ha hN, ?_, ?_, ?_⟩
    · rw [un_step hu, ers_map, ← h.2.1]
    · intro k hk hak
      dsimp only at hak
      split at hak
      · cases hak
      · exact h.2.2.1 k hk hak
    · rw [List.length_eraseIdx, if_pos hi]
      have := h.2.2.2
      omega
/-- settle keeps both side by side -/
theorem rt_set {r n : Nat} {po : Nat → Nat → Nat} {x : so_} {y : cs_} (h : RT r n po x.1 x.2 y.1 y.2.1 y.2.2) : RT r n po (setA n po x).1 (setA n po x).2 (csA y).1 (csA y).2.1 (csA y).2.2 := by
  unfold setA csA
  have : ∀ k, RT r n po (iterI (fun _ => setS n po) x k).1 (iterI (fun _ => setS n po) x k).2 (iterI (fun _ => csS) y k).1 (iterI (fun _ => csS) y k).2.1 (iterI (fun _ => csS) y k).2.2 := by
    intro k
    induction k with
    | zero => exact h
    | succ k ih => rw [iterI_s, iterI_s]; exact rt_step ih
  exact this 16
