set_option maxRecDepth 100000
/-! PURE, J: receive side by side -/
theorem ws_self (ws : List Nat) : (List.range ws.length).map (oB ws) = ws := by
  apply List.ext_getElem?
  intro i
  rcases Nat.lt_or_ge i ws.length with z | z
  · rw [List.getElem?_map, List.getElem?_range z, oB_get z]
    rfl
  · rw [List.getElem?_eq_none (by rw [List.length_map, List.length_range]; exact z), List.getElem?_eq_none z]
theorem rt_held {r n : Nat} {po : Nat → Nat → Nat} {ap : Nat → Bool} {od : List Nat} {ln : Nat} {lo : Nat → List Nat} {wt : List (List Nat)} (h : RT r n po ap od ln lo wt) (x : Int32) : cheldB ln lo wt x = (mfind n po ap x false).map (opL po) := by
  obtain ⟨hT, hw, hr, hc⟩ := id h
  obtain ⟨h1, h2, h3, h4, h5, h6, h7⟩ := id hT
  have huniq : ∀ i j, i < n → j < n → nI (po i 0) = nI (po j 0) → i = j := fun i j hi hj e => h4 i j hi hj ((nI_eq (by have := po_lt h5 hi (f := 0) (by omega); omega) (by have := po_lt h5 hj (f := 0) (by omega); omega)).mp e)
  have hmf : ∀ j, j < n → nI (po j 0) = x → mfind n po ap x false = some j := by
    intro j hj e
    refine lastI_un hj (by simp [fP, e]) (fun i hi hp => ?_)
    simp only [fP, Bool.and_eq_true, decide_eq_true_eq] at hp
    exact huniq i j hi hj (by rw [hp.1, e])
  unfold cheldB
  cases e : cplace ln lo x with
  | some k =>
    obtain ⟨g1, g2⟩ := cpl_get e
    rw [tie_b hT g1 (by omega)] at g2
    rw [hmf _ (tie_lt hT g1).1 g2.symm]
    dsimp only [Option.map]
    rw [h3 k g1]
  | none =>
    dsimp only
    cases e2 : firstI (fun i => decide (nI (oB (wt.getD i []) 0) = x)) wt.length with
    | some i =>
      obtain ⟨g1, g2, -⟩ := firstI_get e2
      obtain ⟨j, j1, j2, j3, j4⟩ := rt_at h g1
      have g3 := of_decide_eq_true g2
      rw [j4, opL_b (by omega)] at g3
      rw [hmf j j2 g3, Option.map_some, Option.map_some, j4]
    | none =>
      rw [firstI_none] at e2
      cases e3 : mfind n po ap x false with
      | none => rfl
      | some j =>
        obtain ⟨g1, g2⟩ := fnd_id e3
        exfalso
        cases ha : ap j with
        | true =>
          obtain ⟨k, hk, rfl⟩ := tie_inv hT g1 ha
          have := firstI_none.mp e k hk
          rw [tie_b hT hk (by omega)] at this
          exact of_decide_eq_false this g2
        | false =>
          obtain ⟨i, i1, i2, i3⟩ := rt_of h g1 ha
          have := e2 i i1
          rw [i3, opL_b (by omega)] at this
          exact of_decide_eq_false this g2
theorem ws_eq {po : Nat → Nat → Nat} {ws : List Nat} {j : Nat} (hl : ws.length = 6 + oB ws 5) : ws = opL po j ↔ saK po (oB ws) j ws.length = true := by
  unfold saK
  rw [Bool.and_eq_true, decide_eq_true_eq, allI_iff]
  constructor
  · intro e
    have h5 : oB ws 5 = po j 5 := by
      have : oB (opL po j) 5 = po j 5 := opL_b (by omega)
      rw [← e] at this
      exact this
    refine ⟨h5.symm, fun i hi => decide_eq_true ?_⟩
    have : oB (opL po j) i = po j i := opL_b (by omega)
    rw [← e] at this
    exact this.symm
  · rintro ⟨h1, h2⟩
    refine (ws_self ws).symm.trans ?_
    unfold opL
    rw [h1, ← hl]
    refine List.map_congr_left (fun i hi => ?_)
    exact (of_decide_eq_true (h2 i (List.mem_range.mp hi))).symm
theorem rt_rcvE {r n : Nat} {po : Nat → Nat → Nat} {ap : Nat → Bool} {od : List Nat} {ln : Nat} {lo : Nat → List Nat} {wt : List (List Nat)} (h : RT r n po ap od ln lo wt) (ws : List Nat) : crcE ws r ln lo wt = rcvE ws.length (oB ws) r n po ap := by
  unfold crcE rcvE
  rw [h.2.2.2]
  cases hwf : wfB ws.length (oB ws) with
  | false => rw [if_pos rfl, if_pos rfl]
  | true =>
    rw [if_neg (show ¬ true = false by decide), if_neg (show ¬ true = false by decide), rt_held h]
    cases e : mfind n po ap (nI (oB ws 0)) false with
    | none => rfl
    | some j =>
      have hl := (wfB_pre hwf).2.2
      dsimp only [Option.map]
      by_cases z : ws = opL po j
      · rw [if_pos z, if_pos ((ws_eq hl).mp z)]
      · rw [if_neg z, if_neg (fun w => z ((ws_eq hl).mpr w))]
/-- what receive takes -/
theorem rcv_none {mw r n : Nat} {wl : Nat → Nat} {po : Nat → Nat → Nat} {ap : Nat → Bool} (h : rcvE mw wl r n po ap = none) : wfB mw wl = true ∧ mfind n po ap (nI (wl 0)) false = none ∧ wl 0 % 4 ≠ r ∧ saysB mw wl (nI (wl 2)) = true ∧ (wl 1 = 3 → saysB mw wl (nI (wl 3)) = true) ∧ (6 < mw → wl (mw - 1) < wl 0) ∧ n < 16 := by
  unfold rcvE at h
  cases hwf : wfB mw wl with
  | false => rw [hwf, if_pos rfl] at h; cases h
  | true =>
    rw [hwf, if_neg (by decide)] at h
    cases e : mfind n po ap (nI (wl 0)) false with
    | some j => rw [e] at h; cases h
    | none =>
      rw [e] at h
      dsimp only at h
      split at h
      · cases h
      · split at h
        · cases h
        · split at h
          · cases h
          · split at h
            · cases h
            · split at h
              · cases h
              · rename_i c1 c2 c3 c4 c5
                refine ⟨rfl, rfl, c1, by simpa using c2, fun h3 => ?_, fun h6 => by omega, by omega⟩
                cases e3 : saysB mw wl (nI (wl 3)) with
                | true => rfl
                | false => exact absurd ⟨h3, e3⟩ c3
theorem bef_srt {bs : List Nat} {m : Nat} (hb : ∀ i, i < m → befB (oB bs) i = true) : ∀ d i, i + d < m → oB bs (6 + i) ≤ oB bs (6 + (i + d)) := by
  intro d
  induction d with
  | zero => intro i _; exact Nat.le_refl _
  | succ d ih =>
    intro i hi
    have h1 := ih i (by omega)
    have h2 := hb (i + (d + 1)) hi
    unfold befB at h2
    simp only [Bool.and_eq_true, Bool.or_eq_true, decide_eq_true_eq] at h2
    rcases h2.2 with z | z
    · omega
    · rw [show 5 + (i + (d + 1)) = 6 + (i + d) by omega] at z
      omega
theorem says_in {ws : List Nat} {x : Nat} (hl : ws.length = 6 + oB ws 5) (hw : ∀ i, oB ws i < 256) (hx : x < 256) (h : saysB ws.length (oB ws) (nI x) = true) : x = 0 ∨ inB ws x := by
  unfold saysB saysK at h
  rw [Bool.or_eq_true, decide_eq_true_eq, anyI_iff] at h
  rcases h with h | ⟨k, h1, h2⟩
  · exact Or.inl ((nI_eq (b := 0) (by omega) (by decide)).mp h)
  · refine Or.inr ⟨k, by omega, ?_⟩
    exact (nI_eq (by have := hw (6 + k); omega) (by omega)).mp (of_decide_eq_true h2)
theorem rcv_good {ws : List Nat} {r n : Nat} {po : Nat → Nat → Nat} {ap : Nat → Bool} (hw : ∀ i, oB ws i < 256) (h : rcvE ws.length (oB ws) r n po ap = none) : OpGood ws := by
  obtain ⟨h1, h2, h3, h4, h5, h6, h7⟩ := rcv_none h
  obtain ⟨g1, g2, g3⟩ := wfB_pre h1
  refine ⟨⟨g3, g2, hw⟩, h1, fun i hi => ?_, says_in g3 hw (hw 2) h4, fun z => says_in g3 hw (hw 3) (h5 z)⟩
  have e := bef_srt (bs := ws) (m := ws.length - 6) (wf_bef h1) (oB ws 5 - 1 - i) i (by omega)
  have := h6 (by omega)
  rw [show 6 + (i + (oB ws 5 - 1 - i)) = ws.length - 1 by omega] at e
  omega
theorem opL_A {po : Nat → Nat → Nat} {n : Nat} {nb : Nat → Nat} {j : Nat} (h : j ≠ n) : opL (poA po n nb) j = opL po j := by
  unfold opL poA
  simp only [if_neg h]
theorem opL_An {po : Nat → Nat → Nat} {n : Nat} {ws : List Nat} (h : ws.length = 6 + oB ws 5) : opL (poA po n (oB ws)) n = ws := by
  unfold opL poA
  simp only [if_pos]
  rw [← h]
  exact ws_self ws
theorem un_add (n : Nat) (ap : Nat → Bool) : unA (n + 1) (apA ap n) = unA n ap ++ [n] := by
  unfold unA
  rw [List.range_succ, List.filter_append]
  congr 1
  · refine List.filter_congr (fun x hx => ?_)
    have := List.mem_range.mp hx
    unfold apA
    rw [if_neg (by omega)]
  · simp [apA]
theorem tie_add {n : Nat} {po : Nat → Nat → Nat} {ap : Nat → Bool} {od : List Nat} {ln : Nat} {lo : Nat → List Nat} {nb : Nat → Nat} (h : Tie n po ap od ln lo) (hn : n < 16) (hg : OpGood (opL (poA po n nb) n)) (hfr : ∀ j, j < n → po j 0 ≠ nb 0) : Tie (n + 1) (poA po n nb) (apA ap n) od ln lo := by
  obtain ⟨h1, h2, h3, h4, h5, h6, h7⟩ := id h
  refine ⟨odok_add h1, h2, fun k hk => ?_, fun i j hi hj e => ?_, fun j hj => ?_, h6, by omega⟩
  · rw [opL_A (by have := (tie_lt h hk).1; omega)]; exact h3 k hk
  · unfold poA at e
    by_cases z : i = n <;> by_cases w : j = n
    · omega
    · rw [if_pos z, if_neg w] at e
      exact absurd e.symm (hfr j (by omega))
    · rw [if_neg z, if_pos w] at e
      exact absurd e (hfr i (by omega))
    · rw [if_neg z, if_neg w] at e
      exact h4 i j (by omega) (by omega) e
  · by_cases z : j = n
    · rw [z]; exact hg
    · rw [opL_A z]; exact h5 j (by omega)
theorem mf_none {n : Nat} {po : Nat → Nat → Nat} {ap : Nat → Bool} {x : Nat} (h : mfind n po ap (nI x) false = none) : ∀ j, j < n → po j 0 ≠ x := by
  intro j hj e
  have := lastI_none h j hj
  simp [fP, e] at this
/-- receive puts one more among what waits -/
theorem rt_rcv {r n : Nat} {po : Nat → Nat → Nat} {ap : Nat → Bool} {od : List Nat} {ln : Nat} {lo : Nat → List Nat} {wt : List (List Nat)} {ws : List Nat} (h : RT r n po ap od ln lo wt) (hw : ∀ i, oB ws i < 256) (hn : rcvE ws.length (oB ws) r n po ap = none) : RT r (n + 1) (poA po n (oB ws)) (apA ap n) od ln lo (wt ++ [ws]) := by
  obtain ⟨h1, h2, h3, h4, h5, h6, h7⟩ := rcv_none hn
  have hl := (wfB_pre h1).2.2
  have hg := rcv_good hw hn
  refine ⟨tie_add h.1 h7 (by rw [opL_An hl]; exact hg) (mf_none h2), ?_, ?_, ?_⟩
  · rw [un_add, List.map_append, List.map_singleton, opL_An hl, h.2.1]
    congr 1
    refine List.map_congr_left (fun x hx => ?_)
    have := (un_mem.mp hx).1
    rw [opL_A (by omega)]
  · intro j hj ha
    unfold poA
    by_cases z : j = n
    · rw [if_pos z]; exact h3
    · rw [if_neg z]
      unfold apA at ha
      rw [if_neg z] at ha
      exact h.2.2.1 j (by omega) ha
  · rw [List.length_append, List.length_singleton]
    have := h.2.2.2
    omega
