set_option maxRecDepth 100000
/-! PURE, C: good operations, good logs -/
def inB (bs : List Nat) (x : Nat) : Prop := ∃ i, i < oB bs 5 ∧ oB bs (6 + i) = x
def OpGood (bs : List Nat) : Prop := OpOk bs ∧ wfB bs.length (oB bs) = true ∧ (∀ i, i < oB bs 5 → oB bs (6 + i) < oB bs 0) ∧ (oB bs 2 = 0 ∨ inB bs (oB bs 2)) ∧ (oB bs 1 = 3 → oB bs 3 = 0 ∨ inB bs (oB bs 3))
def LogOk (ln : Nat) (lo : Nat → List Nat) : Prop := (∀ k, k < ln → OpGood (lo k)) ∧ (∀ i j, i < ln → j < ln → oB (lo i) 0 = oB (lo j) 0 → i = j) ∧ ∀ k i, k < ln → i < oB (lo k) 5 → ∃ p, p < k ∧ oB (lo p) 0 = oB (lo k) (6 + i)
theorem wf_id {mw : Nat} {wl : Nat → Nat} (h : wfB mw wl = true) : 4 ≤ wl 0 ∧ wl 0 ≤ 162 ∧ wl 0 % 4 ≠ 3 ∧ wl 1 ≤ 5 := by
  unfold wfB preB isIdB at h
  simp only [Bool.and_eq_true, decide_eq_true_eq] at h
  exact ⟨h.1.1.1.2.1.1, h.1.1.1.2.1.2, h.1.1.1.2.2, h.1.1.2⟩
theorem wf_sh {mw : Nat} {wl : Nat → Nat} (h : wfB mw wl = true) : shB (wl 1) (wl 2) (wl 3) (wl 4) = true := by
  unfold wfB at h
  simp only [Bool.and_eq_true] at h
  exact h.2
theorem wf_bef {mw : Nat} {wl : Nat → Nat} (h : wfB mw wl = true) : ∀ i, i < mw - 6 → befB wl i = true := by
  unfold wfB at h
  simp only [Bool.and_eq_true] at h
  exact allI_iff.mp h.1.2
theorem good_id {bs : List Nat} (h : OpGood bs) : 4 ≤ oB bs 0 ∧ oB bs 0 ≤ 162 ∧ oB bs 0 % 4 ≠ 3 ∧ oB bs 1 ≤ 5 := wf_id h.2.1
theorem good_sl {bs : List Nat} (h : OpGood bs) : oB bs 1 ≠ 3 → oB bs 3 ≤ 3 := by
  intro h3
  have := wf_sh h.2.1
  unfold shB at this
  simp only [Bool.and_eq_true, decide_eq_true_eq] at this
  have h2 := this.2
  rw [if_neg h3] at h2
  split at h2
  · simp only [Bool.and_eq_true, decide_eq_true_eq] at h2; omega
  · simp only [Bool.and_eq_true, decide_eq_true_eq] at h2; exact h2.2
theorem good_bid {bs : List Nat} (h : OpGood bs) {i : Nat} (hi : i < oB bs 5) : 4 ≤ oB bs (6 + i) ∧ oB bs (6 + i) ≤ 162 := by
  have h1 := wf_bef h.2.1 i (by rw [h.1.1]; omega)
  unfold befB isIdB at h1
  simp only [Bool.and_eq_true, decide_eq_true_eq] at h1
  exact ⟨h1.1.1.1, h1.1.1.2⟩
theorem good_lt {bs : List Nat} (h : OpGood bs) (f : Nat) : oB bs f < 256 := h.1.2.2 f
theorem cpl_get {ln : Nat} {lo : Nat → List Nat} {x : Int32} {p : Nat} (h : cplace ln lo x = some p) : p < ln ∧ x = nI (oB (lo p) 0) := by
  obtain ⟨h1, h2, -⟩ := firstI_get h
  exact ⟨h1, (of_decide_eq_true h2).symm⟩
theorem cpl_id {ln : Nat} {lo : Nat → List Nat} (hL : LogOk ln lo) {x p : Nat} (hx : x < 256) (h : cplace ln lo (nI x) = some p) : p < ln ∧ oB (lo p) 0 = x := by
  obtain ⟨h1, h2⟩ := cpl_get h
  have := (nI_eq (by omega) (by have := good_lt (hL.1 p h1) 0; omega)).mp h2
  exact ⟨h1, this.symm⟩
theorem cpl_at {ln : Nat} {lo : Nat → List Nat} (hL : LogOk ln lo) {p : Nat} (hp : p < ln) : cplace ln lo (nI (oB (lo p) 0)) = some p := by
  refine firstI_at hp (decide_eq_true rfl) (fun i hi => decide_eq_false (fun z => ?_))
  have := (nI_eq (by have := good_lt (hL.1 i (by omega)) 0; omega) (by have := good_lt (hL.1 p hp) 0; omega)).mp z
  have := hL.2.1 i p (by omega) hp this
  omega
theorem cpl_no {ln : Nat} {lo : Nat → List Nat} (hL : LogOk ln lo) {x : Nat} (hx : x < 256) : cplace ln lo (nI x) = none ↔ ∀ p, p < ln → oB (lo p) 0 ≠ x := by
  constructor
  · intro h p hp e
    rw [← e, cpl_at hL hp] at h
    cases h
  · intro h
    cases e : cplace ln lo (nI x) with
    | none => rfl
    | some p => exact absurd (cpl_id hL hx e).2 (h p (cpl_id hL hx e).1)
/-- the log with one more -/
theorem log_ex {ln : Nat} {lo : Nat → List Nat} {bs : List Nat} (hL : LogOk ln lo) (hg : OpGood bs) (hfr : ∀ k, k < ln → oB (lo k) 0 ≠ oB bs 0) (hb : ∀ i, i < oB bs 5 → ∃ p, p < ln ∧ oB (lo p) 0 = oB bs (6 + i)) : LogOk (ln + 1) (ex lo ln bs) := by
  refine ⟨fun k hk => ?_, fun i j hi hj e => ?_, fun k i hk hi => ?_⟩
  · by_cases z : k = ln
    · rw [z, ex_s]; exact hg
    · rw [ex_n z]; exact hL.1 k (by omega)
  · by_cases z : i = ln <;> by_cases w : j = ln
    · omega
    · rw [z, ex_s, ex_n w] at e
      exact absurd e.symm (hfr j (by omega))
    · rw [w, ex_s, ex_n z] at e
      exact absurd e (hfr i (by omega))
    · rw [ex_n z, ex_n w] at e
      exact hL.2.1 i j (by omega) (by omega) e
  · by_cases z : k = ln
    · rw [z, ex_s] at hi ⊢
      obtain ⟨p, h1, h2⟩ := hb i hi
      exact ⟨p, h1, by rw [ex_n (by omega)]; exact h2⟩
    · rw [ex_n z] at hi ⊢
      obtain ⟨p, h1, h2⟩ := hL.2.2 k i (by omega) hi
      exact ⟨p, h1, by rw [ex_n (by omega)]; exact h2⟩
theorem cpl_ex {ln : Nat} {lo : Nat → List Nat} {bs : List Nat} (hL : LogOk ln lo) (hL2 : LogOk (ln + 1) (ex lo ln bs)) {x : Nat} (hx : x < 256) (hne : x ≠ oB bs 0) : cplace (ln + 1) (ex lo ln bs) (nI x) = cplace ln lo (nI x) := by
  cases e : cplace ln lo (nI x) with
  | some p => exact cplace_ex e
  | none =>
    rw [cpl_no hL hx] at e
    rw [cpl_no hL2 hx]
    intro p hp
    by_cases z : p = ln
    · rw [z, ex_s]; exact Ne.symm hne
    · rw [ex_n z]; exact e p (by omega)
theorem cnd_ex {ln : Nat} {lo : Nat → List Nat} {bs : List Nat} (hL : LogOk ln lo) (hL2 : LogOk (ln + 1) (ex lo ln bs)) {x : Nat} (hx : x < 256) (hne : x ≠ oB bs 0) : cnode (ln + 1) (ex lo ln bs) (nI x) = cnode ln lo (nI x) := by
  unfold cnode
  rw [cpl_ex hL hL2 hx hne]
  split
  · rfl
  · cases e : cplace ln lo (nI x) with
    | none => rfl
    | some k => dsimp only; rw [ex_n (by have := (cpl_get e).1; omega)]
theorem cel_ex {ln : Nat} {lo : Nat → List Nat} {bs : List Nat} {hi hi' : Nat → Option Nat} (hL : LogOk ln lo) (hL2 : LogOk (ln + 1) (ex lo ln bs)) (hh : ∀ k, k < ln → hi' k = hi k) {x : Nat} (hx : x < 256) (hne : x ≠ oB bs 0) : celem (ln + 1) (ex lo ln bs) hi' (nI x) = celem ln lo hi (nI x) := by
  unfold celem
  rw [cpl_ex hL hL2 hx hne]
  cases e : cplace ln lo (nI x) with
  | none => rfl
  | some k =>
    have := (cpl_get e).1
    dsimp only
    rw [ex_n (by omega), hh k this]
theorem isMapB_ex {ln : Nat} {lo : Nat → List Nat} {bs : List Nat} {m : Nat} (hm : m ≤ ln) : isMapB (ex lo ln bs) m = isMapB lo m := by
  unfold isMapB
  by_cases z : m = 0
  · simp [z]
  · rw [ex_n (show m - 1 ≠ ln by omega)]
theorem isLstB_ex {ln : Nat} {lo : Nat → List Nat} {bs : List Nat} {m : Nat} (hm : m ≤ ln) : isLstB (ex lo ln bs) m = isLstB lo m := by
  unfold isLstB
  by_cases z : m = 0
  · simp [z]
  · rw [ex_n (show m - 1 ≠ ln by omega)]
/-- whether something fits is settled by what was there -/
theorem cft_ex {ln : Nat} {lo : Nat → List Nat} {bs : List Nat} {hi hi' : Nat → Option Nat} (hL : LogOk ln lo) (hL2 : LogOk (ln + 1) (ex lo ln bs)) (hh : ∀ k, k < ln → hi' k = hi k) {kd tg sl : Nat} (hkd : kd < 256) (ht : tg < 256) (hs : sl < 256) (hnt : tg ≠ oB bs 0) (hns : kd = 3 → sl ≠ oB bs 0) : cfits (ln + 1) (ex lo ln bs) hi' (nI kd) (nI tg) (nI sl) = cfits ln lo hi (nI kd) (nI tg) (nI sl) := by
  unfold cfits
  rw [cel_ex hL hL2 hh ht hnt, cnd_ex hL hL2 ht hnt]
  split
  · rfl
  · split
    · rename_i h3
      have hk3 : kd = 3 := (nI_eq (b := 3) (by omega) (by decide)).mp h3
      rw [cel_ex hL hL2 hh hs (hns hk3)]
      cases e : cnode ln lo (nI tg) with
      | none => rfl
      | some m =>
        dsimp only
        rw [isLstB_ex (cnode_le e).1]
        cases e2 : celem ln lo hi (nI sl) with
        | none => rfl
        | some k => dsimp only; rw [hh k (celem_lt e2)]
    · cases e : cnode ln lo (nI tg) with
      | none => rfl
      | some m => dsimp only; rw [isMapB_ex (cnode_le e).1]
abbrev fitK (ln : Nat) (lo : Nat → List Nat) (hi : Nat → Option Nat) (k : Nat) : Bool := cfits ln lo hi (nI (oB (lo k) 1)) (nI (oB (lo k) 2)) (nI (oB (lo k) 3))
theorem tg_ne {ln : Nat} {lo : Nat → List Nat} {bs : List Nat} (hL : LogOk ln lo) (hg : OpGood bs) (hfr : ∀ k, k < ln → oB (lo k) 0 ≠ oB bs 0) {k : Nat} (hk : k < ln) : oB (lo k) 2 ≠ oB bs 0 ∧ oB (lo k) 3 ≠ oB bs 0 := by
  have g := hL.1 k hk
  have hid := good_id hg
  refine ⟨?_, ?_⟩
  · rcases g.2.2.2.1 with z | ⟨i, h1, h2⟩
    · omega
    · obtain ⟨p, hp1, hp2⟩ := hL.2.2 k i hk h1
      rw [← h2, ← hp2]
      exact hfr p (by omega)
  · by_cases h3 : oB (lo k) 1 = 3
    · rcases g.2.2.2.2 h3 with z | ⟨i, h1, h2⟩
      · omega
      · obtain ⟨p, hp1, hp2⟩ := hL.2.2 k i hk h1
        rw [← h2, ← hp2]
        exact hfr p (by omega)
    · have := good_sl g h3
      omega
theorem fitK_ex {ln : Nat} {lo : Nat → List Nat} {bs : List Nat} {hi hi' : Nat → Option Nat} (hL : LogOk ln lo) (hg : OpGood bs) (hfr : ∀ k, k < ln → oB (lo k) 0 ≠ oB bs 0) (hL2 : LogOk (ln + 1) (ex lo ln bs)) (hh : ∀ k, k < ln → hi' k = hi k) {k : Nat} (hk : k < ln) : fitK (ln + 1) (ex lo ln bs) hi' k = fitK ln lo hi k := by
  unfold fitK
  rw [ex_n (by omega)]
  have h := tg_ne hL hg hfr hk
  have g := good_lt (hL.1 k hk)
  exact cft_ex hL hL2 hh (g 1) (g 2) (g 3) h.1 (fun _ => h.2)
theorem fitK_new {ln : Nat} {lo : Nat → List Nat} {bs : List Nat} {hi hi' : Nat → Option Nat} (hL : LogOk ln lo) (hg : OpGood bs) (hL2 : LogOk (ln + 1) (ex lo ln bs)) (hh : ∀ k, k < ln → hi' k = hi k) : fitK (ln + 1) (ex lo ln bs) hi' ln = cfits ln lo hi (nI (oB bs 1)) (nI (oB bs 2)) (nI (oB bs 3)) := by
  unfold fitK
  rw [ex_s]
  have g := good_lt hg
  refine cft_ex hL hL2 hh (g 1) (g 2) (g 3) ?_ (fun h3 => ?_)
  · have hid := good_id hg
    rcases hg.2.2.2.1 with z | ⟨i, h1, h2⟩
    · omega
    · have := hg.2.2.1 i h1; omega
  · have hid := good_id hg
    rcases hg.2.2.2.2 h3 with z | ⟨i, h1, h2⟩
    · omega
    · have := hg.2.2.1 i h1; omega
