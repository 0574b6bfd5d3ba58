set_option maxRecDepth 100000
/-! PURE, G: the model's operations in the order of its log -/
def opL (po : Nat → Nat → Nat) (j : Nat) : List Nat := (List.range (6 + po j 5)).map (po j)
abbrev oi (od : List Nat) (k : Nat) : Nat := od.getD k 0
theorem opL_len (po : Nat → Nat → Nat) (j : Nat) : (opL po j).length = 6 + po j 5 := by unfold opL; rw [List.length_map, List.length_range]
theorem opL_b {po : Nat → Nat → Nat} {j f : Nat} (h : f < 6 + po j 5) : oB (opL po j) f = po j f := by
  unfold oB opL
  rw [List.getD_eq_getElem?_getD, List.getElem?_map, List.getElem?_range h]
  rfl
def Tie (n : Nat) (po : Nat → Nat → Nat) (ap : Nat → Bool) (od : List Nat) (ln : Nat) (lo : Nat → List Nat) : Prop :=
  OdOk n ap od ∧ od.length = ln ∧ (∀ k, k < ln → lo k = opL po (oi od k)) ∧ (∀ i j, i < n → j < n → po i 0 = po j 0 → i = j) ∧ (∀ j, j < n → OpGood (opL po j)) ∧ LogOk ln lo ∧ n ≤ 16
theorem oi_get {od : List Nat} {k : Nat} (h : k < od.length) : od[k]? = some (oi od k) := by
  unfold oi
  rw [List.getD_eq_getElem?_getD, List.getElem?_eq_getElem h]
  rfl
theorem tie_lt {n : Nat} {po : Nat → Nat → Nat} {ap : Nat → Bool} {od : List Nat} {ln : Nat} {lo : Nat → List Nat} (h : Tie n po ap od ln lo) {k : Nat} (hk : k < ln) : oi od k < n ∧ ap (oi od k) = true := by
  refine (h.1.2 _).mp (List.mem_of_getElem? (oi_get ?_))
  rw [h.2.1]; exact hk
theorem tie_inv {n : Nat} {po : Nat → Nat → Nat} {ap : Nat → Bool} {od : List Nat} {ln : Nat} {lo : Nat → List Nat} (h : Tie n po ap od ln lo) {j : Nat} (hj : j < n) (ha : ap j = true) : ∃ k, k < ln ∧ oi od k = j := by
  obtain ⟨k, hk⟩ := List.getElem?_of_mem ((h.1.2 j).mpr ⟨hj, ha⟩)
  have hl := (List.getElem?_eq_some_iff.mp hk).1
  refine ⟨k, by rw [← h.2.1]; exact hl, ?_⟩
  rw [oi_get hl] at hk
  exact Option.some.inj hk
theorem tie_inj {n : Nat} {po : Nat → Nat → Nat} {ap : Nat → Bool} {od : List Nat} {ln : Nat} {lo : Nat → List Nat} (h : Tie n po ap od ln lo) {k q : Nat} (hk : k < ln) (hq : q < ln) (e : oi od k = oi od q) : k = q := by
  have h1 := oi_get (od := od) (k := k) (by rw [h.2.1]; exact hk)
  have h2 := oi_get (od := od) (k := q) (by rw [h.2.1]; exact hq)
  rw [← e] at h2
  have hl : k < od.length := by rw [h.2.1]; exact hk
  exact (List.getElem?_inj hl h.1.1).mp (h1.trans h2.symm)
theorem tie_b {n : Nat} {po : Nat → Nat → Nat} {ap : Nat → Bool} {od : List Nat} {ln : Nat} {lo : Nat → List Nat} (h : Tie n po ap od ln lo) {k f : Nat} (hk : k < ln) (hf : f < 6 + po (oi od k) 5) : oB (lo k) f = po (oi od k) f := by
  rw [h.2.2.1 k hk]; exact opL_b hf
theorem tie_ln {n : Nat} {po : Nat → Nat → Nat} {ap : Nat → Bool} {od : List Nat} {ln : Nat} {lo : Nat → List Nat} (h : Tie n po ap od ln lo) : ln ≤ n := by
  rw [← h.2.1]
  exact nodup_len n od h.1.1 (fun x hx => ((h.1.2 x).mp hx).1)
theorem po_lt {n : Nat} {po : Nat → Nat → Nat} {j f : Nat} (hg : ∀ j, j < n → OpGood (opL po j)) (hj : j < n) (hf : f < 6 + po j 5) : po j f < 256 := by
  rw [← opL_b hf]
  exact good_lt (hg j hj) f
theorem tie_mf {n : Nat} {po : Nat → Nat → Nat} {ap : Nat → Bool} {od : List Nat} {ln : Nat} {lo : Nat → List Nat} (h : Tie n po ap od ln lo) (x : Int32) : mfind n po ap x true = (cplace ln lo x).map (oi od) := by
  obtain ⟨h1, h2, h3, h4, h5, h6, h7⟩ := id h
  cases e : cplace ln lo x with
  | none =>
    refine lastI_nn (fun j hj => ?_)
    cases ha : ap j with
    | false => simp [fP, ha]
    | true =>
      obtain ⟨k, hk, rfl⟩ := tie_inv h hj ha
      have e2 := firstI_none.mp e k hk
      rw [tie_b h hk (by omega)] at e2
      unfold fP
      rw [e2]; rfl
  | some k =>
    obtain ⟨e1, e2⟩ := cpl_get e
    obtain ⟨g1, g2⟩ := tie_lt h e1
    rw [tie_b h e1 (by omega)] at e2
    refine lastI_un g1 ?_ (fun i hi hp => ?_)
    · unfold fP
      rw [g2, e2]
      simp
    · simp only [fP, Bool.and_eq_true, decide_eq_true_eq] at hp
      refine h4 i _ hi g1 ?_
      rw [e2] at hp
      exact (nI_eq (by have := po_lt h5 hi (f := 0) (by omega); omega) (by have := po_lt h5 g1 (f := 0) (by omega); omega)).mp hp.1
theorem hi_some {ln : Nat} {lo : Nat → List Nat} {hi : Nat → Option Nat} (hL : LogOk ln lo) (hH : HiB ln lo hi) {k : Nat} (hk : k < ln) (h3 : oB (lo k) 1 = 3) : (hi k).isSome = fitK ln lo hi k := by
  cases e : fitK ln lo hi k with
  | true =>
    obtain ⟨m, e1, -⟩ := cfits_3 e ((kd_eq hL hk (c := 3) (by decide)).mpr h3)
    rw [hi_of hH hk (by omega) e, e1]
    rfl
  | false =>
    rw [hH k hk, if_neg (fun w => by rw [e] at w; cases w.2)]
    rfl
theorem tie_fits {n : Nat} {po : Nat → Nat → Nat} {ap ft : Nat → Bool} {od : List Nat} {ln : Nat} {lo : Nat → List Nat} {hi : Nat → Option Nat} (h : Tie n po ap od ln lo) (hH : HiB ln lo hi) {K : Nat} (hft : ∀ k, k < K → k < ln → ft (oi od k) = fitK ln lo hi k) {kd tg sl : Int32} (ht : ∀ p, cplace ln lo tg = some p → p < K) (hs : kd = 3 → ∀ p, cplace ln lo sl = some p → p < K) : mfits n po ap ft kd tg sl = cfits ln lo hi kd tg sl := by
  have hL := h.2.2.2.2.2.1
  have h0 : cplace ln lo 0 = none := (cpl_no hL (x := 0) (by decide)).mpr (fun p hp => by have := good_id (hL.1 p hp); omega)
  unfold mfits cfits
  rw [tie_mf h tg, tie_mf h sl]
  by_cases k4 : kd = 4
  · subst k4
    rw [if_neg (by decide), if_pos rfl, if_pos rfl]
    unfold celem
    cases e : cplace ln lo tg with
    | none => rfl
    | some p =>
      have hp := (cpl_get e).1
      dsimp only [Option.map]
      rw [← tie_b h hp (by omega), hft p (ht p e) hp]
      by_cases z : oB (lo p) 1 = 3
      · rw [hi_some hL hH hp z]
        cases fitK ln lo hi p <;> simp [z]
      · simp [z]
  · rw [if_neg k4, if_neg k4]
    by_cases k3 : kd = 3
    · rw [if_pos k3, if_pos k3]
      unfold cnode
      by_cases t0 : tg = 0
      · rw [if_pos t0, t0, h0]
        simp [isLstB]
      · rw [if_neg t0]
        cases e : cplace ln lo tg with
        | none => rfl
        | some p =>
          have hp := cpl_get e
          dsimp only [Option.map]
          rw [← tie_b h hp.1 (by omega)]
          by_cases z : oB (lo p) 1 = 2
          · rw [if_pos (Or.inr z)]
            simp only [isLstB, Nat.add_sub_cancel, z, decide_true, Bool.true_and, ne_eq, Nat.add_eq_zero_iff, Nat.one_ne_zero, and_false, not_false_eq_true]
            congr 1
            unfold celem
            cases e2 : cplace ln lo sl with
            | none => rfl
            | some q =>
              have hq := (cpl_get e2).1
              dsimp only [Option.map]
              rw [← tie_b h hq (by omega), ← tie_b h hq (by omega), hft q (hs k3 q e2) hq]
              by_cases z3 : oB (lo q) 1 = 3
              · have hso := hi_some hL hH hq z3
                cases ef : fitK ln lo hi q with
                | false =>
                  rw [ef] at hso
                  simp [hso]
                | true =>
                  rw [ef] at hso
                  simp only [z3, hso, and_self, if_true, decide_true, Bool.true_and]
                  rw [decide_eq_decide, hi_of hH hq (by omega) ef]
                  constructor
                  · intro w
                    rw [w]
                    unfold cnode
                    rw [if_neg t0, e]
                    dsimp only
                    rw [if_pos (Or.inr z)]
                  · intro w
                    rcases cnd_get hL (good_lt (hL.1 q hq) 2) w with ⟨_, w2⟩ | ⟨_, _, _, w4, _⟩
                    · omega
                    · rw [hp.2, ← w4, Nat.add_sub_cancel]
              · simp [z3]
          · rw [show decide (oB (lo p) 1 = 2) = false from decide_eq_false z, Bool.false_and]
            by_cases z1 : oB (lo p) 1 = 1
            · rw [if_pos (Or.inl z1)]
              simp [isLstB, z1]
            · rw [if_neg (by omega)]
    · rw [if_neg k3, if_neg k3]
      unfold cnode
      by_cases t0 : tg = 0
      · rw [if_pos t0]
        simp [t0, isMapB]
      · rw [if_neg t0]
        cases e : cplace ln lo tg with
        | none => simp [t0]
        | some p =>
          have hp := cpl_get e
          dsimp only [Option.map]
          rw [← tie_b h hp.1 (by omega)]
          by_cases z : oB (lo p) 1 = 1
          · rw [if_pos (Or.inl z)]
            simp [isMapB, z]
          · by_cases z2 : oB (lo p) 1 = 2
            · rw [if_pos (Or.inr z2)]
              simp [isMapB, z2, t0]
            · rw [if_neg (by omega)]
              simp [z, t0]
