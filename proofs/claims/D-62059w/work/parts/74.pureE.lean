set_option maxRecDepth 100000
/-! PURE, E: apply keeps what the cells say -/
/-- an operation that can come to the log -/
def NewOk (ln : Nat) (lo : Nat → List Nat) (bs : List Nat) : Prop := OpGood bs ∧ (∀ k, k < ln → oB (lo k) 0 ≠ oB bs 0) ∧ ∀ i, i < oB bs 5 → ∃ p, p < ln ∧ oB (lo p) 0 = oB bs (6 + i)
theorem new_log {ln : Nat} {lo : Nat → List Nat} {bs : List Nat} (hL : LogOk ln lo) (hN : NewOk ln lo bs) : LogOk (ln + 1) (ex lo ln bs) := log_ex hL hN.1 hN.2.1 hN.2.2
theorem new_inB {ln : Nat} {lo : Nat → List Nat} {bs : List Nat} (hL : LogOk ln lo) (hN : NewOk ln lo bs) {j : Nat} (hj : j < ln) : ¬ inB (lo j) (oB bs 0) := by
  intro h
  obtain ⟨p, h1, h2, -⟩ := inB_ex hL hj h
  exact hN.2.1 p (by omega) h2
theorem new_inS {ln : Nat} {lo : Nat → List Nat} {bs : List Nat} (hN : NewOk ln lo bs) : ¬ inB bs (oB bs 0) := by
  rintro ⟨i, h1, h2⟩
  have := hN.1.2.2.1 i h1
  omega
theorem pa_bit {ln : Nat} {lo : Nat → List Nat} {P : Nat → Int32} {bs : List Nat} (hln : ln ≤ 16) (hL : LogOk ln lo) (hg : OpGood bs) {i : Nat} (hi : i < 16) : bitI (paF ln lo P bs) i = true ↔ ∃ b p, b < oB bs 5 ∧ p < ln ∧ oB (lo p) 0 = oB bs (6 + b) ∧ (i = p ∨ bitI (P p) i = true) := by
  unfold paF
  rw [paF_bit hln hi]
  constructor
  · rintro ⟨j, p, h1, h2, h3⟩
    have := cpl_id hL (good_lt hg _) h2
    exact ⟨j, p, h1, this.1, this.2, h3⟩
  · rintro ⟨j, p, h1, h2, h3, h4⟩
    exact ⟨j, p, h1, by rw [← h3]; exact cpl_at hL h2, h4⟩
theorem pa_lt {ln : Nat} {lo : Nat → List Nat} {P : Nat → Int32} {bs : List Nat} (hln : ln ≤ 16) (hL : LogOk ln lo) (hP : PB ln lo P) (hg : OpGood bs) {i : Nat} (hi : i < 16) (h : bitI (paF ln lo P bs) i = true) : i < ln := by
  obtain ⟨b, p, h1, h2, h3, h4⟩ := (pa_bit hln hL hg hi).mp h
  rcases h4 with z | z
  · omega
  · have := bit_lt hL hP p h2 i hi z; omega
theorem PB_ex {ln : Nat} {lo : Nat → List Nat} {P : Nat → Int32} {bs : List Nat} (hln : ln ≤ 16) (hL : LogOk ln lo) (hP : PB ln lo P) (hN : NewOk ln lo bs) : PB (ln + 1) (ex lo ln bs) (ex P ln (paF ln lo P bs)) := by
  intro k hk i hi
  by_cases z : k = ln
  · subst z
    rw [ex_s, ex_s, pa_bit hln hL hN.1 hi]
    constructor
    · rintro ⟨b, p, h1, h2, h3, h4⟩
      exact ⟨b, p, h1, by omega, by rw [ex_n (by omega)]; exact h3, by rw [ex_n (by omega)]; exact h4⟩
    · rintro ⟨b, p, h1, h2, h3, h4⟩
      by_cases w : p = k
      · rw [w, ex_s] at h3
        exact (new_inS hN ⟨b, h1, h3.symm⟩).elim
      · rw [ex_n w] at h3 h4
        exact ⟨b, p, h1, by omega, h3, h4⟩
  · have hk2 : k < ln := by omega
    rw [ex_n z, ex_n z, hP k hk2 i hi]
    constructor
    · rintro ⟨b, p, h1, h2, h3, h4⟩
      exact ⟨b, p, h1, by omega, by rw [ex_n (by omega)]; exact h3, by rw [ex_n (by omega)]; exact h4⟩
    · rintro ⟨b, p, h1, h2, h3, h4⟩
      by_cases w : p = ln
      · rw [w, ex_s] at h3
        exact (new_inB hL hN hk2 ⟨b, h1, h3.symm⟩).elim
      · rw [ex_n w] at h3 h4
        exact ⟨b, p, h1, by omega, h3, h4⟩
theorem FoB_ex {ln : Nat} {lo : Nat → List Nat} {fo : Nat → Bool} {bs : List Nat} (hL : LogOk ln lo) (hF : FoB ln lo fo) (hN : NewOk ln lo bs) : FoB (ln + 1) (ex lo ln bs) (ex (foF ln lo bs fo) ln false) := by
  intro k hk
  by_cases z : k = ln
  · subst z
    rw [ex_s, ex_s]
    constructor
    · intro h; cases h
    · rintro ⟨j, h1, h2⟩
      by_cases w : j = k
      · rw [w, ex_s] at h2
        exact (new_inS hN h2).elim
      · rw [ex_n w] at h2
        exact (new_inB hL hN (by omega) h2).elim
  · have hk2 : k < ln := by omega
    rw [ex_n z, ex_n z]
    unfold foF
    rw [foF_eq, hF k hk2]
    constructor
    · rintro (⟨j, h1, h2⟩ | ⟨j, h1, h2⟩)
      · exact ⟨j, by omega, by rw [ex_n (by omega)]; exact h2⟩
      · have := cpl_id hL (good_lt hN.1 _) h2
        exact ⟨ln, by omega, by rw [ex_s]; exact ⟨j, h1, this.2.symm⟩⟩
    · rintro ⟨j, h1, h2⟩
      by_cases w : j = ln
      · rw [w, ex_s] at h2
        obtain ⟨i, g1, g2⟩ := h2
        exact Or.inr ⟨i, g1, by rw [g2]; exact cpl_at hL hk2⟩
      · rw [ex_n w] at h2
        exact Or.inl ⟨j, by omega, h2⟩
theorem tgs_ne {ln : Nat} {lo : Nat → List Nat} {bs : List Nat} (hN : NewOk ln lo bs) : oB bs 2 ≠ oB bs 0 := by
  have hid := good_id hN.1
  rcases hN.1.2.2.2.1 with z | z
  · omega
  · intro h
    rw [h] at z
    exact new_inS hN z
theorem HiB_ex {ln : Nat} {lo : Nat → List Nat} {hi hi' : Nat → Option Nat} {bs : List Nat} (hL : LogOk ln lo) (hH : HiB ln lo hi) (hN : NewOk ln lo bs) (hh : ∀ k, k < ln → hi' k = hi k) (hn : hi' ln = if oB bs 1 ≤ 3 ∧ cfits ln lo hi (nI (oB bs 1)) (nI (oB bs 2)) (nI (oB bs 3)) = true then cnode ln lo (nI (oB bs 2)) else none) : HiB (ln + 1) (ex lo ln bs) hi' := by
  have hL2 := new_log hL hN
  intro k hk
  by_cases z : k = ln
  · subst z
    rw [hn, fitK_new hL hN.1 hL2 hh, ex_s, cnd_ex hL hL2 (good_lt hN.1 2) (tgs_ne hN)]
  · have hk2 : k < ln := by omega
    rw [hh k hk2, hH k hk2, fitK_ex hL hN.1 hN.2.1 hL2 hh hk2, ex_n z, cnd_ex hL hL2 (good_lt (hL.1 k hk2) 2) (tg_ne hL hN.1 hN.2.1 hk2).1]
theorem ent_old {ln : Nat} {lo : Nat → List Nat} {P : Nat → Int32} {hi hi' : Nat → Option Nat} {bs : List Nat} {pa : Int32} (hL : LogOk ln lo) (hN : NewOk ln lo bs) (hh : ∀ k, k < ln → hi' k = hi k) {k : Nat} (hk : k < ln) : Ent (ln + 1) (ex lo ln bs) (ex P ln pa) hi' k ↔ Ent ln lo P hi k ∧ ¬ (cfits ln lo hi (nI (oB bs 1)) (nI (oB bs 2)) (nI (oB bs 3)) = true ∧ (oB bs 1 ≤ 2 ∨ oB bs 1 = 5) ∧ oB bs 2 = oB (lo k) 2 ∧ oB bs 3 = oB (lo k) 3 ∧ bitI pa k = true) := by
  have hL2 := new_log hL hN
  have hkil : (∃ j, Kil (ln + 1) (ex lo ln bs) (ex P ln pa) hi' j k) ↔ (∃ j, Kil ln lo P hi j k) ∨ (cfits ln lo hi (nI (oB bs 1)) (nI (oB bs 2)) (nI (oB bs 3)) = true ∧ (oB bs 1 ≤ 2 ∨ oB bs 1 = 5) ∧ oB bs 2 = oB (lo k) 2 ∧ oB bs 3 = oB (lo k) 3 ∧ bitI pa k = true) := by
    constructor
    · rintro ⟨j, h1, h2, h3, h4, h5, h6⟩
      rw [ex_n (show k ≠ ln by omega)] at h4 h5
      by_cases w : j = ln
      · subst w
        rw [fitK_new hL hN.1 hL2 hh] at h2
        rw [ex_s] at h3 h4 h5 h6
        exact Or.inr ⟨h2, h3, h4, h5, h6⟩
      · rw [fitK_ex hL hN.1 hN.2.1 hL2 hh (by omega)] at h2
        rw [ex_n w] at h3 h4 h5 h6
        exact Or.inl ⟨j, by omega, h2, h3, h4, h5, h6⟩
    · rintro (⟨j, h1, h2, h3, h4, h5, h6⟩ | ⟨h2, h3, h4, h5, h6⟩)
      · refine ⟨j, by omega, by rw [fitK_ex hL hN.1 hN.2.1 hL2 hh h1]; exact h2, ?_⟩
        rw [ex_n (show k ≠ ln by omega), ex_n (show j ≠ ln by omega), ex_n (show j ≠ ln by omega)]
        exact ⟨h3, h4, h5, h6⟩
      · refine ⟨ln, by omega, by rw [fitK_new hL hN.1 hL2 hh]; exact h2, ?_⟩
        rw [ex_n (show k ≠ ln by omega), ex_s, ex_s]
        exact ⟨h3, h4, h5, h6⟩
  unfold Ent
  rw [hkil, fitK_ex hL hN.1 hN.2.1 hL2 hh hk, ex_n (show k ≠ ln by omega)]
  constructor
  · rintro ⟨-, h2, h3, h4⟩
    exact ⟨⟨hk, h2, h3, fun w => h4 (Or.inl w)⟩, fun w => h4 (Or.inr w)⟩
  · rintro ⟨⟨-, h2, h3, h4⟩, h5⟩
    exact ⟨by omega, h2, h3, fun w => w.elim h4 h5⟩
theorem ent_new {ln : Nat} {lo : Nat → List Nat} {P : Nat → Int32} {hi hi' : Nat → Option Nat} {bs : List Nat} (hln : ln < 16) (hL : LogOk ln lo) (hP : PB ln lo P) (hN : NewOk ln lo bs) (hh : ∀ k, k < ln → hi' k = hi k) : Ent (ln + 1) (ex lo ln bs) (ex P ln (paF ln lo P bs)) hi' ln ↔ cfits ln lo hi (nI (oB bs 1)) (nI (oB bs 2)) (nI (oB bs 3)) = true ∧ oB bs 1 ≤ 2 := by
  have hL2 := new_log hL hN
  unfold Ent
  rw [fitK_new hL hN.1 hL2 hh, ex_s]
  constructor
  · rintro ⟨-, h2, h3, -⟩; exact ⟨h2, h3⟩
  · rintro ⟨h2, h3⟩
    refine ⟨by omega, h2, h3, ?_⟩
    rintro ⟨j, h1, -, -, -, -, h6⟩
    by_cases w : j = ln
    · rw [w, ex_s] at h6
      have := pa_lt (by omega) hL hP hN.1 (by omega) h6
      omega
    · rw [ex_n w] at h6
      have := bit_lt hL hP j (by omega) ln hln h6
      omega
theorem gon_old {ln : Nat} {lo : Nat → List Nat} {hi hi' : Nat → Option Nat} {bs : List Nat} (hL : LogOk ln lo) (hN : NewOk ln lo bs) (hh : ∀ k, k < ln → hi' k = hi k) {k : Nat} (hk : k < ln) : Gon (ln + 1) (ex lo ln bs) hi' k ↔ Gon ln lo hi k ∨ (cfits ln lo hi (nI (oB bs 1)) (nI (oB bs 2)) (nI (oB bs 3)) = true ∧ oB bs 1 = 4 ∧ oB bs 2 = oB (lo k) 0) := by
  have hL2 := new_log hL hN
  unfold Gon
  rw [ex_n (show k ≠ ln by omega)]
  constructor
  · rintro ⟨j, h1, h2, h3, h4⟩
    by_cases w : j = ln
    · subst w
      rw [fitK_new hL hN.1 hL2 hh] at h2
      rw [ex_s] at h3 h4
      exact Or.inr ⟨h2, h3, h4⟩
    · rw [fitK_ex hL hN.1 hN.2.1 hL2 hh (by omega)] at h2
      rw [ex_n w] at h3 h4
      exact Or.inl ⟨j, by omega, h2, h3, h4⟩
  · rintro (⟨j, h1, h2, h3, h4⟩ | ⟨h2, h3, h4⟩)
    · refine ⟨j, by omega, by rw [fitK_ex hL hN.1 hN.2.1 hL2 hh h1]; exact h2, ?_⟩
      rw [ex_n (show j ≠ ln by omega)]
      exact ⟨h3, h4⟩
    · refine ⟨ln, by omega, by rw [fitK_new hL hN.1 hL2 hh]; exact h2, ?_⟩
      rw [ex_s]
      exact ⟨h3, h4⟩
theorem gon_new {ln : Nat} {lo : Nat → List Nat} {hi' : Nat → Option Nat} {bs : List Nat} (hL : LogOk ln lo) (hN : NewOk ln lo bs) : ¬ Gon (ln + 1) (ex lo ln bs) hi' ln := by
  rintro ⟨j, h1, -, -, h4⟩
  rw [ex_s] at h4
  by_cases w : j = ln
  · rw [w, ex_s] at h4
    exact tgs_ne hN h4
  · rw [ex_n w] at h4
    exact (tg_ne hL hN.1 hN.2.1 (by omega)).1 h4
/-- what is ahead of apply -/
theorem ap_ss {ln : Nat} {lo : Nat → List Nat} {P : Nat → Int32} {hi : Nat → Option Nat} {sh fo : Nat → Bool} {ch : Nat → Nat → List Nat} {bs : List Nat} (hR : RInv ln lo P hi sh fo ch) (hN : NewOk ln lo bs) : ∀ m, cfits ln lo hi (nI (oB bs 1)) (nI (oB bs 2)) (nI (oB bs 3)) = true → oB bs 1 = 3 → cnode ln lo (nI (oB bs 2)) = some m → ∃ ss, ss ≤ (ch m 0).length ∧ celem ln lo hi (nI (oB bs 3)) = prevO (ch m 0) ss := by
  intro m hf h3 hm
  obtain ⟨hL, -, -, hH, -, -, hLs, -⟩ := hR
  obtain ⟨m2, e1, e2, e3⟩ := cfits_3 hf (by rw [h3]; rfl)
  rw [hm] at e1
  cases e1
  rcases e3 with z | ⟨k, z1, z2⟩
  · refine ⟨0, Nat.zero_le _, ?_⟩
    have h0 : oB bs 3 = 0 := (nI_eq (b := 0) (by have := good_lt hN.1 3; omega) (by decide)).mp z
    unfold celem
    rw [h0, (cpl_no hL (by decide)).mpr (fun p hp => by have := good_id (hL.1 p hp); omega)]
    rfl
  · have hk := celem_lt z1
    have hin := ((hLs m (cnode_le hm).1 e2).2 k).mpr ⟨hk, z2⟩
    obtain ⟨i, hi0⟩ := List.getElem?_of_mem hin
    refine ⟨i + 1, ?_, ?_⟩
    · have := (List.getElem?_eq_some_iff.mp hi0).1; omega
    · rw [z1, prevO, hi0]
