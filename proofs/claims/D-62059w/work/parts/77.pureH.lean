set_option maxRecDepth 100000
/-! PURE, H: the model's study answers what the replica keeps -/
theorem has_iff {n : Nat} {po : Nat → Nat → Nat} {ap : Nat → Bool} {od : List Nat} {ln : Nat} {lo : Nat → List Nat} (h : Tie n po ap od ln lo) {t q : Nat} (ht : t < ln) (hq : q < ln) : hasP po (oi od t) (nI (po (oi od q) 0)) = true ↔ inB (lo t) (oB (lo q) 0) := by
  have h5 := h.2.2.2.2.1
  have g1 := (tie_lt h ht).1
  have g2 := (tie_lt h hq).1
  unfold hasP inB
  rw [anyI_iff, tie_b h hq (by omega), tie_b h ht (f := 5) (by omega)]
  constructor
  · rintro ⟨b, h1, h2⟩
    have h3 := of_decide_eq_true h2
    refine ⟨b, h1, ?_⟩
    rw [tie_b h ht (by omega)]
    exact (nI_eq (by have := po_lt h5 g1 (f := 6 + b) (by omega); omega) (by have := po_lt h5 g2 (f := 0) (by omega); omega)).mp h3
  · rintro ⟨b, h1, h2⟩
    rw [tie_b h ht (by omega)] at h2
    exact ⟨b, h1, decide_eq_true (by rw [h2])⟩
/-- whatever an applied operation has before it is applied -/
theorem has_ap {n : Nat} {po : Nat → Nat → Nat} {ap : Nat → Bool} {od : List Nat} {ln : Nat} {lo : Nat → List Nat} (h : Tie n po ap od ln lo) {t k : Nat} (ht : t < ln) (hk : k < n) (hh : hasP po (oi od t) (nI (po k 0)) = true) : ∃ q, q < t ∧ oi od q = k := by
  have h5 := h.2.2.2.2.1
  have hL := h.2.2.2.2.2.1
  have g1 := (tie_lt h ht).1
  unfold hasP at hh
  obtain ⟨b, h1, h2⟩ := anyI_iff.mp hh
  have h3 := (nI_eq (by have := po_lt h5 g1 (f := 6 + b) (by omega); omega) (by have := po_lt h5 hk (f := 0) (by omega); omega)).mp (of_decide_eq_true h2)
  obtain ⟨q, h6, h7⟩ := hL.2.2 t b ht (by rw [tie_b h ht (by omega)]; exact h1)
  rw [tie_b h ht (by omega), h3, tie_b h (show q < ln by omega) (by omega)] at h7
  exact ⟨q, h6, h.2.2.2.1 _ _ (tie_lt h (show q < ln by omega)).1 hk h7⟩
theorem has_self {n : Nat} {po : Nat → Nat → Nat} {ap : Nat → Bool} {od : List Nat} {ln : Nat} {lo : Nat → List Nat} (h : Tie n po ap od ln lo) {t : Nat} (ht : t < ln) : hasP po (oi od t) (nI (po (oi od t) 0)) = false := by
  cases e : hasP po (oi od t) (nI (po (oi od t) 0)) with
  | false => rfl
  | true =>
    obtain ⟨q, h1, h2⟩ := has_ap h ht (tie_lt h ht).1 e
    have := tie_inj h (by omega) ht h2
    omega
theorem wid_0 {po : Nat → Nat → Nat} {j : Nat} {x : Nat → Int32} : ∀ m i, i ≠ j → iterI (wst po j) x m i = x i := by
  intro m
  induction m with
  | zero => intro i _; rfl
  | succ m ih =>
    intro i hi
    rw [iterI_s]
    unfold wst
    split
    · rw [pk_un hi]; exact ih i hi
    · exact ih i hi
theorem wid_bit {n : Nat} {po : Nat → Nat → Nat} {ap : Nat → Bool} {od : List Nat} {ln : Nat} {lo : Nat → List Nat} (h : Tie n po ap od ln lo) {t i : Nat} (ht : t < ln) (hi : i < 16) {x : Nat → Int32} : bitI (widF n po (oi od t) x (oi od t)) i = true ↔ bitI (x (oi od t)) i = true ∨ ∃ q, q < t ∧ inB (lo t) (oB (lo q) 0) ∧ (i = oi od q ∨ bitI (x (oi od q)) i = true) := by
  have hn := h.2.2.2.2.2.2
  have key : ∀ m, m ≤ n → (bitI (iterI (wst po (oi od t)) x m (oi od t)) i = true ↔ bitI (x (oi od t)) i = true ∨ ∃ k, k < m ∧ hasP po (oi od t) (nI (po k 0)) = true ∧ (i = k ∨ bitI (x k) i = true)) := by
    intro m
    induction m with
    | zero =>
      intro _
      constructor
      · intro z; exact Or.inl z
      · rintro (z | ⟨k, z, -⟩)
        · exact z
        · omega
    | succ m ih =>
      intro hm
      have ih := ih (by omega)
      rw [iterI_s]
      have hne : hasP po (oi od t) (nI (po m 0)) = true → m ≠ oi od t := by
        intro z w
        rw [w, has_self h ht] at z
        cases z
      have hx : hasP po (oi od t) (nI (po m 0)) = true → iterI (wst po (oi od t)) x m m = x m := fun z => wid_0 m m (hne z)
      generalize iterI (wst po (oi od t)) x m = Y at ih hx ⊢
      unfold wst
      by_cases z : hasP po (oi od t) (nI (po m 0)) = true
      · rw [if_pos z, pk_us, bitI_or, bitI_or, bitI_1 (by omega) hi, Bool.or_eq_true, Bool.or_eq_true, decide_eq_true_eq, ih, hx z]
        constructor
        · rintro ((w | ⟨k, w1, w2⟩) | w)
          · exact Or.inl w
          · exact Or.inr ⟨k, by omega, w2⟩
          · exact Or.inr ⟨m, by omega, z, w⟩
        · rintro (w | ⟨k, w1, w2, w3⟩)
          · exact Or.inl (Or.inl w)
          · rcases Nat.lt_or_ge k m with v | v
            · exact Or.inl (Or.inr ⟨k, v, w2, w3⟩)
            · rw [show k = m by omega] at w3
              exact Or.inr w3
      · rw [if_neg z, ih]
        constructor
        · rintro (w | ⟨k, w1, w2⟩)
          · exact Or.inl w
          · exact Or.inr ⟨k, by omega, w2⟩
        · rintro (w | ⟨k, w1, w2, w3⟩)
          · exact Or.inl w
          · rcases Nat.lt_or_ge k m with v | v
            · exact Or.inr ⟨k, v, w2, w3⟩
            · rw [show k = m by omega] at w2
              exact absurd w2 z
  unfold widF
  rw [key n (Nat.le_refl _)]
  constructor
  · rintro (w | ⟨k, w1, w2, w3⟩)
    · exact Or.inl w
    · obtain ⟨q, g1, g2⟩ := has_ap h ht w1 w2
      subst g2
      exact Or.inr ⟨q, g1, (has_iff h ht (by omega)).mp w2, w3⟩
  · rintro (w | ⟨q, w1, w2, w3⟩)
    · exact Or.inl w
    · exact Or.inr ⟨oi od q, (tie_lt h (by omega)).1, (has_iff h ht (by omega)).mpr w2, w3⟩
def Snd (od : List Nat) (ln : Nat) (P : Nat → Int32) (x : ms_) : Prop := ∀ k, k < ln → ∀ i, i < 16 → bitI (x.2 (oi od k)) i = true → ∃ q, q < ln ∧ i = oi od q ∧ bitI (P k) q = true
def Rgt (od : List Nat) (ln : Nat) (lo : Nat → List Nat) (P : Nat → Int32) (hi : Nat → Option Nat) (t : Nat) (x : ms_) : Prop := ∀ k, k < t → k < ln → x.1 (oi od k) = fitK ln lo hi k ∧ ∀ q, q < ln → bitI (P k) q = true → bitI (x.2 (oi od k)) (oi od q) = true
theorem pb_in {ln : Nat} {lo : Nat → List Nat} {P : Nat → Int32} (hL : LogOk ln lo) (hln : ln ≤ 16) (hP : PB ln lo P) {k q : Nat} (hk : k < ln) (hq : q < ln) : bitI (P k) q = true ↔ ∃ p, p < k ∧ inB (lo k) (oB (lo p) 0) ∧ (q = p ∨ bitI (P p) q = true) := by
  rw [hP k hk q (by omega)]
  constructor
  · rintro ⟨b, p, h1, h2, h3, h4⟩
    exact ⟨p, bef_lt hL hk h1 h2 h3, ⟨b, h1, h3.symm⟩, h4⟩
  · rintro ⟨p, h1, ⟨b, h2, h3⟩, h4⟩
    exact ⟨b, p, h2, by omega, h3.symm, h4⟩
theorem fit_st {n : Nat} {po : Nat → Nat → Nat} {ap ft : Nat → Bool} {od : List Nat} {ln : Nat} {lo : Nat → List Nat} {hi : Nat → Option Nat} (h : Tie n po ap od ln lo) (hH : HiB ln lo hi) {q : Nat} (hq : q < ln) (hft : ∀ k, k < q → k < ln → ft (oi od k) = fitK ln lo hi k) : mfits n po ap ft (nI (po (oi od q) 1)) (nI (po (oi od q) 2)) (nI (po (oi od q) 3)) = fitK ln lo hi q := by
  have hL := h.2.2.2.2.2.1
  rw [← tie_b h hq (by omega), ← tie_b h hq (by omega), ← tie_b h hq (by omega)]
  exact tie_fits h hH hft (fun p e => (tgp_lt hL hq e).1) (fun _ p e => (slp_lt hL hq e).1)
theorem st_A {n : Nat} {po : Nat → Nat → Nat} {ap : Nat → Bool} {od : List Nat} {ln : Nat} {lo : Nat → List Nat} {P : Nat → Int32} {hi : Nat → Option Nat} (h : Tie n po ap od ln lo) (hP : PB ln lo P) (hH : HiB ln lo hi) {t j : Nat} (hj : j < n) {x : ms_} (hS : Snd od ln P x) (hR : Rgt od ln lo P hi t x) : Snd od ln P (stJ n po ap j x) ∧ Rgt od ln lo P hi t (stJ n po ap j x) ∧ (t < ln → j = oi od t → Rgt od ln lo P hi (t + 1) (stJ n po ap j x)) := by
  have hL := h.2.2.2.2.2.1
  have hn := h.2.2.2.2.2.2
  have hln := tie_ln h
  unfold stJ
  by_cases ha : ap j = true
  · rw [if_pos ha]
    obtain ⟨q0, hq0, rfl⟩ := tie_inv h hj ha
    have hw : ∀ i, i ≠ oi od q0 → widF n po (oi od q0) x.2 i = x.2 i := fun i hi0 => wid_0 n i hi0
    refine ⟨?_, ?_, ?_⟩
    · intro k hk i hi16 hb
      dsimp only at hb
      by_cases z : k = q0
      · subst z
        rw [wid_bit h hk hi16] at hb
        rcases hb with hb | ⟨q, w1, w2, w3⟩
        · exact hS k hk i hi16 hb
        · rcases w3 with w3 | w3
          · exact ⟨q, by omega, w3, (pb_in hL (by omega) hP hk (by omega)).mpr ⟨q, w1, w2, Or.inl rfl⟩⟩
          · obtain ⟨q2, v1, v2, v3⟩ := hS q (by omega) i hi16 w3
            exact ⟨q2, v1, v2, (pb_in hL (by omega) hP hk v1).mpr ⟨q, w1, w2, Or.inr v3⟩⟩
      · rw [hw _ (fun w => z (tie_inj h hk hq0 w))] at hb
        exact hS k hk i hi16 hb
    · intro k hkt hk
      dsimp only
      by_cases z : k = q0
      · subst z
        rw [if_pos rfl]
        refine ⟨fit_st h hH hk (fun k2 h1 h2 => (hR k2 (by omega) h2).1), fun q hq hb => ?_⟩
        rw [wid_bit h hk (by have := (tie_lt h hq).1; omega)]
        exact Or.inl ((hR k hkt hk).2 q hq hb)
      · have hne : oi od k ≠ oi od q0 := fun w => z (tie_inj h hk hq0 w)
        rw [if_neg hne, hw _ hne]
        exact hR k hkt hk
    · intro htl e
      have e2 : q0 = t := tie_inj h hq0 htl e
      subst e2
      intro k hkt hk
      dsimp only
      by_cases z : k = q0
      · subst z
        rw [if_pos rfl]
        refine ⟨fit_st h hH hk (fun k2 h1 h2 => (hR k2 h1 h2).1), fun q hq hb => ?_⟩
        rw [wid_bit h hk (by have := (tie_lt h hq).1; omega)]
        obtain ⟨p, w1, w2, w3⟩ := (pb_in hL (by omega) hP hk hq).mp hb
        refine Or.inr ⟨p, w1, w2, ?_⟩
        rcases w3 with w3 | w3
        · exact Or.inl (by rw [w3])
        · exact Or.inr ((hR p w1 (by omega)).2 q hq w3)
      · have hne : oi od k ≠ oi od q0 := fun w => z (tie_inj h hk hq0 w)
        rw [if_neg hne, hw _ hne]
        exact hR k (by omega) hk
  · rw [if_neg ha]
    refine ⟨hS, hR, fun htl e => ?_⟩
    rw [e, (tie_lt h htl).2] at ha
    exact absurd rfl ha
theorem st_R {n : Nat} {po : Nat → Nat → Nat} {ap : Nat → Bool} {od : List Nat} {ln : Nat} {lo : Nat → List Nat} {P : Nat → Int32} {hi : Nat → Option Nat} (h : Tie n po ap od ln lo) (hP : PB ln lo P) (hH : HiB ln lo hi) {t : Nat} {x : ms_} (hS : Snd od ln P x) (hR : Rgt od ln lo P hi t x) : Snd od ln P (stR n po ap x) ∧ Rgt od ln lo P hi (t + 1) (stR n po ap x) := by
  have key : ∀ m, m ≤ n → Snd od ln P (iterI (stJ n po ap) x m) ∧ Rgt od ln lo P hi t (iterI (stJ n po ap) x m) ∧ (t < ln → oi od t < m → Rgt od ln lo P hi (t + 1) (iterI (stJ n po ap) x m)) := by
    intro m
    induction m with
    | zero => intro _; exact ⟨hS, hR, fun _ z => by omega⟩
    | succ m ih =>
      intro hm
      obtain ⟨i1, i2, i3⟩ := ih (by omega)
      rw [iterI_s]
      obtain ⟨s1, s2, s3⟩ := st_A h hP hH (show m < n by omega) i1 i2
      refine ⟨s1, s2, fun htl hlt => ?_⟩
      by_cases z : oi od t = m
      · exact s3 htl z.symm
      · exact (st_A h hP hH (show m < n by omega) i1 (i3 htl (by omega))).2.1
  obtain ⟨k1, k2, k3⟩ := key n (Nat.le_refl _)
  refine ⟨k1, ?_⟩
  rcases Nat.lt_or_ge t ln with z | z
  · exact k3 z (tie_lt h z).1
  · intro k hk1 hk2
    exact k2 k (by omega) hk2
/-- study: fit and pasts as the replica has them -/
theorem st_all {n : Nat} {po : Nat → Nat → Nat} {ap : Nat → Bool} {od : List Nat} {ln : Nat} {lo : Nat → List Nat} {P : Nat → Int32} {hi : Nat → Option Nat} (h : Tie n po ap od ln lo) (hP : PB ln lo P) (hH : HiB ln lo hi) : (∀ k, k < ln → (stA n po ap).1 (oi od k) = fitK ln lo hi k) ∧ ∀ k q, k < ln → q < ln → bitI ((stA n po ap).2 (oi od k)) (oi od q) = bitI (P k) q := by
  have hn := h.2.2.2.2.2.2
  have hln := tie_ln h
  have key : ∀ t, Snd od ln P (iterI (fun _ => stR n po ap) (fun _ => false, fun _ => 0) t) ∧ Rgt od ln lo P hi t (iterI (fun _ => stR n po ap) (fun _ => false, fun _ => 0) t) := by
    intro t
    induction t with
    | zero =>
      refine ⟨fun k hk i hi0 hb => ?_, fun k hk => by omega⟩
      rw [iterI] at hb
      rw [bitI_0 i (by omega)] at hb
      cases hb
    | succ t ih => rw [iterI_s]; exact st_R h hP hH ih.1 ih.2
  obtain ⟨k1, k2⟩ := key 17
  refine ⟨fun k hk => (k2 k (by omega) hk).1, fun k q hk hq => ?_⟩
  have hq16 := (tie_lt h hq).1
  rw [Bool.eq_iff_iff]
  constructor
  · intro hb
    obtain ⟨q2, w1, w2, w3⟩ := k1 k hk (oi od q) (by omega) hb
    rw [tie_inj h hq w1 w2]
    exact w3
  · exact (k2 k (by omega) hk).2 q hq
