set_option maxRecDepth 100000
/-! PURE, K: edit side by side -/
theorem idI_nat {x : Int32} (h : isIdI x = true) : ∃ t, t < 256 ∧ x = nI t := by
  unfold isIdI at h
  simp only [Bool.and_eq_true, decide_eq_true_eq] at h
  have h0 : ¬ x < 0 := fun z => h.1.1 (Int32.lt_trans z (by decide))
  obtain ⟨j, h1, h2⟩ := nI_of2 (M := 162) (n := 162) (by decide) h0 (Int32.le_iff_toInt_le.mpr (by have := Int32.lt_iff_toInt_lt.mp h.1.2; have e1 : (163 : Int32).toInt = 163 := (by decide); have e2 : (162 : Int32).toInt = 162 := (by decide); omega))
  exact ⟨j, by omega, h2⟩
theorem keyI_nat {x : Int32} (h : isKeyI x = true) : ∃ t, t < 256 ∧ x = nI t := by
  unfold isKeyI at h
  simp only [Bool.and_eq_true, decide_eq_true_eq] at h
  obtain ⟨j, h1, h2⟩ := nI_of2 (M := 3) (n := 3) (by decide) h.1 h.2
  exact ⟨j, by omega, h2⟩
theorem v99_nat {x : Int32} (h0 : ¬ x < 0) (h : ¬ 99 < x) : ∃ t, t < 256 ∧ x = nI t := by
  obtain ⟨j, h1, h2⟩ := nI_of2 (M := 99) (n := 99) (by decide) h0 (Int32.not_lt.mp h)
  exact ⟨j, by omega, h2⟩
theorem z_nat {x : Int32} (h : x = 0) : ∃ t, t < 256 ∧ x = nI t := ⟨0, by decide, h⟩
theorem sh_nat {kd tg sl vl : Int32} (h : shI kd tg sl vl = true) : ∃ k0 t0 s0 v0, k0 < 256 ∧ t0 < 256 ∧ s0 < 256 ∧ v0 < 256 ∧ kd = nI k0 ∧ tg = nI t0 ∧ sl = nI s0 ∧ vl = nI v0 := by
  have key : ∀ k : Nat, k < 256 → kd = nI k → (∃ t, t < 256 ∧ tg = nI t) → (∃ t, t < 256 ∧ sl = nI t) → (∃ t, t < 256 ∧ vl = nI t) → ∃ k0 t0 s0 v0, k0 < 256 ∧ t0 < 256 ∧ s0 < 256 ∧ v0 < 256 ∧ kd = nI k0 ∧ tg = nI t0 ∧ sl = nI s0 ∧ vl = nI v0 := by
    rintro k hk ek ⟨t, ht, et⟩ ⟨s, hs, es⟩ ⟨v, hv, ev⟩
    exact ⟨k, t, s, v, hk, ht, hs, hv, ek, et, es, ev⟩
  unfold shI at h
  split at h
  · rename_i z
    simp only [Bool.and_eq_true, Bool.or_eq_true, decide_eq_true_eq] at h
    exact key 0 (by decide) z (h.1.1.1.elim z_nat idI_nat) (keyI_nat h.1.1.2) (v99_nat h.1.2 h.2)
  · split at h
    · rename_i z
      simp only [Bool.and_eq_true, Bool.or_eq_true, decide_eq_true_eq] at h
      rcases z with z | z | z
      · exact key 1 (by decide) z (h.1.1.elim z_nat idI_nat) (keyI_nat h.1.2) (z_nat h.2)
      · exact key 2 (by decide) z (h.1.1.elim z_nat idI_nat) (keyI_nat h.1.2) (z_nat h.2)
      · exact key 5 (by decide) z (h.1.1.elim z_nat idI_nat) (keyI_nat h.1.2) (z_nat h.2)
    · split at h
      · rename_i z
        simp only [Bool.and_eq_true, Bool.or_eq_true, decide_eq_true_eq] at h
        exact key 3 (by decide) z (idI_nat h.1.1.1) (h.1.1.2.elim z_nat idI_nat) (v99_nat h.1.2 h.2)
      · split at h
        · rename_i z
          simp only [Bool.and_eq_true, decide_eq_true_eq] at h
          exact key 4 (by decide) z (idI_nat h.1.1) (z_nat h.1.2) (z_nat h.2)
        · cases h
theorem pl_id {ln : Nat} {lo : Nat → List Nat} (hL : LogOk ln lo) {t p : Nat} (ht : t < 256) (h : cplace ln lo (nI t) = some p) : isIdB t = true := by
  obtain ⟨h1, h2⟩ := cpl_id hL ht h
  have := good_id (hL.1 p h1)
  unfold isIdB
  simp only [Bool.and_eq_true, decide_eq_true_eq]
  omega
/-- an edit that fits has a good shape when its numbers are good -/
theorem ft_ids {ln : Nat} {lo : Nat → List Nat} {hi : Nat → Option Nat} (hL : LogOk ln lo) {k0 t0 s0 : Nat} (hk : k0 < 256) (ht : t0 < 256) (hs : s0 < 256) (h : cfits ln lo hi (nI k0) (nI t0) (nI s0) = true) : (k0 = 3 → (∃ p, cplace ln lo (nI t0) = some p) ∧ (s0 = 0 ∨ ∃ p, cplace ln lo (nI s0) = some p)) ∧ (k0 = 4 → ∃ p, cplace ln lo (nI t0) = some p) ∧ (k0 ≠ 3 → k0 ≠ 4 → t0 = 0 ∨ ∃ p, cplace ln lo (nI t0) = some p) := by
  refine ⟨fun h3 => ?_, fun h4 => ?_, fun h3 h4 => ?_⟩
  · obtain ⟨m, e1, e2, e3⟩ := cfits_3 h (by rw [h3]; rfl)
    refine ⟨?_, ?_⟩
    · rcases cnd_get hL ht e1 with ⟨z1, z2⟩ | ⟨z1, z2, z3, z4, z5⟩
      · exact absurd z2 e2.1
      · exact ⟨_, z5⟩
    · rcases e3 with z | ⟨k, z, -⟩
      · exact Or.inl ((nI_eq (b := 0) (by omega) (by decide)).mp z)
      · exact Or.inr ⟨k, (celem_k z).1⟩
  · obtain ⟨k, z⟩ := cfits_4 h (by rw [h4]; rfl)
    exact ⟨k, (celem_k z).1⟩
  · obtain ⟨m, e1, e2⟩ := cfits_m h (fun w => h3 ((nI_eq (b := 3) (by omega) (by decide)).mp w)) (fun w => h4 ((nI_eq (b := 4) (by omega) (by decide)).mp w))
    rcases cnd_get hL ht e1 with ⟨z1, z2⟩ | ⟨z1, z2, z3, z4, z5⟩
    · exact Or.inl z1
    · exact Or.inr ⟨_, z5⟩
theorem ft_all {n : Nat} {po : Nat → Nat → Nat} {ap : Nat → Bool} {od : List Nat} {ln : Nat} {lo : Nat → List Nat} {P : Nat → Int32} {hi : Nat → Option Nat} (h : Tie n po ap od ln lo) (hP : PB ln lo P) (hH : HiB ln lo hi) (kd tg sl : Int32) : mfits n po ap (stA n po ap).1 kd tg sl = cfits ln lo hi kd tg sl :=
  tie_fits (K := ln) h hH (fun k _ hk => (st_all h hP hH).1 k hk) (fun p e => (cpl_get e).1) (fun _ p e => (cpl_get e).1)
theorem ed_eq {n : Nat} {po : Nat → Nat → Nat} {ap : Nat → Bool} {od : List Nat} {ln : Nat} {lo : Nat → List Nat} {P : Nat → Int32} {hi : Nat → Option Nat} (h : Tie n po ap od ln lo) (hP : PB ln lo P) (hH : HiB ln lo hi) (hpo : ∀ j f, po j f < 256) (kd tg sl vl : Int32) : edB n po ap (stA n po ap).1 kd tg sl vl = (shI kd tg sl vl && cfits ln lo hi kd tg sl) := by
  have hL := h.2.2.2.2.2.1
  rw [Bool.eq_iff_iff, Bool.and_eq_true]
  constructor
  · intro he
    obtain ⟨k0, t0, s0, v0, a1, a2, a3, a4, rfl, rfl, rfl, rfl⟩ := ed_nat hpo he
    have hk2 : ¬ nI k0 < 0 ∧ nI k0 ≤ 5 := ⟨nI_pos (by omega), nI_le (b := 5) (by omega) (by decide)⟩
    obtain ⟨o1, o2, o3, o4, o5⟩ := ed_out he
    rw [ft_all h hP hH] at o5
    refine ⟨?_, o5⟩
    have e3 : (nI k0 = 3) ↔ k0 = 3 := nI_eq (b := 3) (by omega) (by decide)
    have e4 : (nI k0 = 4) ↔ k0 = 4 := nI_eq (b := 4) (by omega) (by decide)
    have e0 : (nI k0 = 0) ↔ k0 = 0 := nI_eq (b := 0) (by omega) (by decide)
    obtain ⟨f1, f2, f3⟩ := ft_ids hL (by omega) a2 a3 o5
    rw [shI_n (by omega) a2 a3 (by omega), decide_eq_true a1, Bool.true_and]
    unfold shB
    rw [Bool.and_eq_true]
    refine ⟨decide_eq_true ?_, ?_⟩
    · split
      · omega
      · rename_i z
        rw [if_neg (fun w => z (w.imp e0.mp e3.mp))] at o4
        have : v0 ≤ 0 := (nI_leI (b := 0) (by omega) (by decide)).mp o4
        omega
    · by_cases z3 : k0 = 3
      · rw [if_pos z3]
        obtain ⟨⟨p, hp⟩, g2⟩ := f1 z3
        rw [pl_id hL a2 hp, Bool.true_and]
        rcases g2 with z | ⟨q, hq⟩
        · simp [z]
        · rw [pl_id hL a3 hq]; simp
      · rw [if_neg z3]
        by_cases z4 : k0 = 4
        · rw [if_pos z4]
          obtain ⟨p, hp⟩ := f2 z4
          rw [pl_id hL a2 hp, Bool.true_and]
          exact decide_eq_true ((nI_eq (b := 0) (by omega) (by decide)).mp (o2 (e4.mpr z4)))
        · rw [if_neg z4]
          have hs3 := (o1 (fun w => z3 (e3.mp w)) (fun w => z4 (e4.mp w))).2
          have : s0 ≤ 3 := (nI_leI (b := 3) (by omega) (by decide)).mp hs3
          rcases f3 z3 z4 with z | ⟨p, hp⟩
          · simp [z, this]
          · rw [pl_id hL a2 hp]; simp [this]
  · rintro ⟨hs, hf⟩
    obtain ⟨k0, t0, s0, v0, a1, a2, a3, a4, rfl, rfl, rfl, rfl⟩ := sh_nat hs
    rw [shI_n a1 a2 a3 a4, Bool.and_eq_true, decide_eq_true_eq] at hs
    obtain ⟨hk5, hs⟩ := hs
    have e3 : (nI k0 = 3) ↔ k0 = 3 := nI_eq (b := 3) (by omega) (by decide)
    have e4 : (nI k0 = 4) ↔ k0 = 4 := nI_eq (b := 4) (by omega) (by decide)
    have e0 : (nI k0 = 0) ↔ k0 = 0 := nI_eq (b := 0) (by omega) (by decide)
    unfold shB at hs
    rw [Bool.and_eq_true, decide_eq_true_eq] at hs
    obtain ⟨hv, hs⟩ := hs
    refine ed_in (nI_pos (by omega)) (nI_le (b := 5) (by omega) (by decide)) ?_ ?_ (nI_pos (by omega)) ?_ (by rw [ft_all h hP hH]; exact hf)
    · by_cases z3 : k0 = 3
      · exact Or.inl (e3.mpr z3)
      · by_cases z4 : k0 = 4
        · exact Or.inr (Or.inl (e4.mpr z4))
        · rw [if_neg z3, if_neg z4] at hs
          simp only [Bool.and_eq_true, decide_eq_true_eq] at hs
          exact Or.inr (Or.inr ⟨nI_pos (by omega), nI_le (b := 3) hs.2 (by decide)⟩)
    · intro z
      have z4 := e4.mp z
      rw [if_neg (by omega), if_pos z4] at hs
      simp only [Bool.and_eq_true, decide_eq_true_eq] at hs
      rw [hs.2]; rfl
    · split
      · rename_i z
        rw [if_pos (z.imp e0.mp e3.mp)] at hv
        exact nI_le (b := 99) hv (by decide)
      · rename_i z
        rw [if_neg (fun w => z (w.imp e0.mpr e3.mpr))] at hv
        exact nI_le (b := 0) hv (by decide)
theorem lastI_max {P : Nat → Bool} : ∀ {n j i : Nat}, lastI P n = some j → j < i → i < n → P i = false := by
  intro n
  induction n with
  | zero => intro j i h; cases h
  | succ n ih =>
    intro j i h hji hin
    unfold lastI at h
    split at h
    · cases h; omega
    · rename_i hp
      rcases Nat.lt_or_ge i n with z | z
      · exact ih h hji z
      · rw [show i = n by omega]
        exact Bool.eq_false_iff.mpr hp
theorem cg_ge {lo : Nat → List Nat} : ∀ {n k : Nat}, k < n → oB (lo k) 0 / 4 ≤ cgreat lo n := by
  intro n
  induction n with
  | zero => intro k h; omega
  | succ n ih =>
    intro k hk
    unfold cgreat
    rcases Nat.lt_or_ge k n with z | z
    · have := ih z
      split <;> omega
    · rw [show k = n by omega]
      split <;> omega
theorem cg_ex {lo : Nat → List Nat} : ∀ n, cgreat lo n = 0 ∨ ∃ k, k < n ∧ cgreat lo n = oB (lo k) 0 / 4 := by
  intro n
  induction n with
  | zero => exact Or.inl rfl
  | succ n ih =>
    unfold cgreat
    split
    · exact Or.inr ⟨n, by omega, rfl⟩
    · rcases ih with z | ⟨k, h1, h2⟩
      · exact Or.inl z
      · exact Or.inr ⟨k, by omega, h2⟩
theorem idJ_eq {n : Nat} {po : Nat → Nat → Nat} {ap : Nat → Bool} {od : List Nat} {ln : Nat} {lo : Nat → List Nat} (h : Tie n po ap od ln lo) (i : Nat) : idJ n po ap i = (cplace ln lo (nI (4 + i))).map (oi od) := tie_mf h _
theorem cnV_eq {n : Nat} {po : Nat → Nat → Nat} {ap : Nat → Bool} {od : List Nat} {ln : Nat} {lo : Nat → List Nat} (h : Tie n po ap od ln lo) : cnV n po ap 159 = cgreat lo ln + 1 := by
  have hL := h.2.2.2.2.2.1
  have hin : ∀ k, k < ln → (idJ n po ap (oB (lo k) 0 - 4)).isSome = true := by
    intro k hk
    have := good_id (hL.1 k hk)
    rw [idJ_eq h, show 4 + (oB (lo k) 0 - 4) = oB (lo k) 0 by omega, cpl_at hL hk]
    rfl
  unfold cnV
  cases e : lastI (fun i => (idJ n po ap i).isSome) 159 with
  | none =>
    dsimp only
    rcases cg_ex (lo := lo) ln with z | ⟨k, h1, h2⟩
    · rw [z]
    · have := good_id (hL.1 k h1)
      have h3 := lastI_none e (oB (lo k) 0 - 4) (by omega)
      rw [hin k h1] at h3
      cases h3
  | some i =>
    dsimp only
    obtain ⟨g1, g2⟩ := lastI_some e
    rw [idJ_eq h] at g2
    obtain ⟨p, hp⟩ := Option.isSome_iff_exists.mp g2
    cases e2 : cplace ln lo (nI (4 + i)) with
    | none => rw [e2] at hp; cases hp
    | some k =>
      obtain ⟨k1, k2⟩ := cpl_id hL (by omega) e2
      have h1 := cg_ge (lo := lo) k1
      rcases cg_ex (lo := lo) ln with z | ⟨k3, h2, h3⟩
      · omega
      · have := good_id (hL.1 k3 h2)
        have h4 : oB (lo k3) 0 ≤ 4 + i := by
          rcases Nat.lt_or_ge (4 + i) (oB (lo k3) 0) with w | w
          · have h5 := lastI_max e (i := oB (lo k3) 0 - 4) (by omega) (by omega)
            rw [hin k3 h2] at h5
            cases h5
          · exact w
        omega
theorem head_eq {n : Nat} {po : Nat → Nat → Nat} {ap : Nat → Bool} {od : List Nat} {ln : Nat} {lo : Nat → List Nat} {fo : Nat → Bool} (h : Tie n po ap od ln lo) (hF : FoB ln lo fo) {k : Nat} (hk : k < ln) : mhead n po ap (oi od k) = !fo k := by
  unfold mhead
  rw [(tie_lt h hk).2, Bool.true_and, Bool.eq_iff_iff, allI_iff, Bool.not_eq_true']
  constructor
  · intro z
    cases e : fo k with
    | false => rfl
    | true =>
      obtain ⟨j, h1, h2⟩ := (hF k hk).mp e
      have := z (oi od j) (tie_lt h h1).1
      rw [(tie_lt h h1).2, (has_iff h h1 hk).mpr h2] at this
      cases this
  · intro z j hj
    cases ha : ap j with
    | false => rfl
    | true =>
      obtain ⟨q, hq, rfl⟩ := tie_inv h hj ha
      cases e : hasP po (oi od q) (nI (po (oi od k) 0)) with
      | false => rfl
      | true =>
        have := (hF k hk).mpr ⟨q, hq, (has_iff h hq hk).mp e⟩
        rw [z] at this
        cases this
theorem nm_eq {n : Nat} {po : Nat → Nat → Nat} {ap : Nat → Bool} {od : List Nat} {ln : Nat} {lo : Nat → List Nat} {fo : Nat → Bool} (h : Tie n po ap od ln lo) (hF : FoB ln lo fo) {k0 t0 s0 : Nat} (hk : k0 < 256) (ht : t0 < 256) (hs : s0 < 256) : ∀ m, m ≤ 159 → nmL (nmP n po ap (nI k0) (nI t0) (nI s0)) m = nmL (nmQ ln lo fo k0 t0 s0) m := by
  have key : ∀ i, i < 159 → nmP n po ap (nI k0) (nI t0) (nI s0) i = nmQ ln lo fo k0 t0 s0 i := by
    intro i hi
    unfold nmP nmQ
    rw [idJ_eq h]
    cases e : cplace ln lo (nI (4 + i)) with
    | none => rfl
    | some k =>
      have hkl := (cpl_get e).1
      dsimp only [Option.map]
      rw [head_eq h hF hkl]
      have e1 : (nI (4 + i) = nI t0) ↔ 4 + i = t0 := nI_eq (by omega) (by omega)
      have e2 : (nI (4 + i) = nI s0) ↔ 4 + i = s0 := nI_eq (by omega) (by omega)
      have e3 : (nI k0 = 3) ↔ k0 = 3 := nI_eq (b := 3) (by omega) (by decide)
      rw [decide_eq_decide.mpr e1, decide_eq_decide.mpr e2, decide_eq_decide.mpr e3]
  intro m
  induction m with
  | zero => intro _; rfl
  | succ m ih =>
    intro hm
    unfold nmL
    rw [key m (by omega), ih (by omega)]
