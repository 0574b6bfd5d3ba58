set_option maxRecDepth 100000
/-! PURE, A: bits of pasts -/
theorem bitI_0 (i : Nat) (h : i < 32) : bitI 0 i = false := by
  have : ∀ i : Fin 32, bitI 0 i.1 = false := by decide
  exact this ⟨i, h⟩
theorem bitI_1 {k i : Nat} (hk : k < 16) (hi : i < 16) : bitI ((1 : Int32) <<< (nI k &&& 31)) i = decide (i = k) := by
  have : ∀ k i : Fin 16, bitI ((1 : Int32) <<< (nI k.1 &&& 31)) i.1 = decide (i.1 = k.1) := by decide +kernel
  exact this ⟨k, hk⟩ ⟨i, hi⟩
theorem and1_eq (x : Int32) : ((x &&& 1) = 1) ↔ x.toBitVec.getLsbD 0 = true := by
  rw [← Int32.toBitVec_inj]
  constructor
  · intro h
    have h2 := congrArg (fun v => v.getLsbD 0) h
    simpa using h2
  · intro h
    apply BitVec.eq_of_getLsbD_eq
    intro i hi
    by_cases z : i = 0
    · subst z; simpa using h
    · simp [z]
theorem bitI_eq (x : Int32) (i : Nat) : bitI x i = (x >>> (nI i &&& 31)).toBitVec.getLsbD 0 := by
  unfold bitI
  rw [Bool.eq_iff_iff, decide_eq_true_eq]
  exact and1_eq _
theorem bitI_or (x y : Int32) (i : Nat) : bitI (x ||| y) i = (bitI x i || bitI y i) := by
  rw [bitI_eq, bitI_eq, bitI_eq, Int32.toBitVec_shiftRight, Int32.toBitVec_shiftRight, Int32.toBitVec_shiftRight, Int32.toBitVec_or]
  simp only [BitVec.sshiftRight', BitVec.getLsbD_sshiftRight, BitVec.getLsbD_or, BitVec.msb_or]
  split <;> simp
/-- the past of an operation: its before, and what lies in their pasts -/
theorem paF_bit {ln : Nat} {lo : Nat → List Nat} {P : Nat → Int32} {bs : List Nat} {i : Nat} (hln : ln ≤ 16) (hi : i < 16) : ∀ k, bitI (iterI (paS ln lo P bs) 0 k) i = true ↔ ∃ j p, j < k ∧ cplace ln lo (nI (oB bs (6 + j))) = some p ∧ (i = p ∨ bitI (P p) i = true) := by
  intro k
  induction k with
  | zero =>
    rw [show iterI (paS ln lo P bs) 0 0 = 0 from rfl, bitI_0 i (by omega)]
    constructor
    · intro h; cases h
    · rintro ⟨j, p, h, -⟩; omega
  | succ k ih =>
    rw [iterI_s]
    generalize iterI (paS ln lo P bs) 0 k = x at ih ⊢
    unfold paS
    cases e : cplace ln lo (nI (oB bs (6 + k))) with
    | none =>
      dsimp only
      rw [ih]
      constructor
      · rintro ⟨j, p, h1, h2⟩; exact ⟨j, p, by omega, h2⟩
      · rintro ⟨j, p, h1, h2, h3⟩
        rcases Nat.lt_or_ge j k with z | z
        · exact ⟨j, p, z, h2, h3⟩
        · rw [show j = k by omega, e] at h2; cases h2
    | some p =>
      have hp := (firstI_get e).1
      dsimp only
      rw [bitI_or, bitI_or, bitI_1 (by omega) hi, Bool.or_eq_true, Bool.or_eq_true, decide_eq_true_eq, ih]
      constructor
      · rintro (⟨j, p2, h1, h2⟩ | h | h)
        · exact ⟨j, p2, by omega, h2⟩
        · exact ⟨k, p, by omega, e, Or.inl h⟩
        · exact ⟨k, p, by omega, e, Or.inr h⟩
      · rintro ⟨j, p2, h1, h2, h3⟩
        rcases Nat.lt_or_ge j k with z | z
        · exact Or.inl ⟨j, p2, z, h2, h3⟩
        · rw [show j = k by omega, e] at h2
          cases h2
          exact Or.inr h3
theorem foF_eq {ln : Nat} {lo : Nat → List Nat} {bs : List Nat} {fo : Nat → Bool} {i : Nat} : ∀ k, iterI (foS ln lo bs) fo k i = true ↔ fo i = true ∨ ∃ j, j < k ∧ cplace ln lo (nI (oB bs (6 + j))) = some i := by
  intro k
  induction k with
  | zero =>
    constructor
    · intro h; exact Or.inl h
    · rintro (h | ⟨j, h, -⟩)
      · exact h
      · omega
  | succ k ih =>
    rw [iterI_s]
    generalize iterI (foS ln lo bs) fo k = f at ih ⊢
    unfold foS
    cases e : cplace ln lo (nI (oB bs (6 + k))) with
    | none =>
      dsimp only
      rw [ih]
      constructor
      · rintro (h | ⟨j, h1, h2⟩)
        · exact Or.inl h
        · exact Or.inr ⟨j, by omega, h2⟩
      · rintro (h | ⟨j, h1, h2⟩)
        · exact Or.inl h
        · rcases Nat.lt_or_ge j k with z | z
          · exact Or.inr ⟨j, z, h2⟩
          · rw [show j = k by omega, e] at h2; cases h2
    | some p =>
      dsimp only
      by_cases z : i = p
      · subst z
        rw [if_pos rfl]
        simp only [true_iff]
        exact Or.inr ⟨k, by omega, e⟩
      · rw [if_neg z, ih]
        constructor
        · rintro (h | ⟨j, h1, h2⟩)
          · exact Or.inl h
          · exact Or.inr ⟨j, by omega, h2⟩
        · rintro (h | ⟨j, h1, h2⟩)
          · exact Or.inl h
          · rcases Nat.lt_or_ge j k with w | w
            · exact Or.inr ⟨j, w, h2⟩
            · rw [show j = k by omega, e] at h2
              cases h2
              exact absurd rfl z
