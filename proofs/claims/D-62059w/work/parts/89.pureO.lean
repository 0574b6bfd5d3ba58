set_option maxRecDepth 100000
/-! PURE, O: entry -/
theorem sub_sub1 (c : Int32) : -1 - (-1 - c) = c := by
  rw [← Int32.toBitVec_inj]
  simp only [Int32.toBitVec_sub]
  generalize (-1 : Int32).toBitVec = x
  rw [BitVec.sub_eq_add_neg, BitVec.sub_eq_add_neg, BitVec.neg_add, BitVec.sub_eq_add_neg, BitVec.neg_neg, ← BitVec.add_assoc]
  rw [← BitVec.sub_eq_add_neg x x, BitVec.sub_self, BitVec.zero_add]
theorem m1_lt (kk : Int32) : (kk < -1 → kk < 0) ∧ (kk = -1 → kk < 0) ∧ (kk < 0 → kk < -1 ∨ kk = -1) := by
  refine ⟨fun h => ?_, fun h => ?_, fun h => ?_⟩
  · exact Int32.lt_trans h (by decide)
  · rw [h]; decide
  · have h1 := Int32.lt_iff_toInt_lt.mp h
    have e0 : (0 : Int32).toInt = 0 := by decide
    have e1 : (-1 : Int32).toInt = -1 := by decide
    by_cases z : kk = -1
    · exact Or.inr z
    · left
      rw [Int32.lt_iff_toInt_lt]
      have : kk.toInt ≠ -1 := fun w => z (by rw [← Int32.toInt_inj, w]; exact e1.symm)
      omega
theorem mkd_eq {n : Nat} {po : Nat → Nat → Nat} {ap : Nat → Bool} {od : List Nat} {ln : Nat} {lo : Nat → List Nat} (h : Tie n po ap od ln lo) (x : Int32) (kd : Nat) : mkind n po ap x kd = (match cplace ln lo x with | none => false | some k => decide (oB (lo k) 1 = kd)) := by
  unfold mkind
  rw [tie_mf h x]
  cases e : cplace ln lo x with
  | none => rfl
  | some k => dsimp only [Option.map]; rw [tie_b h (cpl_get e).1 (by omega)]
theorem q_entry {n : Nat} {po : Nat → Nat → Nat} {ap : Nat → Bool} {od : List Nat} {ln : Nat} {lo : Nat → List Nat} {P : Nat → Int32} {hi : Nat → Option Nat} {ch : Nat → Nat → List Nat} (h : Tie n po ap od ln lo) (hP : PB ln lo P) (hH : HiB ln lo hi) (hM : MapB ln lo P hi ch) (mm key kk : Int32) : (if key < 0 ∨ 3 < key ∨ kk < -1 ∨ (¬ mm = 0 ∧ mkind n po ap mm 1 = false) then -1 else if kk = -1 then -1 - plI (entO n po ap (stA n po ap).1 (stA n po ap).2 mm key kk) (cntI (entQ n po ap (stA n po ap).1 (stA n po ap).2 mm key) 159) else match entO n po ap (stA n po ap).1 (stA n po ap).2 mm key kk with | none => -1 | some j => nI (po j 0)) = entS ln lo ch mm key kk := by
  have hL := h.2.2.2.2.2.1
  by_cases hk : isKeyI key = true
  · have hk2 := hk
    unfold isKeyI at hk2
    simp only [Bool.and_eq_true, decide_eq_true_eq] at hk2
    obtain ⟨key0, hk0, rfl⟩ := nI_of2 (M := 3) (n := 3) (by decide) hk2.1 hk2.2
    have hcl : (nI key0).toNatClampNeg = key0 := nI_clamp (by omega)
    have good : ∀ m, cnode ln lo mm = some m → isMap lo m → (¬ (¬ mm = 0 ∧ mkind n po ap mm 1 = false)) → (if nI key0 < 0 ∨ 3 < nI key0 ∨ kk < -1 ∨ (¬ mm = 0 ∧ mkind n po ap mm 1 = false) then -1 else if kk = -1 then -1 - plI (entO n po ap (stA n po ap).1 (stA n po ap).2 mm (nI key0) kk) (cntI (entQ n po ap (stA n po ap).1 (stA n po ap).2 mm (nI key0)) 159) else match entO n po ap (stA n po ap).1 (stA n po ap).2 mm (nI key0) kk with | none => -1 | some j => nI (po j 0)) = entS ln lo ch mm (nI key0) kk := by
      intro m hm hmp hmk
      have hl := ent_lst h hP hH hM hm hmp (show key0 < 4 by omega)
      have he := entO_eq h hP hH hM hm hmp (show key0 < 4 by omega) kk
      have hc : cntI (entQ n po ap (stA n po ap).1 (stA n po ap).2 mm (nI key0)) 159 = (ch m key0).length := by rw [cnt_nm, ← hl, List.length_map]
      have hle : (ch m key0).length ≤ 159 := by rw [← hc]; exact cntI_le _ _
      have hmb : isMapB lo m = true := by
        unfold isMapB
        rcases hmp with z | z <;> simp [z]
      have hE : entS ln lo ch mm (nI key0) kk = pickI (ch m key0) (fun k => oB (lo k) 0) kk := by
        unfold entS
        rw [hm]
        dsimp only
        rw [if_pos ⟨hmb, hk⟩, hcl]
      rw [hE, he, hc]
      unfold pickI
      have b1 : ¬ nI key0 < 0 := hk2.1
      have b2 : ¬ 3 < nI key0 := Int32.not_lt.mpr hk2.2
      by_cases c1 : kk < -1
      · have c0 := (m1_lt kk).1 c1
        rw [if_pos (Or.inr (Or.inr (Or.inl c1))), if_neg (show ¬ (¬ kk < 0 ∧ kk < nI (ch m key0).length) from fun w => w.1 c0), if_neg (show ¬ kk = -1 from fun z => by rw [z] at c1; exact absurd c1 (by decide))]
      · rw [if_neg (show ¬ (nI key0 < 0 ∨ 3 < nI key0 ∨ kk < -1 ∨ (¬ mm = 0 ∧ mkind n po ap mm 1 = false)) from fun w => w.elim b1 (fun w => w.elim b2 (fun w => w.elim c1 hmk)))]
        by_cases c2 : kk = -1
        · have c0 := (m1_lt kk).2.1 c2
          have c3 : ¬ (¬ kk < 0 ∧ kk < nI (ch m key0).length) := fun w => w.1 c0
          rw [if_pos c2, if_neg c3, if_neg c3, if_pos c2]
          exact sub_sub1 _
        · rw [if_neg c2]
          by_cases z : ¬ kk < 0 ∧ kk < nI (ch m key0).length
          · rw [if_pos z, if_pos z]
            dsimp only
            obtain ⟨t, ht, rfl⟩ := nI_of z.1
            have htl : t < (ch m key0).length := (nI_ltI (by omega) (by omega)).mp z.2
            rw [nI_clamp (by omega), List.getD_eq_getElem?_getD, List.getElem?_eq_getElem htl]
            have hmem := (ch m key0).getElem_mem htl
            have hkl := (((hM m key0 (cnode_le hm).1 hmp (by omega)).2 _).mp hmem).1.1
            dsimp only [Option.getD]
            rw [tie_b h hkl (by omega)]
          · rw [if_neg z, if_neg z, if_neg c2]
    by_cases m0 : mm = 0
    · refine good 0 (by unfold cnode; rw [if_pos m0]) (Or.inl rfl) (fun w => w.1 m0)
    · have hmk := mkd_eq h mm 1
      cases e : cplace ln lo mm with
      | none =>
        rw [e] at hmk
        rw [if_pos (Or.inr (Or.inr (Or.inr ⟨m0, hmk⟩)))]
        unfold entS cnode
        rw [if_neg m0, e]
      | some k =>
        rw [e] at hmk
        dsimp only at hmk
        by_cases z1 : oB (lo k) 1 = 1
        · refine good (k + 1) (by unfold cnode; rw [if_neg m0, e]; dsimp only; rw [if_pos (Or.inl z1)]) (Or.inr (by rw [Nat.add_sub_cancel]; exact z1)) (fun w => ?_)
          rw [hmk, decide_eq_true z1] at w
          cases w.2
        · rw [decide_eq_false z1] at hmk
          rw [if_pos (Or.inr (Or.inr (Or.inr ⟨m0, hmk⟩)))]
          unfold entS cnode
          rw [if_neg m0, e]
          dsimp only
          by_cases z2 : oB (lo k) 1 = 2
          · rw [if_pos (Or.inr z2)]
            dsimp only
            rw [if_neg]
            rintro ⟨w, -⟩
            unfold isMapB at w
            rw [Nat.add_sub_cancel] at w
            simp [z1] at w
          · rw [if_neg (by omega)]
  · have hk2 : isKeyI key = false := by simpa using hk
    have hb : key < 0 ∨ 3 < key := by
      unfold isKeyI at hk
      simp only [Bool.and_eq_true, decide_eq_true_eq, not_and] at hk
      by_cases z : key < 0
      · exact Or.inl z
      · exact Or.inr (Int32.not_le.mp (hk z))
    rw [if_pos (hb.imp id Or.inl), entS_k hk2]
