set_option maxRecDepth 100000
/-! THE MODEL, A: its cells; readers -/
/-- the model's object at a, its arrays at ad k; S k: the contents of field k -/
def MdAt (G : mp_G) (M : mp_M) (a : Nat) (ad : Nat → Nat) (S : Nat → Nat → Int32) : Prop :=
  M a = some ((9, 0, 0), .inr (3, [.ref (ad 0), .ref (ad 1), .ref (ad 2), .ref (ad 3), .ref (ad 4), .ref (ad 5), .int (S 6 0), .int (S 7 0), .ref (ad 8), .ref (ad 9), .ref (ad 10), .ref (ad 11)])) ∧
  M (ad 0) = some ((9, 1, 0), .inl (G.2.1 0, 576, .inl (S 0))) ∧ M (ad 1) = some ((9, 2, 0), .inl (G.2.1 0, 3, .inl (S 1))) ∧
  M (ad 2) = some ((9, 3, 0), .inl (G.2.1 1, 48, .inl (S 2))) ∧ M (ad 3) = some ((9, 4, 0), .inl (G.2.1 0, 48, .inl (S 3))) ∧
  M (ad 4) = some ((9, 5, 0), .inl (G.2.1 0, 3, .inl (S 4))) ∧ M (ad 5) = some ((9, 6, 0), .inl (G.2.1 0, 16, .inl (S 5))) ∧
  M (ad 8) = some ((9, 9, 0), .inl (G.2.1 1, 16, .inl (S 8))) ∧ M (ad 9) = some ((9, 10, 0), .inl (G.2.1 0, 16, .inl (S 9))) ∧
  M (ad 10) = some ((9, 11, 0), .inl (G.2.1 0, 16, .inl (S 10))) ∧ M (ad 11) = some ((9, 12, 0), .inl (G.2.1 0, 24, .inl (S 11)))
/-- replica r in the model: n operations, their bytes po j f, applied or not -/
def Vw (S : Nat → Nat → Int32) (r n : Nat) (po : Nat → Nat → Nat) (ap : Nat → Bool) : Prop :=
  r ≤ 2 ∧ n ≤ 16 ∧ S 1 r = nI n ∧ (∀ j f, j < n → f < 6 + po j 5 → S 0 (12 * (16 * r + j) + f) = nI (po j f)) ∧ (∀ j, j < n → po j 5 ≤ 6) ∧ (∀ j f, po j f < 256) ∧ (∀ j, j < n → S 2 (16 * r + j) = bI (ap j))
def FitV (S : Nat → Nat → Int32) (ft : Nat → Bool) : Prop := ∀ j, j < 16 → S 8 j = bI (ft j)
def PstV (S : Nat → Nat → Int32) (P : Nat → Int32) : Prop := ∀ j, j < 16 → S 9 j = P j
def TotV (S : Nat → Nat → Int32) (T : Nat → Int32) : Prop := ∀ j, j < 16 → S 10 j = T j
abbrev fP (po : Nat → Nat → Nat) (ap : Nat → Bool) (x : Int32) (only : Bool) : Nat → Bool := fun j => decide (nI (po j 0) = x) && (!only || ap j)
abbrev mfind (n : Nat) (po : Nat → Nat → Nat) (ap : Nat → Bool) (x : Int32) (only : Bool) : Option Nat := lastI (fP po ap x only) n
def isRepB (x : Int32) : Bool := decide (¬ x < 0) && decide (x ≤ 2)
def isIdB (v : Nat) : Bool := decide (4 ≤ v) && decide (v ≤ 162) && decide (v % 4 ≠ 3)
theorem ct_X3_isReplica (l : Launch) (G : mp_G) (b : Nat) (M : mp_M) (x : Int32) : Ct l yX3_isReplica cX3_isReplica 1 (some .boolean) 0 0 0 G b ([.int x] : List Value) M (pI (fun r M1 => r = bI (isRepB x) ∧ M1 = M)) := by
  refine Ct.ofV (by decide) (vc_int vc_nil) (Nat.le_of_ble_eq_true rfl) ?_
  intro p e s m below meth c C hnm
  refine V_L (L1 := [some (.int x)]) rfl ?_
  refine V_iload_n C dX3_isReplica_0 rfl rfl ?_
  refine V_if_lt C 13 dX3_isReplica_1 (by decide) (fun q1 => ?_) (fun q1 => ?_)
  · refine V_iconst C 0 dX3_isReplica_13 (by decide) ?_
    exact V_zret C rfl dX3_isReplica_14 (by decide) (by decide) ⟨_, rfl, by first | (refine bt ?_; unfold isRepB; simp; exact ⟨Int32.not_lt.mp q1, Int32.not_lt.mp q6⟩) | (have z : isRepB x = false := Bool.eq_false_iff.mpr (fun h => by simp only [isRepB, Bool.and_eq_true, decide_eq_true_eq] at h; first | exact h.1 q1 | exact Int32.not_le.mpr q6 h.2); rw [z]; rfl), rfl⟩
  · refine V_iload_n C dX3_isReplica_4 rfl rfl ?_
    refine V_iconst C 2 dX3_isReplica_5 (by decide) ?_
    refine V_icmp_gt C 13 dX3_isReplica_6 (by decide) (fun q6 => ?_) (fun q6 => ?_)
    · refine V_iconst C 0 dX3_isReplica_13 (by decide) ?_
      exact V_zret C rfl dX3_isReplica_14 (by decide) (by decide) ⟨_, rfl, by first | (refine bt ?_; unfold isRepB; simp; exact ⟨Int32.not_lt.mp q1, Int32.not_lt.mp q6⟩) | (have z : isRepB x = false := Bool.eq_false_iff.mpr (fun h => by simp only [isRepB, Bool.and_eq_true, decide_eq_true_eq] at h; first | exact h.1 q1 | exact Int32.not_le.mpr q6 h.2); rw [z]; rfl), rfl⟩
    · refine V_iconst C 1 dX3_isReplica_9 (by decide) ?_
      refine V_goto C 14 dX3_isReplica_10 (by decide) ?_
      exact V_zret C rfl dX3_isReplica_14 (by decide) (by decide) ⟨_, rfl, by first | (refine bt ?_; unfold isRepB; simp; exact ⟨Int32.not_lt.mp q1, Int32.not_lt.mp q6⟩) | (have z : isRepB x = false := Bool.eq_false_iff.mpr (fun h => by simp only [isRepB, Bool.and_eq_true, decide_eq_true_eq] at h; first | exact h.1 q1 | exact Int32.not_le.mpr q6 h.2); rw [z]; rfl), rfl⟩
theorem ct_X3_isId (l : Launch) (G : mp_G) (b : Nat) (M : mp_M) (x : Nat) (hx : x < 256) : Ct l yX3_isId cX3_isId 1 (some .boolean) 0 0 0 G b ([.int (nI x)] : List Value) M (pI (fun r M1 => r = bI (isIdB x) ∧ M1 = M)) := by
  refine Ct.ofV (by decide) (vc_int vc_nil) (Nat.le_of_ble_eq_true rfl) ?_
  intro p e s m below meth c C hnm
  refine V_L (L1 := [some (.int (nI x))]) rfl ?_
  refine V_iload_n C dX3_isId_0 rfl rfl ?_
  refine V_iconst C 4 dX3_isId_1 (by decide) ?_
  refine V_nicmp_lt (x := x) (y := 4) C 23 dX3_isId_2 (by decide) (by omega) (by omega) (fun q2 => ?_) (fun q2 => ?_)
  · refine V_iconst C 0 dX3_isId_23 (by decide) ?_
    exact V_zret C rfl dX3_isId_24 (by decide) (by decide) ⟨_, rfl, by first | (refine bt ?_; unfold isIdB; simp; omega) | (refine bf ?_; unfold isIdB; simp; omega), rfl⟩
  · refine V_iload_n C dX3_isId_5 rfl rfl ?_
    refine V_sipush C 162 dX3_isId_6 (by decide) ?_
    refine V_nicmp_gt (x := x) (y := 162) C 23 dX3_isId_9 (by decide) (by omega) (by omega) (fun q9 => ?_) (fun q9 => ?_)
    · refine V_iconst C 0 dX3_isId_23 (by decide) ?_
      exact V_zret C rfl dX3_isId_24 (by decide) (by decide) ⟨_, rfl, by first | (refine bt ?_; unfold isIdB; simp; omega) | (refine bf ?_; unfold isIdB; simp; omega), rfl⟩
    · refine V_iload_n C dX3_isId_12 rfl rfl ?_
      refine V_iconst C 4 dX3_isId_13 (by decide) ?_
      refine V_irem C dX3_isId_14 (by decide) ?_
      refine V_top (y := (nI (x % 4))) (pk_rem (a := x) (d := 4) (by omega) (by decide) (by decide)) ?_
      refine V_iconst C 3 dX3_isId_15 (by decide) ?_
      refine V_nicmp_eq (x := x % 4) (y := 3) C 23 dX3_isId_16 (by decide) (by omega) (by omega) (fun q16 => ?_) (fun q16 => ?_)
      · refine V_iconst C 0 dX3_isId_23 (by decide) ?_
        exact V_zret C rfl dX3_isId_24 (by decide) (by decide) ⟨_, rfl, by first | (refine bt ?_; unfold isIdB; simp; omega) | (refine bf ?_; unfold isIdB; simp; omega), rfl⟩
      · refine V_iconst C 1 dX3_isId_19 (by decide) ?_
        refine V_goto C 24 dX3_isId_20 (by decide) ?_
        exact V_zret C rfl dX3_isId_24 (by decide) (by decide) ⟨_, rfl, by first | (refine bt ?_; unfold isIdB; simp; omega) | (refine bf ?_; unfold isIdB; simp; omega), rfl⟩
theorem ct_X3_part (l : Launch) (G : mp_G) (b : Nat) (M : mp_M) (a : Nat) (ad : Nat → Nat) (S : Nat → Nat → Int32) (r n : Nat) (po : Nat → Nat → Nat) (ap : Nat → Bool) (hS : MdAt G M a ad S) (hme : S 7 0 = nI r) (hV : Vw S r n po ap) (j f : Nat) (hj : j < n) (hf : f < 6 + po j 5) : Ct l yX3_part cX3_part 3 (some .int) 0 0 0 G b ([.ref a, .int (nI j), .int (nI f)] : List Value) M (pI (fun x M1 => x = nI (po j f) ∧ M1 = M)) := by
  have hr := hV.1
  have hn := hV.2.1
  have h6 := hV.2.2.2.2.1 j hj
  refine Ct.ofV (by decide) (vc_ref (vc_int (vc_int vc_nil))) (Nat.le_of_ble_eq_true rfl) ?_
  intro p e s m below meth c C hnm
  refine V_L (L1 := [some (.ref a), some (.int (nI j)), some (.int (nI f))]) rfl ?_
  obtain ⟨hma, hm0, hm1, hm2, hm3, hm4, hm5, hm8, hm9, hm10, hm11⟩ := id hS
  rw [hme] at hma
  refine V_aload_n C dX3_part_0 rfl rfl ?_
  refine V_get (C0 := RX3) (T := TX3) (N := 12) (ci := 3) C 0 in_X3 rfl hma (by decide) q821 (fun _ h9 => h9) rfl dX3_part_1 ?_
  refine V_bipush C 12 dX3_part_4 (by decide) ?_
  refine V_bipush C 16 dX3_part_6 (by decide) ?_
  refine V_aload_n C dX3_part_8 rfl rfl ?_
  refine V_get (C0 := RX3) (T := TX3) (N := 12) (ci := 3) C 7 in_X3 rfl hma (by decide) q828 (fun _ h9 => h9) rfl dX3_part_9 ?_
  refine V_imul C dX3_part_12 ?_
  refine V_top (y := (nI (16 * r))) (pk_mul 16 r) ?_
  refine V_iload_n C dX3_part_13 rfl rfl ?_
  refine V_iadd C dX3_part_14 ?_
  refine V_top (y := (nI (16 * r + j))) (nI_add (16 * r) j) ?_
  refine V_imul C dX3_part_15 ?_
  refine V_top (y := (nI (12 * (16 * r + j)))) (pk_mul 12 (16 * r + j)) ?_
  refine V_iload_n C dX3_part_16 rfl rfl ?_
  refine V_iadd C dX3_part_17 ?_
  refine V_top (y := (nI (12 * (16 * r + j) + f))) (nI_add (12 * (16 * r + j)) f) ?_
  refine V_iald C hm0 (pk_in (12 * (16 * r + j) + f) 576 (by omega)) dX3_part_18 ?_
  refine V_top (y := (S 0 (12 * (16 * r + j) + f))) (by rw [nI_clamp (n := 12 * (16 * r + j) + f) (by omega)]) ?_
  exact V_iret C dX3_part_19 (by decide) (by decide) ⟨_, rfl, hV.2.2.2.1 j f hj hf, rfl⟩
theorem ct_X3_done (l : Launch) (G : mp_G) (b : Nat) (M : mp_M) (a : Nat) (ad : Nat → Nat) (S : Nat → Nat → Int32) (r n : Nat) (po : Nat → Nat → Nat) (ap : Nat → Bool) (hS : MdAt G M a ad S) (hme : S 7 0 = nI r) (hV : Vw S r n po ap) (j : Nat) (hj : j < n) : Ct l yX3_done cX3_done 2 (some .boolean) 0 0 0 G b ([.ref a, .int (nI j)] : List Value) M (pI (fun x M1 => x = bI (ap j) ∧ M1 = M)) := by
  have hr := hV.1
  have hn := hV.2.1
  refine Ct.ofV (by decide) (vc_ref (vc_int vc_nil)) (Nat.le_of_ble_eq_true rfl) ?_
  intro p e s m below meth c C hnm
  refine V_L (L1 := [some (.ref a), some (.int (nI j))]) rfl ?_
  obtain ⟨hma, hm0, hm1, hm2, hm3, hm4, hm5, hm8, hm9, hm10, hm11⟩ := id hS
  rw [hme] at hma
  refine V_aload_n C dX3_done_0 rfl rfl ?_
  refine V_get (C0 := RX3) (T := TX3) (N := 12) (ci := 3) C 2 in_X3 rfl hma (by decide) q823 (fun _ h9 => h9) rfl dX3_done_1 ?_
  refine V_bipush C 16 dX3_done_4 (by decide) ?_
  refine V_aload_n C dX3_done_6 rfl rfl ?_
  refine V_get (C0 := RX3) (T := TX3) (N := 12) (ci := 3) C 7 in_X3 rfl hma (by decide) q828 (fun _ h9 => h9) rfl dX3_done_7 ?_
  refine V_imul C dX3_done_10 ?_
  refine V_top (y := (nI (16 * r))) (pk_mul 16 r) ?_
  refine V_iload_n C dX3_done_11 rfl rfl ?_
  refine V_iadd C dX3_done_12 ?_
  refine V_top (y := (nI (16 * r + j))) (nI_add (16 * r) j) ?_
  refine V_zald C hm2 (pk_in (16 * r + j) 48 (by omega)) dX3_done_13 ?_
  refine V_top (y := (S 2 (16 * r + j))) (by rw [nI_clamp (n := 16 * r + j) (by omega)]) ?_
  refine V_top (y := bI (ap j)) (hV.2.2.2.2.2.2 j hj) ?_
  exact V_zret C (bI_nar _) dX3_done_14 (by decide) (by decide) ⟨_, rfl, rfl, rfl⟩
theorem ct_X3_find (l : Launch) (G : mp_G) (b : Nat) (M : mp_M) (a : Nat) (ad : Nat → Nat) (S : Nat → Nat → Int32) (r n : Nat) (po : Nat → Nat → Nat) (ap : Nat → Bool) (hS : MdAt G M a ad S) (hme : S 7 0 = nI r) (hV : Vw S r n po ap) (x : Int32) (only : Bool) : Ct l yX3_find cX3_find 5 (some .int) 1 0 0 G b ([.ref a, .int x, .int (bI only)] : List Value) M (pI (fun y M1 => y = oI (mfind n po ap x only) ∧ M1 = M)) := by
  have hr := hV.1
  have hn := hV.2.1
  refine Ct.ofV (by decide) (vc_ref (vc_int (vc_int vc_nil))) (Nat.le_of_ble_eq_true rfl) ?_
  intro p e s m below meth c C hnm
  refine V_L (L1 := [some (.ref a), some (.int x), some (.int (bI only)), none, none]) rfl ?_
  obtain ⟨hma, hm0, hm1, hm2, hm3, hm4, hm5, hm8, hm9, hm10, hm11⟩ := id hS
  rw [hme] at hma
  refine V_iconst C (-1) dX3_find_0 (by decide) ?_
  refine V_istore_n (L' := [some (.ref a), some (.int x), some (.int (bI only)), some (.int (-1)), none]) C dX3_find_1 rfl (by decide) rfl ?_
  refine V_iconst C 0 dX3_find_2 (by decide) ?_
  refine V_istore (L' := [some (.ref a), some (.int x), some (.int (bI only)), some (.int (-1)), some (.int 0)]) C dX3_find_3 (by decide) rfl ?_
  have loop : ∀ k, k ≤ n → V p l e (rmOf 1 0 0) s m ([.ref a, .int x, .int (bI only)] : List Value).toArray below meth c (MQ below (Qp G b (pI (fun y M1 => y = oI (mfind n po ap x only) ∧ M1 = M))) ([.ref a, .int x, .int (bI only)] : List Value).toArray s 0 0 (fun q => b ≤ q)) G b 5 0 0 5 [some (.ref a), some (.int x), some (.int (bI only)), some (.int (oI (lastI (fP po ap x only) k))), some (.int (nI k))] [] M := by
    refine up_ind n ?_
    intro k hk ih
    refine V_iload C dX3_find_5 rfl ?_
    refine V_aload_n C dX3_find_7 rfl rfl ?_
    refine V_get (C0 := RX3) (T := TX3) (N := 12) (ci := 3) C 1 in_X3 rfl hma (by decide) q822 (fun _ h9 => h9) rfl dX3_find_8 ?_
    refine V_aload_n C dX3_find_11 rfl rfl ?_
    refine V_get (C0 := RX3) (T := TX3) (N := 12) (ci := 3) C 7 in_X3 rfl hma (by decide) q828 (fun _ h9 => h9) rfl dX3_find_12 ?_
    refine V_iald C hm1 (pk_in r 3 (by omega)) dX3_find_15 ?_
    refine V_top (y := (nI n)) (by rw [nI_clamp (n := r) (by omega)]; exact hV.2.2.1) ?_
    refine V_nicmp_ge (x := k) (y := n) C 52 dX3_find_16 (by decide) (by omega) (by omega) (fun q16 => ?_) (fun q16 => ?_)
    · refine V_iload_n C dX3_find_52 rfl rfl ?_
      exact V_iret C dX3_find_53 (by decide) (by decide) ⟨_, rfl, by rw [show k = n by omega], rfl⟩
    · refine V_aload_n C dX3_find_19 rfl rfl ?_
      refine V_iload C dX3_find_20 rfl ?_
      refine V_iconst C 0 dX3_find_22 (by decide) ?_
      refine V_ofIe (VR_V (As := [.int (nI k), .int 0]) (rest := []) C (ct_X3_part l G b M a ad S r n po ap hS hme hV k 0 (by omega) (by omega)) hma rfl (lw_V q875 q877 qs11 q46 q878) rfl nd_X3_part rfl (by decide) (by decide) dX3_find_23 rfl ⟨by decide, by decide⟩ (Nat.le_of_ble_eq_true rfl)) ?_
      have hp23 := hV.2.2.2.2.2.1 k 0
      refine V_iload_n C dX3_find_26 rfl rfl ?_
      refine V_icmp_ne C 46 dX3_find_27 (by decide) (fun q27 => ?_) (fun q27 => ?_)
      · refine V_iinc (v := (nI (k + 1))) (L' := [some (.ref a), some (.int x), some (.int (bI only)), some (.int (oI (lastI (fP po ap x only) k))), some (.int (nI (k + 1)))]) C dX3_find_46 rfl (nI_1 _) (by decide) rfl ?_
        refine V_goto C 5 dX3_find_49 (by decide) ?_
        refine V_L ?_ (ih (by omega))
        first | (rw [lastI_t (by simp [fP, *])]; rfl) | rw [lastI_f (by simp [fP, *])]
      · refine V_iload_n C dX3_find_30 rfl rfl ?_
        refine V_ifb_eq C 43 dX3_find_31 (by decide) (fun q31 => ?_) (fun q31 => ?_)
        · refine V_iload C dX3_find_43 rfl ?_
          refine V_istore_n (L' := [some (.ref a), some (.int x), some (.int (bI only)), some (.int (nI k)), some (.int (nI k))]) C dX3_find_45 rfl (by decide) rfl ?_
          refine V_iinc (v := (nI (k + 1))) (L' := [some (.ref a), some (.int x), some (.int (bI only)), some (.int (nI k)), some (.int (nI (k + 1)))]) C dX3_find_46 rfl (nI_1 _) (by decide) rfl ?_
          refine V_goto C 5 dX3_find_49 (by decide) ?_
          refine V_L ?_ (ih (by omega))
          first | (rw [lastI_t (by simp [fP, *])]; rfl) | rw [lastI_f (by simp [fP, *])]
        · refine V_aload_n C dX3_find_34 rfl rfl ?_
          refine V_iload C dX3_find_35 rfl ?_
          refine V_ofIe (VR_V (As := [.int (nI k)]) (rest := []) C (ct_X3_done l G b M a ad S r n po ap hS hme hV k (by omega)) hma rfl (lw_V q871 q873 qs10 q46 q874) rfl nd_X3_done rfl (by decide) (by decide) dX3_find_37 rfl ⟨by decide, by decide⟩ (Nat.le_of_ble_eq_true rfl)) ?_
          refine V_ifb_eq C 46 dX3_find_40 (by decide) (fun q40 => ?_) (fun q40 => ?_)
          · refine V_iinc (v := (nI (k + 1))) (L' := [some (.ref a), some (.int x), some (.int (bI only)), some (.int (oI (lastI (fP po ap x only) k))), some (.int (nI (k + 1)))]) C dX3_find_46 rfl (nI_1 _) (by decide) rfl ?_
            refine V_goto C 5 dX3_find_49 (by decide) ?_
            refine V_L ?_ (ih (by omega))
            first | (rw [lastI_t (by simp [fP, *])]; rfl) | rw [lastI_f (by simp [fP, *])]
          · refine V_iload C dX3_find_43 rfl ?_
            refine V_istore_n (L' := [some (.ref a), some (.int x), some (.int (bI only)), some (.int (nI k)), some (.int (nI k))]) C dX3_find_45 rfl (by decide) rfl ?_
            refine V_iinc (v := (nI (k + 1))) (L' := [some (.ref a), some (.int x), some (.int (bI only)), some (.int (nI k)), some (.int (nI (k + 1)))]) C dX3_find_46 rfl (nI_1 _) (by decide) rfl ?_
            refine V_goto C 5 dX3_find_49 (by decide) ?_
            refine V_L ?_ (ih (by omega))
            first | (rw [lastI_t (by simp [fP, *])]; rfl) | rw [lastI_f (by simp [fP, *])]
  exact loop 0 (Nat.zero_le _)
abbrev hasP (po : Nat → Nat → Nat) (j : Nat) (x : Int32) : Bool := anyI (fun k => decide (nI (po j (6 + k)) = x)) (po j 5)
theorem ct_X3_has (l : Launch) (G : mp_G) (b : Nat) (M : mp_M) (a : Nat) (ad : Nat → Nat) (S : Nat → Nat → Int32) (r n : Nat) (po : Nat → Nat → Nat) (ap : Nat → Bool) (hS : MdAt G M a ad S) (hme : S 7 0 = nI r) (hV : Vw S r n po ap) (j : Nat) (x : Int32) (hj : j < n) : Ct l yX3_has cX3_has 5 (some .boolean) 1 0 0 G b ([.ref a, .int (nI j), .int x] : List Value) M (pI (fun y M1 => y = bI (hasP po j x) ∧ M1 = M)) := by
  have hr := hV.1
  have hn := hV.2.1
  have h6 := hV.2.2.2.2.1 j hj
  refine Ct.ofV (by decide) (vc_ref (vc_int (vc_int vc_nil))) (Nat.le_of_ble_eq_true rfl) ?_
  intro p e s m below meth c C hnm
  refine V_L (L1 := [some (.ref a), some (.int (nI j)), some (.int x), none, none]) rfl ?_
  obtain ⟨hma, hm0, hm1, hm2, hm3, hm4, hm5, hm8, hm9, hm10, hm11⟩ := id hS
  rw [hme] at hma
  refine V_iconst C 0 dX3_has_0 (by decide) ?_
  refine V_istore_n (L' := [some (.ref a), some (.int (nI j)), some (.int x), some (.int 0), none]) C dX3_has_1 rfl (by decide) rfl ?_
  refine V_iconst C 0 dX3_has_2 (by decide) ?_
  refine V_istore (L' := [some (.ref a), some (.int (nI j)), some (.int x), some (.int 0), some (.int 0)]) C dX3_has_3 (by decide) rfl ?_
  have loop : ∀ k, k ≤ po j 5 → V p l e (rmOf 1 0 0) s m ([.ref a, .int (nI j), .int x] : List Value).toArray below meth c (MQ below (Qp G b (pI (fun y M1 => y = bI (hasP po j x) ∧ M1 = M))) ([.ref a, .int (nI j), .int x] : List Value).toArray s 0 0 (fun q => b ≤ q)) G b 5 0 0 5 [some (.ref a), some (.int (nI j)), some (.int x), some (.int (bI (anyI (fun k => decide (nI (po j (6 + k)) = x)) k))), some (.int (nI k))] [] M := by
    refine up_ind (po j 5) ?_
    intro k hk ih
    refine V_iload C dX3_has_5 rfl ?_
    refine V_aload_n C dX3_has_7 rfl rfl ?_
    refine V_iload_n C dX3_has_8 rfl rfl ?_
    refine V_iconst C 5 dX3_has_9 (by decide) ?_
    refine V_ofIe (VR_V (As := [.int (nI j), .int 5]) (rest := [.int (nI k)]) C (ct_X3_part l G b M a ad S r n po ap hS hme hV j 5 (by omega) (by omega)) hma rfl (lw_V q875 q877 qs11 q46 q878) rfl nd_X3_part rfl (by decide) (by decide) dX3_has_10 rfl ⟨by decide, by decide⟩ (Nat.le_of_ble_eq_true rfl)) ?_
    have hp10 := hV.2.2.2.2.2.1 j 5
    refine V_nicmp_ge (x := k) (y := po j 5) C 46 dX3_has_13 (by decide) (by omega) (by omega) (fun q13 => ?_) (fun q13 => ?_)
    · refine V_iload_n C dX3_has_46 rfl rfl ?_
      exact V_zret C (bI_nar _) dX3_has_47 (by decide) (by decide) ⟨_, rfl, by rw [show k = po j 5 by omega], rfl⟩
    · refine V_iload_n C dX3_has_16 rfl rfl ?_
      refine V_ifb_ne C 34 dX3_has_17 (by decide) (fun q17 => ?_) (fun q17 => ?_)
      · refine V_iconst C 1 dX3_has_34 (by decide) ?_
        refine V_goto C 39 dX3_has_35 (by decide) ?_
        refine V_istore_n (L' := [some (.ref a), some (.int (nI j)), some (.int x), some (.int 1), some (.int (nI k))]) C dX3_has_39 rfl (by decide) rfl ?_
        refine V_iinc (v := (nI (k + 1))) (L' := [some (.ref a), some (.int (nI j)), some (.int x), some (.int 1), some (.int (nI (k + 1)))]) C dX3_has_40 rfl (nI_1 _) (by decide) rfl ?_
        refine V_goto C 5 dX3_has_43 (by decide) ?_
        refine V_L ?_ (ih (by omega))
        rw [anyI_s]
        first | (rw [show (anyI (fun k => decide (nI (po j (6 + k)) = x)) k || decide (nI (po j (6 + k)) = x)) = true from by simp [*]]; rfl) | (rw [show (anyI (fun k => decide (nI (po j (6 + k)) = x)) k || decide (nI (po j (6 + k)) = x)) = false from by simp [*]]; rfl)
      · refine V_aload_n C dX3_has_20 rfl rfl ?_
        refine V_iload_n C dX3_has_21 rfl rfl ?_
        refine V_bipush C 6 dX3_has_22 (by decide) ?_
        refine V_iload C dX3_has_24 rfl ?_
        refine V_iadd C dX3_has_26 ?_
        refine V_top (y := (nI (6 + k))) (nI_add 6 k) ?_
        refine V_ofIe (VR_V (As := [.int (nI j), .int (nI (6 + k))]) (rest := []) C (ct_X3_part l G b M a ad S r n po ap hS hme hV j (6 + k) (by omega) (by omega)) hma rfl (lw_V q875 q877 qs11 q46 q878) rfl nd_X3_part rfl (by decide) (by decide) dX3_has_27 rfl ⟨by decide, by decide⟩ (Nat.le_of_ble_eq_true rfl)) ?_
        have hp27 := hV.2.2.2.2.2.1 j (6 + k)
        refine V_iload_n C dX3_has_30 rfl rfl ?_
        refine V_icmp_ne C 38 dX3_has_31 (by decide) (fun q31 => ?_) (fun q31 => ?_)
        · refine V_iconst C 0 dX3_has_38 (by decide) ?_
          refine V_istore_n (L' := [some (.ref a), some (.int (nI j)), some (.int x), some (.int 0), some (.int (nI k))]) C dX3_has_39 rfl (by decide) rfl ?_
          refine V_iinc (v := (nI (k + 1))) (L' := [some (.ref a), some (.int (nI j)), some (.int x), some (.int 0), some (.int (nI (k + 1)))]) C dX3_has_40 rfl (nI_1 _) (by decide) rfl ?_
          refine V_goto C 5 dX3_has_43 (by decide) ?_
          refine V_L ?_ (ih (by omega))
          rw [anyI_s]
          first | (rw [show (anyI (fun k => decide (nI (po j (6 + k)) = x)) k || decide (nI (po j (6 + k)) = x)) = true from by simp [*]]; rfl) | (rw [show (anyI (fun k => decide (nI (po j (6 + k)) = x)) k || decide (nI (po j (6 + k)) = x)) = false from by simp [*]]; rfl)
        · refine V_iconst C 1 dX3_has_34 (by decide) ?_
          refine V_goto C 39 dX3_has_35 (by decide) ?_
          refine V_istore_n (L' := [some (.ref a), some (.int (nI j)), some (.int x), some (.int 1), some (.int (nI k))]) C dX3_has_39 rfl (by decide) rfl ?_
          refine V_iinc (v := (nI (k + 1))) (L' := [some (.ref a), some (.int (nI j)), some (.int x), some (.int 1), some (.int (nI (k + 1)))]) C dX3_has_40 rfl (nI_1 _) (by decide) rfl ?_
          refine V_goto C 5 dX3_has_43 (by decide) ?_
          refine V_L ?_ (ih (by omega))
          rw [anyI_s]
          first | (rw [show (anyI (fun k => decide (nI (po j (6 + k)) = x)) k || decide (nI (po j (6 + k)) = x)) = true from by simp [*]]; rfl) | (rw [show (anyI (fun k => decide (nI (po j (6 + k)) = x)) k || decide (nI (po j (6 + k)) = x)) = false from by simp [*]]; rfl)
  exact loop 0 (Nat.zero_le _)
def mfits (n : Nat) (po : Nat → Nat → Nat) (ap ft : Nat → Bool) (kind target slot : Int32) : Bool :=
  if kind = 3 then (match mfind n po ap target true with
    | none => false
    | some t => decide (po t 1 = 2) && (decide (slot = 0) || (match mfind n po ap slot true with
      | none => false
      | some s => decide (po s 1 = 3) && ft s && decide (nI (po s 2) = target))))
  else if kind = 4 then (match mfind n po ap target true with
    | none => false
    | some t => decide (po t 1 = 3) && ft t)
  else decide (target = 0) || (match mfind n po ap target true with
    | none => false
    | some t => decide (po t 1 = 1))
theorem ct_X3_fits (l : Launch) (G : mp_G) (b : Nat) (M : mp_M) (a : Nat) (ad : Nat → Nat) (S : Nat → Nat → Int32) (r n : Nat) (po : Nat → Nat → Nat) (ap : Nat → Bool) (hS : MdAt G M a ad S) (hme : S 7 0 = nI r) (hV : Vw S r n po ap) (ft : Nat → Bool) (hF : FitV S ft) (kd tg sl : Int32) : Ct l yX3_fits cX3_fits 6 (some .boolean) 2 0 0 G b ([.ref a, .int kd, .int tg, .int sl] : List Value) M (pI (fun y M1 => y = bI (mfits n po ap ft kd tg sl) ∧ M1 = M)) := by
  have hr := hV.1
  have hn := hV.2.1
  refine Ct.ofV (by decide) (vc_ref (vc_int (vc_int (vc_int vc_nil)))) (Nat.le_of_ble_eq_true rfl) ?_
  intro p e s m below meth c C hnm
  refine V_L (L1 := [some (.ref a), some (.int kd), some (.int tg), some (.int sl), none, none]) rfl ?_
  obtain ⟨hma, hm0, hm1, hm2, hm3, hm4, hm5, hm8, hm9, hm10, hm11⟩ := id hS
  rw [hme] at hma
  refine V_aload_n C dX3_fits_0 rfl rfl ?_
  refine V_iload_n C dX3_fits_1 rfl rfl ?_
  refine V_iconst C 1 dX3_fits_2 (by decide) ?_
  refine V_ofIe (VR_V (As := [.int tg, .int 1]) (rest := []) C (ct_X3_find l G b M a ad S r n po ap hS hme hV tg true) hma rfl (lw_V q883 q885 qs13 q46 q886) rfl nd_X3_find rfl (by decide) (by decide) dX3_fits_3 rfl ⟨by decide, by decide⟩ (Nat.le_of_ble_eq_true rfl)) ?_
  rcases o3 : mfind n po ap tg true with _ | j3
  · refine V_top (y := -1) rfl ?_
    refine V_istore (L' := [some (.ref a), some (.int kd), some (.int tg), some (.int sl), some (.int (-1)), none]) C dX3_fits_6 (by decide) rfl ?_
    refine V_iload_n C dX3_fits_8 rfl rfl ?_
    refine V_iconst C 3 dX3_fits_9 (by decide) ?_
    refine V_icmp_ne C 86 dX3_fits_10 (by decide) (fun q10 => ?_) (fun q10 => ?_)
    · refine V_iload_n C dX3_fits_86 rfl rfl ?_
      refine V_iconst C 4 dX3_fits_87 (by decide) ?_
      refine V_icmp_ne C 123 dX3_fits_88 (by decide) (fun q88 => ?_) (fun q88 => ?_)
      · refine V_iload_n C dX3_fits_123 rfl rfl ?_
        refine V_if_eq C 143 dX3_fits_124 (by decide) (fun q124 => ?_) (fun q124 => ?_)
        · refine V_iconst C 1 dX3_fits_143 (by decide) ?_
          refine V_goto C 148 dX3_fits_144 (by decide) ?_
          exact V_zret C rfl dX3_fits_148 (by decide) (by decide) ⟨_, rfl, by first | (refine bt ?_; unfold mfits; simp [*]) | (refine bf ?_; unfold mfits; simp [*]), rfl⟩
        · refine V_iload C dX3_fits_127 rfl ?_
          refine V_if_lt C 147 dX3_fits_129 (by decide) (fun _ => ?_) (fun h => absurd (by decide) h)
          refine V_iconst C 0 dX3_fits_147 (by decide) ?_
          exact V_zret C rfl dX3_fits_148 (by decide) (by decide) ⟨_, rfl, by first | (refine bt ?_; unfold mfits; simp [*]) | (refine bf ?_; unfold mfits; simp [*]), rfl⟩
      · refine V_iload C dX3_fits_91 rfl ?_
        refine V_if_lt C 121 dX3_fits_93 (by decide) (fun _ => ?_) (fun h => absurd (by decide) h)
        refine V_iconst C 0 dX3_fits_121 (by decide) ?_
        exact V_zret C rfl dX3_fits_122 (by decide) (by decide) ⟨_, rfl, by first | (refine bt ?_; unfold mfits; simp [*]) | (refine bf ?_; unfold mfits; simp [*]), rfl⟩
    · refine V_iload C dX3_fits_13 rfl ?_
      refine V_if_lt C 29 dX3_fits_15 (by decide) (fun _ => ?_) (fun h => absurd (by decide) h)
      refine V_iconst C 0 dX3_fits_29 (by decide) ?_
      exact V_zret C rfl dX3_fits_30 (by decide) (by decide) ⟨_, rfl, by first | (refine bt ?_; unfold mfits; simp [*]) | (refine bf ?_; unfold mfits; simp [*]), rfl⟩
  · have hj3 := (lastI_some o3).1
    have hk3 := hV.2.2.2.2.1 j3 hj3
    refine V_top (y := nI j3) rfl ?_
    refine V_istore (L' := [some (.ref a), some (.int kd), some (.int tg), some (.int sl), some (.int (nI j3)), none]) C dX3_fits_6 (by decide) rfl ?_
    refine V_iload_n C dX3_fits_8 rfl rfl ?_
    refine V_iconst C 3 dX3_fits_9 (by decide) ?_
    refine V_icmp_ne C 86 dX3_fits_10 (by decide) (fun q10 => ?_) (fun q10 => ?_)
    · refine V_iload_n C dX3_fits_86 rfl rfl ?_
      refine V_iconst C 4 dX3_fits_87 (by decide) ?_
      refine V_icmp_ne C 123 dX3_fits_88 (by decide) (fun q88 => ?_) (fun q88 => ?_)
      · refine V_iload_n C dX3_fits_123 rfl rfl ?_
        refine V_if_eq C 143 dX3_fits_124 (by decide) (fun q124 => ?_) (fun q124 => ?_)
        · refine V_iconst C 1 dX3_fits_143 (by decide) ?_
          refine V_goto C 148 dX3_fits_144 (by decide) ?_
          exact V_zret C rfl dX3_fits_148 (by decide) (by decide) ⟨_, rfl, by first | (refine bt ?_; unfold mfits; simp [*]) | (refine bf ?_; unfold mfits; simp [*]), rfl⟩
        · refine V_iload C dX3_fits_127 rfl ?_
          refine V_if_lt C 147 dX3_fits_129 (by decide) (fun h => absurd h (nI_pos (n := j3) (by omega))) (fun _ => ?_)
          refine V_aload_n C dX3_fits_132 rfl rfl ?_
          refine V_iload C dX3_fits_133 rfl ?_
          refine V_iconst C 1 dX3_fits_135 (by decide) ?_
          refine V_ofIe (VR_V (As := [.int (nI j3), .int 1]) (rest := []) C (ct_X3_part l G b M a ad S r n po ap hS hme hV j3 1 (by omega) (by omega)) hma rfl (lw_V q875 q877 qs11 q46 q878) rfl nd_X3_part rfl (by decide) (by decide) dX3_fits_136 rfl ⟨by decide, by decide⟩ (Nat.le_of_ble_eq_true rfl)) ?_
          have hp136 := hV.2.2.2.2.2.1 j3 1
          refine V_iconst C 1 dX3_fits_139 (by decide) ?_
          refine V_nicmp_ne (x := po j3 1) (y := 1) C 147 dX3_fits_140 (by decide) (by omega) (by omega) (fun q140 => ?_) (fun q140 => ?_)
          · refine V_iconst C 0 dX3_fits_147 (by decide) ?_
            exact V_zret C rfl dX3_fits_148 (by decide) (by decide) ⟨_, rfl, by first | (refine bt ?_; unfold mfits; simp [*]) | (refine bf ?_; unfold mfits; simp [*]), rfl⟩
          · refine V_iconst C 1 dX3_fits_143 (by decide) ?_
            refine V_goto C 148 dX3_fits_144 (by decide) ?_
            exact V_zret C rfl dX3_fits_148 (by decide) (by decide) ⟨_, rfl, by first | (refine bt ?_; unfold mfits; simp [*]) | (refine bf ?_; unfold mfits; simp [*]), rfl⟩
      · refine V_iload C dX3_fits_91 rfl ?_
        refine V_if_lt C 121 dX3_fits_93 (by decide) (fun h => absurd h (nI_pos (n := j3) (by omega))) (fun _ => ?_)
        refine V_aload_n C dX3_fits_96 rfl rfl ?_
        refine V_iload C dX3_fits_97 rfl ?_
        refine V_iconst C 1 dX3_fits_99 (by decide) ?_
        refine V_ofIe (VR_V (As := [.int (nI j3), .int 1]) (rest := []) C (ct_X3_part l G b M a ad S r n po ap hS hme hV j3 1 (by omega) (by omega)) hma rfl (lw_V q875 q877 qs11 q46 q878) rfl nd_X3_part rfl (by decide) (by decide) dX3_fits_100 rfl ⟨by decide, by decide⟩ (Nat.le_of_ble_eq_true rfl)) ?_
        have hp100 := hV.2.2.2.2.2.1 j3 1
        refine V_iconst C 3 dX3_fits_103 (by decide) ?_
        refine V_nicmp_ne (x := po j3 1) (y := 3) C 121 dX3_fits_104 (by decide) (by omega) (by omega) (fun q104 => ?_) (fun q104 => ?_)
        · refine V_iconst C 0 dX3_fits_121 (by decide) ?_
          exact V_zret C rfl dX3_fits_122 (by decide) (by decide) ⟨_, rfl, by first | (refine bt ?_; unfold mfits; simp [*]) | (refine bf ?_; unfold mfits; simp [*]), rfl⟩
        · refine V_aload_n C dX3_fits_107 rfl rfl ?_
          refine V_get (C0 := RX3) (T := TX3) (N := 12) (ci := 3) C 8 in_X3 rfl hma (by decide) q829 (fun _ h9 => h9) rfl dX3_fits_108 ?_
          refine V_iload C dX3_fits_111 rfl ?_
          refine V_zald C hm8 (pk_in j3 16 (by omega)) dX3_fits_113 ?_
          refine V_top (y := (bI (ft j3))) (by rw [nI_clamp (n := j3) (by omega)]; exact (hF j3 (by omega))) ?_
          refine V_ifb_eq C 121 dX3_fits_114 (by decide) (fun q114 => ?_) (fun q114 => ?_)
          · refine V_iconst C 0 dX3_fits_121 (by decide) ?_
            exact V_zret C rfl dX3_fits_122 (by decide) (by decide) ⟨_, rfl, by first | (refine bt ?_; unfold mfits; simp [*]) | (refine bf ?_; unfold mfits; simp [*]), rfl⟩
          · refine V_iconst C 1 dX3_fits_117 (by decide) ?_
            refine V_goto C 122 dX3_fits_118 (by decide) ?_
            exact V_zret C rfl dX3_fits_122 (by decide) (by decide) ⟨_, rfl, by first | (refine bt ?_; unfold mfits; simp [*]) | (refine bf ?_; unfold mfits; simp [*]), rfl⟩
    · refine V_iload C dX3_fits_13 rfl ?_
      refine V_if_lt C 29 dX3_fits_15 (by decide) (fun h => absurd h (nI_pos (n := j3) (by omega))) (fun _ => ?_)
      refine V_aload_n C dX3_fits_18 rfl rfl ?_
      refine V_iload C dX3_fits_19 rfl ?_
      refine V_iconst C 1 dX3_fits_21 (by decide) ?_
      refine V_ofIe (VR_V (As := [.int (nI j3), .int 1]) (rest := []) C (ct_X3_part l G b M a ad S r n po ap hS hme hV j3 1 (by omega) (by omega)) hma rfl (lw_V q875 q877 qs11 q46 q878) rfl nd_X3_part rfl (by decide) (by decide) dX3_fits_22 rfl ⟨by decide, by decide⟩ (Nat.le_of_ble_eq_true rfl)) ?_
      have hp22 := hV.2.2.2.2.2.1 j3 1
      refine V_iconst C 2 dX3_fits_25 (by decide) ?_
      refine V_nicmp_eq (x := po j3 1) (y := 2) C 31 dX3_fits_26 (by decide) (by omega) (by omega) (fun q26 => ?_) (fun q26 => ?_)
      · refine V_aload_n C dX3_fits_31 rfl rfl ?_
        refine V_iload_n C dX3_fits_32 rfl rfl ?_
        refine V_iconst C 1 dX3_fits_33 (by decide) ?_
        refine V_ofIe (VR_V (As := [.int sl, .int 1]) (rest := []) C (ct_X3_find l G b M a ad S r n po ap hS hme hV sl true) hma rfl (lw_V q883 q885 qs13 q46 q886) rfl nd_X3_find rfl (by decide) (by decide) dX3_fits_34 rfl ⟨by decide, by decide⟩ (Nat.le_of_ble_eq_true rfl)) ?_
        rcases o34 : mfind n po ap sl true with _ | j34
        · refine V_top (y := -1) rfl ?_
          refine V_istore (L' := [some (.ref a), some (.int kd), some (.int tg), some (.int sl), some (.int (nI j3)), some (.int (-1))]) C dX3_fits_37 (by decide) rfl ?_
          refine V_iload_n C dX3_fits_39 rfl rfl ?_
          refine V_if_eq C 80 dX3_fits_40 (by decide) (fun q40 => ?_) (fun q40 => ?_)
          · refine V_iconst C 1 dX3_fits_80 (by decide) ?_
            refine V_goto C 85 dX3_fits_81 (by decide) ?_
            exact V_zret C rfl dX3_fits_85 (by decide) (by decide) ⟨_, rfl, by first | (refine bt ?_; unfold mfits; simp [*]) | (refine bf ?_; unfold mfits; simp [*]), rfl⟩
          · refine V_iload C dX3_fits_43 rfl ?_
            refine V_if_lt C 84 dX3_fits_45 (by decide) (fun _ => ?_) (fun h => absurd (by decide) h)
            refine V_iconst C 0 dX3_fits_84 (by decide) ?_
            exact V_zret C rfl dX3_fits_85 (by decide) (by decide) ⟨_, rfl, by first | (refine bt ?_; unfold mfits; simp [*]) | (refine bf ?_; unfold mfits; simp [*]), rfl⟩
        · have hj34 := (lastI_some o34).1
          have hk34 := hV.2.2.2.2.1 j34 hj34
          refine V_top (y := nI j34) rfl ?_
          refine V_istore (L' := [some (.ref a), some (.int kd), some (.int tg), some (.int sl), some (.int (nI j3)), some (.int (nI j34))]) C dX3_fits_37 (by decide) rfl ?_
          refine V_iload_n C dX3_fits_39 rfl rfl ?_
          refine V_if_eq C 80 dX3_fits_40 (by decide) (fun q40 => ?_) (fun q40 => ?_)
          · refine V_iconst C 1 dX3_fits_80 (by decide) ?_
            refine V_goto C 85 dX3_fits_81 (by decide) ?_
            exact V_zret C rfl dX3_fits_85 (by decide) (by decide) ⟨_, rfl, by first | (refine bt ?_; unfold mfits; simp [*]) | (refine bf ?_; unfold mfits; simp [*]), rfl⟩
          · refine V_iload C dX3_fits_43 rfl ?_
            refine V_if_lt C 84 dX3_fits_45 (by decide) (fun h => absurd h (nI_pos (n := j34) (by omega))) (fun _ => ?_)
            refine V_aload_n C dX3_fits_48 rfl rfl ?_
            refine V_iload C dX3_fits_49 rfl ?_
            refine V_iconst C 1 dX3_fits_51 (by decide) ?_
            refine V_ofIe (VR_V (As := [.int (nI j34), .int 1]) (rest := []) C (ct_X3_part l G b M a ad S r n po ap hS hme hV j34 1 (by omega) (by omega)) hma rfl (lw_V q875 q877 qs11 q46 q878) rfl nd_X3_part rfl (by decide) (by decide) dX3_fits_52 rfl ⟨by decide, by decide⟩ (Nat.le_of_ble_eq_true rfl)) ?_
            have hp52 := hV.2.2.2.2.2.1 j34 1
            refine V_iconst C 3 dX3_fits_55 (by decide) ?_
            refine V_nicmp_ne (x := po j34 1) (y := 3) C 84 dX3_fits_56 (by decide) (by omega) (by omega) (fun q56 => ?_) (fun q56 => ?_)
            · refine V_iconst C 0 dX3_fits_84 (by decide) ?_
              exact V_zret C rfl dX3_fits_85 (by decide) (by decide) ⟨_, rfl, by first | (refine bt ?_; unfold mfits; simp [*]) | (refine bf ?_; unfold mfits; simp [*]), rfl⟩
            · refine V_aload_n C dX3_fits_59 rfl rfl ?_
              refine V_get (C0 := RX3) (T := TX3) (N := 12) (ci := 3) C 8 in_X3 rfl hma (by decide) q829 (fun _ h9 => h9) rfl dX3_fits_60 ?_
              refine V_iload C dX3_fits_63 rfl ?_
              refine V_zald C hm8 (pk_in j34 16 (by omega)) dX3_fits_65 ?_
              refine V_top (y := (bI (ft j34))) (by rw [nI_clamp (n := j34) (by omega)]; exact (hF j34 (by omega))) ?_
              refine V_ifb_eq C 84 dX3_fits_66 (by decide) (fun q66 => ?_) (fun q66 => ?_)
              · refine V_iconst C 0 dX3_fits_84 (by decide) ?_
                exact V_zret C rfl dX3_fits_85 (by decide) (by decide) ⟨_, rfl, by first | (refine bt ?_; unfold mfits; simp [*]) | (refine bf ?_; unfold mfits; simp [*]), rfl⟩
              · refine V_aload_n C dX3_fits_69 rfl rfl ?_
                refine V_iload C dX3_fits_70 rfl ?_
                refine V_iconst C 2 dX3_fits_72 (by decide) ?_
                refine V_ofIe (VR_V (As := [.int (nI j34), .int 2]) (rest := []) C (ct_X3_part l G b M a ad S r n po ap hS hme hV j34 2 (by omega) (by omega)) hma rfl (lw_V q875 q877 qs11 q46 q878) rfl nd_X3_part rfl (by decide) (by decide) dX3_fits_73 rfl ⟨by decide, by decide⟩ (Nat.le_of_ble_eq_true rfl)) ?_
                have hp73 := hV.2.2.2.2.2.1 j34 2
                refine V_iload_n C dX3_fits_76 rfl rfl ?_
                refine V_icmp_ne C 84 dX3_fits_77 (by decide) (fun q77 => ?_) (fun q77 => ?_)
                · refine V_iconst C 0 dX3_fits_84 (by decide) ?_
                  exact V_zret C rfl dX3_fits_85 (by decide) (by decide) ⟨_, rfl, by first | (refine bt ?_; unfold mfits; simp [*]) | (refine bf ?_; unfold mfits; simp [*]), rfl⟩
                · refine V_iconst C 1 dX3_fits_80 (by decide) ?_
                  refine V_goto C 85 dX3_fits_81 (by decide) ?_
                  exact V_zret C rfl dX3_fits_85 (by decide) (by decide) ⟨_, rfl, by first | (refine bt ?_; unfold mfits; simp [*]) | (refine bf ?_; unfold mfits; simp [*]), rfl⟩
      · refine V_iconst C 0 dX3_fits_29 (by decide) ?_
        exact V_zret C rfl dX3_fits_30 (by decide) (by decide) ⟨_, rfl, by first | (refine bt ?_; unfold mfits; simp [*]) | (refine bf ?_; unfold mfits; simp [*]), rfl⟩
def mhead (n : Nat) (po : Nat → Nat → Nat) (ap : Nat → Bool) (j : Nat) : Bool := ap j && allI (fun k => !(ap k && hasP po k (nI (po j 0)))) n
theorem ct_X3_isHead (l : Launch) (G : mp_G) (b : Nat) (M : mp_M) (a : Nat) (ad : Nat → Nat) (S : Nat → Nat → Int32) (r n : Nat) (po : Nat → Nat → Nat) (ap : Nat → Bool) (hS : MdAt G M a ad S) (hme : S 7 0 = nI r) (hV : Vw S r n po ap) (j : Nat) (hj : j < n) : Ct l yX3_isHead cX3_isHead 5 (some .boolean) 2 0 0 G b ([.ref a, .int (nI j)] : List Value) M (pI (fun y M1 => y = bI (mhead n po ap j) ∧ M1 = M)) := by
  have hr := hV.1
  have hn := hV.2.1
  refine Ct.ofV (by decide) (vc_ref (vc_int vc_nil)) (Nat.le_of_ble_eq_true rfl) ?_
  intro p e s m below meth c C hnm
  refine V_L (L1 := [some (.ref a), some (.int (nI j)), none, none, none]) rfl ?_
  obtain ⟨hma, hm0, hm1, hm2, hm3, hm4, hm5, hm8, hm9, hm10, hm11⟩ := id hS
  rw [hme] at hma
  have loop : ∀ k, k ≤ n → V p l e (rmOf 2 0 0) s m ([.ref a, .int (nI j)] : List Value).toArray below meth c (MQ below (Qp G b (pI (fun y M1 => y = bI (mhead n po ap j) ∧ M1 = M))) ([.ref a, .int (nI j)] : List Value).toArray s 0 0 (fun q => b ≤ q)) G b 5 0 0 16 [some (.ref a), some (.int (nI j)), some (.int (bI (ap j && allI (fun k => !(ap k && hasP po k (nI (po j 0)))) k))), some (.int (nI (po j 0))), some (.int (nI k))] [] M := by
    refine up_ind n ?_
    intro k hk ih
    refine V_iload C dX3_isHead_16 rfl ?_
    refine V_aload_n C dX3_isHead_18 rfl rfl ?_
    refine V_get (C0 := RX3) (T := TX3) (N := 12) (ci := 3) C 1 in_X3 rfl hma (by decide) q822 (fun _ h9 => h9) rfl dX3_isHead_19 ?_
    refine V_aload_n C dX3_isHead_22 rfl rfl ?_
    refine V_get (C0 := RX3) (T := TX3) (N := 12) (ci := 3) C 7 in_X3 rfl hma (by decide) q828 (fun _ h9 => h9) rfl dX3_isHead_23 ?_
    refine V_iald C hm1 (pk_in r 3 (by omega)) dX3_isHead_26 ?_
    refine V_top (y := (nI n)) (by rw [nI_clamp (n := r) (by omega)]; exact hV.2.2.1) ?_
    refine V_nicmp_ge (x := k) (y := n) C 65 dX3_isHead_27 (by decide) (by omega) (by omega) (fun q27 => ?_) (fun q27 => ?_)
    · refine V_iload_n C dX3_isHead_65 rfl rfl ?_
      exact V_zret C (bI_nar _) dX3_isHead_66 (by decide) (by decide) ⟨_, rfl, by rw [show k = n by omega]; rfl, rfl⟩
    · refine V_iload_n C dX3_isHead_30 rfl rfl ?_
      refine V_ifb_eq C 57 dX3_isHead_31 (by decide) (fun q31 => ?_) (fun q31 => ?_)
      · refine V_iconst C 0 dX3_isHead_57 (by decide) ?_
        refine V_istore_n (L' := [some (.ref a), some (.int (nI j)), some (.int 0), some (.int (nI (po j 0))), some (.int (nI k))]) C dX3_isHead_58 rfl (by decide) rfl ?_
        refine V_iinc (v := (nI (k + 1))) (L' := [some (.ref a), some (.int (nI j)), some (.int 0), some (.int (nI (po j 0))), some (.int (nI (k + 1)))]) C dX3_isHead_59 rfl (nI_1 _) (by decide) rfl ?_
        refine V_goto C 16 dX3_isHead_62 (by decide) ?_
        refine V_L ?_ (ih (by omega))
        rw [allI_s]
        first | (rw [show (ap j && (allI (fun k => !(ap k && hasP po k (nI (po j 0)))) k && !(ap k && hasP po k (nI (po j 0))))) = true from by simp_all]; rfl) | (rw [show (ap j && (allI (fun k => !(ap k && hasP po k (nI (po j 0)))) k && !(ap k && hasP po k (nI (po j 0))))) = false from by simp_all]; rfl)
      · refine V_aload_n C dX3_isHead_34 rfl rfl ?_
        refine V_iload C dX3_isHead_35 rfl ?_
        refine V_ofIe (VR_V (As := [.int (nI k)]) (rest := []) C (ct_X3_done l G b M a ad S r n po ap hS hme hV k (by omega)) hma rfl (lw_V q871 q873 qs10 q46 q874) rfl nd_X3_done rfl (by decide) (by decide) dX3_isHead_37 rfl ⟨by decide, by decide⟩ (Nat.le_of_ble_eq_true rfl)) ?_
        refine V_ifb_eq C 53 dX3_isHead_40 (by decide) (fun q40 => ?_) (fun q40 => ?_)
        · refine V_iconst C 1 dX3_isHead_53 (by decide) ?_
          refine V_goto C 58 dX3_isHead_54 (by decide) ?_
          refine V_istore_n (L' := [some (.ref a), some (.int (nI j)), some (.int 1), some (.int (nI (po j 0))), some (.int (nI k))]) C dX3_isHead_58 rfl (by decide) rfl ?_
          refine V_iinc (v := (nI (k + 1))) (L' := [some (.ref a), some (.int (nI j)), some (.int 1), some (.int (nI (po j 0))), some (.int (nI (k + 1)))]) C dX3_isHead_59 rfl (nI_1 _) (by decide) rfl ?_
          refine V_goto C 16 dX3_isHead_62 (by decide) ?_
          refine V_L ?_ (ih (by omega))
          rw [allI_s]
          first | (rw [show (ap j && (allI (fun k => !(ap k && hasP po k (nI (po j 0)))) k && !(ap k && hasP po k (nI (po j 0))))) = true from by simp_all]; rfl) | (rw [show (ap j && (allI (fun k => !(ap k && hasP po k (nI (po j 0)))) k && !(ap k && hasP po k (nI (po j 0))))) = false from by simp_all]; rfl)
        · refine V_aload_n C dX3_isHead_43 rfl rfl ?_
          refine V_iload C dX3_isHead_44 rfl ?_
          refine V_iload_n C dX3_isHead_46 rfl rfl ?_
          refine V_ofIe (VR_V (As := [.int (nI k), .int (nI (po j 0))]) (rest := []) C (ct_X3_has l G b M a ad S r n po ap hS hme hV k (nI (po j 0)) (by omega)) hma rfl (lw_V q891 q893 qs15 q46 q894) rfl nd_X3_has rfl (by decide) (by decide) dX3_isHead_47 rfl ⟨by decide, by decide⟩ (Nat.le_of_ble_eq_true rfl)) ?_
          refine V_ifb_ne C 57 dX3_isHead_50 (by decide) (fun q50 => ?_) (fun q50 => ?_)
          · refine V_iconst C 0 dX3_isHead_57 (by decide) ?_
            refine V_istore_n (L' := [some (.ref a), some (.int (nI j)), some (.int 0), some (.int (nI (po j 0))), some (.int (nI k))]) C dX3_isHead_58 rfl (by decide) rfl ?_
            refine V_iinc (v := (nI (k + 1))) (L' := [some (.ref a), some (.int (nI j)), some (.int 0), some (.int (nI (po j 0))), some (.int (nI (k + 1)))]) C dX3_isHead_59 rfl (nI_1 _) (by decide) rfl ?_
            refine V_goto C 16 dX3_isHead_62 (by decide) ?_
            refine V_L ?_ (ih (by omega))
            rw [allI_s]
            first | (rw [show (ap j && (allI (fun k => !(ap k && hasP po k (nI (po j 0)))) k && !(ap k && hasP po k (nI (po j 0))))) = true from by simp_all]; rfl) | (rw [show (ap j && (allI (fun k => !(ap k && hasP po k (nI (po j 0)))) k && !(ap k && hasP po k (nI (po j 0))))) = false from by simp_all]; rfl)
          · refine V_iconst C 1 dX3_isHead_53 (by decide) ?_
            refine V_goto C 58 dX3_isHead_54 (by decide) ?_
            refine V_istore_n (L' := [some (.ref a), some (.int (nI j)), some (.int 1), some (.int (nI (po j 0))), some (.int (nI k))]) C dX3_isHead_58 rfl (by decide) rfl ?_
            refine V_iinc (v := (nI (k + 1))) (L' := [some (.ref a), some (.int (nI j)), some (.int 1), some (.int (nI (po j 0))), some (.int (nI (k + 1)))]) C dX3_isHead_59 rfl (nI_1 _) (by decide) rfl ?_
            refine V_goto C 16 dX3_isHead_62 (by decide) ?_
            refine V_L ?_ (ih (by omega))
            rw [allI_s]
            first | (rw [show (ap j && (allI (fun k => !(ap k && hasP po k (nI (po j 0)))) k && !(ap k && hasP po k (nI (po j 0))))) = true from by simp_all]; rfl) | (rw [show (ap j && (allI (fun k => !(ap k && hasP po k (nI (po j 0)))) k && !(ap k && hasP po k (nI (po j 0))))) = false from by simp_all]; rfl)
  refine V_aload_n C dX3_isHead_0 rfl rfl ?_
  refine V_iload_n C dX3_isHead_1 rfl rfl ?_
  refine V_ofIe (VR_V (As := [.int (nI j)]) (rest := []) C (ct_X3_done l G b M a ad S r n po ap hS hme hV j (by omega)) hma rfl (lw_V q871 q873 qs10 q46 q874) rfl nd_X3_done rfl (by decide) (by decide) dX3_isHead_2 rfl ⟨by decide, by decide⟩ (Nat.le_of_ble_eq_true rfl)) ?_
  refine V_istore_n (L' := [some (.ref a), some (.int (nI j)), some (.int (bI (ap j))), none, none]) C dX3_isHead_5 rfl (by decide) rfl ?_
  refine V_aload_n C dX3_isHead_6 rfl rfl ?_
  refine V_iload_n C dX3_isHead_7 rfl rfl ?_
  refine V_iconst C 0 dX3_isHead_8 (by decide) ?_
  refine V_ofIe (VR_V (As := [.int (nI j), .int 0]) (rest := []) C (ct_X3_part l G b M a ad S r n po ap hS hme hV j 0 (by omega) (by omega)) hma rfl (lw_V q875 q877 qs11 q46 q878) rfl nd_X3_part rfl (by decide) (by decide) dX3_isHead_9 rfl ⟨by decide, by decide⟩ (Nat.le_of_ble_eq_true rfl)) ?_
  have hp9 := hV.2.2.2.2.2.1 j 0
  refine V_istore_n (L' := [some (.ref a), some (.int (nI j)), some (.int (bI (ap j))), some (.int (nI (po j 0))), none]) C dX3_isHead_12 rfl (by decide) rfl ?_
  refine V_iconst C 0 dX3_isHead_13 (by decide) ?_
  refine V_istore (L' := [some (.ref a), some (.int (nI j)), some (.int (bI (ap j))), some (.int (nI (po j 0))), some (.int 0)]) C dX3_isHead_14 (by decide) rfl ?_
  refine V_L ?_ (loop 0 (Nat.zero_le _))
  simp [allI, nI_0]
def mready (n : Nat) (po : Nat → Nat → Nat) (ap : Nat → Bool) (j : Nat) : Bool := allI (fun k => (mfind n po ap (nI (po j (6 + k))) true).isSome) (po j 5)
theorem ct_X3_ready (l : Launch) (G : mp_G) (b : Nat) (M : mp_M) (a : Nat) (ad : Nat → Nat) (S : Nat → Nat → Int32) (r n : Nat) (po : Nat → Nat → Nat) (ap : Nat → Bool) (hS : MdAt G M a ad S) (hme : S 7 0 = nI r) (hV : Vw S r n po ap) (j : Nat) (hj : j < n) : Ct l yX3_ready cX3_ready 5 (some .boolean) 2 0 0 G b ([.ref a, .int (nI j)] : List Value) M (pI (fun y M1 => y = bI (mready n po ap j) ∧ M1 = M)) := by
  have hr := hV.1
  have hn := hV.2.1
  have h6 := hV.2.2.2.2.1 j hj
  refine Ct.ofV (by decide) (vc_ref (vc_int vc_nil)) (Nat.le_of_ble_eq_true rfl) ?_
  intro p e s m below meth c C hnm
  refine V_L (L1 := [some (.ref a), some (.int (nI j)), none, none, none]) rfl ?_
  obtain ⟨hma, hm0, hm1, hm2, hm3, hm4, hm5, hm8, hm9, hm10, hm11⟩ := id hS
  rw [hme] at hma
  refine V_iconst C 1 dX3_ready_0 (by decide) ?_
  refine V_istore_n (L' := [some (.ref a), some (.int (nI j)), some (.int 1), none, none]) C dX3_ready_1 rfl (by decide) rfl ?_
  refine V_iconst C 0 dX3_ready_2 (by decide) ?_
  refine V_istore_n (L' := [some (.ref a), some (.int (nI j)), some (.int 1), some (.int 0), none]) C dX3_ready_3 rfl (by decide) rfl ?_
  have loop : ∀ k, k ≤ po j 5 → V p l e (rmOf 2 0 0) s m ([.ref a, .int (nI j)] : List Value).toArray below meth c (MQ below (Qp G b (pI (fun y M1 => y = bI (mready n po ap j) ∧ M1 = M))) ([.ref a, .int (nI j)] : List Value).toArray s 0 0 (fun q => b ≤ q)) G b 5 0 0 4 [some (.ref a), some (.int (nI j)), some (.int (bI (allI (fun k => (mfind n po ap (nI (po j (6 + k))) true).isSome) k))), some (.int (nI k)), none] [] M := by
    refine up_ind (po j 5) ?_
    intro k hk ih
    refine V_iload_n C dX3_ready_4 rfl rfl ?_
    refine V_aload_n C dX3_ready_5 rfl rfl ?_
    refine V_iload_n C dX3_ready_6 rfl rfl ?_
    refine V_iconst C 5 dX3_ready_7 (by decide) ?_
    refine V_ofIe (VR_V (As := [.int (nI j), .int 5]) (rest := [.int (nI k)]) C (ct_X3_part l G b M a ad S r n po ap hS hme hV j 5 (by omega) (by omega)) hma rfl (lw_V q875 q877 qs11 q46 q878) rfl nd_X3_part rfl (by decide) (by decide) dX3_ready_8 rfl ⟨by decide, by decide⟩ (Nat.le_of_ble_eq_true rfl)) ?_
    have hp8 := hV.2.2.2.2.2.1 j 5
    refine V_nicmp_ge (x := k) (y := po j 5) C 51 dX3_ready_11 (by decide) (by omega) (by omega) (fun q11 => ?_) (fun q11 => ?_)
    · refine V_iload_n C dX3_ready_51 rfl rfl ?_
      exact V_zret C (bI_nar _) dX3_ready_52 (by decide) (by decide) ⟨_, rfl, by rw [show k = po j 5 by omega]; rfl, rfl⟩
    · refine V_aload_n C dX3_ready_14 rfl rfl ?_
      refine V_aload_n C dX3_ready_15 rfl rfl ?_
      refine V_iload_n C dX3_ready_16 rfl rfl ?_
      refine V_bipush C 6 dX3_ready_17 (by decide) ?_
      refine V_iload_n C dX3_ready_19 rfl rfl ?_
      refine V_iadd C dX3_ready_20 ?_
      refine V_top (y := (nI (6 + k))) (nI_add 6 k) ?_
      refine V_ofIe (VR_V (As := [.int (nI j), .int (nI (6 + k))]) (rest := [.ref a]) C (ct_X3_part l G b M a ad S r n po ap hS hme hV j (6 + k) (by omega) (by omega)) hma rfl (lw_V q875 q877 qs11 q46 q878) rfl nd_X3_part rfl (by decide) (by decide) dX3_ready_21 rfl ⟨by decide, by decide⟩ (Nat.le_of_ble_eq_true rfl)) ?_
      have hp21 := hV.2.2.2.2.2.1 j (6 + k)
      refine V_iconst C 1 dX3_ready_24 (by decide) ?_
      refine V_ofIe (VR_V (As := [.int (nI (po j (6 + k))), .int 1]) (rest := []) C (ct_X3_find l G b M a ad S r n po ap hS hme hV (nI (po j (6 + k))) true) hma rfl (lw_V q883 q885 qs13 q46 q886) rfl nd_X3_find rfl (by decide) (by decide) dX3_ready_25 rfl ⟨by decide, by decide⟩ (Nat.le_of_ble_eq_true rfl)) ?_
      rcases o25 : mfind n po ap (nI (po j (6 + k))) true with _ | j25
      · refine V_top (y := -1) rfl ?_
        refine V_istore (L' := [some (.ref a), some (.int (nI j)), some (.int (bI (allI (fun k => (mfind n po ap (nI (po j (6 + k))) true).isSome) k))), some (.int (nI k)), some (.int (-1))]) C dX3_ready_28 (by decide) rfl ?_
        refine V_iload_n C dX3_ready_30 rfl rfl ?_
        refine V_ifb_eq C 43 dX3_ready_31 (by decide) (fun q31 => ?_) (fun q31 => ?_)
        · refine V_iconst C 0 dX3_ready_43 (by decide) ?_
          refine V_istore_n (L' := [some (.ref a), some (.int (nI j)), some (.int 0), some (.int (nI k)), some (.int (-1))]) C dX3_ready_44 rfl (by decide) rfl ?_
          refine V_iinc (v := (nI (k + 1))) (L' := [some (.ref a), some (.int (nI j)), some (.int 0), some (.int (nI (k + 1))), some (.int (-1))]) C dX3_ready_45 rfl (nI_1 _) (by decide) rfl ?_
          refine V_goto C 4 dX3_ready_48 (by decide) ?_
          refine V_sub ?_ (ih (by omega))
          repeat' (first | exact ls_e | refine ls_n ?_ | refine ls_s ?_ | refine ls_i ?_ ?_ | refine ls_v ?_ ?_)
          rw [allI_s]
          first | (rw [show (allI (fun k => (mfind n po ap (nI (po j (6 + k))) true).isSome) k && (mfind n po ap (nI (po j (6 + k))) true).isSome) = true from by simp [*]]; rfl) | (rw [show (allI (fun k => (mfind n po ap (nI (po j (6 + k))) true).isSome) k && (mfind n po ap (nI (po j (6 + k))) true).isSome) = false from by simp [*]]; rfl)
        · refine V_iload C dX3_ready_34 rfl ?_
          refine V_if_lt C 43 dX3_ready_36 (by decide) (fun _ => ?_) (fun h => absurd (by decide) h)
          refine V_iconst C 0 dX3_ready_43 (by decide) ?_
          refine V_istore_n (L' := [some (.ref a), some (.int (nI j)), some (.int 0), some (.int (nI k)), some (.int (-1))]) C dX3_ready_44 rfl (by decide) rfl ?_
          refine V_iinc (v := (nI (k + 1))) (L' := [some (.ref a), some (.int (nI j)), some (.int 0), some (.int (nI (k + 1))), some (.int (-1))]) C dX3_ready_45 rfl (nI_1 _) (by decide) rfl ?_
          refine V_goto C 4 dX3_ready_48 (by decide) ?_
          refine V_sub ?_ (ih (by omega))
          repeat' (first | exact ls_e | refine ls_n ?_ | refine ls_s ?_ | refine ls_i ?_ ?_ | refine ls_v ?_ ?_)
          rw [allI_s]
          first | (rw [show (allI (fun k => (mfind n po ap (nI (po j (6 + k))) true).isSome) k && (mfind n po ap (nI (po j (6 + k))) true).isSome) = true from by simp [*]]; rfl) | (rw [show (allI (fun k => (mfind n po ap (nI (po j (6 + k))) true).isSome) k && (mfind n po ap (nI (po j (6 + k))) true).isSome) = false from by simp [*]]; rfl)
      · have hj25 := (lastI_some o25).1
        have hk25 := hV.2.2.2.2.1 j25 hj25
        refine V_top (y := nI j25) rfl ?_
        refine V_istore (L' := [some (.ref a), some (.int (nI j)), some (.int (bI (allI (fun k => (mfind n po ap (nI (po j (6 + k))) true).isSome) k))), some (.int (nI k)), some (.int (nI j25))]) C dX3_ready_28 (by decide) rfl ?_
        refine V_iload_n C dX3_ready_30 rfl rfl ?_
        refine V_ifb_eq C 43 dX3_ready_31 (by decide) (fun q31 => ?_) (fun q31 => ?_)
        · refine V_iconst C 0 dX3_ready_43 (by decide) ?_
          refine V_istore_n (L' := [some (.ref a), some (.int (nI j)), some (.int 0), some (.int (nI k)), some (.int (nI j25))]) C dX3_ready_44 rfl (by decide) rfl ?_
          refine V_iinc (v := (nI (k + 1))) (L' := [some (.ref a), some (.int (nI j)), some (.int 0), some (.int (nI (k + 1))), some (.int (nI j25))]) C dX3_ready_45 rfl (nI_1 _) (by decide) rfl ?_
          refine V_goto C 4 dX3_ready_48 (by decide) ?_
          refine V_sub ?_ (ih (by omega))
          repeat' (first | exact ls_e | refine ls_n ?_ | refine ls_s ?_ | refine ls_i ?_ ?_ | refine ls_v ?_ ?_)
          rw [allI_s]
          first | (rw [show (allI (fun k => (mfind n po ap (nI (po j (6 + k))) true).isSome) k && (mfind n po ap (nI (po j (6 + k))) true).isSome) = true from by simp [*]]; rfl) | (rw [show (allI (fun k => (mfind n po ap (nI (po j (6 + k))) true).isSome) k && (mfind n po ap (nI (po j (6 + k))) true).isSome) = false from by simp [*]]; rfl)
        · refine V_iload C dX3_ready_34 rfl ?_
          refine V_if_lt C 43 dX3_ready_36 (by decide) (fun h => absurd h (nI_pos (n := j25) (by omega))) (fun _ => ?_)
          refine V_iconst C 1 dX3_ready_39 (by decide) ?_
          refine V_goto C 44 dX3_ready_40 (by decide) ?_
          refine V_istore_n (L' := [some (.ref a), some (.int (nI j)), some (.int 1), some (.int (nI k)), some (.int (nI j25))]) C dX3_ready_44 rfl (by decide) rfl ?_
          refine V_iinc (v := (nI (k + 1))) (L' := [some (.ref a), some (.int (nI j)), some (.int 1), some (.int (nI (k + 1))), some (.int (nI j25))]) C dX3_ready_45 rfl (nI_1 _) (by decide) rfl ?_
          refine V_goto C 4 dX3_ready_48 (by decide) ?_
          refine V_sub ?_ (ih (by omega))
          repeat' (first | exact ls_e | refine ls_n ?_ | refine ls_s ?_ | refine ls_i ?_ ?_ | refine ls_v ?_ ?_)
          rw [allI_s]
          first | (rw [show (allI (fun k => (mfind n po ap (nI (po j (6 + k))) true).isSome) k && (mfind n po ap (nI (po j (6 + k))) true).isSome) = true from by simp [*]]; rfl) | (rw [show (allI (fun k => (mfind n po ap (nI (po j (6 + k))) true).isSome) k && (mfind n po ap (nI (po j (6 + k))) true).isSome) = false from by simp [*]]; rfl)
  refine V_sub ?_ (loop 0 (Nat.zero_le _))
  repeat' (first | exact ls_e | refine ls_n ?_ | refine ls_s ?_ | refine ls_i ?_ ?_ | refine ls_v ?_ ?_)
  all_goals rfl
abbrev mkind (n : Nat) (po : Nat → Nat → Nat) (ap : Nat → Bool) (x : Int32) (kd : Nat) : Bool := match mfind n po ap x true with | none => false | some j => decide (po j 1 = kd)
theorem ct_X3_isKind (l : Launch) (G : mp_G) (b : Nat) (M : mp_M) (a : Nat) (ad : Nat → Nat) (S : Nat → Nat → Int32) (r n : Nat) (po : Nat → Nat → Nat) (ap : Nat → Bool) (hS : MdAt G M a ad S) (hme : S 7 0 = nI r) (hV : Vw S r n po ap) (x : Int32) (kd : Nat) (hkd : kd < 256) : Ct l yX3_isKind cX3_isKind 4 (some .boolean) 2 0 0 G b ([.ref a, .int x, .int (nI kd)] : List Value) M (pI (fun y M1 => y = bI (mkind n po ap x kd) ∧ M1 = M)) := by
  have hr := hV.1
  have hn := hV.2.1
  refine Ct.ofV (by decide) (vc_ref (vc_int (vc_int vc_nil))) (Nat.le_of_ble_eq_true rfl) ?_
  intro p e s m below meth c C hnm
  refine V_L (L1 := [some (.ref a), some (.int x), some (.int (nI kd)), none]) rfl ?_
  obtain ⟨hma, hm0, hm1, hm2, hm3, hm4, hm5, hm8, hm9, hm10, hm11⟩ := id hS
  rw [hme] at hma
  refine V_aload_n C dX3_isKind_0 rfl rfl ?_
  refine V_iload_n C dX3_isKind_1 rfl rfl ?_
  refine V_iconst C 1 dX3_isKind_2 (by decide) ?_
  refine V_ofIe (VR_V (As := [.int x, .int 1]) (rest := []) C (ct_X3_find l G b M a ad S r n po ap hS hme hV x true) hma rfl (lw_V q883 q885 qs13 q46 q886) rfl nd_X3_find rfl (by decide) (by decide) dX3_isKind_3 rfl ⟨by decide, by decide⟩ (Nat.le_of_ble_eq_true rfl)) ?_
  rcases o3 : mfind n po ap x true with _ | j3
  · refine V_top (y := -1) rfl ?_
    refine V_istore_n (L' := [some (.ref a), some (.int x), some (.int (nI kd)), some (.int (-1))]) C dX3_isKind_6 rfl (by decide) rfl ?_
    refine V_iload_n C dX3_isKind_7 rfl rfl ?_
    refine V_if_lt C 25 dX3_isKind_8 (by decide) (fun _ => ?_) (fun h => absurd (by decide) h)
    refine V_iconst C 0 dX3_isKind_25 (by decide) ?_
    exact V_zret C rfl dX3_isKind_26 (by decide) (by decide) ⟨_, rfl, by first | (refine bt ?_; unfold mkind; simp [*]) | (refine bf ?_; unfold mkind; simp [*]), rfl⟩
  · have hj3 := (lastI_some o3).1
    have hk3 := hV.2.2.2.2.1 j3 hj3
    refine V_top (y := nI j3) rfl ?_
    refine V_istore_n (L' := [some (.ref a), some (.int x), some (.int (nI kd)), some (.int (nI j3))]) C dX3_isKind_6 rfl (by decide) rfl ?_
    refine V_iload_n C dX3_isKind_7 rfl rfl ?_
    refine V_if_lt C 25 dX3_isKind_8 (by decide) (fun h => absurd h (nI_pos (n := j3) (by omega))) (fun _ => ?_)
    refine V_aload_n C dX3_isKind_11 rfl rfl ?_
    refine V_iload_n C dX3_isKind_12 rfl rfl ?_
    refine V_iconst C 1 dX3_isKind_13 (by decide) ?_
    refine V_ofIe (VR_V (As := [.int (nI j3), .int 1]) (rest := []) C (ct_X3_part l G b M a ad S r n po ap hS hme hV j3 1 (by omega) (by omega)) hma rfl (lw_V q875 q877 qs11 q46 q878) rfl nd_X3_part rfl (by decide) (by decide) dX3_isKind_14 rfl ⟨by decide, by decide⟩ (Nat.le_of_ble_eq_true rfl)) ?_
    have hp14 := hV.2.2.2.2.2.1 j3 1
    refine V_iload_n C dX3_isKind_17 rfl rfl ?_
    refine V_nicmp_ne (x := po j3 1) (y := kd) C 25 dX3_isKind_18 (by decide) (by omega) (by omega) (fun q18 => ?_) (fun q18 => ?_)
    · refine V_iconst C 0 dX3_isKind_25 (by decide) ?_
      exact V_zret C rfl dX3_isKind_26 (by decide) (by decide) ⟨_, rfl, by first | (refine bt ?_; unfold mkind; simp [*]) | (refine bf ?_; unfold mkind; simp [*]), rfl⟩
    · refine V_iconst C 1 dX3_isKind_21 (by decide) ?_
      refine V_goto C 26 dX3_isKind_22 (by decide) ?_
      exact V_zret C rfl dX3_isKind_26 (by decide) (by decide) ⟨_, rfl, by first | (refine bt ?_; unfold mkind; simp [*]) | (refine bf ?_; unfold mkind; simp [*]), rfl⟩
abbrev melem (po : Nat → Nat → Nat) (ap ft : Nat → Bool) (j : Nat) (x : Int32) : Bool := ap j && ft j && decide (po j 1 = 3) && decide (nI (po j 2) = x)
theorem ct_X3_isElement (l : Launch) (G : mp_G) (b : Nat) (M : mp_M) (a : Nat) (ad : Nat → Nat) (S : Nat → Nat → Int32) (r n : Nat) (po : Nat → Nat → Nat) (ap : Nat → Bool) (hS : MdAt G M a ad S) (hme : S 7 0 = nI r) (hV : Vw S r n po ap) (ft : Nat → Bool) (hF : FitV S ft) (j : Nat) (x : Int32) (hj : j < n) : Ct l yX3_isElement cX3_isElement 3 (some .boolean) 2 0 0 G b ([.ref a, .int (nI j), .int x] : List Value) M (pI (fun y M1 => y = bI (melem po ap ft j x) ∧ M1 = M)) := by
  have hr := hV.1
  have hn := hV.2.1
  refine Ct.ofV (by decide) (vc_ref (vc_int (vc_int vc_nil))) (Nat.le_of_ble_eq_true rfl) ?_
  intro p e s m below meth c C hnm
  refine V_L (L1 := [some (.ref a), some (.int (nI j)), some (.int x)]) rfl ?_
  obtain ⟨hma, hm0, hm1, hm2, hm3, hm4, hm5, hm8, hm9, hm10, hm11⟩ := id hS
  rw [hme] at hma
  refine V_aload_n C dX3_isElement_0 rfl rfl ?_
  refine V_iload_n C dX3_isElement_1 rfl rfl ?_
  refine V_ofIe (VR_V (As := [.int (nI j)]) (rest := []) C (ct_X3_done l G b M a ad S r n po ap hS hme hV j (by omega)) hma rfl (lw_V q871 q873 qs10 q46 q874) rfl nd_X3_done rfl (by decide) (by decide) dX3_isElement_2 rfl ⟨by decide, by decide⟩ (Nat.le_of_ble_eq_true rfl)) ?_
  refine V_ifb_eq C 41 dX3_isElement_5 (by decide) (fun q5 => ?_) (fun q5 => ?_)
  · refine V_iconst C 0 dX3_isElement_41 (by decide) ?_
    exact V_zret C rfl dX3_isElement_42 (by decide) (by decide) ⟨_, rfl, by first | (refine bt ?_; unfold melem; simp [*]) | (refine bf ?_; unfold melem; simp [*]), rfl⟩
  · refine V_aload_n C dX3_isElement_8 rfl rfl ?_
    refine V_get (C0 := RX3) (T := TX3) (N := 12) (ci := 3) C 8 in_X3 rfl hma (by decide) q829 (fun _ h9 => h9) rfl dX3_isElement_9 ?_
    refine V_iload_n C dX3_isElement_12 rfl rfl ?_
    refine V_zald C hm8 (pk_in j 16 (by omega)) dX3_isElement_13 ?_
    refine V_top (y := (bI (ft j))) (by rw [nI_clamp (n := j) (by omega)]; exact (hF j (by omega))) ?_
    refine V_ifb_eq C 41 dX3_isElement_14 (by decide) (fun q14 => ?_) (fun q14 => ?_)
    · refine V_iconst C 0 dX3_isElement_41 (by decide) ?_
      exact V_zret C rfl dX3_isElement_42 (by decide) (by decide) ⟨_, rfl, by first | (refine bt ?_; unfold melem; simp [*]) | (refine bf ?_; unfold melem; simp [*]), rfl⟩
    · refine V_aload_n C dX3_isElement_17 rfl rfl ?_
      refine V_iload_n C dX3_isElement_18 rfl rfl ?_
      refine V_iconst C 1 dX3_isElement_19 (by decide) ?_
      refine V_ofIe (VR_V (As := [.int (nI j), .int 1]) (rest := []) C (ct_X3_part l G b M a ad S r n po ap hS hme hV j 1 (by omega) (by omega)) hma rfl (lw_V q875 q877 qs11 q46 q878) rfl nd_X3_part rfl (by decide) (by decide) dX3_isElement_20 rfl ⟨by decide, by decide⟩ (Nat.le_of_ble_eq_true rfl)) ?_
      have hp20 := hV.2.2.2.2.2.1 j 1
      refine V_iconst C 3 dX3_isElement_23 (by decide) ?_
      refine V_nicmp_ne (x := po j 1) (y := 3) C 41 dX3_isElement_24 (by decide) (by omega) (by omega) (fun q24 => ?_) (fun q24 => ?_)
      · refine V_iconst C 0 dX3_isElement_41 (by decide) ?_
        exact V_zret C rfl dX3_isElement_42 (by decide) (by decide) ⟨_, rfl, by first | (refine bt ?_; unfold melem; simp [*]) | (refine bf ?_; unfold melem; simp [*]), rfl⟩
      · refine V_aload_n C dX3_isElement_27 rfl rfl ?_
        refine V_iload_n C dX3_isElement_28 rfl rfl ?_
        refine V_iconst C 2 dX3_isElement_29 (by decide) ?_
        refine V_ofIe (VR_V (As := [.int (nI j), .int 2]) (rest := []) C (ct_X3_part l G b M a ad S r n po ap hS hme hV j 2 (by omega) (by omega)) hma rfl (lw_V q875 q877 qs11 q46 q878) rfl nd_X3_part rfl (by decide) (by decide) dX3_isElement_30 rfl ⟨by decide, by decide⟩ (Nat.le_of_ble_eq_true rfl)) ?_
        have hp30 := hV.2.2.2.2.2.1 j 2
        refine V_iload_n C dX3_isElement_33 rfl rfl ?_
        refine V_icmp_ne C 41 dX3_isElement_34 (by decide) (fun q34 => ?_) (fun q34 => ?_)
        · refine V_iconst C 0 dX3_isElement_41 (by decide) ?_
          exact V_zret C rfl dX3_isElement_42 (by decide) (by decide) ⟨_, rfl, by first | (refine bt ?_; unfold melem; simp [*]) | (refine bf ?_; unfold melem; simp [*]), rfl⟩
        · refine V_iconst C 1 dX3_isElement_37 (by decide) ?_
          refine V_goto C 42 dX3_isElement_38 (by decide) ?_
          exact V_zret C rfl dX3_isElement_42 (by decide) (by decide) ⟨_, rfl, by first | (refine bt ?_; unfold melem; simp [*]) | (refine bf ?_; unfold melem; simp [*]), rfl⟩

