set_option maxRecDepth 100000
/-! THE MODEL, B: entries, elements, sums -/
def mgone (n : Nat) (po : Nat → Nat → Nat) (ap ft : Nat → Bool) (j : Nat) : Bool := anyI (fun k => ap k && ft k && decide (po k 1 = 4) && decide (po k 2 = po j 0)) n
theorem ct_X3_gone (l : Launch) (G : mp_G) (b : Nat) (M : mp_M) (a : Nat) (ad : Nat → Nat) (S : Nat → Nat → Int32) (r n : Nat) (po : Nat → Nat → Nat) (ap : Nat → Bool) (hS : MdAt G M a ad S) (hme : S 7 0 = nI r) (hV : Vw S r n po ap) (ft : Nat → Bool) (hF : FitV S ft) (j : Nat) (hj : j < n) : Ct l yX3_gone cX3_gone 4 (some .boolean) 2 0 0 G b ([.ref a, .int (nI j)] : List Value) M (pI (fun y M1 => y = bI (mgone n po ap ft j) ∧ M1 = M)) := by
  have hr := hV.1
  have hn := hV.2.1
  refine Ct.ofV (by decide) (vc_ref (vc_int vc_nil)) (Nat.le_of_ble_eq_true rfl) ?_
  intro p e s m below meth c C hnm
  refine V_L (L1 := [some (.ref a), some (.int (nI j)), none, none]) rfl ?_
  obtain ⟨hma, hm0, hm1, hm2, hm3, hm4, hm5, hm8, hm9, hm10, hm11⟩ := id hS
  rw [hme] at hma
  refine V_iconst C 0 dX3_gone_0 (by decide) ?_
  refine V_istore_n (L' := [some (.ref a), some (.int (nI j)), some (.int 0), none]) C dX3_gone_1 rfl (by decide) rfl ?_
  refine V_iconst C 0 dX3_gone_2 (by decide) ?_
  refine V_istore_n (L' := [some (.ref a), some (.int (nI j)), some (.int 0), some (.int 0)]) C dX3_gone_3 rfl (by decide) rfl ?_
  have loop : ∀ k, k ≤ n → V p l e (rmOf 2 0 0) s m ([.ref a, .int (nI j)] : List Value).toArray below meth c (MQ below (Qp G b (pI (fun y M1 => y = bI (mgone n po ap ft j) ∧ M1 = M))) ([.ref a, .int (nI j)] : List Value).toArray s 0 0 (fun q => b ≤ q)) G b 4 0 0 4 [some (.ref a), some (.int (nI j)), some (.int (bI (anyI (fun k => ap k && ft k && decide (po k 1 = 4) && decide (po k 2 = po j 0)) k))), some (.int (nI k))] [] M := by
    refine up_ind n ?_
    intro k hk ih
    refine V_iload_n C dX3_gone_4 rfl rfl ?_
    refine V_aload_n C dX3_gone_5 rfl rfl ?_
    refine V_get (C0 := RX3) (T := TX3) (N := 12) (ci := 3) C 1 in_X3 rfl hma (by decide) q822 (fun _ h9 => h9) rfl dX3_gone_6 ?_
    refine V_aload_n C dX3_gone_9 rfl rfl ?_
    refine V_get (C0 := RX3) (T := TX3) (N := 12) (ci := 3) C 7 in_X3 rfl hma (by decide) q828 (fun _ h9 => h9) rfl dX3_gone_10 ?_
    refine V_iald C hm1 (pk_in r 3 (by omega)) dX3_gone_13 ?_
    refine V_top (y := (nI n)) (by rw [nI_clamp (n := r) (by omega)]; exact hV.2.2.1) ?_
    refine V_nicmp_ge (x := k) (y := n) C 75 dX3_gone_14 (by decide) (by omega) (by omega) (fun q14 => ?_) (fun q14 => ?_)
    · refine V_iload_n C dX3_gone_75 rfl rfl ?_
      exact V_zret C (bI_nar _) dX3_gone_76 (by decide) (by decide) ⟨_, rfl, by rw [show k = n by omega]; rfl, rfl⟩
    · refine V_iload_n C dX3_gone_17 rfl rfl ?_
      refine V_ifb_ne C 63 dX3_gone_18 (by decide) (fun q18 => ?_) (fun q18 => ?_)
      · refine V_iconst C 1 dX3_gone_63 (by decide) ?_
        refine V_goto C 68 dX3_gone_64 (by decide) ?_
        refine V_istore_n (L' := [some (.ref a), some (.int (nI j)), some (.int 1), some (.int (nI k))]) C dX3_gone_68 rfl (by decide) rfl ?_
        refine V_iinc (v := (nI (k + 1))) (L' := [some (.ref a), some (.int (nI j)), some (.int 1), some (.int (nI (k + 1)))]) C dX3_gone_69 rfl (nI_1 _) (by decide) rfl ?_
        refine V_goto C 4 dX3_gone_72 (by decide) ?_
        refine V_sub ?_ (ih (by omega))
        repeat' (first | exact ls_e | refine ls_n ?_ | refine ls_s ?_ | refine ls_i ?_ ?_ | refine ls_v ?_ ?_)
        rw [anyI_s]
        first | (refine bt ?_; simp [*]; done) | (refine bf ?_; simp [*]; done)
      · refine V_aload_n C dX3_gone_21 rfl rfl ?_
        refine V_iload_n C dX3_gone_22 rfl rfl ?_
        refine V_ofIe (VR_V (As := [.int (nI k)]) (rest := []) C (ct_X3_done l G b M a ad S r n po ap hS hme hV k (by omega)) hma rfl (lw_V q871 q873 qs10 q46 q874) rfl nd_X3_done rfl (by decide) (by decide) dX3_gone_23 rfl ⟨by decide, by decide⟩ (Nat.le_of_ble_eq_true rfl)) ?_
        refine V_ifb_eq C 67 dX3_gone_26 (by decide) (fun q26 => ?_) (fun q26 => ?_)
        · refine V_iconst C 0 dX3_gone_67 (by decide) ?_
          refine V_istore_n (L' := [some (.ref a), some (.int (nI j)), some (.int 0), some (.int (nI k))]) C dX3_gone_68 rfl (by decide) rfl ?_
          refine V_iinc (v := (nI (k + 1))) (L' := [some (.ref a), some (.int (nI j)), some (.int 0), some (.int (nI (k + 1)))]) C dX3_gone_69 rfl (nI_1 _) (by decide) rfl ?_
          refine V_goto C 4 dX3_gone_72 (by decide) ?_
          refine V_sub ?_ (ih (by omega))
          repeat' (first | exact ls_e | refine ls_n ?_ | refine ls_s ?_ | refine ls_i ?_ ?_ | refine ls_v ?_ ?_)
          rw [anyI_s]
          first | (refine bt ?_; simp [*]; done) | (refine bf ?_; simp [*]; done)
        · refine V_aload_n C dX3_gone_29 rfl rfl ?_
          refine V_get (C0 := RX3) (T := TX3) (N := 12) (ci := 3) C 8 in_X3 rfl hma (by decide) q829 (fun _ h9 => h9) rfl dX3_gone_30 ?_
          refine V_iload_n C dX3_gone_33 rfl rfl ?_
          refine V_zald C hm8 (pk_in k 16 (by omega)) dX3_gone_34 ?_
          refine V_top (y := (bI (ft k))) (by rw [nI_clamp (n := k) (by omega)]; exact (hF k (by omega))) ?_
          refine V_ifb_eq C 67 dX3_gone_35 (by decide) (fun q35 => ?_) (fun q35 => ?_)
          · refine V_iconst C 0 dX3_gone_67 (by decide) ?_
            refine V_istore_n (L' := [some (.ref a), some (.int (nI j)), some (.int 0), some (.int (nI k))]) C dX3_gone_68 rfl (by decide) rfl ?_
            refine V_iinc (v := (nI (k + 1))) (L' := [some (.ref a), some (.int (nI j)), some (.int 0), some (.int (nI (k + 1)))]) C dX3_gone_69 rfl (nI_1 _) (by decide) rfl ?_
            refine V_goto C 4 dX3_gone_72 (by decide) ?_
            refine V_sub ?_ (ih (by omega))
            repeat' (first | exact ls_e | refine ls_n ?_ | refine ls_s ?_ | refine ls_i ?_ ?_ | refine ls_v ?_ ?_)
            rw [anyI_s]
            first | (refine bt ?_; simp [*]; done) | (refine bf ?_; simp [*]; done)
          · refine V_aload_n C dX3_gone_38 rfl rfl ?_
            refine V_iload_n C dX3_gone_39 rfl rfl ?_
            refine V_iconst C 1 dX3_gone_40 (by decide) ?_
            refine V_ofIe (VR_V (As := [.int (nI k), .int 1]) (rest := []) C (ct_X3_part l G b M a ad S r n po ap hS hme hV k 1 (by omega) (by omega)) hma rfl (lw_V q875 q877 qs11 q46 q878) rfl nd_X3_part rfl (by decide) (by decide) dX3_gone_41 rfl ⟨by decide, by decide⟩ (Nat.le_of_ble_eq_true rfl)) ?_
            have hp41 := hV.2.2.2.2.2.1 k 1
            refine V_iconst C 4 dX3_gone_44 (by decide) ?_
            refine V_nicmp_ne (x := po k 1) (y := 4) C 67 dX3_gone_45 (by decide) (by omega) (by omega) (fun q45 => ?_) (fun q45 => ?_)
            · refine V_iconst C 0 dX3_gone_67 (by decide) ?_
              refine V_istore_n (L' := [some (.ref a), some (.int (nI j)), some (.int 0), some (.int (nI k))]) C dX3_gone_68 rfl (by decide) rfl ?_
              refine V_iinc (v := (nI (k + 1))) (L' := [some (.ref a), some (.int (nI j)), some (.int 0), some (.int (nI (k + 1)))]) C dX3_gone_69 rfl (nI_1 _) (by decide) rfl ?_
              refine V_goto C 4 dX3_gone_72 (by decide) ?_
              refine V_sub ?_ (ih (by omega))
              repeat' (first | exact ls_e | refine ls_n ?_ | refine ls_s ?_ | refine ls_i ?_ ?_ | refine ls_v ?_ ?_)
              rw [anyI_s]
              first | (refine bt ?_; simp [*]; done) | (refine bf ?_; simp [*]; done)
            · refine V_aload_n C dX3_gone_48 rfl rfl ?_
              refine V_iload_n C dX3_gone_49 rfl rfl ?_
              refine V_iconst C 2 dX3_gone_50 (by decide) ?_
              refine V_ofIe (VR_V (As := [.int (nI k), .int 2]) (rest := []) C (ct_X3_part l G b M a ad S r n po ap hS hme hV k 2 (by omega) (by omega)) hma rfl (lw_V q875 q877 qs11 q46 q878) rfl nd_X3_part rfl (by decide) (by decide) dX3_gone_51 rfl ⟨by decide, by decide⟩ (Nat.le_of_ble_eq_true rfl)) ?_
              have hp51 := hV.2.2.2.2.2.1 k 2
              refine V_aload_n C dX3_gone_54 rfl rfl ?_
              refine V_iload_n C dX3_gone_55 rfl rfl ?_
              refine V_iconst C 0 dX3_gone_56 (by decide) ?_
              refine V_ofIe (VR_V (As := [.int (nI j), .int 0]) (rest := [.int (nI (po k 2))]) C (ct_X3_part l G b M a ad S r n po ap hS hme hV j 0 (by omega) (by omega)) hma rfl (lw_V q875 q877 qs11 q46 q878) rfl nd_X3_part rfl (by decide) (by decide) dX3_gone_57 rfl ⟨by decide, by decide⟩ (Nat.le_of_ble_eq_true rfl)) ?_
              have hp57 := hV.2.2.2.2.2.1 j 0
              refine V_nicmp_ne (x := po k 2) (y := po j 0) C 67 dX3_gone_60 (by decide) (by omega) (by omega) (fun q60 => ?_) (fun q60 => ?_)
              · refine V_iconst C 0 dX3_gone_67 (by decide) ?_
                refine V_istore_n (L' := [some (.ref a), some (.int (nI j)), some (.int 0), some (.int (nI k))]) C dX3_gone_68 rfl (by decide) rfl ?_
                refine V_iinc (v := (nI (k + 1))) (L' := [some (.ref a), some (.int (nI j)), some (.int 0), some (.int (nI (k + 1)))]) C dX3_gone_69 rfl (nI_1 _) (by decide) rfl ?_
                refine V_goto C 4 dX3_gone_72 (by decide) ?_
                refine V_sub ?_ (ih (by omega))
                repeat' (first | exact ls_e | refine ls_n ?_ | refine ls_s ?_ | refine ls_i ?_ ?_ | refine ls_v ?_ ?_)
                rw [anyI_s]
                first | (refine bt ?_; simp [*]; done) | (refine bf ?_; simp [*]; done)
              · refine V_iconst C 1 dX3_gone_63 (by decide) ?_
                refine V_goto C 68 dX3_gone_64 (by decide) ?_
                refine V_istore_n (L' := [some (.ref a), some (.int (nI j)), some (.int 1), some (.int (nI k))]) C dX3_gone_68 rfl (by decide) rfl ?_
                refine V_iinc (v := (nI (k + 1))) (L' := [some (.ref a), some (.int (nI j)), some (.int 1), some (.int (nI (k + 1)))]) C dX3_gone_69 rfl (nI_1 _) (by decide) rfl ?_
                refine V_goto C 4 dX3_gone_72 (by decide) ?_
                refine V_sub ?_ (ih (by omega))
                repeat' (first | exact ls_e | refine ls_n ?_ | refine ls_s ?_ | refine ls_i ?_ ?_ | refine ls_v ?_ ?_)
                rw [anyI_s]
                first | (refine bt ?_; simp [*]; done) | (refine bf ?_; simp [*]; done)
  refine V_sub ?_ (loop 0 (Nat.zero_le _))
  repeat' (first | exact ls_e | refine ls_n ?_ | refine ls_s ?_ | refine ls_i ?_ ?_ | refine ls_v ?_ ?_)
/-- bit i of a past -/
def bitI (x : Int32) (i : Nat) : Bool := decide ((x >>> (nI i &&& 31)) &&& 1 = 1)
def mwr (po : Nat → Nat → Nat) (ap ft : Nat → Bool) (P : Nat → Int32) (j k : Nat) : Bool := ap k && ft k && (decide (po k 1 ≤ 2) || decide (po k 1 = 5)) && decide (po k 2 = po j 2) && decide (po k 3 = po j 3) && bitI (P k) j
def mentry (n : Nat) (po : Nat → Nat → Nat) (ap ft : Nat → Bool) (P : Nat → Int32) (j : Nat) : Bool := ap j && ft j && decide (po j 1 ≤ 2) && allI (fun k => !mwr po ap ft P j k) n
theorem ct_X3_isEntry (l : Launch) (G : mp_G) (b : Nat) (M : mp_M) (a : Nat) (ad : Nat → Nat) (S : Nat → Nat → Int32) (r n : Nat) (po : Nat → Nat → Nat) (ap : Nat → Bool) (hS : MdAt G M a ad S) (hme : S 7 0 = nI r) (hV : Vw S r n po ap) (ft : Nat → Bool) (hF : FitV S ft) (P : Nat → Int32) (hP : PstV S P) (j : Nat) (hj : j < n) : Ct l yX3_isEntry cX3_isEntry 6 (some .boolean) 2 0 0 G b ([.ref a, .int (nI j)] : List Value) M (pI (fun y M1 => y = bI (mentry n po ap ft P j) ∧ M1 = M)) := by
  have hr := hV.1
  have hn := hV.2.1
  refine Ct.ofV (by decide) (vc_ref (vc_int vc_nil)) (Nat.le_of_ble_eq_true rfl) ?_
  intro p e s m below meth c C hnm
  refine V_L (L1 := [some (.ref a), some (.int (nI j)), none, none, none, none]) rfl ?_
  obtain ⟨hma, hm0, hm1, hm2, hm3, hm4, hm5, hm8, hm9, hm10, hm11⟩ := id hS
  rw [hme] at hma
  have loop : (ap j && ft j && decide (po j 1 ≤ 2)) = true → ∀ k, k ≤ n → V p l e (rmOf 2 0 0) s m ([.ref a, .int (nI j)] : List Value).toArray below meth c (MQ below (Qp G b (pI (fun y M1 => y = bI (mentry n po ap ft P j) ∧ M1 = M))) ([.ref a, .int (nI j)] : List Value).toArray s 0 0 (fun q => b ≤ q)) G b 6 0 0 33 [some (.ref a), some (.int (nI j)), some (.int (bI (allI (fun k => !mwr po ap ft P j k) k))), some (.int (nI k)), none, none] [] M := by
    intro hjj
    refine up_ind n ?_
    intro k hk ih
    refine V_iload_n C dX3_isEntry_33 rfl rfl ?_
    refine V_aload_n C dX3_isEntry_34 rfl rfl ?_
    refine V_get (C0 := RX3) (T := TX3) (N := 12) (ci := 3) C 1 in_X3 rfl hma (by decide) q822 (fun _ h9 => h9) rfl dX3_isEntry_35 ?_
    refine V_aload_n C dX3_isEntry_38 rfl rfl ?_
    refine V_get (C0 := RX3) (T := TX3) (N := 12) (ci := 3) C 7 in_X3 rfl hma (by decide) q828 (fun _ h9 => h9) rfl dX3_isEntry_39 ?_
    refine V_iald C hm1 (pk_in r 3 (by omega)) dX3_isEntry_42 ?_
    refine V_top (y := (nI n)) (by rw [nI_clamp (n := r) (by omega)]; exact hV.2.2.1) ?_
    refine V_nicmp_ge (x := k) (y := n) C 155 dX3_isEntry_43 (by decide) (by omega) (by omega) (fun q43 => ?_) (fun q43 => ?_)
    · refine V_iload_n C dX3_isEntry_155 rfl rfl ?_
      exact V_zret C (bI_nar _) dX3_isEntry_156 (by decide) (by decide) ⟨_, rfl, by rw [show k = n by omega]; unfold mentry; rw [hjj]; rfl, rfl⟩
    · refine V_aload_n C dX3_isEntry_46 rfl rfl ?_
      refine V_iload_n C dX3_isEntry_47 rfl rfl ?_
      refine V_iconst C 1 dX3_isEntry_48 (by decide) ?_
      refine V_ofIe (VR_V (As := [.int (nI k), .int 1]) (rest := []) C (ct_X3_part l G b M a ad S r n po ap hS hme hV k 1 (by omega) (by omega)) hma rfl (lw_V q875 q877 qs11 q46 q878) rfl nd_X3_part rfl (by decide) (by decide) dX3_isEntry_49 rfl ⟨by decide, by decide⟩ (Nat.le_of_ble_eq_true rfl)) ?_
      have hp49 := hV.2.2.2.2.2.1 k 1
      refine V_istore (L' := [some (.ref a), some (.int (nI j)), some (.int (bI (allI (fun k => !mwr po ap ft P j k) k))), some (.int (nI k)), some (.int (nI (po k 1))), none]) C dX3_isEntry_52 (by decide) rfl ?_
      refine V_aload_n C dX3_isEntry_54 rfl rfl ?_
      refine V_iload_n C dX3_isEntry_55 rfl rfl ?_
      refine V_ofIe (VR_V (As := [.int (nI k)]) (rest := []) C (ct_X3_done l G b M a ad S r n po ap hS hme hV k (by omega)) hma rfl (lw_V q871 q873 qs10 q46 q874) rfl nd_X3_done rfl (by decide) (by decide) dX3_isEntry_56 rfl ⟨by decide, by decide⟩ (Nat.le_of_ble_eq_true rfl)) ?_
      refine V_ifb_eq C 117 dX3_isEntry_59 (by decide) (fun q59 => ?_) (fun q59 => ?_)
      · refine V_iconst C 0 dX3_isEntry_117 (by decide) ?_
        refine V_istore (L' := [some (.ref a), some (.int (nI j)), some (.int (bI (allI (fun k => !mwr po ap ft P j k) k))), some (.int (nI k)), some (.int (nI (po k 1))), some (.int 0)]) C dX3_isEntry_118 (by decide) rfl ?_
        refine V_iload_n C dX3_isEntry_120 rfl rfl ?_
        refine V_ifb_eq C 147 dX3_isEntry_121 (by decide) (fun q121 => ?_) (fun q121 => ?_)
        · refine V_iconst C 0 dX3_isEntry_147 (by decide) ?_
          refine V_istore_n (L' := [some (.ref a), some (.int (nI j)), some (.int 0), some (.int (nI k)), some (.int (nI (po k 1))), some (.int 0)]) C dX3_isEntry_148 rfl (by decide) rfl ?_
          refine V_iinc (v := (nI (k + 1))) (L' := [some (.ref a), some (.int (nI j)), some (.int 0), some (.int (nI (k + 1))), some (.int (nI (po k 1))), some (.int 0)]) C dX3_isEntry_149 rfl (nI_1 _) (by decide) rfl ?_
          refine V_goto C 33 dX3_isEntry_152 (by decide) ?_
          refine V_sub ?_ (ih (by omega))
          repeat' (first | exact ls_e | refine ls_n ?_ | refine ls_s ?_ | refine ls_i ?_ ?_ | refine ls_v ?_ ?_)
          rw [allI_s, q121]
          first | rfl | (refine bt ?_; rw [Bool.true_and]; unfold mwr bitI; simp [*]; done) | (refine bt ?_; rw [Bool.true_and]; unfold mwr bitI; simp [*]; omega) | (refine bf ?_; rw [Bool.true_and]; unfold mwr bitI; simp [*]; done)
        · refine V_iload C dX3_isEntry_124 rfl ?_
          refine V_if_eq C 143 dX3_isEntry_126 (by decide) (fun _ => ?_) (fun h => absurd (by decide) h)
          refine V_iconst C 1 dX3_isEntry_143 (by decide) ?_
          refine V_goto C 148 dX3_isEntry_144 (by decide) ?_
          refine V_istore_n (L' := [some (.ref a), some (.int (nI j)), some (.int 1), some (.int (nI k)), some (.int (nI (po k 1))), some (.int 0)]) C dX3_isEntry_148 rfl (by decide) rfl ?_
          refine V_iinc (v := (nI (k + 1))) (L' := [some (.ref a), some (.int (nI j)), some (.int 1), some (.int (nI (k + 1))), some (.int (nI (po k 1))), some (.int 0)]) C dX3_isEntry_149 rfl (nI_1 _) (by decide) rfl ?_
          refine V_goto C 33 dX3_isEntry_152 (by decide) ?_
          refine V_sub ?_ (ih (by omega))
          repeat' (first | exact ls_e | refine ls_n ?_ | refine ls_s ?_ | refine ls_i ?_ ?_ | refine ls_v ?_ ?_)
          rw [allI_s, q121]
          first | rfl | (refine bt ?_; rw [Bool.true_and]; unfold mwr bitI; simp [*]; done) | (refine bt ?_; rw [Bool.true_and]; unfold mwr bitI; simp [*]; omega) | (refine bf ?_; rw [Bool.true_and]; unfold mwr bitI; simp [*]; done)
      · refine V_aload_n C dX3_isEntry_62 rfl rfl ?_
        refine V_get (C0 := RX3) (T := TX3) (N := 12) (ci := 3) C 8 in_X3 rfl hma (by decide) q829 (fun _ h9 => h9) rfl dX3_isEntry_63 ?_
        refine V_iload_n C dX3_isEntry_66 rfl rfl ?_
        refine V_zald C hm8 (pk_in k 16 (by omega)) dX3_isEntry_67 ?_
        refine V_top (y := (bI (ft k))) (by rw [nI_clamp (n := k) (by omega)]; exact (hF k (by omega))) ?_
        refine V_ifb_eq C 117 dX3_isEntry_68 (by decide) (fun q68 => ?_) (fun q68 => ?_)
        · refine V_iconst C 0 dX3_isEntry_117 (by decide) ?_
          refine V_istore (L' := [some (.ref a), some (.int (nI j)), some (.int (bI (allI (fun k => !mwr po ap ft P j k) k))), some (.int (nI k)), some (.int (nI (po k 1))), some (.int 0)]) C dX3_isEntry_118 (by decide) rfl ?_
          refine V_iload_n C dX3_isEntry_120 rfl rfl ?_
          refine V_ifb_eq C 147 dX3_isEntry_121 (by decide) (fun q121 => ?_) (fun q121 => ?_)
          · refine V_iconst C 0 dX3_isEntry_147 (by decide) ?_
            refine V_istore_n (L' := [some (.ref a), some (.int (nI j)), some (.int 0), some (.int (nI k)), some (.int (nI (po k 1))), some (.int 0)]) C dX3_isEntry_148 rfl (by decide) rfl ?_
            refine V_iinc (v := (nI (k + 1))) (L' := [some (.ref a), some (.int (nI j)), some (.int 0), some (.int (nI (k + 1))), some (.int (nI (po k 1))), some (.int 0)]) C dX3_isEntry_149 rfl (nI_1 _) (by decide) rfl ?_
            refine V_goto C 33 dX3_isEntry_152 (by decide) ?_
            refine V_sub ?_ (ih (by omega))
            repeat' (first | exact ls_e | refine ls_n ?_ | refine ls_s ?_ | refine ls_i ?_ ?_ | refine ls_v ?_ ?_)
            rw [allI_s, q121]
            first | rfl | (refine bt ?_; rw [Bool.true_and]; unfold mwr bitI; simp [*]; done) | (refine bt ?_; rw [Bool.true_and]; unfold mwr bitI; simp [*]; omega) | (refine bf ?_; rw [Bool.true_and]; unfold mwr bitI; simp [*]; done)
          · refine V_iload C dX3_isEntry_124 rfl ?_
            refine V_if_eq C 143 dX3_isEntry_126 (by decide) (fun _ => ?_) (fun h => absurd (by decide) h)
            refine V_iconst C 1 dX3_isEntry_143 (by decide) ?_
            refine V_goto C 148 dX3_isEntry_144 (by decide) ?_
            refine V_istore_n (L' := [some (.ref a), some (.int (nI j)), some (.int 1), some (.int (nI k)), some (.int (nI (po k 1))), some (.int 0)]) C dX3_isEntry_148 rfl (by decide) rfl ?_
            refine V_iinc (v := (nI (k + 1))) (L' := [some (.ref a), some (.int (nI j)), some (.int 1), some (.int (nI (k + 1))), some (.int (nI (po k 1))), some (.int 0)]) C dX3_isEntry_149 rfl (nI_1 _) (by decide) rfl ?_
            refine V_goto C 33 dX3_isEntry_152 (by decide) ?_
            refine V_sub ?_ (ih (by omega))
            repeat' (first | exact ls_e | refine ls_n ?_ | refine ls_s ?_ | refine ls_i ?_ ?_ | refine ls_v ?_ ?_)
            rw [allI_s, q121]
            first | rfl | (refine bt ?_; rw [Bool.true_and]; unfold mwr bitI; simp [*]; done) | (refine bt ?_; rw [Bool.true_and]; unfold mwr bitI; simp [*]; omega) | (refine bf ?_; rw [Bool.true_and]; unfold mwr bitI; simp [*]; done)
        · refine V_iload C dX3_isEntry_71 rfl ?_
          refine V_iconst C 2 dX3_isEntry_73 (by decide) ?_
          refine V_nicmp_le (x := po k 1) (y := 2) C 83 dX3_isEntry_74 (by decide) (by omega) (by omega) (fun q74 => ?_) (fun q74 => ?_)
          · refine V_aload_n C dX3_isEntry_83 rfl rfl ?_
            refine V_iload_n C dX3_isEntry_84 rfl rfl ?_
            refine V_iconst C 2 dX3_isEntry_85 (by decide) ?_
            refine V_ofIe (VR_V (As := [.int (nI k), .int 2]) (rest := []) C (ct_X3_part l G b M a ad S r n po ap hS hme hV k 2 (by omega) (by omega)) hma rfl (lw_V q875 q877 qs11 q46 q878) rfl nd_X3_part rfl (by decide) (by decide) dX3_isEntry_86 rfl ⟨by decide, by decide⟩ (Nat.le_of_ble_eq_true rfl)) ?_
            have hp86 := hV.2.2.2.2.2.1 k 2
            refine V_aload_n C dX3_isEntry_89 rfl rfl ?_
            refine V_iload_n C dX3_isEntry_90 rfl rfl ?_
            refine V_iconst C 2 dX3_isEntry_91 (by decide) ?_
            refine V_ofIe (VR_V (As := [.int (nI j), .int 2]) (rest := [.int (nI (po k 2))]) C (ct_X3_part l G b M a ad S r n po ap hS hme hV j 2 (by omega) (by omega)) hma rfl (lw_V q875 q877 qs11 q46 q878) rfl nd_X3_part rfl (by decide) (by decide) dX3_isEntry_92 rfl ⟨by decide, by decide⟩ (Nat.le_of_ble_eq_true rfl)) ?_
            have hp92 := hV.2.2.2.2.2.1 j 2
            refine V_nicmp_ne (x := po k 2) (y := po j 2) C 117 dX3_isEntry_95 (by decide) (by omega) (by omega) (fun q95 => ?_) (fun q95 => ?_)
            · refine V_iconst C 0 dX3_isEntry_117 (by decide) ?_
              refine V_istore (L' := [some (.ref a), some (.int (nI j)), some (.int (bI (allI (fun k => !mwr po ap ft P j k) k))), some (.int (nI k)), some (.int (nI (po k 1))), some (.int 0)]) C dX3_isEntry_118 (by decide) rfl ?_
              refine V_iload_n C dX3_isEntry_120 rfl rfl ?_
              refine V_ifb_eq C 147 dX3_isEntry_121 (by decide) (fun q121 => ?_) (fun q121 => ?_)
              · refine V_iconst C 0 dX3_isEntry_147 (by decide) ?_
                refine V_istore_n (L' := [some (.ref a), some (.int (nI j)), some (.int 0), some (.int (nI k)), some (.int (nI (po k 1))), some (.int 0)]) C dX3_isEntry_148 rfl (by decide) rfl ?_
                refine V_iinc (v := (nI (k + 1))) (L' := [some (.ref a), some (.int (nI j)), some (.int 0), some (.int (nI (k + 1))), some (.int (nI (po k 1))), some (.int 0)]) C dX3_isEntry_149 rfl (nI_1 _) (by decide) rfl ?_
                refine V_goto C 33 dX3_isEntry_152 (by decide) ?_
                refine V_sub ?_ (ih (by omega))
                repeat' (first | exact ls_e | refine ls_n ?_ | refine ls_s ?_ | refine ls_i ?_ ?_ | refine ls_v ?_ ?_)
                rw [allI_s, q121]
                first | rfl | (refine bt ?_; rw [Bool.true_and]; unfold mwr bitI; simp [*]; done) | (refine bt ?_; rw [Bool.true_and]; unfold mwr bitI; simp [*]; omega) | (refine bf ?_; rw [Bool.true_and]; unfold mwr bitI; simp [*]; done)
              · refine V_iload C dX3_isEntry_124 rfl ?_
                refine V_if_eq C 143 dX3_isEntry_126 (by decide) (fun _ => ?_) (fun h => absurd (by decide) h)
                refine V_iconst C 1 dX3_isEntry_143 (by decide) ?_
                refine V_goto C 148 dX3_isEntry_144 (by decide) ?_
                refine V_istore_n (L' := [some (.ref a), some (.int (nI j)), some (.int 1), some (.int (nI k)), some (.int (nI (po k 1))), some (.int 0)]) C dX3_isEntry_148 rfl (by decide) rfl ?_
                refine V_iinc (v := (nI (k + 1))) (L' := [some (.ref a), some (.int (nI j)), some (.int 1), some (.int (nI (k + 1))), some (.int (nI (po k 1))), some (.int 0)]) C dX3_isEntry_149 rfl (nI_1 _) (by decide) rfl ?_
                refine V_goto C 33 dX3_isEntry_152 (by decide) ?_
                refine V_sub ?_ (ih (by omega))
                repeat' (first | exact ls_e | refine ls_n ?_ | refine ls_s ?_ | refine ls_i ?_ ?_ | refine ls_v ?_ ?_)
                rw [allI_s, q121]
                first | rfl | (refine bt ?_; rw [Bool.true_and]; unfold mwr bitI; simp [*]; done) | (refine bt ?_; rw [Bool.true_and]; unfold mwr bitI; simp [*]; omega) | (refine bf ?_; rw [Bool.true_and]; unfold mwr bitI; simp [*]; done)
            · refine V_aload_n C dX3_isEntry_98 rfl rfl ?_
              refine V_iload_n C dX3_isEntry_99 rfl rfl ?_
              refine V_iconst C 3 dX3_isEntry_100 (by decide) ?_
              refine V_ofIe (VR_V (As := [.int (nI k), .int 3]) (rest := []) C (ct_X3_part l G b M a ad S r n po ap hS hme hV k 3 (by omega) (by omega)) hma rfl (lw_V q875 q877 qs11 q46 q878) rfl nd_X3_part rfl (by decide) (by decide) dX3_isEntry_101 rfl ⟨by decide, by decide⟩ (Nat.le_of_ble_eq_true rfl)) ?_
              have hp101 := hV.2.2.2.2.2.1 k 3
              refine V_aload_n C dX3_isEntry_104 rfl rfl ?_
              refine V_iload_n C dX3_isEntry_105 rfl rfl ?_
              refine V_iconst C 3 dX3_isEntry_106 (by decide) ?_
              refine V_ofIe (VR_V (As := [.int (nI j), .int 3]) (rest := [.int (nI (po k 3))]) C (ct_X3_part l G b M a ad S r n po ap hS hme hV j 3 (by omega) (by omega)) hma rfl (lw_V q875 q877 qs11 q46 q878) rfl nd_X3_part rfl (by decide) (by decide) dX3_isEntry_107 rfl ⟨by decide, by decide⟩ (Nat.le_of_ble_eq_true rfl)) ?_
              have hp107 := hV.2.2.2.2.2.1 j 3
              refine V_nicmp_ne (x := po k 3) (y := po j 3) C 117 dX3_isEntry_110 (by decide) (by omega) (by omega) (fun q110 => ?_) (fun q110 => ?_)
              · refine V_iconst C 0 dX3_isEntry_117 (by decide) ?_
                refine V_istore (L' := [some (.ref a), some (.int (nI j)), some (.int (bI (allI (fun k => !mwr po ap ft P j k) k))), some (.int (nI k)), some (.int (nI (po k 1))), some (.int 0)]) C dX3_isEntry_118 (by decide) rfl ?_
                refine V_iload_n C dX3_isEntry_120 rfl rfl ?_
                refine V_ifb_eq C 147 dX3_isEntry_121 (by decide) (fun q121 => ?_) (fun q121 => ?_)
                · refine V_iconst C 0 dX3_isEntry_147 (by decide) ?_
                  refine V_istore_n (L' := [some (.ref a), some (.int (nI j)), some (.int 0), some (.int (nI k)), some (.int (nI (po k 1))), some (.int 0)]) C dX3_isEntry_148 rfl (by decide) rfl ?_
                  refine V_iinc (v := (nI (k + 1))) (L' := [some (.ref a), some (.int (nI j)), some (.int 0), some (.int (nI (k + 1))), some (.int (nI (po k 1))), some (.int 0)]) C dX3_isEntry_149 rfl (nI_1 _) (by decide) rfl ?_
                  refine V_goto C 33 dX3_isEntry_152 (by decide) ?_
                  refine V_sub ?_ (ih (by omega))
                  repeat' (first | exact ls_e | refine ls_n ?_ | refine ls_s ?_ | refine ls_i ?_ ?_ | refine ls_v ?_ ?_)
                  rw [allI_s, q121]
                  first | rfl | (refine bt ?_; rw [Bool.true_and]; unfold mwr bitI; simp [*]; done) | (refine bt ?_; rw [Bool.true_and]; unfold mwr bitI; simp [*]; omega) | (refine bf ?_; rw [Bool.true_and]; unfold mwr bitI; simp [*]; done)
                · refine V_iload C dX3_isEntry_124 rfl ?_
                  refine V_if_eq C 143 dX3_isEntry_126 (by decide) (fun _ => ?_) (fun h => absurd (by decide) h)
                  refine V_iconst C 1 dX3_isEntry_143 (by decide) ?_
                  refine V_goto C 148 dX3_isEntry_144 (by decide) ?_
                  refine V_istore_n (L' := [some (.ref a), some (.int (nI j)), some (.int 1), some (.int (nI k)), some (.int (nI (po k 1))), some (.int 0)]) C dX3_isEntry_148 rfl (by decide) rfl ?_
                  refine V_iinc (v := (nI (k + 1))) (L' := [some (.ref a), some (.int (nI j)), some (.int 1), some (.int (nI (k + 1))), some (.int (nI (po k 1))), some (.int 0)]) C dX3_isEntry_149 rfl (nI_1 _) (by decide) rfl ?_
                  refine V_goto C 33 dX3_isEntry_152 (by decide) ?_
                  refine V_sub ?_ (ih (by omega))
                  repeat' (first | exact ls_e | refine ls_n ?_ | refine ls_s ?_ | refine ls_i ?_ ?_ | refine ls_v ?_ ?_)
                  rw [allI_s, q121]
                  first | rfl | (refine bt ?_; rw [Bool.true_and]; unfold mwr bitI; simp [*]; done) | (refine bt ?_; rw [Bool.true_and]; unfold mwr bitI; simp [*]; omega) | (refine bf ?_; rw [Bool.true_and]; unfold mwr bitI; simp [*]; done)
              · refine V_iconst C 1 dX3_isEntry_113 (by decide) ?_
                refine V_goto C 118 dX3_isEntry_114 (by decide) ?_
                refine V_istore (L' := [some (.ref a), some (.int (nI j)), some (.int (bI (allI (fun k => !mwr po ap ft P j k) k))), some (.int (nI k)), some (.int (nI (po k 1))), some (.int 1)]) C dX3_isEntry_118 (by decide) rfl ?_
                refine V_iload_n C dX3_isEntry_120 rfl rfl ?_
                refine V_ifb_eq C 147 dX3_isEntry_121 (by decide) (fun q121 => ?_) (fun q121 => ?_)
                · refine V_iconst C 0 dX3_isEntry_147 (by decide) ?_
                  refine V_istore_n (L' := [some (.ref a), some (.int (nI j)), some (.int 0), some (.int (nI k)), some (.int (nI (po k 1))), some (.int 1)]) C dX3_isEntry_148 rfl (by decide) rfl ?_
                  refine V_iinc (v := (nI (k + 1))) (L' := [some (.ref a), some (.int (nI j)), some (.int 0), some (.int (nI (k + 1))), some (.int (nI (po k 1))), some (.int 1)]) C dX3_isEntry_149 rfl (nI_1 _) (by decide) rfl ?_
                  refine V_goto C 33 dX3_isEntry_152 (by decide) ?_
                  refine V_sub ?_ (ih (by omega))
                  repeat' (first | exact ls_e | refine ls_n ?_ | refine ls_s ?_ | refine ls_i ?_ ?_ | refine ls_v ?_ ?_)
                  rw [allI_s, q121]
                  first | rfl | (refine bt ?_; rw [Bool.true_and]; unfold mwr bitI; simp [*]; done) | (refine bt ?_; rw [Bool.true_and]; unfold mwr bitI; simp [*]; omega) | (refine bf ?_; rw [Bool.true_and]; unfold mwr bitI; simp [*]; done)
                · refine V_iload C dX3_isEntry_124 rfl ?_
                  refine V_if_eq C 143 dX3_isEntry_126 (by decide) (fun h => absurd h (by decide)) (fun _ => ?_)
                  refine V_aload_n C dX3_isEntry_129 rfl rfl ?_
                  refine V_get (C0 := RX3) (T := TX3) (N := 12) (ci := 3) C 9 in_X3 rfl hma (by decide) q830 (fun _ h9 => h9) rfl dX3_isEntry_130 ?_
                  refine V_iload_n C dX3_isEntry_133 rfl rfl ?_
                  refine V_iald C hm9 (pk_in k 16 (by omega)) dX3_isEntry_134 ?_
                  refine V_top (y := (P k)) (by rw [nI_clamp (n := k) (by omega)]; exact (hP k (by omega))) ?_
                  refine V_iload_n C dX3_isEntry_135 rfl rfl ?_
                  refine V_ishr C dX3_isEntry_136 ?_
                  refine V_iconst C 1 dX3_isEntry_137 (by decide) ?_
                  refine V_iand C dX3_isEntry_138 ?_
                  refine V_iconst C 1 dX3_isEntry_139 (by decide) ?_
                  refine V_icmp_eq C 147 dX3_isEntry_140 (by decide) (fun q140 => ?_) (fun q140 => ?_)
                  · refine V_iconst C 0 dX3_isEntry_147 (by decide) ?_
                    refine V_istore_n (L' := [some (.ref a), some (.int (nI j)), some (.int 0), some (.int (nI k)), some (.int (nI (po k 1))), some (.int 1)]) C dX3_isEntry_148 rfl (by decide) rfl ?_
                    refine V_iinc (v := (nI (k + 1))) (L' := [some (.ref a), some (.int (nI j)), some (.int 0), some (.int (nI (k + 1))), some (.int (nI (po k 1))), some (.int 1)]) C dX3_isEntry_149 rfl (nI_1 _) (by decide) rfl ?_
                    refine V_goto C 33 dX3_isEntry_152 (by decide) ?_
                    refine V_sub ?_ (ih (by omega))
                    repeat' (first | exact ls_e | refine ls_n ?_ | refine ls_s ?_ | refine ls_i ?_ ?_ | refine ls_v ?_ ?_)
                    rw [allI_s, q121]
                    first | rfl | (refine bt ?_; rw [Bool.true_and]; unfold mwr bitI; simp [*]; done) | (refine bt ?_; rw [Bool.true_and]; unfold mwr bitI; simp [*]; omega) | (refine bf ?_; rw [Bool.true_and]; unfold mwr bitI; simp [*]; done)
                  · refine V_iconst C 1 dX3_isEntry_143 (by decide) ?_
                    refine V_goto C 148 dX3_isEntry_144 (by decide) ?_
                    refine V_istore_n (L' := [some (.ref a), some (.int (nI j)), some (.int 1), some (.int (nI k)), some (.int (nI (po k 1))), some (.int 1)]) C dX3_isEntry_148 rfl (by decide) rfl ?_
                    refine V_iinc (v := (nI (k + 1))) (L' := [some (.ref a), some (.int (nI j)), some (.int 1), some (.int (nI (k + 1))), some (.int (nI (po k 1))), some (.int 1)]) C dX3_isEntry_149 rfl (nI_1 _) (by decide) rfl ?_
                    refine V_goto C 33 dX3_isEntry_152 (by decide) ?_
                    refine V_sub ?_ (ih (by omega))
                    repeat' (first | exact ls_e | refine ls_n ?_ | refine ls_s ?_ | refine ls_i ?_ ?_ | refine ls_v ?_ ?_)
                    rw [allI_s, q121]
                    first | rfl | (refine bt ?_; rw [Bool.true_and]; unfold mwr bitI; simp [*]; done) | (refine bt ?_; rw [Bool.true_and]; unfold mwr bitI; simp [*]; omega) | (refine bf ?_; rw [Bool.true_and]; unfold mwr bitI; simp [*]; done)
          · refine V_iload C dX3_isEntry_77 rfl ?_
            refine V_iconst C 5 dX3_isEntry_79 (by decide) ?_
            refine V_nicmp_ne (x := po k 1) (y := 5) C 117 dX3_isEntry_80 (by decide) (by omega) (by omega) (fun q80 => ?_) (fun q80 => ?_)
            · refine V_iconst C 0 dX3_isEntry_117 (by decide) ?_
              refine V_istore (L' := [some (.ref a), some (.int (nI j)), some (.int (bI (allI (fun k => !mwr po ap ft P j k) k))), some (.int (nI k)), some (.int (nI (po k 1))), some (.int 0)]) C dX3_isEntry_118 (by decide) rfl ?_
              refine V_iload_n C dX3_isEntry_120 rfl rfl ?_
              refine V_ifb_eq C 147 dX3_isEntry_121 (by decide) (fun q121 => ?_) (fun q121 => ?_)
              · refine V_iconst C 0 dX3_isEntry_147 (by decide) ?_
                refine V_istore_n (L' := [some (.ref a), some (.int (nI j)), some (.int 0), some (.int (nI k)), some (.int (nI (po k 1))), some (.int 0)]) C dX3_isEntry_148 rfl (by decide) rfl ?_
                refine V_iinc (v := (nI (k + 1))) (L' := [some (.ref a), some (.int (nI j)), some (.int 0), some (.int (nI (k + 1))), some (.int (nI (po k 1))), some (.int 0)]) C dX3_isEntry_149 rfl (nI_1 _) (by decide) rfl ?_
                refine V_goto C 33 dX3_isEntry_152 (by decide) ?_
                refine V_sub ?_ (ih (by omega))
                repeat' (first | exact ls_e | refine ls_n ?_ | refine ls_s ?_ | refine ls_i ?_ ?_ | refine ls_v ?_ ?_)
                rw [allI_s, q121]
                first | rfl | (refine bt ?_; rw [Bool.true_and]; unfold mwr bitI; simp [*]; done) | (refine bt ?_; rw [Bool.true_and]; unfold mwr bitI; simp [*]; omega) | (refine bf ?_; rw [Bool.true_and]; unfold mwr bitI; simp [*]; done)
              · refine V_iload C dX3_isEntry_124 rfl ?_
                refine V_if_eq C 143 dX3_isEntry_126 (by decide) (fun _ => ?_) (fun h => absurd (by decide) h)
                refine V_iconst C 1 dX3_isEntry_143 (by decide) ?_
                refine V_goto C 148 dX3_isEntry_144 (by decide) ?_
                refine V_istore_n (L' := [some (.ref a), some (.int (nI j)), some (.int 1), some (.int (nI k)), some (.int (nI (po k 1))), some (.int 0)]) C dX3_isEntry_148 rfl (by decide) rfl ?_
                refine V_iinc (v := (nI (k + 1))) (L' := [some (.ref a), some (.int (nI j)), some (.int 1), some (.int (nI (k + 1))), some (.int (nI (po k 1))), some (.int 0)]) C dX3_isEntry_149 rfl (nI_1 _) (by decide) rfl ?_
                refine V_goto C 33 dX3_isEntry_152 (by decide) ?_
                refine V_sub ?_ (ih (by omega))
                repeat' (first | exact ls_e | refine ls_n ?_ | refine ls_s ?_ | refine ls_i ?_ ?_ | refine ls_v ?_ ?_)
                rw [allI_s, q121]
                first | rfl | (refine bt ?_; rw [Bool.true_and]; unfold mwr bitI; simp [*]; done) | (refine bt ?_; rw [Bool.true_and]; unfold mwr bitI; simp [*]; omega) | (refine bf ?_; rw [Bool.true_and]; unfold mwr bitI; simp [*]; done)
            · refine V_aload_n C dX3_isEntry_83 rfl rfl ?_
              refine V_iload_n C dX3_isEntry_84 rfl rfl ?_
              refine V_iconst C 2 dX3_isEntry_85 (by decide) ?_
              refine V_ofIe (VR_V (As := [.int (nI k), .int 2]) (rest := []) C (ct_X3_part l G b M a ad S r n po ap hS hme hV k 2 (by omega) (by omega)) hma rfl (lw_V q875 q877 qs11 q46 q878) rfl nd_X3_part rfl (by decide) (by decide) dX3_isEntry_86 rfl ⟨by decide, by decide⟩ (Nat.le_of_ble_eq_true rfl)) ?_
              have hp86 := hV.2.2.2.2.2.1 k 2
              refine V_aload_n C dX3_isEntry_89 rfl rfl ?_
              refine V_iload_n C dX3_isEntry_90 rfl rfl ?_
              refine V_iconst C 2 dX3_isEntry_91 (by decide) ?_
              refine V_ofIe (VR_V (As := [.int (nI j), .int 2]) (rest := [.int (nI (po k 2))]) C (ct_X3_part l G b M a ad S r n po ap hS hme hV j 2 (by omega) (by omega)) hma rfl (lw_V q875 q877 qs11 q46 q878) rfl nd_X3_part rfl (by decide) (by decide) dX3_isEntry_92 rfl ⟨by decide, by decide⟩ (Nat.le_of_ble_eq_true rfl)) ?_
              have hp92 := hV.2.2.2.2.2.1 j 2
              refine V_nicmp_ne (x := po k 2) (y := po j 2) C 117 dX3_isEntry_95 (by decide) (by omega) (by omega) (fun q95 => ?_) (fun q95 => ?_)
              · refine V_iconst C 0 dX3_isEntry_117 (by decide) ?_
                refine V_istore (L' := [some (.ref a), some (.int (nI j)), some (.int (bI (allI (fun k => !mwr po ap ft P j k) k))), some (.int (nI k)), some (.int (nI (po k 1))), some (.int 0)]) C dX3_isEntry_118 (by decide) rfl ?_
                refine V_iload_n C dX3_isEntry_120 rfl rfl ?_
                refine V_ifb_eq C 147 dX3_isEntry_121 (by decide) (fun q121 => ?_) (fun q121 => ?_)
                · refine V_iconst C 0 dX3_isEntry_147 (by decide) ?_
                  refine V_istore_n (L' := [some (.ref a), some (.int (nI j)), some (.int 0), some (.int (nI k)), some (.int (nI (po k 1))), some (.int 0)]) C dX3_isEntry_148 rfl (by decide) rfl ?_
                  refine V_iinc (v := (nI (k + 1))) (L' := [some (.ref a), some (.int (nI j)), some (.int 0), some (.int (nI (k + 1))), some (.int (nI (po k 1))), some (.int 0)]) C dX3_isEntry_149 rfl (nI_1 _) (by decide) rfl ?_
                  refine V_goto C 33 dX3_isEntry_152 (by decide) ?_
                  refine V_sub ?_ (ih (by omega))
                  repeat' (first | exact ls_e | refine ls_n ?_ | refine ls_s ?_ | refine ls_i ?_ ?_ | refine ls_v ?_ ?_)
                  rw [allI_s, q121]
                  first | rfl | (refine bt ?_; rw [Bool.true_and]; unfold mwr bitI; simp [*]; done) | (refine bt ?_; rw [Bool.true_and]; unfold mwr bitI; simp [*]; omega) | (refine bf ?_; rw [Bool.true_and]; unfold mwr bitI; simp [*]; done)
                · refine V_iload C dX3_isEntry_124 rfl ?_
                  refine V_if_eq C 143 dX3_isEntry_126 (by decide) (fun _ => ?_) (fun h => absurd (by decide) h)
                  refine V_iconst C 1 dX3_isEntry_143 (by decide) ?_
                  refine V_goto C 148 dX3_isEntry_144 (by decide) ?_
                  refine V_istore_n (L' := [some (.ref a), some (.int (nI j)), some (.int 1), some (.int (nI k)), some (.int (nI (po k 1))), some (.int 0)]) C dX3_isEntry_148 rfl (by decide) rfl ?_
                  refine V_iinc (v := (nI (k + 1))) (L' := [some (.ref a), some (.int (nI j)), some (.int 1), some (.int (nI (k + 1))), some (.int (nI (po k 1))), some (.int 0)]) C dX3_isEntry_149 rfl (nI_1 _) (by decide) rfl ?_
                  refine V_goto C 33 dX3_isEntry_152 (by decide) ?_
                  refine V_sub ?_ (ih (by omega))
                  repeat' (first | exact ls_e | refine ls_n ?_ | refine ls_s ?_ | refine ls_i ?_ ?_ | refine ls_v ?_ ?_)
                  rw [allI_s, q121]
                  first | rfl | (refine bt ?_; rw [Bool.true_and]; unfold mwr bitI; simp [*]; done) | (refine bt ?_; rw [Bool.true_and]; unfold mwr bitI; simp [*]; omega) | (refine bf ?_; rw [Bool.true_and]; unfold mwr bitI; simp [*]; done)
              · refine V_aload_n C dX3_isEntry_98 rfl rfl ?_
                refine V_iload_n C dX3_isEntry_99 rfl rfl ?_
                refine V_iconst C 3 dX3_isEntry_100 (by decide) ?_
                refine V_ofIe (VR_V (As := [.int (nI k), .int 3]) (rest := []) C (ct_X3_part l G b M a ad S r n po ap hS hme hV k 3 (by omega) (by omega)) hma rfl (lw_V q875 q877 qs11 q46 q878) rfl nd_X3_part rfl (by decide) (by decide) dX3_isEntry_101 rfl ⟨by decide, by decide⟩ (Nat.le_of_ble_eq_true rfl)) ?_
                have hp101 := hV.2.2.2.2.2.1 k 3
                refine V_aload_n C dX3_isEntry_104 rfl rfl ?_
                refine V_iload_n C dX3_isEntry_105 rfl rfl ?_
                refine V_iconst C 3 dX3_isEntry_106 (by decide) ?_
                refine V_ofIe (VR_V (As := [.int (nI j), .int 3]) (rest := [.int (nI (po k 3))]) C (ct_X3_part l G b M a ad S r n po ap hS hme hV j 3 (by omega) (by omega)) hma rfl (lw_V q875 q877 qs11 q46 q878) rfl nd_X3_part rfl (by decide) (by decide) dX3_isEntry_107 rfl ⟨by decide, by decide⟩ (Nat.le_of_ble_eq_true rfl)) ?_
                have hp107 := hV.2.2.2.2.2.1 j 3
                refine V_nicmp_ne (x := po k 3) (y := po j 3) C 117 dX3_isEntry_110 (by decide) (by omega) (by omega) (fun q110 => ?_) (fun q110 => ?_)
                · refine V_iconst C 0 dX3_isEntry_117 (by decide) ?_
                  refine V_istore (L' := [some (.ref a), some (.int (nI j)), some (.int (bI (allI (fun k => !mwr po ap ft P j k) k))), some (.int (nI k)), some (.int (nI (po k 1))), some (.int 0)]) C dX3_isEntry_118 (by decide) rfl ?_
                  refine V_iload_n C dX3_isEntry_120 rfl rfl ?_
                  refine V_ifb_eq C 147 dX3_isEntry_121 (by decide) (fun q121 => ?_) (fun q121 => ?_)
                  · refine V_iconst C 0 dX3_isEntry_147 (by decide) ?_
                    refine V_istore_n (L' := [some (.ref a), some (.int (nI j)), some (.int 0), some (.int (nI k)), some (.int (nI (po k 1))), some (.int 0)]) C dX3_isEntry_148 rfl (by decide) rfl ?_
                    refine V_iinc (v := (nI (k + 1))) (L' := [some (.ref a), some (.int (nI j)), some (.int 0), some (.int (nI (k + 1))), some (.int (nI (po k 1))), some (.int 0)]) C dX3_isEntry_149 rfl (nI_1 _) (by decide) rfl ?_
                    refine V_goto C 33 dX3_isEntry_152 (by decide) ?_
                    refine V_sub ?_ (ih (by omega))
                    repeat' (first | exact ls_e | refine ls_n ?_ | refine ls_s ?_ | refine ls_i ?_ ?_ | refine ls_v ?_ ?_)
                    rw [allI_s, q121]
                    first | rfl | (refine bt ?_; rw [Bool.true_and]; unfold mwr bitI; simp [*]; done) | (refine bt ?_; rw [Bool.true_and]; unfold mwr bitI; simp [*]; omega) | (refine bf ?_; rw [Bool.true_and]; unfold mwr bitI; simp [*]; done)
                  · refine V_iload C dX3_isEntry_124 rfl ?_
                    refine V_if_eq C 143 dX3_isEntry_126 (by decide) (fun _ => ?_) (fun h => absurd (by decide) h)
                    refine V_iconst C 1 dX3_isEntry_143 (by decide) ?_
                    refine V_goto C 148 dX3_isEntry_144 (by decide) ?_
                    refine V_istore_n (L' := [some (.ref a), some (.int (nI j)), some (.int 1), some (.int (nI k)), some (.int (nI (po k 1))), some (.int 0)]) C dX3_isEntry_148 rfl (by decide) rfl ?_
                    refine V_iinc (v := (nI (k + 1))) (L' := [some (.ref a), some (.int (nI j)), some (.int 1), some (.int (nI (k + 1))), some (.int (nI (po k 1))), some (.int 0)]) C dX3_isEntry_149 rfl (nI_1 _) (by decide) rfl ?_
                    refine V_goto C 33 dX3_isEntry_152 (by decide) ?_
                    refine V_sub ?_ (ih (by omega))
                    repeat' (first | exact ls_e | refine ls_n ?_ | refine ls_s ?_ | refine ls_i ?_ ?_ | refine ls_v ?_ ?_)
                    rw [allI_s, q121]
                    first | rfl | (refine bt ?_; rw [Bool.true_and]; unfold mwr bitI; simp [*]; done) | (refine bt ?_; rw [Bool.true_and]; unfold mwr bitI; simp [*]; omega) | (refine bf ?_; rw [Bool.true_and]; unfold mwr bitI; simp [*]; done)
                · refine V_iconst C 1 dX3_isEntry_113 (by decide) ?_
                  refine V_goto C 118 dX3_isEntry_114 (by decide) ?_
                  refine V_istore (L' := [some (.ref a), some (.int (nI j)), some (.int (bI (allI (fun k => !mwr po ap ft P j k) k))), some (.int (nI k)), some (.int (nI (po k 1))), some (.int 1)]) C dX3_isEntry_118 (by decide) rfl ?_
                  refine V_iload_n C dX3_isEntry_120 rfl rfl ?_
                  refine V_ifb_eq C 147 dX3_isEntry_121 (by decide) (fun q121 => ?_) (fun q121 => ?_)
                  · refine V_iconst C 0 dX3_isEntry_147 (by decide) ?_
                    refine V_istore_n (L' := [some (.ref a), some (.int (nI j)), some (.int 0), some (.int (nI k)), some (.int (nI (po k 1))), some (.int 1)]) C dX3_isEntry_148 rfl (by decide) rfl ?_
                    refine V_iinc (v := (nI (k + 1))) (L' := [some (.ref a), some (.int (nI j)), some (.int 0), some (.int (nI (k + 1))), some (.int (nI (po k 1))), some (.int 1)]) C dX3_isEntry_149 rfl (nI_1 _) (by decide) rfl ?_
                    refine V_goto C 33 dX3_isEntry_152 (by decide) ?_
                    refine V_sub ?_ (ih (by omega))
                    repeat' (first | exact ls_e | refine ls_n ?_ | refine ls_s ?_ | refine ls_i ?_ ?_ | refine ls_v ?_ ?_)
                    rw [allI_s, q121]
                    first | rfl | (refine bt ?_; rw [Bool.true_and]; unfold mwr bitI; simp [*]; done) | (refine bt ?_; rw [Bool.true_and]; unfold mwr bitI; simp [*]; omega) | (refine bf ?_; rw [Bool.true_and]; unfold mwr bitI; simp [*]; done)
                  · refine V_iload C dX3_isEntry_124 rfl ?_
                    refine V_if_eq C 143 dX3_isEntry_126 (by decide) (fun h => absurd h (by decide)) (fun _ => ?_)
                    refine V_aload_n C dX3_isEntry_129 rfl rfl ?_
                    refine V_get (C0 := RX3) (T := TX3) (N := 12) (ci := 3) C 9 in_X3 rfl hma (by decide) q830 (fun _ h9 => h9) rfl dX3_isEntry_130 ?_
                    refine V_iload_n C dX3_isEntry_133 rfl rfl ?_
                    refine V_iald C hm9 (pk_in k 16 (by omega)) dX3_isEntry_134 ?_
                    refine V_top (y := (P k)) (by rw [nI_clamp (n := k) (by omega)]; exact (hP k (by omega))) ?_
                    refine V_iload_n C dX3_isEntry_135 rfl rfl ?_
                    refine V_ishr C dX3_isEntry_136 ?_
                    refine V_iconst C 1 dX3_isEntry_137 (by decide) ?_
                    refine V_iand C dX3_isEntry_138 ?_
                    refine V_iconst C 1 dX3_isEntry_139 (by decide) ?_
                    refine V_icmp_eq C 147 dX3_isEntry_140 (by decide) (fun q140 => ?_) (fun q140 => ?_)
                    · refine V_iconst C 0 dX3_isEntry_147 (by decide) ?_
                      refine V_istore_n (L' := [some (.ref a), some (.int (nI j)), some (.int 0), some (.int (nI k)), some (.int (nI (po k 1))), some (.int 1)]) C dX3_isEntry_148 rfl (by decide) rfl ?_
                      refine V_iinc (v := (nI (k + 1))) (L' := [some (.ref a), some (.int (nI j)), some (.int 0), some (.int (nI (k + 1))), some (.int (nI (po k 1))), some (.int 1)]) C dX3_isEntry_149 rfl (nI_1 _) (by decide) rfl ?_
                      refine V_goto C 33 dX3_isEntry_152 (by decide) ?_
                      refine V_sub ?_ (ih (by omega))
                      repeat' (first | exact ls_e | refine ls_n ?_ | refine ls_s ?_ | refine ls_i ?_ ?_ | refine ls_v ?_ ?_)
                      rw [allI_s, q121]
                      first | rfl | (refine bt ?_; rw [Bool.true_and]; unfold mwr bitI; simp [*]; done) | (refine bt ?_; rw [Bool.true_and]; unfold mwr bitI; simp [*]; omega) | (refine bf ?_; rw [Bool.true_and]; unfold mwr bitI; simp [*]; done)
                    · refine V_iconst C 1 dX3_isEntry_143 (by decide) ?_
                      refine V_goto C 148 dX3_isEntry_144 (by decide) ?_
                      refine V_istore_n (L' := [some (.ref a), some (.int (nI j)), some (.int 1), some (.int (nI k)), some (.int (nI (po k 1))), some (.int 1)]) C dX3_isEntry_148 rfl (by decide) rfl ?_
                      refine V_iinc (v := (nI (k + 1))) (L' := [some (.ref a), some (.int (nI j)), some (.int 1), some (.int (nI (k + 1))), some (.int (nI (po k 1))), some (.int 1)]) C dX3_isEntry_149 rfl (nI_1 _) (by decide) rfl ?_
                      refine V_goto C 33 dX3_isEntry_152 (by decide) ?_
                      refine V_sub ?_ (ih (by omega))
                      repeat' (first | exact ls_e | refine ls_n ?_ | refine ls_s ?_ | refine ls_i ?_ ?_ | refine ls_v ?_ ?_)
                      rw [allI_s, q121]
                      first | rfl | (refine bt ?_; rw [Bool.true_and]; unfold mwr bitI; simp [*]; done) | (refine bt ?_; rw [Bool.true_and]; unfold mwr bitI; simp [*]; omega) | (refine bf ?_; rw [Bool.true_and]; unfold mwr bitI; simp [*]; done)
  refine V_aload_n C dX3_isEntry_0 rfl rfl ?_
  refine V_iload_n C dX3_isEntry_1 rfl rfl ?_
  refine V_ofIe (VR_V (As := [.int (nI j)]) (rest := []) C (ct_X3_done l G b M a ad S r n po ap hS hme hV j (by omega)) hma rfl (lw_V q871 q873 qs10 q46 q874) rfl nd_X3_done rfl (by decide) (by decide) dX3_isEntry_2 rfl ⟨by decide, by decide⟩ (Nat.le_of_ble_eq_true rfl)) ?_
  refine V_ifb_eq C 27 dX3_isEntry_5 (by decide) (fun q5 => ?_) (fun q5 => ?_)
  · refine V_iconst C 0 dX3_isEntry_27 (by decide) ?_
    exact V_zret C rfl dX3_isEntry_28 (by decide) (by decide) ⟨_, rfl, by refine bf ?_; unfold mentry; simp [*]; try omega, rfl⟩
  · refine V_aload_n C dX3_isEntry_8 rfl rfl ?_
    refine V_get (C0 := RX3) (T := TX3) (N := 12) (ci := 3) C 8 in_X3 rfl hma (by decide) q829 (fun _ h9 => h9) rfl dX3_isEntry_9 ?_
    refine V_iload_n C dX3_isEntry_12 rfl rfl ?_
    refine V_zald C hm8 (pk_in j 16 (by omega)) dX3_isEntry_13 ?_
    refine V_top (y := (bI (ft j))) (by rw [nI_clamp (n := j) (by omega)]; exact (hF j (by omega))) ?_
    refine V_ifb_eq C 27 dX3_isEntry_14 (by decide) (fun q14 => ?_) (fun q14 => ?_)
    · refine V_iconst C 0 dX3_isEntry_27 (by decide) ?_
      exact V_zret C rfl dX3_isEntry_28 (by decide) (by decide) ⟨_, rfl, by refine bf ?_; unfold mentry; simp [*]; try omega, rfl⟩
    · refine V_aload_n C dX3_isEntry_17 rfl rfl ?_
      refine V_iload_n C dX3_isEntry_18 rfl rfl ?_
      refine V_iconst C 1 dX3_isEntry_19 (by decide) ?_
      refine V_ofIe (VR_V (As := [.int (nI j), .int 1]) (rest := []) C (ct_X3_part l G b M a ad S r n po ap hS hme hV j 1 (by omega) (by omega)) hma rfl (lw_V q875 q877 qs11 q46 q878) rfl nd_X3_part rfl (by decide) (by decide) dX3_isEntry_20 rfl ⟨by decide, by decide⟩ (Nat.le_of_ble_eq_true rfl)) ?_
      have hp20 := hV.2.2.2.2.2.1 j 1
      refine V_iconst C 2 dX3_isEntry_23 (by decide) ?_
      refine V_nicmp_le (x := po j 1) (y := 2) C 29 dX3_isEntry_24 (by decide) (by omega) (by omega) (fun q24 => ?_) (fun q24 => ?_)
      · refine V_iconst C 1 dX3_isEntry_29 (by decide) ?_
        refine V_istore_n (L' := [some (.ref a), some (.int (nI j)), some (.int 1), none, none, none]) C dX3_isEntry_30 rfl (by decide) rfl ?_
        refine V_iconst C 0 dX3_isEntry_31 (by decide) ?_
        refine V_istore_n (L' := [some (.ref a), some (.int (nI j)), some (.int 1), some (.int 0), none, none]) C dX3_isEntry_32 rfl (by decide) rfl ?_
        refine V_sub ?_ (loop (by simp [*]) 0 (Nat.zero_le _))
        repeat' (first | exact ls_e | refine ls_n ?_ | refine ls_s ?_ | refine ls_i ?_ ?_ | refine ls_v ?_ ?_)
        all_goals rfl
      · refine V_iconst C 0 dX3_isEntry_27 (by decide) ?_
        exact V_zret C rfl dX3_isEntry_28 (by decide) (by decide) ⟨_, rfl, by refine bf ?_; unfold mentry; simp [*]; try omega, rfl⟩
def firstI (P : Nat → Bool) : Nat → Option Nat
  | 0 => none
  | n + 1 => match firstI P n with
    | some j => some j
    | none => if P n = true then some n else none
theorem firstI_none {P : Nat → Bool} {n : Nat} : firstI P n = none ↔ ∀ j, j < n → P j = false := by
  induction n with
  | zero => simp [firstI]
  | succ n ih =>
    unfold firstI
    cases e : firstI P n with
    | some j =>
      simp only [reduceCtorEq, false_iff]
      intro h
      rw [ih.mpr (fun j hj => h j (by omega))] at e
      cases e
    | none =>
      have e2 := ih.mp e
      by_cases q : P n = true
      · simp only [q, if_true, reduceCtorEq, false_iff]
        intro h
        rw [h n (by omega)] at q
        cases q
      · simp only [q]
        constructor
        · intro _ j hj
          rcases Nat.lt_or_ge j n with z | z
          · exact e2 j z
          · rw [show j = n by omega]
            exact Bool.eq_false_iff.mpr q
        · intro _; rfl
theorem firstI_at {P : Nat → Bool} {n j : Nat} (hj : j < n) (hp : P j = true) (hb : ∀ i, i < j → P i = false) : firstI P n = some j := by
  induction n with
  | zero => omega
  | succ n ih =>
    unfold firstI
    rcases Nat.lt_or_ge j n with q | q
    · rw [ih q]
    · have e : j = n := by omega
      subst e
      rw [firstI_none.mpr hb]
      exact if_pos hp
theorem firstI_get {P : Nat → Bool} {n j : Nat} (h : firstI P n = some j) : j < n ∧ P j = true ∧ ∀ i, i < j → P i = false := by
  induction n with
  | zero => cases h
  | succ n ih =>
    unfold firstI at h
    cases e : firstI P n with
    | some i =>
      rw [e] at h
      cases h
      have := ih e
      exact ⟨by omega, this.2⟩
    | none =>
      rw [e] at h
      simp only at h
      split at h
      · cases h
        exact ⟨by omega, by assumption, fun i hi => firstI_none.mp e i hi⟩
      · cases h
/-- a place, or less than 0: how many there were -/
def plI (o : Option Nat) (c : Nat) : Int32 := match o with | some j => nI j | none => -1 - nI c
theorem neg_toInt {c : Nat} (h : c < 1000) : ((-1 : Int32) - nI c).toInt = -1 - (c : Int) := by
  rw [Int32.toInt_sub, nI_toInt (by omega), show (-1 : Int32).toInt = -1 from by decide]
  exact Int.bmod_eq_of_le (by omega) (by omega)
theorem neg_lt {c : Nat} (h : c < 1000) : (-1 : Int32) - nI c < 0 := by
  rw [Int32.lt_iff_toInt_lt, neg_toInt h, show (0 : Int32).toInt = 0 from by decide]
  omega
theorem neg_back (x : Int32) : (-1 : Int32) - (-1 - x) = x := by
  rw [Int32.sub_eq_add_neg, Int32.neg_sub, Int32.add_comm, Int32.sub_eq_add_neg, Int32.add_assoc, show (-(-1) + -1 : Int32) = 0 from by decide, Int32.add_zero]
theorem and_f1 {x y : Bool} (h : x = false) : (x && y) = false := by rw [h]; rfl
theorem and_f2 {x : Bool} {p : Prop} {i1 : Decidable p} (h : ¬ p) : (x && decide p) = false := by rw [decide_eq_false h, Bool.and_false]
theorem cnt_t {P : Nat → Bool} {n : Nat} (h : P n = true) : nI (cntI P n + 1) = nI (cntI P (n + 1)) := by rw [cntI_t h]
theorem cnt_f {P : Nat → Bool} {n : Nat} (h : P n = false) : nI (cntI P n) = nI (cntI P (n + 1)) := by rw [cntI_f h]
/-- the operation with id 4 + i -/
abbrev idJ (n : Nat) (po : Nat → Nat → Nat) (ap : Nat → Bool) (i : Nat) : Option Nat := mfind n po ap (nI (4 + i)) true
def entQ (n : Nat) (po : Nat → Nat → Nat) (ap ft : Nat → Bool) (P : Nat → Int32) (m key : Int32) (i : Nat) : Bool := match idJ n po ap i with
  | none => false
  | some j => decide (nI (po j 2) = m) && decide (nI (po j 3) = key) && mentry n po ap ft P j
def entO (n : Nat) (po : Nat → Nat → Nat) (ap ft : Nat → Bool) (P : Nat → Int32) (m key k : Int32) : Option Nat := (firstI (fun i => entQ n po ap ft P m key i && decide (nI (cntI (entQ n po ap ft P m key) i) = k)) 159).bind (idJ n po ap)
theorem entO_at {n : Nat} {po : Nat → Nat → Nat} {ap ft : Nat → Bool} {P : Nat → Int32} {m key k : Int32} {i j : Nat} (hi : i < 159) (hb : ∀ i2, i2 < i → (entQ n po ap ft P m key i2 && decide (nI (cntI (entQ n po ap ft P m key) i2) = k)) = false) (hq : entQ n po ap ft P m key i = true) (hk : nI (cntI (entQ n po ap ft P m key) i) = k) (hj : idJ n po ap i = some j) : entO n po ap ft P m key k = some j := by
  unfold entO
  rw [firstI_at hi (by rw [hq, hk]; simp) hb]
  exact hj
theorem entO_no {n : Nat} {po : Nat → Nat → Nat} {ap ft : Nat → Bool} {P : Nat → Int32} {m key k : Int32} (hb : ∀ i2, i2 < 159 → (entQ n po ap ft P m key i2 && decide (nI (cntI (entQ n po ap ft P m key) i2) = k)) = false) : entO n po ap ft P m key k = none := by
  unfold entO
  rw [firstI_none.mpr hb]
  rfl
theorem ct_X3_entryPlace (l : Launch) (G : mp_G) (b : Nat) (M : mp_M) (a : Nat) (ad : Nat → Nat) (S : Nat → Nat → Int32) (r n : Nat) (po : Nat → Nat → Nat) (ap : Nat → Bool) (hS : MdAt G M a ad S) (hme : S 7 0 = nI r) (hV : Vw S r n po ap) (ft : Nat → Bool) (hF : FitV S ft) (P : Nat → Int32) (hP : PstV S P) (mm key kk : Int32) : Ct l yX3_entryPlace cX3_entryPlace 7 (some .int) 3 0 0 G b ([.ref a, .int mm, .int key, .int kk] : List Value) M (pI (fun y M1 => y = plI (entO n po ap ft P mm key kk) (cntI (entQ n po ap ft P mm key) 159) ∧ M1 = M)) := by
  have hr := hV.1
  have hn := hV.2.1
  refine Ct.ofV (by decide) (vc_ref (vc_int (vc_int (vc_int vc_nil)))) (Nat.le_of_ble_eq_true rfl) ?_
  intro p e s m below meth c C hnm
  refine V_L (L1 := [some (.ref a), some (.int mm), some (.int key), some (.int kk), none, none, none]) rfl ?_
  obtain ⟨hma, hm0, hm1, hm2, hm3, hm4, hm5, hm8, hm9, hm10, hm11⟩ := id hS
  rw [hme] at hma
  refine V_iconst C 0 dX3_entryPlace_0 (by decide) ?_
  refine V_istore (L' := [some (.ref a), some (.int mm), some (.int key), some (.int kk), some (.int 0), none, none]) C dX3_entryPlace_1 (by decide) rfl ?_
  refine V_iconst C 4 dX3_entryPlace_3 (by decide) ?_
  refine V_istore (L' := [some (.ref a), some (.int mm), some (.int key), some (.int kk), some (.int 0), some (.int 4), none]) C dX3_entryPlace_4 (by decide) rfl ?_
  have loop : ∀ i, i ≤ 159 → (∀ i2, i2 < i → (entQ n po ap ft P mm key i2 && decide (nI (cntI (entQ n po ap ft P mm key) i2) = kk)) = false) → V p l e (rmOf 3 0 0) s m ([.ref a, .int mm, .int key, .int kk] : List Value).toArray below meth c (MQ below (Qp G b (pI (fun y M1 => y = plI (entO n po ap ft P mm key kk) (cntI (entQ n po ap ft P mm key) 159) ∧ M1 = M))) ([.ref a, .int mm, .int key, .int kk] : List Value).toArray s 0 0 (fun q => b ≤ q)) G b 7 0 0 6 [some (.ref a), some (.int mm), some (.int key), some (.int kk), some (.int (nI (cntI (entQ n po ap ft P mm key) i))), some (.int (nI (4 + i))), none] [] M := by
    refine up_ind 159 ?_
    intro i hi ih hb
    have hcn := cntI_le (entQ n po ap ft P mm key) i
    refine V_iload C dX3_entryPlace_6 rfl ?_
    refine V_sipush C 162 dX3_entryPlace_8 (by decide) ?_
    refine V_nicmp_gt (x := 4 + i) (y := 162) C 77 dX3_entryPlace_11 (by decide) (by omega) (by omega) (fun q11 => ?_) (fun q11 => ?_)
    · refine V_iconst C (-1) dX3_entryPlace_77 (by decide) ?_
      refine V_iload C dX3_entryPlace_78 rfl ?_
      refine V_isub C dX3_entryPlace_80 ?_
      exact V_iret C dX3_entryPlace_81 (by decide) (by decide) ⟨_, rfl, by rw [entO_no (fun i2 h2 => hb i2 (by omega)), show i = 159 by omega]; rfl, rfl⟩
    · refine V_aload_n C dX3_entryPlace_14 rfl rfl ?_
      refine V_iload C dX3_entryPlace_15 rfl ?_
      refine V_iconst C 1 dX3_entryPlace_17 (by decide) ?_
      refine V_ofIe (VR_V (As := [.int (nI (4 + i)), .int 1]) (rest := []) C (ct_X3_find l G b M a ad S r n po ap hS hme hV (nI (4 + i)) true) hma rfl (lw_V q883 q885 qs13 q46 q886) rfl nd_X3_find rfl (by decide) (by decide) dX3_entryPlace_18 rfl ⟨by decide, by decide⟩ (Nat.le_of_ble_eq_true rfl)) ?_
      rcases o18 : mfind n po ap (nI (4 + i)) true with _ | j18
      · refine V_top (y := -1) rfl ?_
        refine V_istore (L' := [some (.ref a), some (.int mm), some (.int key), some (.int kk), some (.int (nI (cntI (entQ n po ap ft P mm key) i))), some (.int (nI (4 + i))), some (.int (-1))]) C dX3_entryPlace_21 (by decide) rfl ?_
        refine V_iload C dX3_entryPlace_23 rfl ?_
        refine V_if_lt C 71 dX3_entryPlace_25 (by decide) (fun _ => ?_) (fun h => absurd (by decide) h)
        refine V_iinc (v := (nI ((4 + i) + 1))) (L' := [some (.ref a), some (.int mm), some (.int key), some (.int kk), some (.int (nI (cntI (entQ n po ap ft P mm key) i))), some (.int (nI ((4 + i) + 1))), some (.int (-1))]) C dX3_entryPlace_71 rfl (nI_1 _) (by decide) rfl ?_
        refine V_goto C 6 dX3_entryPlace_74 (by decide) ?_
        refine V_sub ?_ (ih (by omega) (fun i2 h2 => by rcases Nat.lt_or_ge i2 i with z | z; exact hb i2 z; rw [show i2 = i by omega]; first | (refine and_f2 ?_; assumption) | (refine and_f1 ?_; unfold entQ; simp [*]; done)))
        repeat' (first | exact ls_e | refine ls_n ?_ | refine ls_s ?_ | refine ls_i ?_ ?_ | refine ls_v ?_ ?_)
        first | (refine cnt_t ?_; unfold entQ; simp [*]; done) | (refine cnt_f ?_; unfold entQ; simp [*]; done)
      · have hj18 := (lastI_some o18).1
        have hk18 := hV.2.2.2.2.1 j18 hj18
        refine V_top (y := nI j18) rfl ?_
        refine V_istore (L' := [some (.ref a), some (.int mm), some (.int key), some (.int kk), some (.int (nI (cntI (entQ n po ap ft P mm key) i))), some (.int (nI (4 + i))), some (.int (nI j18))]) C dX3_entryPlace_21 (by decide) rfl ?_
        refine V_iload C dX3_entryPlace_23 rfl ?_
        refine V_if_lt C 71 dX3_entryPlace_25 (by decide) (fun h => absurd h (nI_pos (n := j18) (by omega))) (fun _ => ?_)
        refine V_aload_n C dX3_entryPlace_28 rfl rfl ?_
        refine V_iload C dX3_entryPlace_29 rfl ?_
        refine V_iconst C 2 dX3_entryPlace_31 (by decide) ?_
        refine V_ofIe (VR_V (As := [.int (nI j18), .int 2]) (rest := []) C (ct_X3_part l G b M a ad S r n po ap hS hme hV j18 2 (by omega) (by omega)) hma rfl (lw_V q875 q877 qs11 q46 q878) rfl nd_X3_part rfl (by decide) (by decide) dX3_entryPlace_32 rfl ⟨by decide, by decide⟩ (Nat.le_of_ble_eq_true rfl)) ?_
        have hp32 := hV.2.2.2.2.2.1 j18 2
        refine V_iload_n C dX3_entryPlace_35 rfl rfl ?_
        refine V_icmp_ne C 71 dX3_entryPlace_36 (by decide) (fun q36 => ?_) (fun q36 => ?_)
        · refine V_iinc (v := (nI ((4 + i) + 1))) (L' := [some (.ref a), some (.int mm), some (.int key), some (.int kk), some (.int (nI (cntI (entQ n po ap ft P mm key) i))), some (.int (nI ((4 + i) + 1))), some (.int (nI j18))]) C dX3_entryPlace_71 rfl (nI_1 _) (by decide) rfl ?_
          refine V_goto C 6 dX3_entryPlace_74 (by decide) ?_
          refine V_sub ?_ (ih (by omega) (fun i2 h2 => by rcases Nat.lt_or_ge i2 i with z | z; exact hb i2 z; rw [show i2 = i by omega]; first | (refine and_f2 ?_; assumption) | (refine and_f1 ?_; unfold entQ; simp [*]; done)))
          repeat' (first | exact ls_e | refine ls_n ?_ | refine ls_s ?_ | refine ls_i ?_ ?_ | refine ls_v ?_ ?_)
          first | (refine cnt_t ?_; unfold entQ; simp [*]; done) | (refine cnt_f ?_; unfold entQ; simp [*]; done)
        · refine V_aload_n C dX3_entryPlace_39 rfl rfl ?_
          refine V_iload C dX3_entryPlace_40 rfl ?_
          refine V_iconst C 3 dX3_entryPlace_42 (by decide) ?_
          refine V_ofIe (VR_V (As := [.int (nI j18), .int 3]) (rest := []) C (ct_X3_part l G b M a ad S r n po ap hS hme hV j18 3 (by omega) (by omega)) hma rfl (lw_V q875 q877 qs11 q46 q878) rfl nd_X3_part rfl (by decide) (by decide) dX3_entryPlace_43 rfl ⟨by decide, by decide⟩ (Nat.le_of_ble_eq_true rfl)) ?_
          have hp43 := hV.2.2.2.2.2.1 j18 3
          refine V_iload_n C dX3_entryPlace_46 rfl rfl ?_
          refine V_icmp_ne C 71 dX3_entryPlace_47 (by decide) (fun q47 => ?_) (fun q47 => ?_)
          · refine V_iinc (v := (nI ((4 + i) + 1))) (L' := [some (.ref a), some (.int mm), some (.int key), some (.int kk), some (.int (nI (cntI (entQ n po ap ft P mm key) i))), some (.int (nI ((4 + i) + 1))), some (.int (nI j18))]) C dX3_entryPlace_71 rfl (nI_1 _) (by decide) rfl ?_
            refine V_goto C 6 dX3_entryPlace_74 (by decide) ?_
            refine V_sub ?_ (ih (by omega) (fun i2 h2 => by rcases Nat.lt_or_ge i2 i with z | z; exact hb i2 z; rw [show i2 = i by omega]; first | (refine and_f2 ?_; assumption) | (refine and_f1 ?_; unfold entQ; simp [*]; done)))
            repeat' (first | exact ls_e | refine ls_n ?_ | refine ls_s ?_ | refine ls_i ?_ ?_ | refine ls_v ?_ ?_)
            first | (refine cnt_t ?_; unfold entQ; simp [*]; done) | (refine cnt_f ?_; unfold entQ; simp [*]; done)
          · refine V_aload_n C dX3_entryPlace_50 rfl rfl ?_
            refine V_iload C dX3_entryPlace_51 rfl ?_
            refine V_ofIe (VR_V (As := [.int (nI j18)]) (rest := []) C (ct_X3_isEntry l G b M a ad S r n po ap hS hme hV ft hF P hP j18 (by omega)) hma rfl (lw_V q986 q988 qs26 q46 q989) rfl nd_X3_isEntry rfl (by decide) (by decide) dX3_entryPlace_53 rfl ⟨by decide, by decide⟩ (Nat.le_of_ble_eq_true rfl)) ?_
            refine V_ifb_eq C 71 dX3_entryPlace_56 (by decide) (fun q56 => ?_) (fun q56 => ?_)
            · refine V_iinc (v := (nI ((4 + i) + 1))) (L' := [some (.ref a), some (.int mm), some (.int key), some (.int kk), some (.int (nI (cntI (entQ n po ap ft P mm key) i))), some (.int (nI ((4 + i) + 1))), some (.int (nI j18))]) C dX3_entryPlace_71 rfl (nI_1 _) (by decide) rfl ?_
              refine V_goto C 6 dX3_entryPlace_74 (by decide) ?_
              refine V_sub ?_ (ih (by omega) (fun i2 h2 => by rcases Nat.lt_or_ge i2 i with z | z; exact hb i2 z; rw [show i2 = i by omega]; first | (refine and_f2 ?_; assumption) | (refine and_f1 ?_; unfold entQ; simp [*]; done)))
              repeat' (first | exact ls_e | refine ls_n ?_ | refine ls_s ?_ | refine ls_i ?_ ?_ | refine ls_v ?_ ?_)
              first | (refine cnt_t ?_; unfold entQ; simp [*]; done) | (refine cnt_f ?_; unfold entQ; simp [*]; done)
            · refine V_iload C dX3_entryPlace_59 rfl ?_
              refine V_iload_n C dX3_entryPlace_61 rfl rfl ?_
              refine V_icmp_ne C 68 dX3_entryPlace_62 (by decide) (fun q62 => ?_) (fun q62 => ?_)
              · refine V_iinc (v := (nI ((cntI (entQ n po ap ft P mm key) i) + 1))) (L' := [some (.ref a), some (.int mm), some (.int key), some (.int kk), some (.int (nI ((cntI (entQ n po ap ft P mm key) i) + 1))), some (.int (nI (4 + i))), some (.int (nI j18))]) C dX3_entryPlace_68 rfl (nI_1 _) (by decide) rfl ?_
                refine V_iinc (v := (nI ((4 + i) + 1))) (L' := [some (.ref a), some (.int mm), some (.int key), some (.int kk), some (.int (nI ((cntI (entQ n po ap ft P mm key) i) + 1))), some (.int (nI ((4 + i) + 1))), some (.int (nI j18))]) C dX3_entryPlace_71 rfl (nI_1 _) (by decide) rfl ?_
                refine V_goto C 6 dX3_entryPlace_74 (by decide) ?_
                refine V_sub ?_ (ih (by omega) (fun i2 h2 => by rcases Nat.lt_or_ge i2 i with z | z; exact hb i2 z; rw [show i2 = i by omega]; first | (refine and_f2 ?_; assumption) | (refine and_f1 ?_; unfold entQ; simp [*]; done)))
                repeat' (first | exact ls_e | refine ls_n ?_ | refine ls_s ?_ | refine ls_i ?_ ?_ | refine ls_v ?_ ?_)
                first | (refine cnt_t ?_; unfold entQ; simp [*]; done) | (refine cnt_f ?_; unfold entQ; simp [*]; done)
              · refine V_iload C dX3_entryPlace_65 rfl ?_
                exact V_iret C dX3_entryPlace_67 (by decide) (by decide) ⟨_, rfl, by rw [entO_at (i := i) (j := j18) (by omega) hb (by unfold entQ; simp [*]) (by assumption) (by assumption)]; rfl, rfl⟩
  refine V_sub ?_ (loop 0 (Nat.zero_le _) (fun i2 h2 => absurd h2 (Nat.not_lt_zero _)))
  repeat' (first | exact ls_e | refine ls_n ?_ | refine ls_s ?_ | refine ls_i ?_ ?_ | refine ls_v ?_ ?_)
/-- elements, their parents (par) and how deep they stand (dp) -/
def Tree (n : Nat) (po : Nat → Nat → Nat) (ap : Nat → Bool) (E : Nat → Prop) (par dp : Nat → Nat) : Prop := ∀ j, E j → j < n ∧ dp j < 16 ∧ (po j 3 = 0 → dp j = 0) ∧ (po j 3 ≠ 0 → mfind n po ap (nI (po j 3)) true = some (par j) ∧ E (par j) ∧ dp j = dp (par j) + 1)
theorem ct_X3_steps (l : Launch) (G : mp_G) (b : Nat) (M : mp_M) (a : Nat) (ad : Nat → Nat) (S : Nat → Nat → Int32) (r n : Nat) (po : Nat → Nat → Nat) (ap : Nat → Bool) (hS : MdAt G M a ad S) (hme : S 7 0 = nI r) (hV : Vw S r n po ap) (E : Nat → Prop) (par dp : Nat → Nat) (hTr : Tree n po ap E par dp) (j : Nat) (hj : E j) : Ct l yX3_steps cX3_steps 5 (some .int) 2 0 0 G b ([.ref a, .int (nI j)] : List Value) M (pI (fun y M1 => y = nI (dp j) ∧ M1 = M)) := by
  have hr := hV.1
  have hn := hV.2.1
  have hd16 := (hTr j hj).2.1
  refine Ct.ofV (by decide) (vc_ref (vc_int vc_nil)) (Nat.le_of_ble_eq_true rfl) ?_
  intro p e s m below meth c C hnm
  refine V_L (L1 := [some (.ref a), some (.int (nI j)), none, none, none]) rfl ?_
  obtain ⟨hma, hm0, hm1, hm2, hm3, hm4, hm5, hm8, hm9, hm10, hm11⟩ := id hS
  rw [hme] at hma
  refine V_iconst C 0 dX3_steps_0 (by decide) ?_
  refine V_istore_n (L' := [some (.ref a), some (.int (nI j)), some (.int 0), none, none]) C dX3_steps_1 rfl (by decide) rfl ?_
  refine V_iload_n C dX3_steps_2 rfl rfl ?_
  refine V_istore_n (L' := [some (.ref a), some (.int (nI j)), some (.int 0), some (.int (nI j)), none]) C dX3_steps_3 rfl (by decide) rfl ?_
  refine V_iconst C 0 dX3_steps_4 (by decide) ?_
  refine V_istore (L' := [some (.ref a), some (.int (nI j)), some (.int 0), some (.int (nI j)), some (.int 0)]) C dX3_steps_5 (by decide) rfl ?_
  have loop : ∀ k, k ≤ dp j → ∀ at0, E at0 → dp at0 + k = dp j → V p l e (rmOf 2 0 0) s m ([.ref a, .int (nI j)] : List Value).toArray below meth c (MQ below (Qp G b (pI (fun y M1 => y = nI (dp j) ∧ M1 = M))) ([.ref a, .int (nI j)] : List Value).toArray s 0 0 (fun q => b ≤ q)) G b 5 0 0 7 [some (.ref a), some (.int (nI j)), some (.int (nI k)), some (.int (nI at0)), some (.int (nI k))] [] M := by
    refine up_ind (dp j) ?_
    intro k hk ih at0 hat hdp
    obtain ⟨t1, t2, t3, t4⟩ := hTr at0 hat
    refine V_iload C dX3_steps_7 rfl ?_
    refine V_bipush C 16 dX3_steps_9 (by decide) ?_
    refine V_nicmp_ge (x := k) (y := 16) C 44 dX3_steps_11 (by decide) (by omega) (by omega) (fun q11 => ?_) (fun q11 => ?_)
    · omega
    · refine V_aload_n C dX3_steps_14 rfl rfl ?_
      refine V_iload_n C dX3_steps_15 rfl rfl ?_
      refine V_iconst C 3 dX3_steps_16 (by decide) ?_
      refine V_ofIe (VR_V (As := [.int (nI at0), .int 3]) (rest := []) C (ct_X3_part l G b M a ad S r n po ap hS hme hV at0 3 (by omega) (by omega)) hma rfl (lw_V q875 q877 qs11 q46 q878) rfl nd_X3_part rfl (by decide) (by decide) dX3_steps_17 rfl ⟨by decide, by decide⟩ (Nat.le_of_ble_eq_true rfl)) ?_
      have hp17 := hV.2.2.2.2.2.1 at0 3
      refine V_nif_eq (x := po at0 3) C 44 dX3_steps_20 (by decide) (by omega) (fun q20 => ?_) (fun q20 => ?_)
      · have := t3 q20; exact V_iload_n C dX3_steps_44 rfl rfl (V_iret C dX3_steps_45 (by decide) (by decide) ⟨_, rfl, by rw [show k = dp j by omega], rfl⟩)
      · refine V_aload_n C dX3_steps_23 rfl rfl ?_
        refine V_aload_n C dX3_steps_24 rfl rfl ?_
        refine V_iload_n C dX3_steps_25 rfl rfl ?_
        refine V_iconst C 3 dX3_steps_26 (by decide) ?_
        refine V_ofIe (VR_V (As := [.int (nI at0), .int 3]) (rest := [.ref a]) C (ct_X3_part l G b M a ad S r n po ap hS hme hV at0 3 (by omega) (by omega)) hma rfl (lw_V q875 q877 qs11 q46 q878) rfl nd_X3_part rfl (by decide) (by decide) dX3_steps_27 rfl ⟨by decide, by decide⟩ (Nat.le_of_ble_eq_true rfl)) ?_
        have hp27 := hV.2.2.2.2.2.1 at0 3
        refine V_iconst C 1 dX3_steps_30 (by decide) ?_
        refine V_ofIe (VR_V (As := [.int (nI (po at0 3)), .int 1]) (rest := []) C (ct_X3_find l G b M a ad S r n po ap hS hme hV (nI (po at0 3)) true) hma rfl (lw_V q883 q885 qs13 q46 q886) rfl nd_X3_find rfl (by decide) (by decide) dX3_steps_31 rfl ⟨by decide, by decide⟩ (Nat.le_of_ble_eq_true rfl)) ?_
        rcases o31 : mfind n po ap (nI (po at0 3)) true with _ | j31
        · exact absurd o31 (by rw [(t4 q20).1]; simp)
        · have hj31 := (lastI_some o31).1
          have hk31 := hV.2.2.2.2.1 j31 hj31
          refine V_top (y := nI j31) rfl ?_
          refine V_istore_n (L' := [some (.ref a), some (.int (nI j)), some (.int (nI k)), some (.int (nI j31)), some (.int (nI k))]) C dX3_steps_34 rfl (by decide) rfl ?_
          refine V_iinc (v := (nI (k + 1))) (L' := [some (.ref a), some (.int (nI j)), some (.int (nI (k + 1))), some (.int (nI j31)), some (.int (nI k))]) C dX3_steps_35 rfl (nI_1 _) (by decide) rfl ?_
          refine V_iinc (v := (nI (k + 1))) (L' := [some (.ref a), some (.int (nI j)), some (.int (nI (k + 1))), some (.int (nI j31)), some (.int (nI (k + 1)))]) C dX3_steps_38 rfl (nI_1 _) (by decide) rfl ?_
          refine V_goto C 7 dX3_steps_41 (by decide) ?_
          obtain ⟨u1, u2, u3⟩ := t4 q20
          rw [o31] at u1
          cases u1
          exact ih (by omega) _ u2 (by omega)
  refine V_sub ?_ (loop 0 (Nat.zero_le _) j hj (by omega))
  repeat' (first | exact ls_e | refine ls_n ?_ | refine ls_s ?_ | refine ls_i ?_ ?_ | refine ls_v ?_ ?_)
def upF (par : Nat → Nat) : Nat → Nat → Nat
  | 0, j => j
  | k + 1, j => par (upF par k j)
theorem upF_E {n : Nat} {po : Nat → Nat → Nat} {ap : Nat → Bool} {E : Nat → Prop} {par dp : Nat → Nat} (hTr : Tree n po ap E par dp) {j : Nat} (hj : E j) : ∀ k, k ≤ dp j → E (upF par k j) ∧ dp (upF par k j) + k = dp j := by
  intro k
  induction k with
  | zero => intro _; exact ⟨hj, rfl⟩
  | succ k ih =>
    intro hk
    obtain ⟨h1, h2⟩ := ih (by omega)
    obtain ⟨t1, t2, t3, t4⟩ := hTr _ h1
    have hne : po (upF par k j) 3 ≠ 0 := fun z => by have := t3 z; omega
    obtain ⟨u1, u2, u3⟩ := t4 hne
    refine ⟨u2, ?_⟩
    show dp (par (upF par k j)) + (k + 1) = dp j
    omega
theorem ct_X3_up (l : Launch) (G : mp_G) (b : Nat) (M : mp_M) (a : Nat) (ad : Nat → Nat) (S : Nat → Nat → Int32) (r n : Nat) (po : Nat → Nat → Nat) (ap : Nat → Bool) (hS : MdAt G M a ad S) (hme : S 7 0 = nI r) (hV : Vw S r n po ap) (E : Nat → Prop) (par dp : Nat → Nat) (hTr : Tree n po ap E par dp) (j c0 : Nat) (hj : E j) (hc : c0 ≤ dp j) : Ct l yX3_up cX3_up 5 (some .int) 2 0 0 G b ([.ref a, .int (nI j), .int (nI c0)] : List Value) M (pI (fun y M1 => y = nI (upF par c0 j) ∧ M1 = M)) := by
  have hr := hV.1
  have hn := hV.2.1
  have hd16 := (hTr j hj).2.1
  refine Ct.ofV (by decide) (vc_ref (vc_int (vc_int vc_nil))) (Nat.le_of_ble_eq_true rfl) ?_
  intro p e s m below meth c C hnm
  refine V_L (L1 := [some (.ref a), some (.int (nI j)), some (.int (nI c0)), none, none]) rfl ?_
  obtain ⟨hma, hm0, hm1, hm2, hm3, hm4, hm5, hm8, hm9, hm10, hm11⟩ := id hS
  rw [hme] at hma
  refine V_iload_n C dX3_up_0 rfl rfl ?_
  refine V_istore_n (L' := [some (.ref a), some (.int (nI j)), some (.int (nI c0)), some (.int (nI j)), none]) C dX3_up_1 rfl (by decide) rfl ?_
  refine V_iconst C 0 dX3_up_2 (by decide) ?_
  refine V_istore (L' := [some (.ref a), some (.int (nI j)), some (.int (nI c0)), some (.int (nI j)), some (.int 0)]) C dX3_up_3 (by decide) rfl ?_
  have loop : ∀ k, k ≤ c0 → V p l e (rmOf 2 0 0) s m ([.ref a, .int (nI j), .int (nI c0)] : List Value).toArray below meth c (MQ below (Qp G b (pI (fun y M1 => y = nI (upF par c0 j) ∧ M1 = M))) ([.ref a, .int (nI j), .int (nI c0)] : List Value).toArray s 0 0 (fun q => b ≤ q)) G b 5 0 0 5 [some (.ref a), some (.int (nI j)), some (.int (nI c0)), some (.int (nI (upF par k j))), some (.int (nI k))] [] M := by
    refine up_ind c0 ?_
    intro k hk ih
    obtain ⟨hE, hdp⟩ := upF_E hTr hj k (by omega)
    obtain ⟨t1, t2, t3, t4⟩ := hTr _ hE
    refine V_iload C dX3_up_5 rfl ?_
    refine V_iload_n C dX3_up_7 rfl rfl ?_
    refine V_nicmp_ge (x := k) (y := c0) C 29 dX3_up_8 (by decide) (by omega) (by omega) (fun q8 => ?_) (fun q8 => ?_)
    · refine V_iload_n C dX3_up_29 rfl rfl ?_
      exact V_iret C dX3_up_30 (by decide) (by decide) ⟨_, rfl, by rw [show k = c0 by omega], rfl⟩
    · have hne : po (upF par k j) 3 ≠ 0 := fun z => by have := t3 z; omega
      refine V_aload_n C dX3_up_11 rfl rfl ?_
      refine V_aload_n C dX3_up_12 rfl rfl ?_
      refine V_iload_n C dX3_up_13 rfl rfl ?_
      refine V_iconst C 3 dX3_up_14 (by decide) ?_
      refine V_ofIe (VR_V (As := [.int (nI (upF par k j)), .int 3]) (rest := [.ref a]) C (ct_X3_part l G b M a ad S r n po ap hS hme hV (upF par k j) 3 (by omega) (by omega)) hma rfl (lw_V q875 q877 qs11 q46 q878) rfl nd_X3_part rfl (by decide) (by decide) dX3_up_15 rfl ⟨by decide, by decide⟩ (Nat.le_of_ble_eq_true rfl)) ?_
      have hp15 := hV.2.2.2.2.2.1 (upF par k j) 3
      refine V_iconst C 1 dX3_up_18 (by decide) ?_
      refine V_ofIe (VR_V (As := [.int (nI (po (upF par k j) 3)), .int 1]) (rest := []) C (ct_X3_find l G b M a ad S r n po ap hS hme hV (nI (po (upF par k j) 3)) true) hma rfl (lw_V q883 q885 qs13 q46 q886) rfl nd_X3_find rfl (by decide) (by decide) dX3_up_19 rfl ⟨by decide, by decide⟩ (Nat.le_of_ble_eq_true rfl)) ?_
      rcases o19 : mfind n po ap (nI (po (upF par k j) 3)) true with _ | j19
      · exact absurd o19 (by rw [(t4 hne).1]; simp)
      · have hj19 := (lastI_some o19).1
        have hk19 := hV.2.2.2.2.1 j19 hj19
        refine V_top (y := nI j19) rfl ?_
        refine V_istore_n (L' := [some (.ref a), some (.int (nI j)), some (.int (nI c0)), some (.int (nI j19)), some (.int (nI k))]) C dX3_up_22 rfl (by decide) rfl ?_
        refine V_iinc (v := (nI (k + 1))) (L' := [some (.ref a), some (.int (nI j)), some (.int (nI c0)), some (.int (nI j19)), some (.int (nI (k + 1)))]) C dX3_up_23 rfl (nI_1 _) (by decide) rfl ?_
        refine V_goto C 5 dX3_up_26 (by decide) ?_
        obtain ⟨u1, u2, u3⟩ := t4 hne
        rw [o19] at u1
        cases u1
        exact ih (by omega)
  refine V_sub ?_ (loop 0 (Nat.zero_le _))
  repeat' (first | exact ls_e | refine ls_n ?_ | refine ls_s ?_ | refine ls_i ?_ ?_ | refine ls_v ?_ ?_)

