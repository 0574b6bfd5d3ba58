set_option maxRecDepth 100000
/-! THE COMPONENT, K: the wire -/
theorem ct_X0_wellFormed (l : Launch) (G : mp_G) (b : Nat) (M : mp_M) (wa : Nat) (ws : List Nat) (cap : Nat) (hW : SbAt G M 1 wa ws cap) (hw16 : ws.length ≤ 16) : Ct l yX0_wellFormed cX0_wellFormed 4 (some .boolean) 5 0 0 G b ([.ref wa] : List Value) M (pI (fun y M1 => y = bI (wfB ws.length (oB ws)) ∧ M1 = M)) := by
  have hW0 := hW
  obtain ⟨wv, wf, wmb, hwa, hwv, hwl, hwc, hwt, hwF⟩ := hW
  have hwb : ∀ i, oB ws i < 256 := fun i => by
    rcases Nat.lt_or_ge i ws.length with z | z
    · exact (hwt i _ (oB_get z)).1
    · unfold oB; rw [List.getD_eq_getElem?_getD, List.getElem?_eq_none z]; decide
  have w0 := hwb 0
  have w1 := hwb 1
  have w2 := hwb 2
  have w3 := hwb 3
  have w4 := hwb 4
  have w5 := hwb 5
  refine Ct.ofV (by decide) (vc_ref vc_nil) (Nat.le_of_ble_eq_true rfl) ?_
  intro p e s m below meth c C hnm
  refine V_L (L1 := [some (.ref wa), none, none, none]) rfl ?_
  have tail : 6 ≤ ws.length → oB ws 5 ≤ 6 → ws.length = 6 + oB ws 5 → allI (befB (oB ws)) (ws.length - 6) = true → V p l e (rmOf 5 0 0) s m ([.ref wa] : List Value).toArray below meth c (MQ below (Qp G b (pI (fun y M1 => y = bI (wfB ws.length (oB ws)) ∧ M1 = M))) ([.ref wa] : List Value).toArray s 0 0 (fun q => b ≤ q)) G b 4 0 0 77 [some (.ref wa), none, none, none] [] M := by
    intro h6 h56 hl hall
    have hwf : wfB ws.length (oB ws) = (isIdB (oB ws 0) && (decide (oB ws 1 ≤ 5) && shB (oB ws 1) (oB ws 2) (oB ws 3) (oB ws 4))) := by
      unfold wfB preB
      rw [hall, decide_eq_true h6, decide_eq_true h56, decide_eq_true hl]
      cases isIdB (oB ws 0) <;> cases decide (oB ws 1 ≤ 5) <;> rfl
    rw [hwf]
    refine V_aload_n C dX0_wellFormed_77 rfl rfl ?_
    refine V_iconst C 0 dX0_wellFormed_78 (by decide) ?_
    refine V_ofIe (VR_V (As := [.int 0]) (rest := []) C (ct_J4_charAt l G b M 1 wa 0 (oB ws 0) cap ws hW0 (oB_get (by omega))) hwa rfl (lw_V q682 q683 q684 q43 q685) rfl nd_J4_charAt rfl (by decide) (by decide) dX0_wellFormed_79 rfl ⟨by decide, by decide⟩ (Nat.le_of_ble_eq_true rfl)) ?_
    have hwz79 := hwb 0
    refine V_ofIe (VR_S (As := [.int (nI (oB ws 0))]) (rest := []) C (ct_X0_isId l G b M (nI (oB ws 0))) (lw_S q182 q183 q36 q184) nd_X0_isId rfl (by decide) (by decide) dX0_wellFormed_82 rfl ⟨by decide, by decide⟩ (Nat.le_of_ble_eq_true rfl)) ?_
    refine V_ifb_eq C 118 dX0_wellFormed_85 (by decide) (fun k85 => ?_) (fun k85 => ?_)
    · refine V_iconst C 0 dX0_wellFormed_118 (by decide) ?_
      exact V_zret C rfl dX0_wellFormed_119 (by decide) (by decide) ⟨_, rfl, by (try rw [isIdI_n w0] at k85); (try rw [shI_n w1 w2 w3 w4] at k111); first | exact bt (by rw [k85, k111]; rfl) | exact bf (by rw [k85, k111]; rfl) | exact bf (by rw [k85]; rfl), rfl⟩
    · refine V_aload_n C dX0_wellFormed_88 rfl rfl ?_
      refine V_iconst C 1 dX0_wellFormed_89 (by decide) ?_
      refine V_ofIe (VR_V (As := [.int 1]) (rest := []) C (ct_J4_charAt l G b M 1 wa 1 (oB ws 1) cap ws hW0 (oB_get (by omega))) hwa rfl (lw_V q682 q683 q684 q43 q685) rfl nd_J4_charAt rfl (by decide) (by decide) dX0_wellFormed_90 rfl ⟨by decide, by decide⟩ (Nat.le_of_ble_eq_true rfl)) ?_
      have hwz90 := hwb 1
      refine V_aload_n C dX0_wellFormed_93 rfl rfl ?_
      refine V_iconst C 2 dX0_wellFormed_94 (by decide) ?_
      refine V_ofIe (VR_V (As := [.int 2]) (rest := [.int (nI (oB ws 1))]) C (ct_J4_charAt l G b M 1 wa 2 (oB ws 2) cap ws hW0 (oB_get (by omega))) hwa rfl (lw_V q682 q683 q684 q43 q685) rfl nd_J4_charAt rfl (by decide) (by decide) dX0_wellFormed_95 rfl ⟨by decide, by decide⟩ (Nat.le_of_ble_eq_true rfl)) ?_
      have hwz95 := hwb 2
      refine V_aload_n C dX0_wellFormed_98 rfl rfl ?_
      refine V_iconst C 3 dX0_wellFormed_99 (by decide) ?_
      refine V_ofIe (VR_V (As := [.int 3]) (rest := [.int (nI (oB ws 2)), .int (nI (oB ws 1))]) C (ct_J4_charAt l G b M 1 wa 3 (oB ws 3) cap ws hW0 (oB_get (by omega))) hwa rfl (lw_V q682 q683 q684 q43 q685) rfl nd_J4_charAt rfl (by decide) (by decide) dX0_wellFormed_100 rfl ⟨by decide, by decide⟩ (Nat.le_of_ble_eq_true rfl)) ?_
      have hwz100 := hwb 3
      refine V_aload_n C dX0_wellFormed_103 rfl rfl ?_
      refine V_iconst C 4 dX0_wellFormed_104 (by decide) ?_
      refine V_ofIe (VR_V (As := [.int 4]) (rest := [.int (nI (oB ws 3)), .int (nI (oB ws 2)), .int (nI (oB ws 1))]) C (ct_J4_charAt l G b M 1 wa 4 (oB ws 4) cap ws hW0 (oB_get (by omega))) hwa rfl (lw_V q682 q683 q684 q43 q685) rfl nd_J4_charAt rfl (by decide) (by decide) dX0_wellFormed_105 rfl ⟨by decide, by decide⟩ (Nat.le_of_ble_eq_true rfl)) ?_
      have hwz105 := hwb 4
      refine V_ofIe (VR_S (As := [.int (nI (oB ws 1)), .int (nI (oB ws 2)), .int (nI (oB ws 3)), .int (nI (oB ws 4))]) (rest := []) C (ct_X0_wellShaped l G b M (nI (oB ws 1)) (nI (oB ws 2)) (nI (oB ws 3)) (nI (oB ws 4))) (lw_S q179 q180 q36 q181) nd_X0_wellShaped rfl (by decide) (by decide) dX0_wellFormed_108 rfl ⟨by decide, by decide⟩ (Nat.le_of_ble_eq_true rfl)) ?_
      refine V_ifb_eq C 118 dX0_wellFormed_111 (by decide) (fun k111 => ?_) (fun k111 => ?_)
      · refine V_iconst C 0 dX0_wellFormed_118 (by decide) ?_
        exact V_zret C rfl dX0_wellFormed_119 (by decide) (by decide) ⟨_, rfl, by (try rw [isIdI_n w0] at k85); (try rw [shI_n w1 w2 w3 w4] at k111); first | exact bt (by rw [k85, k111]; rfl) | exact bf (by rw [k85, k111]; rfl) | exact bf (by rw [k85]; rfl), rfl⟩
      · refine V_iconst C 1 dX0_wellFormed_114 (by decide) ?_
        refine V_goto C 119 dX0_wellFormed_115 (by decide) ?_
        exact V_zret C rfl dX0_wellFormed_119 (by decide) (by decide) ⟨_, rfl, by (try rw [isIdI_n w0] at k85); (try rw [shI_n w1 w2 w3 w4] at k111); first | exact bt (by rw [k85, k111]; rfl) | exact bf (by rw [k85, k111]; rfl) | exact bf (by rw [k85]; rfl), rfl⟩
  have loop : 6 ≤ ws.length → oB ws 5 ≤ 6 → ws.length = 6 + oB ws 5 → ∀ k, k ≤ ws.length - 6 → (∀ i, i < k → befB (oB ws) i = true) → ∀ la, (la = if k = 0 then 0 else oB ws (5 + k)) → V p l e (rmOf 5 0 0) s m ([.ref wa] : List Value).toArray below meth c (MQ below (Qp G b (pI (fun y M1 => y = bI (wfB ws.length (oB ws)) ∧ M1 = M))) ([.ref wa] : List Value).toArray s 0 0 (fun q => b ≤ q)) G b 4 0 0 41 [some (.ref wa), some (.int (nI la)), some (.int (nI (6 + k))), none] [] M := by
    intro h6 h56 hl
    refine up_ind (ws.length - 6) ?_
    intro k hk ih hb la hla
    have wk := hwb (6 + k)
    have wk5 := hwb (5 + k)
    have hla2 : la < 256 := by rw [hla]; split <;> omega
    refine V_iload_n C dX0_wellFormed_41 rfl rfl ?_
    refine V_aload_n C dX0_wellFormed_42 rfl rfl ?_
    refine V_ofIe (VR_V (As := []) (rest := [.int (nI (6 + k))]) C (ct_J4_length l G b M 1 wa cap ws hW0) hwa rfl (lw_V q378 q379 q380 q43 q381) rfl nd_J4_length rfl (by decide) (by decide) dX0_wellFormed_43 rfl ⟨by decide, by decide⟩ (Nat.le_of_ble_eq_true rfl)) ?_
    refine V_nicmp_ge (x := 6 + k) (y := ws.length) C 77 dX0_wellFormed_46 (by decide) (by omega) (by omega) (fun k46 => ?_) (fun k46 => ?_)
    · refine V_sub ?_ (tail h6 h56 hl (allI_iff.mpr (fun i hi => hb i (by omega))))
      repeat' (first | exact ls_e | refine ls_n ?_ | refine ls_s ?_ | refine ls_i ?_ ?_ | refine ls_v ?_ ?_)
    · refine V_aload_n C dX0_wellFormed_49 rfl rfl ?_
      refine V_iload_n C dX0_wellFormed_50 rfl rfl ?_
      refine V_ofIe (VR_V (As := [.int (nI (6 + k))]) (rest := []) C (ct_J4_charAt l G b M 1 wa (6 + k) (oB ws (6 + k)) cap ws hW0 (oB_get (by omega))) hwa rfl (lw_V q682 q683 q684 q43 q685) rfl nd_J4_charAt rfl (by decide) (by decide) dX0_wellFormed_51 rfl ⟨by decide, by decide⟩ (Nat.le_of_ble_eq_true rfl)) ?_
      have hwz51 := hwb (6 + k)
      refine V_istore_n (L' := [some (.ref wa), some (.int (nI la)), some (.int (nI (6 + k))), some (.int (nI (oB ws (6 + k))))]) C dX0_wellFormed_54 rfl (by decide) rfl ?_
      refine V_iload_n C dX0_wellFormed_55 rfl rfl ?_
      refine V_ofIe (VR_S (As := [.int (nI (oB ws (6 + k)))]) (rest := []) C (ct_X0_isId l G b M (nI (oB ws (6 + k)))) (lw_S q182 q183 q36 q184) nd_X0_isId rfl (by decide) (by decide) dX0_wellFormed_56 rfl ⟨by decide, by decide⟩ (Nat.le_of_ble_eq_true rfl)) ?_
      refine V_ifb_eq C 67 dX0_wellFormed_59 (by decide) (fun k59 => ?_) (fun k59 => ?_)
      · refine V_iconst C 0 dX0_wellFormed_67 (by decide) ?_
        exact V_zret C rfl dX0_wellFormed_68 (by decide) (by decide) ⟨_, rfl, bf (by unfold wfB; rw [allI_no (P := befB (oB ws)) (k := k) (n := ws.length - 6) (by omega) (by unfold befB; first | (rw [k59, Bool.true_and]; by_cases z0 : k = 0; (rw [if_pos z0] at hla; unfold isIdB at k59; simp at k59; omega); (rw [if_neg z0] at hla; simp [z0]; omega)) | (rw [isIdI_n wk] at k59; rw [k59]; rfl))]; simp), rfl⟩
      · rw [isIdI_n wk] at k59
        refine V_iload_n C dX0_wellFormed_62 rfl rfl ?_
        refine V_iload_n C dX0_wellFormed_63 rfl rfl ?_
        refine V_nicmp_gt (x := oB ws (6 + k)) (y := la) C 69 dX0_wellFormed_64 (by decide) (by omega) (by omega) (fun k64 => ?_) (fun k64 => ?_)
        · refine V_iload_n C dX0_wellFormed_69 rfl rfl ?_
          refine V_istore_n (L' := [some (.ref wa), some (.int (nI (oB ws (6 + k)))), some (.int (nI (6 + k))), some (.int (nI (oB ws (6 + k))))]) C dX0_wellFormed_70 rfl (by decide) rfl ?_
          refine V_iinc (v := (nI (6 + k + 1))) (L' := [some (.ref wa), some (.int (nI (oB ws (6 + k)))), some (.int (nI (6 + k + 1))), some (.int (nI (oB ws (6 + k))))]) C dX0_wellFormed_71 rfl (nI_1 _) (by decide) rfl ?_
          refine V_goto C 41 dX0_wellFormed_74 (by decide) ?_
          refine V_sub ?_ (ih (by omega) (fun i hi => by rcases Nat.lt_or_ge i k with z | z; exact hb i z; (rw [show i = k by omega]; unfold befB; rw [k59]; by_cases z0 : k = 0; simp [z0]; (rw [if_neg z0] at hla; simp [z0]; omega))) (oB ws (6 + k)) (by rw [if_neg (by omega), show 5 + (k + 1) = 6 + k by omega]))
          repeat' (first | exact ls_e | refine ls_n ?_ | refine ls_s ?_ | refine ls_i ?_ ?_ | refine ls_v ?_ ?_)
        · refine V_iconst C 0 dX0_wellFormed_67 (by decide) ?_
          exact V_zret C rfl dX0_wellFormed_68 (by decide) (by decide) ⟨_, rfl, bf (by unfold wfB; rw [allI_no (P := befB (oB ws)) (k := k) (n := ws.length - 6) (by omega) (by unfold befB; first | (rw [k59, Bool.true_and]; by_cases z0 : k = 0; (rw [if_pos z0] at hla; unfold isIdB at k59; simp at k59; omega); (rw [if_neg z0] at hla; simp [z0]; omega)) | (rw [isIdI_n wk] at k59; rw [k59]; rfl))]; simp), rfl⟩
  refine V_aload_n C dX0_wellFormed_0 rfl rfl ?_
  refine V_ofIe (VR_V (As := []) (rest := []) C (ct_J4_length l G b M 1 wa cap ws hW0) hwa rfl (lw_V q378 q379 q380 q43 q381) rfl nd_J4_length rfl (by decide) (by decide) dX0_wellFormed_1 rfl ⟨by decide, by decide⟩ (Nat.le_of_ble_eq_true rfl)) ?_
  refine V_bipush C 6 dX0_wellFormed_4 (by decide) ?_
  refine V_nicmp_lt (x := ws.length) (y := 6) C 34 dX0_wellFormed_6 (by decide) (by omega) (by omega) (fun k6 => ?_) (fun k6 => ?_)
  · refine V_iconst C 0 dX0_wellFormed_34 (by decide) ?_
    exact V_zret C rfl dX0_wellFormed_35 (by decide) (by decide) ⟨_, rfl, by refine bf ?_; unfold wfB preB; first | (simp [*]; done) | (simp [*]; omega), rfl⟩
  · refine V_aload_n C dX0_wellFormed_9 rfl rfl ?_
    refine V_iconst C 5 dX0_wellFormed_10 (by decide) ?_
    refine V_ofIe (VR_V (As := [.int 5]) (rest := []) C (ct_J4_charAt l G b M 1 wa 5 (oB ws 5) cap ws hW0 (oB_get (by omega))) hwa rfl (lw_V q682 q683 q684 q43 q685) rfl nd_J4_charAt rfl (by decide) (by decide) dX0_wellFormed_11 rfl ⟨by decide, by decide⟩ (Nat.le_of_ble_eq_true rfl)) ?_
    have hwz11 := hwb 5
    refine V_bipush C 6 dX0_wellFormed_14 (by decide) ?_
    refine V_nicmp_gt (x := oB ws 5) (y := 6) C 34 dX0_wellFormed_16 (by decide) (by omega) (by omega) (fun k16 => ?_) (fun k16 => ?_)
    · refine V_iconst C 0 dX0_wellFormed_34 (by decide) ?_
      exact V_zret C rfl dX0_wellFormed_35 (by decide) (by decide) ⟨_, rfl, by refine bf ?_; unfold wfB preB; first | (simp [*]; done) | (simp [*]; omega), rfl⟩
    · refine V_aload_n C dX0_wellFormed_19 rfl rfl ?_
      refine V_ofIe (VR_V (As := []) (rest := []) C (ct_J4_length l G b M 1 wa cap ws hW0) hwa rfl (lw_V q378 q379 q380 q43 q381) rfl nd_J4_length rfl (by decide) (by decide) dX0_wellFormed_20 rfl ⟨by decide, by decide⟩ (Nat.le_of_ble_eq_true rfl)) ?_
      refine V_bipush C 6 dX0_wellFormed_23 (by decide) ?_
      refine V_aload_n C dX0_wellFormed_25 rfl rfl ?_
      refine V_iconst C 5 dX0_wellFormed_26 (by decide) ?_
      refine V_ofIe (VR_V (As := [.int 5]) (rest := [.int 6, .int (nI ws.length)]) C (ct_J4_charAt l G b M 1 wa 5 (oB ws 5) cap ws hW0 (oB_get (by omega))) hwa rfl (lw_V q682 q683 q684 q43 q685) rfl nd_J4_charAt rfl (by decide) (by decide) dX0_wellFormed_27 rfl ⟨by decide, by decide⟩ (Nat.le_of_ble_eq_true rfl)) ?_
      have hwz27 := hwb 5
      refine V_iadd C dX0_wellFormed_30 ?_
      refine V_top (y := (nI (6 + (oB ws 5)))) (nI_add 6 (oB ws 5)) ?_
      refine V_nicmp_eq (x := ws.length) (y := 6 + (oB ws 5)) C 36 dX0_wellFormed_31 (by decide) (by omega) (by omega) (fun k31 => ?_) (fun k31 => ?_)
      · refine V_iconst C 0 dX0_wellFormed_36 (by decide) ?_
        refine V_istore_n (L' := [some (.ref wa), some (.int 0), none, none]) C dX0_wellFormed_37 rfl (by decide) rfl ?_
        refine V_bipush C 6 dX0_wellFormed_38 (by decide) ?_
        refine V_istore_n (L' := [some (.ref wa), some (.int 0), some (.int 6), none]) C dX0_wellFormed_40 rfl (by decide) rfl ?_
        refine V_sub ?_ (loop k6 k16 k31 0 (Nat.zero_le _) (fun i hi => absurd hi (Nat.not_lt_zero _)) 0 (by simp))
        repeat' (first | exact ls_e | refine ls_n ?_ | refine ls_s ?_ | refine ls_i ?_ ?_ | refine ls_v ?_ ?_)
        all_goals rfl
      · refine V_iconst C 0 dX0_wellFormed_34 (by decide) ?_
        exact V_zret C rfl dX0_wellFormed_35 (by decide) (by decide) ⟨_, rfl, by refine bf ?_; unfold wfB preB; first | (simp [*]; done) | (simp [*]; omega), rfl⟩
theorem ct_X0_says (l : Launch) (G : mp_G) (b : Nat) (M : mp_M) (dx ra wa da : Nat) (rp : Nat → Nat) (hD : DocAt G M dx ra wa da rp) (ws : List Nat) (cap : Nat) (hW : SbAt G M 1 wa ws cap) (hw16 : ws.length ≤ 16) (h6 : 6 ≤ ws.length) (x : Int32) : Ct l yX0_says cX0_says 4 (some .boolean) 5 0 0 G b ([.ref dx, .int x] : List Value) M (pI (fun y M1 => y = bI (saysB ws.length (oB ws) x) ∧ M1 = M)) := by
  have hW0 := hW
  obtain ⟨wv, wf, wmb, hwa, hwv, hwl, hwc, hwt, hwF⟩ := hW
  have hwb : ∀ i, oB ws i < 256 := fun i => by
    rcases Nat.lt_or_ge i ws.length with z | z
    · exact (hwt i _ (oB_get z)).1
    · unfold oB; rw [List.getD_eq_getElem?_getD, List.getElem?_eq_none z]; decide
  refine Ct.ofV (by decide) (vc_ref (vc_int vc_nil)) (Nat.le_of_ble_eq_true rfl) ?_
  intro p e s m below meth c C hnm
  refine V_L (L1 := [some (.ref dx), some (.int x), none, none]) rfl ?_
  have loop : ∀ k, k ≤ ws.length - 6 → V p l e (rmOf 5 0 0) s m ([.ref dx, .int x] : List Value).toArray below meth c (MQ below (Qp G b (pI (fun y M1 => y = bI (saysB ws.length (oB ws) x) ∧ M1 = M))) ([.ref dx, .int x] : List Value).toArray s 0 0 (fun q => b ≤ q)) G b 4 0 0 13 [some (.ref dx), some (.int x), some (.int (bI (saysK (oB ws) x k))), some (.int (nI (6 + k)))] [] M := by
    refine up_ind (ws.length - 6) ?_
    intro k hk ih
    refine V_iload_n C dX0_says_13 rfl rfl ?_
    refine V_aload_n C dX0_says_14 rfl rfl ?_
    refine V_get (C0 := RX0) (T := TX0) (N := 3) (ci := 0) C 1 in_X0 rfl hD.1 (by decide) q162 (fun _ h9 => h9) rfl dX0_says_15 ?_
    refine V_ofIe (VR_V (As := []) (rest := [.int (nI (6 + k))]) C (ct_J4_length l G b M 1 wa cap ws hW0) hwa rfl (lw_V q378 q379 q380 q43 q381) rfl nd_J4_length rfl (by decide) (by decide) dX0_says_18 rfl ⟨by decide, by decide⟩ (Nat.le_of_ble_eq_true rfl)) ?_
    refine V_nicmp_ge (x := 6 + k) (y := ws.length) C 52 dX0_says_21 (by decide) (by omega) (by omega) (fun k21 => ?_) (fun k21 => ?_)
    · refine V_iload_n C dX0_says_52 rfl rfl ?_
      exact V_zret C (bI_nar _) dX0_says_53 (by decide) (by decide) ⟨_, rfl, by rw [show k = ws.length - 6 by omega]; rfl, rfl⟩
    · refine V_iload_n C dX0_says_24 rfl rfl ?_
      refine V_ifb_ne C 40 dX0_says_25 (by decide) (fun k25 => ?_) (fun k25 => ?_)
      · refine V_iconst C 1 dX0_says_40 (by decide) ?_
        refine V_goto C 45 dX0_says_41 (by decide) ?_
        refine V_istore_n (L' := [some (.ref dx), some (.int x), some (.int 1), some (.int (nI (6 + k)))]) C dX0_says_45 rfl (by decide) rfl ?_
        refine V_iinc (v := (nI (6 + k + 1))) (L' := [some (.ref dx), some (.int x), some (.int 1), some (.int (nI (6 + k + 1)))]) C dX0_says_46 rfl (nI_1 _) (by decide) rfl ?_
        refine V_goto C 13 dX0_says_49 (by decide) ?_
        refine V_sub ?_ (ih (by omega))
        repeat' (first | exact ls_e | refine ls_n ?_ | refine ls_s ?_ | refine ls_i ?_ ?_ | refine ls_v ?_ ?_)
        rw [saysK_s]
        first | (rw [k25]; rfl) | (refine bt ?_; simp [*]; done) | (refine bf ?_; rw [k25]; simp [*]; done)
      · refine V_aload_n C dX0_says_28 rfl rfl ?_
        refine V_get (C0 := RX0) (T := TX0) (N := 3) (ci := 0) C 1 in_X0 rfl hD.1 (by decide) q162 (fun _ h9 => h9) rfl dX0_says_29 ?_
        refine V_iload_n C dX0_says_32 rfl rfl ?_
        refine V_ofIe (VR_V (As := [.int (nI (6 + k))]) (rest := []) C (ct_J4_charAt l G b M 1 wa (6 + k) (oB ws (6 + k)) cap ws hW0 (oB_get (by omega))) hwa rfl (lw_V q682 q683 q684 q43 q685) rfl nd_J4_charAt rfl (by decide) (by decide) dX0_says_33 rfl ⟨by decide, by decide⟩ (Nat.le_of_ble_eq_true rfl)) ?_
        have hwz33 := hwb (6 + k)
        refine V_iload_n C dX0_says_36 rfl rfl ?_
        refine V_icmp_ne C 44 dX0_says_37 (by decide) (fun k37 => ?_) (fun k37 => ?_)
        · refine V_iconst C 0 dX0_says_44 (by decide) ?_
          refine V_istore_n (L' := [some (.ref dx), some (.int x), some (.int 0), some (.int (nI (6 + k)))]) C dX0_says_45 rfl (by decide) rfl ?_
          refine V_iinc (v := (nI (6 + k + 1))) (L' := [some (.ref dx), some (.int x), some (.int 0), some (.int (nI (6 + k + 1)))]) C dX0_says_46 rfl (nI_1 _) (by decide) rfl ?_
          refine V_goto C 13 dX0_says_49 (by decide) ?_
          refine V_sub ?_ (ih (by omega))
          repeat' (first | exact ls_e | refine ls_n ?_ | refine ls_s ?_ | refine ls_i ?_ ?_ | refine ls_v ?_ ?_)
          rw [saysK_s]
          first | (rw [k25]; rfl) | (refine bt ?_; simp [*]; done) | (refine bf ?_; rw [k25]; simp [*]; done)
        · refine V_iconst C 1 dX0_says_40 (by decide) ?_
          refine V_goto C 45 dX0_says_41 (by decide) ?_
          refine V_istore_n (L' := [some (.ref dx), some (.int x), some (.int 1), some (.int (nI (6 + k)))]) C dX0_says_45 rfl (by decide) rfl ?_
          refine V_iinc (v := (nI (6 + k + 1))) (L' := [some (.ref dx), some (.int x), some (.int 1), some (.int (nI (6 + k + 1)))]) C dX0_says_46 rfl (nI_1 _) (by decide) rfl ?_
          refine V_goto C 13 dX0_says_49 (by decide) ?_
          refine V_sub ?_ (ih (by omega))
          repeat' (first | exact ls_e | refine ls_n ?_ | refine ls_s ?_ | refine ls_i ?_ ?_ | refine ls_v ?_ ?_)
          rw [saysK_s]
          first | (rw [k25]; rfl) | (refine bt ?_; simp [*]; done) | (refine bf ?_; rw [k25]; simp [*]; done)
  refine V_iload_n C dX0_says_0 rfl rfl ?_
  refine V_if_ne C 8 dX0_says_1 (by decide) (fun k1 => ?_) (fun k1 => ?_)
  · refine V_iconst C 0 dX0_says_8 (by decide) ?_
    refine V_istore_n (L' := [some (.ref dx), some (.int x), some (.int 0), none]) C dX0_says_9 rfl (by decide) rfl ?_
    refine V_bipush C 6 dX0_says_10 (by decide) ?_
    refine V_istore_n (L' := [some (.ref dx), some (.int x), some (.int 0), some (.int 6)]) C dX0_says_12 rfl (by decide) rfl ?_
    refine V_sub ?_ (loop 0 (Nat.zero_le _))
    repeat' (first | exact ls_e | refine ls_n ?_ | refine ls_s ?_ | refine ls_i ?_ ?_ | refine ls_v ?_ ?_)
    first | (refine bt ?_; unfold saysK; simp [*, anyI]; done) | (refine bf ?_; unfold saysK; simp [*, anyI]; done)
  · refine V_iconst C 1 dX0_says_4 (by decide) ?_
    refine V_goto C 9 dX0_says_5 (by decide) ?_
    refine V_istore_n (L' := [some (.ref dx), some (.int x), some (.int 1), none]) C dX0_says_9 rfl (by decide) rfl ?_
    refine V_bipush C 6 dX0_says_10 (by decide) ?_
    refine V_istore_n (L' := [some (.ref dx), some (.int x), some (.int 1), some (.int 6)]) C dX0_says_12 rfl (by decide) rfl ?_
    refine V_sub ?_ (loop 0 (Nat.zero_le _))
    repeat' (first | exact ls_e | refine ls_n ?_ | refine ls_s ?_ | refine ls_i ?_ ?_ | refine ls_v ?_ ?_)
    first | (refine bt ?_; unfold saysK; simp [*, anyI]; done) | (refine bf ?_; unfold saysK; simp [*, anyI]; done)
theorem ct_X0_wire (l : Launch) (G : mp_G) (b : Nat) (M : mp_M) (dx ra wa da : Nat) (rp : Nat → Nat) (hD : DocAt G M dx ra wa da rp) (ws : List Nat) (cap : Nat) (hW : SbAt G M 1 wa ws cap) (hw16 : ws.length ≤ 16) (x : Int32) : Ct l yX0_wire cX0_wire 2 (some .int) 5 0 0 G b ([.ref dx, .int x] : List Value) M (pI (fun y M1 => y = (if x = -1 then nI ws.length else if ¬ x < 0 ∧ x < nI ws.length then nI (oB ws x.toNatClampNeg) else -1) ∧ M1 = M)) := by
  have hW0 := hW
  obtain ⟨wv, wf, wmb, hwa, hwv, hwl, hwc, hwt, hwF⟩ := hW
  have hwb : ∀ i, oB ws i < 256 := fun i => by
    rcases Nat.lt_or_ge i ws.length with z | z
    · exact (hwt i _ (oB_get z)).1
    · unfold oB; rw [List.getD_eq_getElem?_getD, List.getElem?_eq_none z]; decide
  rcases pk_ix x (n := ws.length) (by omega) with hx | hx | ⟨j, hj, hxj⟩
  · refine Ct.ofV (by decide) (vc_ref (vc_int vc_nil)) (Nat.le_of_ble_eq_true rfl) ?_
    intro p e s m below meth c C hnm
    refine V_L (L1 := [some (.ref dx), some (.int x)]) rfl ?_
    refine V_iload_n C dX0_wire_0 rfl rfl ?_
    refine V_iconst C (-1) dX0_wire_1 (by decide) ?_
    refine V_icmp_ne C 13 dX0_wire_2 (by decide) (fun k2 => ?_) (fun k2 => ?_)
    · refine V_iload_n C dX0_wire_13 rfl rfl ?_
      refine V_if_lt C 28 dX0_wire_14 (by decide) (fun k14 => ?_) (fun k14 => ?_)
      · refine V_iconst C (-1) dX0_wire_28 (by decide) ?_
        refine V_goto C 40 dX0_wire_29 (by decide) ?_
        exact V_iret C dX0_wire_40 (by decide) (by decide) ⟨_, rfl, by first | rw [if_pos k2] | (rw [if_neg k2, if_neg (fun z => z.1 hx)]), rfl⟩
      · exact absurd hx k14
    · refine V_aload_n C dX0_wire_5 rfl rfl ?_
      refine V_get (C0 := RX0) (T := TX0) (N := 3) (ci := 0) C 1 in_X0 rfl hD.1 (by decide) q162 (fun _ h9 => h9) rfl dX0_wire_6 ?_
      refine V_ofIe (VR_V (As := []) (rest := []) C (ct_J4_length l G b M 1 wa cap ws hW0) hwa rfl (lw_V q378 q379 q380 q43 q381) rfl nd_J4_length rfl (by decide) (by decide) dX0_wire_9 rfl ⟨by decide, by decide⟩ (Nat.le_of_ble_eq_true rfl)) ?_
      exact V_iret C dX0_wire_12 (by decide) (by decide) ⟨_, rfl, by first | rw [if_pos k2] | (rw [if_neg k2, if_neg (fun z => z.1 hx)]), rfl⟩
  · refine Ct.ofV (by decide) (vc_ref (vc_int vc_nil)) (Nat.le_of_ble_eq_true rfl) ?_
    intro p e s m below meth c C hnm
    refine V_L (L1 := [some (.ref dx), some (.int x)]) rfl ?_
    refine V_iload_n C dX0_wire_0 rfl rfl ?_
    refine V_iconst C (-1) dX0_wire_1 (by decide) ?_
    refine V_icmp_ne C 13 dX0_wire_2 (by decide) (fun k2 => ?_) (fun k2 => ?_)
    · refine V_iload_n C dX0_wire_13 rfl rfl ?_
      refine V_if_lt C 28 dX0_wire_14 (by decide) (fun k14 => ?_) (fun k14 => ?_)
      · refine V_iconst C (-1) dX0_wire_28 (by decide) ?_
        refine V_goto C 40 dX0_wire_29 (by decide) ?_
        exact V_iret C dX0_wire_40 (by decide) (by decide) ⟨_, rfl, by first | rw [if_pos k2] | (rw [if_neg k2, if_neg (fun z => Int32.not_lt.mpr hx z.2)]), rfl⟩
      · refine V_iload_n C dX0_wire_17 rfl rfl ?_
        refine V_aload_n C dX0_wire_18 rfl rfl ?_
        refine V_get (C0 := RX0) (T := TX0) (N := 3) (ci := 0) C 1 in_X0 rfl hD.1 (by decide) q162 (fun _ h9 => h9) rfl dX0_wire_19 ?_
        refine V_ofIe (VR_V (As := []) (rest := [.int x]) C (ct_J4_length l G b M 1 wa cap ws hW0) hwa rfl (lw_V q378 q379 q380 q43 q381) rfl nd_J4_length rfl (by decide) (by decide) dX0_wire_22 rfl ⟨by decide, by decide⟩ (Nat.le_of_ble_eq_true rfl)) ?_
        refine V_icmp_lt C 32 dX0_wire_25 (by decide) (fun k25 => ?_) (fun k25 => ?_)
        · exact absurd k25 (Int32.not_lt.mpr hx)
        · refine V_iconst C (-1) dX0_wire_28 (by decide) ?_
          refine V_goto C 40 dX0_wire_29 (by decide) ?_
          exact V_iret C dX0_wire_40 (by decide) (by decide) ⟨_, rfl, by first | rw [if_pos k2] | (rw [if_neg k2, if_neg (fun z => Int32.not_lt.mpr hx z.2)]), rfl⟩
    · refine V_aload_n C dX0_wire_5 rfl rfl ?_
      refine V_get (C0 := RX0) (T := TX0) (N := 3) (ci := 0) C 1 in_X0 rfl hD.1 (by decide) q162 (fun _ h9 => h9) rfl dX0_wire_6 ?_
      refine V_ofIe (VR_V (As := []) (rest := []) C (ct_J4_length l G b M 1 wa cap ws hW0) hwa rfl (lw_V q378 q379 q380 q43 q381) rfl nd_J4_length rfl (by decide) (by decide) dX0_wire_9 rfl ⟨by decide, by decide⟩ (Nat.le_of_ble_eq_true rfl)) ?_
      exact V_iret C dX0_wire_12 (by decide) (by decide) ⟨_, rfl, by first | rw [if_pos k2] | (rw [if_neg k2, if_neg (fun z => Int32.not_lt.mpr hx z.2)]), rfl⟩
  · refine Ct.ofV (by decide) (vc_ref (vc_int vc_nil)) (Nat.le_of_ble_eq_true rfl) ?_
    intro p e s m below meth c C hnm
    refine V_L (L1 := [some (.ref dx), some (.int x)]) rfl ?_
    refine V_L (L1 := [some (.ref dx), some (.int (nI j))]) (by rw [hxj]) ?_
    refine V_iload_n C dX0_wire_0 rfl rfl ?_
    refine V_iconst C (-1) dX0_wire_1 (by decide) ?_
    refine V_icmp_ne C 13 dX0_wire_2 (by decide) (fun k2 => ?_) (fun k2 => ?_)
    · refine V_iload_n C dX0_wire_13 rfl rfl ?_
      refine V_if_lt C 28 dX0_wire_14 (by decide) (fun h => absurd h (nI_pos (n := j) (by omega))) (fun _ => ?_)
      refine V_iload_n C dX0_wire_17 rfl rfl ?_
      refine V_aload_n C dX0_wire_18 rfl rfl ?_
      refine V_get (C0 := RX0) (T := TX0) (N := 3) (ci := 0) C 1 in_X0 rfl hD.1 (by decide) q162 (fun _ h9 => h9) rfl dX0_wire_19 ?_
      refine V_ofIe (VR_V (As := []) (rest := [.int (nI j)]) C (ct_J4_length l G b M 1 wa cap ws hW0) hwa rfl (lw_V q378 q379 q380 q43 q381) rfl nd_J4_length rfl (by decide) (by decide) dX0_wire_22 rfl ⟨by decide, by decide⟩ (Nat.le_of_ble_eq_true rfl)) ?_
      refine V_nicmp_lt (x := j) (y := ws.length) C 32 dX0_wire_25 (by decide) (by omega) (by omega) (fun k25 => ?_) (fun k25 => ?_)
      · refine V_aload_n C dX0_wire_32 rfl rfl ?_
        refine V_get (C0 := RX0) (T := TX0) (N := 3) (ci := 0) C 1 in_X0 rfl hD.1 (by decide) q162 (fun _ h9 => h9) rfl dX0_wire_33 ?_
        refine V_iload_n C dX0_wire_36 rfl rfl ?_
        refine V_ofIe (VR_V (As := [.int (nI j)]) (rest := []) C (ct_J4_charAt l G b M 1 wa j (oB ws j) cap ws hW0 (oB_get (by omega))) hwa rfl (lw_V q682 q683 q684 q43 q685) rfl nd_J4_charAt rfl (by decide) (by decide) dX0_wire_37 rfl ⟨by decide, by decide⟩ (Nat.le_of_ble_eq_true rfl)) ?_
        have hwz37 := hwb j
        exact V_iret C dX0_wire_40 (by decide) (by decide) ⟨_, rfl, by rw [hxj]; first | rw [if_pos k2] | (rw [if_neg k2, if_pos ⟨nI_pos (by omega), nI_lt hj (by omega)⟩, nI_clamp (by omega)]), rfl⟩
      · omega
    · refine V_aload_n C dX0_wire_5 rfl rfl ?_
      refine V_get (C0 := RX0) (T := TX0) (N := 3) (ci := 0) C 1 in_X0 rfl hD.1 (by decide) q162 (fun _ h9 => h9) rfl dX0_wire_6 ?_
      refine V_ofIe (VR_V (As := []) (rest := []) C (ct_J4_length l G b M 1 wa cap ws hW0) hwa rfl (lw_V q378 q379 q380 q43 q381) rfl nd_J4_length rfl (by decide) (by decide) dX0_wire_9 rfl ⟨by decide, by decide⟩ (Nat.le_of_ble_eq_true rfl)) ?_
      exact V_iret C dX0_wire_12 (by decide) (by decide) ⟨_, rfl, by rw [hxj]; first | rw [if_pos k2] | (rw [if_neg k2, if_pos ⟨nI_pos (by omega), nI_lt hj (by omega)⟩, nI_clamp (by omega)]), rfl⟩
theorem ct_X0_cut (l : Launch) (G : mp_G) (b : Nat) (M : mp_M) (dx ra wa da : Nat) (rp : Nat → Nat) (hD : DocAt G M dx ra wa da rp) (ws : List Nat) (cap : Nat) (hW : SbAt G M 1 wa ws cap) (hw16 : ws.length ≤ 16) (x : Int32) : Ct l yX0_cut cX0_cut 2 (some .boolean) 6 1 64 G b ([.ref dx, .int x] : List Value) M (pI (fun y M1 => (∃ j, j ≤ ws.length ∧ x = nI j ∧ y = 1 ∧ SbAt G M1 1 wa (ws.take j) cap ∧ KeepG 1 M M1) ∨ ((∀ j, j ≤ ws.length → x ≠ nI j) ∧ y = 0 ∧ M1 = M))) := by
  have hW0 := hW
  obtain ⟨wv, wf, wmb, hwa, hwv, hwl, hwc, hwt, hwF⟩ := hW
  have hwb : ∀ i, oB ws i < 256 := fun i => by
    rcases Nat.lt_or_ge i ws.length with z | z
    · exact (hwt i _ (oB_get z)).1
    · unfold oB; rw [List.getD_eq_getElem?_getD, List.getElem?_eq_none z]; decide
  rcases pk_ix x (n := ws.length + 1) (by omega) with hx | hx | ⟨j, hj, hxj⟩
  · refine Ct.ofV (by decide) (vc_ref (vc_int vc_nil)) (Nat.le_of_ble_eq_true rfl) ?_
    intro p e s m below meth c C hnm
    refine V_L (L1 := [some (.ref dx), some (.int x)]) rfl ?_
    refine V_iload_n C dX0_cut_0 rfl rfl ?_
    refine V_if_lt C 15 dX0_cut_1 (by decide) (fun k1 => ?_) (fun k1 => ?_)
    · refine V_iconst C 0 dX0_cut_15 (by decide) ?_
      exact V_zret C rfl dX0_cut_16 (by decide) (by decide) ⟨_, rfl, Or.inr ⟨fun j hj z => by rw [z] at hx; exact nI_pos (by omega) hx, rfl, rfl⟩⟩
    · exact absurd hx k1
  · refine Ct.ofV (by decide) (vc_ref (vc_int vc_nil)) (Nat.le_of_ble_eq_true rfl) ?_
    intro p e s m below meth c C hnm
    refine V_L (L1 := [some (.ref dx), some (.int x)]) rfl ?_
    refine V_iload_n C dX0_cut_0 rfl rfl ?_
    refine V_if_lt C 15 dX0_cut_1 (by decide) (fun k1 => ?_) (fun k1 => ?_)
    · refine V_iconst C 0 dX0_cut_15 (by decide) ?_
      exact V_zret C rfl dX0_cut_16 (by decide) (by decide) ⟨_, rfl, Or.inr ⟨fun j hj z => by rw [z] at hx; exact absurd hx (nI_ge (by omega) (by omega)), rfl, rfl⟩⟩
    · refine V_iload_n C dX0_cut_4 rfl rfl ?_
      refine V_aload_n C dX0_cut_5 rfl rfl ?_
      refine V_get (C0 := RX0) (T := TX0) (N := 3) (ci := 0) C 1 in_X0 rfl hD.1 (by decide) q162 (fun _ h9 => h9) rfl dX0_cut_6 ?_
      refine V_ofIe (VR_V (As := []) (rest := [.int x]) C (ct_J4_length l G b M 1 wa cap ws hW0) hwa rfl (lw_V q378 q379 q380 q43 q381) rfl nd_J4_length rfl (by decide) (by decide) dX0_cut_9 rfl ⟨by decide, by decide⟩ (Nat.le_of_ble_eq_true rfl)) ?_
      refine V_icmp_le C 17 dX0_cut_12 (by decide) (fun k12 => ?_) (fun k12 => ?_)
      · exact absurd (Int32.lt_of_lt_of_le (nI_lt (Nat.lt_succ_self ws.length) (by omega)) hx) (Int32.not_lt.mpr k12)
      · refine V_iconst C 0 dX0_cut_15 (by decide) ?_
        exact V_zret C rfl dX0_cut_16 (by decide) (by decide) ⟨_, rfl, Or.inr ⟨fun j hj z => by rw [z] at hx; exact absurd hx (nI_ge (by omega) (by omega)), rfl, rfl⟩⟩
  · refine Ct.ofV (by decide) (vc_ref (vc_int vc_nil)) (Nat.le_of_ble_eq_true rfl) ?_
    intro p e s m below meth c C hnm
    refine V_L (L1 := [some (.ref dx), some (.int x)]) rfl ?_
    refine V_L (L1 := [some (.ref dx), some (.int (nI j))]) (by rw [hxj]) ?_
    refine V_iload_n C dX0_cut_0 rfl rfl ?_
    refine V_if_lt C 15 dX0_cut_1 (by decide) (fun h => absurd h (nI_pos (n := j) (by omega))) (fun _ => ?_)
    refine V_iload_n C dX0_cut_4 rfl rfl ?_
    refine V_aload_n C dX0_cut_5 rfl rfl ?_
    refine V_get (C0 := RX0) (T := TX0) (N := 3) (ci := 0) C 1 in_X0 rfl hD.1 (by decide) q162 (fun _ h9 => h9) rfl dX0_cut_6 ?_
    refine V_ofIe (VR_V (As := []) (rest := [.int (nI j)]) C (ct_J4_length l G b M 1 wa cap ws hW0) hwa rfl (lw_V q378 q379 q380 q43 q381) rfl nd_J4_length rfl (by decide) (by decide) dX0_cut_9 rfl ⟨by decide, by decide⟩ (Nat.le_of_ble_eq_true rfl)) ?_
    refine V_nicmp_le (x := j) (y := ws.length) C 17 dX0_cut_12 (by decide) (by omega) (by omega) (fun k12 => ?_) (fun k12 => ?_)
    · refine V_aload_n C dX0_cut_17 rfl rfl ?_
      refine V_get (C0 := RX0) (T := TX0) (N := 3) (ci := 0) C 1 in_X0 rfl hD.1 (by decide) q162 (fun _ h9 => h9) rfl dX0_cut_18 ?_
      refine V_iload_n C dX0_cut_21 rfl rfl ?_
      refine V_ofV (VR_V (As := [.int (nI j)]) (rest := []) C (ct_J4_setLength l G b M 1 wa cap j ws hW0 (by omega)) hwa rfl (lw_V q284 q285 q286 q43 q287) rfl nd_J4_setLength rfl (by decide) (by decide) dX0_cut_22 rfl ⟨by decide, by decide⟩ (Nat.le_of_ble_eq_true rfl)) (fun M2 hM2 => ?_)
      refine V_iconst C 1 dX0_cut_25 (by decide) ?_
      exact V_zret C rfl dX0_cut_26 (by decide) (by decide) ⟨_, rfl, Or.inl ⟨j, by omega, hxj, rfl, hM2.1, hM2.2⟩⟩
    · omega
def altW (ws : List Nat) (j c0 : Nat) : List Nat := if j = ws.length then ws ++ [c0] else ws.set j c0
theorem ct_X0_alter (l : Launch) (G : mp_G) (b : Nat) (M : mp_M) (dx ra wa da : Nat) (rp : Nat → Nat) (hD : DocAt G M dx ra wa da rp) (ws : List Nat) (cap : Nat) (hW : SbAt G M 1 wa ws cap) (hw16 : ws.length ≤ 16) (hcap : 16 ≤ cap) (x z : Int32) : Ct l yX0_alter cX0_alter 3 (some .boolean) 6 1 64 G b ([.ref dx, .int x, .int z] : List Value) M (pI (fun y M1 => (∃ j c0, j ≤ ws.length ∧ j < 16 ∧ c0 < 256 ∧ x = nI j ∧ z = nI c0 ∧ y = 1 ∧ SbAt G M1 1 wa (altW ws j c0) cap ∧ KeepG 1 M M1) ∨ ((∀ j c0, j ≤ ws.length → j < 16 → c0 < 256 → ¬ (x = nI j ∧ z = nI c0)) ∧ y = 0 ∧ M1 = M))) := by
  have hW0 := hW
  obtain ⟨wv, wf, wmb, hwa, hwv, hwl, hwc, hwt, hwF⟩ := hW
  have hwb : ∀ i, oB ws i < 256 := fun i => by
    rcases Nat.lt_or_ge i ws.length with z | z
    · exact (hwt i _ (oB_get z)).1
    · unfold oB; rw [List.getD_eq_getElem?_getD, List.getElem?_eq_none z]; decide
  by_cases hgood : ∃ j c0, j ≤ ws.length ∧ j < 16 ∧ c0 < 256 ∧ x = nI j ∧ z = nI c0
  · obtain ⟨j, c0, h1, h2, h3, hxj, hzc⟩ := hgood
    refine Ct.ofV (by decide) (vc_ref (vc_int (vc_int vc_nil))) (Nat.le_of_ble_eq_true rfl) ?_
    intro p e s m below meth c C hnm
    refine V_L (L1 := [some (.ref dx), some (.int x), some (.int z)]) rfl ?_
    refine V_L (L1 := [some (.ref dx), some (.int (nI j)), some (.int (nI c0))]) (by rw [hxj, hzc]) ?_
    refine V_iload_n C dX0_alter_0 rfl rfl ?_
    refine V_if_lt C 32 dX0_alter_1 (by decide) (fun h => absurd h (nI_pos (n := j) (by omega))) (fun _ => ?_)
    refine V_iload_n C dX0_alter_4 rfl rfl ?_
    refine V_aload_n C dX0_alter_5 rfl rfl ?_
    refine V_get (C0 := RX0) (T := TX0) (N := 3) (ci := 0) C 1 in_X0 rfl hD.1 (by decide) q162 (fun _ h9 => h9) rfl dX0_alter_6 ?_
    refine V_ofIe (VR_V (As := []) (rest := [.int (nI j)]) C (ct_J4_length l G b M 1 wa cap ws hW0) hwa rfl (lw_V q378 q379 q380 q43 q381) rfl nd_J4_length rfl (by decide) (by decide) dX0_alter_9 rfl ⟨by decide, by decide⟩ (Nat.le_of_ble_eq_true rfl)) ?_
    refine V_nicmp_gt (x := j) (y := ws.length) C 32 dX0_alter_12 (by decide) (by omega) (by omega) (fun k12 => ?_) (fun k12 => ?_)
    · omega
    · refine V_iload_n C dX0_alter_15 rfl rfl ?_
      refine V_bipush C 16 dX0_alter_16 (by decide) ?_
      refine V_nicmp_ge (x := j) (y := 16) C 32 dX0_alter_18 (by decide) (by omega) (by omega) (fun k18 => ?_) (fun k18 => ?_)
      · omega
      · refine V_iload_n C dX0_alter_21 rfl rfl ?_
        refine V_if_lt C 32 dX0_alter_22 (by decide) (fun h => absurd h (nI_pos (n := c0) (by omega))) (fun _ => ?_)
        refine V_iload_n C dX0_alter_25 rfl rfl ?_
        refine V_sipush C 255 dX0_alter_26 (by decide) ?_
        refine V_nicmp_le (x := c0) (y := 255) C 34 dX0_alter_29 (by decide) (by omega) (by omega) (fun k29 => ?_) (fun k29 => ?_)
        · refine V_iload_n C dX0_alter_34 rfl rfl ?_
          refine V_aload_n C dX0_alter_35 rfl rfl ?_
          refine V_get (C0 := RX0) (T := TX0) (N := 3) (ci := 0) C 1 in_X0 rfl hD.1 (by decide) q162 (fun _ h9 => h9) rfl dX0_alter_36 ?_
          refine V_ofIe (VR_V (As := []) (rest := [.int (nI j)]) C (ct_J4_length l G b M 1 wa cap ws hW0) hwa rfl (lw_V q378 q379 q380 q43 q381) rfl nd_J4_length rfl (by decide) (by decide) dX0_alter_39 rfl ⟨by decide, by decide⟩ (Nat.le_of_ble_eq_true rfl)) ?_
          refine V_nicmp_ne (x := j) (y := ws.length) C 58 dX0_alter_42 (by decide) (by omega) (by omega) (fun k42 => ?_) (fun k42 => ?_)
          · refine V_aload_n C dX0_alter_58 rfl rfl ?_
            refine V_get (C0 := RX0) (T := TX0) (N := 3) (ci := 0) C 1 in_X0 rfl hD.1 (by decide) q162 (fun _ h9 => h9) rfl dX0_alter_59 ?_
            refine V_iload_n C dX0_alter_62 rfl rfl ?_
            refine V_iload_n C dX0_alter_63 rfl rfl ?_
            refine V_i2c C (nI (c0)) dX0_alter_64 (i2c_n (by omega)) ?_
            refine V_ofV (VR_V (As := [.int (nI j), .int (nI (c0))]) (rest := []) C (ct_J4_setCharAt l G b M 1 wa cap j c0 ws hW0 h3 (by omega)) hwa rfl (lw_V q385 q386 q387 q43 q388) rfl nd_J4_setCharAt rfl (by decide) (by decide) dX0_alter_65 rfl ⟨by decide, by decide⟩ (Nat.le_of_ble_eq_true rfl)) (fun M2 hM2 => ?_)
            refine V_iconst C 1 dX0_alter_68 (by decide) ?_
            exact V_zret C rfl dX0_alter_69 (by decide) (by decide) ⟨_, rfl, Or.inl ⟨j, c0, h1, h2, h3, hxj, hzc, rfl, by unfold altW; first | (rw [if_pos k42]; have h9 := hM2.2.1; rw [if_pos (by omega)] at h9; exact h9) | (rw [if_neg k42]; exact hM2.1), by first | exact hM2.2.2 | exact hM2.2⟩⟩
          · refine V_aload_n C dX0_alter_45 rfl rfl ?_
            refine V_get (C0 := RX0) (T := TX0) (N := 3) (ci := 0) C 1 in_X0 rfl hD.1 (by decide) q162 (fun _ h9 => h9) rfl dX0_alter_46 ?_
            refine V_iload_n C dX0_alter_49 rfl rfl ?_
            refine V_i2c C (nI (c0)) dX0_alter_50 (i2c_n (by omega)) ?_
            refine V_ofR (VR_V (As := [.int (nI (c0))]) (rest := []) C (ct_J4_append l G b M 1 wa cap c0 ws hW0 h3 (Or.inl (by omega))) hwa rfl (lw_V q342 q343 q344 q43 q345) rfl nd_J4_append rfl (by decide) (by decide) dX0_alter_51 rfl ⟨by decide, by decide⟩ (Nat.le_of_ble_eq_true rfl)) (fun r2 M2 hM2 => ?_)
            refine V_pop C dX0_alter_54 (vcat_rf _) ?_
            refine V_goto C 68 dX0_alter_55 (by decide) ?_
            refine V_iconst C 1 dX0_alter_68 (by decide) ?_
            exact V_zret C rfl dX0_alter_69 (by decide) (by decide) ⟨_, rfl, Or.inl ⟨j, c0, h1, h2, h3, hxj, hzc, rfl, by unfold altW; first | (rw [if_pos k42]; have h9 := hM2.2.1; rw [if_pos (by omega)] at h9; exact h9) | (rw [if_neg k42]; exact hM2.1), by first | exact hM2.2.2 | exact hM2.2⟩⟩
        · omega
  · have no : ∀ j c0, j ≤ ws.length → j < 16 → c0 < 256 → ¬ (x = nI j ∧ z = nI c0) := fun j c0 h1 h2 h3 h4 => hgood ⟨j, c0, h1, h2, h3, h4.1, h4.2⟩
    refine Ct.ofV (by decide) (vc_ref (vc_int (vc_int vc_nil))) (Nat.le_of_ble_eq_true rfl) ?_
    intro p e s m below meth c C hnm
    refine V_L (L1 := [some (.ref dx), some (.int x), some (.int z)]) rfl ?_
    refine V_iload_n C dX0_alter_0 rfl rfl ?_
    refine V_if_lt C 32 dX0_alter_1 (by decide) (fun k1 => ?_) (fun k1 => ?_)
    · refine V_iconst C 0 dX0_alter_32 (by decide) ?_
      exact V_zret C rfl dX0_alter_33 (by decide) (by decide) ⟨_, rfl, Or.inr ⟨no, rfl, rfl⟩⟩
    · refine V_iload_n C dX0_alter_4 rfl rfl ?_
      refine V_aload_n C dX0_alter_5 rfl rfl ?_
      refine V_get (C0 := RX0) (T := TX0) (N := 3) (ci := 0) C 1 in_X0 rfl hD.1 (by decide) q162 (fun _ h9 => h9) rfl dX0_alter_6 ?_
      refine V_ofIe (VR_V (As := []) (rest := [.int x]) C (ct_J4_length l G b M 1 wa cap ws hW0) hwa rfl (lw_V q378 q379 q380 q43 q381) rfl nd_J4_length rfl (by decide) (by decide) dX0_alter_9 rfl ⟨by decide, by decide⟩ (Nat.le_of_ble_eq_true rfl)) ?_
      refine V_icmp_gt C 32 dX0_alter_12 (by decide) (fun k12 => ?_) (fun k12 => ?_)
      · refine V_iconst C 0 dX0_alter_32 (by decide) ?_
        exact V_zret C rfl dX0_alter_33 (by decide) (by decide) ⟨_, rfl, Or.inr ⟨no, rfl, rfl⟩⟩
      · refine V_iload_n C dX0_alter_15 rfl rfl ?_
        refine V_bipush C 16 dX0_alter_16 (by decide) ?_
        refine V_icmp_ge C 32 dX0_alter_18 (by decide) (fun k18 => ?_) (fun k18 => ?_)
        · refine V_iconst C 0 dX0_alter_32 (by decide) ?_
          exact V_zret C rfl dX0_alter_33 (by decide) (by decide) ⟨_, rfl, Or.inr ⟨no, rfl, rfl⟩⟩
        · refine V_iload_n C dX0_alter_21 rfl rfl ?_
          refine V_if_lt C 32 dX0_alter_22 (by decide) (fun k22 => ?_) (fun k22 => ?_)
          · refine V_iconst C 0 dX0_alter_32 (by decide) ?_
            exact V_zret C rfl dX0_alter_33 (by decide) (by decide) ⟨_, rfl, Or.inr ⟨no, rfl, rfl⟩⟩
          · refine V_iload_n C dX0_alter_25 rfl rfl ?_
            refine V_sipush C 255 dX0_alter_26 (by decide) ?_
            refine V_icmp_le C 34 dX0_alter_29 (by decide) (fun k29 => ?_) (fun k29 => ?_)
            · exfalso; obtain ⟨j, hj1, rfl⟩ := nI_of k1; obtain ⟨c0, hc1, rfl⟩ := nI_of k22; exact hgood ⟨j, c0, (nI_leI (by omega) (by omega)).mp (Int32.not_lt.mp k12), (nI_ltI (b := 16) (by omega) (by decide)).mp (Int32.not_le.mp k18), by have := (nI_leI (b := 255) (by omega) (by decide)).mp k29; omega, rfl, rfl⟩
            · refine V_iconst C 0 dX0_alter_32 (by decide) ?_
              exact V_zret C rfl dX0_alter_33 (by decide) (by decide) ⟨_, rfl, Or.inr ⟨no, rfl, rfl⟩⟩

