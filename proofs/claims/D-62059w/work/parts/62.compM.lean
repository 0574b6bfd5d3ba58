set_option maxRecDepth 100000
/-! THE COMPONENT, M: emit, level, the constructors -/
theorem ct_X0_emit (l : Launch) (G : mp_G) (b : Nat) (M : mp_M) (dx ra wa da : Nat) (rp : Nat → Nat) (hD : DocAt G M dx ra wa da rp) (g a ln : Nat) (lo : Nat → List Nat) (P : Nat → Int32) (hi : Nat → Option Nat) (sh fo : Nat → Bool) (ch : Nat → Nat → List Nat) (nx : Nat → Option Nat) (wt : List (List Nat)) (A : Nat → Nat → Nat) (wo : List Nat) (hR : RepAt G M g a ln lo P hi sh fo ch nx wt A wo) (r : Nat) (hr : r ≤ 2) (hrp : rp r = a) (ws : List Nat) (cap : Nat) (hW : SbAt G M 1 wa ws cap) (hcap : 16 ≤ cap) (hg : g ≠ 1) (x : Int32) : Ct l yX0_emit cX0_emit 5 (some .int) 8 2 128 G b ([.ref dx, .int (nI r), .int x] : List Value) M (pI (fun y M1 => (cheldB ln lo wt x = none ∧ y = -1 ∧ M1 = M) ∨ ∃ bs, cheldB ln lo wt x = some bs ∧ OpOk bs ∧ y = nI bs.length ∧ SbAt G M1 1 wa bs cap ∧ KeepG 1 M M1)) := by
  have hW0 := hW
  obtain ⟨wv, wf, wmb, hwa, hwv, hwl, hwc, hwt, hwF⟩ := hW
  refine Ct.ofV (by decide) (vc_ref (vc_int (vc_int vc_nil))) (Nat.le_of_ble_eq_true rfl) ?_
  intro p e s m below meth c C hnm
  refine V_L (L1 := [some (.ref dx), some (.int (nI r)), some (.int x), none, none]) rfl ?_
  obtain ⟨r1e, r2e, r3e, r4e, r5e, r6e, r7e, r8e, r9e, r10e, r11e⟩ := id hR
  have rbe := r10e.2.2.1
  have rlne := r10e.1
  have rwle := r10e.2.1
  have rwoe := r4e.1
  obtain ⟨lmoe, lare, hlae⟩ := al_obj r2e
  obtain ⟨wmoe, ware, hwae⟩ := al_obj r3e
  refine V_aload_n C dX0_emit_0 rfl rfl ?_
  refine V_iload_n C dX0_emit_1 rfl rfl ?_
  refine V_ofRe (VR_V (As := [.int (nI r)]) (rest := []) C (ct_X0_replica l G b M dx ra wa da rp hD r a hr hrp) hD.1 rfl (lw_V q175 q177 qs0 q36 q178) rfl nd_X0_replica rfl (by decide) (by decide) dX0_emit_2 rfl ⟨by decide, by decide⟩ (Nat.le_of_ble_eq_true rfl)) ?_
  refine V_astore_n (L' := [some (.ref dx), some (.int (nI r)), some (.int x), some (.ref a), none]) C dX0_emit_5 rfl (by decide) rfl ?_
  refine V_aload_n C dX0_emit_6 rfl rfl ?_
  refine V_ifnonnull_R C 14 dX0_emit_7 (by decide) ?_
  refine V_aload_n C dX0_emit_14 rfl rfl ?_
  refine V_iload_n C dX0_emit_15 rfl rfl ?_
  refine V_ofR (VR_V (As := [.int x]) (rest := []) C (ct_X1_held l G b M g a ln lo P hi sh fo ch nx wt A wo hR x) r1e rfl (lw_V q624 q625 q626 q37 q627) rfl nd_X1_held rfl (by decide) (by decide) dX0_emit_16 rfl ⟨by decide, by decide⟩ (Nat.le_of_ble_eq_true rfl)) (fun y M1 hM1 => ?_)
  obtain ⟨hM1, rfl⟩ := hM1
  rcases hM1 with ⟨h1, rfl⟩ | ⟨bs, q, h1, rfl, hq, hok⟩
  · refine V_st (st1 := [.null]) rfl ?_
    refine V_astoreq (o := none) (L' := [some (.ref dx), some (.int (nI r)), some (.int x), some (.ref a), some (.null)]) C dX0_emit_19 (by decide) rfl ?_
    refine V_aloadq (o := none) C dX0_emit_21 rfl ?_
    refine V_ifnonnull_N C dX0_emit_23 ?_
    refine V_iconst C (-1) dX0_emit_26 (by decide) ?_
    exact V_iret C dX0_emit_27 (by decide) (by decide) ⟨_, rfl, Or.inl ⟨h1, rfl, rfl⟩⟩
  · skip
    refine V_st (st1 := [.ref q]) rfl ?_
    obtain ⟨qs, qi, hq1, hqs⟩ := id hq
    have h6 := hok.1
    have h5 := hok.2.1
    refine V_astore (L' := [some (.ref dx), some (.int (nI r)), some (.int x), some (.ref a), some (.ref q)]) C dX0_emit_19 (by decide) rfl ?_
    refine V_aload C dX0_emit_21 rfl ?_
    refine V_ifnonnull_R C 28 dX0_emit_23 (by decide) ?_
    refine V_aload_n C dX0_emit_28 rfl rfl ?_
    refine V_get (C0 := RX0) (T := TX0) (N := 3) (ci := 0) C 1 in_X0 rfl hD.1 (by decide) q162 (fun _ h9 => h9) rfl dX0_emit_29 ?_
    refine V_iconst C 0 dX0_emit_32 (by decide) ?_
    refine V_ofV (VR_V (As := [.int 0]) (rest := []) C (ct_J4_setLength l G b M1 1 wa cap 0 ws hW0 (Nat.zero_le _)) hwa rfl (lw_V q284 q285 q286 q43 q287) rfl nd_J4_setLength rfl (by decide) (by decide) dX0_emit_33 rfl ⟨by decide, by decide⟩ (Nat.le_of_ble_eq_true rfl)) (fun M2 hM2 => ?_)
    obtain ⟨hS2, hK2⟩ := hM2
    rw [List.take_zero] at hS2
    have hd2 := hK2 _ _ _ hD.1 (by simp)
    have hq2 := hK2 _ _ _ hq1 (by simpa using hg)
    have hO2 : OpAt G M2 g q bs := hq.keep hK2 (fun kd i h10 z => hg z)
    have hS20 := hS2
    obtain ⟨wv2, wf2, wmb2, hwa2, -⟩ := hS2
    refine V_aload_n C dX0_emit_36 rfl rfl ?_
    refine V_get (C0 := RX0) (T := TX0) (N := 3) (ci := 0) C 1 in_X0 rfl hd2 (by decide) q162 (fun _ h9 => h9) rfl dX0_emit_37 ?_
    refine V_aload C dX0_emit_40 rfl ?_
    refine V_ofR (VR_V (As := []) (rest := [.ref wa]) C (ct_X4_bytes l G b M2 g q bs hO2) hq2 rfl (lw_V q628 q629 q630 q55 q631) rfl nd_X4_bytes rfl (by decide) (by decide) dX0_emit_42 rfl ⟨by decide, by decide⟩ (Nat.le_of_ble_eq_true rfl)) (fun y3 M3 hM3 => ?_)
    obtain ⟨⟨sa, rfl, hsa⟩, rfl⟩ := hM3
    refine V_st (st1 := [.ref sa, .ref wa]) rfl ?_
    refine V_ofR (VR_V (As := [.ref sa]) (rest := []) C (ct_J4_append_2 l G b M3 1 wa cap [] hS20 g sa bs hsa hg (by simp; omega)) hwa2 rfl (lw_V q632 q633 q634 q43 q635) rfl nd_J4_append_2 rfl (by decide) (by decide) dX0_emit_45 rfl ⟨by decide, by decide⟩ (Nat.le_of_ble_eq_true rfl)) (fun y4 M4 hM4 => ?_)
    obtain ⟨rfl, hS4, hK4⟩ := hM4
    rw [List.nil_append] at hS4
    have hd4 := hK4 _ _ _ hd2 (by simp)
    have hS40 := hS4
    obtain ⟨wv4, wf4, wmb4, hwa4, -⟩ := hS4
    refine V_st (st1 := [.ref wa]) rfl ?_
    refine V_pop C dX0_emit_48 rfl ?_
    refine V_aload_n C dX0_emit_49 rfl rfl ?_
    refine V_get (C0 := RX0) (T := TX0) (N := 3) (ci := 0) C 1 in_X0 rfl hd4 (by decide) q162 (fun _ h9 => h9) rfl dX0_emit_50 ?_
    refine V_ofIe (VR_V (As := []) (rest := []) C (ct_J4_length l G b M4 1 wa cap bs hS40) hwa4 rfl (lw_V q378 q379 q380 q43 q381) rfl nd_J4_length rfl (by decide) (by decide) dX0_emit_53 rfl ⟨by decide, by decide⟩ (Nat.le_of_ble_eq_true rfl)) ?_
    exact V_iret C dX0_emit_56 (by decide) (by decide) ⟨_, rfl, Or.inr ⟨bs, h1, hok, rfl, hS40, hK2.tr hK4⟩⟩
theorem ct_X4_bytesE (l : Launch) (G : mp_G) (b : Nat) (M : mp_M) (g a sa i : Nat) (ha : M a = some ((g, 12, i), .inr (4, [.ref sa]))) : Ct l yX4_bytes cX4_bytes 1 (some (.object "java/lang/String")) 0 0 0 G b ([.ref a] : List Value) M (pR (fun y M1 => y = some sa ∧ M1 = M)) := by
  refine Ct.ofV (by decide) (vc_ref vc_nil) (Nat.le_of_ble_eq_true rfl) ?_
  intro p e s m below meth c C hnm
  refine V_L (L1 := [some (.ref a)]) rfl ?_
  refine V_aload_n C dX4_bytes_0 rfl rfl ?_
  refine V_get (C0 := RX4) (T := TX4) (N := 1) (ci := 4) C 0 in_X4 rfl ha (by decide) q452 (fun _ h9 => h9) rfl dX4_bytes_1 ?_
  exact V_aret (o := some sa) C (Or.inl ⟨_, rfl⟩) dX4_bytes_4 (by decide) (by decide) ⟨_, rfl, rfl, rfl⟩
def clevP (ln2 : Nat) (lo lo2 : Nat → List Nat) (k : Nat) : Bool := match cplace ln2 lo2 (nI (oB (lo k) 0)) with
  | none => false
  | some k2 => decide (lo2 k2 = lo k)
theorem ct_X0_level_bad1 (l : Launch) (G : mp_G) (b : Nat) (M : mp_M) (dx ra wa da : Nat) (rp : Nat → Nat) (hD : DocAt G M dx ra wa da rp) (x z : Int32) (hx : isRepB x = false) : Ct l yX0_level cX0_level 8 (some .boolean) 7 0 0 G b ([.ref dx, .int x, .int z] : List Value) M (pI (fun y M1 => y = 0 ∧ M1 = M)) := by
  refine Ct.ofV (by decide) (vc_ref (vc_int (vc_int vc_nil))) (Nat.le_of_ble_eq_true rfl) ?_
  intro p e s m below meth c C hnm
  refine V_L (L1 := [some (.ref dx), some (.int x), some (.int z), none, none, none, none, none]) rfl ?_
  refine V_aload_n C dX0_level_0 rfl rfl ?_
  refine V_iload_n C dX0_level_1 rfl rfl ?_
  refine V_ofRe (VR_V (As := [.int x]) (rest := []) C (ct_X0_replica_bad l G b M dx ra wa da rp hD x hx) hD.1 rfl (lw_V q175 q177 qs0 q36 q178) rfl nd_X0_replica rfl (by decide) (by decide) dX0_level_2 rfl ⟨by decide, by decide⟩ (Nat.le_of_ble_eq_true rfl)) ?_
  refine V_astore_nq (o := none) (L' := [some (.ref dx), some (.int x), some (.int z), some (.null), none, none, none, none]) C dX0_level_5 rfl (by decide) rfl ?_
  refine V_aload_n C dX0_level_6 rfl rfl ?_
  refine V_iload_n C dX0_level_7 rfl rfl ?_
  by_cases hz : isRepB z = true
  · obtain ⟨r2, hr2, hzr⟩ := isRep_of hz
    have ctz := ct_X0_replica l G b M dx ra wa da rp hD r2 (rp r2) hr2 rfl
    rw [← hzr] at ctz
    refine V_ofRe (VR_V (As := [.int z]) (rest := []) C ctz hD.1 rfl (lw_V q175 q177 qs0 q36 q178) rfl nd_X0_replica rfl (by decide) (by decide) dX0_level_8 rfl ⟨by decide, by decide⟩ (Nat.le_of_ble_eq_true rfl)) ?_
    refine V_astore (L' := [some (.ref dx), some (.int x), some (.int z), some (.null), some (.ref (rp r2)), none, none, none]) C dX0_level_11 (by decide) rfl ?_
    refine V_aload_nq (o := none) C dX0_level_13 rfl rfl ?_
    refine V_ifnull_N C 40 dX0_level_14 (by decide) ?_
    refine V_iconst C 0 dX0_level_40 (by decide) ?_
    exact V_zret C rfl dX0_level_41 (by decide) (by decide) ⟨_, rfl, rfl, rfl⟩
  · skip
    refine V_ofRe (VR_V (As := [.int z]) (rest := []) C (ct_X0_replica_bad l G b M dx ra wa da rp hD z (Bool.eq_false_iff.mpr hz)) hD.1 rfl (lw_V q175 q177 qs0 q36 q178) rfl nd_X0_replica rfl (by decide) (by decide) dX0_level_8 rfl ⟨by decide, by decide⟩ (Nat.le_of_ble_eq_true rfl)) ?_
    refine V_astoreq (o := none) (L' := [some (.ref dx), some (.int x), some (.int z), some (.null), some (.null), none, none, none]) C dX0_level_11 (by decide) rfl ?_
    refine V_aload_nq (o := none) C dX0_level_13 rfl rfl ?_
    refine V_ifnull_N C 40 dX0_level_14 (by decide) ?_
    refine V_iconst C 0 dX0_level_40 (by decide) ?_
    exact V_zret C rfl dX0_level_41 (by decide) (by decide) ⟨_, rfl, rfl, rfl⟩
theorem ct_X0_level_bad2 (l : Launch) (G : mp_G) (b : Nat) (M : mp_M) (dx ra wa da : Nat) (rp : Nat → Nat) (hD : DocAt G M dx ra wa da rp) (r : Nat) (hr : r ≤ 2) (z : Int32) (hz : isRepB z = false) : Ct l yX0_level cX0_level 8 (some .boolean) 7 0 0 G b ([.ref dx, .int (nI r), .int z] : List Value) M (pI (fun y M1 => y = 0 ∧ M1 = M)) := by
  refine Ct.ofV (by decide) (vc_ref (vc_int (vc_int vc_nil))) (Nat.le_of_ble_eq_true rfl) ?_
  intro p e s m below meth c C hnm
  refine V_L (L1 := [some (.ref dx), some (.int (nI r)), some (.int z), none, none, none, none, none]) rfl ?_
  refine V_aload_n C dX0_level_0 rfl rfl ?_
  refine V_iload_n C dX0_level_1 rfl rfl ?_
  refine V_ofRe (VR_V (As := [.int (nI r)]) (rest := []) C (ct_X0_replica l G b M dx ra wa da rp hD r (rp r) hr rfl) hD.1 rfl (lw_V q175 q177 qs0 q36 q178) rfl nd_X0_replica rfl (by decide) (by decide) dX0_level_2 rfl ⟨by decide, by decide⟩ (Nat.le_of_ble_eq_true rfl)) ?_
  refine V_astore_n (L' := [some (.ref dx), some (.int (nI r)), some (.int z), some (.ref (rp r)), none, none, none, none]) C dX0_level_5 rfl (by decide) rfl ?_
  refine V_aload_n C dX0_level_6 rfl rfl ?_
  refine V_iload_n C dX0_level_7 rfl rfl ?_
  refine V_ofRe (VR_V (As := [.int z]) (rest := []) C (ct_X0_replica_bad l G b M dx ra wa da rp hD z hz) hD.1 rfl (lw_V q175 q177 qs0 q36 q178) rfl nd_X0_replica rfl (by decide) (by decide) dX0_level_8 rfl ⟨by decide, by decide⟩ (Nat.le_of_ble_eq_true rfl)) ?_
  refine V_astoreq (o := none) (L' := [some (.ref dx), some (.int (nI r)), some (.int z), some (.ref (rp r)), some (.null), none, none, none]) C dX0_level_11 (by decide) rfl ?_
  refine V_aload_n C dX0_level_13 rfl rfl ?_
  refine V_ifnull_R C dX0_level_14 ?_
  refine V_aloadq (o := none) C dX0_level_17 rfl ?_
  refine V_ifnull_N C 40 dX0_level_19 (by decide) ?_
  refine V_iconst C 0 dX0_level_40 (by decide) ?_
  exact V_zret C rfl dX0_level_41 (by decide) (by decide) ⟨_, rfl, rfl, rfl⟩
theorem ct_X0_level (l : Launch) (G : mp_G) (b : Nat) (M : mp_M) (dx ra wa da : Nat) (rp : Nat → Nat) (hD : DocAt G M dx ra wa da rp) (g a ln : Nat) (lo : Nat → List Nat) (P : Nat → Int32) (hi : Nat → Option Nat) (sh fo : Nat → Bool) (ch : Nat → Nat → List Nat) (nx : Nat → Option Nat) (wt : List (List Nat)) (A : Nat → Nat → Nat) (wo : List Nat) (hR : RepAt G M g a ln lo P hi sh fo ch nx wt A wo) (r : Nat) (hr : r ≤ 2) (hrp : rp r = a) (g2 a2 ln2 : Nat) (lo2 : Nat → List Nat) (P2 : Nat → Int32) (hi2 : Nat → Option Nat) (sh2 fo2 : Nat → Bool) (ch2 : Nat → Nat → List Nat) (nx2 : Nat → Option Nat) (wt2 : List (List Nat)) (A2 : Nat → Nat → Nat) (wo2 : List Nat) (hR2 : RepAt G M g2 a2 ln2 lo2 P2 hi2 sh2 fo2 ch2 nx2 wt2 A2 wo2) (r2 : Nat) (hr2 : r2 ≤ 2) (hrp2 : rp r2 = a2) : Ct l yX0_level cX0_level 8 (some .boolean) 7 0 0 G b ([.ref dx, .int (nI r), .int (nI r2)] : List Value) M (pI (fun y M1 => y = bI (decide (ln = ln2) && allI (clevP ln2 lo lo2) ln) ∧ M1 = M)) := by
  refine Ct.ofV (by decide) (vc_ref (vc_int (vc_int vc_nil))) (Nat.le_of_ble_eq_true rfl) ?_
  intro p e s m below meth c C hnm
  refine V_L (L1 := [some (.ref dx), some (.int (nI r)), some (.int (nI r2)), none, none, none, none, none]) rfl ?_
  obtain ⟨r1e, r2e, r3e, r4e, r5e, r6e, r7e, r8e, r9e, r10e, r11e⟩ := id hR
  have rbe := r10e.2.2.1
  have rlne := r10e.1
  have rwle := r10e.2.1
  have rwoe := r4e.1
  obtain ⟨lmoe, lare, hlae⟩ := al_obj r2e
  obtain ⟨wmoe, ware, hwae⟩ := al_obj r3e
  obtain ⟨s1, s2, s3, s4, s5, s6, s7, s8, s9, s10, s11⟩ := id hR2
  obtain ⟨smo, sar, hsl⟩ := al_obj s2
  have sb := s10.2.2.1
  have sln := s10.1
  refine V_aload_n C dX0_level_0 rfl rfl ?_
  refine V_iload_n C dX0_level_1 rfl rfl ?_
  refine V_ofRe (VR_V (As := [.int (nI r)]) (rest := []) C (ct_X0_replica l G b M dx ra wa da rp hD r a hr hrp) hD.1 rfl (lw_V q175 q177 qs0 q36 q178) rfl nd_X0_replica rfl (by decide) (by decide) dX0_level_2 rfl ⟨by decide, by decide⟩ (Nat.le_of_ble_eq_true rfl)) ?_
  refine V_astore_n (L' := [some (.ref dx), some (.int (nI r)), some (.int (nI r2)), some (.ref a), none, none, none, none]) C dX0_level_5 rfl (by decide) rfl ?_
  refine V_aload_n C dX0_level_6 rfl rfl ?_
  refine V_iload_n C dX0_level_7 rfl rfl ?_
  refine V_ofRe (VR_V (As := [.int (nI r2)]) (rest := []) C (ct_X0_replica l G b M dx ra wa da rp hD r2 a2 hr2 hrp2) hD.1 rfl (lw_V q175 q177 qs0 q36 q178) rfl nd_X0_replica rfl (by decide) (by decide) dX0_level_8 rfl ⟨by decide, by decide⟩ (Nat.le_of_ble_eq_true rfl)) ?_
  have loop : ln = ln2 → ∀ k, k ≤ ln → (∀ i, i < k → clevP ln2 lo lo2 i = true) → V p l e (rmOf 7 0 0) s m ([.ref dx, .int (nI r), .int (nI r2)] : List Value).toArray below meth c (MQ below (Qp G b (pI (fun y M1 => y = bI (decide (ln = ln2) && allI (clevP ln2 lo lo2) ln) ∧ M1 = M))) ([.ref dx, .int (nI r), .int (nI r2)] : List Value).toArray s 0 0 (fun q => b ≤ q)) G b 8 0 0 45 [some (.ref dx), some (.int (nI r)), some (.int (nI r2)), some (.ref a), some (.ref a2), some (.int (nI k)), none, none] [] M := by
    intro hll
    refine up_ind ln ?_
    intro k hk ih hb
    have body : k < ln → V p l e (rmOf 7 0 0) s m ([.ref dx, .int (nI r), .int (nI r2)] : List Value).toArray below meth c (MQ below (Qp G b (pI (fun y M1 => y = bI (decide (ln = ln2) && allI (clevP ln2 lo lo2) ln) ∧ M1 = M))) ([.ref dx, .int (nI r), .int (nI r2)] : List Value).toArray s 0 0 (fun q => b ≤ q)) G b 8 0 0 81 [some (.ref dx), some (.int (nI r)), some (.int (nI r2)), some (.ref a), some (.ref a2), some (.int (nI k)), some (.ref (A 1 k)), none] [.int (nI (oB (lo k) 0)), .ref a2] M := by
      intro hkl
      obtain ⟨sak, sik, hopk, hsk⟩ := r6e k hkl
      refine V_ofRe (VR_V (As := [.int (nI (oB (lo k) 0))]) (rest := []) C (ct_X1_item l G b M g2 a2 ln2 lo2 P2 hi2 sh2 fo2 ch2 nx2 wt2 A2 wo2 hR2 (nI (oB (lo k) 0))) s1 rfl (lw_V q377 q197 q198 q37 q199) rfl nd_X1_item rfl (by decide) (by decide) dX0_level_81 rfl ⟨by decide, by decide⟩ (Nat.le_of_ble_eq_true rfl)) ?_
      rcases o81 : cplace ln2 lo2 (nI (oB (lo k) 0)) with _ | k2
      · refine V_st (st1 := [.null]) rfl ?_
        refine V_astoreq (o := none) (L' := [some (.ref dx), some (.int (nI r)), some (.int (nI r2)), some (.ref a), some (.ref a2), some (.int (nI k)), some (.ref (A 1 k)), some (.null)]) C dX0_level_84 (by decide) rfl ?_
        refine V_aloadq (o := none) C dX0_level_86 rfl ?_
        refine V_ifnull_N C 110 dX0_level_88 (by decide) ?_
        refine V_iconst C 0 dX0_level_110 (by decide) ?_
        exact V_zret C rfl dX0_level_111 (by decide) (by decide) ⟨_, rfl, bf (by rw [allI_no (P := clevP ln2 lo lo2) (k := k) hkl (by unfold clevP; rw [o81])]; simp), rfl⟩
      · have hk2 := (firstI_get o81).1
        obtain ⟨sa2, si2, hop2, hs2⟩ := s6 k2 hk2
        have hit2 := s5 k2 hk2
        refine V_st (st1 := [.ref (A2 0 k2)]) rfl ?_
        refine V_astore (L' := [some (.ref dx), some (.int (nI r)), some (.int (nI r2)), some (.ref a), some (.ref a2), some (.int (nI k)), some (.ref (A 1 k)), some (.ref (A2 0 k2))]) C dX0_level_84 (by decide) rfl ?_
        refine V_aload C dX0_level_86 rfl ?_
        refine V_ifnull_R C dX0_level_88 ?_
        refine V_aload C dX0_level_91 rfl ?_
        refine V_getN (C0 := RX5) (T := TX5) (N := 8) (ci := 5) C 0 in_X5 rfl hit2 (by decide) ev477 (fun _ h9 => h9) rfl dX0_level_93 ?_
        refine V_ofRe (VR_V (As := []) (rest := []) C (ct_X4_bytesE l G b M g2 (A2 1 k2) sa2 _ hop2) hop2 rfl (lw_V q628 q629 q630 q55 q631) rfl nd_X4_bytes rfl (by decide) (by decide) dX0_level_96 rfl ⟨by decide, by decide⟩ (Nat.le_of_ble_eq_true rfl)) ?_
        refine V_aload C dX0_level_99 rfl ?_
        refine V_ofRe (VR_V (As := []) (rest := [.ref sa2]) C (ct_X4_bytesE l G b M g (A 1 k) sak _ hopk) hopk rfl (lw_V q628 q629 q630 q55 q631) rfl nd_X4_bytes rfl (by decide) (by decide) dX0_level_101 rfl ⟨by decide, by decide⟩ (Nat.le_of_ble_eq_true rfl)) ?_
        have hs2' := hs2
        have hsk' := hsk
        obtain ⟨z1, z2, z3, z4, z5, z6, hz2, -⟩ := hs2
        obtain ⟨y1, y2, y3, y4, y5, y6, hz1, -⟩ := hsk
        refine V_ofIe (VR_V (As := [.ref sak]) (rest := []) C (ct_J5_equals l G b M g2 g sa2 sak (lo2 k2) (lo k) hs2' hsk') hz2 rfl (lw_V q807 q808 q809 q44 q810) rfl nd_J5_equals rfl (by decide) (by decide) dX0_level_104 rfl ⟨by decide, by decide⟩ (Nat.le_of_ble_eq_true rfl)) ?_
        refine V_ifb_ne C 112 dX0_level_107 (by decide) (fun k107 => ?_) (fun k107 => ?_)
        · refine V_iinc (v := (nI (k + 1))) (L' := [some (.ref dx), some (.int (nI r)), some (.int (nI r2)), some (.ref a), some (.ref a2), some (.int (nI (k + 1))), some (.ref (A 1 k)), some (.ref (A2 0 k2))]) C dX0_level_112 rfl (nI_1 _) (by decide) rfl ?_
          refine V_goto C 45 dX0_level_115 (by decide) ?_
          refine V_sub ?_ (ih hkl (fun i hi => by rcases Nat.lt_or_ge i k with w | w; exact hb i w; rw [show i = k by omega]; unfold clevP; rw [o81]; exact k107))
          repeat' (first | exact ls_e | refine ls_n ?_ | refine ls_s ?_ | refine ls_i ?_ ?_ | refine ls_v ?_ ?_)
        · refine V_iconst C 0 dX0_level_110 (by decide) ?_
          exact V_zret C rfl dX0_level_111 (by decide) (by decide) ⟨_, rfl, bf (by rw [allI_no (P := clevP ln2 lo lo2) (k := k) hkl (by unfold clevP; rw [o81]; exact k107)]; simp), rfl⟩
    refine V_iload C dX0_level_45 rfl ?_
    refine V_aload_n C dX0_level_47 rfl rfl ?_
    refine V_getN (C0 := RX1) (T := TX1) (N := 3) (ci := 1) C 1 in_X1 rfl r1e (by decide) ev118 (fun _ h9 => h9) rfl dX0_level_48 ?_
    refine V_ofIe (VR_V (As := []) (rest := [.int (nI k)]) C (ct_J2_sizeN l G b M (A 4 0) (g, 4, 0) (g, 5, 0) _ r2e lg_len) hlae rfl (lw_V q726 q205 q206 q41 q207) rfl nd_J2_size rfl (by decide) (by decide) dX0_level_51 rfl ⟨by decide, by decide⟩ (Nat.le_of_ble_eq_true rfl)) ?_
    refine V_nicmp_ge (x := k) (y := ln) C 118 dX0_level_54 (by decide) (by omega) (by omega) (fun k54 => ?_) (fun k54 => ?_)
    · refine V_iconst C 1 dX0_level_118 (by decide) ?_
      exact V_zret C rfl dX0_level_119 (by decide) (by decide) ⟨_, rfl, bt (by rw [decide_eq_true hll, allI_iff.mpr (fun i hi => hb i (by omega))]; rfl), rfl⟩
    · refine V_aload_n C dX0_level_57 rfl rfl ?_
      refine V_getN (C0 := RX1) (T := TX1) (N := 3) (ci := 1) C 1 in_X1 rfl r1e (by decide) ev118 (fun _ h9 => h9) rfl dX0_level_58 ?_
      refine V_iload C dX0_level_61 rfl ?_
      refine V_ofRe (VR_V (As := [.int (nI k)]) (rest := []) C (ct_J2_get l G b M (A 4 0) k (A 0 k) (g, 4, 0) (g, 5, 0) _ r2e (lg_get (by omega)) (by rw [lg_len]; omega)) hlae rfl (lw_V q727 q209 q210 q41 q211) rfl nd_J2_get rfl (by decide) (by decide) dX0_level_63 rfl ⟨by decide, by decide⟩ (Nat.le_of_ble_eq_true rfl)) ?_
      have hit63 := r5e k (by omega)
      obtain ⟨sa63, si63, hop63, -⟩ := r6e k (by omega)
      have hob63 := rbe k (by omega)
      refine V_castS C hit63 rfl q728 dX0_level_66 ?_
      refine V_getN (C0 := RX5) (T := TX5) (N := 8) (ci := 5) C 0 in_X5 rfl hit63 (by decide) ev477 (fun _ h9 => h9) rfl dX0_level_69 ?_
      refine V_astore (L' := [some (.ref dx), some (.int (nI r)), some (.int (nI r2)), some (.ref a), some (.ref a2), some (.int (nI k)), some (.ref (A 1 k)), none]) C dX0_level_72 (by decide) rfl ?_
      refine V_aload C dX0_level_74 rfl ?_
      refine V_aload C dX0_level_76 rfl ?_
      refine V_ofIe (VR_V (As := []) (rest := [.ref a2]) C (ct_X4_id l G b M g (A 1 k) (lo k) (r6e k (by omega)) (rbe k (by omega))) hop63 rfl (lw_V q729 q224 q225 q55 q226) rfl nd_X4_id rfl (by decide) (by decide) dX0_level_78 rfl ⟨by decide, by decide⟩ (Nat.le_of_ble_eq_true rfl)) ?_
      have hz78 := (rbe k (by omega)).2.2 0
      refine V_sub ?_ (body (by omega))
      repeat' (first | exact ls_e | refine ls_n ?_ | refine ls_s ?_ | refine ls_i ?_ ?_ | refine ls_v ?_ ?_)
  refine V_astore (L' := [some (.ref dx), some (.int (nI r)), some (.int (nI r2)), some (.ref a), some (.ref a2), none, none, none]) C dX0_level_11 (by decide) rfl ?_
  refine V_aload_n C dX0_level_13 rfl rfl ?_
  refine V_ifnull_R C dX0_level_14 ?_
  refine V_aload C dX0_level_17 rfl ?_
  refine V_ifnull_R C dX0_level_19 ?_
  refine V_aload_n C dX0_level_22 rfl rfl ?_
  refine V_getN (C0 := RX1) (T := TX1) (N := 3) (ci := 1) C 1 in_X1 rfl r1e (by decide) ev118 (fun _ h9 => h9) rfl dX0_level_23 ?_
  refine V_ofIe (VR_V (As := []) (rest := []) C (ct_J2_sizeN l G b M (A 4 0) (g, 4, 0) (g, 5, 0) _ r2e lg_len) hlae rfl (lw_V q726 q205 q206 q41 q207) rfl nd_J2_size rfl (by decide) (by decide) dX0_level_26 rfl ⟨by decide, by decide⟩ (Nat.le_of_ble_eq_true rfl)) ?_
  refine V_aload C dX0_level_29 rfl ?_
  refine V_getN (C0 := RX1) (T := TX1) (N := 3) (ci := 1) C 1 in_X1 rfl s1 (by decide) ev118 (fun _ h9 => h9) rfl dX0_level_31 ?_
  refine V_ofIe (VR_V (As := []) (rest := [.int (nI ln)]) C (ct_J2_sizeN l G b M (A2 4 0) (g2, 4, 0) (g2, 5, 0) _ s2 lg_len) hsl rfl (lw_V q726 q205 q206 q41 q207) rfl nd_J2_size rfl (by decide) (by decide) dX0_level_34 rfl ⟨by decide, by decide⟩ (Nat.le_of_ble_eq_true rfl)) ?_
  refine V_nicmp_eq (x := ln) (y := ln2) C 42 dX0_level_37 (by decide) (by omega) (by omega) (fun k37 => ?_) (fun k37 => ?_)
  · refine V_iconst C 0 dX0_level_42 (by decide) ?_
    refine V_istore (L' := [some (.ref dx), some (.int (nI r)), some (.int (nI r2)), some (.ref a), some (.ref a2), some (.int 0), none, none]) C dX0_level_43 (by decide) rfl ?_
    refine V_sub ?_ (loop k37 0 (Nat.zero_le _) (fun i hi => absurd hi (Nat.not_lt_zero _)))
    repeat' (first | exact ls_e | refine ls_n ?_ | refine ls_s ?_ | refine ls_i ?_ ?_ | refine ls_v ?_ ?_)
    all_goals rfl
  · refine V_iconst C 0 dX0_level_40 (by decide) ?_
    exact V_zret C rfl dX0_level_41 (by decide) (by decide) ⟨_, rfl, bf (by rw [decide_eq_false k37]; rfl), rfl⟩
theorem ExtB.mk {a q0 : Nat} {M M3 M4 M5 : mp_M} {x : mp_L × va_E} (h : ExtB a M M3) (hq : M3 q0 = none) (e : M4 = mp_up M3 q0 x) (h5 : ExtB q0 M4 M5) : ExtB a M M5 := fun q y h1 h2 => h5 q y (mp_keepN e (h q y h1 h2) hq) (fun z => by have := h q y h1 h2; rw [z, hq] at this; cases this)
theorem ct_X1_init (l : Launch) (G : mp_G) (b : Nat) (M : mp_M) (g a : Nat) (ha : M a = some ((g, 14, 0), .inr (1, [.null, .null, .null]))) : Ct l yX1_init cX1_init 1 (none) 4 4 20 G b ([.ref a] : List Value) M (pV (fun M1 => (∃ A, RepAt G M1 g a 0 (fun _ => []) (fun _ => 0) (fun _ => none) (fun _ => false) (fun _ => false) (fun _ _ => []) (fun _ => none) [] A []) ∧ ExtB a M M1)) := by
  refine Ct.ofV (by decide) (vc_ref vc_nil) (Nat.le_of_ble_eq_true rfl) ?_
  intro p e s m below meth c C hnm
  refine V_L (L1 := [some (.ref a)]) rfl ?_
  refine V_aload_n C dX1_init_0 rfl rfl ?_
  refine V_objInit C q72 q64 q65 dX1_init_1 (by decide) (Nat.le_of_ble_eq_true rfl) ?_
  refine V_aload_n C dX1_init_4 rfl rfl ?_
  refine V_new (C0 := RX2) (T := TX2) (N := 2) (ci := 2) (fs := [.null, .null]) C (g, 13, 0) in_X2 tyX2 tyX2_ok q73 q74 q38 rfl (fun j hj => by rcases (show j = 0 ∨ j = 1 by omega) with rfl | rfl <;> rfl) (by first | decide | omega | (dsimp only [rmOf]; omega)) (by first | decide | omega | (dsimp only [rmOf]; omega)) dX1_init_5 (fun n0 hn0 => V_N (fun M1 e1 => ?_))
  have h__1 := mp_keepN e1 ha hn0
  have h__2 := mp_got e1
  refine V_dup C dX1_init_8 rfl ?_
  refine V_null C dX1_init_9 ?_
  refine V_ofV (VR_I (As := [.null]) (rest := [.ref n0, .ref a]) C (ct_X2_init l G b M1 g 0 n0 none h__2) (lw_meth q77) q38 q75 q76 rfl nd_X2_init rfl (by decide) (by decide) dX1_init_10 rfl ⟨by decide, by decide⟩ (Nat.le_of_ble_eq_true rfl)) (fun M2 hM2 => ?_)
  obtain ⟨w0, hw0, hwn, hn2, hw2, hE2⟩ := hM2
  have han : a ≠ n0 := fun z => by rw [z, hn0] at ha; cases ha
  have haw : a ≠ w0 := fun z => by rw [← z] at hw0; rw [mp_keepN e1 ha hn0] at hw0; cases hw0
  have ha2 : M2 a = some ((g, 14, 0), .inr (1, [.null, .null, .null])) := hE2 _ _ (mp_keepN e1 ha hn0) han
  refine V_M (V_putF (host := "") (C0 := RX1) (T := TX1) (N := 3) (ci := 1) (fs' := [.ref n0, .null, .null]) C 0 in_X1 tyX1 tyX1_ok nmX1 rfl ha2 (by decide) q115 (fun _ h9 => h9) rfl hnm rfl rfl rfl rfl (Nat.le_of_ble_eq_true rfl) rfl dX1_init_13) (fun M3 e3 => ?_)
  have h__3 := mp_got e3
  have h__4 := mp_keep e3 hn2 ha2 (by first | assumption | exact Ne.symm (by assumption) | (simp; done) | (simp; omega) | (intro h; simp at h; omega))
  have h__5 := mp_keep e3 hw2 ha2 (by first | assumption | exact Ne.symm (by assumption) | (simp; done) | (simp; omega) | (intro h; simp at h; omega))
  refine V_aload_n C dX1_init_16 rfl rfl ?_
  refine V_new (C0 := RJ2) (T := TJ2) (N := 3) (ci := 7) (fs := [.int 0, .null, .int 0]) C (g, 4, 0) in_J2 tyJ2 tyJ2_ok q89 q90 q41 rfl (fun j hj => by rcases (show j = 0 ∨ j = 1 ∨ j = 2 by omega) with rfl | rfl | rfl <;> rfl) (by first | decide | omega | (dsimp only [rmOf]; omega)) (by first | decide | omega | (dsimp only [rmOf]; omega)) dX1_init_17 (fun l0 hl0 => V_N (fun M4 e4 => ?_))
  have h__6 := mp_keepN e4 h__3 hl0
  have h__7 := mp_keepN e4 h__4 hl0
  have h__8 := mp_keepN e4 h__5 hl0
  have h__9 := mp_got e4
  refine V_dup C dX1_init_20 rfl ?_
  refine V_ofV (VR_I (As := []) (rest := [.ref l0, .ref a]) C (ct_J2_init l G b M4 l0 (g, 4, 0) (g, 5, 0) h__9) (lw_meth q93) q41 q91 q92 rfl nd_J2_init rfl (by decide) (by decide) dX1_init_21 rfl ⟨by decide, by decide⟩ (Nat.le_of_ble_eq_true rfl)) (fun M5 hM5 => ?_)
  obtain ⟨hal5, hE5⟩ := hM5
  have ha5 := hE5 _ _ h__6 (fun z => by rw [← z, h__3] at hl0; cases hl0)
  have hn5 := hE5 _ _ h__7 (fun z => by rw [← z, h__4] at hl0; cases hl0)
  have hw5 := hE5 _ _ h__8 (fun z => by rw [← z, h__5] at hl0; cases hl0)
  obtain ⟨lmo, lar, hl5⟩ := al_obj hal5
  refine V_M (V_putF (host := "") (C0 := RX1) (T := TX1) (N := 3) (ci := 1) (fs' := [.ref n0, .ref l0, .null]) C 1 in_X1 tyX1 tyX1_ok nmX1 rfl ha5 (by decide) q117 (fun _ h9 => h9) rfl hnm rfl rfl rfl rfl (Nat.le_of_ble_eq_true rfl) rfl dX1_init_24) (fun M6 e6 => ?_)
  have h__10 := mp_got e6
  have h__11 := mp_keep e6 hn5 ha5 (by first | assumption | exact Ne.symm (by assumption) | (simp; done) | (simp; omega) | (intro h; simp at h; omega))
  have h__12 := mp_keep e6 hw5 ha5 (by first | assumption | exact Ne.symm (by assumption) | (simp; done) | (simp; omega) | (intro h; simp at h; omega))
  have hal6 := hal5.keep (Keep.up (S := fun la => la = (g, 14, 0)) e6 ha5 rfl) (by simp) (by simp)
  refine V_aload_n C dX1_init_27 rfl rfl ?_
  refine V_new (C0 := RJ2) (T := TJ2) (N := 3) (ci := 7) (fs := [.int 0, .null, .int 0]) C (g, 6, 0) in_J2 tyJ2 tyJ2_ok q89 q90 q41 rfl (fun j hj => by rcases (show j = 0 ∨ j = 1 ∨ j = 2 by omega) with rfl | rfl | rfl <;> rfl) (by first | decide | omega | (dsimp only [rmOf]; omega)) (by first | decide | omega | (dsimp only [rmOf]; omega)) dX1_init_28 (fun l1 hl1 => V_N (fun M7 e7 => ?_))
  have h__13 := mp_keepN e7 h__10 hl1
  have h__14 := mp_keepN e7 h__11 hl1
  have h__15 := mp_keepN e7 h__12 hl1
  have h__16 := mp_got e7
  have hal7 := hal6.keep (S := fun _ => False) (Ext.new e7 hl1).keep id id
  refine V_dup C dX1_init_31 rfl ?_
  refine V_ofV (VR_I (As := []) (rest := [.ref l1, .ref a]) C (ct_J2_init l G b M7 l1 (g, 6, 0) (g, 7, 0) h__16) (lw_meth q93) q41 q91 q92 rfl nd_J2_init rfl (by decide) (by decide) dX1_init_32 rfl ⟨by decide, by decide⟩ (Nat.le_of_ble_eq_true rfl)) (fun M8 hM8 => ?_)
  obtain ⟨hal8, hE8⟩ := hM8
  have hl06 : l0 ≠ l1 := fun z => by obtain ⟨x1, x2, x3⟩ := al_obj hal6; rw [z, hl1] at x3; cases x3
  have ha8 := hE8 _ _ h__13 (fun z => by rw [← z, h__10] at hl1; cases hl1)
  have hn8 := hE8 _ _ h__14 (fun z => by rw [← z, h__11] at hl1; cases hl1)
  have hw8 := hE8 _ _ h__15 (fun z => by rw [← z, h__12] at hl1; cases hl1)
  have hK8 : Keep (fun la => la = (g, 6, 0)) M7 M8 := fun q la y hq hn => hE8 q _ hq (fun z => by subst z; rw [mp_got e7] at hq; cases hq; exact hn rfl)
  have hal8' := hal7.keep hK8 (by simp) (by simp)
  refine V_M (V_putF (host := "") (C0 := RX1) (T := TX1) (N := 3) (ci := 1) (fs' := [.ref n0, .ref l0, .ref l1]) C 2 in_X1 tyX1 tyX1_ok nmX1 rfl ha8 (by decide) q119 (fun _ h9 => h9) rfl hnm rfl rfl rfl rfl (Nat.le_of_ble_eq_true rfl) rfl dX1_init_35) (fun M9 e9 => ?_)
  have h__17 := mp_got e9
  have h__18 := mp_keep e9 hn8 ha8 (by first | assumption | exact Ne.symm (by assumption) | (simp; done) | (simp; omega) | (intro h; simp at h; omega))
  have h__19 := mp_keep e9 hw8 ha8 (by first | assumption | exact Ne.symm (by assumption) | (simp; done) | (simp; omega) | (intro h; simp at h; omega))
  have hK9 : Keep (fun la => la = (g, 14, 0)) M8 M9 := Keep.up e9 ha8 rfl
  refine V_vret C dX1_init_38 (by decide) (by decide) ⟨rfl, ⟨fun i j => if i = 2 then n0 else if i = 3 then w0 else if j = 0 then l0 else l1, ?_⟩, ?_⟩
  · refine ⟨h__17, hal8'.keep hK9 (by simp) (by simp), hal8.keep hK9 (by simp) (by simp), ⟨rfl, fun i hi0 => by simp at hi0⟩, fun k hk => by omega, fun k hk => by omega, fun m hm hmp => ?_, fun m hm hls => ?_, fun m key hm hv => chok_nil, ⟨by omega, by simp, fun k hk => by omega, fun bs hb => by simp at hb⟩, fun k m hk => by omega⟩
    · obtain rfl : m = 0 := by omega
      exact ⟨h__18, h__19⟩
    · exact absurd hls.1 (by omega)
  · have x2 : ExtB a M M3 := ((Ext.new e1 hn0).ofB hn0 hE2).b.tr (ExtB.up e3)
    have x5 := x2.mk hl0 e4 hE5
    have x6 := x5.tr (ExtB.up e6)
    exact (x6.mk hl1 e7 hE8).tr (ExtB.up e9)

