set_option maxRecDepth 100000
/-! THE COMPONENT, L: questions to a replica -/
theorem ct_X0_replica_bad (l : Launch) (G : mp_G) (b : Nat) (M : mp_M) (dx ra wa da : Nat) (rp : Nat → Nat) (hD : DocAt G M dx ra wa da rp) (x : Int32) (hx : isRepB x = false) : Ct l yX0_replica cX0_replica 2 (some (.object "ReplicaDocument$Replica")) 0 0 0 G b ([.ref dx, .int x] : List Value) M (pR (fun y M1 => y = none ∧ M1 = M)) := by
  refine Ct.ofV (by decide) (vc_ref (vc_int vc_nil)) (Nat.le_of_ble_eq_true rfl) ?_
  intro p e s m below meth c C hnm
  refine V_L (L1 := [some (.ref dx), some (.int x)]) rfl ?_
  refine V_iload_n C dX0_replica_0 rfl rfl ?_
  refine V_if_lt C 9 dX0_replica_1 (by decide) (fun k1 => ?_) (fun k1 => ?_)
  · refine V_null C dX0_replica_9 ?_
    refine V_goto C 19 dX0_replica_10 (by decide) ?_
    exact V_aret (o := none) C (Or.inl ⟨_, rfl⟩) dX0_replica_19 (by decide) (by decide) ⟨_, rfl, rfl, rfl⟩
  · refine V_iload_n C dX0_replica_4 rfl rfl ?_
    refine V_iconst C 2 dX0_replica_5 (by decide) ?_
    refine V_icmp_le C 13 dX0_replica_6 (by decide) (fun k6 => ?_) (fun k6 => ?_)
    · exact absurd hx (by unfold isRepB; rw [decide_eq_true k1, decide_eq_true k6]; decide)
    · refine V_null C dX0_replica_9 ?_
      refine V_goto C 19 dX0_replica_10 (by decide) ?_
      exact V_aret (o := none) C (Or.inl ⟨_, rfl⟩) dX0_replica_19 (by decide) (by decide) ⟨_, rfl, rfl, rfl⟩
theorem ct_X0_replica (l : Launch) (G : mp_G) (b : Nat) (M : mp_M) (dx ra wa da : Nat) (rp : Nat → Nat) (hD : DocAt G M dx ra wa da rp) (r a : Nat) (hr : r ≤ 2) (hrp : rp r = a) : Ct l yX0_replica cX0_replica 2 (some (.object "ReplicaDocument$Replica")) 0 0 0 G b ([.ref dx, .int (nI r)] : List Value) M (pR (fun y M1 => y = some a ∧ M1 = M)) := by
  refine Ct.ofV (by decide) (vc_ref (vc_int vc_nil)) (Nat.le_of_ble_eq_true rfl) ?_
  intro p e s m below meth c C hnm
  refine V_L (L1 := [some (.ref dx), some (.int (nI r))]) rfl ?_
  refine V_iload_n C dX0_replica_0 rfl rfl ?_
  refine V_if_lt C 9 dX0_replica_1 (by decide) (fun h => absurd h (nI_pos (n := r) (by omega))) (fun _ => ?_)
  refine V_iload_n C dX0_replica_4 rfl rfl ?_
  refine V_iconst C 2 dX0_replica_5 (by decide) ?_
  refine V_nicmp_le (x := r) (y := 2) C 13 dX0_replica_6 (by decide) (by omega) (by omega) (fun k6 => ?_) (fun k6 => ?_)
  · refine V_aload_n C dX0_replica_13 rfl rfl ?_
    refine V_get (C0 := RX0) (T := TX0) (N := 3) (ci := 0) C 0 in_X0 rfl hD.1 (by decide) q161 (fun _ h9 => h9) rfl dX0_replica_14 ?_
    refine V_iload_n C dX0_replica_17 rfl rfl ?_
    refine V_aald C 5 rfl hD.2 (pk_in r 3 (by omega)) dX0_replica_18 ?_
    refine V_topq (o1 := (some a)) (by rw [nI_clamp (n := r) (by omega)]; exact (by rw [if_pos hr, hrp])) ?_
    exact V_aret C (Or.inl ⟨_, rfl⟩) dX0_replica_19 (by decide) (by decide) ⟨_, rfl, rfl, rfl⟩
  · omega
theorem ct_X0_held_bad (l : Launch) (G : mp_G) (b : Nat) (M : mp_M) (dx ra wa da : Nat) (rp : Nat → Nat) (hD : DocAt G M dx ra wa da rp) (x : Int32) (hx : isRepB x = false) : Ct l yX0_held cX0_held 3 (some .int) 2 0 0 G b ([.ref dx, .int x] : List Value) M (pI (fun y M1 => y = -1 ∧ M1 = M)) := by
  refine Ct.ofV (by decide) (vc_ref (vc_int vc_nil)) (Nat.le_of_ble_eq_true rfl) ?_
  intro p e s m below meth c C hnm
  refine V_L (L1 := [some (.ref dx), some (.int x), none]) rfl ?_
  refine V_aload_n C dX0_held_0 rfl rfl ?_
  refine V_iload_n C dX0_held_1 rfl rfl ?_
  refine V_ofRe (VR_V (As := [.int x]) (rest := []) C (ct_X0_replica_bad l G b M dx ra wa da rp hD x hx) hD.1 rfl (lw_V q175 q177 qs0 q36 q178) rfl nd_X0_replica rfl (by decide) (by decide) dX0_held_2 rfl ⟨by decide, by decide⟩ (Nat.le_of_ble_eq_true rfl)) ?_
  refine V_astore_nq (o := none) (L' := [some (.ref dx), some (.int x), some (.null)]) C dX0_held_5 rfl (by decide) rfl ?_
  refine V_aload_nq (o := none) C dX0_held_6 rfl rfl ?_
  refine V_ifnonnull_N C dX0_held_7 ?_
  refine V_iconst C (-1) dX0_held_10 (by decide) ?_
  refine V_goto C 18 dX0_held_11 (by decide) ?_
  exact V_iret C dX0_held_18 (by decide) (by decide) ⟨_, rfl, rfl, rfl⟩
theorem ct_X0_log_bad (l : Launch) (G : mp_G) (b : Nat) (M : mp_M) (dx ra wa da : Nat) (rp : Nat → Nat) (hD : DocAt G M dx ra wa da rp) (x z : Int32) (hx : isRepB x = false) : Ct l yX0_log cX0_log 4 (some .int) 2 0 0 G b ([.ref dx, .int x, .int z] : List Value) M (pI (fun y M1 => y = -1 ∧ M1 = M)) := by
  refine Ct.ofV (by decide) (vc_ref (vc_int (vc_int vc_nil))) (Nat.le_of_ble_eq_true rfl) ?_
  intro p e s m below meth c C hnm
  refine V_L (L1 := [some (.ref dx), some (.int x), some (.int z), none]) rfl ?_
  refine V_aload_n C dX0_log_0 rfl rfl ?_
  refine V_iload_n C dX0_log_1 rfl rfl ?_
  refine V_ofRe (VR_V (As := [.int x]) (rest := []) C (ct_X0_replica_bad l G b M dx ra wa da rp hD x hx) hD.1 rfl (lw_V q175 q177 qs0 q36 q178) rfl nd_X0_replica rfl (by decide) (by decide) dX0_log_2 rfl ⟨by decide, by decide⟩ (Nat.le_of_ble_eq_true rfl)) ?_
  refine V_astore_nq (o := none) (L' := [some (.ref dx), some (.int x), some (.int z), some (.null)]) C dX0_log_5 rfl (by decide) rfl ?_
  refine V_aload_nq (o := none) C dX0_log_6 rfl rfl ?_
  refine V_ifnonnull_N C dX0_log_7 ?_
  refine V_iconst C (-1) dX0_log_10 (by decide) ?_
  exact V_iret C dX0_log_11 (by decide) (by decide) ⟨_, rfl, rfl, rfl⟩
theorem ct_X0_past_bad (l : Launch) (G : mp_G) (b : Nat) (M : mp_M) (dx ra wa da : Nat) (rp : Nat → Nat) (hD : DocAt G M dx ra wa da rp) (x z w : Int32) (hx : isRepB x = false) : Ct l yX0_past cX0_past 7 (some .boolean) 2 0 0 G b ([.ref dx, .int x, .int z, .int w] : List Value) M (pI (fun y M1 => y = 0 ∧ M1 = M)) := by
  refine Ct.ofV (by decide) (vc_ref (vc_int (vc_int (vc_int vc_nil)))) (Nat.le_of_ble_eq_true rfl) ?_
  intro p e s m below meth c C hnm
  refine V_L (L1 := [some (.ref dx), some (.int x), some (.int z), some (.int w), none, none, none]) rfl ?_
  refine V_aload_n C dX0_past_0 rfl rfl ?_
  refine V_iload_n C dX0_past_1 rfl rfl ?_
  refine V_ofRe (VR_V (As := [.int x]) (rest := []) C (ct_X0_replica_bad l G b M dx ra wa da rp hD x hx) hD.1 rfl (lw_V q175 q177 qs0 q36 q178) rfl nd_X0_replica rfl (by decide) (by decide) dX0_past_2 rfl ⟨by decide, by decide⟩ (Nat.le_of_ble_eq_true rfl)) ?_
  refine V_astoreq (o := none) (L' := [some (.ref dx), some (.int x), some (.int z), some (.int w), some (.null), none, none]) C dX0_past_5 (by decide) rfl ?_
  refine V_aloadq (o := none) C dX0_past_7 rfl ?_
  refine V_ifnonnull_N C dX0_past_9 ?_
  refine V_iconst C 0 dX0_past_12 (by decide) ?_
  exact V_zret C rfl dX0_past_13 (by decide) (by decide) ⟨_, rfl, rfl, rfl⟩
theorem ct_X0_heads_bad (l : Launch) (G : mp_G) (b : Nat) (M : mp_M) (dx ra wa da : Nat) (rp : Nat → Nat) (hD : DocAt G M dx ra wa da rp) (x : Int32) (hx : isRepB x = false) : Ct l yX0_heads cX0_heads 5 (some .int) 2 0 0 G b ([.ref dx, .int x] : List Value) M (pI (fun y M1 => y = -1 ∧ M1 = M)) := by
  refine Ct.ofV (by decide) (vc_ref (vc_int vc_nil)) (Nat.le_of_ble_eq_true rfl) ?_
  intro p e s m below meth c C hnm
  refine V_L (L1 := [some (.ref dx), some (.int x), none, none, none]) rfl ?_
  refine V_aload_n C dX0_heads_0 rfl rfl ?_
  refine V_iload_n C dX0_heads_1 rfl rfl ?_
  refine V_ofRe (VR_V (As := [.int x]) (rest := []) C (ct_X0_replica_bad l G b M dx ra wa da rp hD x hx) hD.1 rfl (lw_V q175 q177 qs0 q36 q178) rfl nd_X0_replica rfl (by decide) (by decide) dX0_heads_2 rfl ⟨by decide, by decide⟩ (Nat.le_of_ble_eq_true rfl)) ?_
  refine V_astore_nq (o := none) (L' := [some (.ref dx), some (.int x), some (.null), none, none]) C dX0_heads_5 rfl (by decide) rfl ?_
  refine V_aload_nq (o := none) C dX0_heads_6 rfl rfl ?_
  refine V_ifnonnull_N C dX0_heads_7 ?_
  refine V_iconst C (-1) dX0_heads_10 (by decide) ?_
  exact V_iret C dX0_heads_11 (by decide) (by decide) ⟨_, rfl, rfl, rfl⟩
theorem ct_X0_entry_bad (l : Launch) (G : mp_G) (b : Nat) (M : mp_M) (dx ra wa da : Nat) (rp : Nat → Nat) (hD : DocAt G M dx ra wa da rp) (x mm z w : Int32) (hx : isRepB x = false) : Ct l yX0_entry cX0_entry 9 (some .int) 2 0 0 G b ([.ref dx, .int x, .int mm, .int z, .int w] : List Value) M (pI (fun y M1 => y = -1 ∧ M1 = M)) := by
  refine Ct.ofV (by decide) (vc_ref (vc_int (vc_int (vc_int (vc_int vc_nil))))) (Nat.le_of_ble_eq_true rfl) ?_
  intro p e s m below meth c C hnm
  refine V_L (L1 := [some (.ref dx), some (.int x), some (.int mm), some (.int z), some (.int w), none, none, none, none]) rfl ?_
  refine V_aload_n C dX0_entry_0 rfl rfl ?_
  refine V_iload_n C dX0_entry_1 rfl rfl ?_
  refine V_ofRe (VR_V (As := [.int x]) (rest := []) C (ct_X0_replica_bad l G b M dx ra wa da rp hD x hx) hD.1 rfl (lw_V q175 q177 qs0 q36 q178) rfl nd_X0_replica rfl (by decide) (by decide) dX0_entry_2 rfl ⟨by decide, by decide⟩ (Nat.le_of_ble_eq_true rfl)) ?_
  refine V_astoreq (o := none) (L' := [some (.ref dx), some (.int x), some (.int mm), some (.int z), some (.int w), some (.null), none, none, none]) C dX0_entry_5 (by decide) rfl ?_
  refine V_aloadq (o := none) C dX0_entry_7 rfl ?_
  refine V_ifnonnull_N C dX0_entry_9 ?_
  refine V_null C dX0_entry_12 ?_
  refine V_goto C 22 dX0_entry_13 (by decide) ?_
  refine V_astoreq (o := none) (L' := [some (.ref dx), some (.int x), some (.int mm), some (.int z), some (.int w), some (.null), some (.null), none, none]) C dX0_entry_22 (by decide) rfl ?_
  refine V_aloadq (o := none) C dX0_entry_24 rfl ?_
  refine V_instN C dX0_entry_26 ?_
  refine V_if_eq C 39 dX0_entry_29 (by decide) (fun _ => ?_) (fun h => absurd (by decide) h)
  refine V_iconst C (-1) dX0_entry_39 (by decide) ?_
  exact V_iret C dX0_entry_40 (by decide) (by decide) ⟨_, rfl, rfl, rfl⟩
theorem ct_X0_element_bad (l : Launch) (G : mp_G) (b : Nat) (M : mp_M) (dx ra wa da : Nat) (rp : Nat → Nat) (hD : DocAt G M dx ra wa da rp) (x z w : Int32) (hx : isRepB x = false) : Ct l yX0_element cX0_element 8 (some .int) 2 0 0 G b ([.ref dx, .int x, .int z, .int w] : List Value) M (pI (fun y M1 => y = -1 ∧ M1 = M)) := by
  refine Ct.ofV (by decide) (vc_ref (vc_int (vc_int (vc_int vc_nil)))) (Nat.le_of_ble_eq_true rfl) ?_
  intro p e s m below meth c C hnm
  refine V_L (L1 := [some (.ref dx), some (.int x), some (.int z), some (.int w), none, none, none, none]) rfl ?_
  refine V_aload_n C dX0_element_0 rfl rfl ?_
  refine V_iload_n C dX0_element_1 rfl rfl ?_
  refine V_ofRe (VR_V (As := [.int x]) (rest := []) C (ct_X0_replica_bad l G b M dx ra wa da rp hD x hx) hD.1 rfl (lw_V q175 q177 qs0 q36 q178) rfl nd_X0_replica rfl (by decide) (by decide) dX0_element_2 rfl ⟨by decide, by decide⟩ (Nat.le_of_ble_eq_true rfl)) ?_
  refine V_astoreq (o := none) (L' := [some (.ref dx), some (.int x), some (.int z), some (.int w), some (.null), none, none, none]) C dX0_element_5 (by decide) rfl ?_
  refine V_aloadq (o := none) C dX0_element_7 rfl ?_
  refine V_ifnonnull_N C dX0_element_9 ?_
  refine V_null C dX0_element_12 ?_
  refine V_goto C 22 dX0_element_13 (by decide) ?_
  refine V_astoreq (o := none) (L' := [some (.ref dx), some (.int x), some (.int z), some (.int w), some (.null), some (.null), none, none]) C dX0_element_22 (by decide) rfl ?_
  refine V_aloadq (o := none) C dX0_element_24 rfl ?_
  refine V_instN C dX0_element_26 ?_
  refine V_if_ne C 34 dX0_element_29 (by decide) (fun h => absurd rfl h) (fun _ => ?_)
  refine V_iconst C (-1) dX0_element_32 (by decide) ?_
  exact V_iret C dX0_element_33 (by decide) (by decide) ⟨_, rfl, rfl, rfl⟩
theorem ct_X0_value_bad (l : Launch) (G : mp_G) (b : Nat) (M : mp_M) (dx ra wa da : Nat) (rp : Nat → Nat) (hD : DocAt G M dx ra wa da rp) (x z : Int32) (hx : isRepB x = false) : Ct l yX0_value cX0_value 5 (some .int) 2 0 0 G b ([.ref dx, .int x, .int z] : List Value) M (pI (fun y M1 => y = -1 ∧ M1 = M)) := by
  refine Ct.ofV (by decide) (vc_ref (vc_int (vc_int vc_nil))) (Nat.le_of_ble_eq_true rfl) ?_
  intro p e s m below meth c C hnm
  refine V_L (L1 := [some (.ref dx), some (.int x), some (.int z), none, none]) rfl ?_
  refine V_aload_n C dX0_value_0 rfl rfl ?_
  refine V_iload_n C dX0_value_1 rfl rfl ?_
  refine V_ofRe (VR_V (As := [.int x]) (rest := []) C (ct_X0_replica_bad l G b M dx ra wa da rp hD x hx) hD.1 rfl (lw_V q175 q177 qs0 q36 q178) rfl nd_X0_replica rfl (by decide) (by decide) dX0_value_2 rfl ⟨by decide, by decide⟩ (Nat.le_of_ble_eq_true rfl)) ?_
  refine V_astore_nq (o := none) (L' := [some (.ref dx), some (.int x), some (.int z), some (.null), none]) C dX0_value_5 rfl (by decide) rfl ?_
  refine V_aload_nq (o := none) C dX0_value_6 rfl rfl ?_
  refine V_ifnonnull_N C dX0_value_7 ?_
  refine V_null C dX0_value_10 ?_
  refine V_goto C 19 dX0_value_11 (by decide) ?_
  refine V_astoreq (o := none) (L' := [some (.ref dx), some (.int x), some (.int z), some (.null), some (.null)]) C dX0_value_19 (by decide) rfl ?_
  refine V_aloadq (o := none) C dX0_value_21 rfl ?_
  refine V_ifnonnull_N C dX0_value_23 ?_
  refine V_iconst C (-1) dX0_value_26 (by decide) ?_
  refine V_goto C 38 dX0_value_27 (by decide) ?_
  exact V_iret C dX0_value_38 (by decide) (by decide) ⟨_, rfl, rfl, rfl⟩
theorem ct_X0_depth_bad (l : Launch) (G : mp_G) (b : Nat) (M : mp_M) (dx ra wa da : Nat) (rp : Nat → Nat) (hD : DocAt G M dx ra wa da rp) (x z : Int32) (hx : isRepB x = false) : Ct l yX0_depth cX0_depth 5 (some .int) 2 0 0 G b ([.ref dx, .int x, .int z] : List Value) M (pI (fun y M1 => y = -1 ∧ M1 = M)) := by
  refine Ct.ofV (by decide) (vc_ref (vc_int (vc_int vc_nil))) (Nat.le_of_ble_eq_true rfl) ?_
  intro p e s m below meth c C hnm
  refine V_L (L1 := [some (.ref dx), some (.int x), some (.int z), none, none]) rfl ?_
  refine V_aload_n C dX0_depth_0 rfl rfl ?_
  refine V_iload_n C dX0_depth_1 rfl rfl ?_
  refine V_ofRe (VR_V (As := [.int x]) (rest := []) C (ct_X0_replica_bad l G b M dx ra wa da rp hD x hx) hD.1 rfl (lw_V q175 q177 qs0 q36 q178) rfl nd_X0_replica rfl (by decide) (by decide) dX0_depth_2 rfl ⟨by decide, by decide⟩ (Nat.le_of_ble_eq_true rfl)) ?_
  refine V_astore_nq (o := none) (L' := [some (.ref dx), some (.int x), some (.int z), some (.null), none]) C dX0_depth_5 rfl (by decide) rfl ?_
  refine V_aload_nq (o := none) C dX0_depth_6 rfl rfl ?_
  refine V_ifnonnull_N C dX0_depth_7 ?_
  refine V_iconst C (-1) dX0_depth_10 (by decide) ?_
  exact V_iret C dX0_depth_11 (by decide) (by decide) ⟨_, rfl, rfl, rfl⟩
theorem ct_X0_sum_bad (l : Launch) (G : mp_G) (b : Nat) (M : mp_M) (dx ra wa da : Nat) (rp : Nat → Nat) (hD : DocAt G M dx ra wa da rp) (x : Int32) (hx : isRepB x = false) : Ct l yX0_sum cX0_sum 3 (some .int) 2 0 0 G b ([.ref dx, .int x] : List Value) M (pI (fun y M1 => y = 0 ∧ M1 = M)) := by
  refine Ct.ofV (by decide) (vc_ref (vc_int vc_nil)) (Nat.le_of_ble_eq_true rfl) ?_
  intro p e s m below meth c C hnm
  refine V_L (L1 := [some (.ref dx), some (.int x), none]) rfl ?_
  refine V_aload_n C dX0_sum_0 rfl rfl ?_
  refine V_iload_n C dX0_sum_1 rfl rfl ?_
  refine V_ofRe (VR_V (As := [.int x]) (rest := []) C (ct_X0_replica_bad l G b M dx ra wa da rp hD x hx) hD.1 rfl (lw_V q175 q177 qs0 q36 q178) rfl nd_X0_replica rfl (by decide) (by decide) dX0_sum_2 rfl ⟨by decide, by decide⟩ (Nat.le_of_ble_eq_true rfl)) ?_
  refine V_astore_nq (o := none) (L' := [some (.ref dx), some (.int x), some (.null)]) C dX0_sum_5 rfl (by decide) rfl ?_
  refine V_aload_nq (o := none) C dX0_sum_6 rfl rfl ?_
  refine V_ifnonnull_N C dX0_sum_7 ?_
  refine V_iconst C 0 dX0_sum_10 (by decide) ?_
  refine V_goto C 22 dX0_sum_11 (by decide) ?_
  exact V_iret C dX0_sum_22 (by decide) (by decide) ⟨_, rfl, rfl, rfl⟩
theorem ct_X0_emit_bad (l : Launch) (G : mp_G) (b : Nat) (M : mp_M) (dx ra wa da : Nat) (rp : Nat → Nat) (hD : DocAt G M dx ra wa da rp) (x z : Int32) (hx : isRepB x = false) : Ct l yX0_emit cX0_emit 5 (some .int) 2 0 0 G b ([.ref dx, .int x, .int z] : List Value) M (pI (fun y M1 => y = -1 ∧ M1 = M)) := by
  refine Ct.ofV (by decide) (vc_ref (vc_int (vc_int vc_nil))) (Nat.le_of_ble_eq_true rfl) ?_
  intro p e s m below meth c C hnm
  refine V_L (L1 := [some (.ref dx), some (.int x), some (.int z), none, none]) rfl ?_
  refine V_aload_n C dX0_emit_0 rfl rfl ?_
  refine V_iload_n C dX0_emit_1 rfl rfl ?_
  refine V_ofRe (VR_V (As := [.int x]) (rest := []) C (ct_X0_replica_bad l G b M dx ra wa da rp hD x hx) hD.1 rfl (lw_V q175 q177 qs0 q36 q178) rfl nd_X0_replica rfl (by decide) (by decide) dX0_emit_2 rfl ⟨by decide, by decide⟩ (Nat.le_of_ble_eq_true rfl)) ?_
  refine V_astore_nq (o := none) (L' := [some (.ref dx), some (.int x), some (.int z), some (.null), none]) C dX0_emit_5 rfl (by decide) rfl ?_
  refine V_aload_nq (o := none) C dX0_emit_6 rfl rfl ?_
  refine V_ifnonnull_N C dX0_emit_7 ?_
  refine V_null C dX0_emit_10 ?_
  refine V_goto C 19 dX0_emit_11 (by decide) ?_
  refine V_astoreq (o := none) (L' := [some (.ref dx), some (.int x), some (.int z), some (.null), some (.null)]) C dX0_emit_19 (by decide) rfl ?_
  refine V_aloadq (o := none) C dX0_emit_21 rfl ?_
  refine V_ifnonnull_N C dX0_emit_23 ?_
  refine V_iconst C (-1) dX0_emit_26 (by decide) ?_
  exact V_iret C dX0_emit_27 (by decide) (by decide) ⟨_, rfl, rfl, rfl⟩
theorem ct_X0_receive_bad (l : Launch) (G : mp_G) (b : Nat) (M : mp_M) (dx ra wa da : Nat) (rp : Nat → Nat) (hD : DocAt G M dx ra wa da rp) (x : Int32) (hx : isRepB x = false) : Ct l yX0_receive cX0_receive 5 (some .int) 2 0 0 G b ([.ref dx, .int x] : List Value) M (pI (fun y M1 => y = -1 ∧ M1 = M)) := by
  refine Ct.ofV (by decide) (vc_ref (vc_int vc_nil)) (Nat.le_of_ble_eq_true rfl) ?_
  intro p e s m below meth c C hnm
  refine V_L (L1 := [some (.ref dx), some (.int x), none, none, none]) rfl ?_
  refine V_aload_n C dX0_receive_0 rfl rfl ?_
  refine V_iload_n C dX0_receive_1 rfl rfl ?_
  refine V_ofRe (VR_V (As := [.int x]) (rest := []) C (ct_X0_replica_bad l G b M dx ra wa da rp hD x hx) hD.1 rfl (lw_V q175 q177 qs0 q36 q178) rfl nd_X0_replica rfl (by decide) (by decide) dX0_receive_2 rfl ⟨by decide, by decide⟩ (Nat.le_of_ble_eq_true rfl)) ?_
  refine V_astore_nq (o := none) (L' := [some (.ref dx), some (.int x), some (.null), none, none]) C dX0_receive_5 rfl (by decide) rfl ?_
  refine V_aload_nq (o := none) C dX0_receive_6 rfl rfl ?_
  refine V_ifnonnull_N C dX0_receive_7 ?_
  refine V_iconst C (-1) dX0_receive_10 (by decide) ?_
  exact V_iret C dX0_receive_11 (by decide) (by decide) ⟨_, rfl, rfl, rfl⟩
theorem ct_X0_edit_bad (l : Launch) (G : mp_G) (b : Nat) (M : mp_M) (dx ra wa da : Nat) (rp : Nat → Nat) (hD : DocAt G M dx ra wa da rp) (x kd tg sl vl : Int32) (hx : isRepB x = false) : Ct l yX0_edit cX0_edit 11 (some .int) 2 0 0 G b ([.ref dx, .int x, .int kd, .int tg, .int sl, .int vl] : List Value) M (pI (fun y M1 => y = -1 ∧ M1 = M)) := by
  refine Ct.ofV (by decide) (vc_ref (vc_int (vc_int (vc_int (vc_int (vc_int vc_nil)))))) (Nat.le_of_ble_eq_true rfl) ?_
  intro p e s m below meth c C hnm
  refine V_L (L1 := [some (.ref dx), some (.int x), some (.int kd), some (.int tg), some (.int sl), some (.int vl), none, none, none, none, none]) rfl ?_
  refine V_aload_n C dX0_edit_0 rfl rfl ?_
  refine V_iload_n C dX0_edit_1 rfl rfl ?_
  refine V_ofRe (VR_V (As := [.int x]) (rest := []) C (ct_X0_replica_bad l G b M dx ra wa da rp hD x hx) hD.1 rfl (lw_V q175 q177 qs0 q36 q178) rfl nd_X0_replica rfl (by decide) (by decide) dX0_edit_2 rfl ⟨by decide, by decide⟩ (Nat.le_of_ble_eq_true rfl)) ?_
  refine V_astoreq (o := none) (L' := [some (.ref dx), some (.int x), some (.int kd), some (.int tg), some (.int sl), some (.int vl), some (.null), none, none, none, none]) C dX0_edit_5 (by decide) rfl ?_
  refine V_aloadq (o := none) C dX0_edit_7 rfl ?_
  refine V_ifnull_N C 36 dX0_edit_9 (by decide) ?_
  refine V_iconst C (-1) dX0_edit_36 (by decide) ?_
  exact V_iret C dX0_edit_37 (by decide) (by decide) ⟨_, rfl, rfl, rfl⟩
theorem ct_X0_held (l : Launch) (G : mp_G) (b : Nat) (M : mp_M) (dx ra wa da : Nat) (rp : Nat → Nat) (hD : DocAt G M dx ra wa da rp) (g a ln : Nat) (lo : Nat → List Nat) (P : Nat → Int32) (hi : Nat → Option Nat) (sh fo : Nat → Bool) (ch : Nat → Nat → List Nat) (nx : Nat → Option Nat) (wt : List (List Nat)) (A : Nat → Nat → Nat) (wo : List Nat) (hR : RepAt G M g a ln lo P hi sh fo ch nx wt A wo) (r : Nat) (hr : r ≤ 2) (hrp : rp r = a) : Ct l yX0_held cX0_held 3 (some .int) 2 0 0 G b ([.ref dx, .int (nI r)] : List Value) M (pI (fun y M1 => y = nI (ln + wt.length) ∧ M1 = M)) := by
  refine Ct.ofV (by decide) (vc_ref (vc_int vc_nil)) (Nat.le_of_ble_eq_true rfl) ?_
  intro p e s m below meth c C hnm
  refine V_L (L1 := [some (.ref dx), some (.int (nI r)), none]) rfl ?_
  obtain ⟨r1, r2, r3, r4, r5, r6, r7, r8, r9, r10, r11⟩ := id hR
  have rb := r10.2.2.1
  have rln := r10.1
  have rwl := r10.2.1
  have rwo := r4.1
  obtain ⟨lmo, lar, hla⟩ := al_obj r2
  obtain ⟨wmo, war, hwa⟩ := al_obj r3
  refine V_aload_n C dX0_held_0 rfl rfl ?_
  refine V_iload_n C dX0_held_1 rfl rfl ?_
  refine V_ofRe (VR_V (As := [.int (nI r)]) (rest := []) C (ct_X0_replica l G b M dx ra wa da rp hD r a hr hrp) hD.1 rfl (lw_V q175 q177 qs0 q36 q178) rfl nd_X0_replica rfl (by decide) (by decide) dX0_held_2 rfl ⟨by decide, by decide⟩ (Nat.le_of_ble_eq_true rfl)) ?_
  refine V_astore_n (L' := [some (.ref dx), some (.int (nI r)), some (.ref a)]) C dX0_held_5 rfl (by decide) rfl ?_
  refine V_aload_n C dX0_held_6 rfl rfl ?_
  refine V_ifnonnull_R C 14 dX0_held_7 (by decide) ?_
  refine V_aload_n C dX0_held_14 rfl rfl ?_
  refine V_ofIe (VR_V (As := []) (rest := []) C (ct_X1_size l G b M g a ln lo P hi sh fo ch nx wt A wo hR) r1 rfl (lw_V q280 q281 q282 q37 q283) rfl nd_X1_size rfl (by decide) (by decide) dX0_held_15 rfl ⟨by decide, by decide⟩ (Nat.le_of_ble_eq_true rfl)) ?_
  exact V_iret C dX0_held_18 (by decide) (by decide) ⟨_, rfl, rfl, rfl⟩
theorem ct_X0_log (l : Launch) (G : mp_G) (b : Nat) (M : mp_M) (dx ra wa da : Nat) (rp : Nat → Nat) (hD : DocAt G M dx ra wa da rp) (g a ln : Nat) (lo : Nat → List Nat) (P : Nat → Int32) (hi : Nat → Option Nat) (sh fo : Nat → Bool) (ch : Nat → Nat → List Nat) (nx : Nat → Option Nat) (wt : List (List Nat)) (A : Nat → Nat → Nat) (wo : List Nat) (hR : RepAt G M g a ln lo P hi sh fo ch nx wt A wo) (r : Nat) (hr : r ≤ 2) (hrp : rp r = a) (x : Int32) : Ct l yX0_log cX0_log 4 (some .int) 5 0 0 G b ([.ref dx, .int (nI r), .int x] : List Value) M (pI (fun y M1 => y = (if x = -1 then nI ln else if ¬ x < 0 ∧ x < nI ln then nI (oB (lo x.toNatClampNeg) 0) else -1) ∧ M1 = M)) := by
  have rlq := hR.2.2.2.2.2.2.2.2.2.1.1
  rcases pk_ix x (n := ln) (by omega) with hx | hx | ⟨j, hj, hxj⟩
  · refine Ct.ofV (by decide) (vc_ref (vc_int (vc_int vc_nil))) (Nat.le_of_ble_eq_true rfl) ?_
    intro p e s m below meth c C hnm
    refine V_L (L1 := [some (.ref dx), some (.int (nI r)), some (.int x), none]) rfl ?_
    obtain ⟨r1, r2, r3, r4, r5, r6, r7, r8, r9, r10, r11⟩ := id hR
    have rb := r10.2.2.1
    have rln := r10.1
    have rwl := r10.2.1
    have rwo := r4.1
    obtain ⟨lmo, lar, hla⟩ := al_obj r2
    obtain ⟨wmo, war, hwa⟩ := al_obj r3
    refine V_aload_n C dX0_log_0 rfl rfl ?_
    refine V_iload_n C dX0_log_1 rfl rfl ?_
    refine V_ofRe (VR_V (As := [.int (nI r)]) (rest := []) C (ct_X0_replica l G b M dx ra wa da rp hD r a hr hrp) hD.1 rfl (lw_V q175 q177 qs0 q36 q178) rfl nd_X0_replica rfl (by decide) (by decide) dX0_log_2 rfl ⟨by decide, by decide⟩ (Nat.le_of_ble_eq_true rfl)) ?_
    refine V_astore_n (L' := [some (.ref dx), some (.int (nI r)), some (.int x), some (.ref a)]) C dX0_log_5 rfl (by decide) rfl ?_
    refine V_aload_n C dX0_log_6 rfl rfl ?_
    refine V_ifnonnull_R C 12 dX0_log_7 (by decide) ?_
    refine V_iload_n C dX0_log_12 rfl rfl ?_
    refine V_iconst C (-1) dX0_log_13 (by decide) ?_
    refine V_icmp_ne C 25 dX0_log_14 (by decide) (fun k14 => ?_) (fun k14 => ?_)
    · refine V_iload_n C dX0_log_25 rfl rfl ?_
      refine V_if_lt C 40 dX0_log_26 (by decide) (fun k26 => ?_) (fun k26 => ?_)
      · refine V_iconst C (-1) dX0_log_40 (by decide) ?_
        refine V_goto C 61 dX0_log_41 (by decide) ?_
        exact V_iret C dX0_log_61 (by decide) (by decide) ⟨_, rfl, by first | rw [if_pos k14] | (rw [if_neg k14, if_neg (fun z => z.1 hx)]), rfl⟩
      · exact absurd hx k26
    · refine V_aload_n C dX0_log_17 rfl rfl ?_
      refine V_getN (C0 := RX1) (T := TX1) (N := 3) (ci := 1) C 1 in_X1 rfl r1 (by decide) ev118 (fun _ h9 => h9) rfl dX0_log_18 ?_
      refine V_ofIe (VR_V (As := []) (rest := []) C (ct_J2_sizeN l G b M (A 4 0) (g, 4, 0) (g, 5, 0) _ r2 lg_len) hla rfl (lw_V q726 q205 q206 q41 q207) rfl nd_J2_size rfl (by decide) (by decide) dX0_log_21 rfl ⟨by decide, by decide⟩ (Nat.le_of_ble_eq_true rfl)) ?_
      exact V_iret C dX0_log_24 (by decide) (by decide) ⟨_, rfl, by first | rw [if_pos k14] | (rw [if_neg k14, if_neg (fun z => z.1 hx)]), rfl⟩
  · refine Ct.ofV (by decide) (vc_ref (vc_int (vc_int vc_nil))) (Nat.le_of_ble_eq_true rfl) ?_
    intro p e s m below meth c C hnm
    refine V_L (L1 := [some (.ref dx), some (.int (nI r)), some (.int x), none]) rfl ?_
    obtain ⟨r1, r2, r3, r4, r5, r6, r7, r8, r9, r10, r11⟩ := id hR
    have rb := r10.2.2.1
    have rln := r10.1
    have rwl := r10.2.1
    have rwo := r4.1
    obtain ⟨lmo, lar, hla⟩ := al_obj r2
    obtain ⟨wmo, war, hwa⟩ := al_obj r3
    refine V_aload_n C dX0_log_0 rfl rfl ?_
    refine V_iload_n C dX0_log_1 rfl rfl ?_
    refine V_ofRe (VR_V (As := [.int (nI r)]) (rest := []) C (ct_X0_replica l G b M dx ra wa da rp hD r a hr hrp) hD.1 rfl (lw_V q175 q177 qs0 q36 q178) rfl nd_X0_replica rfl (by decide) (by decide) dX0_log_2 rfl ⟨by decide, by decide⟩ (Nat.le_of_ble_eq_true rfl)) ?_
    refine V_astore_n (L' := [some (.ref dx), some (.int (nI r)), some (.int x), some (.ref a)]) C dX0_log_5 rfl (by decide) rfl ?_
    refine V_aload_n C dX0_log_6 rfl rfl ?_
    refine V_ifnonnull_R C 12 dX0_log_7 (by decide) ?_
    refine V_iload_n C dX0_log_12 rfl rfl ?_
    refine V_iconst C (-1) dX0_log_13 (by decide) ?_
    refine V_icmp_ne C 25 dX0_log_14 (by decide) (fun k14 => ?_) (fun k14 => ?_)
    · refine V_iload_n C dX0_log_25 rfl rfl ?_
      refine V_if_lt C 40 dX0_log_26 (by decide) (fun k26 => ?_) (fun k26 => ?_)
      · refine V_iconst C (-1) dX0_log_40 (by decide) ?_
        refine V_goto C 61 dX0_log_41 (by decide) ?_
        exact V_iret C dX0_log_61 (by decide) (by decide) ⟨_, rfl, by first | rw [if_pos k14] | (rw [if_neg k14, if_neg (fun z => Int32.not_lt.mpr hx z.2)]), rfl⟩
      · refine V_iload_n C dX0_log_29 rfl rfl ?_
        refine V_aload_n C dX0_log_30 rfl rfl ?_
        refine V_getN (C0 := RX1) (T := TX1) (N := 3) (ci := 1) C 1 in_X1 rfl r1 (by decide) ev118 (fun _ h9 => h9) rfl dX0_log_31 ?_
        refine V_ofIe (VR_V (As := []) (rest := [.int x]) C (ct_J2_sizeN l G b M (A 4 0) (g, 4, 0) (g, 5, 0) _ r2 lg_len) hla rfl (lw_V q726 q205 q206 q41 q207) rfl nd_J2_size rfl (by decide) (by decide) dX0_log_34 rfl ⟨by decide, by decide⟩ (Nat.le_of_ble_eq_true rfl)) ?_
        refine V_icmp_lt C 44 dX0_log_37 (by decide) (fun k37 => ?_) (fun k37 => ?_)
        · exact absurd k37 (Int32.not_lt.mpr hx)
        · refine V_iconst C (-1) dX0_log_40 (by decide) ?_
          refine V_goto C 61 dX0_log_41 (by decide) ?_
          exact V_iret C dX0_log_61 (by decide) (by decide) ⟨_, rfl, by first | rw [if_pos k14] | (rw [if_neg k14, if_neg (fun z => Int32.not_lt.mpr hx z.2)]), rfl⟩
    · refine V_aload_n C dX0_log_17 rfl rfl ?_
      refine V_getN (C0 := RX1) (T := TX1) (N := 3) (ci := 1) C 1 in_X1 rfl r1 (by decide) ev118 (fun _ h9 => h9) rfl dX0_log_18 ?_
      refine V_ofIe (VR_V (As := []) (rest := []) C (ct_J2_sizeN l G b M (A 4 0) (g, 4, 0) (g, 5, 0) _ r2 lg_len) hla rfl (lw_V q726 q205 q206 q41 q207) rfl nd_J2_size rfl (by decide) (by decide) dX0_log_21 rfl ⟨by decide, by decide⟩ (Nat.le_of_ble_eq_true rfl)) ?_
      exact V_iret C dX0_log_24 (by decide) (by decide) ⟨_, rfl, by first | rw [if_pos k14] | (rw [if_neg k14, if_neg (fun z => Int32.not_lt.mpr hx z.2)]), rfl⟩
  · refine Ct.ofV (by decide) (vc_ref (vc_int (vc_int vc_nil))) (Nat.le_of_ble_eq_true rfl) ?_
    intro p e s m below meth c C hnm
    refine V_L (L1 := [some (.ref dx), some (.int (nI r)), some (.int x), none]) rfl ?_
    refine V_L (L1 := [some (.ref dx), some (.int (nI r)), some (.int (nI j)), none]) (by rw [hxj]) ?_
    obtain ⟨r1, r2, r3, r4, r5, r6, r7, r8, r9, r10, r11⟩ := id hR
    have rb := r10.2.2.1
    have rln := r10.1
    have rwl := r10.2.1
    have rwo := r4.1
    obtain ⟨lmo, lar, hla⟩ := al_obj r2
    obtain ⟨wmo, war, hwa⟩ := al_obj r3
    refine V_aload_n C dX0_log_0 rfl rfl ?_
    refine V_iload_n C dX0_log_1 rfl rfl ?_
    refine V_ofRe (VR_V (As := [.int (nI r)]) (rest := []) C (ct_X0_replica l G b M dx ra wa da rp hD r a hr hrp) hD.1 rfl (lw_V q175 q177 qs0 q36 q178) rfl nd_X0_replica rfl (by decide) (by decide) dX0_log_2 rfl ⟨by decide, by decide⟩ (Nat.le_of_ble_eq_true rfl)) ?_
    refine V_astore_n (L' := [some (.ref dx), some (.int (nI r)), some (.int (nI j)), some (.ref a)]) C dX0_log_5 rfl (by decide) rfl ?_
    refine V_aload_n C dX0_log_6 rfl rfl ?_
    refine V_ifnonnull_R C 12 dX0_log_7 (by decide) ?_
    refine V_iload_n C dX0_log_12 rfl rfl ?_
    refine V_iconst C (-1) dX0_log_13 (by decide) ?_
    refine V_icmp_ne C 25 dX0_log_14 (by decide) (fun k14 => ?_) (fun k14 => ?_)
    · refine V_iload_n C dX0_log_25 rfl rfl ?_
      refine V_if_lt C 40 dX0_log_26 (by decide) (fun h => absurd h (nI_pos (n := j) (by omega))) (fun _ => ?_)
      refine V_iload_n C dX0_log_29 rfl rfl ?_
      refine V_aload_n C dX0_log_30 rfl rfl ?_
      refine V_getN (C0 := RX1) (T := TX1) (N := 3) (ci := 1) C 1 in_X1 rfl r1 (by decide) ev118 (fun _ h9 => h9) rfl dX0_log_31 ?_
      refine V_ofIe (VR_V (As := []) (rest := [.int (nI j)]) C (ct_J2_sizeN l G b M (A 4 0) (g, 4, 0) (g, 5, 0) _ r2 lg_len) hla rfl (lw_V q726 q205 q206 q41 q207) rfl nd_J2_size rfl (by decide) (by decide) dX0_log_34 rfl ⟨by decide, by decide⟩ (Nat.le_of_ble_eq_true rfl)) ?_
      refine V_nicmp_lt (x := j) (y := ln) C 44 dX0_log_37 (by decide) (by omega) (by omega) (fun k37 => ?_) (fun k37 => ?_)
      · refine V_aload_n C dX0_log_44 rfl rfl ?_
        refine V_getN (C0 := RX1) (T := TX1) (N := 3) (ci := 1) C 1 in_X1 rfl r1 (by decide) ev118 (fun _ h9 => h9) rfl dX0_log_45 ?_
        refine V_iload_n C dX0_log_48 rfl rfl ?_
        refine V_ofRe (VR_V (As := [.int (nI j)]) (rest := []) C (ct_J2_get l G b M (A 4 0) j (A 0 j) (g, 4, 0) (g, 5, 0) _ r2 (lg_get (by omega)) (by rw [lg_len]; omega)) hla rfl (lw_V q727 q209 q210 q41 q211) rfl nd_J2_get rfl (by decide) (by decide) dX0_log_49 rfl ⟨by decide, by decide⟩ (Nat.le_of_ble_eq_true rfl)) ?_
        have hit49 := r5 j (by omega)
        obtain ⟨sa49, si49, hop49, -⟩ := r6 j (by omega)
        have hob49 := rb j (by omega)
        refine V_castS C hit49 rfl q728 dX0_log_52 ?_
        refine V_getN (C0 := RX5) (T := TX5) (N := 8) (ci := 5) C 0 in_X5 rfl hit49 (by decide) ev477 (fun _ h9 => h9) rfl dX0_log_55 ?_
        refine V_ofIe (VR_V (As := []) (rest := []) C (ct_X4_id l G b M g (A 1 j) (lo j) (r6 j (by omega)) (rb j (by omega))) hop49 rfl (lw_V q729 q224 q225 q55 q226) rfl nd_X4_id rfl (by decide) (by decide) dX0_log_58 rfl ⟨by decide, by decide⟩ (Nat.le_of_ble_eq_true rfl)) ?_
        have hz58 := (rb j (by omega)).2.2 0
        exact V_iret C dX0_log_61 (by decide) (by decide) ⟨_, rfl, by rw [hxj]; first | rw [if_pos k14] | (rw [if_neg k14, if_pos ⟨nI_pos (by omega), nI_lt hj (by omega)⟩, nI_clamp (by omega)]), rfl⟩
      · omega
    · refine V_aload_n C dX0_log_17 rfl rfl ?_
      refine V_getN (C0 := RX1) (T := TX1) (N := 3) (ci := 1) C 1 in_X1 rfl r1 (by decide) ev118 (fun _ h9 => h9) rfl dX0_log_18 ?_
      refine V_ofIe (VR_V (As := []) (rest := []) C (ct_J2_sizeN l G b M (A 4 0) (g, 4, 0) (g, 5, 0) _ r2 lg_len) hla rfl (lw_V q726 q205 q206 q41 q207) rfl nd_J2_size rfl (by decide) (by decide) dX0_log_21 rfl ⟨by decide, by decide⟩ (Nat.le_of_ble_eq_true rfl)) ?_
      exact V_iret C dX0_log_24 (by decide) (by decide) ⟨_, rfl, by rw [hxj]; first | rw [if_pos k14] | (rw [if_neg k14, if_pos ⟨nI_pos (by omega), nI_lt hj (by omega)⟩, nI_clamp (by omega)]), rfl⟩
theorem ct_X0_past (l : Launch) (G : mp_G) (b : Nat) (M : mp_M) (dx ra wa da : Nat) (rp : Nat → Nat) (hD : DocAt G M dx ra wa da rp) (g a ln : Nat) (lo : Nat → List Nat) (P : Nat → Int32) (hi : Nat → Option Nat) (sh fo : Nat → Bool) (ch : Nat → Nat → List Nat) (nx : Nat → Option Nat) (wt : List (List Nat)) (A : Nat → Nat → Nat) (wo : List Nat) (hR : RepAt G M g a ln lo P hi sh fo ch nx wt A wo) (r : Nat) (hr : r ≤ 2) (hrp : rp r = a) (x z : Int32) : Ct l yX0_past cX0_past 7 (some .boolean) 7 0 0 G b ([.ref dx, .int (nI r), .int x, .int z] : List Value) M (pI (fun y M1 => y = bI (match cplace ln lo x with | none => false | some i => match cplace ln lo z with | none => false | some j => bitI (P j) i) ∧ M1 = M)) := by
  refine Ct.ofV (by decide) (vc_ref (vc_int (vc_int (vc_int vc_nil)))) (Nat.le_of_ble_eq_true rfl) ?_
  intro p e s m below meth c C hnm
  refine V_L (L1 := [some (.ref dx), some (.int (nI r)), some (.int x), some (.int z), none, none, none]) rfl ?_
  obtain ⟨r1, r2, r3, r4, r5, r6, r7, r8, r9, r10, r11⟩ := id hR
  have rb := r10.2.2.1
  have rln := r10.1
  have rwl := r10.2.1
  have rwo := r4.1
  obtain ⟨lmo, lar, hla⟩ := al_obj r2
  obtain ⟨wmo, war, hwa⟩ := al_obj r3
  refine V_aload_n C dX0_past_0 rfl rfl ?_
  refine V_iload_n C dX0_past_1 rfl rfl ?_
  refine V_ofRe (VR_V (As := [.int (nI r)]) (rest := []) C (ct_X0_replica l G b M dx ra wa da rp hD r a hr hrp) hD.1 rfl (lw_V q175 q177 qs0 q36 q178) rfl nd_X0_replica rfl (by decide) (by decide) dX0_past_2 rfl ⟨by decide, by decide⟩ (Nat.le_of_ble_eq_true rfl)) ?_
  refine V_astore (L' := [some (.ref dx), some (.int (nI r)), some (.int x), some (.int z), some (.ref a), none, none]) C dX0_past_5 (by decide) rfl ?_
  refine V_aload C dX0_past_7 rfl ?_
  refine V_ifnonnull_R C 14 dX0_past_9 (by decide) ?_
  refine V_aload C dX0_past_14 rfl ?_
  refine V_iload_n C dX0_past_16 rfl rfl ?_
  refine V_ofIe (VR_V (As := [.int x]) (rest := []) C (ct_X1_place l G b M g a ln lo P hi sh fo ch nx wt A wo hR x) r1 rfl (lw_V q734 q201 q202 q37 q203) rfl nd_X1_place rfl (by decide) (by decide) dX0_past_17 rfl ⟨by decide, by decide⟩ (Nat.le_of_ble_eq_true rfl)) ?_
  rcases o17 : cplace ln lo x with _ | j17
  · refine V_top (y := -1) rfl ?_
    refine V_istore (L' := [some (.ref dx), some (.int (nI r)), some (.int x), some (.int z), some (.ref a), some (.int (-1)), none]) C dX0_past_20 (by decide) rfl ?_
    refine V_aload C dX0_past_22 rfl ?_
    refine V_iload_n C dX0_past_24 rfl rfl ?_
    refine V_ofRe (VR_V (As := [.int z]) (rest := []) C (ct_X1_item l G b M g a ln lo P hi sh fo ch nx wt A wo hR z) r1 rfl (lw_V q377 q197 q198 q37 q199) rfl nd_X1_item rfl (by decide) (by decide) dX0_past_25 rfl ⟨by decide, by decide⟩ (Nat.le_of_ble_eq_true rfl)) ?_
    rcases o25 : cplace ln lo z with _ | j25
    · refine V_st (st1 := [.null]) rfl ?_
      refine V_astoreq (o := none) (L' := [some (.ref dx), some (.int (nI r)), some (.int x), some (.int z), some (.ref a), some (.int (-1)), some (.null)]) C dX0_past_28 (by decide) rfl ?_
      refine V_iload C dX0_past_30 rfl ?_
      refine V_if_lt C 58 dX0_past_32 (by decide) (fun _ => ?_) (fun h => absurd (by decide) h)
      refine V_iconst C 0 dX0_past_58 (by decide) ?_
      exact V_zret C rfl dX0_past_59 (by decide) (by decide) ⟨_, rfl, by first | (refine bt ?_; simp [bitI, *]; done) | (refine bf ?_; simp [bitI, *]; done), rfl⟩
    · have hj25 := (firstI_get o25).1
      refine V_st (st1 := [.ref (A 0 j25)]) rfl ?_
      have hit25 := r5 j25 (by omega)
      obtain ⟨sa25, si25, hop25, -⟩ := r6 j25 (by omega)
      have hob25 := rb j25 (by omega)
      refine V_astore (L' := [some (.ref dx), some (.int (nI r)), some (.int x), some (.int z), some (.ref a), some (.int (-1)), some (.ref (A 0 j25))]) C dX0_past_28 (by decide) rfl ?_
      refine V_iload C dX0_past_30 rfl ?_
      refine V_if_lt C 58 dX0_past_32 (by decide) (fun _ => ?_) (fun h => absurd (by decide) h)
      refine V_iconst C 0 dX0_past_58 (by decide) ?_
      exact V_zret C rfl dX0_past_59 (by decide) (by decide) ⟨_, rfl, by first | (refine bt ?_; simp [bitI, *]; done) | (refine bf ?_; simp [bitI, *]; done), rfl⟩
  · have hj17 := (firstI_get o17).1
    refine V_top (y := nI j17) rfl ?_
    refine V_istore (L' := [some (.ref dx), some (.int (nI r)), some (.int x), some (.int z), some (.ref a), some (.int (nI j17)), none]) C dX0_past_20 (by decide) rfl ?_
    refine V_aload C dX0_past_22 rfl ?_
    refine V_iload_n C dX0_past_24 rfl rfl ?_
    refine V_ofRe (VR_V (As := [.int z]) (rest := []) C (ct_X1_item l G b M g a ln lo P hi sh fo ch nx wt A wo hR z) r1 rfl (lw_V q377 q197 q198 q37 q199) rfl nd_X1_item rfl (by decide) (by decide) dX0_past_25 rfl ⟨by decide, by decide⟩ (Nat.le_of_ble_eq_true rfl)) ?_
    rcases o25 : cplace ln lo z with _ | j25
    · refine V_st (st1 := [.null]) rfl ?_
      refine V_astoreq (o := none) (L' := [some (.ref dx), some (.int (nI r)), some (.int x), some (.int z), some (.ref a), some (.int (nI j17)), some (.null)]) C dX0_past_28 (by decide) rfl ?_
      refine V_iload C dX0_past_30 rfl ?_
      refine V_if_lt C 58 dX0_past_32 (by decide) (fun h => absurd h (nI_pos (n := j17) (by omega))) (fun _ => ?_)
      refine V_aloadq (o := none) C dX0_past_35 rfl ?_
      refine V_ifnull_N C 58 dX0_past_37 (by decide) ?_
      refine V_iconst C 0 dX0_past_58 (by decide) ?_
      exact V_zret C rfl dX0_past_59 (by decide) (by decide) ⟨_, rfl, by first | (refine bt ?_; simp [bitI, *]; done) | (refine bf ?_; simp [bitI, *]; done), rfl⟩
    · have hj25 := (firstI_get o25).1
      refine V_st (st1 := [.ref (A 0 j25)]) rfl ?_
      have hit25 := r5 j25 (by omega)
      obtain ⟨sa25, si25, hop25, -⟩ := r6 j25 (by omega)
      have hob25 := rb j25 (by omega)
      refine V_astore (L' := [some (.ref dx), some (.int (nI r)), some (.int x), some (.int z), some (.ref a), some (.int (nI j17)), some (.ref (A 0 j25))]) C dX0_past_28 (by decide) rfl ?_
      refine V_iload C dX0_past_30 rfl ?_
      refine V_if_lt C 58 dX0_past_32 (by decide) (fun h => absurd h (nI_pos (n := j17) (by omega))) (fun _ => ?_)
      refine V_aload C dX0_past_35 rfl ?_
      refine V_ifnull_R C dX0_past_37 ?_
      refine V_aload C dX0_past_40 rfl ?_
      refine V_getN (C0 := RX5) (T := TX5) (N := 8) (ci := 5) C 1 in_X5 rfl hit25 (by decide) ev480 (fun _ h9 => h9) rfl dX0_past_42 ?_
      refine V_iload C dX0_past_45 rfl ?_
      refine V_ishr C dX0_past_47 ?_
      refine V_iconst C 1 dX0_past_48 (by decide) ?_
      refine V_iand C dX0_past_49 ?_
      refine V_iconst C 1 dX0_past_50 (by decide) ?_
      refine V_icmp_ne C 58 dX0_past_51 (by decide) (fun k51 => ?_) (fun k51 => ?_)
      · refine V_iconst C 0 dX0_past_58 (by decide) ?_
        exact V_zret C rfl dX0_past_59 (by decide) (by decide) ⟨_, rfl, by first | (refine bt ?_; simp [bitI, *]; done) | (refine bf ?_; simp [bitI, *]; done), rfl⟩
      · refine V_iconst C 1 dX0_past_54 (by decide) ?_
        refine V_goto C 59 dX0_past_55 (by decide) ?_
        exact V_zret C rfl dX0_past_59 (by decide) (by decide) ⟨_, rfl, by first | (refine bt ?_; simp [bitI, *]; done) | (refine bf ?_; simp [bitI, *]; done), rfl⟩
theorem ct_X0_heads (l : Launch) (G : mp_G) (b : Nat) (M : mp_M) (dx ra wa da : Nat) (rp : Nat → Nat) (hD : DocAt G M dx ra wa da rp) (g a ln : Nat) (lo : Nat → List Nat) (P : Nat → Int32) (hi : Nat → Option Nat) (sh fo : Nat → Bool) (ch : Nat → Nat → List Nat) (nx : Nat → Option Nat) (wt : List (List Nat)) (A : Nat → Nat → Nat) (wo : List Nat) (hR : RepAt G M g a ln lo P hi sh fo ch nx wt A wo) (r : Nat) (hr : r ≤ 2) (hrp : rp r = a) : Ct l yX0_heads cX0_heads 5 (some .int) 3 0 0 G b ([.ref dx, .int (nI r)] : List Value) M (pI (fun y M1 => y = nI (cntI (fun k => !fo k) ln) ∧ M1 = M)) := by
  refine Ct.ofV (by decide) (vc_ref (vc_int vc_nil)) (Nat.le_of_ble_eq_true rfl) ?_
  intro p e s m below meth c C hnm
  refine V_L (L1 := [some (.ref dx), some (.int (nI r)), none, none, none]) rfl ?_
  obtain ⟨r1, r2, r3, r4, r5, r6, r7, r8, r9, r10, r11⟩ := id hR
  have rb := r10.2.2.1
  have rln := r10.1
  have rwl := r10.2.1
  have rwo := r4.1
  obtain ⟨lmo, lar, hla⟩ := al_obj r2
  obtain ⟨wmo, war, hwa⟩ := al_obj r3
  have loop : ∀ k, k ≤ ln → V p l e (rmOf 3 0 0) s m ([.ref dx, .int (nI r)] : List Value).toArray below meth c (MQ below (Qp G b (pI (fun y M1 => y = nI (cntI (fun k => !fo k) ln) ∧ M1 = M))) ([.ref dx, .int (nI r)] : List Value).toArray s 0 0 (fun q => b ≤ q)) G b 5 0 0 17 [some (.ref dx), some (.int (nI r)), some (.ref a), some (.int (nI (cntI (fun k => !fo k) k))), some (.int (nI k))] [] M := by
    refine up_ind ln ?_
    intro k hk ih
    refine V_iload C dX0_heads_17 rfl ?_
    refine V_aload_n C dX0_heads_19 rfl rfl ?_
    refine V_getN (C0 := RX1) (T := TX1) (N := 3) (ci := 1) C 1 in_X1 rfl r1 (by decide) ev118 (fun _ h9 => h9) rfl dX0_heads_20 ?_
    refine V_ofIe (VR_V (As := []) (rest := [.int (nI k)]) C (ct_J2_sizeN l G b M (A 4 0) (g, 4, 0) (g, 5, 0) _ r2 lg_len) hla rfl (lw_V q726 q205 q206 q41 q207) rfl nd_J2_size rfl (by decide) (by decide) dX0_heads_23 rfl ⟨by decide, by decide⟩ (Nat.le_of_ble_eq_true rfl)) ?_
    refine V_nicmp_ge (x := k) (y := ln) C 61 dX0_heads_26 (by decide) (by omega) (by omega) (fun k26 => ?_) (fun k26 => ?_)
    · refine V_iload_n C dX0_heads_61 rfl rfl ?_
      exact V_iret C dX0_heads_62 (by decide) (by decide) ⟨_, rfl, by rw [show k = ln by omega], rfl⟩
    · refine V_iload_n C dX0_heads_29 rfl rfl ?_
      refine V_aload_n C dX0_heads_30 rfl rfl ?_
      refine V_getN (C0 := RX1) (T := TX1) (N := 3) (ci := 1) C 1 in_X1 rfl r1 (by decide) ev118 (fun _ h9 => h9) rfl dX0_heads_31 ?_
      refine V_iload C dX0_heads_34 rfl ?_
      refine V_ofRe (VR_V (As := [.int (nI k)]) (rest := [.int (nI (cntI (fun k => !fo k) k))]) C (ct_J2_get l G b M (A 4 0) k (A 0 k) (g, 4, 0) (g, 5, 0) _ r2 (lg_get (by omega)) (by rw [lg_len]; omega)) hla rfl (lw_V q727 q209 q210 q41 q211) rfl nd_J2_get rfl (by decide) (by decide) dX0_heads_36 rfl ⟨by decide, by decide⟩ (Nat.le_of_ble_eq_true rfl)) ?_
      have hit36 := r5 k (by omega)
      obtain ⟨sa36, si36, hop36, -⟩ := r6 k (by omega)
      have hob36 := rb k (by omega)
      refine V_castS C hit36 rfl q728 dX0_heads_39 ?_
      refine V_getN (C0 := RX5) (T := TX5) (N := 8) (ci := 5) C 6 in_X5 rfl hit36 (by decide) ev493 (fun _ h9 => h9) rfl dX0_heads_42 ?_
      refine V_ifb_eq C 52 dX0_heads_45 (by decide) (fun k45 => ?_) (fun k45 => ?_)
      · refine V_iconst C 1 dX0_heads_52 (by decide) ?_
        refine V_iadd C dX0_heads_53 ?_
        refine V_top (y := (nI (cntI (fun k => !fo k) k + 1))) (nI_add (cntI (fun k => !fo k) k) 1) ?_
        refine V_istore_n (L' := [some (.ref dx), some (.int (nI r)), some (.ref a), some (.int (nI (cntI (fun k => !fo k) k + 1))), some (.int (nI k))]) C dX0_heads_54 rfl (by decide) rfl ?_
        refine V_iinc (v := (nI (k + 1))) (L' := [some (.ref dx), some (.int (nI r)), some (.ref a), some (.int (nI (cntI (fun k => !fo k) k + 1))), some (.int (nI (k + 1)))]) C dX0_heads_55 rfl (nI_1 _) (by decide) rfl ?_
        refine V_goto C 17 dX0_heads_58 (by decide) ?_
        refine V_sub ?_ (ih (by omega))
        repeat' (first | exact ls_e | refine ls_n ?_ | refine ls_s ?_ | refine ls_i ?_ ?_ | refine ls_v ?_ ?_)
        first | exact cnt_t (P := fun k => !fo k) (by simp [*]) | exact cnt_f (P := fun k => !fo k) (by simp [*])
      · refine V_iconst C 0 dX0_heads_48 (by decide) ?_
        refine V_goto C 53 dX0_heads_49 (by decide) ?_
        refine V_iadd C dX0_heads_53 ?_
        refine V_top (y := (nI (cntI (fun k => !fo k) k + 0))) (nI_add (cntI (fun k => !fo k) k) 0) ?_
        refine V_istore_n (L' := [some (.ref dx), some (.int (nI r)), some (.ref a), some (.int (nI (cntI (fun k => !fo k) k + 0))), some (.int (nI k))]) C dX0_heads_54 rfl (by decide) rfl ?_
        refine V_iinc (v := (nI (k + 1))) (L' := [some (.ref dx), some (.int (nI r)), some (.ref a), some (.int (nI (cntI (fun k => !fo k) k + 0))), some (.int (nI (k + 1)))]) C dX0_heads_55 rfl (nI_1 _) (by decide) rfl ?_
        refine V_goto C 17 dX0_heads_58 (by decide) ?_
        refine V_sub ?_ (ih (by omega))
        repeat' (first | exact ls_e | refine ls_n ?_ | refine ls_s ?_ | refine ls_i ?_ ?_ | refine ls_v ?_ ?_)
        first | exact cnt_t (P := fun k => !fo k) (by simp [*]) | exact cnt_f (P := fun k => !fo k) (by simp [*])
  refine V_aload_n C dX0_heads_0 rfl rfl ?_
  refine V_iload_n C dX0_heads_1 rfl rfl ?_
  refine V_ofRe (VR_V (As := [.int (nI r)]) (rest := []) C (ct_X0_replica l G b M dx ra wa da rp hD r a hr hrp) hD.1 rfl (lw_V q175 q177 qs0 q36 q178) rfl nd_X0_replica rfl (by decide) (by decide) dX0_heads_2 rfl ⟨by decide, by decide⟩ (Nat.le_of_ble_eq_true rfl)) ?_
  refine V_astore_n (L' := [some (.ref dx), some (.int (nI r)), some (.ref a), none, none]) C dX0_heads_5 rfl (by decide) rfl ?_
  refine V_aload_n C dX0_heads_6 rfl rfl ?_
  refine V_ifnonnull_R C 12 dX0_heads_7 (by decide) ?_
  refine V_iconst C 0 dX0_heads_12 (by decide) ?_
  refine V_istore_n (L' := [some (.ref dx), some (.int (nI r)), some (.ref a), some (.int 0), none]) C dX0_heads_13 rfl (by decide) rfl ?_
  refine V_iconst C 0 dX0_heads_14 (by decide) ?_
  refine V_istore (L' := [some (.ref dx), some (.int (nI r)), some (.ref a), some (.int 0), some (.int 0)]) C dX0_heads_15 (by decide) rfl ?_
  refine V_sub ?_ (loop 0 (Nat.zero_le _))
  repeat' (first | exact ls_e | refine ls_n ?_ | refine ls_s ?_ | refine ls_i ?_ ?_ | refine ls_v ?_ ?_)
  all_goals rfl
theorem ct_X0_value (l : Launch) (G : mp_G) (b : Nat) (M : mp_M) (dx ra wa da : Nat) (rp : Nat → Nat) (hD : DocAt G M dx ra wa da rp) (g a ln : Nat) (lo : Nat → List Nat) (P : Nat → Int32) (hi : Nat → Option Nat) (sh fo : Nat → Bool) (ch : Nat → Nat → List Nat) (nx : Nat → Option Nat) (wt : List (List Nat)) (A : Nat → Nat → Nat) (wo : List Nat) (hR : RepAt G M g a ln lo P hi sh fo ch nx wt A wo) (r : Nat) (hr : r ≤ 2) (hrp : rp r = a) (x : Int32) : Ct l yX0_value cX0_value 5 (some .int) 7 0 0 G b ([.ref dx, .int (nI r), .int x] : List Value) M (pI (fun y M1 => y = (match cplace ln lo x with | none => -1 | some k => nI (oB (lo k) 4)) ∧ M1 = M)) := by
  refine Ct.ofV (by decide) (vc_ref (vc_int (vc_int vc_nil))) (Nat.le_of_ble_eq_true rfl) ?_
  intro p e s m below meth c C hnm
  refine V_L (L1 := [some (.ref dx), some (.int (nI r)), some (.int x), none, none]) rfl ?_
  obtain ⟨r1, r2, r3, r4, r5, r6, r7, r8, r9, r10, r11⟩ := id hR
  have rb := r10.2.2.1
  have rln := r10.1
  have rwl := r10.2.1
  have rwo := r4.1
  obtain ⟨lmo, lar, hla⟩ := al_obj r2
  obtain ⟨wmo, war, hwa⟩ := al_obj r3
  refine V_aload_n C dX0_value_0 rfl rfl ?_
  refine V_iload_n C dX0_value_1 rfl rfl ?_
  refine V_ofRe (VR_V (As := [.int (nI r)]) (rest := []) C (ct_X0_replica l G b M dx ra wa da rp hD r a hr hrp) hD.1 rfl (lw_V q175 q177 qs0 q36 q178) rfl nd_X0_replica rfl (by decide) (by decide) dX0_value_2 rfl ⟨by decide, by decide⟩ (Nat.le_of_ble_eq_true rfl)) ?_
  refine V_astore_n (L' := [some (.ref dx), some (.int (nI r)), some (.int x), some (.ref a), none]) C dX0_value_5 rfl (by decide) rfl ?_
  refine V_aload_n C dX0_value_6 rfl rfl ?_
  refine V_ifnonnull_R C 14 dX0_value_7 (by decide) ?_
  refine V_aload_n C dX0_value_14 rfl rfl ?_
  refine V_iload_n C dX0_value_15 rfl rfl ?_
  refine V_ofRe (VR_V (As := [.int x]) (rest := []) C (ct_X1_item l G b M g a ln lo P hi sh fo ch nx wt A wo hR x) r1 rfl (lw_V q377 q197 q198 q37 q199) rfl nd_X1_item rfl (by decide) (by decide) dX0_value_16 rfl ⟨by decide, by decide⟩ (Nat.le_of_ble_eq_true rfl)) ?_
  rcases o16 : cplace ln lo x with _ | j16
  · refine V_st (st1 := [.null]) rfl ?_
    refine V_astoreq (o := none) (L' := [some (.ref dx), some (.int (nI r)), some (.int x), some (.ref a), some (.null)]) C dX0_value_19 (by decide) rfl ?_
    refine V_aloadq (o := none) C dX0_value_21 rfl ?_
    refine V_ifnonnull_N C dX0_value_23 ?_
    refine V_iconst C (-1) dX0_value_26 (by decide) ?_
    refine V_goto C 38 dX0_value_27 (by decide) ?_
    exact V_iret C dX0_value_38 (by decide) (by decide) ⟨_, rfl, rfl, rfl⟩
  · have hj16 := (firstI_get o16).1
    refine V_st (st1 := [.ref (A 0 j16)]) rfl ?_
    have hit16 := r5 j16 (by omega)
    obtain ⟨sa16, si16, hop16, -⟩ := r6 j16 (by omega)
    have hob16 := rb j16 (by omega)
    refine V_astore (L' := [some (.ref dx), some (.int (nI r)), some (.int x), some (.ref a), some (.ref (A 0 j16))]) C dX0_value_19 (by decide) rfl ?_
    refine V_aload C dX0_value_21 rfl ?_
    refine V_ifnonnull_R C 30 dX0_value_23 (by decide) ?_
    refine V_aload C dX0_value_30 rfl ?_
    refine V_getN (C0 := RX5) (T := TX5) (N := 8) (ci := 5) C 0 in_X5 rfl hit16 (by decide) ev477 (fun _ h9 => h9) rfl dX0_value_32 ?_
    refine V_ofIe (VR_V (As := []) (rest := []) C (ct_X4_value l G b M g (A 1 j16) (lo j16) (r6 j16 (by omega)) (rb j16 (by omega))) hop16 rfl (lw_V q754 q755 q756 q55 q757) rfl nd_X4_value rfl (by decide) (by decide) dX0_value_35 rfl ⟨by decide, by decide⟩ (Nat.le_of_ble_eq_true rfl)) ?_
    have hz35 := (rb j16 (by omega)).2.2 4
    exact V_iret C dX0_value_38 (by decide) (by decide) ⟨_, rfl, rfl, rfl⟩
theorem ct_X0_depth (l : Launch) (G : mp_G) (b : Nat) (M : mp_M) (dx ra wa da : Nat) (rp : Nat → Nat) (hD : DocAt G M dx ra wa da rp) (g a ln : Nat) (lo : Nat → List Nat) (P : Nat → Int32) (hi : Nat → Option Nat) (sh fo : Nat → Bool) (ch : Nat → Nat → List Nat) (nx : Nat → Option Nat) (wt : List (List Nat)) (A : Nat → Nat → Nat) (wo : List Nat) (hR : RepAt G M g a ln lo P hi sh fo ch nx wt A wo) (r : Nat) (hr : r ≤ 2) (hrp : rp r = a) (hord : ∀ k m, k < ln → hi k = some m → m ≤ k) (x : Int32) : Ct l yX0_depth cX0_depth 5 (some .int) 21 0 0 G b ([.ref dx, .int (nI r), .int x] : List Value) M (pI (fun y M1 => y = (if x = 0 then 0 else match cplace ln lo x with | none => -1 | some k => oI (depO hi sh 18 (some k))) ∧ M1 = M)) := by
  refine Ct.ofV (by decide) (vc_ref (vc_int (vc_int vc_nil))) (Nat.le_of_ble_eq_true rfl) ?_
  intro p e s m below meth c C hnm
  refine V_L (L1 := [some (.ref dx), some (.int (nI r)), some (.int x), none, none]) rfl ?_
  obtain ⟨r1, r2, r3, r4, r5, r6, r7, r8, r9, r10, r11⟩ := id hR
  have rb := r10.2.2.1
  have rln := r10.1
  have rwl := r10.2.1
  have rwo := r4.1
  obtain ⟨lmo, lar, hla⟩ := al_obj r2
  obtain ⟨wmo, war, hwa⟩ := al_obj r3
  refine V_aload_n C dX0_depth_0 rfl rfl ?_
  refine V_iload_n C dX0_depth_1 rfl rfl ?_
  refine V_ofRe (VR_V (As := [.int (nI r)]) (rest := []) C (ct_X0_replica l G b M dx ra wa da rp hD r a hr hrp) hD.1 rfl (lw_V q175 q177 qs0 q36 q178) rfl nd_X0_replica rfl (by decide) (by decide) dX0_depth_2 rfl ⟨by decide, by decide⟩ (Nat.le_of_ble_eq_true rfl)) ?_
  refine V_astore_n (L' := [some (.ref dx), some (.int (nI r)), some (.int x), some (.ref a), none]) C dX0_depth_5 rfl (by decide) rfl ?_
  refine V_aload_n C dX0_depth_6 rfl rfl ?_
  refine V_ifnonnull_R C 12 dX0_depth_7 (by decide) ?_
  refine V_iload_n C dX0_depth_12 rfl rfl ?_
  refine V_if_ne C 18 dX0_depth_13 (by decide) (fun k13 => ?_) (fun k13 => ?_)
  · refine V_aload_n C dX0_depth_18 rfl rfl ?_
    refine V_iload_n C dX0_depth_19 rfl rfl ?_
    refine V_ofRe (VR_V (As := [.int x]) (rest := []) C (ct_X1_item l G b M g a ln lo P hi sh fo ch nx wt A wo hR x) r1 rfl (lw_V q377 q197 q198 q37 q199) rfl nd_X1_item rfl (by decide) (by decide) dX0_depth_20 rfl ⟨by decide, by decide⟩ (Nat.le_of_ble_eq_true rfl)) ?_
    rcases o20 : cplace ln lo x with _ | j20
    · refine V_st (st1 := [.null]) rfl ?_
      refine V_astoreq (o := none) (L' := [some (.ref dx), some (.int (nI r)), some (.int x), some (.ref a), some (.null)]) C dX0_depth_23 (by decide) rfl ?_
      refine V_aloadq (o := none) C dX0_depth_25 rfl ?_
      refine V_ifnonnull_N C dX0_depth_27 ?_
      refine V_iconst C (-1) dX0_depth_30 (by decide) ?_
      refine V_goto C 40 dX0_depth_31 (by decide) ?_
      exact V_iret C dX0_depth_40 (by decide) (by decide) ⟨_, rfl, by first | rw [if_pos k13] | rw [if_neg k13], rfl⟩
    · have hj20 := (firstI_get o20).1
      refine V_st (st1 := [.ref (A 0 j20)]) rfl ?_
      have hit20 := r5 j20 (by omega)
      obtain ⟨sa20, si20, hop20, -⟩ := r6 j20 (by omega)
      have hob20 := rb j20 (by omega)
      refine V_astore (L' := [some (.ref dx), some (.int (nI r)), some (.int x), some (.ref a), some (.ref (A 0 j20))]) C dX0_depth_23 (by decide) rfl ?_
      refine V_aload C dX0_depth_25 rfl ?_
      refine V_ifnonnull_R C 34 dX0_depth_27 (by decide) ?_
      refine V_aload C dX0_depth_34 rfl ?_
      refine V_iconst C 0 dX0_depth_36 (by decide) ?_
      refine V_ofIe (VR_S (As := [.ref (A 0 j20), .int 0]) (rest := []) C (ct_X0_stands l G b M g a ln lo P hi sh fo ch nx wt A wo hR hord 19 18 (some j20) 0 (by omega) (by omega) (fun k2 h2 => by cases h2; omega) (by omega)) (lw_S q762 q763 q36 q764) nd_X0_stands rfl (by decide) (by decide) dX0_depth_37 rfl ⟨by decide, by decide⟩ (Nat.le_of_ble_eq_true rfl)) ?_
      exact V_iret C dX0_depth_40 (by decide) (by decide) ⟨_, rfl, by first | rw [if_pos k13] | rw [if_neg k13], rfl⟩
  · refine V_iconst C 0 dX0_depth_16 (by decide) ?_
    exact V_iret C dX0_depth_17 (by decide) (by decide) ⟨_, rfl, by first | rw [if_pos k13] | rw [if_neg k13], rfl⟩
theorem ct_X0_sum (l : Launch) (G : mp_G) (b : Nat) (M : mp_M) (dx ra wa da : Nat) (rp : Nat → Nat) (hD : DocAt G M dx ra wa da rp) (g a ln : Nat) (lo : Nat → List Nat) (P : Nat → Int32) (hi : Nat → Option Nat) (sh fo : Nat → Bool) (ch : Nat → Nat → List Nat) (nx : Nat → Option Nat) (wt : List (List Nat)) (A : Nat → Nat → Nat) (wo : List Nat) (hR : RepAt G M g a ln lo P hi sh fo ch nx wt A wo) (r : Nat) (hr : r ≤ 2) (hrp : rp r = a) (hord : ∀ k m, k < ln → hi k = some m → m ≤ k) : Ct l yX0_sum cX0_sum 3 (some .int) 24 0 0 G b ([.ref dx, .int (nI r)] : List Value) M (pI (fun y M1 => y = msum lo sh ch 18 0 ∧ M1 = M)) := by
  refine Ct.ofV (by decide) (vc_ref (vc_int vc_nil)) (Nat.le_of_ble_eq_true rfl) ?_
  intro p e s m below meth c C hnm
  refine V_L (L1 := [some (.ref dx), some (.int (nI r)), none]) rfl ?_
  obtain ⟨r1, r2, r3, r4, r5, r6, r7, r8, r9, r10, r11⟩ := id hR
  have rb := r10.2.2.1
  have rln := r10.1
  have rwl := r10.2.1
  have rwo := r4.1
  obtain ⟨lmo, lar, hla⟩ := al_obj r2
  obtain ⟨wmo, war, hwa⟩ := al_obj r3
  obtain ⟨hnd, -⟩ := r7 0 (Nat.zero_le _) (Or.inl rfl)
  refine V_aload_n C dX0_sum_0 rfl rfl ?_
  refine V_iload_n C dX0_sum_1 rfl rfl ?_
  refine V_ofRe (VR_V (As := [.int (nI r)]) (rest := []) C (ct_X0_replica l G b M dx ra wa da rp hD r a hr hrp) hD.1 rfl (lw_V q175 q177 qs0 q36 q178) rfl nd_X0_replica rfl (by decide) (by decide) dX0_sum_2 rfl ⟨by decide, by decide⟩ (Nat.le_of_ble_eq_true rfl)) ?_
  refine V_astore_n (L' := [some (.ref dx), some (.int (nI r)), some (.ref a)]) C dX0_sum_5 rfl (by decide) rfl ?_
  refine V_aload_n C dX0_sum_6 rfl rfl ?_
  refine V_ifnonnull_R C 14 dX0_sum_7 (by decide) ?_
  refine V_aload_n C dX0_sum_14 rfl rfl ?_
  refine V_getN (C0 := RX1) (T := TX1) (N := 3) (ci := 1) C 0 in_X1 rfl r1 (by decide) ev116 (fun _ h9 => h9) rfl dX0_sum_15 ?_
  refine V_iconst C 0 dX0_sum_18 (by decide) ?_
  refine V_ofIe (VR_V (As := [.int 0]) (rest := []) C (ct_X2_sum l G b M g a ln lo P hi sh fo ch nx wt A wo hR hord 19 18 0 0 (by omega) (by omega) (by omega) (Or.inl rfl) (by omega)) hnd rfl (lw_V q785 q786 q787 q38 q788) rfl nd_X2_sum rfl (by decide) (by decide) dX0_sum_19 rfl ⟨by decide, by decide⟩ (Nat.le_of_ble_eq_true rfl)) ?_
  exact V_iret C dX0_sum_22 (by decide) (by decide) ⟨_, rfl, rfl, rfl⟩
def pickI (L : List Nat) (f : Nat → Nat) (kk : Int32) : Int32 := if ¬ kk < 0 ∧ kk < nI L.length then nI (f (L.getD kk.toNatClampNeg 0)) else if kk = -1 then nI L.length else -1
theorem pick_at {L : List Nat} {f : Nat → Nat} {i k : Nat} (hi : i < 1000) (hl : L.length < 1000) (h : L[i]? = some k) : pickI L f (nI i) = nI (f k) := by
  have hlt := (List.getElem?_eq_some_iff.mp h).1
  unfold pickI
  rw [if_pos ⟨nI_pos (by omega), nI_lt hlt (by omega)⟩, nI_clamp (by omega), List.getD_eq_getElem?_getD, h]
  rfl
theorem pick_no {L : List Nat} {f : Nat → Nat} {kk : Int32} (hl : L.length < 1000) (h : ∀ i, i < L.length → ¬ nI i = kk) : pickI L f kk = if kk = -1 then nI L.length else -1 := by
  unfold pickI
  rw [if_neg]
  rintro ⟨h1, h2⟩
  obtain ⟨j, hj, rfl⟩ := nI_of h1
  exact h j ((nI_ltI (by omega) (by omega)).mp h2) rfl
def entS (ln : Nat) (lo : Nat → List Nat) (ch : Nat → Nat → List Nat) (mm key kk : Int32) : Int32 := match cnode ln lo mm with
  | none => -1
  | some m => if isMapB lo m = true ∧ isKeyI key = true then pickI (ch m key.toNatClampNeg) (fun k => oB (lo k) 0) kk else -1
theorem entS_n {ln : Nat} {lo : Nat → List Nat} {ch : Nat → Nat → List Nat} {mm key kk : Int32} (h : cnode ln lo mm = none) : entS ln lo ch mm key kk = -1 := by unfold entS; rw [h]
theorem entS_k {ln : Nat} {lo : Nat → List Nat} {ch : Nat → Nat → List Nat} {mm key kk : Int32} (h : isKeyI key = false) : entS ln lo ch mm key kk = -1 := by
  unfold entS
  cases cnode ln lo mm with
  | none => rfl
  | some m => dsimp only; rw [if_neg (fun z => bne2 h z.2)]
theorem entS_l {ln : Nat} {lo : Nat → List Nat} {ch : Nat → Nat → List Nat} {mm key kk : Int32} {m : Nat} (h : cnode ln lo mm = some m) (hl : isLst lo m) : entS ln lo ch mm key kk = -1 := by
  unfold entS
  rw [h]
  dsimp only
  rw [if_neg (fun z => bne2 (isMapB_f hl) z.1)]
theorem entS_t {ln : Nat} {lo : Nat → List Nat} {ch : Nat → Nat → List Nat} {mm key kk : Int32} {m ky : Nat} (h : cnode ln lo mm = some m) (hl : isMap lo m) (hk : isKeyI key = true) (he : key = nI ky) (h4 : ky < 4) : entS ln lo ch mm key kk = pickI (ch m ky) (fun k => oB (lo k) 0) kk := by
  unfold entS
  rw [h]
  dsimp only
  rw [if_pos ⟨isMapB_t hl, hk⟩, he, nI_clamp (by omega)]
theorem ct_X0_entry (l : Launch) (G : mp_G) (b : Nat) (M : mp_M) (dx ra wa da : Nat) (rp : Nat → Nat) (hD : DocAt G M dx ra wa da rp) (g a ln : Nat) (lo : Nat → List Nat) (P : Nat → Int32) (hi : Nat → Option Nat) (sh fo : Nat → Bool) (ch : Nat → Nat → List Nat) (nx : Nat → Option Nat) (wt : List (List Nat)) (A : Nat → Nat → Nat) (wo : List Nat) (hR : RepAt G M g a ln lo P hi sh fo ch nx wt A wo) (r : Nat) (hr : r ≤ 2) (hrp : rp r = a) (mm key kk : Int32) : Ct l yX0_entry cX0_entry 9 (some .int) 8 0 0 G b ([.ref dx, .int (nI r), .int mm, .int key, .int kk] : List Value) M (pI (fun y M1 => y = entS ln lo ch mm key kk ∧ M1 = M)) := by
  refine Ct.ofV (by decide) (vc_ref (vc_int (vc_int (vc_int (vc_int vc_nil))))) (Nat.le_of_ble_eq_true rfl) ?_
  intro p e s m below meth c C hnm
  refine V_L (L1 := [some (.ref dx), some (.int (nI r)), some (.int mm), some (.int key), some (.int kk), none, none, none, none]) rfl ?_
  obtain ⟨r1, r2, r3, r4, r5, r6, r7, r8, r9, r10, r11⟩ := id hR
  have rb := r10.2.2.1
  have rln := r10.1
  have rwl := r10.2.1
  have rwo := r4.1
  obtain ⟨lmo, lar, hla⟩ := al_obj r2
  obtain ⟨wmo, war, hwa⟩ := al_obj r3
  have rest : ∀ m0, m0 ≤ ln → isMap lo m0 → isKeyI key = true → cnode ln lo mm = some m0 → V p l e (rmOf 8 0 0) s m ([.ref dx, .int (nI r), .int mm, .int key, .int kk] : List Value).toArray below meth c (MQ below (Qp G b (pI (fun y M1 => y = entS ln lo ch mm key kk ∧ M1 = M))) ([.ref dx, .int (nI r), .int mm, .int key, .int kk] : List Value).toArray s 0 0 (fun q => b ≤ q)) G b 9 0 0 41 [some (.ref dx), some (.int (nI r)), some (.int mm), some (.int key), some (.int kk), none, some (.ref (A 2 m0)), none, none] [] M := by
    intro m0 hm0 hmp hkk hcn
    obtain ⟨ky, hky, hkey⟩ : ∃ ky, ky < 4 ∧ key = nI ky := by
      have hk9 := hkk
      unfold isKeyI at hk9
      simp only [Bool.and_eq_true, decide_eq_true_eq] at hk9
      obtain ⟨j, h1, h2⟩ := nI_of2 (M := 3) (n := 3) (by decide) hk9.1 hk9.2
      exact ⟨j, by omega, h2⟩
    obtain ⟨hnd, hen⟩ := r7 m0 hm0 hmp
    obtain ⟨L, hL⟩ : ∃ L, L = ch m0 ky := ⟨_, rfl⟩
    have hC := r9 m0 ky hm0 (Or.inl ⟨hmp, hky⟩)
    rw [← hL] at hC
    have hLl : L.length ≤ 16 := by
      have := nodup_len ln L hC.1 (fun x hx => by obtain ⟨i, hi1⟩ := List.getElem?_of_mem hx; exact (hC.2 i x hi1).1)
      omega
    have hE : entS ln lo ch mm key kk = pickI L (fun k => oB (lo k) 0) kk := by rw [entS_t hcn hmp hkk hkey hky, ← hL]
    have loop : ∀ i, i ≤ L.length → (∀ i2, i2 < i → ¬ nI i2 = kk) → V p l e (rmOf 8 0 0) s m ([.ref dx, .int (nI r), .int mm, .int key, .int kk] : List Value).toArray below meth c (MQ below (Qp G b (pI (fun y M1 => y = entS ln lo ch mm key kk ∧ M1 = M))) ([.ref dx, .int (nI r), .int mm, .int key, .int kk] : List Value).toArray s 0 0 (fun q => b ≤ q)) G b 9 0 0 56 [some (.ref dx), some (.int (nI r)), some (.int mm), none, some (.int kk), none, some (.ref (A 2 m0)), some (.int (nI i)), some (va_rf ((L[i]?).map (A 0)))] [] M := by
      refine up_ind L.length ?_
      intro i hil ih hb
      rcases hLi : L[i]? with _ | k
      · skip
        refine V_L (L1 := [some (.ref dx), some (.int (nI r)), some (.int mm), none, some (.int kk), none, some (.ref (A 2 m0)), some (.int (nI i)), some (.null)]) rfl ?_
        refine V_aloadq (o := none) C dX0_entry_56 rfl ?_
        refine V_ifnull_N C 90 dX0_entry_58 (by decide) ?_
        refine V_iload C dX0_entry_90 rfl ?_
        refine V_iconst C (-1) dX0_entry_92 (by decide) ?_
        refine V_icmp_ne C 101 dX0_entry_93 (by decide) (fun k93 => ?_) (fun k93 => ?_)
        · refine V_iconst C (-1) dX0_entry_101 (by decide) ?_
          exact V_iret C dX0_entry_102 (by decide) (by decide) ⟨_, rfl, by have := List.getElem?_eq_none_iff.mp hLi; rw [hE, pick_no (by omega) (fun i2 h2 => hb i2 (by omega))]; first | (rw [if_pos k93, show i = L.length by omega]) | (rw [if_neg k93]), rfl⟩
        · refine V_iload C dX0_entry_96 rfl ?_
          refine V_goto C 102 dX0_entry_98 (by decide) ?_
          exact V_iret C dX0_entry_102 (by decide) (by decide) ⟨_, rfl, by have := List.getElem?_eq_none_iff.mp hLi; rw [hE, pick_no (by omega) (fun i2 h2 => hb i2 (by omega))]; first | (rw [if_pos k93, show i = L.length by omega]) | (rw [if_neg k93]), rfl⟩
      · obtain ⟨hkl, -, -, hnk⟩ := hC.2 i k hLi
        have hit := it_nx (r5 k hkl) hnk rfl
        obtain ⟨sak, sik, hopk, -⟩ := r6 k hkl
        have hlt := (List.getElem?_eq_some_iff.mp hLi).1
        refine V_L (L1 := [some (.ref dx), some (.int (nI r)), some (.int mm), none, some (.int kk), none, some (.ref (A 2 m0)), some (.int (nI i)), some (.ref (A 0 k))]) rfl ?_
        refine V_aload C dX0_entry_56 rfl ?_
        refine V_ifnull_R C dX0_entry_58 ?_
        refine V_iload C dX0_entry_61 rfl ?_
        refine V_iload C dX0_entry_63 rfl ?_
        refine V_icmp_ne C 77 dX0_entry_65 (by decide) (fun k65 => ?_) (fun k65 => ?_)
        · refine V_iinc (v := (nI (i + 1))) (L' := [some (.ref dx), some (.int (nI r)), some (.int mm), none, some (.int kk), none, some (.ref (A 2 m0)), some (.int (nI (i + 1))), some (.ref (A 0 k))]) C dX0_entry_77 rfl (nI_1 _) (by decide) rfl ?_
          refine V_aload C dX0_entry_80 rfl ?_
          refine V_getN (C0 := RX5) (T := TX5) (N := 8) (ci := 5) C 7 in_X5 rfl hit (by decide) ev497 (fun _ h9 => h9) rfl dX0_entry_82 ?_
          refine V_astoreq (L' := [some (.ref dx), some (.int (nI r)), some (.int mm), none, some (.int kk), none, some (.ref (A 2 m0)), some (.int (nI (i + 1))), some (va_rf ((L[i + 1]?).map (A 0)))]) C dX0_entry_85 (by decide) rfl ?_
          refine V_goto C 56 dX0_entry_87 (by decide) ?_
          refine V_sub ?_ (ih (by omega) (fun i2 h2 => by rcases Nat.lt_or_ge i2 i with z | z; exact hb i2 z; rw [show i2 = i by omega]; exact k65))
          repeat' (first | exact ls_e | refine ls_n ?_ | refine ls_s ?_ | refine ls_i ?_ ?_ | refine ls_v ?_ ?_)
        · refine V_aload C dX0_entry_68 rfl ?_
          refine V_getN (C0 := RX5) (T := TX5) (N := 8) (ci := 5) C 0 in_X5 rfl hit (by decide) ev477 (fun _ h9 => h9) rfl dX0_entry_70 ?_
          refine V_ofIe (VR_V (As := []) (rest := []) C (ct_X4_id l G b M g (A 1 k) (lo k) (r6 k (by omega)) (rb k (by omega))) hopk rfl (lw_V q729 q224 q225 q55 q226) rfl nd_X4_id rfl (by decide) (by decide) dX0_entry_73 rfl ⟨by decide, by decide⟩ (Nat.le_of_ble_eq_true rfl)) ?_
          have hz73 := (rb k (by omega)).2.2 0
          exact V_iret C dX0_entry_76 (by decide) (by decide) ⟨_, rfl, by rw [hE, ← k65, pick_at (by omega) (by omega) hLi], rfl⟩
    refine V_L (L1 := [some (.ref dx), some (.int (nI r)), some (.int mm), some (.int (nI ky)), some (.int kk), none, some (.ref (A 2 m0)), none, none]) (by rw [hkey]) ?_
    refine V_iconst C 0 dX0_entry_41 (by decide) ?_
    refine V_istore (L' := [some (.ref dx), some (.int (nI r)), some (.int mm), some (.int (nI ky)), some (.int kk), none, some (.ref (A 2 m0)), some (.int 0), none]) C dX0_entry_42 (by decide) rfl ?_
    refine V_aload C dX0_entry_44 rfl ?_
    refine V_castS C hnd rfl q744 dX0_entry_46 ?_
    refine V_getN (C0 := RX2) (T := TX2) (N := 2) (ci := 2) C 1 in_X2 rfl hnd (by decide) ev83 (fun _ h9 => h9) rfl dX0_entry_49 ?_
    refine V_iload_n C dX0_entry_52 rfl rfl ?_
    refine V_aald C 4 rfl hen (pk_in ky 4 (by omega)) dX0_entry_53 ?_
    refine V_topq (o1 := ((L[0]?).map (A 0))) (by rw [nI_clamp (n := ky) (by omega)]; exact (by rw [← hL, List.head?_eq_getElem?])) ?_
    refine V_astoreq (L' := [some (.ref dx), some (.int (nI r)), some (.int mm), some (.int (nI ky)), some (.int kk), none, some (.ref (A 2 m0)), some (.int 0), some (va_rf ((L[0]?).map (A 0)))]) C dX0_entry_54 (by decide) rfl ?_
    refine V_sub ?_ (loop 0 (Nat.zero_le _) (fun i2 h2 => absurd h2 (Nat.not_lt_zero _)))
    repeat' (first | exact ls_e | refine ls_n ?_ | refine ls_s ?_ | refine ls_i ?_ ?_ | refine ls_v ?_ ?_)
    all_goals rfl
  refine V_aload_n C dX0_entry_0 rfl rfl ?_
  refine V_iload_n C dX0_entry_1 rfl rfl ?_
  refine V_ofRe (VR_V (As := [.int (nI r)]) (rest := []) C (ct_X0_replica l G b M dx ra wa da rp hD r a hr hrp) hD.1 rfl (lw_V q175 q177 qs0 q36 q178) rfl nd_X0_replica rfl (by decide) (by decide) dX0_entry_2 rfl ⟨by decide, by decide⟩ (Nat.le_of_ble_eq_true rfl)) ?_
  refine V_astore (L' := [some (.ref dx), some (.int (nI r)), some (.int mm), some (.int key), some (.int kk), some (.ref a), none, none, none]) C dX0_entry_5 (by decide) rfl ?_
  refine V_aload C dX0_entry_7 rfl ?_
  refine V_ifnonnull_R C 16 dX0_entry_9 (by decide) ?_
  refine V_aload C dX0_entry_16 rfl ?_
  refine V_iload_n C dX0_entry_18 rfl rfl ?_
  refine V_ofRe (VR_V (As := [.int mm]) (rest := []) C (ct_X1_node l G b M g a ln lo P hi sh fo ch nx wt A wo hR mm) r1 rfl (lw_V q743 q269 q270 q37 q271) rfl nd_X1_node rfl (by decide) (by decide) dX0_entry_19 rfl ⟨by decide, by decide⟩ (Nat.le_of_ble_eq_true rfl)) ?_
  rcases o19 : cnode ln lo mm with _ | j19
  · refine V_st (st1 := [.null]) rfl ?_
    refine V_astoreq (o := none) (L' := [some (.ref dx), some (.int (nI r)), some (.int mm), some (.int key), some (.int kk), some (.ref a), some (.null), none, none]) C dX0_entry_22 (by decide) rfl ?_
    refine V_aloadq (o := none) C dX0_entry_24 rfl ?_
    refine V_instN C dX0_entry_26 ?_
    refine V_if_eq C 39 dX0_entry_29 (by decide) (fun _ => ?_) (fun h => absurd (by decide) h)
    refine V_iconst C (-1) dX0_entry_39 (by decide) ?_
    exact V_iret C dX0_entry_40 (by decide) (by decide) ⟨_, rfl, by first | rw [entS_n o19] | rw [entS_k k36] | rw [entS_l o19 hls19], rfl⟩
  · have hj19 := cnode_le o19
    refine V_st (st1 := [.ref (A 2 j19)]) rfl ?_
    rcases hj19.2 with hmp19 | hls19
    · obtain ⟨hnd19, hen19⟩ := r7 j19 hj19.1 hmp19
      refine V_astore (L' := [some (.ref dx), some (.int (nI r)), some (.int mm), some (.int key), some (.int kk), some (.ref a), some (.ref (A 2 j19)), none, none]) C dX0_entry_22 (by decide) rfl ?_
      refine V_aload C dX0_entry_24 rfl ?_
      refine V_instS C hnd19 rfl q744 dX0_entry_26 ?_
      refine V_if_eq C 39 dX0_entry_29 (by decide) (fun h => absurd h (by decide)) (fun _ => ?_)
      refine V_iload_n C dX0_entry_32 rfl rfl ?_
      refine V_ofIe (VR_S (As := [.int key]) (rest := []) C (ct_X0_isKey l G b M key) (lw_S q185 q186 q36 q187) nd_X0_isKey rfl (by decide) (by decide) dX0_entry_33 rfl ⟨by decide, by decide⟩ (Nat.le_of_ble_eq_true rfl)) ?_
      refine V_ifb_ne C 41 dX0_entry_36 (by decide) (fun k36 => ?_) (fun k36 => ?_)
      · refine V_sub ?_ (rest j19 hj19.1 hmp19 k36 o19)
        repeat' (first | exact ls_e | refine ls_n ?_ | refine ls_s ?_ | refine ls_i ?_ ?_ | refine ls_v ?_ ?_)
      · refine V_iconst C (-1) dX0_entry_39 (by decide) ?_
        exact V_iret C dX0_entry_40 (by decide) (by decide) ⟨_, rfl, by first | rw [entS_n o19] | rw [entS_k k36] | rw [entS_l o19 hls19], rfl⟩
    · have hnd19 := r8 j19 hj19.1 hls19
      refine V_astore (L' := [some (.ref dx), some (.int (nI r)), some (.int mm), some (.int key), some (.int kk), some (.ref a), some (.ref (A 2 j19)), none, none]) C dX0_entry_22 (by decide) rfl ?_
      refine V_aload C dX0_entry_24 rfl ?_
      refine V_instNo C hnd19 rfl q744 C.2.2.2.1.2.2.1.2.2.2.2.2.2.2.2.1 dX0_entry_26 ?_
      refine V_if_eq C 39 dX0_entry_29 (by decide) (fun _ => ?_) (fun h => absurd (by decide) h)
      refine V_iconst C (-1) dX0_entry_39 (by decide) ?_
      exact V_iret C dX0_entry_40 (by decide) (by decide) ⟨_, rfl, by first | rw [entS_n o19] | rw [entS_k k36] | rw [entS_l o19 hls19], rfl⟩
def elmS (ln : Nat) (lo : Nat → List Nat) (sh : Nat → Bool) (ch : Nat → Nat → List Nat) (mm kk : Int32) : Int32 := match cnode ln lo mm with
  | none => -1
  | some m => if isLstB lo m = true then pickI ((ch m 0).filter sh) (fun k => oB (lo k) 0) kk else -1
theorem elmS_n {ln : Nat} {lo : Nat → List Nat} {sh : Nat → Bool} {ch : Nat → Nat → List Nat} {mm kk : Int32} (h : cnode ln lo mm = none) : elmS ln lo sh ch mm kk = -1 := by unfold elmS; rw [h]
theorem elmS_m {ln : Nat} {lo : Nat → List Nat} {sh : Nat → Bool} {ch : Nat → Nat → List Nat} {mm kk : Int32} {m : Nat} (h : cnode ln lo mm = some m) (hl : isMap lo m) : elmS ln lo sh ch mm kk = -1 := by
  unfold elmS
  rw [h]
  dsimp only
  rw [if_neg (bne2 (isLstB_f hl))]
theorem elmS_t {ln : Nat} {lo : Nat → List Nat} {sh : Nat → Bool} {ch : Nat → Nat → List Nat} {mm kk : Int32} {m : Nat} (h : cnode ln lo mm = some m) (hl : isLst lo m) : elmS ln lo sh ch mm kk = pickI ((ch m 0).filter sh) (fun k => oB (lo k) 0) kk := by
  unfold elmS
  rw [h]
  dsimp only
  rw [if_pos (isLstB_t hl)]
theorem filt_t {L : List Nat} {p : Nat → Bool} {i k : Nat} (h : L[i]? = some k) (hp : p k = true) : (L.filter p)[((L.take i).filter p).length]? = some k ∧ ((L.take (i + 1)).filter p).length = ((L.take i).filter p).length + 1 := by
  have h1 : L = L.take i ++ k :: L.drop (i + 1) := by rw [← take_prev h, List.take_append_drop]
  refine ⟨?_, ?_⟩
  · conv => lhs; lhs; rw [h1, List.filter_append, List.filter_cons, if_pos hp]
    rw [List.getElem?_append_right (Nat.le_refl _), Nat.sub_self]
    rfl
  · rw [List.take_add_one, h, List.filter_append, List.length_append]
    simp [hp]
theorem filt_f {L : List Nat} {p : Nat → Bool} {i k : Nat} (h : L[i]? = some k) (hp : p k = false) : ((L.take (i + 1)).filter p).length = ((L.take i).filter p).length := by
  rw [List.take_add_one, h, List.filter_append, List.length_append]
  simp [hp]
theorem ct_X0_element (l : Launch) (G : mp_G) (b : Nat) (M : mp_M) (dx ra wa da : Nat) (rp : Nat → Nat) (hD : DocAt G M dx ra wa da rp) (g a ln : Nat) (lo : Nat → List Nat) (P : Nat → Int32) (hi : Nat → Option Nat) (sh fo : Nat → Bool) (ch : Nat → Nat → List Nat) (nx : Nat → Option Nat) (wt : List (List Nat)) (A : Nat → Nat → Nat) (wo : List Nat) (hR : RepAt G M g a ln lo P hi sh fo ch nx wt A wo) (r : Nat) (hr : r ≤ 2) (hrp : rp r = a) (mm kk : Int32) : Ct l yX0_element cX0_element 8 (some .int) 8 0 0 G b ([.ref dx, .int (nI r), .int mm, .int kk] : List Value) M (pI (fun y M1 => y = elmS ln lo sh ch mm kk ∧ M1 = M)) := by
  refine Ct.ofV (by decide) (vc_ref (vc_int (vc_int (vc_int vc_nil)))) (Nat.le_of_ble_eq_true rfl) ?_
  intro p e s m below meth c C hnm
  refine V_L (L1 := [some (.ref dx), some (.int (nI r)), some (.int mm), some (.int kk), none, none, none, none]) rfl ?_
  obtain ⟨r1, r2, r3, r4, r5, r6, r7, r8, r9, r10, r11⟩ := id hR
  have rb := r10.2.2.1
  have rln := r10.1
  have rwl := r10.2.1
  have rwo := r4.1
  obtain ⟨lmo, lar, hla⟩ := al_obj r2
  obtain ⟨wmo, war, hwa⟩ := al_obj r3
  have rest : ∀ m0, m0 ≤ ln → isLst lo m0 → cnode ln lo mm = some m0 → V p l e (rmOf 8 0 0) s m ([.ref dx, .int (nI r), .int mm, .int kk] : List Value).toArray below meth c (MQ below (Qp G b (pI (fun y M1 => y = elmS ln lo sh ch mm kk ∧ M1 = M))) ([.ref dx, .int (nI r), .int mm, .int kk] : List Value).toArray s 0 0 (fun q => b ≤ q)) G b 8 0 0 34 [some (.ref dx), some (.int (nI r)), some (.int mm), some (.int kk), none, some (.ref (A 2 m0)), none, none] [] M := by
    intro m0 hm0 hls hcn
    have hnd := r8 m0 hm0 hls
    obtain ⟨L, hL⟩ : ∃ L, L = ch m0 0 := ⟨_, rfl⟩
    have hC := r9 m0 0 hm0 (Or.inr ⟨hls, rfl⟩)
    rw [← hL] at hC hnd
    have hLl : L.length ≤ 16 := by
      have := nodup_len ln L hC.1 (fun x hx => by obtain ⟨i, hi1⟩ := List.getElem?_of_mem hx; exact (hC.2 i x hi1).1)
      omega
    have hFl := List.length_filter_le sh L
    have hE : elmS ln lo sh ch mm kk = pickI (L.filter sh) (fun k => oB (lo k) 0) kk := by rw [elmS_t hcn hls, ← hL]
    have loop : ∀ i, i ≤ L.length → (∀ i2, i2 < ((L.take i).filter sh).length → ¬ nI i2 = kk) → V p l e (rmOf 8 0 0) s m ([.ref dx, .int (nI r), .int mm, .int kk] : List Value).toArray below meth c (MQ below (Qp G b (pI (fun y M1 => y = elmS ln lo sh ch mm kk ∧ M1 = M))) ([.ref dx, .int (nI r), .int mm, .int kk] : List Value).toArray s 0 0 (fun q => b ≤ q)) G b 8 0 0 47 [some (.ref dx), some (.int (nI r)), some (.int mm), some (.int kk), none, none, some (.int (nI ((L.take i).filter sh).length)), some (va_rf ((L[i]?).map (A 0)))] [] M := by
      refine up_ind L.length ?_
      intro i hil ih hb
      have hpl := List.length_filter_le sh (L.take i)
      have hpt := List.length_take_le i L
      rcases hLi : L[i]? with _ | k
      · have hT : L.take i = L := List.take_of_length_le (by have := List.getElem?_eq_none_iff.mp hLi; omega)
        rw [hT] at hb
        refine V_L (L1 := [some (.ref dx), some (.int (nI r)), some (.int mm), some (.int kk), none, none, some (.int (nI ((L.take i).filter sh).length)), some (.null)]) rfl ?_
        refine V_aloadq (o := none) C dX0_element_47 rfl ?_
        refine V_ifnull_N C 96 dX0_element_49 (by decide) ?_
        refine V_iload_n C dX0_element_96 rfl rfl ?_
        refine V_iconst C (-1) dX0_element_97 (by decide) ?_
        refine V_icmp_ne C 106 dX0_element_98 (by decide) (fun k98 => ?_) (fun k98 => ?_)
        · refine V_iconst C (-1) dX0_element_106 (by decide) ?_
          exact V_iret C dX0_element_107 (by decide) (by decide) ⟨_, rfl, by rw [hE, pick_no (by omega) hb]; first | (rw [if_pos k98, hT]) | (rw [if_neg k98]), rfl⟩
        · refine V_iload C dX0_element_101 rfl ?_
          refine V_goto C 107 dX0_element_103 (by decide) ?_
          exact V_iret C dX0_element_107 (by decide) (by decide) ⟨_, rfl, by rw [hE, pick_no (by omega) hb]; first | (rw [if_pos k98, hT]) | (rw [if_neg k98]), rfl⟩
      · obtain ⟨hkl, -, -, hnk⟩ := hC.2 i k hLi
        have hit := it_nx (r5 k hkl) hnk rfl
        obtain ⟨sak, sik, hopk, -⟩ := r6 k hkl
        have hlt := (List.getElem?_eq_some_iff.mp hLi).1
        refine V_L (L1 := [some (.ref dx), some (.int (nI r)), some (.int mm), some (.int kk), none, none, some (.int (nI ((L.take i).filter sh).length)), some (.ref (A 0 k))]) rfl ?_
        have stF : sh k = false → V p l e (rmOf 8 0 0) s m ([.ref dx, .int (nI r), .int mm, .int kk] : List Value).toArray below meth c (MQ below (Qp G b (pI (fun y M1 => y = elmS ln lo sh ch mm kk ∧ M1 = M))) ([.ref dx, .int (nI r), .int mm, .int kk] : List Value).toArray s 0 0 (fun q => b ≤ q)) G b 8 0 0 47 [some (.ref dx), some (.int (nI r)), some (.int mm), some (.int kk), none, none, some (.int (nI ((L.take i).filter sh).length)), some (va_rf ((L[i + 1]?).map (A 0)))] [] M := by
          intro hs
          have h2 := filt_f hLi hs
          refine V_sub ?_ (ih (by omega) (by rw [h2]; exact hb))
          repeat' (first | exact ls_e | refine ls_n ?_ | refine ls_s ?_ | refine ls_i ?_ ?_ | refine ls_v ?_ ?_)
          rw [h2]
        have stT : sh k = true → ¬ nI ((L.take i).filter sh).length = kk → V p l e (rmOf 8 0 0) s m ([.ref dx, .int (nI r), .int mm, .int kk] : List Value).toArray below meth c (MQ below (Qp G b (pI (fun y M1 => y = elmS ln lo sh ch mm kk ∧ M1 = M))) ([.ref dx, .int (nI r), .int mm, .int kk] : List Value).toArray s 0 0 (fun q => b ≤ q)) G b 8 0 0 47 [some (.ref dx), some (.int (nI r)), some (.int mm), some (.int kk), none, none, some (.int (nI (((L.take i).filter sh).length + 1))), some (va_rf ((L[i + 1]?).map (A 0)))] [] M := by
          intro hs hne
          have h2 := (filt_t hLi hs).2
          refine V_sub ?_ (ih (by omega) (fun i2 h3 => by rw [h2] at h3; rcases Nat.lt_or_ge i2 ((L.take i).filter sh).length with z | z; exact hb i2 z; rw [show i2 = ((L.take i).filter sh).length by omega]; exact hne))
          repeat' (first | exact ls_e | refine ls_n ?_ | refine ls_s ?_ | refine ls_i ?_ ?_ | refine ls_v ?_ ?_)
          rw [h2]
        refine V_aload C dX0_element_47 rfl ?_
        refine V_ifnull_R C dX0_element_49 ?_
        refine V_aload C dX0_element_52 rfl ?_
        refine V_getN (C0 := RX5) (T := TX5) (N := 8) (ci := 5) C 5 in_X5 rfl hit (by decide) ev491 (fun _ h9 => h9) rfl dX0_element_54 ?_
        refine V_ifb_eq C 75 dX0_element_57 (by decide) (fun k57 => ?_) (fun k57 => ?_)
        · refine V_aload C dX0_element_75 rfl ?_
          refine V_getN (C0 := RX5) (T := TX5) (N := 8) (ci := 5) C 5 in_X5 rfl hit (by decide) ev491 (fun _ h9 => h9) rfl dX0_element_77 ?_
          refine V_ifb_eq C 86 dX0_element_80 (by decide) (fun k80 => ?_) (fun k80 => ?_)
          · refine V_aload C dX0_element_86 rfl ?_
            refine V_getN (C0 := RX5) (T := TX5) (N := 8) (ci := 5) C 7 in_X5 rfl hit (by decide) ev497 (fun _ h9 => h9) rfl dX0_element_88 ?_
            refine V_astoreq (L' := [some (.ref dx), some (.int (nI r)), some (.int mm), some (.int kk), none, none, some (.int (nI ((L.take i).filter sh).length)), some (va_rf ((L[i + 1]?).map (A 0)))]) C dX0_element_91 (by decide) rfl ?_
            refine V_goto C 47 dX0_element_93 (by decide) ?_
            first | (rw [k57] at k80; cases k80; done) | (refine V_sub ?_ (stF k57); (repeat' (first | exact ls_e | refine ls_n ?_ | refine ls_s ?_ | refine ls_i ?_ ?_ | refine ls_v ?_ ?_))) | (refine V_sub ?_ (stT k57 k63); (repeat' (first | exact ls_e | refine ls_n ?_ | refine ls_s ?_ | refine ls_i ?_ ?_ | refine ls_v ?_ ?_)))
          · refine V_iinc (v := (nI (((L.take i).filter sh).length + 1))) (L' := [some (.ref dx), some (.int (nI r)), some (.int mm), some (.int kk), none, none, some (.int (nI (((L.take i).filter sh).length + 1))), some (.ref (A 0 k))]) C dX0_element_83 rfl (nI_1 _) (by decide) rfl ?_
            refine V_aload C dX0_element_86 rfl ?_
            refine V_getN (C0 := RX5) (T := TX5) (N := 8) (ci := 5) C 7 in_X5 rfl hit (by decide) ev497 (fun _ h9 => h9) rfl dX0_element_88 ?_
            refine V_astoreq (L' := [some (.ref dx), some (.int (nI r)), some (.int mm), some (.int kk), none, none, some (.int (nI (((L.take i).filter sh).length + 1))), some (va_rf ((L[i + 1]?).map (A 0)))]) C dX0_element_91 (by decide) rfl ?_
            refine V_goto C 47 dX0_element_93 (by decide) ?_
            first | (rw [k57] at k80; cases k80; done) | (refine V_sub ?_ (stF k57); (repeat' (first | exact ls_e | refine ls_n ?_ | refine ls_s ?_ | refine ls_i ?_ ?_ | refine ls_v ?_ ?_))) | (refine V_sub ?_ (stT k57 k63); (repeat' (first | exact ls_e | refine ls_n ?_ | refine ls_s ?_ | refine ls_i ?_ ?_ | refine ls_v ?_ ?_)))
        · refine V_iload C dX0_element_60 rfl ?_
          refine V_iload_n C dX0_element_62 rfl rfl ?_
          refine V_icmp_ne C 75 dX0_element_63 (by decide) (fun k63 => ?_) (fun k63 => ?_)
          · refine V_aload C dX0_element_75 rfl ?_
            refine V_getN (C0 := RX5) (T := TX5) (N := 8) (ci := 5) C 5 in_X5 rfl hit (by decide) ev491 (fun _ h9 => h9) rfl dX0_element_77 ?_
            refine V_ifb_eq C 86 dX0_element_80 (by decide) (fun k80 => ?_) (fun k80 => ?_)
            · refine V_aload C dX0_element_86 rfl ?_
              refine V_getN (C0 := RX5) (T := TX5) (N := 8) (ci := 5) C 7 in_X5 rfl hit (by decide) ev497 (fun _ h9 => h9) rfl dX0_element_88 ?_
              refine V_astoreq (L' := [some (.ref dx), some (.int (nI r)), some (.int mm), some (.int kk), none, none, some (.int (nI ((L.take i).filter sh).length)), some (va_rf ((L[i + 1]?).map (A 0)))]) C dX0_element_91 (by decide) rfl ?_
              refine V_goto C 47 dX0_element_93 (by decide) ?_
              first | (rw [k57] at k80; cases k80; done) | (refine V_sub ?_ (stF k57); (repeat' (first | exact ls_e | refine ls_n ?_ | refine ls_s ?_ | refine ls_i ?_ ?_ | refine ls_v ?_ ?_))) | (refine V_sub ?_ (stT k57 k63); (repeat' (first | exact ls_e | refine ls_n ?_ | refine ls_s ?_ | refine ls_i ?_ ?_ | refine ls_v ?_ ?_)))
            · refine V_iinc (v := (nI (((L.take i).filter sh).length + 1))) (L' := [some (.ref dx), some (.int (nI r)), some (.int mm), some (.int kk), none, none, some (.int (nI (((L.take i).filter sh).length + 1))), some (.ref (A 0 k))]) C dX0_element_83 rfl (nI_1 _) (by decide) rfl ?_
              refine V_aload C dX0_element_86 rfl ?_
              refine V_getN (C0 := RX5) (T := TX5) (N := 8) (ci := 5) C 7 in_X5 rfl hit (by decide) ev497 (fun _ h9 => h9) rfl dX0_element_88 ?_
              refine V_astoreq (L' := [some (.ref dx), some (.int (nI r)), some (.int mm), some (.int kk), none, none, some (.int (nI (((L.take i).filter sh).length + 1))), some (va_rf ((L[i + 1]?).map (A 0)))]) C dX0_element_91 (by decide) rfl ?_
              refine V_goto C 47 dX0_element_93 (by decide) ?_
              first | (rw [k57] at k80; cases k80; done) | (refine V_sub ?_ (stF k57); (repeat' (first | exact ls_e | refine ls_n ?_ | refine ls_s ?_ | refine ls_i ?_ ?_ | refine ls_v ?_ ?_))) | (refine V_sub ?_ (stT k57 k63); (repeat' (first | exact ls_e | refine ls_n ?_ | refine ls_s ?_ | refine ls_i ?_ ?_ | refine ls_v ?_ ?_)))
          · refine V_aload C dX0_element_66 rfl ?_
            refine V_getN (C0 := RX5) (T := TX5) (N := 8) (ci := 5) C 0 in_X5 rfl hit (by decide) ev477 (fun _ h9 => h9) rfl dX0_element_68 ?_
            refine V_ofIe (VR_V (As := []) (rest := []) C (ct_X4_id l G b M g (A 1 k) (lo k) (r6 k (by omega)) (rb k (by omega))) hopk rfl (lw_V q729 q224 q225 q55 q226) rfl nd_X4_id rfl (by decide) (by decide) dX0_element_71 rfl ⟨by decide, by decide⟩ (Nat.le_of_ble_eq_true rfl)) ?_
            have hz71 := (rb k (by omega)).2.2 0
            exact V_iret C dX0_element_74 (by decide) (by decide) ⟨_, rfl, by rw [hE, ← k63, pick_at (by omega) (by omega) (filt_t hLi k57).1], rfl⟩
    refine V_iconst C 0 dX0_element_34 (by decide) ?_
    refine V_istore (L' := [some (.ref dx), some (.int (nI r)), some (.int mm), some (.int kk), none, some (.ref (A 2 m0)), some (.int 0), none]) C dX0_element_35 (by decide) rfl ?_
    refine V_aload C dX0_element_37 rfl ?_
    refine V_castS C hnd rfl q749 dX0_element_39 ?_
    refine V_getN (C0 := RX6) (T := TX6) (N := 2) (ci := 6) C 1 in_X6 rfl hnd (by decide) ev522 (fun _ h9 => h9) rfl dX0_element_42 ?_
    refine V_astoreq (L' := [some (.ref dx), some (.int (nI r)), some (.int mm), some (.int kk), none, some (.ref (A 2 m0)), some (.int 0), some (va_rf ((L.head?).map (A 0)))]) C dX0_element_45 (by decide) rfl ?_
    refine V_sub ?_ (loop 0 (Nat.zero_le _) (fun i2 h2 => absurd h2 (by simp)))
    repeat' (first | exact ls_e | refine ls_n ?_ | refine ls_s ?_ | refine ls_i ?_ ?_ | refine ls_v ?_ ?_)
    all_goals (first | rfl | rw [List.head?_eq_getElem?])
  refine V_aload_n C dX0_element_0 rfl rfl ?_
  refine V_iload_n C dX0_element_1 rfl rfl ?_
  refine V_ofRe (VR_V (As := [.int (nI r)]) (rest := []) C (ct_X0_replica l G b M dx ra wa da rp hD r a hr hrp) hD.1 rfl (lw_V q175 q177 qs0 q36 q178) rfl nd_X0_replica rfl (by decide) (by decide) dX0_element_2 rfl ⟨by decide, by decide⟩ (Nat.le_of_ble_eq_true rfl)) ?_
  refine V_astore (L' := [some (.ref dx), some (.int (nI r)), some (.int mm), some (.int kk), some (.ref a), none, none, none]) C dX0_element_5 (by decide) rfl ?_
  refine V_aload C dX0_element_7 rfl ?_
  refine V_ifnonnull_R C 16 dX0_element_9 (by decide) ?_
  refine V_aload C dX0_element_16 rfl ?_
  refine V_iload_n C dX0_element_18 rfl rfl ?_
  refine V_ofRe (VR_V (As := [.int mm]) (rest := []) C (ct_X1_node l G b M g a ln lo P hi sh fo ch nx wt A wo hR mm) r1 rfl (lw_V q743 q269 q270 q37 q271) rfl nd_X1_node rfl (by decide) (by decide) dX0_element_19 rfl ⟨by decide, by decide⟩ (Nat.le_of_ble_eq_true rfl)) ?_
  rcases o19 : cnode ln lo mm with _ | j19
  · refine V_st (st1 := [.null]) rfl ?_
    refine V_astoreq (o := none) (L' := [some (.ref dx), some (.int (nI r)), some (.int mm), some (.int kk), some (.ref a), some (.null), none, none]) C dX0_element_22 (by decide) rfl ?_
    refine V_aloadq (o := none) C dX0_element_24 rfl ?_
    refine V_instN C dX0_element_26 ?_
    refine V_if_ne C 34 dX0_element_29 (by decide) (fun h => absurd rfl h) (fun _ => ?_)
    refine V_iconst C (-1) dX0_element_32 (by decide) ?_
    exact V_iret C dX0_element_33 (by decide) (by decide) ⟨_, rfl, by first | rw [elmS_n o19] | rw [elmS_m o19 hmp19], rfl⟩
  · have hj19 := cnode_le o19
    refine V_st (st1 := [.ref (A 2 j19)]) rfl ?_
    rcases hj19.2 with hmp19 | hls19
    · obtain ⟨hnd19, hen19⟩ := r7 j19 hj19.1 hmp19
      refine V_astore (L' := [some (.ref dx), some (.int (nI r)), some (.int mm), some (.int kk), some (.ref a), some (.ref (A 2 j19)), none, none]) C dX0_element_22 (by decide) rfl ?_
      refine V_aload C dX0_element_24 rfl ?_
      refine V_instNo C hnd19 rfl q749 C.2.2.2.1.2.2.1.2.2.2.2.2.2.2.1 dX0_element_26 ?_
      refine V_if_ne C 34 dX0_element_29 (by decide) (fun h => absurd rfl h) (fun _ => ?_)
      refine V_iconst C (-1) dX0_element_32 (by decide) ?_
      exact V_iret C dX0_element_33 (by decide) (by decide) ⟨_, rfl, by first | rw [elmS_n o19] | rw [elmS_m o19 hmp19], rfl⟩
    · have hnd19 := r8 j19 hj19.1 hls19
      refine V_astore (L' := [some (.ref dx), some (.int (nI r)), some (.int mm), some (.int kk), some (.ref a), some (.ref (A 2 j19)), none, none]) C dX0_element_22 (by decide) rfl ?_
      refine V_aload C dX0_element_24 rfl ?_
      refine V_instS C hnd19 rfl q749 dX0_element_26 ?_
      refine V_if_ne C 34 dX0_element_29 (by decide) (fun _ => ?_) (fun h => absurd h (by decide))
      refine V_sub ?_ (rest j19 hj19.1 hls19 o19)
      repeat' (first | exact ls_e | refine ls_n ?_ | refine ls_s ?_ | refine ls_i ?_ ?_ | refine ls_v ?_ ?_)

