set_option maxRecDepth 100000
/-! THE MODEL, K: questions -/
theorem int_m1 {x : Int32} (h : x < 0) (h2 : -1 ≤ x) : x = -1 := by
  rw [Int32.lt_iff_toInt_lt] at h
  rw [Int32.le_iff_toInt_le] at h2
  apply Int32.toInt_inj.mp
  have e1 : (0 : Int32).toInt = 0 := by decide
  have e2 : (-1 : Int32).toInt = -1 := by decide
  rw [e1] at h
  rw [e2] at h2 ⊢
  omega
def QryP (G : mp_G) (M : mp_M) (a : Nat) (ad : Nat → Nat) (S : Nat → Nat → Int32) (M1 : mp_M) : Prop := ∃ S1, MdAt G M1 a ad S1 ∧ Ag [7, 8, 9, 10, 11] S S1 ∧ KeepG 9 M M1
theorem ct_X3_held_bad (l : Launch) (G : mp_G) (b : Nat) (M : mp_M) (a : Nat) (x : Int32) (hx : isRepB x = false) : Ct l yX3_held cX3_held 2 (some .int) 4 0 0 G b ([.ref a, .int x] : List Value) M (pI (fun y M1 => y = -1 ∧ M1 = M)) := by
  refine Ct.ofV (by decide) (vc_ref (vc_int vc_nil)) (Nat.le_of_ble_eq_true rfl) ?_
  intro p e s m below meth c C hnm
  refine V_L (L1 := [some (.ref a), some (.int x)]) rfl ?_
  refine V_iload_n C dX3_held_0 rfl rfl ?_
  refine V_ofIe (VR_S (As := [.int x]) (rest := []) C (ct_X3_isReplica l G b M x) (lw_S q864 q865 q46 q866) nd_X3_isReplica rfl (by decide) (by decide) dX3_held_1 rfl ⟨by decide, by decide⟩ (Nat.le_of_ble_eq_true rfl)) ?_
  refine V_ifb_eq C 16 dX3_held_4 (by decide) (fun q4 => ?_) (fun q4 => ?_)
  · refine V_iconst C (-1) dX3_held_16 (by decide) ?_
    exact V_iret C dX3_held_17 (by decide) (by decide) ⟨_, rfl, rfl, rfl⟩
  · exact absurd q4 (by rw [hx]; decide)
theorem ct_X3_log_bad (l : Launch) (G : mp_G) (b : Nat) (M : mp_M) (a : Nat) (x k : Int32) (hx : isRepB x = false) : Ct l yX3_log cX3_log 3 (some .int) 4 0 0 G b ([.ref a, .int x, .int k] : List Value) M (pI (fun y M1 => y = -1 ∧ M1 = M)) := by
  refine Ct.ofV (by decide) (vc_ref (vc_int (vc_int vc_nil))) (Nat.le_of_ble_eq_true rfl) ?_
  intro p e s m below meth c C hnm
  refine V_L (L1 := [some (.ref a), some (.int x), some (.int k)]) rfl ?_
  refine V_iload_n C dX3_log_0 rfl rfl ?_
  refine V_ofIe (VR_S (As := [.int x]) (rest := []) C (ct_X3_isReplica l G b M x) (lw_S q864 q865 q46 q866) nd_X3_isReplica rfl (by decide) (by decide) dX3_log_1 rfl ⟨by decide, by decide⟩ (Nat.le_of_ble_eq_true rfl)) ?_
  refine V_ifb_eq C 22 dX3_log_4 (by decide) (fun q4 => ?_) (fun q4 => ?_)
  · refine V_iconst C (-1) dX3_log_22 (by decide) ?_
    exact V_iret C dX3_log_23 (by decide) (by decide) ⟨_, rfl, rfl, rfl⟩
  · exact absurd q4 (by rw [hx]; decide)
theorem ct_X3_past_bad (l : Launch) (G : mp_G) (b : Nat) (M : mp_M) (a : Nat) (x k z : Int32) (hx : isRepB x = false) : Ct l yX3_past cX3_past 6 (some .boolean) 4 0 0 G b ([.ref a, .int x, .int k, .int z] : List Value) M (pI (fun y M1 => y = 0 ∧ M1 = M)) := by
  refine Ct.ofV (by decide) (vc_ref (vc_int (vc_int (vc_int vc_nil)))) (Nat.le_of_ble_eq_true rfl) ?_
  intro p e s m below meth c C hnm
  refine V_L (L1 := [some (.ref a), some (.int x), some (.int k), some (.int z), none, none]) rfl ?_
  refine V_iload_n C dX3_past_0 rfl rfl ?_
  refine V_ofIe (VR_S (As := [.int x]) (rest := []) C (ct_X3_isReplica l G b M x) (lw_S q864 q865 q46 q866) nd_X3_isReplica rfl (by decide) (by decide) dX3_past_1 rfl ⟨by decide, by decide⟩ (Nat.le_of_ble_eq_true rfl)) ?_
  refine V_ifb_ne C 9 dX3_past_4 (by decide) (fun q4 => ?_) (fun q4 => ?_)
  · exact absurd q4 (by rw [hx]; decide)
  · refine V_iconst C 0 dX3_past_7 (by decide) ?_
    exact V_zret C rfl dX3_past_8 (by decide) (by decide) ⟨_, rfl, rfl, rfl⟩
theorem ct_X3_heads_bad (l : Launch) (G : mp_G) (b : Nat) (M : mp_M) (a : Nat) (x : Int32) (hx : isRepB x = false) : Ct l yX3_heads cX3_heads 4 (some .int) 4 0 0 G b ([.ref a, .int x] : List Value) M (pI (fun y M1 => y = -1 ∧ M1 = M)) := by
  refine Ct.ofV (by decide) (vc_ref (vc_int vc_nil)) (Nat.le_of_ble_eq_true rfl) ?_
  intro p e s m below meth c C hnm
  refine V_L (L1 := [some (.ref a), some (.int x), none, none]) rfl ?_
  refine V_iload_n C dX3_heads_0 rfl rfl ?_
  refine V_ofIe (VR_S (As := [.int x]) (rest := []) C (ct_X3_isReplica l G b M x) (lw_S q864 q865 q46 q866) nd_X3_isReplica rfl (by decide) (by decide) dX3_heads_1 rfl ⟨by decide, by decide⟩ (Nat.le_of_ble_eq_true rfl)) ?_
  refine V_ifb_ne C 9 dX3_heads_4 (by decide) (fun q4 => ?_) (fun q4 => ?_)
  · exact absurd q4 (by rw [hx]; decide)
  · refine V_iconst C (-1) dX3_heads_7 (by decide) ?_
    exact V_iret C dX3_heads_8 (by decide) (by decide) ⟨_, rfl, rfl, rfl⟩
theorem ct_X3_value_bad (l : Launch) (G : mp_G) (b : Nat) (M : mp_M) (a : Nat) (x k : Int32) (hx : isRepB x = false) : Ct l yX3_value cX3_value 4 (some .int) 4 0 0 G b ([.ref a, .int x, .int k] : List Value) M (pI (fun y M1 => y = -1 ∧ M1 = M)) := by
  refine Ct.ofV (by decide) (vc_ref (vc_int (vc_int vc_nil))) (Nat.le_of_ble_eq_true rfl) ?_
  intro p e s m below meth c C hnm
  refine V_L (L1 := [some (.ref a), some (.int x), some (.int k), none]) rfl ?_
  refine V_iload_n C dX3_value_0 rfl rfl ?_
  refine V_ofIe (VR_S (As := [.int x]) (rest := []) C (ct_X3_isReplica l G b M x) (lw_S q864 q865 q46 q866) nd_X3_isReplica rfl (by decide) (by decide) dX3_value_1 rfl ⟨by decide, by decide⟩ (Nat.le_of_ble_eq_true rfl)) ?_
  refine V_ifb_ne C 9 dX3_value_4 (by decide) (fun q4 => ?_) (fun q4 => ?_)
  · exact absurd q4 (by rw [hx]; decide)
  · refine V_iconst C (-1) dX3_value_7 (by decide) ?_
    exact V_iret C dX3_value_8 (by decide) (by decide) ⟨_, rfl, rfl, rfl⟩
theorem ct_X3_entry_bad (l : Launch) (G : mp_G) (b : Nat) (M : mp_M) (a : Nat) (x mm k z : Int32) (hx : isRepB x = false) : Ct l yX3_entry cX3_entry 6 (some .int) 4 0 0 G b ([.ref a, .int x, .int mm, .int k, .int z] : List Value) M (pI (fun y M1 => y = -1 ∧ M1 = M)) := by
  refine Ct.ofV (by decide) (vc_ref (vc_int (vc_int (vc_int (vc_int vc_nil))))) (Nat.le_of_ble_eq_true rfl) ?_
  intro p e s m below meth c C hnm
  refine V_L (L1 := [some (.ref a), some (.int x), some (.int mm), some (.int k), some (.int z), none]) rfl ?_
  refine V_iload_n C dX3_entry_0 rfl rfl ?_
  refine V_ofIe (VR_S (As := [.int x]) (rest := []) C (ct_X3_isReplica l G b M x) (lw_S q864 q865 q46 q866) nd_X3_isReplica rfl (by decide) (by decide) dX3_entry_1 rfl ⟨by decide, by decide⟩ (Nat.le_of_ble_eq_true rfl)) ?_
  refine V_ifb_eq C 22 dX3_entry_4 (by decide) (fun q4 => ?_) (fun q4 => ?_)
  · refine V_iconst C (-1) dX3_entry_22 (by decide) ?_
    exact V_iret C dX3_entry_23 (by decide) (by decide) ⟨_, rfl, rfl, rfl⟩
  · exact absurd q4 (by rw [hx]; decide)
theorem ct_X3_element_bad (l : Launch) (G : mp_G) (b : Nat) (M : mp_M) (a : Nat) (x k z : Int32) (hx : isRepB x = false) : Ct l yX3_element cX3_element 5 (some .int) 4 0 0 G b ([.ref a, .int x, .int k, .int z] : List Value) M (pI (fun y M1 => y = -1 ∧ M1 = M)) := by
  refine Ct.ofV (by decide) (vc_ref (vc_int (vc_int (vc_int vc_nil)))) (Nat.le_of_ble_eq_true rfl) ?_
  intro p e s m below meth c C hnm
  refine V_L (L1 := [some (.ref a), some (.int x), some (.int k), some (.int z), none]) rfl ?_
  refine V_iload_n C dX3_element_0 rfl rfl ?_
  refine V_ofIe (VR_S (As := [.int x]) (rest := []) C (ct_X3_isReplica l G b M x) (lw_S q864 q865 q46 q866) nd_X3_isReplica rfl (by decide) (by decide) dX3_element_1 rfl ⟨by decide, by decide⟩ (Nat.le_of_ble_eq_true rfl)) ?_
  refine V_ifb_eq C 12 dX3_element_4 (by decide) (fun q4 => ?_) (fun q4 => ?_)
  · refine V_iconst C (-1) dX3_element_12 (by decide) ?_
    exact V_iret C dX3_element_13 (by decide) (by decide) ⟨_, rfl, rfl, rfl⟩
  · exact absurd q4 (by rw [hx]; decide)
theorem ct_X3_depth_bad (l : Launch) (G : mp_G) (b : Nat) (M : mp_M) (a : Nat) (x k : Int32) (hx : isRepB x = false) : Ct l yX3_depth cX3_depth 7 (some .int) 4 0 0 G b ([.ref a, .int x, .int k] : List Value) M (pI (fun y M1 => y = -1 ∧ M1 = M)) := by
  refine Ct.ofV (by decide) (vc_ref (vc_int (vc_int vc_nil))) (Nat.le_of_ble_eq_true rfl) ?_
  intro p e s m below meth c C hnm
  refine V_L (L1 := [some (.ref a), some (.int x), some (.int k), none, none, none, none]) rfl ?_
  refine V_iload_n C dX3_depth_0 rfl rfl ?_
  refine V_ofIe (VR_S (As := [.int x]) (rest := []) C (ct_X3_isReplica l G b M x) (lw_S q864 q865 q46 q866) nd_X3_isReplica rfl (by decide) (by decide) dX3_depth_1 rfl ⟨by decide, by decide⟩ (Nat.le_of_ble_eq_true rfl)) ?_
  refine V_ifb_ne C 9 dX3_depth_4 (by decide) (fun q4 => ?_) (fun q4 => ?_)
  · exact absurd q4 (by rw [hx]; decide)
  · refine V_iconst C (-1) dX3_depth_7 (by decide) ?_
    exact V_iret C dX3_depth_8 (by decide) (by decide) ⟨_, rfl, rfl, rfl⟩
theorem ct_X3_sum_bad (l : Launch) (G : mp_G) (b : Nat) (M : mp_M) (a : Nat) (x : Int32) (hx : isRepB x = false) : Ct l yX3_sum cX3_sum 4 (some .int) 4 0 0 G b ([.ref a, .int x] : List Value) M (pI (fun y M1 => y = 0 ∧ M1 = M)) := by
  refine Ct.ofV (by decide) (vc_ref (vc_int vc_nil)) (Nat.le_of_ble_eq_true rfl) ?_
  intro p e s m below meth c C hnm
  refine V_L (L1 := [some (.ref a), some (.int x), none, none]) rfl ?_
  refine V_iload_n C dX3_sum_0 rfl rfl ?_
  refine V_ofIe (VR_S (As := [.int x]) (rest := []) C (ct_X3_isReplica l G b M x) (lw_S q864 q865 q46 q866) nd_X3_isReplica rfl (by decide) (by decide) dX3_sum_1 rfl ⟨by decide, by decide⟩ (Nat.le_of_ble_eq_true rfl)) ?_
  refine V_ifb_ne C 9 dX3_sum_4 (by decide) (fun q4 => ?_) (fun q4 => ?_)
  · exact absurd q4 (by rw [hx]; decide)
  · refine V_iconst C 0 dX3_sum_7 (by decide) ?_
    exact V_iret C dX3_sum_8 (by decide) (by decide) ⟨_, rfl, rfl, rfl⟩
theorem ct_X3_held (l : Launch) (G : mp_G) (b : Nat) (M : mp_M) (a : Nat) (ad : Nat → Nat) (S : Nat → Nat → Int32) (r n : Nat) (po : Nat → Nat → Nat) (ap : Nat → Bool) (hS : MdAt G M a ad S) (hV : Vw S r n po ap) : Ct l yX3_held cX3_held 2 (some .int) 4 0 0 G b ([.ref a, .int (nI r)] : List Value) M (pI (fun y M1 => y = nI n ∧ M1 = M)) := by
  have hr := hV.1
  refine Ct.ofV (by decide) (vc_ref (vc_int vc_nil)) (Nat.le_of_ble_eq_true rfl) ?_
  intro p e s m below meth c C hnm
  refine V_L (L1 := [some (.ref a), some (.int (nI r))]) rfl ?_
  obtain ⟨hma, hm0, hm1, hm2, hm3, hm4, hm5, hm8, hm9, hm10, hm11⟩ := id hS
  refine V_iload_n C dX3_held_0 rfl rfl ?_
  refine V_ofIe (VR_S (As := [.int (nI r)]) (rest := []) C (ct_X3_isReplica l G b M (nI r)) (lw_S q864 q865 q46 q866) nd_X3_isReplica rfl (by decide) (by decide) dX3_held_1 rfl ⟨by decide, by decide⟩ (Nat.le_of_ble_eq_true rfl)) ?_
  refine V_ifb_eq C 16 dX3_held_4 (by decide) (fun q4 => ?_) (fun q4 => ?_)
  · exact absurd (isRep_t hr) (by rw [q4]; decide)
  · refine V_aload_n C dX3_held_7 rfl rfl ?_
    refine V_get (C0 := RX3) (T := TX3) (N := 12) (ci := 3) C 1 in_X3 rfl hma (by decide) q822 (fun _ h9 => h9) rfl dX3_held_8 ?_
    refine V_iload_n C dX3_held_11 rfl rfl ?_
    refine V_iald C hm1 (pk_in r 3 (by omega)) dX3_held_12 ?_
    refine V_top (y := (nI n)) (by rw [nI_clamp (n := r) (by omega)]; exact hV.2.2.1) ?_
    refine V_goto C 17 dX3_held_13 (by decide) ?_
    exact V_iret C dX3_held_17 (by decide) (by decide) ⟨_, rfl, rfl, rfl⟩
theorem ct_X3_log (l : Launch) (G : mp_G) (b : Nat) (M : mp_M) (a : Nat) (ad : Nat → Nat) (S : Nat → Nat → Int32) (r n : Nat) (po : Nat → Nat → Nat) (ap : Nat → Bool) (hS : MdAt G M a ad S) (hV : Vw S r n po ap) (od : List Nat) (hO : OrV S r od) (hok : OdOk n ap od) (x : Int32) : Ct l yX3_log cX3_log 3 (some .int) 4 0 0 G b ([.ref a, .int (nI r), .int x] : List Value) M (pI (fun y M1 => y = (if x = -1 then nI od.length else if ¬ x < 0 ∧ x < nI od.length then nI (po (od.getD x.toNatClampNeg 0) 0) else -1) ∧ QryP G M a ad S M1)) := by
  have hr := hV.1
  have hn := hV.2.1
  have hl := hok.len
  have hq0 : QryP G M a ad S M := ⟨S, hS, Ag.rf, Keep.rf⟩
  by_cases hx1 : x = -1
  · refine Ct.ofV (by decide) (vc_ref (vc_int (vc_int vc_nil))) (Nat.le_of_ble_eq_true rfl) ?_
    intro p e s m below meth c C hnm
    refine V_L (L1 := [some (.ref a), some (.int (nI r)), some (.int x)]) rfl ?_
    refine V_L (L1 := [some (.ref a), some (.int (nI r)), some (.int (-1))]) (by rw [hx1]) ?_
    obtain ⟨hma, hm0, hm1, hm2, hm3, hm4, hm5, hm8, hm9, hm10, hm11⟩ := id hS
    refine V_iload_n C dX3_log_0 rfl rfl ?_
    refine V_ofIe (VR_S (As := [.int (nI r)]) (rest := []) C (ct_X3_isReplica l G b M (nI r)) (lw_S q864 q865 q46 q866) nd_X3_isReplica rfl (by decide) (by decide) dX3_log_1 rfl ⟨by decide, by decide⟩ (Nat.le_of_ble_eq_true rfl)) ?_
    refine V_ifb_eq C 22 dX3_log_4 (by decide) (fun q4 => ?_) (fun q4 => ?_)
    · exact absurd (isRep_t hr) (by rw [q4]; decide)
    · refine V_iload_n C dX3_log_7 rfl rfl ?_
      refine V_iconst C (-1) dX3_log_8 (by decide) ?_
      refine V_icmp_lt C 22 dX3_log_9 (by decide) (fun h => absurd h (by decide)) (fun _ => ?_)
      refine V_iload_n C dX3_log_12 rfl rfl ?_
      refine V_aload_n C dX3_log_13 rfl rfl ?_
      refine V_get (C0 := RX3) (T := TX3) (N := 12) (ci := 3) C 4 in_X3 rfl hma (by decide) q825 (fun _ h9 => h9) rfl dX3_log_14 ?_
      refine V_iload_n C dX3_log_17 rfl rfl ?_
      refine V_iald C hm4 (pk_in r 3 (by omega)) dX3_log_18 ?_
      refine V_top (y := (nI od.length)) (by rw [nI_clamp (n := r) (by omega)]; exact hO.1) ?_
      refine V_icmp_lt C 24 dX3_log_19 (by decide) (fun q19 => ?_) (fun q19 => ?_)
      · refine V_aload_n C dX3_log_24 rfl rfl ?_
        refine V_iload_n C dX3_log_25 rfl rfl ?_
        refine V_M (V_put (host := "") (C0 := RX3) (T := TX3) (N := 12) (ci := 3) (fs' := [.ref (ad 0), .ref (ad 1), .ref (ad 2), .ref (ad 3), .ref (ad 4), .ref (ad 5), .int (S 6 0), .int (nI r), .ref (ad 8), .ref (ad 9), .ref (ad 10), .ref (ad 11)]) C 7 in_X3 tyX3 tyX3_ok nmX3 rfl hma (by decide) q828 (fun _ h9 => h9) rfl rfl rfl rfl (Nat.le_of_ble_eq_true rfl) rfl dX3_log_26) (fun M__1 eM__1 => ?_)
        have h__2 := mp_got eM__1
        have h__3 := mp_keep eM__1 hm0 hma (by first | assumption | exact Ne.symm (by assumption) | simp | (intro h; simp at h; omega))
        have h__4 := mp_keep eM__1 hm1 hma (by first | assumption | exact Ne.symm (by assumption) | simp | (intro h; simp at h; omega))
        have h__5 := mp_keep eM__1 hm2 hma (by first | assumption | exact Ne.symm (by assumption) | simp | (intro h; simp at h; omega))
        have h__6 := mp_keep eM__1 hm3 hma (by first | assumption | exact Ne.symm (by assumption) | simp | (intro h; simp at h; omega))
        have h__7 := mp_keep eM__1 hm4 hma (by first | assumption | exact Ne.symm (by assumption) | simp | (intro h; simp at h; omega))
        have h__8 := mp_keep eM__1 hm5 hma (by first | assumption | exact Ne.symm (by assumption) | simp | (intro h; simp at h; omega))
        have h__9 := mp_keep eM__1 hm8 hma (by first | assumption | exact Ne.symm (by assumption) | simp | (intro h; simp at h; omega))
        have h__10 := mp_keep eM__1 hm9 hma (by first | assumption | exact Ne.symm (by assumption) | simp | (intro h; simp at h; omega))
        have h__11 := mp_keep eM__1 hm10 hma (by first | assumption | exact Ne.symm (by assumption) | simp | (intro h; simp at h; omega))
        have h__12 := mp_keep eM__1 hm11 hma (by first | assumption | exact Ne.symm (by assumption) | simp | (intro h; simp at h; omega))
        refine V_iload_n C dX3_log_29 rfl rfl ?_
        refine V_iconst C (-1) dX3_log_30 (by decide) ?_
        refine V_icmp_ne C 43 dX3_log_31 (by decide) (fun h => absurd rfl h) (fun _ => ?_)
        refine V_aload_n C dX3_log_34 rfl rfl ?_
        refine V_get (C0 := RX3) (T := TX3) (N := 12) (ci := 3) C 4 in_X3 rfl h__2 (by decide) q825 (fun _ h9 => h9) rfl dX3_log_35 ?_
        refine V_iload_n C dX3_log_38 rfl rfl ?_
        refine V_iald C h__7 (pk_in r 3 (by omega)) dX3_log_39 ?_
        refine V_top (y := (nI od.length)) (by rw [nI_clamp (n := r) (by omega)]; exact hO.1) ?_
        refine V_goto C 59 dX3_log_40 (by decide) ?_
        exact V_iret C dX3_log_59 (by decide) (by decide) ⟨_, rfl, by rw [if_pos hx1], _, (md_f7 hS eM__1).1, Ag.f (by decide), (md_f7 hS eM__1).2⟩
      · exact absurd (Int32.lt_of_lt_of_le (by decide) (nI_pos' (n := od.length) (by omega))) q19
  · rcases pk_ix x (n := od.length) (by omega) with hx | hx | ⟨j, hj, hxj⟩
    · refine Ct.ofV (by decide) (vc_ref (vc_int (vc_int vc_nil))) (Nat.le_of_ble_eq_true rfl) ?_
      intro p e s m below meth c C hnm
      refine V_L (L1 := [some (.ref a), some (.int (nI r)), some (.int x)]) rfl ?_
      obtain ⟨hma, hm0, hm1, hm2, hm3, hm4, hm5, hm8, hm9, hm10, hm11⟩ := id hS
      refine V_iload_n C dX3_log_0 rfl rfl ?_
      refine V_ofIe (VR_S (As := [.int (nI r)]) (rest := []) C (ct_X3_isReplica l G b M (nI r)) (lw_S q864 q865 q46 q866) nd_X3_isReplica rfl (by decide) (by decide) dX3_log_1 rfl ⟨by decide, by decide⟩ (Nat.le_of_ble_eq_true rfl)) ?_
      refine V_ifb_eq C 22 dX3_log_4 (by decide) (fun q4 => ?_) (fun q4 => ?_)
      · exact absurd (isRep_t hr) (by rw [q4]; decide)
      · refine V_iload_n C dX3_log_7 rfl rfl ?_
        refine V_iconst C (-1) dX3_log_8 (by decide) ?_
        refine V_icmp_lt C 22 dX3_log_9 (by decide) (fun q9 => ?_) (fun q9 => ?_)
        · refine V_iconst C (-1) dX3_log_22 (by decide) ?_
          exact V_iret C dX3_log_23 (by decide) (by decide) ⟨_, rfl, by rw [if_neg hx1, if_neg (fun z => z.1 hx)], hq0⟩
        · exfalso; exact hx1 (int_m1 hx (Int32.not_lt.mp q9))
    · refine Ct.ofV (by decide) (vc_ref (vc_int (vc_int vc_nil))) (Nat.le_of_ble_eq_true rfl) ?_
      intro p e s m below meth c C hnm
      refine V_L (L1 := [some (.ref a), some (.int (nI r)), some (.int x)]) rfl ?_
      obtain ⟨hma, hm0, hm1, hm2, hm3, hm4, hm5, hm8, hm9, hm10, hm11⟩ := id hS
      refine V_iload_n C dX3_log_0 rfl rfl ?_
      refine V_ofIe (VR_S (As := [.int (nI r)]) (rest := []) C (ct_X3_isReplica l G b M (nI r)) (lw_S q864 q865 q46 q866) nd_X3_isReplica rfl (by decide) (by decide) dX3_log_1 rfl ⟨by decide, by decide⟩ (Nat.le_of_ble_eq_true rfl)) ?_
      refine V_ifb_eq C 22 dX3_log_4 (by decide) (fun q4 => ?_) (fun q4 => ?_)
      · exact absurd (isRep_t hr) (by rw [q4]; decide)
      · refine V_iload_n C dX3_log_7 rfl rfl ?_
        refine V_iconst C (-1) dX3_log_8 (by decide) ?_
        refine V_icmp_lt C 22 dX3_log_9 (by decide) (fun q9 => ?_) (fun q9 => ?_)
        · refine V_iconst C (-1) dX3_log_22 (by decide) ?_
          exact V_iret C dX3_log_23 (by decide) (by decide) ⟨_, rfl, by rw [if_neg hx1, if_neg (fun z => Int32.not_lt.mpr hx z.2)], hq0⟩
        · refine V_iload_n C dX3_log_12 rfl rfl ?_
          refine V_aload_n C dX3_log_13 rfl rfl ?_
          refine V_get (C0 := RX3) (T := TX3) (N := 12) (ci := 3) C 4 in_X3 rfl hma (by decide) q825 (fun _ h9 => h9) rfl dX3_log_14 ?_
          refine V_iload_n C dX3_log_17 rfl rfl ?_
          refine V_iald C hm4 (pk_in r 3 (by omega)) dX3_log_18 ?_
          refine V_top (y := (nI od.length)) (by rw [nI_clamp (n := r) (by omega)]; exact hO.1) ?_
          refine V_icmp_lt C 24 dX3_log_19 (by decide) (fun q19 => ?_) (fun q19 => ?_)
          · exact absurd q19 (Int32.not_lt.mpr hx)
          · refine V_iconst C (-1) dX3_log_22 (by decide) ?_
            exact V_iret C dX3_log_23 (by decide) (by decide) ⟨_, rfl, by rw [if_neg hx1, if_neg (fun z => Int32.not_lt.mpr hx z.2)], hq0⟩
    · have hget : od[j]? = some od[j] := List.getElem?_eq_getElem hj
      have hoj := ((hok.2 od[j]).mp (List.getElem_mem hj)).1
      have hgd : od.getD j 0 = od[j] := by rw [List.getD_eq_getElem?_getD, hget]; rfl
      refine Ct.ofV (by decide) (vc_ref (vc_int (vc_int vc_nil))) (Nat.le_of_ble_eq_true rfl) ?_
      intro p e s m below meth c C hnm
      refine V_L (L1 := [some (.ref a), some (.int (nI r)), some (.int x)]) rfl ?_
      refine V_L (L1 := [some (.ref a), some (.int (nI r)), some (.int (nI j))]) (by rw [hxj]) ?_
      obtain ⟨hma, hm0, hm1, hm2, hm3, hm4, hm5, hm8, hm9, hm10, hm11⟩ := id hS
      have rest : ∀ M1, MdAt G M1 a ad (sF S 7 (fun _ => nI r)) → KeepG 9 M M1 → V p l e (rmOf 4 0 0) s m ([.ref a, .int (nI r), .int x] : List Value).toArray below meth c (MQ below (Qp G b (pI (fun y M1 => y = (if x = -1 then nI od.length else if ¬ x < 0 ∧ x < nI od.length then nI (po (od.getD x.toNatClampNeg 0) 0) else -1) ∧ QryP G M a ad S M1))) ([.ref a, .int (nI r), .int x] : List Value).toArray s 0 0 (fun q => b ≤ q)) G b 3 0 0 29 [some (.ref a), some (.int (nI r)), some (.int (nI j))] [] M1 := by
        intro M1 hS1 hK1
        have hV1 := hV.ag (S1 := sF S 7 (fun _ => nI r)) rfl rfl rfl
        have hme1 : (sF S 7 (fun _ => nI r)) 7 0 = nI r := rfl
        obtain ⟨hmua, hmu0, hmu1, hmu2, hmu3, hmu4, hmu5, hmu8, hmu9, hmu10, hmu11⟩ := id hS1
        rw [hme1] at hmua
        refine V_iload_n C dX3_log_29 rfl rfl ?_
        refine V_iconst C (-1) dX3_log_30 (by decide) ?_
        refine V_icmp_ne C 43 dX3_log_31 (by decide) (fun q31 => ?_) (fun q31 => ?_)
        · refine V_aload_n C dX3_log_43 rfl rfl ?_
          refine V_aload_n C dX3_log_44 rfl rfl ?_
          refine V_get (C0 := RX3) (T := TX3) (N := 12) (ci := 3) C 3 in_X3 rfl hmua (by decide) q824 (fun _ h9 => h9) rfl dX3_log_45 ?_
          refine V_bipush C 16 dX3_log_48 (by decide) ?_
          refine V_iload_n C dX3_log_50 rfl rfl ?_
          refine V_imul C dX3_log_51 ?_
          refine V_top (y := (nI (16 * r))) (pk_mul 16 r) ?_
          refine V_iload_n C dX3_log_52 rfl rfl ?_
          refine V_iadd C dX3_log_53 ?_
          refine V_top (y := (nI (16 * r + j))) (nI_add (16 * r) j) ?_
          refine V_iald C hmu3 (pk_in (16 * r + j) 48 (by omega)) dX3_log_54 ?_
          refine V_top (y := (nI od[j])) (by rw [nI_clamp (n := 16 * r + j) (by omega)]; exact (hO.2 j _ hget)) ?_
          refine V_iconst C 0 dX3_log_55 (by decide) ?_
          refine V_ofIe (VR_V (As := [.int (nI od[j]), .int 0]) (rest := []) C (ct_X3_part l G b M1 a ad (sF S 7 (fun _ => nI r)) r n po ap hS1 hme1 hV1 (od[j]) 0 (by omega) (by omega)) hmua rfl (lw_V q875 q877 qs11 q46 q878) rfl nd_X3_part rfl (by decide) (by decide) dX3_log_56 rfl ⟨by decide, by decide⟩ (Nat.le_of_ble_eq_true rfl)) ?_
          have hp56 := hV1.2.2.2.2.2.1 (od[j]) 0
          exact V_iret C dX3_log_59 (by decide) (by decide) ⟨_, rfl, by rw [hxj, if_neg (fun z => hx1 (by rw [hxj, z])), if_pos ⟨nI_pos (by omega), nI_lt hj (by omega)⟩, nI_clamp (by omega), hgd], _, hS1, Ag.f (by decide), hK1⟩
        · exact absurd q31 (fun z => hx1 (by rw [hxj, z]))
      refine V_iload_n C dX3_log_0 rfl rfl ?_
      refine V_ofIe (VR_S (As := [.int (nI r)]) (rest := []) C (ct_X3_isReplica l G b M (nI r)) (lw_S q864 q865 q46 q866) nd_X3_isReplica rfl (by decide) (by decide) dX3_log_1 rfl ⟨by decide, by decide⟩ (Nat.le_of_ble_eq_true rfl)) ?_
      refine V_ifb_eq C 22 dX3_log_4 (by decide) (fun q4 => ?_) (fun q4 => ?_)
      · exact absurd (isRep_t hr) (by rw [q4]; decide)
      · refine V_iload_n C dX3_log_7 rfl rfl ?_
        refine V_iconst C (-1) dX3_log_8 (by decide) ?_
        refine V_icmp_lt C 22 dX3_log_9 (by decide) (fun q9 => ?_) (fun q9 => ?_)
        · exact absurd q9 (Int32.not_lt.mpr (Int32.le_trans (by decide) (nI_pos' (n := j) (by omega))))
        · refine V_iload_n C dX3_log_12 rfl rfl ?_
          refine V_aload_n C dX3_log_13 rfl rfl ?_
          refine V_get (C0 := RX3) (T := TX3) (N := 12) (ci := 3) C 4 in_X3 rfl hma (by decide) q825 (fun _ h9 => h9) rfl dX3_log_14 ?_
          refine V_iload_n C dX3_log_17 rfl rfl ?_
          refine V_iald C hm4 (pk_in r 3 (by omega)) dX3_log_18 ?_
          refine V_top (y := (nI od.length)) (by rw [nI_clamp (n := r) (by omega)]; exact hO.1) ?_
          refine V_nicmp_lt (x := j) (y := od.length) C 24 dX3_log_19 (by decide) (by omega) (by omega) (fun q19 => ?_) (fun q19 => ?_)
          · refine V_aload_n C dX3_log_24 rfl rfl ?_
            refine V_iload_n C dX3_log_25 rfl rfl ?_
            refine V_M (V_put (host := "") (C0 := RX3) (T := TX3) (N := 12) (ci := 3) (fs' := [.ref (ad 0), .ref (ad 1), .ref (ad 2), .ref (ad 3), .ref (ad 4), .ref (ad 5), .int (S 6 0), .int (nI r), .ref (ad 8), .ref (ad 9), .ref (ad 10), .ref (ad 11)]) C 7 in_X3 tyX3 tyX3_ok nmX3 rfl hma (by decide) q828 (fun _ h9 => h9) rfl rfl rfl rfl (Nat.le_of_ble_eq_true rfl) rfl dX3_log_26) (fun M__13 eM__13 => ?_)
            have h__14 := mp_got eM__13
            have h__15 := mp_keep eM__13 hm0 hma (by first | assumption | exact Ne.symm (by assumption) | simp | (intro h; simp at h; omega))
            have h__16 := mp_keep eM__13 hm1 hma (by first | assumption | exact Ne.symm (by assumption) | simp | (intro h; simp at h; omega))
            have h__17 := mp_keep eM__13 hm2 hma (by first | assumption | exact Ne.symm (by assumption) | simp | (intro h; simp at h; omega))
            have h__18 := mp_keep eM__13 hm3 hma (by first | assumption | exact Ne.symm (by assumption) | simp | (intro h; simp at h; omega))
            have h__19 := mp_keep eM__13 hm4 hma (by first | assumption | exact Ne.symm (by assumption) | simp | (intro h; simp at h; omega))
            have h__20 := mp_keep eM__13 hm5 hma (by first | assumption | exact Ne.symm (by assumption) | simp | (intro h; simp at h; omega))
            have h__21 := mp_keep eM__13 hm8 hma (by first | assumption | exact Ne.symm (by assumption) | simp | (intro h; simp at h; omega))
            have h__22 := mp_keep eM__13 hm9 hma (by first | assumption | exact Ne.symm (by assumption) | simp | (intro h; simp at h; omega))
            have h__23 := mp_keep eM__13 hm10 hma (by first | assumption | exact Ne.symm (by assumption) | simp | (intro h; simp at h; omega))
            have h__24 := mp_keep eM__13 hm11 hma (by first | assumption | exact Ne.symm (by assumption) | simp | (intro h; simp at h; omega))
            obtain ⟨hS1, hK1⟩ := md_f7 hS eM__13
            exact rest _ hS1 hK1
          · omega
theorem ct_X3_past (l : Launch) (G : mp_G) (b : Nat) (M : mp_M) (a : Nat) (ad : Nat → Nat) (S : Nat → Nat → Int32) (r n : Nat) (po : Nat → Nat → Nat) (ap : Nat → Bool) (hS : MdAt G M a ad S) (hV : Vw S r n po ap) (x z : Int32) : Ct l yX3_past cX3_past 6 (some .boolean) 4 0 0 G b ([.ref a, .int (nI r), .int x, .int z] : List Value) M (pI (fun y M1 => y = bI (match mfind n po ap x true with | none => false | some i => match mfind n po ap z true with | none => false | some j => bitI ((stA n po ap).2 j) i) ∧ QryP G M a ad S M1)) := by
  have hr := hV.1
  have hn := hV.2.1
  obtain ⟨hma, -⟩ := id hS
  refine Ct.ofV (by decide) (vc_ref (vc_int (vc_int (vc_int vc_nil)))) (Nat.le_of_ble_eq_true rfl) ?_
  intro p e s m below meth c C hnm
  refine V_L (L1 := [some (.ref a), some (.int (nI r)), some (.int x), some (.int z), none, none]) rfl ?_
  refine V_iload_n C dX3_past_0 rfl rfl ?_
  refine V_ofIe (VR_S (As := [.int (nI r)]) (rest := []) C (ct_X3_isReplica l G b M (nI r)) (lw_S q864 q865 q46 q866) nd_X3_isReplica rfl (by decide) (by decide) dX3_past_1 rfl ⟨by decide, by decide⟩ (Nat.le_of_ble_eq_true rfl)) ?_
  refine V_top (y := 1) (by rw [isRep_t hr]; rfl) ?_
  refine V_if_ne C 9 dX3_past_4 (by decide) (fun _ => ?_) (fun h => absurd h (by decide))
  refine V_aload_n C dX3_past_9 rfl rfl ?_
  refine V_iload_n C dX3_past_10 rfl rfl ?_
  refine V_ofV (VR_V (As := [.int (nI r)]) (rest := []) C (ct_X3_study l G b M a ad S r n po ap hS hV) hma rfl (lw_V q867 q869 qs9 q46 q870) rfl nd_X3_study rfl (by decide) (by decide) dX3_past_11 rfl ⟨by decide, by decide⟩ (Nat.le_of_ble_eq_true rfl)) (fun M1 hM1 => ?_)
  obtain ⟨S1, hS1, hA1, hme1, hF1, hP1, hK1⟩ := hM1
  have hV1 := hV.ag (hA1 0 (by decide)) (hA1 1 (by decide)) (hA1 2 (by decide))
  have hq1 : QryP G M a ad S M1 := ⟨S1, hS1, hA1.mono (by decide), hK1⟩
  obtain ⟨hmza, hmz0, hmz1, hmz2, hmz3, hmz4, hmz5, hmz8, hmz9, hmz10, hmz11⟩ := id hS1
  rw [hme1] at hmza
  refine V_aload_n C dX3_past_14 rfl rfl ?_
  refine V_iload_n C dX3_past_15 rfl rfl ?_
  refine V_iconst C 1 dX3_past_16 (by decide) ?_
  refine V_ofIe (VR_V (As := [.int x, .int 1]) (rest := []) C (ct_X3_find l G b M1 a ad S1 r n po ap hS1 hme1 hV1 x true) hmza rfl (lw_V q883 q885 qs13 q46 q886) rfl nd_X3_find rfl (by decide) (by decide) dX3_past_17 rfl ⟨by decide, by decide⟩ (Nat.le_of_ble_eq_true rfl)) ?_
  rcases o17 : mfind n po ap x true with _ | j17
  · refine V_top (y := -1) rfl ?_
    refine V_istore (L' := [some (.ref a), some (.int (nI r)), some (.int x), some (.int z), some (.int (-1)), none]) C dX3_past_20 (by decide) rfl ?_
    refine V_aload_n C dX3_past_22 rfl rfl ?_
    refine V_iload_n C dX3_past_23 rfl rfl ?_
    refine V_iconst C 1 dX3_past_24 (by decide) ?_
    refine V_ofIe (VR_V (As := [.int z, .int 1]) (rest := []) C (ct_X3_find l G b M1 a ad S1 r n po ap hS1 hme1 hV1 z true) hmza rfl (lw_V q883 q885 qs13 q46 q886) rfl nd_X3_find rfl (by decide) (by decide) dX3_past_25 rfl ⟨by decide, by decide⟩ (Nat.le_of_ble_eq_true rfl)) ?_
    rcases o25 : mfind n po ap z true with _ | j25
    · refine V_top (y := -1) rfl ?_
      refine V_istore (L' := [some (.ref a), some (.int (nI r)), some (.int x), some (.int z), some (.int (-1)), some (.int (-1))]) C dX3_past_28 (by decide) rfl ?_
      refine V_iload C dX3_past_30 rfl ?_
      refine V_if_lt C 60 dX3_past_32 (by decide) (fun _ => ?_) (fun h => absurd (by decide) h)
      refine V_iconst C 0 dX3_past_60 (by decide) ?_
      exact V_zret C rfl dX3_past_61 (by decide) (by decide) ⟨_, rfl, by first | (refine bt ?_; simp [bitI, *]; done) | (refine bf ?_; simp [bitI, *]; done), hq1⟩
    · have hj25 := (lastI_some o25).1
      have hk25 := hV1.2.2.2.2.1 j25 hj25
      refine V_top (y := nI j25) rfl ?_
      refine V_istore (L' := [some (.ref a), some (.int (nI r)), some (.int x), some (.int z), some (.int (-1)), some (.int (nI j25))]) C dX3_past_28 (by decide) rfl ?_
      refine V_iload C dX3_past_30 rfl ?_
      refine V_if_lt C 60 dX3_past_32 (by decide) (fun _ => ?_) (fun h => absurd (by decide) h)
      refine V_iconst C 0 dX3_past_60 (by decide) ?_
      exact V_zret C rfl dX3_past_61 (by decide) (by decide) ⟨_, rfl, by first | (refine bt ?_; simp [bitI, *]; done) | (refine bf ?_; simp [bitI, *]; done), hq1⟩
  · have hj17 := (lastI_some o17).1
    have hk17 := hV1.2.2.2.2.1 j17 hj17
    refine V_top (y := nI j17) rfl ?_
    refine V_istore (L' := [some (.ref a), some (.int (nI r)), some (.int x), some (.int z), some (.int (nI j17)), none]) C dX3_past_20 (by decide) rfl ?_
    refine V_aload_n C dX3_past_22 rfl rfl ?_
    refine V_iload_n C dX3_past_23 rfl rfl ?_
    refine V_iconst C 1 dX3_past_24 (by decide) ?_
    refine V_ofIe (VR_V (As := [.int z, .int 1]) (rest := []) C (ct_X3_find l G b M1 a ad S1 r n po ap hS1 hme1 hV1 z true) hmza rfl (lw_V q883 q885 qs13 q46 q886) rfl nd_X3_find rfl (by decide) (by decide) dX3_past_25 rfl ⟨by decide, by decide⟩ (Nat.le_of_ble_eq_true rfl)) ?_
    rcases o25 : mfind n po ap z true with _ | j25
    · refine V_top (y := -1) rfl ?_
      refine V_istore (L' := [some (.ref a), some (.int (nI r)), some (.int x), some (.int z), some (.int (nI j17)), some (.int (-1))]) C dX3_past_28 (by decide) rfl ?_
      refine V_iload C dX3_past_30 rfl ?_
      refine V_if_lt C 60 dX3_past_32 (by decide) (fun h => absurd h (nI_pos (n := j17) (by omega))) (fun _ => ?_)
      refine V_iload C dX3_past_35 rfl ?_
      refine V_if_lt C 60 dX3_past_37 (by decide) (fun _ => ?_) (fun h => absurd (by decide) h)
      refine V_iconst C 0 dX3_past_60 (by decide) ?_
      exact V_zret C rfl dX3_past_61 (by decide) (by decide) ⟨_, rfl, by first | (refine bt ?_; simp [bitI, *]; done) | (refine bf ?_; simp [bitI, *]; done), hq1⟩
    · have hj25 := (lastI_some o25).1
      have hk25 := hV1.2.2.2.2.1 j25 hj25
      refine V_top (y := nI j25) rfl ?_
      refine V_istore (L' := [some (.ref a), some (.int (nI r)), some (.int x), some (.int z), some (.int (nI j17)), some (.int (nI j25))]) C dX3_past_28 (by decide) rfl ?_
      refine V_iload C dX3_past_30 rfl ?_
      refine V_if_lt C 60 dX3_past_32 (by decide) (fun h => absurd h (nI_pos (n := j17) (by omega))) (fun _ => ?_)
      refine V_iload C dX3_past_35 rfl ?_
      refine V_if_lt C 60 dX3_past_37 (by decide) (fun h => absurd h (nI_pos (n := j25) (by omega))) (fun _ => ?_)
      refine V_aload_n C dX3_past_40 rfl rfl ?_
      refine V_get (C0 := RX3) (T := TX3) (N := 12) (ci := 3) C 9 in_X3 rfl hmza (by decide) q830 (fun _ h9 => h9) rfl dX3_past_41 ?_
      refine V_iload C dX3_past_44 rfl ?_
      refine V_iald C hmz9 (pk_in j25 16 (by omega)) dX3_past_46 ?_
      refine V_top (y := ((stA n po ap).2 j25)) (by rw [nI_clamp (n := j25) (by omega)]; exact (hP1 j25 (by omega))) ?_
      refine V_iload C dX3_past_47 rfl ?_
      refine V_ishr C dX3_past_49 ?_
      refine V_iconst C 1 dX3_past_50 (by decide) ?_
      refine V_iand C dX3_past_51 ?_
      refine V_iconst C 1 dX3_past_52 (by decide) ?_
      refine V_icmp_ne C 60 dX3_past_53 (by decide) (fun q53 => ?_) (fun q53 => ?_)
      · refine V_iconst C 0 dX3_past_60 (by decide) ?_
        exact V_zret C rfl dX3_past_61 (by decide) (by decide) ⟨_, rfl, by first | (refine bt ?_; simp [bitI, *]; done) | (refine bf ?_; simp [bitI, *]; done), hq1⟩
      · refine V_iconst C 1 dX3_past_56 (by decide) ?_
        refine V_goto C 61 dX3_past_57 (by decide) ?_
        exact V_zret C rfl dX3_past_61 (by decide) (by decide) ⟨_, rfl, by first | (refine bt ?_; simp [bitI, *]; done) | (refine bf ?_; simp [bitI, *]; done), hq1⟩
theorem ct_X3_heads (l : Launch) (G : mp_G) (b : Nat) (M : mp_M) (a : Nat) (ad : Nat → Nat) (S : Nat → Nat → Int32) (r n : Nat) (po : Nat → Nat → Nat) (ap : Nat → Bool) (hS : MdAt G M a ad S) (hV : Vw S r n po ap) : Ct l yX3_heads cX3_heads 4 (some .int) 4 0 0 G b ([.ref a, .int (nI r)] : List Value) M (pI (fun y M1 => y = nI (cntI (mhead n po ap) n) ∧ QryP G M a ad S M1)) := by
  have hr := hV.1
  have hn := hV.2.1
  refine Ct.ofV (by decide) (vc_ref (vc_int vc_nil)) (Nat.le_of_ble_eq_true rfl) ?_
  intro p e s m below meth c C hnm
  refine V_L (L1 := [some (.ref a), some (.int (nI r)), none, none]) rfl ?_
  obtain ⟨hma, hm0, hm1, hm2, hm3, hm4, hm5, hm8, hm9, hm10, hm11⟩ := id hS
  refine V_iload_n C dX3_heads_0 rfl rfl ?_
  refine V_ofIe (VR_S (As := [.int (nI r)]) (rest := []) C (ct_X3_isReplica l G b M (nI r)) (lw_S q864 q865 q46 q866) nd_X3_isReplica rfl (by decide) (by decide) dX3_heads_1 rfl ⟨by decide, by decide⟩ (Nat.le_of_ble_eq_true rfl)) ?_
  refine V_top (y := 1) (by rw [isRep_t hr]; rfl) ?_
  refine V_if_ne C 9 dX3_heads_4 (by decide) (fun _ => ?_) (fun h => absurd h (by decide))
  refine V_aload_n C dX3_heads_9 rfl rfl ?_
  refine V_iload_n C dX3_heads_10 rfl rfl ?_
  refine V_M (V_put (host := "") (C0 := RX3) (T := TX3) (N := 12) (ci := 3) (fs' := [.ref (ad 0), .ref (ad 1), .ref (ad 2), .ref (ad 3), .ref (ad 4), .ref (ad 5), .int (S 6 0), .int (nI r), .ref (ad 8), .ref (ad 9), .ref (ad 10), .ref (ad 11)]) C 7 in_X3 tyX3 tyX3_ok nmX3 rfl hma (by decide) q828 (fun _ h9 => h9) rfl rfl rfl rfl (Nat.le_of_ble_eq_true rfl) rfl dX3_heads_11) (fun M1 e1 => ?_)
  have h__1 := mp_got e1
  have h__2 := mp_keep e1 hm0 hma (by first | assumption | exact Ne.symm (by assumption) | simp | (intro h; simp at h; omega))
  have h__3 := mp_keep e1 hm1 hma (by first | assumption | exact Ne.symm (by assumption) | simp | (intro h; simp at h; omega))
  have h__4 := mp_keep e1 hm2 hma (by first | assumption | exact Ne.symm (by assumption) | simp | (intro h; simp at h; omega))
  have h__5 := mp_keep e1 hm3 hma (by first | assumption | exact Ne.symm (by assumption) | simp | (intro h; simp at h; omega))
  have h__6 := mp_keep e1 hm4 hma (by first | assumption | exact Ne.symm (by assumption) | simp | (intro h; simp at h; omega))
  have h__7 := mp_keep e1 hm5 hma (by first | assumption | exact Ne.symm (by assumption) | simp | (intro h; simp at h; omega))
  have h__8 := mp_keep e1 hm8 hma (by first | assumption | exact Ne.symm (by assumption) | simp | (intro h; simp at h; omega))
  have h__9 := mp_keep e1 hm9 hma (by first | assumption | exact Ne.symm (by assumption) | simp | (intro h; simp at h; omega))
  have h__10 := mp_keep e1 hm10 hma (by first | assumption | exact Ne.symm (by assumption) | simp | (intro h; simp at h; omega))
  have h__11 := mp_keep e1 hm11 hma (by first | assumption | exact Ne.symm (by assumption) | simp | (intro h; simp at h; omega))
  obtain ⟨hS1, hK1⟩ := md_f7 hS e1
  have hV1 := hV.ag (S1 := sF S 7 (fun _ => nI r)) rfl rfl rfl
  have hme1 : (sF S 7 (fun _ => nI r)) 7 0 = nI r := rfl
  have hq1 : QryP G M a ad S M1 := ⟨_, hS1, Ag.f (by decide), hK1⟩
  obtain ⟨hmua, hmu0, hmu1, hmu2, hmu3, hmu4, hmu5, hmu8, hmu9, hmu10, hmu11⟩ := id hS1
  rw [hme1] at hmua
  refine V_iconst C 0 dX3_heads_14 (by decide) ?_
  refine V_istore_n (L' := [some (.ref a), some (.int (nI r)), some (.int 0), none]) C dX3_heads_15 rfl (by decide) rfl ?_
  refine V_iconst C 0 dX3_heads_16 (by decide) ?_
  refine V_istore_n (L' := [some (.ref a), some (.int (nI r)), some (.int 0), some (.int 0)]) C dX3_heads_17 rfl (by decide) rfl ?_
  have loop : ∀ k, k ≤ n → V p l e (rmOf 4 0 0) s m ([.ref a, .int (nI r)] : List Value).toArray below meth c (MQ below (Qp G b (pI (fun y M1 => y = nI (cntI (mhead n po ap) n) ∧ QryP G M a ad S M1))) ([.ref a, .int (nI r)] : List Value).toArray s 0 0 (fun q => b ≤ q)) G b 4 0 0 18 [some (.ref a), some (.int (nI r)), some (.int (nI (cntI (mhead n po ap) k))), some (.int (nI k))] [] M1 := by
    refine up_ind n ?_
    intro k hk ih
    refine V_iload_n C dX3_heads_18 rfl rfl ?_
    refine V_aload_n C dX3_heads_19 rfl rfl ?_
    refine V_get (C0 := RX3) (T := TX3) (N := 12) (ci := 3) C 1 in_X3 rfl hmua (by decide) q822 (fun _ h9 => h9) rfl dX3_heads_20 ?_
    refine V_iload_n C dX3_heads_23 rfl rfl ?_
    refine V_iald C hmu1 (pk_in r 3 (by omega)) dX3_heads_24 ?_
    refine V_top (y := (nI n)) (by rw [nI_clamp (n := r) (by omega)]; exact hV1.2.2.1) ?_
    refine V_nicmp_ge (x := k) (y := n) C 50 dX3_heads_25 (by decide) (by omega) (by omega) (fun q25 => ?_) (fun q25 => ?_)
    · refine V_iload_n C dX3_heads_50 rfl rfl ?_
      exact V_iret C dX3_heads_51 (by decide) (by decide) ⟨_, rfl, by rw [show k = n by omega], hq1⟩
    · refine V_iload_n C dX3_heads_28 rfl rfl ?_
      refine V_aload_n C dX3_heads_29 rfl rfl ?_
      refine V_iload_n C dX3_heads_30 rfl rfl ?_
      refine V_ofIe (VR_V (As := [.int (nI k)]) (rest := [.int (nI (cntI (mhead n po ap) k))]) C (ct_X3_isHead l G b M1 a ad (sF S 7 (fun _ => nI r)) r n po ap hS1 hme1 hV1 k (by omega)) hmua rfl (lw_V q895 q897 qs16 q46 q898) rfl nd_X3_isHead rfl (by decide) (by decide) dX3_heads_31 rfl ⟨by decide, by decide⟩ (Nat.le_of_ble_eq_true rfl)) ?_
      refine V_ifb_eq C 41 dX3_heads_34 (by decide) (fun q34 => ?_) (fun q34 => ?_)
      · refine V_iconst C 0 dX3_heads_41 (by decide) ?_
        refine V_iadd C dX3_heads_42 ?_
        refine V_top (y := (nI (cntI (mhead n po ap) k + 0))) (nI_add (cntI (mhead n po ap) k) 0) ?_
        refine V_istore_n (L' := [some (.ref a), some (.int (nI r)), some (.int (nI (cntI (mhead n po ap) k + 0))), some (.int (nI k))]) C dX3_heads_43 rfl (by decide) rfl ?_
        refine V_iinc (v := (nI (k + 1))) (L' := [some (.ref a), some (.int (nI r)), some (.int (nI (cntI (mhead n po ap) k + 0))), some (.int (nI (k + 1)))]) C dX3_heads_44 rfl (nI_1 _) (by decide) rfl ?_
        refine V_goto C 18 dX3_heads_47 (by decide) ?_
        refine V_sub ?_ (ih (by omega))
        repeat' (first | exact ls_e | refine ls_n ?_ | refine ls_s ?_ | refine ls_i ?_ ?_ | refine ls_v ?_ ?_)
        first | exact cnt_t q34 | exact cnt_f q34
      · refine V_iconst C 1 dX3_heads_37 (by decide) ?_
        refine V_goto C 42 dX3_heads_38 (by decide) ?_
        refine V_iadd C dX3_heads_42 ?_
        refine V_top (y := (nI (cntI (mhead n po ap) k + 1))) (nI_add (cntI (mhead n po ap) k) 1) ?_
        refine V_istore_n (L' := [some (.ref a), some (.int (nI r)), some (.int (nI (cntI (mhead n po ap) k + 1))), some (.int (nI k))]) C dX3_heads_43 rfl (by decide) rfl ?_
        refine V_iinc (v := (nI (k + 1))) (L' := [some (.ref a), some (.int (nI r)), some (.int (nI (cntI (mhead n po ap) k + 1))), some (.int (nI (k + 1)))]) C dX3_heads_44 rfl (nI_1 _) (by decide) rfl ?_
        refine V_goto C 18 dX3_heads_47 (by decide) ?_
        refine V_sub ?_ (ih (by omega))
        repeat' (first | exact ls_e | refine ls_n ?_ | refine ls_s ?_ | refine ls_i ?_ ?_ | refine ls_v ?_ ?_)
        first | exact cnt_t q34 | exact cnt_f q34
  refine V_sub ?_ (loop 0 (Nat.zero_le _))
  repeat' (first | exact ls_e | refine ls_n ?_ | refine ls_s ?_ | refine ls_i ?_ ?_ | refine ls_v ?_ ?_)
  all_goals rfl
theorem ct_X3_value (l : Launch) (G : mp_G) (b : Nat) (M : mp_M) (a : Nat) (ad : Nat → Nat) (S : Nat → Nat → Int32) (r n : Nat) (po : Nat → Nat → Nat) (ap : Nat → Bool) (hS : MdAt G M a ad S) (hV : Vw S r n po ap) (x : Int32) : Ct l yX3_value cX3_value 4 (some .int) 4 0 0 G b ([.ref a, .int (nI r), .int x] : List Value) M (pI (fun y M1 => y = (match mfind n po ap x true with | none => -1 | some j => nI (po j 4)) ∧ QryP G M a ad S M1)) := by
  have hr := hV.1
  have hn := hV.2.1
  refine Ct.ofV (by decide) (vc_ref (vc_int (vc_int vc_nil))) (Nat.le_of_ble_eq_true rfl) ?_
  intro p e s m below meth c C hnm
  refine V_L (L1 := [some (.ref a), some (.int (nI r)), some (.int x), none]) rfl ?_
  obtain ⟨hma, hm0, hm1, hm2, hm3, hm4, hm5, hm8, hm9, hm10, hm11⟩ := id hS
  refine V_iload_n C dX3_value_0 rfl rfl ?_
  refine V_ofIe (VR_S (As := [.int (nI r)]) (rest := []) C (ct_X3_isReplica l G b M (nI r)) (lw_S q864 q865 q46 q866) nd_X3_isReplica rfl (by decide) (by decide) dX3_value_1 rfl ⟨by decide, by decide⟩ (Nat.le_of_ble_eq_true rfl)) ?_
  refine V_top (y := 1) (by rw [isRep_t hr]; rfl) ?_
  refine V_if_ne C 9 dX3_value_4 (by decide) (fun _ => ?_) (fun h => absurd h (by decide))
  refine V_aload_n C dX3_value_9 rfl rfl ?_
  refine V_iload_n C dX3_value_10 rfl rfl ?_
  refine V_M (V_put (host := "") (C0 := RX3) (T := TX3) (N := 12) (ci := 3) (fs' := [.ref (ad 0), .ref (ad 1), .ref (ad 2), .ref (ad 3), .ref (ad 4), .ref (ad 5), .int (S 6 0), .int (nI r), .ref (ad 8), .ref (ad 9), .ref (ad 10), .ref (ad 11)]) C 7 in_X3 tyX3 tyX3_ok nmX3 rfl hma (by decide) q828 (fun _ h9 => h9) rfl rfl rfl rfl (Nat.le_of_ble_eq_true rfl) rfl dX3_value_11) (fun M1 e1 => ?_)
  have h__1 := mp_got e1
  have h__2 := mp_keep e1 hm0 hma (by first | assumption | exact Ne.symm (by assumption) | simp | (intro h; simp at h; omega))
  have h__3 := mp_keep e1 hm1 hma (by first | assumption | exact Ne.symm (by assumption) | simp | (intro h; simp at h; omega))
  have h__4 := mp_keep e1 hm2 hma (by first | assumption | exact Ne.symm (by assumption) | simp | (intro h; simp at h; omega))
  have h__5 := mp_keep e1 hm3 hma (by first | assumption | exact Ne.symm (by assumption) | simp | (intro h; simp at h; omega))
  have h__6 := mp_keep e1 hm4 hma (by first | assumption | exact Ne.symm (by assumption) | simp | (intro h; simp at h; omega))
  have h__7 := mp_keep e1 hm5 hma (by first | assumption | exact Ne.symm (by assumption) | simp | (intro h; simp at h; omega))
  have h__8 := mp_keep e1 hm8 hma (by first | assumption | exact Ne.symm (by assumption) | simp | (intro h; simp at h; omega))
  have h__9 := mp_keep e1 hm9 hma (by first | assumption | exact Ne.symm (by assumption) | simp | (intro h; simp at h; omega))
  have h__10 := mp_keep e1 hm10 hma (by first | assumption | exact Ne.symm (by assumption) | simp | (intro h; simp at h; omega))
  have h__11 := mp_keep e1 hm11 hma (by first | assumption | exact Ne.symm (by assumption) | simp | (intro h; simp at h; omega))
  obtain ⟨hS1, hK1⟩ := md_f7 hS e1
  have hV1 := hV.ag (S1 := sF S 7 (fun _ => nI r)) rfl rfl rfl
  have hme1 : (sF S 7 (fun _ => nI r)) 7 0 = nI r := rfl
  have hq1 : QryP G M a ad S M1 := ⟨_, hS1, Ag.f (by decide), hK1⟩
  obtain ⟨hmua, hmu0, hmu1, hmu2, hmu3, hmu4, hmu5, hmu8, hmu9, hmu10, hmu11⟩ := id hS1
  rw [hme1] at hmua
  refine V_aload_n C dX3_value_14 rfl rfl ?_
  refine V_iload_n C dX3_value_15 rfl rfl ?_
  refine V_iconst C 1 dX3_value_16 (by decide) ?_
  refine V_ofIe (VR_V (As := [.int x, .int 1]) (rest := []) C (ct_X3_find l G b M1 a ad (sF S 7 (fun _ => nI r)) r n po ap hS1 hme1 hV1 x true) hmua rfl (lw_V q883 q885 qs13 q46 q886) rfl nd_X3_find rfl (by decide) (by decide) dX3_value_17 rfl ⟨by decide, by decide⟩ (Nat.le_of_ble_eq_true rfl)) ?_
  rcases o17 : mfind n po ap x true with _ | j17
  · refine V_top (y := -1) rfl ?_
    refine V_istore_n (L' := [some (.ref a), some (.int (nI r)), some (.int x), some (.int (-1))]) C dX3_value_20 rfl (by decide) rfl ?_
    refine V_iload_n C dX3_value_21 rfl rfl ?_
    refine V_if_ge C 29 dX3_value_22 (by decide) (fun h => absurd h (by decide)) (fun _ => ?_)
    refine V_iconst C (-1) dX3_value_25 (by decide) ?_
    refine V_goto C 35 dX3_value_26 (by decide) ?_
    exact V_iret C dX3_value_35 (by decide) (by decide) ⟨_, rfl, rfl, hq1⟩
  · have hj17 := (lastI_some o17).1
    have hk17 := hV1.2.2.2.2.1 j17 hj17
    refine V_top (y := nI j17) rfl ?_
    refine V_istore_n (L' := [some (.ref a), some (.int (nI r)), some (.int x), some (.int (nI j17))]) C dX3_value_20 rfl (by decide) rfl ?_
    refine V_iload_n C dX3_value_21 rfl rfl ?_
    refine V_if_ge C 29 dX3_value_22 (by decide) (fun _ => ?_) (fun h => absurd (nI_pos' (n := j17) (by omega)) h)
    refine V_aload_n C dX3_value_29 rfl rfl ?_
    refine V_iload_n C dX3_value_30 rfl rfl ?_
    refine V_iconst C 4 dX3_value_31 (by decide) ?_
    refine V_ofIe (VR_V (As := [.int (nI j17), .int 4]) (rest := []) C (ct_X3_part l G b M1 a ad (sF S 7 (fun _ => nI r)) r n po ap hS1 hme1 hV1 j17 4 (by omega) (by omega)) hmua rfl (lw_V q875 q877 qs11 q46 q878) rfl nd_X3_part rfl (by decide) (by decide) dX3_value_32 rfl ⟨by decide, by decide⟩ (Nat.le_of_ble_eq_true rfl)) ?_
    have hp32 := hV1.2.2.2.2.2.1 j17 4
    exact V_iret C dX3_value_35 (by decide) (by decide) ⟨_, rfl, rfl, hq1⟩
theorem ct_X3_entry (l : Launch) (G : mp_G) (b : Nat) (M : mp_M) (a : Nat) (ad : Nat → Nat) (S : Nat → Nat → Int32) (r n : Nat) (po : Nat → Nat → Nat) (ap : Nat → Bool) (hS : MdAt G M a ad S) (hV : Vw S r n po ap) (mm key kk : Int32) : Ct l yX3_entry cX3_entry 6 (some .int) 4 0 0 G b ([.ref a, .int (nI r), .int mm, .int key, .int kk] : List Value) M (pI (fun y M1 => y = (if key < 0 ∨ 3 < key ∨ kk < -1 ∨ (¬ mm = 0 ∧ mkind n po ap mm 1 = false) then -1 else if kk = -1 then -1 - plI (entO n po ap (stA n po ap).1 (stA n po ap).2 mm key kk) (cntI (entQ n po ap (stA n po ap).1 (stA n po ap).2 mm key) 159) else match entO n po ap (stA n po ap).1 (stA n po ap).2 mm key kk with | none => -1 | some j => nI (po j 0)) ∧ QryP G M a ad S M1)) := by
  have hr := hV.1
  have hn := hV.2.1
  obtain ⟨hma, -⟩ := id hS
  refine Ct.ofV (by decide) (vc_ref (vc_int (vc_int (vc_int (vc_int vc_nil))))) (Nat.le_of_ble_eq_true rfl) ?_
  intro p e s m below meth c C hnm
  refine V_L (L1 := [some (.ref a), some (.int (nI r)), some (.int mm), some (.int key), some (.int kk), none]) rfl ?_
  have hq0 : QryP G M a ad S M := ⟨S, hS, Ag.rf, Keep.rf⟩
  refine V_iload_n C dX3_entry_0 rfl rfl ?_
  refine V_ofIe (VR_S (As := [.int (nI r)]) (rest := []) C (ct_X3_isReplica l G b M (nI r)) (lw_S q864 q865 q46 q866) nd_X3_isReplica rfl (by decide) (by decide) dX3_entry_1 rfl ⟨by decide, by decide⟩ (Nat.le_of_ble_eq_true rfl)) ?_
  refine V_top (y := 1) (by rw [isRep_t hr]; rfl) ?_
  refine V_if_eq C 22 dX3_entry_4 (by decide) (fun h => absurd h (by decide)) (fun _ => ?_)
  have rest : ¬ key < 0 → ¬ 3 < key → -1 ≤ kk → V p l e (rmOf 4 0 0) s m ([.ref a, .int (nI r), .int mm, .int key, .int kk] : List Value).toArray below meth c (MQ below (Qp G b (pI (fun y M1 => y = (if key < 0 ∨ 3 < key ∨ kk < -1 ∨ (¬ mm = 0 ∧ mkind n po ap mm 1 = false) then -1 else if kk = -1 then -1 - plI (entO n po ap (stA n po ap).1 (stA n po ap).2 mm key kk) (cntI (entQ n po ap (stA n po ap).1 (stA n po ap).2 mm key) 159) else match entO n po ap (stA n po ap).1 (stA n po ap).2 mm key kk with | none => -1 | some j => nI (po j 0)) ∧ QryP G M a ad S M1))) ([.ref a, .int (nI r), .int mm, .int key, .int kk] : List Value).toArray s 0 0 (fun q => b ≤ q)) G b 6 0 0 24 [some (.ref a), some (.int (nI r)), some (.int mm), some (.int key), some (.int kk), none] [] M := by
    intro hk0 hk3 hkk
    refine V_aload_n C dX3_entry_24 rfl rfl ?_
    refine V_iload_n C dX3_entry_25 rfl rfl ?_
    refine V_ofV (VR_V (As := [.int (nI r)]) (rest := []) C (ct_X3_study l G b M a ad S r n po ap hS hV) hma rfl (lw_V q867 q869 qs9 q46 q870) rfl nd_X3_study rfl (by decide) (by decide) dX3_entry_26 rfl ⟨by decide, by decide⟩ (Nat.le_of_ble_eq_true rfl)) (fun M1 hM1 => ?_)
    obtain ⟨S1, hS1, hA1, hme1, hF1, hP1, hK1⟩ := hM1
    have hV1 := hV.ag (hA1 0 (by decide)) (hA1 1 (by decide)) (hA1 2 (by decide))
    have hq1 : QryP G M a ad S M1 := ⟨S1, hS1, hA1.mono (by decide), hK1⟩
    obtain ⟨hmza, hmz0, hmz1, hmz2, hmz3, hmz4, hmz5, hmz8, hmz9, hmz10, hmz11⟩ := id hS1
    rw [hme1] at hmza
    refine V_iload_n C dX3_entry_29 rfl rfl ?_
    refine V_if_eq C 44 dX3_entry_30 (by decide) (fun q30 => ?_) (fun q30 => ?_)
    · have hno : ¬ (key < 0 ∨ 3 < key ∨ kk < -1 ∨ (¬ mm = 0 ∧ mkind n po ap mm 1 = false)) := by rintro (w | w | w | w); exact hk0 w; exact hk3 w; exact absurd hkk (Int32.not_le.mpr w); first | exact w.1 q30 | exact bne q39 w.2
      refine V_aload_n C dX3_entry_44 rfl rfl ?_
      refine V_iload_n C dX3_entry_45 rfl rfl ?_
      refine V_iload_n C dX3_entry_46 rfl rfl ?_
      refine V_iload C dX3_entry_47 rfl ?_
      refine V_ofIe (VR_V (As := [.int mm, .int key, .int kk]) (rest := []) C (ct_X3_entryPlace l G b M1 a ad S1 r n po ap hS1 hme1 hV1 (stA n po ap).1 hF1 (stA n po ap).2 hP1 mm key kk) hmza rfl (lw_V q982 q984 qs25 q46 q985) rfl nd_X3_entryPlace rfl (by decide) (by decide) dX3_entry_49 rfl ⟨by decide, by decide⟩ (Nat.le_of_ble_eq_true rfl)) ?_
      rcases o49 : entO n po ap (stA n po ap).1 (stA n po ap).2 mm key kk with _ | j49
      · refine V_top0 (fun y49 hy49 => ?_)
        have hneg49 : y49 < 0 := by rw [hy49]; exact neg_lt (Nat.lt_of_le_of_lt (cntI_le _ _) (by omega))
        refine V_istore (L' := [some (.ref a), some (.int (nI r)), some (.int mm), some (.int key), some (.int kk), some (.int y49)]) C dX3_entry_52 (by decide) rfl ?_
        refine V_iload C dX3_entry_54 rfl ?_
        refine V_iconst C (-1) dX3_entry_56 (by decide) ?_
        refine V_icmp_ne C 67 dX3_entry_57 (by decide) (fun q57 => ?_) (fun q57 => ?_)
        · refine V_iload C dX3_entry_67 rfl ?_
          refine V_if_ge C 76 dX3_entry_69 (by decide) (fun q69 => ?_) (fun q69 => ?_)
          · exact absurd hneg49 (Int32.not_lt.mpr q69)
          · refine V_iconst C (-1) dX3_entry_72 (by decide) ?_
            refine V_goto C 83 dX3_entry_73 (by decide) ?_
            exact V_iret C dX3_entry_83 (by decide) (by decide) ⟨_, rfl, by rw [if_neg hno]; (try rw [if_pos q57]); (try rw [if_neg q57]); (try rw [hy49]); (try rfl), hq1⟩
        · refine V_iconst C (-1) dX3_entry_60 (by decide) ?_
          refine V_iload C dX3_entry_61 rfl ?_
          refine V_isub C dX3_entry_63 ?_
          refine V_goto C 83 dX3_entry_64 (by decide) ?_
          exact V_iret C dX3_entry_83 (by decide) (by decide) ⟨_, rfl, by rw [if_neg hno]; (try rw [if_pos q57]); (try rw [if_neg q57]); (try rw [hy49]); (try rfl), hq1⟩
      · have hj49 := entO_lt o49
        have hk49 := hV1.2.2.2.2.1 j49 hj49
        refine V_top (y := nI j49) rfl ?_
        refine V_istore (L' := [some (.ref a), some (.int (nI r)), some (.int mm), some (.int key), some (.int kk), some (.int (nI j49))]) C dX3_entry_52 (by decide) rfl ?_
        refine V_iload C dX3_entry_54 rfl ?_
        refine V_iconst C (-1) dX3_entry_56 (by decide) ?_
        refine V_icmp_ne C 67 dX3_entry_57 (by decide) (fun q57 => ?_) (fun q57 => ?_)
        · refine V_iload C dX3_entry_67 rfl ?_
          refine V_if_ge C 76 dX3_entry_69 (by decide) (fun _ => ?_) (fun h => absurd (nI_pos' (n := j49) (by omega)) h)
          refine V_aload_n C dX3_entry_76 rfl rfl ?_
          refine V_iload C dX3_entry_77 rfl ?_
          refine V_iconst C 0 dX3_entry_79 (by decide) ?_
          refine V_ofIe (VR_V (As := [.int (nI j49), .int 0]) (rest := []) C (ct_X3_part l G b M1 a ad S1 r n po ap hS1 hme1 hV1 j49 0 (by omega) (by omega)) hmza rfl (lw_V q875 q877 qs11 q46 q878) rfl nd_X3_part rfl (by decide) (by decide) dX3_entry_80 rfl ⟨by decide, by decide⟩ (Nat.le_of_ble_eq_true rfl)) ?_
          have hp80 := hV1.2.2.2.2.2.1 j49 0
          exact V_iret C dX3_entry_83 (by decide) (by decide) ⟨_, rfl, by rw [if_neg hno]; (try rw [if_pos q57]); (try rw [if_neg q57]); (try rw [hy49]); (try rfl), hq1⟩
        · refine V_iconst C (-1) dX3_entry_60 (by decide) ?_
          refine V_iload C dX3_entry_61 rfl ?_
          refine V_isub C dX3_entry_63 ?_
          refine V_goto C 83 dX3_entry_64 (by decide) ?_
          exact V_iret C dX3_entry_83 (by decide) (by decide) ⟨_, rfl, by rw [if_neg hno]; (try rw [if_pos q57]); (try rw [if_neg q57]); (try rw [hy49]); (try rfl), hq1⟩
    · refine V_aload_n C dX3_entry_33 rfl rfl ?_
      refine V_iload_n C dX3_entry_34 rfl rfl ?_
      refine V_iconst C 1 dX3_entry_35 (by decide) ?_
      refine V_ofIe (VR_V (As := [.int mm, .int 1]) (rest := []) C (ct_X3_isKind l G b M1 a ad S1 r n po ap hS1 hme1 hV1 mm 1 (by omega)) hmza rfl (lw_V q978 q980 qs24 q46 q981) rfl nd_X3_isKind rfl (by decide) (by decide) dX3_entry_36 rfl ⟨by decide, by decide⟩ (Nat.le_of_ble_eq_true rfl)) ?_
      refine V_ifb_ne C 44 dX3_entry_39 (by decide) (fun q39 => ?_) (fun q39 => ?_)
      · have hno : ¬ (key < 0 ∨ 3 < key ∨ kk < -1 ∨ (¬ mm = 0 ∧ mkind n po ap mm 1 = false)) := by rintro (w | w | w | w); exact hk0 w; exact hk3 w; exact absurd hkk (Int32.not_le.mpr w); first | exact w.1 q30 | exact bne q39 w.2
        refine V_aload_n C dX3_entry_44 rfl rfl ?_
        refine V_iload_n C dX3_entry_45 rfl rfl ?_
        refine V_iload_n C dX3_entry_46 rfl rfl ?_
        refine V_iload C dX3_entry_47 rfl ?_
        refine V_ofIe (VR_V (As := [.int mm, .int key, .int kk]) (rest := []) C (ct_X3_entryPlace l G b M1 a ad S1 r n po ap hS1 hme1 hV1 (stA n po ap).1 hF1 (stA n po ap).2 hP1 mm key kk) hmza rfl (lw_V q982 q984 qs25 q46 q985) rfl nd_X3_entryPlace rfl (by decide) (by decide) dX3_entry_49 rfl ⟨by decide, by decide⟩ (Nat.le_of_ble_eq_true rfl)) ?_
        rcases o49 : entO n po ap (stA n po ap).1 (stA n po ap).2 mm key kk with _ | j49
        · refine V_top0 (fun y49 hy49 => ?_)
          have hneg49 : y49 < 0 := by rw [hy49]; exact neg_lt (Nat.lt_of_le_of_lt (cntI_le _ _) (by omega))
          refine V_istore (L' := [some (.ref a), some (.int (nI r)), some (.int mm), some (.int key), some (.int kk), some (.int y49)]) C dX3_entry_52 (by decide) rfl ?_
          refine V_iload C dX3_entry_54 rfl ?_
          refine V_iconst C (-1) dX3_entry_56 (by decide) ?_
          refine V_icmp_ne C 67 dX3_entry_57 (by decide) (fun q57 => ?_) (fun q57 => ?_)
          · refine V_iload C dX3_entry_67 rfl ?_
            refine V_if_ge C 76 dX3_entry_69 (by decide) (fun q69 => ?_) (fun q69 => ?_)
            · exact absurd hneg49 (Int32.not_lt.mpr q69)
            · refine V_iconst C (-1) dX3_entry_72 (by decide) ?_
              refine V_goto C 83 dX3_entry_73 (by decide) ?_
              exact V_iret C dX3_entry_83 (by decide) (by decide) ⟨_, rfl, by rw [if_neg hno]; (try rw [if_pos q57]); (try rw [if_neg q57]); (try rw [hy49]); (try rfl), hq1⟩
          · refine V_iconst C (-1) dX3_entry_60 (by decide) ?_
            refine V_iload C dX3_entry_61 rfl ?_
            refine V_isub C dX3_entry_63 ?_
            refine V_goto C 83 dX3_entry_64 (by decide) ?_
            exact V_iret C dX3_entry_83 (by decide) (by decide) ⟨_, rfl, by rw [if_neg hno]; (try rw [if_pos q57]); (try rw [if_neg q57]); (try rw [hy49]); (try rfl), hq1⟩
        · have hj49 := entO_lt o49
          have hk49 := hV1.2.2.2.2.1 j49 hj49
          refine V_top (y := nI j49) rfl ?_
          refine V_istore (L' := [some (.ref a), some (.int (nI r)), some (.int mm), some (.int key), some (.int kk), some (.int (nI j49))]) C dX3_entry_52 (by decide) rfl ?_
          refine V_iload C dX3_entry_54 rfl ?_
          refine V_iconst C (-1) dX3_entry_56 (by decide) ?_
          refine V_icmp_ne C 67 dX3_entry_57 (by decide) (fun q57 => ?_) (fun q57 => ?_)
          · refine V_iload C dX3_entry_67 rfl ?_
            refine V_if_ge C 76 dX3_entry_69 (by decide) (fun _ => ?_) (fun h => absurd (nI_pos' (n := j49) (by omega)) h)
            refine V_aload_n C dX3_entry_76 rfl rfl ?_
            refine V_iload C dX3_entry_77 rfl ?_
            refine V_iconst C 0 dX3_entry_79 (by decide) ?_
            refine V_ofIe (VR_V (As := [.int (nI j49), .int 0]) (rest := []) C (ct_X3_part l G b M1 a ad S1 r n po ap hS1 hme1 hV1 j49 0 (by omega) (by omega)) hmza rfl (lw_V q875 q877 qs11 q46 q878) rfl nd_X3_part rfl (by decide) (by decide) dX3_entry_80 rfl ⟨by decide, by decide⟩ (Nat.le_of_ble_eq_true rfl)) ?_
            have hp80 := hV1.2.2.2.2.2.1 j49 0
            exact V_iret C dX3_entry_83 (by decide) (by decide) ⟨_, rfl, by rw [if_neg hno]; (try rw [if_pos q57]); (try rw [if_neg q57]); (try rw [hy49]); (try rfl), hq1⟩
          · refine V_iconst C (-1) dX3_entry_60 (by decide) ?_
            refine V_iload C dX3_entry_61 rfl ?_
            refine V_isub C dX3_entry_63 ?_
            refine V_goto C 83 dX3_entry_64 (by decide) ?_
            exact V_iret C dX3_entry_83 (by decide) (by decide) ⟨_, rfl, by rw [if_neg hno]; (try rw [if_pos q57]); (try rw [if_neg q57]); (try rw [hy49]); (try rfl), hq1⟩
      · refine V_iconst C (-1) dX3_entry_42 (by decide) ?_
        exact V_iret C dX3_entry_43 (by decide) (by decide) ⟨_, rfl, by rw [if_pos (Or.inr (Or.inr (Or.inr ⟨q30, q39⟩)))], hq1⟩
  refine V_iload_n C dX3_entry_7 rfl rfl ?_
  refine V_if_lt C 22 dX3_entry_8 (by decide) (fun q8 => ?_) (fun q8 => ?_)
  · refine V_iconst C (-1) dX3_entry_22 (by decide) ?_
    exact V_iret C dX3_entry_23 (by decide) (by decide) ⟨_, rfl, by first | rw [if_pos (Or.inl q8)] | rw [if_pos (Or.inr (Or.inl q13))] | rw [if_pos (Or.inr (Or.inr (Or.inl (Int32.not_le.mp q19))))], hq0⟩
  · refine V_iload_n C dX3_entry_11 rfl rfl ?_
    refine V_iconst C 3 dX3_entry_12 (by decide) ?_
    refine V_icmp_gt C 22 dX3_entry_13 (by decide) (fun q13 => ?_) (fun q13 => ?_)
    · refine V_iconst C (-1) dX3_entry_22 (by decide) ?_
      exact V_iret C dX3_entry_23 (by decide) (by decide) ⟨_, rfl, by first | rw [if_pos (Or.inl q8)] | rw [if_pos (Or.inr (Or.inl q13))] | rw [if_pos (Or.inr (Or.inr (Or.inl (Int32.not_le.mp q19))))], hq0⟩
    · refine V_iload C dX3_entry_16 rfl ?_
      refine V_iconst C (-1) dX3_entry_18 (by decide) ?_
      refine V_icmp_ge C 24 dX3_entry_19 (by decide) (fun q19 => ?_) (fun q19 => ?_)
      · exact rest q8 q13 q19
      · refine V_iconst C (-1) dX3_entry_22 (by decide) ?_
        exact V_iret C dX3_entry_23 (by decide) (by decide) ⟨_, rfl, by first | rw [if_pos (Or.inl q8)] | rw [if_pos (Or.inr (Or.inl q13))] | rw [if_pos (Or.inr (Or.inr (Or.inl (Int32.not_le.mp q19))))], hq0⟩
theorem ct_X3_element (l : Launch) (G : mp_G) (b : Nat) (M : mp_M) (a : Nat) (ad : Nat → Nat) (S : Nat → Nat → Int32) (r n : Nat) (po : Nat → Nat → Nat) (ap : Nat → Bool) (hS : MdAt G M a ad S) (hV : Vw S r n po ap) (E : Nat → Prop) (par dp : Nat → Nat) (hTr : Tree n po ap E par dp) (hEl0 : ∀ x j, j < n → melem po ap (stA n po ap).1 j x = true → E j) (x kk : Int32) : Ct l yX3_element cX3_element 5 (some .int) 6 0 0 G b ([.ref a, .int (nI r), .int x, .int kk] : List Value) M (pI (fun y M1 => y = (if kk < -1 ∨ mkind n po ap x 2 = false then -1 else if kk = -1 then -1 - plI (elO n po ap (stA n po ap).1 par dp x kk) (cntI (elP n po ap (stA n po ap).1 x) n) else match elO n po ap (stA n po ap).1 par dp x kk with | none => -1 | some j => nI (po j 0)) ∧ QryP G M a ad S M1)) := by
  have hr := hV.1
  have hn := hV.2.1
  obtain ⟨hma, -⟩ := id hS
  refine Ct.ofV (by decide) (vc_ref (vc_int (vc_int (vc_int vc_nil)))) (Nat.le_of_ble_eq_true rfl) ?_
  intro p e s m below meth c C hnm
  refine V_L (L1 := [some (.ref a), some (.int (nI r)), some (.int x), some (.int kk), none]) rfl ?_
  have hq0 : QryP G M a ad S M := ⟨S, hS, Ag.rf, Keep.rf⟩
  refine V_iload_n C dX3_element_0 rfl rfl ?_
  refine V_ofIe (VR_S (As := [.int (nI r)]) (rest := []) C (ct_X3_isReplica l G b M (nI r)) (lw_S q864 q865 q46 q866) nd_X3_isReplica rfl (by decide) (by decide) dX3_element_1 rfl ⟨by decide, by decide⟩ (Nat.le_of_ble_eq_true rfl)) ?_
  refine V_top (y := 1) (by rw [isRep_t hr]; rfl) ?_
  refine V_if_eq C 12 dX3_element_4 (by decide) (fun h => absurd h (by decide)) (fun _ => ?_)
  have rest : -1 ≤ kk → V p l e (rmOf 6 0 0) s m ([.ref a, .int (nI r), .int x, .int kk] : List Value).toArray below meth c (MQ below (Qp G b (pI (fun y M1 => y = (if kk < -1 ∨ mkind n po ap x 2 = false then -1 else if kk = -1 then -1 - plI (elO n po ap (stA n po ap).1 par dp x kk) (cntI (elP n po ap (stA n po ap).1 x) n) else match elO n po ap (stA n po ap).1 par dp x kk with | none => -1 | some j => nI (po j 0)) ∧ QryP G M a ad S M1))) ([.ref a, .int (nI r), .int x, .int kk] : List Value).toArray s 0 0 (fun q => b ≤ q)) G b 5 0 0 14 [some (.ref a), some (.int (nI r)), some (.int x), some (.int kk), none] [] M := by
    intro hkk
    refine V_aload_n C dX3_element_14 rfl rfl ?_
    refine V_iload_n C dX3_element_15 rfl rfl ?_
    refine V_ofV (VR_V (As := [.int (nI r)]) (rest := []) C (ct_X3_study l G b M a ad S r n po ap hS hV) hma rfl (lw_V q867 q869 qs9 q46 q870) rfl nd_X3_study rfl (by decide) (by decide) dX3_element_16 rfl ⟨by decide, by decide⟩ (Nat.le_of_ble_eq_true rfl)) (fun M1 hM1 => ?_)
    obtain ⟨S1, hS1, hA1, hme1, hF1, hP1, hK1⟩ := hM1
    have hV1 := hV.ag (hA1 0 (by decide)) (hA1 1 (by decide)) (hA1 2 (by decide))
    have hq1 : QryP G M a ad S M1 := ⟨S1, hS1, hA1.mono (by decide), hK1⟩
    obtain ⟨hmza, hmz0, hmz1, hmz2, hmz3, hmz4, hmz5, hmz8, hmz9, hmz10, hmz11⟩ := id hS1
    rw [hme1] at hmza
    have hEl : ∀ j, j < n → melem po ap (stA n po ap).1 j x = true → E j := hEl0 x
    refine V_aload_n C dX3_element_19 rfl rfl ?_
    refine V_iload_n C dX3_element_20 rfl rfl ?_
    refine V_iconst C 2 dX3_element_21 (by decide) ?_
    refine V_ofIe (VR_V (As := [.int x, .int 2]) (rest := []) C (ct_X3_isKind l G b M1 a ad S1 r n po ap hS1 hme1 hV1 x 2 (by omega)) hmza rfl (lw_V q978 q980 qs24 q46 q981) rfl nd_X3_isKind rfl (by decide) (by decide) dX3_element_22 rfl ⟨by decide, by decide⟩ (Nat.le_of_ble_eq_true rfl)) ?_
    refine V_ifb_ne C 30 dX3_element_25 (by decide) (fun q25 => ?_) (fun q25 => ?_)
    · have hno : ¬ (kk < -1 ∨ mkind n po ap x 2 = false) := by rintro (w | w); exact absurd hkk (Int32.not_le.mpr w); exact bne q25 w
      refine V_aload_n C dX3_element_30 rfl rfl ?_
      refine V_iload_n C dX3_element_31 rfl rfl ?_
      refine V_iload_n C dX3_element_32 rfl rfl ?_
      refine V_ofIe (VR_V (As := [.int x, .int kk]) (rest := []) C (ct_X3_elementPlace l G b M1 a ad S1 r n po ap hS1 hme1 hV1 (stA n po ap).1 hF1 E par dp hTr x kk hEl) hmza rfl (lw_V q994 q996 qs27 q46 q997) rfl nd_X3_elementPlace rfl (by decide) (by decide) dX3_element_33 rfl ⟨by decide, by decide⟩ (Nat.le_of_ble_eq_true rfl)) ?_
      rcases o33 : elO n po ap (stA n po ap).1 par dp x kk with _ | j33
      · refine V_top0 (fun y33 hy33 => ?_)
        have hneg33 : y33 < 0 := by rw [hy33]; exact neg_lt (Nat.lt_of_le_of_lt (cntI_le _ _) (by omega))
        refine V_istore (L' := [some (.ref a), some (.int (nI r)), some (.int x), some (.int kk), some (.int y33)]) C dX3_element_36 (by decide) rfl ?_
        refine V_iload_n C dX3_element_38 rfl rfl ?_
        refine V_iconst C (-1) dX3_element_39 (by decide) ?_
        refine V_icmp_ne C 50 dX3_element_40 (by decide) (fun q40 => ?_) (fun q40 => ?_)
        · refine V_iload C dX3_element_50 rfl ?_
          refine V_if_ge C 59 dX3_element_52 (by decide) (fun q52 => ?_) (fun q52 => ?_)
          · exact absurd hneg33 (Int32.not_lt.mpr q52)
          · refine V_iconst C (-1) dX3_element_55 (by decide) ?_
            refine V_goto C 66 dX3_element_56 (by decide) ?_
            exact V_iret C dX3_element_66 (by decide) (by decide) ⟨_, rfl, by rw [if_neg hno]; (try rw [if_pos q40]); (try rw [if_neg q40]); (try rw [hy33]); (try rfl), hq1⟩
        · refine V_iconst C (-1) dX3_element_43 (by decide) ?_
          refine V_iload C dX3_element_44 rfl ?_
          refine V_isub C dX3_element_46 ?_
          refine V_goto C 66 dX3_element_47 (by decide) ?_
          exact V_iret C dX3_element_66 (by decide) (by decide) ⟨_, rfl, by rw [if_neg hno]; (try rw [if_pos q40]); (try rw [if_neg q40]); (try rw [hy33]); (try rfl), hq1⟩
      · have hj33 := (firstI_get o33).1
        have hk33 := hV1.2.2.2.2.1 j33 hj33
        refine V_top (y := nI j33) rfl ?_
        refine V_istore (L' := [some (.ref a), some (.int (nI r)), some (.int x), some (.int kk), some (.int (nI j33))]) C dX3_element_36 (by decide) rfl ?_
        refine V_iload_n C dX3_element_38 rfl rfl ?_
        refine V_iconst C (-1) dX3_element_39 (by decide) ?_
        refine V_icmp_ne C 50 dX3_element_40 (by decide) (fun q40 => ?_) (fun q40 => ?_)
        · refine V_iload C dX3_element_50 rfl ?_
          refine V_if_ge C 59 dX3_element_52 (by decide) (fun _ => ?_) (fun h => absurd (nI_pos' (n := j33) (by omega)) h)
          refine V_aload_n C dX3_element_59 rfl rfl ?_
          refine V_iload C dX3_element_60 rfl ?_
          refine V_iconst C 0 dX3_element_62 (by decide) ?_
          refine V_ofIe (VR_V (As := [.int (nI j33), .int 0]) (rest := []) C (ct_X3_part l G b M1 a ad S1 r n po ap hS1 hme1 hV1 j33 0 (by omega) (by omega)) hmza rfl (lw_V q875 q877 qs11 q46 q878) rfl nd_X3_part rfl (by decide) (by decide) dX3_element_63 rfl ⟨by decide, by decide⟩ (Nat.le_of_ble_eq_true rfl)) ?_
          have hp63 := hV1.2.2.2.2.2.1 j33 0
          exact V_iret C dX3_element_66 (by decide) (by decide) ⟨_, rfl, by rw [if_neg hno]; (try rw [if_pos q40]); (try rw [if_neg q40]); (try rw [hy33]); (try rfl), hq1⟩
        · refine V_iconst C (-1) dX3_element_43 (by decide) ?_
          refine V_iload C dX3_element_44 rfl ?_
          refine V_isub C dX3_element_46 ?_
          refine V_goto C 66 dX3_element_47 (by decide) ?_
          exact V_iret C dX3_element_66 (by decide) (by decide) ⟨_, rfl, by rw [if_neg hno]; (try rw [if_pos q40]); (try rw [if_neg q40]); (try rw [hy33]); (try rfl), hq1⟩
    · refine V_iconst C (-1) dX3_element_28 (by decide) ?_
      exact V_iret C dX3_element_29 (by decide) (by decide) ⟨_, rfl, by rw [if_pos (Or.inr q25)], hq1⟩
  refine V_iload_n C dX3_element_7 rfl rfl ?_
  refine V_iconst C (-1) dX3_element_8 (by decide) ?_
  refine V_icmp_ge C 14 dX3_element_9 (by decide) (fun q9 => ?_) (fun q9 => ?_)
  · exact rest q9
  · refine V_iconst C (-1) dX3_element_12 (by decide) ?_
    exact V_iret C dX3_element_13 (by decide) (by decide) ⟨_, rfl, by rw [if_pos (Or.inl (Int32.not_le.mp q9))], hq0⟩
def shB2 (n : Nat) (po : Nat → Nat → Nat) (ap ft : Nat → Bool) (P : Nat → Int32) (j : Nat) : Bool := if po j 1 = 3 then ft j && !mgone n po ap ft j else mentry n po ap ft P j
def depF (n : Nat) (po : Nat → Nat → Nat) (ap ft : Nat → Bool) (P : Nat → Int32) : Nat → Int32 → Nat → Int32
  | 0, _, _ => -1
  | f + 1, x, d => if x = 0 then nI d else match mfind n po ap x true with
    | none => -1
    | some j => if shB2 n po ap ft P j = true then depF n po ap ft P f (nI (po j 2)) (d + 1) else -1
theorem depF_0 {n : Nat} {po : Nat → Nat → Nat} {ap ft : Nat → Bool} {P : Nat → Int32} {f d : Nat} {x : Int32} (h : x = 0) : depF n po ap ft P (f + 1) x d = nI d := if_pos h
theorem depF_n {n : Nat} {po : Nat → Nat → Nat} {ap ft : Nat → Bool} {P : Nat → Int32} {f d : Nat} {x : Int32} (h : ¬ x = 0) (h2 : mfind n po ap x true = none) : depF n po ap ft P (f + 1) x d = -1 := by
  unfold depF
  rw [if_neg h, h2]
theorem depF_f {n : Nat} {po : Nat → Nat → Nat} {ap ft : Nat → Bool} {P : Nat → Int32} {f d j : Nat} {x : Int32} (h : ¬ x = 0) (h2 : mfind n po ap x true = some j) (h3 : shB2 n po ap ft P j = false) : depF n po ap ft P (f + 1) x d = -1 := by
  unfold depF
  rw [if_neg h, h2]
  exact if_neg (bne2 h3)
theorem depF_t {n : Nat} {po : Nat → Nat → Nat} {ap ft : Nat → Bool} {P : Nat → Int32} {f d j : Nat} {x : Int32} (h : ¬ x = 0) (h2 : mfind n po ap x true = some j) (h3 : shB2 n po ap ft P j = true) : depF n po ap ft P (f + 1) x d = depF n po ap ft P f (nI (po j 2)) (d + 1) := by
  rw [depF, if_neg h, h2]
  exact if_pos h3
theorem ct_X3_depth (l : Launch) (G : mp_G) (b : Nat) (M : mp_M) (a : Nat) (ad : Nat → Nat) (S : Nat → Nat → Int32) (r n : Nat) (po : Nat → Nat → Nat) (ap : Nat → Bool) (hS : MdAt G M a ad S) (hV : Vw S r n po ap) (x : Int32) : Ct l yX3_depth cX3_depth 7 (some .int) 4 0 0 G b ([.ref a, .int (nI r), .int x] : List Value) M (pI (fun y M1 => y = depF n po ap (stA n po ap).1 (stA n po ap).2 18 x 0 ∧ QryP G M a ad S M1)) := by
  have hr := hV.1
  have hn := hV.2.1
  obtain ⟨hma, -⟩ := id hS
  refine Ct.ofV (by decide) (vc_ref (vc_int (vc_int vc_nil))) (Nat.le_of_ble_eq_true rfl) ?_
  intro p e s m below meth c C hnm
  refine V_L (L1 := [some (.ref a), some (.int (nI r)), some (.int x), none, none, none, none]) rfl ?_
  refine V_iload_n C dX3_depth_0 rfl rfl ?_
  refine V_ofIe (VR_S (As := [.int (nI r)]) (rest := []) C (ct_X3_isReplica l G b M (nI r)) (lw_S q864 q865 q46 q866) nd_X3_isReplica rfl (by decide) (by decide) dX3_depth_1 rfl ⟨by decide, by decide⟩ (Nat.le_of_ble_eq_true rfl)) ?_
  refine V_top (y := 1) (by rw [isRep_t hr]; rfl) ?_
  refine V_if_ne C 9 dX3_depth_4 (by decide) (fun _ => ?_) (fun h => absurd h (by decide))
  refine V_aload_n C dX3_depth_9 rfl rfl ?_
  refine V_iload_n C dX3_depth_10 rfl rfl ?_
  refine V_ofV (VR_V (As := [.int (nI r)]) (rest := []) C (ct_X3_study l G b M a ad S r n po ap hS hV) hma rfl (lw_V q867 q869 qs9 q46 q870) rfl nd_X3_study rfl (by decide) (by decide) dX3_depth_11 rfl ⟨by decide, by decide⟩ (Nat.le_of_ble_eq_true rfl)) (fun M1 hM1 => ?_)
  obtain ⟨S1, hS1, hA1, hme1, hF1, hP1, hK1⟩ := hM1
  have hV1 := hV.ag (hA1 0 (by decide)) (hA1 1 (by decide)) (hA1 2 (by decide))
  have hq1 : QryP G M a ad S M1 := ⟨S1, hS1, hA1.mono (by decide), hK1⟩
  obtain ⟨hmza, hmz0, hmz1, hmz2, hmz3, hmz4, hmz5, hmz8, hmz9, hmz10, hmz11⟩ := id hS1
  rw [hme1] at hmza
  refine V_iload_n C dX3_depth_14 rfl rfl ?_
  refine V_istore_n (L' := [some (.ref a), some (.int (nI r)), some (.int x), some (.int x), none, none, none]) C dX3_depth_15 rfl (by decide) rfl ?_
  refine V_iconst C 0 dX3_depth_16 (by decide) ?_
  refine V_istore (L' := [some (.ref a), some (.int (nI r)), some (.int x), some (.int x), some (.int 0), none, none]) C dX3_depth_17 (by decide) rfl ?_
  have loop : ∀ d, d ≤ 18 → ∀ at0, depF n po ap (stA n po ap).1 (stA n po ap).2 (18 - d) at0 d = depF n po ap (stA n po ap).1 (stA n po ap).2 18 x 0 → V p l e (rmOf 4 0 0) s m ([.ref a, .int (nI r), .int x] : List Value).toArray below meth c (MQ below (Qp G b (pI (fun y M1 => y = depF n po ap (stA n po ap).1 (stA n po ap).2 18 x 0 ∧ QryP G M a ad S M1))) ([.ref a, .int (nI r), .int x] : List Value).toArray s 0 0 (fun q => b ≤ q)) G b 7 0 0 19 [some (.ref a), some (.int (nI r)), some (.int x), some (.int at0), some (.int (nI d)), none, none] [] M1 := by
    refine up_ind 18 ?_
    intro d hd ih at0 hat
    refine V_iload C dX3_depth_19 rfl ?_
    refine V_bipush C 17 dX3_depth_21 (by decide) ?_
    refine V_nicmp_gt (x := d) (y := 17) C 115 dX3_depth_23 (by decide) (by omega) (by omega) (fun q23 => ?_) (fun q23 => ?_)
    · refine V_iconst C (-1) dX3_depth_115 (by decide) ?_
      exact V_iret C dX3_depth_116 (by decide) (by decide) ⟨_, rfl, by rw [← hat, show 18 - d = 0 by omega]; rfl, hq1⟩
    · have e18 : 18 - d = (17 - d) + 1 := by omega
      rw [e18] at hat
      refine V_iload_n C dX3_depth_26 rfl rfl ?_
      refine V_if_ne C 33 dX3_depth_27 (by decide) (fun q27 => ?_) (fun q27 => ?_)
      · refine V_aload_n C dX3_depth_33 rfl rfl ?_
        refine V_iload_n C dX3_depth_34 rfl rfl ?_
        refine V_iconst C 1 dX3_depth_35 (by decide) ?_
        refine V_ofIe (VR_V (As := [.int at0, .int 1]) (rest := []) C (ct_X3_find l G b M1 a ad S1 r n po ap hS1 hme1 hV1 at0 true) hmza rfl (lw_V q883 q885 qs13 q46 q886) rfl nd_X3_find rfl (by decide) (by decide) dX3_depth_36 rfl ⟨by decide, by decide⟩ (Nat.le_of_ble_eq_true rfl)) ?_
        rcases o36 : mfind n po ap at0 true with _ | j36
        · refine V_top (y := -1) rfl ?_
          refine V_istore (L' := [some (.ref a), some (.int (nI r)), some (.int x), some (.int at0), some (.int (nI d)), some (.int (-1)), none]) C dX3_depth_39 (by decide) rfl ?_
          refine V_iload C dX3_depth_41 rfl ?_
          refine V_if_ge C 48 dX3_depth_43 (by decide) (fun h => absurd h (by decide)) (fun _ => ?_)
          refine V_iconst C (-1) dX3_depth_46 (by decide) ?_
          exact V_iret C dX3_depth_47 (by decide) (by decide) ⟨_, rfl, by rw [← hat, depF_n q27 o36], hq1⟩
        · have hj36 := (lastI_some o36).1
          have hk36 := hV1.2.2.2.2.1 j36 hj36
          refine V_top (y := nI j36) rfl ?_
          refine V_istore (L' := [some (.ref a), some (.int (nI r)), some (.int x), some (.int at0), some (.int (nI d)), some (.int (nI j36)), none]) C dX3_depth_39 (by decide) rfl ?_
          refine V_iload C dX3_depth_41 rfl ?_
          refine V_if_ge C 48 dX3_depth_43 (by decide) (fun _ => ?_) (fun h => absurd (nI_pos' (n := j36) (by omega)) h)
          refine V_aload_n C dX3_depth_48 rfl rfl ?_
          refine V_iload C dX3_depth_49 rfl ?_
          refine V_iconst C 1 dX3_depth_51 (by decide) ?_
          refine V_ofIe (VR_V (As := [.int (nI j36), .int 1]) (rest := []) C (ct_X3_part l G b M1 a ad S1 r n po ap hS1 hme1 hV1 j36 1 (by omega) (by omega)) hmza rfl (lw_V q875 q877 qs11 q46 q878) rfl nd_X3_part rfl (by decide) (by decide) dX3_depth_52 rfl ⟨by decide, by decide⟩ (Nat.le_of_ble_eq_true rfl)) ?_
          have hp52 := hV1.2.2.2.2.2.1 j36 1
          refine V_iconst C 3 dX3_depth_55 (by decide) ?_
          refine V_nicmp_ne (x := po j36 1) (y := 3) C 86 dX3_depth_56 (by decide) (by omega) (by omega) (fun q56 => ?_) (fun q56 => ?_)
          · refine V_aload_n C dX3_depth_86 rfl rfl ?_
            refine V_iload C dX3_depth_87 rfl ?_
            refine V_ofIe (VR_V (As := [.int (nI j36)]) (rest := []) C (ct_X3_isEntry l G b M1 a ad S1 r n po ap hS1 hme1 hV1 (stA n po ap).1 hF1 (stA n po ap).2 hP1 j36 (by omega)) hmza rfl (lw_V q986 q988 qs26 q46 q989) rfl nd_X3_isEntry rfl (by decide) (by decide) dX3_depth_89 rfl ⟨by decide, by decide⟩ (Nat.le_of_ble_eq_true rfl)) ?_
            refine V_istore (L' := [some (.ref a), some (.int (nI r)), some (.int x), some (.int at0), some (.int (nI d)), some (.int (nI j36)), some (.int (bI (mentry n po ap (stA n po ap).1 (stA n po ap).2 j36)))]) C dX3_depth_92 (by decide) rfl ?_
            refine V_iload C dX3_depth_94 rfl ?_
            refine V_ifb_ne C 101 dX3_depth_96 (by decide) (fun q96 => ?_) (fun q96 => ?_)
            · refine V_aload_n C dX3_depth_101 rfl rfl ?_
              refine V_iload C dX3_depth_102 rfl ?_
              refine V_iconst C 2 dX3_depth_104 (by decide) ?_
              refine V_ofIe (VR_V (As := [.int (nI j36), .int 2]) (rest := []) C (ct_X3_part l G b M1 a ad S1 r n po ap hS1 hme1 hV1 j36 2 (by omega) (by omega)) hmza rfl (lw_V q875 q877 qs11 q46 q878) rfl nd_X3_part rfl (by decide) (by decide) dX3_depth_105 rfl ⟨by decide, by decide⟩ (Nat.le_of_ble_eq_true rfl)) ?_
              have hp105 := hV1.2.2.2.2.2.1 j36 2
              refine V_istore_n (L' := [some (.ref a), some (.int (nI r)), some (.int x), some (.int (nI (po j36 2))), some (.int (nI d)), some (.int (nI j36)), some (.int (bI (mentry n po ap (stA n po ap).1 (stA n po ap).2 j36)))]) C dX3_depth_108 rfl (by decide) rfl ?_
              refine V_iinc (v := (nI (d + 1))) (L' := [some (.ref a), some (.int (nI r)), some (.int x), some (.int (nI (po j36 2))), some (.int (nI (d + 1))), some (.int (nI j36)), some (.int (bI (mentry n po ap (stA n po ap).1 (stA n po ap).2 j36)))]) C dX3_depth_109 rfl (nI_1 _) (by decide) rfl ?_
              refine V_goto C 19 dX3_depth_112 (by decide) ?_
              refine V_sub ?_ (ih (by omega) _ (by rw [← hat, depF_t q27 o36 (by unfold shB2; simp [*]), show 18 - (d + 1) = 17 - d by omega]))
              repeat' (first | exact ls_e | refine ls_n ?_ | refine ls_s ?_ | refine ls_i ?_ ?_ | refine ls_v ?_ ?_)
            · refine V_iconst C (-1) dX3_depth_99 (by decide) ?_
              exact V_iret C dX3_depth_100 (by decide) (by decide) ⟨_, rfl, by rw [← hat, depF_f q27 o36 (by unfold shB2; simp [*])], hq1⟩
          · refine V_aload_n C dX3_depth_59 rfl rfl ?_
            refine V_get (C0 := RX3) (T := TX3) (N := 12) (ci := 3) C 8 in_X3 rfl hmza (by decide) q829 (fun _ h9 => h9) rfl dX3_depth_60 ?_
            refine V_iload C dX3_depth_63 rfl ?_
            refine V_zald C hmz8 (pk_in j36 16 (by omega)) dX3_depth_65 ?_
            refine V_top (y := (bI ((stA n po ap).1 j36))) (by rw [nI_clamp (n := j36) (by omega)]; exact (hF1 j36 (by omega))) ?_
            refine V_ifb_eq C 82 dX3_depth_66 (by decide) (fun q66 => ?_) (fun q66 => ?_)
            · refine V_iconst C 0 dX3_depth_82 (by decide) ?_
              refine V_goto C 92 dX3_depth_83 (by decide) ?_
              refine V_istore (L' := [some (.ref a), some (.int (nI r)), some (.int x), some (.int at0), some (.int (nI d)), some (.int (nI j36)), some (.int 0)]) C dX3_depth_92 (by decide) rfl ?_
              refine V_iload C dX3_depth_94 rfl ?_
              refine V_if_ne C 101 dX3_depth_96 (by decide) (fun h => absurd rfl h) (fun _ => ?_)
              refine V_iconst C (-1) dX3_depth_99 (by decide) ?_
              exact V_iret C dX3_depth_100 (by decide) (by decide) ⟨_, rfl, by rw [← hat, depF_f q27 o36 (by unfold shB2; simp [*])], hq1⟩
            · refine V_aload_n C dX3_depth_69 rfl rfl ?_
              refine V_iload C dX3_depth_70 rfl ?_
              refine V_ofIe (VR_V (As := [.int (nI j36)]) (rest := []) C (ct_X3_gone l G b M1 a ad S1 r n po ap hS1 hme1 hV1 (stA n po ap).1 hF1 j36 (by omega)) hmza rfl (lw_V q1002 q1004 qs29 q46 q1005) rfl nd_X3_gone rfl (by decide) (by decide) dX3_depth_72 rfl ⟨by decide, by decide⟩ (Nat.le_of_ble_eq_true rfl)) ?_
              refine V_ifb_ne C 82 dX3_depth_75 (by decide) (fun q75 => ?_) (fun q75 => ?_)
              · refine V_iconst C 0 dX3_depth_82 (by decide) ?_
                refine V_goto C 92 dX3_depth_83 (by decide) ?_
                refine V_istore (L' := [some (.ref a), some (.int (nI r)), some (.int x), some (.int at0), some (.int (nI d)), some (.int (nI j36)), some (.int 0)]) C dX3_depth_92 (by decide) rfl ?_
                refine V_iload C dX3_depth_94 rfl ?_
                refine V_if_ne C 101 dX3_depth_96 (by decide) (fun h => absurd rfl h) (fun _ => ?_)
                refine V_iconst C (-1) dX3_depth_99 (by decide) ?_
                exact V_iret C dX3_depth_100 (by decide) (by decide) ⟨_, rfl, by rw [← hat, depF_f q27 o36 (by unfold shB2; simp [*])], hq1⟩
              · refine V_iconst C 1 dX3_depth_78 (by decide) ?_
                refine V_goto C 92 dX3_depth_79 (by decide) ?_
                refine V_istore (L' := [some (.ref a), some (.int (nI r)), some (.int x), some (.int at0), some (.int (nI d)), some (.int (nI j36)), some (.int 1)]) C dX3_depth_92 (by decide) rfl ?_
                refine V_iload C dX3_depth_94 rfl ?_
                refine V_if_ne C 101 dX3_depth_96 (by decide) (fun _ => ?_) (fun h => absurd h (by decide))
                refine V_aload_n C dX3_depth_101 rfl rfl ?_
                refine V_iload C dX3_depth_102 rfl ?_
                refine V_iconst C 2 dX3_depth_104 (by decide) ?_
                refine V_ofIe (VR_V (As := [.int (nI j36), .int 2]) (rest := []) C (ct_X3_part l G b M1 a ad S1 r n po ap hS1 hme1 hV1 j36 2 (by omega) (by omega)) hmza rfl (lw_V q875 q877 qs11 q46 q878) rfl nd_X3_part rfl (by decide) (by decide) dX3_depth_105 rfl ⟨by decide, by decide⟩ (Nat.le_of_ble_eq_true rfl)) ?_
                have hp105 := hV1.2.2.2.2.2.1 j36 2
                refine V_istore_n (L' := [some (.ref a), some (.int (nI r)), some (.int x), some (.int (nI (po j36 2))), some (.int (nI d)), some (.int (nI j36)), some (.int 1)]) C dX3_depth_108 rfl (by decide) rfl ?_
                refine V_iinc (v := (nI (d + 1))) (L' := [some (.ref a), some (.int (nI r)), some (.int x), some (.int (nI (po j36 2))), some (.int (nI (d + 1))), some (.int (nI j36)), some (.int 1)]) C dX3_depth_109 rfl (nI_1 _) (by decide) rfl ?_
                refine V_goto C 19 dX3_depth_112 (by decide) ?_
                refine V_sub ?_ (ih (by omega) _ (by rw [← hat, depF_t q27 o36 (by unfold shB2; simp [*]), show 18 - (d + 1) = 17 - d by omega]))
                repeat' (first | exact ls_e | refine ls_n ?_ | refine ls_s ?_ | refine ls_i ?_ ?_ | refine ls_v ?_ ?_)
      · refine V_iload C dX3_depth_30 rfl ?_
        exact V_iret C dX3_depth_32 (by decide) (by decide) ⟨_, rfl, by rw [← hat, depF_0 q27], hq1⟩
  refine V_sub ?_ (loop 0 (Nat.zero_le _) x rfl)
  repeat' (first | exact ls_e | refine ls_n ?_ | refine ls_s ?_ | refine ls_i ?_ ?_ | refine ls_v ?_ ?_)
  all_goals rfl
def totS (n : Nat) (po : Nat → Nat → Nat) (ap ft : Nat → Bool) (P : Nat → Int32) (par dp : Nat → Nat) (i : Nat) (T : Nat → Int32) : Nat → Int32 := match mfind n po ap (nI (162 - i)) true with
  | none => T
  | some j => upd T j (if po j 1 = 1 then mtF n po ap ft P T (nI (162 - i)) else if po j 1 = 2 then ltF n po ap ft par dp (nI (162 - i)) else 0)

