set_option maxRecDepth 100000
/-! THE COMPONENT, A: operations, items -/
def oB (bs : List Nat) (f : Nat) : Nat := bs.getD f 0
theorem oB_get {bs : List Nat} {f : Nat} (h : f < bs.length) : bs[f]? = some (oB bs f) := by
  unfold oB
  rw [List.getD_eq_getElem?_getD, List.getElem?_eq_getElem h]
  rfl
def OpOk (bs : List Nat) : Prop := bs.length = 6 + oB bs 5 ∧ oB bs 5 ≤ 6 ∧ ∀ f, oB bs f < 256
/-- an operation's object: its bytes -/
def OpAt (G : mp_G) (M : mp_M) (g a : Nat) (bs : List Nat) : Prop := ∃ sa i, M a = some ((g, 12, i), .inr (4, [.ref sa])) ∧ StrAt G M g sa bs
theorem StrAt.keep {S : mp_L → Prop} {G : mp_G} {M M1 : mp_M} {g a : Nat} {bs : List Nat} (h : StrAt G M g a bs) (hK : Keep S M M1) (hs : ∀ k i, 10 ≤ k → ¬ S (g, k, i)) : StrAt G M1 g a bs := by
  obtain ⟨va, f, x, z, i, j, h1, h2, h3, h4⟩ := h
  exact ⟨va, f, x, z, i, j, hK _ _ _ h1 (hs 10 i (by decide)), hK _ _ _ h2 (hs 11 j (by decide)), h3, h4⟩
theorem OpAt.keep {S : mp_L → Prop} {G : mp_G} {M M1 : mp_M} {g a : Nat} {bs : List Nat} (h : OpAt G M g a bs) (hK : Keep S M M1) (hs : ∀ k i, 10 ≤ k → ¬ S (g, k, i)) : OpAt G M1 g a bs := by
  obtain ⟨sa, i, h1, h2⟩ := h
  exact ⟨sa, i, hK _ _ _ h1 (hs 12 i (by decide)), h2.keep hK hs⟩
theorem OpAt.obj {G : mp_G} {M : mp_M} {g a : Nat} {bs : List Nat} (h : OpAt G M g a bs) : isObj M a := by
  obtain ⟨sa, i, h1, -⟩ := h
  exact ⟨_, _, _, _, h1, rfl, ev1054⟩
theorem ct_X4_id (l : Launch) (G : mp_G) (b : Nat) (M : mp_M) (g a : Nat) (bs : List Nat) (hO : OpAt G M g a bs) (hok : OpOk bs) : Ct l yX4_id cX4_id 1 (some .int) 4 0 0 G b ([.ref a] : List Value) M (pI (fun y M1 => y = nI (oB bs 0) ∧ M1 = M)) := by
  obtain ⟨sa, i, ha, hS⟩ := hO
  have hS0 := hS
  obtain ⟨va, f, h, z, i2, j2, hs, -⟩ := hS
  have hlen := hok.1
  refine Ct.ofV (by decide) (vc_ref vc_nil) (Nat.le_of_ble_eq_true rfl) ?_
  intro p e s m below meth c C hnm
  refine V_L (L1 := [some (.ref a)]) rfl ?_
  refine V_aload_n C dX4_id_0 rfl rfl ?_
  refine V_get (C0 := RX4) (T := TX4) (N := 1) (ci := 4) C 0 in_X4 rfl ha (by decide) q452 (fun _ h9 => h9) rfl dX4_id_1 ?_
  refine V_iconst C 0 dX4_id_4 (by decide) ?_
  refine V_ofIe (VR_V (As := [.int 0]) (rest := []) C (ct_J5_charAt l G b M g sa 0 (oB bs 0) bs hS0 (oB_get (by omega))) hs rfl (lw_V q227 q228 q229 q44 q230) rfl nd_J5_charAt rfl (by decide) (by decide) dX4_id_5 rfl ⟨by decide, by decide⟩ (Nat.le_of_ble_eq_true rfl)) ?_
  exact V_iret C dX4_id_8 (by decide) (by decide) ⟨_, rfl, rfl, rfl⟩
theorem ct_X4_kind (l : Launch) (G : mp_G) (b : Nat) (M : mp_M) (g a : Nat) (bs : List Nat) (hO : OpAt G M g a bs) (hok : OpOk bs) : Ct l yX4_kind cX4_kind 1 (some .int) 4 0 0 G b ([.ref a] : List Value) M (pI (fun y M1 => y = nI (oB bs 1) ∧ M1 = M)) := by
  obtain ⟨sa, i, ha, hS⟩ := hO
  have hS0 := hS
  obtain ⟨va, f, h, z, i2, j2, hs, -⟩ := hS
  have hlen := hok.1
  refine Ct.ofV (by decide) (vc_ref vc_nil) (Nat.le_of_ble_eq_true rfl) ?_
  intro p e s m below meth c C hnm
  refine V_L (L1 := [some (.ref a)]) rfl ?_
  refine V_aload_n C dX4_kind_0 rfl rfl ?_
  refine V_get (C0 := RX4) (T := TX4) (N := 1) (ci := 4) C 0 in_X4 rfl ha (by decide) q452 (fun _ h9 => h9) rfl dX4_kind_1 ?_
  refine V_iconst C 1 dX4_kind_4 (by decide) ?_
  refine V_ofIe (VR_V (As := [.int 1]) (rest := []) C (ct_J5_charAt l G b M g sa 1 (oB bs 1) bs hS0 (oB_get (by omega))) hs rfl (lw_V q227 q228 q229 q44 q230) rfl nd_J5_charAt rfl (by decide) (by decide) dX4_kind_5 rfl ⟨by decide, by decide⟩ (Nat.le_of_ble_eq_true rfl)) ?_
  exact V_iret C dX4_kind_8 (by decide) (by decide) ⟨_, rfl, rfl, rfl⟩
theorem ct_X4_target (l : Launch) (G : mp_G) (b : Nat) (M : mp_M) (g a : Nat) (bs : List Nat) (hO : OpAt G M g a bs) (hok : OpOk bs) : Ct l yX4_target cX4_target 1 (some .int) 4 0 0 G b ([.ref a] : List Value) M (pI (fun y M1 => y = nI (oB bs 2) ∧ M1 = M)) := by
  obtain ⟨sa, i, ha, hS⟩ := hO
  have hS0 := hS
  obtain ⟨va, f, h, z, i2, j2, hs, -⟩ := hS
  have hlen := hok.1
  refine Ct.ofV (by decide) (vc_ref vc_nil) (Nat.le_of_ble_eq_true rfl) ?_
  intro p e s m below meth c C hnm
  refine V_L (L1 := [some (.ref a)]) rfl ?_
  refine V_aload_n C dX4_target_0 rfl rfl ?_
  refine V_get (C0 := RX4) (T := TX4) (N := 1) (ci := 4) C 0 in_X4 rfl ha (by decide) q452 (fun _ h9 => h9) rfl dX4_target_1 ?_
  refine V_iconst C 2 dX4_target_4 (by decide) ?_
  refine V_ofIe (VR_V (As := [.int 2]) (rest := []) C (ct_J5_charAt l G b M g sa 2 (oB bs 2) bs hS0 (oB_get (by omega))) hs rfl (lw_V q227 q228 q229 q44 q230) rfl nd_J5_charAt rfl (by decide) (by decide) dX4_target_5 rfl ⟨by decide, by decide⟩ (Nat.le_of_ble_eq_true rfl)) ?_
  exact V_iret C dX4_target_8 (by decide) (by decide) ⟨_, rfl, rfl, rfl⟩
theorem ct_X4_slot (l : Launch) (G : mp_G) (b : Nat) (M : mp_M) (g a : Nat) (bs : List Nat) (hO : OpAt G M g a bs) (hok : OpOk bs) : Ct l yX4_slot cX4_slot 1 (some .int) 4 0 0 G b ([.ref a] : List Value) M (pI (fun y M1 => y = nI (oB bs 3) ∧ M1 = M)) := by
  obtain ⟨sa, i, ha, hS⟩ := hO
  have hS0 := hS
  obtain ⟨va, f, h, z, i2, j2, hs, -⟩ := hS
  have hlen := hok.1
  refine Ct.ofV (by decide) (vc_ref vc_nil) (Nat.le_of_ble_eq_true rfl) ?_
  intro p e s m below meth c C hnm
  refine V_L (L1 := [some (.ref a)]) rfl ?_
  refine V_aload_n C dX4_slot_0 rfl rfl ?_
  refine V_get (C0 := RX4) (T := TX4) (N := 1) (ci := 4) C 0 in_X4 rfl ha (by decide) q452 (fun _ h9 => h9) rfl dX4_slot_1 ?_
  refine V_iconst C 3 dX4_slot_4 (by decide) ?_
  refine V_ofIe (VR_V (As := [.int 3]) (rest := []) C (ct_J5_charAt l G b M g sa 3 (oB bs 3) bs hS0 (oB_get (by omega))) hs rfl (lw_V q227 q228 q229 q44 q230) rfl nd_J5_charAt rfl (by decide) (by decide) dX4_slot_5 rfl ⟨by decide, by decide⟩ (Nat.le_of_ble_eq_true rfl)) ?_
  exact V_iret C dX4_slot_8 (by decide) (by decide) ⟨_, rfl, rfl, rfl⟩
theorem ct_X4_value (l : Launch) (G : mp_G) (b : Nat) (M : mp_M) (g a : Nat) (bs : List Nat) (hO : OpAt G M g a bs) (hok : OpOk bs) : Ct l yX4_value cX4_value 1 (some .int) 4 0 0 G b ([.ref a] : List Value) M (pI (fun y M1 => y = nI (oB bs 4) ∧ M1 = M)) := by
  obtain ⟨sa, i, ha, hS⟩ := hO
  have hS0 := hS
  obtain ⟨va, f, h, z, i2, j2, hs, -⟩ := hS
  have hlen := hok.1
  refine Ct.ofV (by decide) (vc_ref vc_nil) (Nat.le_of_ble_eq_true rfl) ?_
  intro p e s m below meth c C hnm
  refine V_L (L1 := [some (.ref a)]) rfl ?_
  refine V_aload_n C dX4_value_0 rfl rfl ?_
  refine V_get (C0 := RX4) (T := TX4) (N := 1) (ci := 4) C 0 in_X4 rfl ha (by decide) q452 (fun _ h9 => h9) rfl dX4_value_1 ?_
  refine V_iconst C 4 dX4_value_4 (by decide) ?_
  refine V_ofIe (VR_V (As := [.int 4]) (rest := []) C (ct_J5_charAt l G b M g sa 4 (oB bs 4) bs hS0 (oB_get (by omega))) hs rfl (lw_V q227 q228 q229 q44 q230) rfl nd_J5_charAt rfl (by decide) (by decide) dX4_value_5 rfl ⟨by decide, by decide⟩ (Nat.le_of_ble_eq_true rfl)) ?_
  exact V_iret C dX4_value_8 (by decide) (by decide) ⟨_, rfl, rfl, rfl⟩
theorem ct_X4_many (l : Launch) (G : mp_G) (b : Nat) (M : mp_M) (g a : Nat) (bs : List Nat) (hO : OpAt G M g a bs) (hok : OpOk bs) : Ct l yX4_many cX4_many 1 (some .int) 4 0 0 G b ([.ref a] : List Value) M (pI (fun y M1 => y = nI (oB bs 5) ∧ M1 = M)) := by
  obtain ⟨sa, i, ha, hS⟩ := hO
  have hS0 := hS
  obtain ⟨va, f, h, z, i2, j2, hs, -⟩ := hS
  have hlen := hok.1
  refine Ct.ofV (by decide) (vc_ref vc_nil) (Nat.le_of_ble_eq_true rfl) ?_
  intro p e s m below meth c C hnm
  refine V_L (L1 := [some (.ref a)]) rfl ?_
  refine V_aload_n C dX4_many_0 rfl rfl ?_
  refine V_get (C0 := RX4) (T := TX4) (N := 1) (ci := 4) C 0 in_X4 rfl ha (by decide) q452 (fun _ h9 => h9) rfl dX4_many_1 ?_
  refine V_iconst C 5 dX4_many_4 (by decide) ?_
  refine V_ofIe (VR_V (As := [.int 5]) (rest := []) C (ct_J5_charAt l G b M g sa 5 (oB bs 5) bs hS0 (oB_get (by omega))) hs rfl (lw_V q227 q228 q229 q44 q230) rfl nd_J5_charAt rfl (by decide) (by decide) dX4_many_5 rfl ⟨by decide, by decide⟩ (Nat.le_of_ble_eq_true rfl)) ?_
  exact V_iret C dX4_many_8 (by decide) (by decide) ⟨_, rfl, rfl, rfl⟩
theorem ct_X4_before (l : Launch) (G : mp_G) (b : Nat) (M : mp_M) (g a : Nat) (bs : List Nat) (hO : OpAt G M g a bs) (hok : OpOk bs) (k : Nat) (hk : k < oB bs 5) : Ct l yX4_before cX4_before 2 (some .int) 4 0 0 G b ([.ref a, .int (nI k)] : List Value) M (pI (fun y M1 => y = nI (oB bs (6 + k)) ∧ M1 = M)) := by
  obtain ⟨sa, i, ha, hS⟩ := hO
  have hS0 := hS
  obtain ⟨va, f, h, z, i2, j2, hs, -⟩ := hS
  have hlen := hok.1
  refine Ct.ofV (by decide) (vc_ref (vc_int vc_nil)) (Nat.le_of_ble_eq_true rfl) ?_
  intro p e s m below meth c C hnm
  refine V_L (L1 := [some (.ref a), some (.int (nI k))]) rfl ?_
  refine V_aload_n C dX4_before_0 rfl rfl ?_
  refine V_get (C0 := RX4) (T := TX4) (N := 1) (ci := 4) C 0 in_X4 rfl ha (by decide) q452 (fun _ h9 => h9) rfl dX4_before_1 ?_
  refine V_bipush C 6 dX4_before_4 (by decide) ?_
  refine V_iload_n C dX4_before_6 rfl rfl ?_
  refine V_iadd C dX4_before_7 ?_
  refine V_top (y := (nI (6 + k))) (nI_add 6 k) ?_
  refine V_ofIe (VR_V (As := [.int (nI (6 + k))]) (rest := []) C (ct_J5_charAt l G b M g sa (6 + k) (oB bs (6 + k)) bs hS0 (oB_get (by omega))) hs rfl (lw_V q227 q228 q229 q44 q230) rfl nd_J5_charAt rfl (by decide) (by decide) dX4_before_8 rfl ⟨by decide, by decide⟩ (Nat.le_of_ble_eq_true rfl)) ?_
  exact V_iret C dX4_before_11 (by decide) (by decide) ⟨_, rfl, rfl, rfl⟩
theorem ct_X4_bytes (l : Launch) (G : mp_G) (b : Nat) (M : mp_M) (g a : Nat) (bs : List Nat) (hO : OpAt G M g a bs) : Ct l yX4_bytes cX4_bytes 1 (some (.object "java/lang/String")) 0 0 0 G b ([.ref a] : List Value) M (pR (fun y M1 => (∃ sa, y = some sa ∧ StrAt G M g sa bs) ∧ M1 = M)) := by
  obtain ⟨sa, i, ha, hS⟩ := hO
  refine Ct.ofV (by decide) (vc_ref vc_nil) (Nat.le_of_ble_eq_true rfl) ?_
  intro p e s m below meth c C hnm
  refine V_L (L1 := [some (.ref a)]) rfl ?_
  refine V_aload_n C dX4_bytes_0 rfl rfl ?_
  refine V_get (C0 := RX4) (T := TX4) (N := 1) (ci := 4) C 0 in_X4 rfl ha (by decide) q452 (fun _ h9 => h9) rfl dX4_bytes_1 ?_
  exact V_aret (o := some sa) C (Or.inl ⟨_, rfl⟩) dX4_bytes_4 (by decide) (by decide) ⟨_, rfl, ⟨sa, rfl, hS⟩, rfl⟩
theorem ct_X4_isOnWire (l : Launch) (G : mp_G) (b : Nat) (M : mp_M) (g g2 a wa cap : Nat) (bs ws : List Nat) (hO : OpAt G M g a bs) (hok : OpOk bs) (hW : SbAt G M g2 wa ws cap) : Ct l yX4_isOnWire cX4_isOnWire 3 (some .boolean) 5 0 0 G b ([.ref a, .ref wa] : List Value) M (pI (fun y M1 => y = bI (decide (ws = bs)) ∧ M1 = M)) := by
  obtain ⟨sa, i, ha, hS⟩ := hO
  have hS0 := hS
  obtain ⟨va, f, h, z, i2, j2, hs, -⟩ := hS
  have hlen := hok.1
  have h5 := hok.2.1
  have hW0 := hW
  obtain ⟨wv, wf, wmb, hwa, hwv, hwl, hwc, hwt, hwF⟩ := hW
  refine Ct.ofV (by decide) (vc_ref (vc_ref vc_nil)) (Nat.le_of_ble_eq_true rfl) ?_
  intro p e s m below meth c C hnm
  refine V_L (L1 := [some (.ref a), some (.ref wa), none]) rfl ?_
  have loop : ws.length = bs.length → ∀ k, k ≤ bs.length → (∀ i, i < k → oB ws i = oB bs i) → V p l e (rmOf 5 0 0) s m ([.ref a, .ref wa] : List Value).toArray below meth c (MQ below (Qp G b (pI (fun y M1 => y = bI (decide (ws = bs)) ∧ M1 = M))) ([.ref a, .ref wa] : List Value).toArray s 0 0 (fun q => b ≤ q)) G b 3 0 0 18 [some (.ref a), some (.ref wa), some (.int (nI k))] [] M := by
    intro hll
    refine up_ind bs.length ?_
    intro k hk ih hb
    have hbk := hok.2.2 k
    refine V_iload_n C dX4_isOnWire_18 rfl rfl ?_
    refine V_aload_n C dX4_isOnWire_19 rfl rfl ?_
    refine V_get (C0 := RX4) (T := TX4) (N := 1) (ci := 4) C 0 in_X4 rfl ha (by decide) q452 (fun _ h9 => h9) rfl dX4_isOnWire_20 ?_
    refine V_ofIe (VR_V (As := []) (rest := [.int (nI k)]) C (ct_J5_length l G b M g sa bs hS0) hs rfl (lw_V q711 q656 q657 q44 q658) rfl nd_J5_length rfl (by decide) (by decide) dX4_isOnWire_23 rfl ⟨by decide, by decide⟩ (Nat.le_of_ble_eq_true rfl)) ?_
    refine V_nicmp_ge (x := k) (y := bs.length) C 53 dX4_isOnWire_26 (by decide) (by omega) (by omega) (fun k26 => ?_) (fun k26 => ?_)
    · refine V_iconst C 1 dX4_isOnWire_53 (by decide) ?_
      exact V_zret C rfl dX4_isOnWire_54 (by decide) (by decide) ⟨_, rfl, bt (decide_eq_true (List.ext_getElem? (fun i => by rcases Nat.lt_or_ge i bs.length with z | z; rw [oB_get (by omega), oB_get z, hb i (by omega)]; rw [List.getElem?_eq_none (by omega), List.getElem?_eq_none z]))), rfl⟩
    · refine V_aload_n C dX4_isOnWire_29 rfl rfl ?_
      refine V_iload_n C dX4_isOnWire_30 rfl rfl ?_
      refine V_ofIe (VR_V (As := [.int (nI k)]) (rest := []) C (ct_J4_charAt l G b M g2 wa k (oB ws k) cap ws hW0 (oB_get (by omega))) hwa rfl (lw_V q712 q683 q684 q43 q685) rfl nd_J4_charAt rfl (by decide) (by decide) dX4_isOnWire_31 rfl ⟨by decide, by decide⟩ (Nat.le_of_ble_eq_true rfl)) ?_
      have hwb31 := (hwt k _ (oB_get (by omega))).1
      refine V_aload_n C dX4_isOnWire_34 rfl rfl ?_
      refine V_get (C0 := RX4) (T := TX4) (N := 1) (ci := 4) C 0 in_X4 rfl ha (by decide) q452 (fun _ h9 => h9) rfl dX4_isOnWire_35 ?_
      refine V_iload_n C dX4_isOnWire_38 rfl rfl ?_
      refine V_ofIe (VR_V (As := [.int (nI k)]) (rest := [.int (nI (oB ws k))]) C (ct_J5_charAt l G b M g sa k (oB bs k) bs hS0 (oB_get (by omega))) hs rfl (lw_V q227 q228 q229 q44 q230) rfl nd_J5_charAt rfl (by decide) (by decide) dX4_isOnWire_39 rfl ⟨by decide, by decide⟩ (Nat.le_of_ble_eq_true rfl)) ?_
      refine V_nicmp_eq (x := oB ws k) (y := oB bs k) C 47 dX4_isOnWire_42 (by decide) (by omega) (by omega) (fun k42 => ?_) (fun k42 => ?_)
      · refine V_iinc (v := (nI (k + 1))) (L' := [some (.ref a), some (.ref wa), some (.int (nI (k + 1)))]) C dX4_isOnWire_47 rfl (nI_1 _) (by decide) rfl ?_
        refine V_goto C 18 dX4_isOnWire_50 (by decide) ?_
        refine V_sub ?_ (ih (by omega) (fun i hi => by rcases Nat.lt_or_ge i k with z | z; exact hb i z; rw [show i = k by omega]; exact k42))
        repeat' (first | exact ls_e | refine ls_n ?_ | refine ls_s ?_ | refine ls_i ?_ ?_ | refine ls_v ?_ ?_)
      · refine V_iconst C 0 dX4_isOnWire_45 (by decide) ?_
        exact V_zret C rfl dX4_isOnWire_46 (by decide) (by decide) ⟨_, rfl, bf (decide_eq_false (fun z => k42 (by rw [z]))), rfl⟩
  refine V_aload_n C dX4_isOnWire_0 rfl rfl ?_
  refine V_ofIe (VR_V (As := []) (rest := []) C (ct_J4_length l G b M g2 wa cap ws hW0) hwa rfl (lw_V q710 q379 q380 q43 q381) rfl nd_J4_length rfl (by decide) (by decide) dX4_isOnWire_1 rfl ⟨by decide, by decide⟩ (Nat.le_of_ble_eq_true rfl)) ?_
  refine V_aload_n C dX4_isOnWire_4 rfl rfl ?_
  refine V_get (C0 := RX4) (T := TX4) (N := 1) (ci := 4) C 0 in_X4 rfl ha (by decide) q452 (fun _ h9 => h9) rfl dX4_isOnWire_5 ?_
  refine V_ofIe (VR_V (As := []) (rest := [.int (nI ws.length)]) C (ct_J5_length l G b M g sa bs hS0) hs rfl (lw_V q711 q656 q657 q44 q658) rfl nd_J5_length rfl (by decide) (by decide) dX4_isOnWire_8 rfl ⟨by decide, by decide⟩ (Nat.le_of_ble_eq_true rfl)) ?_
  refine V_nicmp_eq (x := ws.length) (y := bs.length) C 16 dX4_isOnWire_11 (by decide) (by omega) (by omega) (fun k11 => ?_) (fun k11 => ?_)
  · refine V_iconst C 0 dX4_isOnWire_16 (by decide) ?_
    refine V_istore_n (L' := [some (.ref a), some (.ref wa), some (.int 0)]) C dX4_isOnWire_17 rfl (by decide) rfl ?_
    refine V_sub ?_ (loop k11 0 (Nat.zero_le _) (fun i hi => absurd hi (Nat.not_lt_zero _)))
    repeat' (first | exact ls_e | refine ls_n ?_ | refine ls_s ?_ | refine ls_i ?_ ?_ | refine ls_v ?_ ?_)
    all_goals rfl
  · refine V_iconst C 0 dX4_isOnWire_14 (by decide) ?_
    exact V_zret C rfl dX4_isOnWire_15 (by decide) (by decide) ⟨_, rfl, bf (decide_eq_false (fun z => k11 (by rw [z]))), rfl⟩
theorem ct_X4_init (l : Launch) (G : mp_G) (b : Nat) (M : mp_M) (g a sa i : Nat) (ha : M a = some ((g, 12, i), .inr (4, [.null]))) : Ct l yX4_init cX4_init 2 (none) 2 0 0 G b ([.ref a, .ref sa] : List Value) M (pV (fun M1 => M1 = mp_up M a ((g, 12, i), .inr (4, [.ref sa])))) := by
  refine Ct.ofV (by decide) (vc_ref (vc_ref vc_nil)) (Nat.le_of_ble_eq_true rfl) ?_
  intro p e s m below meth c C hnm
  refine V_L (L1 := [some (.ref a), some (.ref sa)]) rfl ?_
  refine V_aload_n C dX4_init_0 rfl rfl ?_
  refine V_ofVe (VR_I (As := []) (rest := []) C (ct_J13_init l G b M a) (lw_meth q450) q54 q448 q449 rfl nd_J13_init rfl (by decide) (by decide) dX4_init_1 rfl ⟨by decide, by decide⟩ (Nat.le_of_ble_eq_true rfl)) ?_
  refine V_aload_n C dX4_init_4 rfl rfl ?_
  refine V_aload_n C dX4_init_5 rfl rfl ?_
  refine V_M (V_putF (host := "") (C0 := RX4) (T := TX4) (N := 1) (ci := 4) (fs' := [.ref sa]) C 0 in_X4 tyX4 tyX4_ok nmX4 rfl ha (by decide) q452 (fun _ h9 => h9) rfl hnm rfl rfl rfl rfl (Nat.le_of_ble_eq_true rfl) rfl dX4_init_6) (fun M__1 eM__1 => ?_)
  have h__2 := mp_got eM__1
  exact V_vret C dX4_init_9 (by decide) (by decide) ⟨rfl, eM__1⟩
theorem ct_X5_init (l : Launch) (G : mp_G) (b : Nat) (M : mp_M) (a oa : Nat) (p0 q0 : Int32) (lab : mp_L) (ha : M a = some (lab, .inr (5, [.null, .int 0, .int 0, .null, .null, .int 0, .int 0, .null]))) : Ct l yX5_init cX5_init 4 (none) 1 0 0 G b ([.ref a, .ref oa, .int p0, .int q0] : List Value) M (pV (fun M1 => M1 = mp_up M a (lab, .inr (5, [.ref oa, .int p0, .int q0, .null, .null, .int 0, .int 0, .null])))) := by
  refine Ct.ofV (by decide) (vc_ref (vc_ref (vc_int (vc_int vc_nil)))) (Nat.le_of_ble_eq_true rfl) ?_
  intro p e s m below meth c C hnm
  refine V_L (L1 := [some (.ref a), some (.ref oa), some (.int p0), some (.int q0)]) rfl ?_
  refine V_aload_n C dX5_init_0 rfl rfl ?_
  refine V_objInit C q472 q64 q65 dX5_init_1 (by decide) (Nat.le_of_ble_eq_true rfl) ?_
  refine V_aload_n C dX5_init_4 rfl rfl ?_
  refine V_aload_n C dX5_init_5 rfl rfl ?_
  refine V_M (V_putF (host := "") (C0 := RX5) (T := TX5) (N := 8) (ci := 5) (fs' := [.ref oa, .int 0, .int 0, .null, .null, .int 0, .int 0, .null]) C 0 in_X5 tyX5 tyX5_ok nmX5 rfl ha (by decide) q473 (fun _ h9 => h9) rfl hnm rfl rfl rfl rfl (Nat.le_of_ble_eq_true rfl) rfl dX5_init_6) (fun M__1 eM__1 => ?_)
  have h__2 := mp_got eM__1
  refine V_aload_n C dX5_init_9 rfl rfl ?_
  refine V_iload_n C dX5_init_10 rfl rfl ?_
  refine V_M (V_putF (host := "") (C0 := RX5) (T := TX5) (N := 8) (ci := 5) (fs' := [.ref oa, .int p0, .int 0, .null, .null, .int 0, .int 0, .null]) C 1 in_X5 tyX5 tyX5_ok nmX5 rfl h__2 (by decide) q478 (fun _ h9 => h9) rfl hnm rfl rfl rfl rfl (Nat.le_of_ble_eq_true rfl) rfl dX5_init_11) (fun M__3 eM__3 => ?_)
  have h__4 := mp_got eM__3
  refine V_aload_n C dX5_init_14 rfl rfl ?_
  refine V_iload_n C dX5_init_15 rfl rfl ?_
  refine V_M (V_putF (host := "") (C0 := RX5) (T := TX5) (N := 8) (ci := 5) (fs' := [.ref oa, .int p0, .int q0, .null, .null, .int 0, .int 0, .null]) C 2 in_X5 tyX5 tyX5_ok nmX5 rfl h__4 (by decide) q481 (fun _ h9 => h9) rfl hnm rfl rfl rfl rfl (Nat.le_of_ble_eq_true rfl) rfl dX5_init_16) (fun M__5 eM__5 => ?_)
  have h__6 := mp_got eM__5
  exact V_vret C dX5_init_19 (by decide) (by decide) ⟨rfl, by rw [eM__5, eM__3, eM__1]; funext x; by_cases hx : x = a; (subst hx; simp only [mp_self]); (simp only [mp_ne hx])⟩

