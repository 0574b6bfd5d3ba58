set_option maxRecDepth 100000
/-! THE MODEL, L: sum, level, the constructor -/
theorem i_m1 {i : Nat} (h : i < 159) : nI (162 - i) + -1 = nI (162 - (i + 1)) := by
  rw [show 162 - i = 162 - (i + 1) + 1 by omega]
  exact pk_m1 _
theorem ct_X3_sum (l : Launch) (G : mp_G) (b : Nat) (M : mp_M) (a : Nat) (ad : Nat → Nat) (S : Nat → Nat → Int32) (r n : Nat) (po : Nat → Nat → Nat) (ap : Nat → Bool) (hS : MdAt G M a ad S) (hV : Vw S r n po ap) (E : Nat → Prop) (par dp : Nat → Nat) (hTr : Tree n po ap E par dp) (hEl0 : ∀ x j, j < n → melem po ap (stA n po ap).1 j x = true → E j) : Ct l yX3_sum cX3_sum 4 (some .int) 6 0 0 G b ([.ref a, .int (nI r)] : List Value) M (pI (fun y M1 => y = mtF n po ap (stA n po ap).1 (stA n po ap).2 (iterI (totS n po ap (stA n po ap).1 (stA n po ap).2 par dp) (S 10) 159) 0 ∧ QryP G M a ad S M1)) := by
  have hr := hV.1
  have hn := hV.2.1
  obtain ⟨hma, -⟩ := id hS
  refine Ct.ofV (by decide) (vc_ref (vc_int vc_nil)) (Nat.le_of_ble_eq_true rfl) ?_
  intro p e s m below meth c C hnm
  refine V_L (L1 := [some (.ref a), some (.int (nI r)), none, none]) rfl ?_
  refine V_iload_n C dX3_sum_0 rfl rfl ?_
  refine V_ofIe (VR_S (As := [.int (nI r)]) (rest := []) C (ct_X3_isReplica l G b M (nI r)) (lw_S q864 q865 q46 q866) nd_X3_isReplica rfl (by decide) (by decide) dX3_sum_1 rfl ⟨by decide, by decide⟩ (Nat.le_of_ble_eq_true rfl)) ?_
  refine V_top (y := 1) (by rw [isRep_t hr]; rfl) ?_
  refine V_if_ne C 9 dX3_sum_4 (by decide) (fun _ => ?_) (fun h => absurd h (by decide))
  refine V_aload_n C dX3_sum_9 rfl rfl ?_
  refine V_iload_n C dX3_sum_10 rfl rfl ?_
  refine V_ofV (VR_V (As := [.int (nI r)]) (rest := []) C (ct_X3_study l G b M a ad S r n po ap hS hV) hma rfl (lw_V q867 q869 qs9 q46 q870) rfl nd_X3_study rfl (by decide) (by decide) dX3_sum_11 rfl ⟨by decide, by decide⟩ (Nat.le_of_ble_eq_true rfl)) (fun M1 hM1 => ?_)
  obtain ⟨S1, hS1, hA1, hme1, hF1, hP1, hK1⟩ := hM1
  refine V_sipush C 162 dX3_sum_14 (by decide) ?_
  refine V_istore_n (L' := [some (.ref a), some (.int (nI r)), some (.int 162), none]) C dX3_sum_17 rfl (by decide) rfl ?_
  have loop : ∀ i, i ≤ 159 → ∀ M2 S2, MdAt G M2 a ad S2 → Ag [7, 8, 9, 10] S S2 → S2 7 0 = nI r → FitV S2 (stA n po ap).1 → PstV S2 (stA n po ap).2 → S2 10 = iterI (totS n po ap (stA n po ap).1 (stA n po ap).2 par dp) (S 10) i → KeepG 9 M M2 → V p l e (rmOf 6 0 0) s m ([.ref a, .int (nI r)] : List Value).toArray below meth c (MQ below (Qp G b (pI (fun y M1 => y = mtF n po ap (stA n po ap).1 (stA n po ap).2 (iterI (totS n po ap (stA n po ap).1 (stA n po ap).2 par dp) (S 10) 159) 0 ∧ QryP G M a ad S M1))) ([.ref a, .int (nI r)] : List Value).toArray s 0 0 (fun q => b ≤ q)) G b 4 0 0 18 [some (.ref a), some (.int (nI r)), some (.int (nI (162 - i))), none] [] M2 := by
    refine up_ind 159 ?_
    intro i hi ih M2 S2 hS2 hA2 hme2 hF2 hP2 h10 hK2
    have hV2 := hV.ag (hA2 0 (by decide)) (hA2 1 (by decide)) (hA2 2 (by decide))
    have hT2 : TotV S2 (S2 10) := fun _ _ => rfl
    obtain ⟨hmza, hmz0, hmz1, hmz2, hmz3, hmz4, hmz5, hmz8, hmz9, hmz10, hmz11⟩ := id hS2
    rw [hme2] at hmza
    refine V_iload_n C dX3_sum_18 rfl rfl ?_
    refine V_iconst C 4 dX3_sum_19 (by decide) ?_
    refine V_nicmp_lt (x := 162 - i) (y := 4) C 83 dX3_sum_20 (by decide) (by omega) (by omega) (fun u20 => ?_) (fun u20 => ?_)
    · refine V_aload_n C dX3_sum_83 rfl rfl ?_
      refine V_iconst C 0 dX3_sum_84 (by decide) ?_
      refine V_ofIe (VR_V (As := [.int 0]) (rest := []) C (ct_X3_mapTotal l G b M2 a ad S2 r n po ap hS2 hme2 hV2 _ hF2 _ hP2 (S2 10) hT2 0) hmza rfl (lw_V q1026 q1028 qs33 q46 q1029) rfl nd_X3_mapTotal rfl (by decide) (by decide) dX3_sum_85 rfl ⟨by decide, by decide⟩ (Nat.le_of_ble_eq_true rfl)) ?_
      exact V_iret C dX3_sum_88 (by decide) (by decide) ⟨_, rfl, by rw [← show i = 159 by omega, ← h10], S2, hS2, hA2.mono (by decide), hK2⟩
    · refine V_aload_n C dX3_sum_23 rfl rfl ?_
      refine V_iload_n C dX3_sum_24 rfl rfl ?_
      refine V_iconst C 1 dX3_sum_25 (by decide) ?_
      refine V_ofIe (VR_V (As := [.int (nI (162 - i)), .int 1]) (rest := []) C (ct_X3_find l G b M2 a ad S2 r n po ap hS2 hme2 hV2 (nI (162 - i)) true) hmza rfl (lw_V q883 q885 qs13 q46 q886) rfl nd_X3_find rfl (by decide) (by decide) dX3_sum_26 rfl ⟨by decide, by decide⟩ (Nat.le_of_ble_eq_true rfl)) ?_
      rcases o26 : mfind n po ap (nI (162 - i)) true with _ | j26
      · refine V_top (y := -1) rfl ?_
        refine V_istore_n (L' := [some (.ref a), some (.int (nI r)), some (.int (nI (162 - i))), some (.int (-1))]) C dX3_sum_29 rfl (by decide) rfl ?_
        refine V_iload_n C dX3_sum_30 rfl rfl ?_
        refine V_if_lt C 77 dX3_sum_31 (by decide) (fun _ => ?_) (fun h => absurd (by decide) h)
        refine V_iinc (v := ((nI (162 - i)) + (-1))) (L' := [some (.ref a), some (.int (nI r)), some (.int ((nI (162 - i)) + (-1))), some (.int (-1))]) C dX3_sum_77 rfl rfl (by decide) rfl ?_
        refine V_goto C 18 dX3_sum_80 (by decide) ?_
        first | exact V_sub (ls_s (ls_s (ls_i (i_m1 (by omega)) (ls_n ls_e)))) (ih (by omega) M2 S2 hS2 hA2 hme2 hF2 hP2 (by rw [iterI_s, ← h10]; unfold totS; rw [o26]) hK2) | (obtain ⟨hS3, hK3⟩ := md_f10 hS2 eNONE; exact V_sub (ls_s (ls_s (ls_i (i_m1 (by omega)) (ls_n ls_e)))) (ih (by omega) _ _ hS3 (hA2.tr (Ag.f (by decide))) hme2 hF2 hP2 (by rw [sF_eq, iterI_s, ← h10]; unfold totS; rw [o26]; simp [*]) (hK2.tr hK3)))
      · have hj26 := (lastI_some o26).1
        have hk26 := hV2.2.2.2.2.1 j26 hj26
        refine V_top (y := nI j26) rfl ?_
        refine V_istore_n (L' := [some (.ref a), some (.int (nI r)), some (.int (nI (162 - i))), some (.int (nI j26))]) C dX3_sum_29 rfl (by decide) rfl ?_
        refine V_iload_n C dX3_sum_30 rfl rfl ?_
        refine V_if_lt C 77 dX3_sum_31 (by decide) (fun h => absurd h (nI_pos (n := j26) (by omega))) (fun _ => ?_)
        refine V_aload_n C dX3_sum_34 rfl rfl ?_
        refine V_get (C0 := RX3) (T := TX3) (N := 12) (ci := 3) C 10 in_X3 rfl hmza (by decide) q831 (fun _ h9 => h9) rfl dX3_sum_35 ?_
        refine V_iload_n C dX3_sum_38 rfl rfl ?_
        refine V_aload_n C dX3_sum_39 rfl rfl ?_
        refine V_iload_n C dX3_sum_40 rfl rfl ?_
        refine V_iconst C 1 dX3_sum_41 (by decide) ?_
        refine V_ofIe (VR_V (As := [.int (nI j26), .int 1]) (rest := [.int (nI j26), .ref (ad 10)]) C (ct_X3_part l G b M2 a ad S2 r n po ap hS2 hme2 hV2 j26 1 (by omega) (by omega)) hmza rfl (lw_V q875 q877 qs11 q46 q878) rfl nd_X3_part rfl (by decide) (by decide) dX3_sum_42 rfl ⟨by decide, by decide⟩ (Nat.le_of_ble_eq_true rfl)) ?_
        have hp42 := hV2.2.2.2.2.2.1 j26 1
        refine V_iconst C 1 dX3_sum_45 (by decide) ?_
        refine V_nicmp_ne (x := po j26 1) (y := 1) C 57 dX3_sum_46 (by decide) (by omega) (by omega) (fun u46 => ?_) (fun u46 => ?_)
        · refine V_aload_n C dX3_sum_57 rfl rfl ?_
          refine V_iload_n C dX3_sum_58 rfl rfl ?_
          refine V_iconst C 1 dX3_sum_59 (by decide) ?_
          refine V_ofIe (VR_V (As := [.int (nI j26), .int 1]) (rest := [.int (nI j26), .ref (ad 10)]) C (ct_X3_part l G b M2 a ad S2 r n po ap hS2 hme2 hV2 j26 1 (by omega) (by omega)) hmza rfl (lw_V q875 q877 qs11 q46 q878) rfl nd_X3_part rfl (by decide) (by decide) dX3_sum_60 rfl ⟨by decide, by decide⟩ (Nat.le_of_ble_eq_true rfl)) ?_
          have hp60 := hV2.2.2.2.2.2.1 j26 1
          refine V_iconst C 2 dX3_sum_63 (by decide) ?_
          refine V_nicmp_ne (x := po j26 1) (y := 2) C 75 dX3_sum_64 (by decide) (by omega) (by omega) (fun u64 => ?_) (fun u64 => ?_)
          · refine V_iconst C 0 dX3_sum_75 (by decide) ?_
            refine V_M (V_iast C hmz10 (pk_in j26 16 (by omega)) dX3_sum_76) (fun M__1 eM__1 => ?_)
            rw [nI_clamp (n := j26) (by omega)] at eM__1
            have h__2 := mp_got eM__1
            have h__3 := mp_keep eM__1 hmza hmz10 (by first | assumption | exact Ne.symm (by assumption) | simp | (intro h; simp at h; omega))
            have h__4 := mp_keep eM__1 hmz0 hmz10 (by first | assumption | exact Ne.symm (by assumption) | simp | (intro h; simp at h; omega))
            have h__5 := mp_keep eM__1 hmz1 hmz10 (by first | assumption | exact Ne.symm (by assumption) | simp | (intro h; simp at h; omega))
            have h__6 := mp_keep eM__1 hmz2 hmz10 (by first | assumption | exact Ne.symm (by assumption) | simp | (intro h; simp at h; omega))
            have h__7 := mp_keep eM__1 hmz3 hmz10 (by first | assumption | exact Ne.symm (by assumption) | simp | (intro h; simp at h; omega))
            have h__8 := mp_keep eM__1 hmz4 hmz10 (by first | assumption | exact Ne.symm (by assumption) | simp | (intro h; simp at h; omega))
            have h__9 := mp_keep eM__1 hmz5 hmz10 (by first | assumption | exact Ne.symm (by assumption) | simp | (intro h; simp at h; omega))
            have h__10 := mp_keep eM__1 hmz8 hmz10 (by first | assumption | exact Ne.symm (by assumption) | simp | (intro h; simp at h; omega))
            have h__11 := mp_keep eM__1 hmz9 hmz10 (by first | assumption | exact Ne.symm (by assumption) | simp | (intro h; simp at h; omega))
            have h__12 := mp_keep eM__1 hmz11 hmz10 (by first | assumption | exact Ne.symm (by assumption) | simp | (intro h; simp at h; omega))
            refine V_iinc (v := ((nI (162 - i)) + (-1))) (L' := [some (.ref a), some (.int (nI r)), some (.int ((nI (162 - i)) + (-1))), some (.int (nI j26))]) C dX3_sum_77 rfl rfl (by decide) rfl ?_
            refine V_goto C 18 dX3_sum_80 (by decide) ?_
            first | exact V_sub (ls_s (ls_s (ls_i (i_m1 (by omega)) (ls_n ls_e)))) (ih (by omega) M2 S2 hS2 hA2 hme2 hF2 hP2 (by rw [iterI_s, ← h10]; unfold totS; rw [o26]) hK2) | (obtain ⟨hS3, hK3⟩ := md_f10 hS2 eM__1; exact V_sub (ls_s (ls_s (ls_i (i_m1 (by omega)) (ls_n ls_e)))) (ih (by omega) _ _ hS3 (hA2.tr (Ag.f (by decide))) hme2 hF2 hP2 (by rw [sF_eq, iterI_s, ← h10]; unfold totS; rw [o26]; simp [*]) (hK2.tr hK3)))
          · refine V_aload_n C dX3_sum_67 rfl rfl ?_
            refine V_iload_n C dX3_sum_68 rfl rfl ?_
            refine V_ofIe (VR_V (As := [.int (nI (162 - i))]) (rest := [.int (nI j26), .ref (ad 10)]) C (ct_X3_listTotal l G b M2 a ad S2 r n po ap hS2 hme2 hV2 _ hF2 E par dp hTr (nI (162 - i)) (hEl0 _)) hmza rfl (lw_V q1030 q1032 qs34 q46 q1033) rfl nd_X3_listTotal rfl (by decide) (by decide) dX3_sum_69 rfl ⟨by decide, by decide⟩ (Nat.le_of_ble_eq_true rfl)) ?_
            refine V_goto C 76 dX3_sum_72 (by decide) ?_
            refine V_M (V_iast C hmz10 (pk_in j26 16 (by omega)) dX3_sum_76) (fun M__13 eM__13 => ?_)
            rw [nI_clamp (n := j26) (by omega)] at eM__13
            have h__14 := mp_got eM__13
            have h__15 := mp_keep eM__13 hmza hmz10 (by first | assumption | exact Ne.symm (by assumption) | simp | (intro h; simp at h; omega))
            have h__16 := mp_keep eM__13 hmz0 hmz10 (by first | assumption | exact Ne.symm (by assumption) | simp | (intro h; simp at h; omega))
            have h__17 := mp_keep eM__13 hmz1 hmz10 (by first | assumption | exact Ne.symm (by assumption) | simp | (intro h; simp at h; omega))
            have h__18 := mp_keep eM__13 hmz2 hmz10 (by first | assumption | exact Ne.symm (by assumption) | simp | (intro h; simp at h; omega))
            have h__19 := mp_keep eM__13 hmz3 hmz10 (by first | assumption | exact Ne.symm (by assumption) | simp | (intro h; simp at h; omega))
            have h__20 := mp_keep eM__13 hmz4 hmz10 (by first | assumption | exact Ne.symm (by assumption) | simp | (intro h; simp at h; omega))
            have h__21 := mp_keep eM__13 hmz5 hmz10 (by first | assumption | exact Ne.symm (by assumption) | simp | (intro h; simp at h; omega))
            have h__22 := mp_keep eM__13 hmz8 hmz10 (by first | assumption | exact Ne.symm (by assumption) | simp | (intro h; simp at h; omega))
            have h__23 := mp_keep eM__13 hmz9 hmz10 (by first | assumption | exact Ne.symm (by assumption) | simp | (intro h; simp at h; omega))
            have h__24 := mp_keep eM__13 hmz11 hmz10 (by first | assumption | exact Ne.symm (by assumption) | simp | (intro h; simp at h; omega))
            refine V_iinc (v := ((nI (162 - i)) + (-1))) (L' := [some (.ref a), some (.int (nI r)), some (.int ((nI (162 - i)) + (-1))), some (.int (nI j26))]) C dX3_sum_77 rfl rfl (by decide) rfl ?_
            refine V_goto C 18 dX3_sum_80 (by decide) ?_
            first | exact V_sub (ls_s (ls_s (ls_i (i_m1 (by omega)) (ls_n ls_e)))) (ih (by omega) M2 S2 hS2 hA2 hme2 hF2 hP2 (by rw [iterI_s, ← h10]; unfold totS; rw [o26]) hK2) | (obtain ⟨hS3, hK3⟩ := md_f10 hS2 eM__13; exact V_sub (ls_s (ls_s (ls_i (i_m1 (by omega)) (ls_n ls_e)))) (ih (by omega) _ _ hS3 (hA2.tr (Ag.f (by decide))) hme2 hF2 hP2 (by rw [sF_eq, iterI_s, ← h10]; unfold totS; rw [o26]; simp [*]) (hK2.tr hK3)))
        · refine V_aload_n C dX3_sum_49 rfl rfl ?_
          refine V_iload_n C dX3_sum_50 rfl rfl ?_
          refine V_ofIe (VR_V (As := [.int (nI (162 - i))]) (rest := [.int (nI j26), .ref (ad 10)]) C (ct_X3_mapTotal l G b M2 a ad S2 r n po ap hS2 hme2 hV2 _ hF2 _ hP2 (S2 10) hT2 (nI (162 - i))) hmza rfl (lw_V q1026 q1028 qs33 q46 q1029) rfl nd_X3_mapTotal rfl (by decide) (by decide) dX3_sum_51 rfl ⟨by decide, by decide⟩ (Nat.le_of_ble_eq_true rfl)) ?_
          refine V_goto C 76 dX3_sum_54 (by decide) ?_
          refine V_M (V_iast C hmz10 (pk_in j26 16 (by omega)) dX3_sum_76) (fun M__25 eM__25 => ?_)
          rw [nI_clamp (n := j26) (by omega)] at eM__25
          have h__26 := mp_got eM__25
          have h__27 := mp_keep eM__25 hmza hmz10 (by first | assumption | exact Ne.symm (by assumption) | simp | (intro h; simp at h; omega))
          have h__28 := mp_keep eM__25 hmz0 hmz10 (by first | assumption | exact Ne.symm (by assumption) | simp | (intro h; simp at h; omega))
          have h__29 := mp_keep eM__25 hmz1 hmz10 (by first | assumption | exact Ne.symm (by assumption) | simp | (intro h; simp at h; omega))
          have h__30 := mp_keep eM__25 hmz2 hmz10 (by first | assumption | exact Ne.symm (by assumption) | simp | (intro h; simp at h; omega))
          have h__31 := mp_keep eM__25 hmz3 hmz10 (by first | assumption | exact Ne.symm (by assumption) | simp | (intro h; simp at h; omega))
          have h__32 := mp_keep eM__25 hmz4 hmz10 (by first | assumption | exact Ne.symm (by assumption) | simp | (intro h; simp at h; omega))
          have h__33 := mp_keep eM__25 hmz5 hmz10 (by first | assumption | exact Ne.symm (by assumption) | simp | (intro h; simp at h; omega))
          have h__34 := mp_keep eM__25 hmz8 hmz10 (by first | assumption | exact Ne.symm (by assumption) | simp | (intro h; simp at h; omega))
          have h__35 := mp_keep eM__25 hmz9 hmz10 (by first | assumption | exact Ne.symm (by assumption) | simp | (intro h; simp at h; omega))
          have h__36 := mp_keep eM__25 hmz11 hmz10 (by first | assumption | exact Ne.symm (by assumption) | simp | (intro h; simp at h; omega))
          refine V_iinc (v := ((nI (162 - i)) + (-1))) (L' := [some (.ref a), some (.int (nI r)), some (.int ((nI (162 - i)) + (-1))), some (.int (nI j26))]) C dX3_sum_77 rfl rfl (by decide) rfl ?_
          refine V_goto C 18 dX3_sum_80 (by decide) ?_
          first | exact V_sub (ls_s (ls_s (ls_i (i_m1 (by omega)) (ls_n ls_e)))) (ih (by omega) M2 S2 hS2 hA2 hme2 hF2 hP2 (by rw [iterI_s, ← h10]; unfold totS; rw [o26]) hK2) | (obtain ⟨hS3, hK3⟩ := md_f10 hS2 eM__25; exact V_sub (ls_s (ls_s (ls_i (i_m1 (by omega)) (ls_n ls_e)))) (ih (by omega) _ _ hS3 (hA2.tr (Ag.f (by decide))) hme2 hF2 hP2 (by rw [sF_eq, iterI_s, ← h10]; unfold totS; rw [o26]; simp [*]) (hK2.tr hK3)))
  refine V_sub ?_ (loop 0 (Nat.zero_le _) M1 S1 hS1 (hA1.mono (by decide)) hme1 hF1 hP1 (hA1 10 (by decide)) hK1)
  repeat' (first | exact ls_e | refine ls_n ?_ | refine ls_s ?_ | refine ls_i ?_ ?_ | refine ls_v ?_ ?_)
  all_goals rfl
/-- two operations with the same bytes -/
def alK (po po2 : Nat → Nat → Nat) (i j k : Nat) : Bool := allI (fun f => decide (po i f = po2 j f)) k
theorem alK_f {po po2 : Nat → Nat → Nat} {i j k n : Nat} (hk : k ≤ n) (h : alK po po2 i j k = false) : alK po po2 i j n = false := by
  unfold alK at h ⊢
  rw [← Bool.not_eq_true, allI_iff] at h ⊢
  exact fun z => h (fun f hf => z f (by omega))
theorem ct_X3_alike (l : Launch) (G : mp_G) (b : Nat) (M : mp_M) (a : Nat) (ad : Nat → Nat) (S : Nat → Nat → Int32) (r n : Nat) (po : Nat → Nat → Nat) (ap : Nat → Bool) (hS : MdAt G M a ad S) (hV : Vw S r n po ap) (r2 n2 : Nat) (po2 : Nat → Nat → Nat) (ap2 : Nat → Bool) (hV2 : Vw S r2 n2 po2 ap2) (i j : Nat) (hi : i < n) (hj : j < n2) : Ct l yX3_alike cX3_alike 5 (some .boolean) 0 0 0 G b ([.ref a, .int (nI (16 * r + i)), .int (nI (16 * r2 + j))] : List Value) M (pI (fun y M1 => y = bI (alK po po2 i j (6 + po i 5)) ∧ M1 = M)) := by
  have hr := hV.1
  have hn := hV.2.1
  have hr2 := hV2.1
  have hn2 := hV2.2.1
  have h5 := hV.2.2.2.2.1 i hi
  have hp5 := hV.2.2.2.2.2.1 i 5
  refine Ct.ofV (by decide) (vc_ref (vc_int (vc_int vc_nil))) (Nat.le_of_ble_eq_true rfl) ?_
  intro p e s m below meth c C hnm
  refine V_L (L1 := [some (.ref a), some (.int (nI (16 * r + i))), some (.int (nI (16 * r2 + j))), none, none]) rfl ?_
  obtain ⟨hma, hm0, hm1, hm2, hm3, hm4, hm5, hm8, hm9, hm10, hm11⟩ := id hS
  refine V_iconst C 1 dX3_alike_0 (by decide) ?_
  refine V_istore_n (L' := [some (.ref a), some (.int (nI (16 * r + i))), some (.int (nI (16 * r2 + j))), some (.int 1), none]) C dX3_alike_1 rfl (by decide) rfl ?_
  refine V_iconst C 0 dX3_alike_2 (by decide) ?_
  refine V_istore (L' := [some (.ref a), some (.int (nI (16 * r + i))), some (.int (nI (16 * r2 + j))), some (.int 1), some (.int 0)]) C dX3_alike_3 (by decide) rfl ?_
  have loop : ∀ k, k ≤ 6 + po i 5 → V p l e (rmOf 0 0 0) s m ([.ref a, .int (nI (16 * r + i)), .int (nI (16 * r2 + j))] : List Value).toArray below meth c (MQ below (Qp G b (pI (fun y M1 => y = bI (alK po po2 i j (6 + po i 5)) ∧ M1 = M))) ([.ref a, .int (nI (16 * r + i)), .int (nI (16 * r2 + j))] : List Value).toArray s 0 0 (fun q => b ≤ q)) G b 5 0 0 5 [some (.ref a), some (.int (nI (16 * r + i))), some (.int (nI (16 * r2 + j))), some (.int (bI (alK po po2 i j k))), some (.int (nI k))] [] M := by
    refine up_ind (6 + po i 5) ?_
    intro k hk ih
    refine V_iload C dX3_alike_5 rfl ?_
    refine V_bipush C 6 dX3_alike_7 (by decide) ?_
    refine V_aload_n C dX3_alike_9 rfl rfl ?_
    refine V_get (C0 := RX3) (T := TX3) (N := 12) (ci := 3) C 0 in_X3 rfl hma (by decide) q821 (fun _ h9 => h9) rfl dX3_alike_10 ?_
    refine V_bipush C 12 dX3_alike_13 (by decide) ?_
    refine V_iload_n C dX3_alike_15 rfl rfl ?_
    refine V_imul C dX3_alike_16 ?_
    refine V_top (y := (nI (12 * (16 * r + i)))) (pk_mul 12 (16 * r + i)) ?_
    refine V_iconst C 5 dX3_alike_17 (by decide) ?_
    refine V_iadd C dX3_alike_18 ?_
    refine V_top (y := (nI (12 * (16 * r + i) + 5))) (nI_add (12 * (16 * r + i)) 5) ?_
    refine V_iald C hm0 (pk_in (12 * (16 * r + i) + 5) 576 (by omega)) dX3_alike_19 ?_
    refine V_top (y := (S 0 (12 * (16 * r + i) + 5))) (by rw [nI_clamp (n := 12 * (16 * r + i) + 5) (by omega)]) ?_
    refine V_top (y := (nI (po i 5))) (hV.2.2.2.1 i 5 hi (by omega)) ?_
    refine V_iadd C dX3_alike_20 ?_
    refine V_top (y := (nI (6 + (po i 5)))) (nI_add 6 (po i 5)) ?_
    refine V_nicmp_ge (x := k) (y := 6 + (po i 5)) C 67 dX3_alike_21 (by decide) (by omega) (by omega) (fun q21 => ?_) (fun q21 => ?_)
    · refine V_iload_n C dX3_alike_67 rfl rfl ?_
      exact V_zret C (bI_nar _) dX3_alike_68 (by decide) (by decide) ⟨_, rfl, by first | rw [← show k = 6 + po i 5 by omega] | rw [q25, alK_f hk q25], rfl⟩
    · refine V_iload_n C dX3_alike_24 rfl rfl ?_
      refine V_ifb_eq C 67 dX3_alike_25 (by decide) (fun q25 => ?_) (fun q25 => ?_)
      · refine V_iload_n C dX3_alike_67 rfl rfl ?_
        exact V_zret C (bI_nar _) dX3_alike_68 (by decide) (by decide) ⟨_, rfl, by first | rw [← show k = 6 + po i 5 by omega] | rw [q25, alK_f hk q25], rfl⟩
      · have hk2 : k < 6 + po2 j 5 := by rcases Nat.lt_or_ge k 6 with z | z; (omega); (unfold alK at q25; rw [allI_iff] at q25; have := q25 5 (by omega); simp only [decide_eq_true_eq] at this; omega)
        have hp1 := hV.2.2.2.2.2.1 i k
        have hp2 := hV2.2.2.2.2.2.1 j k
        have h6 := hV2.2.2.2.2.1 j hj
        refine V_aload_n C dX3_alike_28 rfl rfl ?_
        refine V_get (C0 := RX3) (T := TX3) (N := 12) (ci := 3) C 0 in_X3 rfl hma (by decide) q821 (fun _ h9 => h9) rfl dX3_alike_29 ?_
        refine V_bipush C 12 dX3_alike_32 (by decide) ?_
        refine V_iload_n C dX3_alike_34 rfl rfl ?_
        refine V_imul C dX3_alike_35 ?_
        refine V_top (y := (nI (12 * (16 * r + i)))) (pk_mul 12 (16 * r + i)) ?_
        refine V_iload C dX3_alike_36 rfl ?_
        refine V_iadd C dX3_alike_38 ?_
        refine V_top (y := (nI (12 * (16 * r + i) + k))) (nI_add (12 * (16 * r + i)) k) ?_
        refine V_iald C hm0 (pk_in (12 * (16 * r + i) + k) 576 (by omega)) dX3_alike_39 ?_
        refine V_top (y := (S 0 (12 * (16 * r + i) + k))) (by rw [nI_clamp (n := 12 * (16 * r + i) + k) (by omega)]) ?_
        refine V_top (y := (nI (po i k))) (hV.2.2.2.1 i k hi (by omega)) ?_
        refine V_aload_n C dX3_alike_40 rfl rfl ?_
        refine V_get (C0 := RX3) (T := TX3) (N := 12) (ci := 3) C 0 in_X3 rfl hma (by decide) q821 (fun _ h9 => h9) rfl dX3_alike_41 ?_
        refine V_bipush C 12 dX3_alike_44 (by decide) ?_
        refine V_iload_n C dX3_alike_46 rfl rfl ?_
        refine V_imul C dX3_alike_47 ?_
        refine V_top (y := (nI (12 * (16 * r2 + j)))) (pk_mul 12 (16 * r2 + j)) ?_
        refine V_iload C dX3_alike_48 rfl ?_
        refine V_iadd C dX3_alike_50 ?_
        refine V_top (y := (nI (12 * (16 * r2 + j) + k))) (nI_add (12 * (16 * r2 + j)) k) ?_
        refine V_iald C hm0 (pk_in (12 * (16 * r2 + j) + k) 576 (by omega)) dX3_alike_51 ?_
        refine V_top (y := (S 0 (12 * (16 * r2 + j) + k))) (by rw [nI_clamp (n := 12 * (16 * r2 + j) + k) (by omega)]) ?_
        refine V_top (y := (nI (po2 j k))) (hV2.2.2.2.1 j k hj hk2) ?_
        refine V_nicmp_ne (x := po i k) (y := po2 j k) C 59 dX3_alike_52 (by decide) (by omega) (by omega) (fun q52 => ?_) (fun q52 => ?_)
        · refine V_iconst C 0 dX3_alike_59 (by decide) ?_
          refine V_istore_n (L' := [some (.ref a), some (.int (nI (16 * r + i))), some (.int (nI (16 * r2 + j))), some (.int 0), some (.int (nI k))]) C dX3_alike_60 rfl (by decide) rfl ?_
          refine V_iinc (v := (nI (k + 1))) (L' := [some (.ref a), some (.int (nI (16 * r + i))), some (.int (nI (16 * r2 + j))), some (.int 0), some (.int (nI (k + 1)))]) C dX3_alike_61 rfl (nI_1 _) (by decide) rfl ?_
          refine V_goto C 5 dX3_alike_64 (by decide) ?_
          refine V_sub ?_ (ih (by omega))
          repeat' (first | exact ls_e | refine ls_n ?_ | refine ls_s ?_ | refine ls_i ?_ ?_ | refine ls_v ?_ ?_)
          show _ = bI (allI (fun f => decide (po i f = po2 j f)) (k + 1))
          rw [allI_s, show allI (fun f => decide (po i f = po2 j f)) k = true from q25]
          first | (refine bt ?_; simp [*]; done) | (refine bf ?_; simp [*]; done)
        · refine V_iconst C 1 dX3_alike_55 (by decide) ?_
          refine V_goto C 60 dX3_alike_56 (by decide) ?_
          refine V_istore_n (L' := [some (.ref a), some (.int (nI (16 * r + i))), some (.int (nI (16 * r2 + j))), some (.int 1), some (.int (nI k))]) C dX3_alike_60 rfl (by decide) rfl ?_
          refine V_iinc (v := (nI (k + 1))) (L' := [some (.ref a), some (.int (nI (16 * r + i))), some (.int (nI (16 * r2 + j))), some (.int 1), some (.int (nI (k + 1)))]) C dX3_alike_61 rfl (nI_1 _) (by decide) rfl ?_
          refine V_goto C 5 dX3_alike_64 (by decide) ?_
          refine V_sub ?_ (ih (by omega))
          repeat' (first | exact ls_e | refine ls_n ?_ | refine ls_s ?_ | refine ls_i ?_ ?_ | refine ls_v ?_ ?_)
          show _ = bI (allI (fun f => decide (po i f = po2 j f)) (k + 1))
          rw [allI_s, show allI (fun f => decide (po i f = po2 j f)) k = true from q25]
          first | (refine bt ?_; simp [*]; done) | (refine bf ?_; simp [*]; done)
  refine V_sub ?_ (loop 0 (Nat.zero_le _))
  repeat' (first | exact ls_e | refine ls_n ?_ | refine ls_s ?_ | refine ls_i ?_ ?_ | refine ls_v ?_ ?_)
def lvP (ap ap2 : Nat → Bool) (po po2 : Nat → Nat → Nat) (n2 i : Nat) : Bool := if ap i = true then anyI (fun j => ap2 j && alK po po2 i j (6 + po i 5)) n2 else true
def lvK (ap ap2 : Nat → Bool) (po po2 : Nat → Nat → Nat) (n2 : Nat) (c0 : Bool) (k : Nat) : Bool := c0 && allI (lvP ap ap2 po po2 n2) k
theorem lvK_s (ap ap2 : Nat → Bool) (po po2 : Nat → Nat → Nat) (n2 : Nat) (c0 : Bool) (k : Nat) : lvK ap ap2 po po2 n2 c0 (k + 1) = (lvK ap ap2 po po2 n2 c0 k && lvP ap ap2 po po2 n2 k) := by
  unfold lvK
  rw [allI_s, Bool.and_assoc]
theorem lvK_f {ap ap2 : Nat → Bool} {po po2 : Nat → Nat → Nat} {n2 : Nat} {c0 : Bool} {k n : Nat} (hk : k ≤ n) (h : lvK ap ap2 po po2 n2 c0 k = false) : lvK ap ap2 po po2 n2 c0 n = false := by
  unfold lvK at h ⊢
  rw [← Bool.not_eq_true, Bool.and_eq_true, allI_iff] at h ⊢
  exact fun z => h ⟨z.1, fun f hf => z.2 f (by omega)⟩
theorem ct_X3_level_bad (l : Launch) (G : mp_G) (b : Nat) (M : mp_M) (a : Nat) (x z : Int32) (hx : isRepB x = false ∨ isRepB z = false) : Ct l yX3_level cX3_level 7 (some .boolean) 2 0 0 G b ([.ref a, .int x, .int z] : List Value) M (pI (fun y M1 => y = 0 ∧ M1 = M)) := by
  refine Ct.ofV (by decide) (vc_ref (vc_int (vc_int vc_nil))) (Nat.le_of_ble_eq_true rfl) ?_
  intro p e s m below meth c C hnm
  refine V_L (L1 := [some (.ref a), some (.int x), some (.int z), none, none, none, none]) rfl ?_
  refine V_iload_n C dX3_level_0 rfl rfl ?_
  refine V_ofIe (VR_S (As := [.int x]) (rest := []) C (ct_X3_isReplica l G b M x) (lw_S q864 q865 q46 q866) nd_X3_isReplica rfl (by decide) (by decide) dX3_level_1 rfl ⟨by decide, by decide⟩ (Nat.le_of_ble_eq_true rfl)) ?_
  refine V_ifb_eq C 14 dX3_level_4 (by decide) (fun q4 => ?_) (fun q4 => ?_)
  · refine V_iconst C 0 dX3_level_14 (by decide) ?_
    exact V_zret C rfl dX3_level_15 (by decide) (by decide) ⟨_, rfl, rfl, rfl⟩
  · refine V_iload_n C dX3_level_7 rfl rfl ?_
    refine V_ofIe (VR_S (As := [.int z]) (rest := []) C (ct_X3_isReplica l G b M z) (lw_S q864 q865 q46 q866) nd_X3_isReplica rfl (by decide) (by decide) dX3_level_8 rfl ⟨by decide, by decide⟩ (Nat.le_of_ble_eq_true rfl)) ?_
    refine V_ifb_ne C 16 dX3_level_11 (by decide) (fun q11 => ?_) (fun q11 => ?_)
    · rcases hx with w | w; (rw [w] at q4; cases q4); (rw [w] at q11; cases q11)
    · refine V_iconst C 0 dX3_level_14 (by decide) ?_
      exact V_zret C rfl dX3_level_15 (by decide) (by decide) ⟨_, rfl, rfl, rfl⟩
theorem ct_X3_level (l : Launch) (G : mp_G) (b : Nat) (M : mp_M) (a : Nat) (ad : Nat → Nat) (S : Nat → Nat → Int32) (r n : Nat) (po : Nat → Nat → Nat) (ap : Nat → Bool) (hS : MdAt G M a ad S) (hV : Vw S r n po ap) (r2 n2 : Nat) (po2 : Nat → Nat → Nat) (ap2 : Nat → Bool) (hV2 : Vw S r2 n2 po2 ap2) (od od2 : List Nat) (hO : OrV S r od) (hok : OdOk n ap od) (hO2 : OrV S r2 od2) (hok2 : OdOk n2 ap2 od2) : Ct l yX3_level cX3_level 7 (some .boolean) 2 0 0 G b ([.ref a, .int (nI r), .int (nI r2)] : List Value) M (pI (fun y M1 => y = bI (lvK ap ap2 po po2 n2 (decide (od.length = od2.length)) n) ∧ M1 = M)) := by
  have hr := hV.1
  have hn := hV.2.1
  have hr2 := hV2.1
  have hn2 := hV2.2.1
  have hl := hok.len
  have hl2 := hok2.len
  refine Ct.ofV (by decide) (vc_ref (vc_int (vc_int vc_nil))) (Nat.le_of_ble_eq_true rfl) ?_
  intro p e s m below meth c C hnm
  refine V_L (L1 := [some (.ref a), some (.int (nI r)), some (.int (nI r2)), none, none, none, none]) rfl ?_
  obtain ⟨hma, hm0, hm1, hm2, hm3, hm4, hm5, hm8, hm9, hm10, hm11⟩ := id hS
  have loop : ∀ i, i ≤ n → V p l e (rmOf 2 0 0) s m ([.ref a, .int (nI r), .int (nI r2)] : List Value).toArray below meth c (MQ below (Qp G b (pI (fun y M1 => y = bI (lvK ap ap2 po po2 n2 (decide (od.length = od2.length)) n) ∧ M1 = M))) ([.ref a, .int (nI r), .int (nI r2)] : List Value).toArray s 0 0 (fun q => b ≤ q)) G b 7 0 0 40 [some (.ref a), some (.int (nI r)), some (.int (nI r2)), some (.int (bI (lvK ap ap2 po po2 n2 (decide (od.length = od2.length)) i))), some (.int (nI i)), none, none] [] M := by
    refine up_ind n ?_
    intro i hi0 ih
    have inner : ∀ (hi : i < n), lvK ap ap2 po po2 n2 (decide (od.length = od2.length)) i = true → ap i = true → ∀ j, j ≤ n2 → V p l e (rmOf 2 0 0) s m ([.ref a, .int (nI r), .int (nI r2)] : List Value).toArray below meth c (MQ below (Qp G b (pI (fun y M1 => y = bI (lvK ap ap2 po po2 n2 (decide (od.length = od2.length)) n) ∧ M1 = M))) ([.ref a, .int (nI r), .int (nI r2)] : List Value).toArray s 0 0 (fun q => b ≤ q)) G b 7 0 0 76 [some (.ref a), some (.int (nI r)), some (.int (nI r2)), none, some (.int (nI i)), some (.int (bI (anyI (fun j => ap2 j && alK po po2 i j (6 + po i 5)) j))), some (.int (nI j))] [] M := by
      intro hi hlv hap
      refine up_ind n2 ?_
      intro j hj0 ihj
      refine V_iload C dX3_level_76 rfl ?_
      refine V_aload_n C dX3_level_78 rfl rfl ?_
      refine V_get (C0 := RX3) (T := TX3) (N := 12) (ci := 3) C 1 in_X3 rfl hma (by decide) q822 (fun _ h9 => h9) rfl dX3_level_79 ?_
      refine V_iload_n C dX3_level_82 rfl rfl ?_
      refine V_iald C hm1 (pk_in r2 3 (by omega)) dX3_level_83 ?_
      refine V_top (y := (S 1 r2)) (by rw [nI_clamp (n := r2) (by omega)]) ?_
      refine V_top (y := (nI n2)) (hV2.2.2.1) ?_
      refine V_nicmp_ge (x := j) (y := n2) C 141 dX3_level_84 (by decide) (by omega) (by omega) (fun q84 => ?_) (fun q84 => ?_)
      · refine V_iload C dX3_level_141 rfl ?_
        refine V_istore_n (L' := [some (.ref a), some (.int (nI r)), some (.int (nI r2)), some (.int (bI (anyI (fun j => ap2 j && alK po po2 i j (6 + po i 5)) j))), some (.int (nI i)), some (.int (bI (anyI (fun j => ap2 j && alK po po2 i j (6 + po i 5)) j))), some (.int (nI j))]) C dX3_level_143 rfl (by decide) rfl ?_
        refine V_iinc (v := (nI (i + 1))) (L' := [some (.ref a), some (.int (nI r)), some (.int (nI r2)), some (.int (bI (anyI (fun j => ap2 j && alK po po2 i j (6 + po i 5)) j))), some (.int (nI (i + 1))), some (.int (bI (anyI (fun j => ap2 j && alK po po2 i j (6 + po i 5)) j))), some (.int (nI j))]) C dX3_level_144 rfl (nI_1 _) (by decide) rfl ?_
        refine V_goto C 40 dX3_level_147 (by decide) ?_
        refine V_sub ?_ (ih (by omega))
        repeat' (first | exact ls_e | refine ls_n ?_ | refine ls_s ?_ | refine ls_i ?_ ?_ | refine ls_v ?_ ?_)
        rw [lvK_s, hlv, Bool.true_and]
        unfold lvP
        rw [if_pos hap, show j = n2 by omega]
      · have hj : j < n2 := by omega
        refine V_iload C dX3_level_87 rfl ?_
        refine V_ifb_ne C 128 dX3_level_89 (by decide) (fun q89 => ?_) (fun q89 => ?_)
        · refine V_iconst C 1 dX3_level_128 (by decide) ?_
          refine V_goto C 133 dX3_level_129 (by decide) ?_
          refine V_istore (L' := [some (.ref a), some (.int (nI r)), some (.int (nI r2)), none, some (.int (nI i)), some (.int 1), some (.int (nI j))]) C dX3_level_133 (by decide) rfl ?_
          refine V_iinc (v := (nI (j + 1))) (L' := [some (.ref a), some (.int (nI r)), some (.int (nI r2)), none, some (.int (nI i)), some (.int 1), some (.int (nI (j + 1)))]) C dX3_level_135 rfl (nI_1 _) (by decide) rfl ?_
          refine V_goto C 76 dX3_level_138 (by decide) ?_
          refine V_sub ?_ (ihj (by omega))
          repeat' (first | exact ls_e | refine ls_n ?_ | refine ls_s ?_ | refine ls_i ?_ ?_ | refine ls_v ?_ ?_)
          rw [anyI_s]
          first | (refine bt ?_; simp [*]; done) | (refine bf ?_; simp [*]; done)
        · refine V_aload_n C dX3_level_92 rfl rfl ?_
          refine V_get (C0 := RX3) (T := TX3) (N := 12) (ci := 3) C 2 in_X3 rfl hma (by decide) q823 (fun _ h9 => h9) rfl dX3_level_93 ?_
          refine V_bipush C 16 dX3_level_96 (by decide) ?_
          refine V_iload_n C dX3_level_98 rfl rfl ?_
          refine V_imul C dX3_level_99 ?_
          refine V_top (y := (nI (16 * r2))) (pk_mul 16 r2) ?_
          refine V_iload C dX3_level_100 rfl ?_
          refine V_iadd C dX3_level_102 ?_
          refine V_top (y := (nI (16 * r2 + j))) (nI_add (16 * r2) j) ?_
          refine V_zald C hm2 (pk_in (16 * r2 + j) 48 (by omega)) dX3_level_103 ?_
          refine V_top (y := (S 2 (16 * r2 + j))) (by rw [nI_clamp (n := 16 * r2 + j) (by omega)]) ?_
          refine V_top (y := (bI (ap2 j))) (hV2.2.2.2.2.2.2 j hj) ?_
          refine V_ifb_eq C 132 dX3_level_104 (by decide) (fun q104 => ?_) (fun q104 => ?_)
          · refine V_iconst C 0 dX3_level_132 (by decide) ?_
            refine V_istore (L' := [some (.ref a), some (.int (nI r)), some (.int (nI r2)), none, some (.int (nI i)), some (.int 0), some (.int (nI j))]) C dX3_level_133 (by decide) rfl ?_
            refine V_iinc (v := (nI (j + 1))) (L' := [some (.ref a), some (.int (nI r)), some (.int (nI r2)), none, some (.int (nI i)), some (.int 0), some (.int (nI (j + 1)))]) C dX3_level_135 rfl (nI_1 _) (by decide) rfl ?_
            refine V_goto C 76 dX3_level_138 (by decide) ?_
            refine V_sub ?_ (ihj (by omega))
            repeat' (first | exact ls_e | refine ls_n ?_ | refine ls_s ?_ | refine ls_i ?_ ?_ | refine ls_v ?_ ?_)
            rw [anyI_s]
            first | (refine bt ?_; simp [*]; done) | (refine bf ?_; simp [*]; done)
          · refine V_aload_n C dX3_level_107 rfl rfl ?_
            refine V_bipush C 16 dX3_level_108 (by decide) ?_
            refine V_iload_n C dX3_level_110 rfl rfl ?_
            refine V_imul C dX3_level_111 ?_
            refine V_top (y := (nI (16 * r))) (pk_mul 16 r) ?_
            refine V_iload C dX3_level_112 rfl ?_
            refine V_iadd C dX3_level_114 ?_
            refine V_top (y := (nI (16 * r + i))) (nI_add (16 * r) i) ?_
            refine V_bipush C 16 dX3_level_115 (by decide) ?_
            refine V_iload_n C dX3_level_117 rfl rfl ?_
            refine V_imul C dX3_level_118 ?_
            refine V_top (y := (nI (16 * r2))) (pk_mul 16 r2) ?_
            refine V_iload C dX3_level_119 rfl ?_
            refine V_iadd C dX3_level_121 ?_
            refine V_top (y := (nI (16 * r2 + j))) (nI_add (16 * r2) j) ?_
            refine V_ofIe (VR_V (As := [.int (nI (16 * r + i)), .int (nI (16 * r2 + j))]) (rest := []) C (ct_X3_alike l G b M a ad S r n po ap hS hV r2 n2 po2 ap2 hV2 i j hi hj) hma rfl (lw_V q970 q972 qs23 q46 q973) rfl nd_X3_alike rfl (by decide) (by decide) dX3_level_122 rfl ⟨by decide, by decide⟩ (Nat.le_of_ble_eq_true rfl)) ?_
            refine V_ifb_eq C 132 dX3_level_125 (by decide) (fun q125 => ?_) (fun q125 => ?_)
            · refine V_iconst C 0 dX3_level_132 (by decide) ?_
              refine V_istore (L' := [some (.ref a), some (.int (nI r)), some (.int (nI r2)), none, some (.int (nI i)), some (.int 0), some (.int (nI j))]) C dX3_level_133 (by decide) rfl ?_
              refine V_iinc (v := (nI (j + 1))) (L' := [some (.ref a), some (.int (nI r)), some (.int (nI r2)), none, some (.int (nI i)), some (.int 0), some (.int (nI (j + 1)))]) C dX3_level_135 rfl (nI_1 _) (by decide) rfl ?_
              refine V_goto C 76 dX3_level_138 (by decide) ?_
              refine V_sub ?_ (ihj (by omega))
              repeat' (first | exact ls_e | refine ls_n ?_ | refine ls_s ?_ | refine ls_i ?_ ?_ | refine ls_v ?_ ?_)
              rw [anyI_s]
              first | (refine bt ?_; simp [*]; done) | (refine bf ?_; simp [*]; done)
            · refine V_iconst C 1 dX3_level_128 (by decide) ?_
              refine V_goto C 133 dX3_level_129 (by decide) ?_
              refine V_istore (L' := [some (.ref a), some (.int (nI r)), some (.int (nI r2)), none, some (.int (nI i)), some (.int 1), some (.int (nI j))]) C dX3_level_133 (by decide) rfl ?_
              refine V_iinc (v := (nI (j + 1))) (L' := [some (.ref a), some (.int (nI r)), some (.int (nI r2)), none, some (.int (nI i)), some (.int 1), some (.int (nI (j + 1)))]) C dX3_level_135 rfl (nI_1 _) (by decide) rfl ?_
              refine V_goto C 76 dX3_level_138 (by decide) ?_
              refine V_sub ?_ (ihj (by omega))
              repeat' (first | exact ls_e | refine ls_n ?_ | refine ls_s ?_ | refine ls_i ?_ ?_ | refine ls_v ?_ ?_)
              rw [anyI_s]
              first | (refine bt ?_; simp [*]; done) | (refine bf ?_; simp [*]; done)
    refine V_iload C dX3_level_40 rfl ?_
    refine V_aload_n C dX3_level_42 rfl rfl ?_
    refine V_get (C0 := RX3) (T := TX3) (N := 12) (ci := 3) C 1 in_X3 rfl hma (by decide) q822 (fun _ h9 => h9) rfl dX3_level_43 ?_
    refine V_iload_n C dX3_level_46 rfl rfl ?_
    refine V_iald C hm1 (pk_in r 3 (by omega)) dX3_level_47 ?_
    refine V_top (y := (S 1 r)) (by rw [nI_clamp (n := r) (by omega)]) ?_
    refine V_top (y := (nI n)) (hV.2.2.1) ?_
    refine V_nicmp_ge (x := i) (y := n) C 150 dX3_level_48 (by decide) (by omega) (by omega) (fun q48 => ?_) (fun q48 => ?_)
    · refine V_iload_n C dX3_level_150 rfl rfl ?_
      exact V_zret C (bI_nar _) dX3_level_151 (by decide) (by decide) ⟨_, rfl, by first | rw [← show i = n by omega] | rw [q52, lvK_f hi0 q52], rfl⟩
    · have hi : i < n := by omega
      refine V_iload_n C dX3_level_51 rfl rfl ?_
      refine V_ifb_eq C 150 dX3_level_52 (by decide) (fun q52 => ?_) (fun q52 => ?_)
      · refine V_iload_n C dX3_level_150 rfl rfl ?_
        exact V_zret C (bI_nar _) dX3_level_151 (by decide) (by decide) ⟨_, rfl, by first | rw [← show i = n by omega] | rw [q52, lvK_f hi0 q52], rfl⟩
      · refine V_aload_n C dX3_level_55 rfl rfl ?_
        refine V_get (C0 := RX3) (T := TX3) (N := 12) (ci := 3) C 2 in_X3 rfl hma (by decide) q823 (fun _ h9 => h9) rfl dX3_level_56 ?_
        refine V_bipush C 16 dX3_level_59 (by decide) ?_
        refine V_iload_n C dX3_level_61 rfl rfl ?_
        refine V_imul C dX3_level_62 ?_
        refine V_top (y := (nI (16 * r))) (pk_mul 16 r) ?_
        refine V_iload C dX3_level_63 rfl ?_
        refine V_iadd C dX3_level_65 ?_
        refine V_top (y := (nI (16 * r + i))) (nI_add (16 * r) i) ?_
        refine V_zald C hm2 (pk_in (16 * r + i) 48 (by omega)) dX3_level_66 ?_
        refine V_top (y := (S 2 (16 * r + i))) (by rw [nI_clamp (n := 16 * r + i) (by omega)]) ?_
        refine V_top (y := (bI (ap i))) (hV.2.2.2.2.2.2 i hi) ?_
        refine V_ifb_eq C 144 dX3_level_67 (by decide) (fun q67 => ?_) (fun q67 => ?_)
        · refine V_iinc (v := (nI (i + 1))) (L' := [some (.ref a), some (.int (nI r)), some (.int (nI r2)), some (.int (bI (lvK ap ap2 po po2 n2 (decide (od.length = od2.length)) i))), some (.int (nI (i + 1))), none, none]) C dX3_level_144 rfl (nI_1 _) (by decide) rfl ?_
          refine V_goto C 40 dX3_level_147 (by decide) ?_
          refine V_sub ?_ (ih (by omega))
          repeat' (first | exact ls_e | refine ls_n ?_ | refine ls_s ?_ | refine ls_i ?_ ?_ | refine ls_v ?_ ?_)
          rw [lvK_s, q52]
          unfold lvP
          rw [if_neg (bne2 q67)]
          rfl
        · refine V_iconst C 0 dX3_level_70 (by decide) ?_
          refine V_istore (L' := [some (.ref a), some (.int (nI r)), some (.int (nI r2)), some (.int (bI (lvK ap ap2 po po2 n2 (decide (od.length = od2.length)) i))), some (.int (nI i)), some (.int 0), none]) C dX3_level_71 (by decide) rfl ?_
          refine V_iconst C 0 dX3_level_73 (by decide) ?_
          refine V_istore (L' := [some (.ref a), some (.int (nI r)), some (.int (nI r2)), some (.int (bI (lvK ap ap2 po po2 n2 (decide (od.length = od2.length)) i))), some (.int (nI i)), some (.int 0), some (.int 0)]) C dX3_level_74 (by decide) rfl ?_
          refine V_sub ?_ (inner hi q52 q67 0 (Nat.zero_le _))
          repeat' (first | exact ls_e | refine ls_n ?_ | refine ls_s ?_ | refine ls_i ?_ ?_ | refine ls_v ?_ ?_)
  refine V_iload_n C dX3_level_0 rfl rfl ?_
  refine V_ofIe (VR_S (As := [.int (nI r)]) (rest := []) C (ct_X3_isReplica l G b M (nI r)) (lw_S q864 q865 q46 q866) nd_X3_isReplica rfl (by decide) (by decide) dX3_level_1 rfl ⟨by decide, by decide⟩ (Nat.le_of_ble_eq_true rfl)) ?_
  refine V_ifb_eq C 14 dX3_level_4 (by decide) (fun q4 => ?_) (fun q4 => ?_)
  · exact absurd (isRep_t hr) (by rw [q4]; decide)
  · refine V_iload_n C dX3_level_7 rfl rfl ?_
    refine V_ofIe (VR_S (As := [.int (nI r2)]) (rest := []) C (ct_X3_isReplica l G b M (nI r2)) (lw_S q864 q865 q46 q866) nd_X3_isReplica rfl (by decide) (by decide) dX3_level_8 rfl ⟨by decide, by decide⟩ (Nat.le_of_ble_eq_true rfl)) ?_
    refine V_ifb_ne C 16 dX3_level_11 (by decide) (fun q11 => ?_) (fun q11 => ?_)
    · refine V_aload_n C dX3_level_16 rfl rfl ?_
      refine V_get (C0 := RX3) (T := TX3) (N := 12) (ci := 3) C 4 in_X3 rfl hma (by decide) q825 (fun _ h9 => h9) rfl dX3_level_17 ?_
      refine V_iload_n C dX3_level_20 rfl rfl ?_
      refine V_iald C hm4 (pk_in r 3 (by omega)) dX3_level_21 ?_
      refine V_top (y := (S 4 r)) (by rw [nI_clamp (n := r) (by omega)]) ?_
      refine V_top (y := (nI od.length)) (hO.1) ?_
      refine V_aload_n C dX3_level_22 rfl rfl ?_
      refine V_get (C0 := RX3) (T := TX3) (N := 12) (ci := 3) C 4 in_X3 rfl hma (by decide) q825 (fun _ h9 => h9) rfl dX3_level_23 ?_
      refine V_iload_n C dX3_level_26 rfl rfl ?_
      refine V_iald C hm4 (pk_in r2 3 (by omega)) dX3_level_27 ?_
      refine V_top (y := (S 4 r2)) (by rw [nI_clamp (n := r2) (by omega)]) ?_
      refine V_top (y := (nI od2.length)) (hO2.1) ?_
      refine V_nicmp_ne (x := od.length) (y := od2.length) C 35 dX3_level_28 (by decide) (by omega) (by omega) (fun q28 => ?_) (fun q28 => ?_)
      · refine V_iconst C 0 dX3_level_35 (by decide) ?_
        refine V_istore_n (L' := [some (.ref a), some (.int (nI r)), some (.int (nI r2)), some (.int 0), none, none, none]) C dX3_level_36 rfl (by decide) rfl ?_
        refine V_iconst C 0 dX3_level_37 (by decide) ?_
        refine V_istore (L' := [some (.ref a), some (.int (nI r)), some (.int (nI r2)), some (.int 0), some (.int 0), none, none]) C dX3_level_38 (by decide) rfl ?_
        refine V_sub ?_ (loop 0 (Nat.zero_le _))
        repeat' (first | exact ls_e | refine ls_n ?_ | refine ls_s ?_ | refine ls_i ?_ ?_ | refine ls_v ?_ ?_)
        first | rfl | (refine bt ?_; unfold lvK; simp [*, allI]; done) | (refine bf ?_; unfold lvK; simp [*, allI]; done)
      · refine V_iconst C 1 dX3_level_31 (by decide) ?_
        refine V_goto C 36 dX3_level_32 (by decide) ?_
        refine V_istore_n (L' := [some (.ref a), some (.int (nI r)), some (.int (nI r2)), some (.int 1), none, none, none]) C dX3_level_36 rfl (by decide) rfl ?_
        refine V_iconst C 0 dX3_level_37 (by decide) ?_
        refine V_istore (L' := [some (.ref a), some (.int (nI r)), some (.int (nI r2)), some (.int 1), some (.int 0), none, none]) C dX3_level_38 (by decide) rfl ?_
        refine V_sub ?_ (loop 0 (Nat.zero_le _))
        repeat' (first | exact ls_e | refine ls_n ?_ | refine ls_s ?_ | refine ls_i ?_ ?_ | refine ls_v ?_ ?_)
        first | rfl | (refine bt ?_; unfold lvK; simp [*, allI]; done) | (refine bf ?_; unfold lvK; simp [*, allI]; done)
    · exact absurd (isRep_t hr2) (by rw [q11]; decide)
theorem ct_X3_init (l : Launch) (G : mp_G) (b : Nat) (M : mp_M) (a : Nat) (ha : M a = some ((9, 0, 0), .inr (3, [.null, .null, .null, .null, .null, .null, .int 0, .int 0, .null, .null, .null, .null]))) : Ct l yX3_init cX3_init 1 (none) 1 10 1000 G b ([.ref a] : List Value) M (pV (fun M1 => (∃ ad, MdAt G M1 a ad (fun _ _ => 0)) ∧ ExtB a M M1)) := by
  refine Ct.ofV (by decide) (vc_ref vc_nil) (Nat.le_of_ble_eq_true rfl) ?_
  intro p e s m below meth c C hnm
  refine V_L (L1 := [some (.ref a)]) rfl ?_
  refine V_aload_n C dX3_init_0 rfl rfl ?_
  refine V_objInit C q820 q64 q65 dX3_init_1 (by decide) (Nat.le_of_ble_eq_true rfl) ?_
  refine V_aload_n C dX3_init_4 rfl rfl ?_
  refine V_sipush C 576 dX3_init_5 (by decide) ?_
  refine V_newa (atype := .int) (ti := 0) C 576 (9, 1, 0) q858 rfl rfl rfl (by decide) (by decide) (by decide) (by first | decide | omega | (dsimp only [rmOf]; omega)) (by first | decide | omega | (dsimp only [rmOf]; omega)) dX3_init_8 (fun w0 hw0 => V_N (fun N0 f0 => ?_))
  have h__1 := mp_keepN f0 ha hw0
  have h__2 := mp_got f0
  refine V_M (V_put (host := "") (C0 := RX3) (T := TX3) (N := 12) (ci := 3) (fs' := [.ref w0, .null, .null, .null, .null, .null, .int 0, .int 0, .null, .null, .null, .null]) C 0 in_X3 tyX3 tyX3_ok nmX3 rfl h__1 (by decide) q821 (fun _ h9 => h9) rfl rfl rfl rfl (Nat.le_of_ble_eq_true rfl) rfl dX3_init_10) (fun P0 g0 => ?_)
  have h__3 := mp_got g0
  have h__4 := mp_keep g0 h__2 h__1 (by first | assumption | exact Ne.symm (by assumption) | simp | (intro h; simp at h; omega))
  refine V_aload_n C dX3_init_13 rfl rfl ?_
  refine V_iconst C 3 dX3_init_14 (by decide) ?_
  refine V_newa (atype := .int) (ti := 0) C 3 (9, 2, 0) q858 rfl rfl rfl (by decide) (by decide) (by decide) (by first | decide | omega | (dsimp only [rmOf]; omega)) (by first | decide | omega | (dsimp only [rmOf]; omega)) dX3_init_15 (fun w1 hw1 => V_N (fun N1 f1 => ?_))
  have h__5 := mp_keepN f1 h__3 hw1
  have h__6 := mp_keepN f1 h__4 hw1
  have h__7 := mp_got f1
  refine V_M (V_put (host := "") (C0 := RX3) (T := TX3) (N := 12) (ci := 3) (fs' := [.ref w0, .ref w1, .null, .null, .null, .null, .int 0, .int 0, .null, .null, .null, .null]) C 1 in_X3 tyX3 tyX3_ok nmX3 rfl h__5 (by decide) q822 (fun _ h9 => h9) rfl rfl rfl rfl (Nat.le_of_ble_eq_true rfl) rfl dX3_init_17) (fun P1 g1 => ?_)
  have h__8 := mp_got g1
  have h__9 := mp_keep g1 h__6 h__5 (by first | assumption | exact Ne.symm (by assumption) | simp | (intro h; simp at h; omega))
  have h__10 := mp_keep g1 h__7 h__5 (by first | assumption | exact Ne.symm (by assumption) | simp | (intro h; simp at h; omega))
  refine V_aload_n C dX3_init_20 rfl rfl ?_
  refine V_bipush C 48 dX3_init_21 (by decide) ?_
  refine V_newa (atype := .boolean) (ti := 1) C 48 (9, 3, 0) q859 rfl rfl rfl (by decide) (by decide) (by decide) (by first | decide | omega | (dsimp only [rmOf]; omega)) (by first | decide | omega | (dsimp only [rmOf]; omega)) dX3_init_23 (fun w2 hw2 => V_N (fun N2 f2 => ?_))
  have h__11 := mp_keepN f2 h__8 hw2
  have h__12 := mp_keepN f2 h__9 hw2
  have h__13 := mp_keepN f2 h__10 hw2
  have h__14 := mp_got f2
  refine V_M (V_put (host := "") (C0 := RX3) (T := TX3) (N := 12) (ci := 3) (fs' := [.ref w0, .ref w1, .ref w2, .null, .null, .null, .int 0, .int 0, .null, .null, .null, .null]) C 2 in_X3 tyX3 tyX3_ok nmX3 rfl h__11 (by decide) q823 (fun _ h9 => h9) rfl rfl rfl rfl (Nat.le_of_ble_eq_true rfl) rfl dX3_init_25) (fun P2 g2 => ?_)
  have h__15 := mp_got g2
  have h__16 := mp_keep g2 h__12 h__11 (by first | assumption | exact Ne.symm (by assumption) | simp | (intro h; simp at h; omega))
  have h__17 := mp_keep g2 h__13 h__11 (by first | assumption | exact Ne.symm (by assumption) | simp | (intro h; simp at h; omega))
  have h__18 := mp_keep g2 h__14 h__11 (by first | assumption | exact Ne.symm (by assumption) | simp | (intro h; simp at h; omega))
  refine V_aload_n C dX3_init_28 rfl rfl ?_
  refine V_bipush C 48 dX3_init_29 (by decide) ?_
  refine V_newa (atype := .int) (ti := 0) C 48 (9, 4, 0) q858 rfl rfl rfl (by decide) (by decide) (by decide) (by first | decide | omega | (dsimp only [rmOf]; omega)) (by first | decide | omega | (dsimp only [rmOf]; omega)) dX3_init_31 (fun w3 hw3 => V_N (fun N3 f3 => ?_))
  have h__19 := mp_keepN f3 h__15 hw3
  have h__20 := mp_keepN f3 h__16 hw3
  have h__21 := mp_keepN f3 h__17 hw3
  have h__22 := mp_keepN f3 h__18 hw3
  have h__23 := mp_got f3
  refine V_M (V_put (host := "") (C0 := RX3) (T := TX3) (N := 12) (ci := 3) (fs' := [.ref w0, .ref w1, .ref w2, .ref w3, .null, .null, .int 0, .int 0, .null, .null, .null, .null]) C 3 in_X3 tyX3 tyX3_ok nmX3 rfl h__19 (by decide) q824 (fun _ h9 => h9) rfl rfl rfl rfl (Nat.le_of_ble_eq_true rfl) rfl dX3_init_33) (fun P3 g3 => ?_)
  have h__24 := mp_got g3
  have h__25 := mp_keep g3 h__20 h__19 (by first | assumption | exact Ne.symm (by assumption) | simp | (intro h; simp at h; omega))
  have h__26 := mp_keep g3 h__21 h__19 (by first | assumption | exact Ne.symm (by assumption) | simp | (intro h; simp at h; omega))
  have h__27 := mp_keep g3 h__22 h__19 (by first | assumption | exact Ne.symm (by assumption) | simp | (intro h; simp at h; omega))
  have h__28 := mp_keep g3 h__23 h__19 (by first | assumption | exact Ne.symm (by assumption) | simp | (intro h; simp at h; omega))
  refine V_aload_n C dX3_init_36 rfl rfl ?_
  refine V_iconst C 3 dX3_init_37 (by decide) ?_
  refine V_newa (atype := .int) (ti := 0) C 3 (9, 5, 0) q858 rfl rfl rfl (by decide) (by decide) (by decide) (by first | decide | omega | (dsimp only [rmOf]; omega)) (by first | decide | omega | (dsimp only [rmOf]; omega)) dX3_init_38 (fun w4 hw4 => V_N (fun N4 f4 => ?_))
  have h__29 := mp_keepN f4 h__24 hw4
  have h__30 := mp_keepN f4 h__25 hw4
  have h__31 := mp_keepN f4 h__26 hw4
  have h__32 := mp_keepN f4 h__27 hw4
  have h__33 := mp_keepN f4 h__28 hw4
  have h__34 := mp_got f4
  refine V_M (V_put (host := "") (C0 := RX3) (T := TX3) (N := 12) (ci := 3) (fs' := [.ref w0, .ref w1, .ref w2, .ref w3, .ref w4, .null, .int 0, .int 0, .null, .null, .null, .null]) C 4 in_X3 tyX3 tyX3_ok nmX3 rfl h__29 (by decide) q825 (fun _ h9 => h9) rfl rfl rfl rfl (Nat.le_of_ble_eq_true rfl) rfl dX3_init_40) (fun P4 g4 => ?_)
  have h__35 := mp_got g4
  have h__36 := mp_keep g4 h__30 h__29 (by first | assumption | exact Ne.symm (by assumption) | simp | (intro h; simp at h; omega))
  have h__37 := mp_keep g4 h__31 h__29 (by first | assumption | exact Ne.symm (by assumption) | simp | (intro h; simp at h; omega))
  have h__38 := mp_keep g4 h__32 h__29 (by first | assumption | exact Ne.symm (by assumption) | simp | (intro h; simp at h; omega))
  have h__39 := mp_keep g4 h__33 h__29 (by first | assumption | exact Ne.symm (by assumption) | simp | (intro h; simp at h; omega))
  have h__40 := mp_keep g4 h__34 h__29 (by first | assumption | exact Ne.symm (by assumption) | simp | (intro h; simp at h; omega))
  refine V_aload_n C dX3_init_43 rfl rfl ?_
  refine V_bipush C 16 dX3_init_44 (by decide) ?_
  refine V_newa (atype := .int) (ti := 0) C 16 (9, 6, 0) q858 rfl rfl rfl (by decide) (by decide) (by decide) (by first | decide | omega | (dsimp only [rmOf]; omega)) (by first | decide | omega | (dsimp only [rmOf]; omega)) dX3_init_46 (fun w5 hw5 => V_N (fun N5 f5 => ?_))
  have h__41 := mp_keepN f5 h__35 hw5
  have h__42 := mp_keepN f5 h__36 hw5
  have h__43 := mp_keepN f5 h__37 hw5
  have h__44 := mp_keepN f5 h__38 hw5
  have h__45 := mp_keepN f5 h__39 hw5
  have h__46 := mp_keepN f5 h__40 hw5
  have h__47 := mp_got f5
  refine V_M (V_put (host := "") (C0 := RX3) (T := TX3) (N := 12) (ci := 3) (fs' := [.ref w0, .ref w1, .ref w2, .ref w3, .ref w4, .ref w5, .int 0, .int 0, .null, .null, .null, .null]) C 5 in_X3 tyX3 tyX3_ok nmX3 rfl h__41 (by decide) q826 (fun _ h9 => h9) rfl rfl rfl rfl (Nat.le_of_ble_eq_true rfl) rfl dX3_init_48) (fun P5 g5 => ?_)
  have h__48 := mp_got g5
  have h__49 := mp_keep g5 h__42 h__41 (by first | assumption | exact Ne.symm (by assumption) | simp | (intro h; simp at h; omega))
  have h__50 := mp_keep g5 h__43 h__41 (by first | assumption | exact Ne.symm (by assumption) | simp | (intro h; simp at h; omega))
  have h__51 := mp_keep g5 h__44 h__41 (by first | assumption | exact Ne.symm (by assumption) | simp | (intro h; simp at h; omega))
  have h__52 := mp_keep g5 h__45 h__41 (by first | assumption | exact Ne.symm (by assumption) | simp | (intro h; simp at h; omega))
  have h__53 := mp_keep g5 h__46 h__41 (by first | assumption | exact Ne.symm (by assumption) | simp | (intro h; simp at h; omega))
  have h__54 := mp_keep g5 h__47 h__41 (by first | assumption | exact Ne.symm (by assumption) | simp | (intro h; simp at h; omega))
  refine V_aload_n C dX3_init_51 rfl rfl ?_
  refine V_bipush C 16 dX3_init_52 (by decide) ?_
  refine V_newa (atype := .boolean) (ti := 1) C 16 (9, 9, 0) q859 rfl rfl rfl (by decide) (by decide) (by decide) (by first | decide | omega | (dsimp only [rmOf]; omega)) (by first | decide | omega | (dsimp only [rmOf]; omega)) dX3_init_54 (fun w8 hw8 => V_N (fun N8 f8 => ?_))
  have h__55 := mp_keepN f8 h__48 hw8
  have h__56 := mp_keepN f8 h__49 hw8
  have h__57 := mp_keepN f8 h__50 hw8
  have h__58 := mp_keepN f8 h__51 hw8
  have h__59 := mp_keepN f8 h__52 hw8
  have h__60 := mp_keepN f8 h__53 hw8
  have h__61 := mp_keepN f8 h__54 hw8
  have h__62 := mp_got f8
  refine V_M (V_put (host := "") (C0 := RX3) (T := TX3) (N := 12) (ci := 3) (fs' := [.ref w0, .ref w1, .ref w2, .ref w3, .ref w4, .ref w5, .int 0, .int 0, .ref w8, .null, .null, .null]) C 8 in_X3 tyX3 tyX3_ok nmX3 rfl h__55 (by decide) q829 (fun _ h9 => h9) rfl rfl rfl rfl (Nat.le_of_ble_eq_true rfl) rfl dX3_init_56) (fun P8 g8 => ?_)
  have h__63 := mp_got g8
  have h__64 := mp_keep g8 h__56 h__55 (by first | assumption | exact Ne.symm (by assumption) | simp | (intro h; simp at h; omega))
  have h__65 := mp_keep g8 h__57 h__55 (by first | assumption | exact Ne.symm (by assumption) | simp | (intro h; simp at h; omega))
  have h__66 := mp_keep g8 h__58 h__55 (by first | assumption | exact Ne.symm (by assumption) | simp | (intro h; simp at h; omega))
  have h__67 := mp_keep g8 h__59 h__55 (by first | assumption | exact Ne.symm (by assumption) | simp | (intro h; simp at h; omega))
  have h__68 := mp_keep g8 h__60 h__55 (by first | assumption | exact Ne.symm (by assumption) | simp | (intro h; simp at h; omega))
  have h__69 := mp_keep g8 h__61 h__55 (by first | assumption | exact Ne.symm (by assumption) | simp | (intro h; simp at h; omega))
  have h__70 := mp_keep g8 h__62 h__55 (by first | assumption | exact Ne.symm (by assumption) | simp | (intro h; simp at h; omega))
  refine V_aload_n C dX3_init_59 rfl rfl ?_
  refine V_bipush C 16 dX3_init_60 (by decide) ?_
  refine V_newa (atype := .int) (ti := 0) C 16 (9, 10, 0) q858 rfl rfl rfl (by decide) (by decide) (by decide) (by first | decide | omega | (dsimp only [rmOf]; omega)) (by first | decide | omega | (dsimp only [rmOf]; omega)) dX3_init_62 (fun w9 hw9 => V_N (fun N9 f9 => ?_))
  have h__71 := mp_keepN f9 h__63 hw9
  have h__72 := mp_keepN f9 h__64 hw9
  have h__73 := mp_keepN f9 h__65 hw9
  have h__74 := mp_keepN f9 h__66 hw9
  have h__75 := mp_keepN f9 h__67 hw9
  have h__76 := mp_keepN f9 h__68 hw9
  have h__77 := mp_keepN f9 h__69 hw9
  have h__78 := mp_keepN f9 h__70 hw9
  have h__79 := mp_got f9
  refine V_M (V_put (host := "") (C0 := RX3) (T := TX3) (N := 12) (ci := 3) (fs' := [.ref w0, .ref w1, .ref w2, .ref w3, .ref w4, .ref w5, .int 0, .int 0, .ref w8, .ref w9, .null, .null]) C 9 in_X3 tyX3 tyX3_ok nmX3 rfl h__71 (by decide) q830 (fun _ h9 => h9) rfl rfl rfl rfl (Nat.le_of_ble_eq_true rfl) rfl dX3_init_64) (fun P9 g9 => ?_)
  have h__80 := mp_got g9
  have h__81 := mp_keep g9 h__72 h__71 (by first | assumption | exact Ne.symm (by assumption) | simp | (intro h; simp at h; omega))
  have h__82 := mp_keep g9 h__73 h__71 (by first | assumption | exact Ne.symm (by assumption) | simp | (intro h; simp at h; omega))
  have h__83 := mp_keep g9 h__74 h__71 (by first | assumption | exact Ne.symm (by assumption) | simp | (intro h; simp at h; omega))
  have h__84 := mp_keep g9 h__75 h__71 (by first | assumption | exact Ne.symm (by assumption) | simp | (intro h; simp at h; omega))
  have h__85 := mp_keep g9 h__76 h__71 (by first | assumption | exact Ne.symm (by assumption) | simp | (intro h; simp at h; omega))
  have h__86 := mp_keep g9 h__77 h__71 (by first | assumption | exact Ne.symm (by assumption) | simp | (intro h; simp at h; omega))
  have h__87 := mp_keep g9 h__78 h__71 (by first | assumption | exact Ne.symm (by assumption) | simp | (intro h; simp at h; omega))
  have h__88 := mp_keep g9 h__79 h__71 (by first | assumption | exact Ne.symm (by assumption) | simp | (intro h; simp at h; omega))
  refine V_aload_n C dX3_init_67 rfl rfl ?_
  refine V_bipush C 16 dX3_init_68 (by decide) ?_
  refine V_newa (atype := .int) (ti := 0) C 16 (9, 11, 0) q858 rfl rfl rfl (by decide) (by decide) (by decide) (by first | decide | omega | (dsimp only [rmOf]; omega)) (by first | decide | omega | (dsimp only [rmOf]; omega)) dX3_init_70 (fun w10 hw10 => V_N (fun N10 f10 => ?_))
  have h__89 := mp_keepN f10 h__80 hw10
  have h__90 := mp_keepN f10 h__81 hw10
  have h__91 := mp_keepN f10 h__82 hw10
  have h__92 := mp_keepN f10 h__83 hw10
  have h__93 := mp_keepN f10 h__84 hw10
  have h__94 := mp_keepN f10 h__85 hw10
  have h__95 := mp_keepN f10 h__86 hw10
  have h__96 := mp_keepN f10 h__87 hw10
  have h__97 := mp_keepN f10 h__88 hw10
  have h__98 := mp_got f10
  refine V_M (V_put (host := "") (C0 := RX3) (T := TX3) (N := 12) (ci := 3) (fs' := [.ref w0, .ref w1, .ref w2, .ref w3, .ref w4, .ref w5, .int 0, .int 0, .ref w8, .ref w9, .ref w10, .null]) C 10 in_X3 tyX3 tyX3_ok nmX3 rfl h__89 (by decide) q831 (fun _ h9 => h9) rfl rfl rfl rfl (Nat.le_of_ble_eq_true rfl) rfl dX3_init_72) (fun P10 g10 => ?_)
  have h__99 := mp_got g10
  have h__100 := mp_keep g10 h__90 h__89 (by first | assumption | exact Ne.symm (by assumption) | simp | (intro h; simp at h; omega))
  have h__101 := mp_keep g10 h__91 h__89 (by first | assumption | exact Ne.symm (by assumption) | simp | (intro h; simp at h; omega))
  have h__102 := mp_keep g10 h__92 h__89 (by first | assumption | exact Ne.symm (by assumption) | simp | (intro h; simp at h; omega))
  have h__103 := mp_keep g10 h__93 h__89 (by first | assumption | exact Ne.symm (by assumption) | simp | (intro h; simp at h; omega))
  have h__104 := mp_keep g10 h__94 h__89 (by first | assumption | exact Ne.symm (by assumption) | simp | (intro h; simp at h; omega))
  have h__105 := mp_keep g10 h__95 h__89 (by first | assumption | exact Ne.symm (by assumption) | simp | (intro h; simp at h; omega))
  have h__106 := mp_keep g10 h__96 h__89 (by first | assumption | exact Ne.symm (by assumption) | simp | (intro h; simp at h; omega))
  have h__107 := mp_keep g10 h__97 h__89 (by first | assumption | exact Ne.symm (by assumption) | simp | (intro h; simp at h; omega))
  have h__108 := mp_keep g10 h__98 h__89 (by first | assumption | exact Ne.symm (by assumption) | simp | (intro h; simp at h; omega))
  refine V_aload_n C dX3_init_75 rfl rfl ?_
  refine V_bipush C 24 dX3_init_76 (by decide) ?_
  refine V_newa (atype := .int) (ti := 0) C 24 (9, 12, 0) q858 rfl rfl rfl (by decide) (by decide) (by decide) (by first | decide | omega | (dsimp only [rmOf]; omega)) (by first | decide | omega | (dsimp only [rmOf]; omega)) dX3_init_78 (fun w11 hw11 => V_N (fun N11 f11 => ?_))
  have h__109 := mp_keepN f11 h__99 hw11
  have h__110 := mp_keepN f11 h__100 hw11
  have h__111 := mp_keepN f11 h__101 hw11
  have h__112 := mp_keepN f11 h__102 hw11
  have h__113 := mp_keepN f11 h__103 hw11
  have h__114 := mp_keepN f11 h__104 hw11
  have h__115 := mp_keepN f11 h__105 hw11
  have h__116 := mp_keepN f11 h__106 hw11
  have h__117 := mp_keepN f11 h__107 hw11
  have h__118 := mp_keepN f11 h__108 hw11
  have h__119 := mp_got f11
  refine V_M (V_put (host := "") (C0 := RX3) (T := TX3) (N := 12) (ci := 3) (fs' := [.ref w0, .ref w1, .ref w2, .ref w3, .ref w4, .ref w5, .int 0, .int 0, .ref w8, .ref w9, .ref w10, .ref w11]) C 11 in_X3 tyX3 tyX3_ok nmX3 rfl h__109 (by decide) q832 (fun _ h9 => h9) rfl rfl rfl rfl (Nat.le_of_ble_eq_true rfl) rfl dX3_init_80) (fun P11 g11 => ?_)
  have h__120 := mp_got g11
  have h__121 := mp_keep g11 h__110 h__109 (by first | assumption | exact Ne.symm (by assumption) | simp | (intro h; simp at h; omega))
  have h__122 := mp_keep g11 h__111 h__109 (by first | assumption | exact Ne.symm (by assumption) | simp | (intro h; simp at h; omega))
  have h__123 := mp_keep g11 h__112 h__109 (by first | assumption | exact Ne.symm (by assumption) | simp | (intro h; simp at h; omega))
  have h__124 := mp_keep g11 h__113 h__109 (by first | assumption | exact Ne.symm (by assumption) | simp | (intro h; simp at h; omega))
  have h__125 := mp_keep g11 h__114 h__109 (by first | assumption | exact Ne.symm (by assumption) | simp | (intro h; simp at h; omega))
  have h__126 := mp_keep g11 h__115 h__109 (by first | assumption | exact Ne.symm (by assumption) | simp | (intro h; simp at h; omega))
  have h__127 := mp_keep g11 h__116 h__109 (by first | assumption | exact Ne.symm (by assumption) | simp | (intro h; simp at h; omega))
  have h__128 := mp_keep g11 h__117 h__109 (by first | assumption | exact Ne.symm (by assumption) | simp | (intro h; simp at h; omega))
  have h__129 := mp_keep g11 h__118 h__109 (by first | assumption | exact Ne.symm (by assumption) | simp | (intro h; simp at h; omega))
  have h__130 := mp_keep g11 h__119 h__109 (by first | assumption | exact Ne.symm (by assumption) | simp | (intro h; simp at h; omega))
  refine V_vret C dX3_init_83 (by decide) (by decide) ⟨rfl, ⟨fun k => if k = 0 then w0 else if k = 1 then w1 else if k = 2 then w2 else if k = 3 then w3 else if k = 4 then w4 else if k = 5 then w5 else if k = 8 then w8 else if k = 9 then w9 else if k = 10 then w10 else w11, ?_⟩, ?_⟩
  · exact ⟨h__120, h__121, h__122, h__123, h__124, h__125, h__126, h__127, h__128, h__129, h__130⟩
  · exact (Ext.new f0 hw0).b.tr ((ExtB.up g0).tr ((Ext.new f1 hw1).b.tr ((ExtB.up g1).tr ((Ext.new f2 hw2).b.tr ((ExtB.up g2).tr ((Ext.new f3 hw3).b.tr ((ExtB.up g3).tr ((Ext.new f4 hw4).b.tr ((ExtB.up g4).tr ((Ext.new f5 hw5).b.tr ((ExtB.up g5).tr ((Ext.new f8 hw8).b.tr ((ExtB.up g8).tr ((Ext.new f9 hw9).b.tr ((ExtB.up g9).tr ((Ext.new f10 hw10).b.tr ((ExtB.up g10).tr ((Ext.new f11 hw11).b.tr ((ExtB.up g11))))))))))))))))))))

