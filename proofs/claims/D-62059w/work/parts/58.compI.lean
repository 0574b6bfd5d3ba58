set_option maxRecDepth 100000
/-! THE COMPONENT, I: sums, where an item stands -/
theorem nd_N_sum : yN_sum.cls ≠ "java/lang/invoke/MethodHandle" ∧ yN_sum.cls ≠ "java/lang/invoke/VarHandle" ∧ (parseMethodDescriptor yN_sum.desc).map (fun d => d.parameters.length) = some 1 := by decide +kernel
theorem nd_N_maker : yN_maker.cls ≠ "java/lang/invoke/MethodHandle" ∧ yN_maker.cls ≠ "java/lang/invoke/VarHandle" ∧ (parseMethodDescriptor yN_maker.desc).map (fun d => d.parameters.length) = some 0 := by decide +kernel
def csL (lo : Nat → List Nat) (sh : Nat → Bool) (s : Int32) (k : Nat) : Int32 := if sh k = true then 31 * s + nI (128 * oB (lo k) 0) + nI (oB (lo k) 4) else s
theorem fold_take {β : Type} {f : β → Nat → β} {x : β} {L : List Nat} {i k : Nat} (h : L[i]? = some k) : (L.take (i + 1)).foldl f x = f ((L.take i).foldl f x) k := by
  rw [List.take_add_one, h, List.foldl_append]
  rfl
theorem ct_X6_sum (l : Launch) (G : mp_G) (b : Nat) (M : mp_M) (g a ln : Nat) (lo : Nat → List Nat) (P : Nat → Int32) (hi : Nat → Option Nat) (sh fo : Nat → Bool) (ch : Nat → Nat → List Nat) (nx : Nat → Option Nat) (wt : List (List Nat)) (A : Nat → Nat → Nat) (wo : List Nat) (hR : RepAt G M g a ln lo P hi sh fo ch nx wt A wo) (m0 : Nat) (dp : Int32) (hm0 : m0 ≤ ln) (hls : isLst lo m0) : Ct l yX6_sum cX6_sum 4 (some .int) 5 0 0 G b ([.ref (A 2 m0), .int dp] : List Value) M (pI (fun y M1 => y = (ch m0 0).foldl (csL lo sh) 11 ∧ M1 = M)) := by
  obtain ⟨L, hL⟩ : ∃ L, L = ch m0 0 := ⟨_, rfl⟩
  obtain ⟨r1, r2, r3, r4, r5, r6, r7, r8, r9, r10, r11⟩ := id hR
  have rb := r10.2.2.1
  have hC := r9 m0 0 hm0 (Or.inr ⟨hls, rfl⟩)
  rw [← hL] at hC
  have hnd := r8 m0 hm0 hls
  rw [← hL] at hnd
  refine Ct.ofV (by decide) (vc_ref (vc_int vc_nil)) (Nat.le_of_ble_eq_true rfl) ?_
  intro p e s m below meth c C hnm
  refine V_L (L1 := [some (.ref (A 2 m0)), some (.int dp), none, none]) rfl ?_
  have loop : ∀ i, i ≤ L.length → V p l e (rmOf 5 0 0) s m ([.ref (A 2 m0), .int dp] : List Value).toArray below meth c (MQ below (Qp G b (pI (fun y M1 => y = (ch m0 0).foldl (csL lo sh) 11 ∧ M1 = M))) ([.ref (A 2 m0), .int dp] : List Value).toArray s 0 0 (fun q => b ≤ q)) G b 4 0 0 8 [some (.ref (A 2 m0)), some (.int dp), some (.int ((L.take i).foldl (csL lo sh) 11)), some (va_rf ((L[i]?).map (A 0)))] [] M := by
    refine up_ind L.length ?_
    intro i hil ih
    generalize hs1 : (L.take i).foldl (csL lo sh) 11 = s1 at ih ⊢
    rcases hLi : L[i]? with _ | k
    · skip
      refine V_L (L1 := [some (.ref (A 2 m0)), some (.int dp), some (.int s1), some (.null)]) rfl ?_
      refine V_aload_nq (o := none) C dX6_sum_8 rfl rfl ?_
      refine V_ifnull_N C 52 dX6_sum_9 (by decide) ?_
      refine V_iload_n C dX6_sum_52 rfl rfl ?_
      exact V_iret C dX6_sum_53 (by decide) (by decide) ⟨_, rfl, by have := List.getElem?_eq_none_iff.mp hLi; rw [← hs1, ← hL, List.take_of_length_le (by omega)], rfl⟩
    · obtain ⟨hkl, -, -, hnk⟩ := hC.2 i k hLi
      have hit := it_nx (r5 k hkl) hnk rfl
      obtain ⟨sak, sik, hopk, -⟩ := r6 k hkl
      refine V_L (L1 := [some (.ref (A 2 m0)), some (.int dp), some (.int s1), some (.ref (A 0 k))]) rfl ?_
      refine V_aload_n C dX6_sum_8 rfl rfl ?_
      refine V_ifnull_R C dX6_sum_9 ?_
      refine V_aload_n C dX6_sum_12 rfl rfl ?_
      refine V_getN (C0 := RX5) (T := TX5) (N := 8) (ci := 5) C 5 in_X5 rfl hit (by decide) ev490 (fun _ h9 => h9) rfl dX6_sum_13 ?_
      refine V_ifb_eq C 44 dX6_sum_16 (by decide) (fun k16 => ?_) (fun k16 => ?_)
      · refine V_aload_n C dX6_sum_44 rfl rfl ?_
        refine V_getN (C0 := RX5) (T := TX5) (N := 8) (ci := 5) C 7 in_X5 rfl hit (by decide) ev495 (fun _ h9 => h9) rfl dX6_sum_45 ?_
        refine V_astore_nq (L' := [some (.ref (A 2 m0)), some (.int dp), some (.int s1), some (va_rf ((L[i + 1]?).map (A 0)))]) C dX6_sum_48 rfl (by decide) rfl ?_
        refine V_goto C 8 dX6_sum_49 (by decide) ?_
        refine V_sub ?_ (ih (by have := (List.getElem?_eq_some_iff.mp hLi).1; omega))
        repeat' (first | exact ls_e | refine ls_n ?_ | refine ls_s ?_ | refine ls_i ?_ ?_ | refine ls_v ?_ ?_)
        rw [fold_take hLi, hs1]
        unfold csL
        first | rw [if_pos k16] | rw [if_neg (bne2 k16)]
      · refine V_bipush C 31 dX6_sum_19 (by decide) ?_
        refine V_iload_n C dX6_sum_21 rfl rfl ?_
        refine V_imul C dX6_sum_22 ?_
        refine V_sipush C 128 dX6_sum_23 (by decide) ?_
        refine V_aload_n C dX6_sum_26 rfl rfl ?_
        refine V_getN (C0 := RX5) (T := TX5) (N := 8) (ci := 5) C 0 in_X5 rfl hit (by decide) ev475 (fun _ h9 => h9) rfl dX6_sum_27 ?_
        refine V_ofIe (VR_V (As := []) (rest := [.int 128, .int (31 * s1)]) C (ct_X4_id l G b M g (A 1 k) (lo k) (r6 k (by omega)) (rb k (by omega))) hopk rfl (lw_V q587 q224 q225 q55 q226) rfl nd_X4_id rfl (by decide) (by decide) dX6_sum_30 rfl ⟨by decide, by decide⟩ (Nat.le_of_ble_eq_true rfl)) ?_
        refine V_imul C dX6_sum_33 ?_
        refine V_top (y := (nI (128 * (oB (lo k) 0)))) (pk_mul 128 (oB (lo k) 0)) ?_
        refine V_iadd C dX6_sum_34 ?_
        refine V_aload_n C dX6_sum_35 rfl rfl ?_
        refine V_getN (C0 := RX5) (T := TX5) (N := 8) (ci := 5) C 0 in_X5 rfl hit (by decide) ev475 (fun _ h9 => h9) rfl dX6_sum_36 ?_
        refine V_ofIe (VR_V (As := []) (rest := [.int ((31 * s1) + (nI (128 * (oB (lo k) 0))))]) C (ct_X4_value l G b M g (A 1 k) (lo k) (r6 k (by omega)) (rb k (by omega))) hopk rfl (lw_V q799 q755 q756 q55 q757) rfl nd_X4_value rfl (by decide) (by decide) dX6_sum_39 rfl ⟨by decide, by decide⟩ (Nat.le_of_ble_eq_true rfl)) ?_
        refine V_iadd C dX6_sum_42 ?_
        refine V_istore_n (L' := [some (.ref (A 2 m0)), some (.int dp), some (.int (((31 * s1) + (nI (128 * (oB (lo k) 0)))) + (nI (oB (lo k) 4)))), some (.ref (A 0 k))]) C dX6_sum_43 rfl (by decide) rfl ?_
        refine V_aload_n C dX6_sum_44 rfl rfl ?_
        refine V_getN (C0 := RX5) (T := TX5) (N := 8) (ci := 5) C 7 in_X5 rfl hit (by decide) ev495 (fun _ h9 => h9) rfl dX6_sum_45 ?_
        refine V_astore_nq (L' := [some (.ref (A 2 m0)), some (.int dp), some (.int (((31 * s1) + (nI (128 * (oB (lo k) 0)))) + (nI (oB (lo k) 4)))), some (va_rf ((L[i + 1]?).map (A 0)))]) C dX6_sum_48 rfl (by decide) rfl ?_
        refine V_goto C 8 dX6_sum_49 (by decide) ?_
        refine V_sub ?_ (ih (by have := (List.getElem?_eq_some_iff.mp hLi).1; omega))
        repeat' (first | exact ls_e | refine ls_n ?_ | refine ls_s ?_ | refine ls_i ?_ ?_ | refine ls_v ?_ ?_)
        rw [fold_take hLi, hs1]
        unfold csL
        first | rw [if_pos k16] | rw [if_neg (bne2 k16)]
  refine V_bipush C 11 dX6_sum_0 (by decide) ?_
  refine V_istore_n (L' := [some (.ref (A 2 m0)), some (.int dp), some (.int 11), none]) C dX6_sum_2 rfl (by decide) rfl ?_
  refine V_aload_n C dX6_sum_3 rfl rfl ?_
  refine V_get (C0 := RX6) (T := TX6) (N := 2) (ci := 6) C 1 in_X6 rfl hnd (by decide) q521 (fun _ h9 => h9) rfl dX6_sum_4 ?_
  refine V_astore_nq (L' := [some (.ref (A 2 m0)), some (.int dp), some (.int 11), some (va_rf ((L.head?).map (A 0)))]) C dX6_sum_7 rfl (by decide) rfl ?_
  refine V_sub ?_ (loop 0 (Nat.zero_le _))
  repeat' (first | exact ls_e | refine ls_n ?_ | refine ls_s ?_ | refine ls_i ?_ ?_ | refine ls_v ?_ ?_)
  all_goals (first | rfl | rw [List.head?_eq_getElem?])
def belF (lo : Nat → List Nat) (sh : Nat → Bool) (ch : Nat → Nat → List Nat) (F : Nat → Int32) (k : Nat) : Int32 := if oB (lo k) 1 = 1 then F (k + 1) else if oB (lo k) 1 = 2 then (ch (k + 1) 0).foldl (csL lo sh) 11 else nI (oB (lo k) 4)
def msS (lo : Nat → List Nat) (sh : Nat → Bool) (ch : Nat → Nat → List Nat) (F : Nat → Int32) (key : Nat) (s : Int32) (k : Nat) : Int32 := 31 * (31 * s + nI (4 * oB (lo k) 0) + nI key) + belF lo sh ch F k
def msum (lo : Nat → List Nat) (sh : Nat → Bool) (ch : Nat → Nat → List Nat) : Nat → Nat → Int32
  | 0, _ => 0
  | f + 1, m => iterI (fun key s => (ch m key).foldl (msS lo sh ch (msum lo sh ch f) key) s) 7 4
theorem ct_X2_sum (l : Launch) (G : mp_G) (b : Nat) (M : mp_M) (g a ln : Nat) (lo : Nat → List Nat) (P : Nat → Int32) (hi : Nat → Option Nat) (sh fo : Nat → Bool) (ch : Nat → Nat → List Nat) (nx : Nat → Option Nat) (wt : List (List Nat)) (A : Nat → Nat → Nat) (wo : List Nat) (hR : RepAt G M g a ln lo P hi sh fo ch nx wt A wo) (hord : ∀ k m, k < ln → hi k = some m → m ≤ k) : ∀ N f m0 dd, f < N → ln - m0 < f → m0 ≤ ln → isMap lo m0 → dd ≤ m0 → Ct l yX2_sum cX2_sum 6 (some .int) (5+f) 0 0 G b ([.ref (A 2 m0), .int (nI dd)] : List Value) M (pI (fun y M1 => y = msum lo sh ch f m0 ∧ M1 = M)) := by
  intro N
  induction N with
  | zero => intro f m0 dd h; omega
  | succ N ihN =>
    intro f m0 dd hN hf hm0 hmp hdd
    obtain ⟨f0, hf0⟩ : ∃ f0, f = f0 + 1 := ⟨f - 1, by omega⟩
    obtain ⟨r1, r2, r3, r4, r5, r6, r7, r8, r9, r10, r11⟩ := id hR
    have rb := r10.2.2.1
    have rln := r10.1
    obtain ⟨hnd, hen⟩ := r7 m0 hm0 hmp
    refine Ct.ofV (by decide) (vc_ref (vc_int vc_nil)) (Nat.le_of_ble_eq_true rfl) ?_
    intro p e s m below meth c C hnm
    refine V_L (L1 := [some (.ref (A 2 m0)), some (.int (nI dd)), none, none, none, none]) rfl ?_
    refine V_bipush C 7 dX2_sum_0 (by decide) ?_
    refine V_istore_n (L' := [some (.ref (A 2 m0)), some (.int (nI dd)), some (.int 7), none, none, none]) C dX2_sum_2 rfl (by decide) rfl ?_
    refine V_iconst C 0 dX2_sum_3 (by decide) ?_
    refine V_istore_n (L' := [some (.ref (A 2 m0)), some (.int (nI dd)), some (.int 7), some (.int 0), none, none]) C dX2_sum_4 rfl (by decide) rfl ?_
    have loop : ∀ key, key ≤ 4 → V p l e (rmOf (5+f) 0 0) s m ([.ref (A 2 m0), .int (nI dd)] : List Value).toArray below meth c (MQ below (Qp G b (pI (fun y M1 => y = msum lo sh ch f m0 ∧ M1 = M))) ([.ref (A 2 m0), .int (nI dd)] : List Value).toArray s 0 0 (fun q => b ≤ q)) G b 6 0 0 5 [some (.ref (A 2 m0)), some (.int (nI dd)), some (.int (iterI (fun key s => (ch m0 key).foldl (msS lo sh ch (msum lo sh ch f0) key) s) 7 key)), some (.int (nI key)), none, none] [] M := by
      refine up_ind 4 ?_
      intro key hkey ih
      generalize hs0 : iterI (fun key s => (ch m0 key).foldl (msS lo sh ch (msum lo sh ch f0) key) s) 7 key = s0 at ih ⊢
      obtain ⟨L, hL⟩ : ∃ L, L = ch m0 key := ⟨_, rfl⟩
      have inner : key < 4 → ∀ i, i ≤ L.length → V p l e (rmOf (5+f) 0 0) s m ([.ref (A 2 m0), .int (nI dd)] : List Value).toArray below meth c (MQ below (Qp G b (pI (fun y M1 => y = msum lo sh ch f m0 ∧ M1 = M))) ([.ref (A 2 m0), .int (nI dd)] : List Value).toArray s 0 0 (fun q => b ≤ q)) G b 6 0 0 18 [some (.ref (A 2 m0)), some (.int (nI dd)), some (.int ((L.take i).foldl (msS lo sh ch (msum lo sh ch f0) key) s0)), some (.int (nI key)), some (va_rf ((L[i]?).map (A 0))), none] [] M := by
        intro hk4
        have hC := r9 m0 key hm0 (Or.inl ⟨hmp, hk4⟩)
        rw [← hL] at hC
        refine up_ind L.length ?_
        intro i hil ihi
        generalize hs1 : (L.take i).foldl (msS lo sh ch (msum lo sh ch f0) key) s0 = s1 at ihi ⊢
        rcases hLi : L[i]? with _ | k
        · skip
          refine V_L (L1 := [some (.ref (A 2 m0)), some (.int (nI dd)), some (.int s1), some (.int (nI key)), some (.null), none]) rfl ?_
          refine V_aloadq (o := none) C dX2_sum_18 rfl ?_
          refine V_ifnull_N C 103 dX2_sum_20 (by decide) ?_
          refine V_iinc (v := (nI (key + 1))) (L' := [some (.ref (A 2 m0)), some (.int (nI dd)), some (.int s1), some (.int (nI (key + 1))), some (.null), none]) C dX2_sum_103 rfl (nI_1 _) (by decide) rfl ?_
          refine V_goto C 5 dX2_sum_106 (by decide) ?_
          refine V_sub ?_ (ih (by omega))
          repeat' (first | exact ls_e | refine ls_n ?_ | refine ls_s ?_ | refine ls_i ?_ ?_ | refine ls_v ?_ ?_)
          have := List.getElem?_eq_none_iff.mp hLi
          rw [iterI_s, hs0, ← hs1, ← hL, List.take_of_length_le (by omega)]
        · obtain ⟨hkl, hhk, -, hnk⟩ := hC.2 i k hLi
          have hmk := hord k m0 hkl hhk
          obtain ⟨sak, sik, hopk, -⟩ := r6 k hkl
          have hlen := (List.getElem?_eq_some_iff.mp hLi).1
          by_cases hk1 : oB (lo k) 1 = 1
          · have hit : M (A 0 k) = some ((g, 1, k), .inr (5, [.ref (A 1 k), .int (P k), .int (nI k), .ref (A 2 (k + 1)), va_rf ((hi k).map (A 2)), .int (bI (sh k)), .int (bI (fo k)), va_rf ((L[i + 1]?).map (A 0))])) := by have h := r5 k hkl; rw [show nodeO lo A k = some (A 2 (k + 1)) from if_pos (Or.inl hk1), hnk] at h; exact h
            refine V_L (L1 := [some (.ref (A 2 m0)), some (.int (nI dd)), some (.int s1), some (.int (nI key)), some (.ref (A 0 k)), none]) rfl ?_
            obtain ⟨hndk, -⟩ := r7 (k + 1) (by omega) (Or.inr (by rw [show k + 1 - 1 = k by omega]; exact hk1))
            refine V_aload C dX2_sum_18 rfl ?_
            refine V_ifnull_R C dX2_sum_20 ?_
            refine V_aload C dX2_sum_23 rfl ?_
            refine V_getN (C0 := RX5) (T := TX5) (N := 8) (ci := 5) C 3 in_X5 rfl hit (by decide) ev483 (fun _ h9 => h9) rfl dX2_sum_25 ?_
            refine V_ifnonnull_R C 42 dX2_sum_28 (by decide) ?_
            refine V_iload_n C dX2_sum_42 rfl rfl ?_
            refine V_bipush C 40 dX2_sum_43 (by decide) ?_
            refine V_nicmp_ge (x := dd) (y := 40) C 64 dX2_sum_45 (by decide) (by omega) (by omega) (fun k45 => ?_) (fun k45 => ?_)
            · omega
            · refine V_aload C dX2_sum_48 rfl ?_
              refine V_getN (C0 := RX5) (T := TX5) (N := 8) (ci := 5) C 3 in_X5 rfl hit (by decide) ev483 (fun _ h9 => h9) rfl dX2_sum_50 ?_
              refine V_iload_n C dX2_sum_53 rfl rfl ?_
              refine V_iconst C 1 dX2_sum_54 (by decide) ?_
              refine V_iadd C dX2_sum_55 ?_
              refine V_top (y := (nI (dd + 1))) (nI_add dd 1) ?_
              refine V_ofI5e (VR_F (x := yN_sum) (As := [.int (nI (dd + 1))]) (rest := []) C (ihN f0 (k + 1) (dd + 1) (by omega) (by omega) (by omega) (Or.inr (by rw [show k + 1 - 1 = k by omega]; exact hk1)) (by omega)) hndk rfl C.2.2.2.1.2.2.1.2.2.1 (lw_F q791 q800 q786 q38 q788) nd_N_sum rfl (by omega) (by decide) dX2_sum_56 rfl ⟨by decide, by decide⟩ (Nat.le_of_ble_eq_true rfl)) ?_
              refine V_goto C 65 dX2_sum_61 (by decide) ?_
              refine V_istore (L' := [some (.ref (A 2 m0)), some (.int (nI dd)), some (.int s1), some (.int (nI key)), some (.ref (A 0 k)), some (.int (msum lo sh ch f0 (k + 1)))]) C dX2_sum_65 (by decide) rfl ?_
              refine V_bipush C 31 dX2_sum_67 (by decide) ?_
              refine V_iload_n C dX2_sum_69 rfl rfl ?_
              refine V_imul C dX2_sum_70 ?_
              refine V_iconst C 4 dX2_sum_71 (by decide) ?_
              refine V_aload C dX2_sum_72 rfl ?_
              refine V_getN (C0 := RX5) (T := TX5) (N := 8) (ci := 5) C 0 in_X5 rfl hit (by decide) ev476 (fun _ h9 => h9) rfl dX2_sum_74 ?_
              refine V_ofIe (VR_V (As := []) (rest := [.int 4, .int (31 * s1)]) C (ct_X4_id l G b M g (A 1 k) (lo k) (r6 k (by omega)) (rb k (by omega))) hopk rfl (lw_V q596 q224 q225 q55 q226) rfl nd_X4_id rfl (by omega) (by decide) dX2_sum_77 rfl ⟨by decide, by decide⟩ (Nat.le_of_ble_eq_true rfl)) ?_
              refine V_imul C dX2_sum_80 ?_
              refine V_top (y := (nI (4 * (oB (lo k) 0)))) (pk_mul 4 (oB (lo k) 0)) ?_
              refine V_iadd C dX2_sum_81 ?_
              refine V_iload_n C dX2_sum_82 rfl rfl ?_
              refine V_iadd C dX2_sum_83 ?_
              refine V_istore_n (L' := [some (.ref (A 2 m0)), some (.int (nI dd)), some (.int (((31 * s1) + (nI (4 * (oB (lo k) 0)))) + (nI key))), some (.int (nI key)), some (.ref (A 0 k)), some (.int (msum lo sh ch f0 (k + 1)))]) C dX2_sum_84 rfl (by decide) rfl ?_
              refine V_bipush C 31 dX2_sum_85 (by decide) ?_
              refine V_iload_n C dX2_sum_87 rfl rfl ?_
              refine V_imul C dX2_sum_88 ?_
              refine V_iload C dX2_sum_89 rfl ?_
              refine V_iadd C dX2_sum_91 ?_
              refine V_istore_n (L' := [some (.ref (A 2 m0)), some (.int (nI dd)), some (.int ((31 * (((31 * s1) + (nI (4 * (oB (lo k) 0)))) + (nI key))) + (msum lo sh ch f0 (k + 1)))), some (.int (nI key)), some (.ref (A 0 k)), some (.int (msum lo sh ch f0 (k + 1)))]) C dX2_sum_92 rfl (by decide) rfl ?_
              refine V_aload C dX2_sum_93 rfl ?_
              refine V_getN (C0 := RX5) (T := TX5) (N := 8) (ci := 5) C 7 in_X5 rfl hit (by decide) ev496 (fun _ h9 => h9) rfl dX2_sum_95 ?_
              refine V_astoreq (L' := [some (.ref (A 2 m0)), some (.int (nI dd)), some (.int ((31 * (((31 * s1) + (nI (4 * (oB (lo k) 0)))) + (nI key))) + (msum lo sh ch f0 (k + 1)))), some (.int (nI key)), some (va_rf ((L[i + 1]?).map (A 0))), some (.int (msum lo sh ch f0 (k + 1)))]) C dX2_sum_98 (by decide) rfl ?_
              refine V_goto C 18 dX2_sum_100 (by decide) ?_
              refine V_sub ?_ (ihi (by omega))
              repeat' (first | exact ls_e | refine ls_n ?_ | refine ls_s ?_ | refine ls_i ?_ ?_ | refine ls_v ?_ ?_)
              rw [fold_take hLi, hs1]
              unfold msS belF
              rw [if_pos hk1]
          · by_cases hk2 : oB (lo k) 1 = 2
            · have hit : M (A 0 k) = some ((g, 1, k), .inr (5, [.ref (A 1 k), .int (P k), .int (nI k), .ref (A 2 (k + 1)), va_rf ((hi k).map (A 2)), .int (bI (sh k)), .int (bI (fo k)), va_rf ((L[i + 1]?).map (A 0))])) := by have h := r5 k hkl; rw [show nodeO lo A k = some (A 2 (k + 1)) from if_pos (Or.inr hk2), hnk] at h; exact h
              refine V_L (L1 := [some (.ref (A 2 m0)), some (.int (nI dd)), some (.int s1), some (.int (nI key)), some (.ref (A 0 k)), none]) rfl ?_
              have hlk : isLst lo (k + 1) := ⟨by omega, by rw [show k + 1 - 1 = k by omega]; exact hk2⟩
              have hndk := r8 (k + 1) (by omega) hlk
              refine V_aload C dX2_sum_18 rfl ?_
              refine V_ifnull_R C dX2_sum_20 ?_
              refine V_aload C dX2_sum_23 rfl ?_
              refine V_getN (C0 := RX5) (T := TX5) (N := 8) (ci := 5) C 3 in_X5 rfl hit (by decide) ev483 (fun _ h9 => h9) rfl dX2_sum_25 ?_
              refine V_ifnonnull_R C 42 dX2_sum_28 (by decide) ?_
              refine V_iload_n C dX2_sum_42 rfl rfl ?_
              refine V_bipush C 40 dX2_sum_43 (by decide) ?_
              refine V_nicmp_ge (x := dd) (y := 40) C 64 dX2_sum_45 (by decide) (by omega) (by omega) (fun k45 => ?_) (fun k45 => ?_)
              · omega
              · refine V_aload C dX2_sum_48 rfl ?_
                refine V_getN (C0 := RX5) (T := TX5) (N := 8) (ci := 5) C 3 in_X5 rfl hit (by decide) ev483 (fun _ h9 => h9) rfl dX2_sum_50 ?_
                refine V_iload_n C dX2_sum_53 rfl rfl ?_
                refine V_iconst C 1 dX2_sum_54 (by decide) ?_
                refine V_iadd C dX2_sum_55 ?_
                refine V_top (y := (nI (dd + 1))) (nI_add dd 1) ?_
                refine V_ofI5e (VR_F (x := yN_sum) (As := [.int (nI (dd + 1))]) (rest := []) C (ct_X6_sum l G b M g a ln lo P hi sh fo ch nx wt A wo hR (k + 1) (nI (dd + 1)) (by omega) hlk) hndk rfl C.2.2.2.1.2.2.1.2.2.2.1 (lw_F q791 q794 q796 q57 q798) nd_N_sum rfl (by omega) (by decide) dX2_sum_56 rfl ⟨by decide, by decide⟩ (Nat.le_of_ble_eq_true rfl)) ?_
                refine V_goto C 65 dX2_sum_61 (by decide) ?_
                refine V_istore (L' := [some (.ref (A 2 m0)), some (.int (nI dd)), some (.int s1), some (.int (nI key)), some (.ref (A 0 k)), some (.int ((ch (k + 1) 0).foldl (csL lo sh) 11))]) C dX2_sum_65 (by decide) rfl ?_
                refine V_bipush C 31 dX2_sum_67 (by decide) ?_
                refine V_iload_n C dX2_sum_69 rfl rfl ?_
                refine V_imul C dX2_sum_70 ?_
                refine V_iconst C 4 dX2_sum_71 (by decide) ?_
                refine V_aload C dX2_sum_72 rfl ?_
                refine V_getN (C0 := RX5) (T := TX5) (N := 8) (ci := 5) C 0 in_X5 rfl hit (by decide) ev476 (fun _ h9 => h9) rfl dX2_sum_74 ?_
                refine V_ofIe (VR_V (As := []) (rest := [.int 4, .int (31 * s1)]) C (ct_X4_id l G b M g (A 1 k) (lo k) (r6 k (by omega)) (rb k (by omega))) hopk rfl (lw_V q596 q224 q225 q55 q226) rfl nd_X4_id rfl (by omega) (by decide) dX2_sum_77 rfl ⟨by decide, by decide⟩ (Nat.le_of_ble_eq_true rfl)) ?_
                refine V_imul C dX2_sum_80 ?_
                refine V_top (y := (nI (4 * (oB (lo k) 0)))) (pk_mul 4 (oB (lo k) 0)) ?_
                refine V_iadd C dX2_sum_81 ?_
                refine V_iload_n C dX2_sum_82 rfl rfl ?_
                refine V_iadd C dX2_sum_83 ?_
                refine V_istore_n (L' := [some (.ref (A 2 m0)), some (.int (nI dd)), some (.int (((31 * s1) + (nI (4 * (oB (lo k) 0)))) + (nI key))), some (.int (nI key)), some (.ref (A 0 k)), some (.int ((ch (k + 1) 0).foldl (csL lo sh) 11))]) C dX2_sum_84 rfl (by decide) rfl ?_
                refine V_bipush C 31 dX2_sum_85 (by decide) ?_
                refine V_iload_n C dX2_sum_87 rfl rfl ?_
                refine V_imul C dX2_sum_88 ?_
                refine V_iload C dX2_sum_89 rfl ?_
                refine V_iadd C dX2_sum_91 ?_
                refine V_istore_n (L' := [some (.ref (A 2 m0)), some (.int (nI dd)), some (.int ((31 * (((31 * s1) + (nI (4 * (oB (lo k) 0)))) + (nI key))) + ((ch (k + 1) 0).foldl (csL lo sh) 11))), some (.int (nI key)), some (.ref (A 0 k)), some (.int ((ch (k + 1) 0).foldl (csL lo sh) 11))]) C dX2_sum_92 rfl (by decide) rfl ?_
                refine V_aload C dX2_sum_93 rfl ?_
                refine V_getN (C0 := RX5) (T := TX5) (N := 8) (ci := 5) C 7 in_X5 rfl hit (by decide) ev496 (fun _ h9 => h9) rfl dX2_sum_95 ?_
                refine V_astoreq (L' := [some (.ref (A 2 m0)), some (.int (nI dd)), some (.int ((31 * (((31 * s1) + (nI (4 * (oB (lo k) 0)))) + (nI key))) + ((ch (k + 1) 0).foldl (csL lo sh) 11))), some (.int (nI key)), some (va_rf ((L[i + 1]?).map (A 0))), some (.int ((ch (k + 1) 0).foldl (csL lo sh) 11))]) C dX2_sum_98 (by decide) rfl ?_
                refine V_goto C 18 dX2_sum_100 (by decide) ?_
                refine V_sub ?_ (ihi (by omega))
                repeat' (first | exact ls_e | refine ls_n ?_ | refine ls_s ?_ | refine ls_i ?_ ?_ | refine ls_v ?_ ?_)
                rw [fold_take hLi, hs1]
                unfold msS belF
                rw [if_neg hk1, if_pos hk2]
            · have hit : M (A 0 k) = some ((g, 1, k), .inr (5, [.ref (A 1 k), .int (P k), .int (nI k), .null, va_rf ((hi k).map (A 2)), .int (bI (sh k)), .int (bI (fo k)), va_rf ((L[i + 1]?).map (A 0))])) := by have h := r5 k hkl; rw [show nodeO lo A k = none from if_neg (by omega), hnk] at h; exact h
              refine V_L (L1 := [some (.ref (A 2 m0)), some (.int (nI dd)), some (.int s1), some (.int (nI key)), some (.ref (A 0 k)), none]) rfl ?_
              refine V_aload C dX2_sum_18 rfl ?_
              refine V_ifnull_R C dX2_sum_20 ?_
              refine V_aload C dX2_sum_23 rfl ?_
              refine V_getN (C0 := RX5) (T := TX5) (N := 8) (ci := 5) C 3 in_X5 rfl hit (by decide) ev483 (fun _ h9 => h9) rfl dX2_sum_25 ?_
              refine V_ifnonnull_N C dX2_sum_28 ?_
              refine V_aload C dX2_sum_31 rfl ?_
              refine V_getN (C0 := RX5) (T := TX5) (N := 8) (ci := 5) C 0 in_X5 rfl hit (by decide) ev476 (fun _ h9 => h9) rfl dX2_sum_33 ?_
              refine V_ofIe (VR_V (As := []) (rest := []) C (ct_X4_value l G b M g (A 1 k) (lo k) (r6 k (by omega)) (rb k (by omega))) hopk rfl (lw_V q789 q755 q756 q55 q757) rfl nd_X4_value rfl (by omega) (by decide) dX2_sum_36 rfl ⟨by decide, by decide⟩ (Nat.le_of_ble_eq_true rfl)) ?_
              refine V_goto C 65 dX2_sum_39 (by decide) ?_
              refine V_istore (L' := [some (.ref (A 2 m0)), some (.int (nI dd)), some (.int s1), some (.int (nI key)), some (.ref (A 0 k)), some (.int (nI (oB (lo k) 4)))]) C dX2_sum_65 (by decide) rfl ?_
              refine V_bipush C 31 dX2_sum_67 (by decide) ?_
              refine V_iload_n C dX2_sum_69 rfl rfl ?_
              refine V_imul C dX2_sum_70 ?_
              refine V_iconst C 4 dX2_sum_71 (by decide) ?_
              refine V_aload C dX2_sum_72 rfl ?_
              refine V_getN (C0 := RX5) (T := TX5) (N := 8) (ci := 5) C 0 in_X5 rfl hit (by decide) ev476 (fun _ h9 => h9) rfl dX2_sum_74 ?_
              refine V_ofIe (VR_V (As := []) (rest := [.int 4, .int (31 * s1)]) C (ct_X4_id l G b M g (A 1 k) (lo k) (r6 k (by omega)) (rb k (by omega))) hopk rfl (lw_V q596 q224 q225 q55 q226) rfl nd_X4_id rfl (by omega) (by decide) dX2_sum_77 rfl ⟨by decide, by decide⟩ (Nat.le_of_ble_eq_true rfl)) ?_
              refine V_imul C dX2_sum_80 ?_
              refine V_top (y := (nI (4 * (oB (lo k) 0)))) (pk_mul 4 (oB (lo k) 0)) ?_
              refine V_iadd C dX2_sum_81 ?_
              refine V_iload_n C dX2_sum_82 rfl rfl ?_
              refine V_iadd C dX2_sum_83 ?_
              refine V_istore_n (L' := [some (.ref (A 2 m0)), some (.int (nI dd)), some (.int (((31 * s1) + (nI (4 * (oB (lo k) 0)))) + (nI key))), some (.int (nI key)), some (.ref (A 0 k)), some (.int (nI (oB (lo k) 4)))]) C dX2_sum_84 rfl (by decide) rfl ?_
              refine V_bipush C 31 dX2_sum_85 (by decide) ?_
              refine V_iload_n C dX2_sum_87 rfl rfl ?_
              refine V_imul C dX2_sum_88 ?_
              refine V_iload C dX2_sum_89 rfl ?_
              refine V_iadd C dX2_sum_91 ?_
              refine V_istore_n (L' := [some (.ref (A 2 m0)), some (.int (nI dd)), some (.int ((31 * (((31 * s1) + (nI (4 * (oB (lo k) 0)))) + (nI key))) + (nI (oB (lo k) 4)))), some (.int (nI key)), some (.ref (A 0 k)), some (.int (nI (oB (lo k) 4)))]) C dX2_sum_92 rfl (by decide) rfl ?_
              refine V_aload C dX2_sum_93 rfl ?_
              refine V_getN (C0 := RX5) (T := TX5) (N := 8) (ci := 5) C 7 in_X5 rfl hit (by decide) ev496 (fun _ h9 => h9) rfl dX2_sum_95 ?_
              refine V_astoreq (L' := [some (.ref (A 2 m0)), some (.int (nI dd)), some (.int ((31 * (((31 * s1) + (nI (4 * (oB (lo k) 0)))) + (nI key))) + (nI (oB (lo k) 4)))), some (.int (nI key)), some (va_rf ((L[i + 1]?).map (A 0))), some (.int (nI (oB (lo k) 4)))]) C dX2_sum_98 (by decide) rfl ?_
              refine V_goto C 18 dX2_sum_100 (by decide) ?_
              refine V_sub ?_ (ihi (by omega))
              repeat' (first | exact ls_e | refine ls_n ?_ | refine ls_s ?_ | refine ls_i ?_ ?_ | refine ls_v ?_ ?_)
              rw [fold_take hLi, hs1]
              unfold msS belF
              rw [if_neg hk1, if_neg hk2]
      refine V_iload_n C dX2_sum_5 rfl rfl ?_
      refine V_iconst C 4 dX2_sum_6 (by decide) ?_
      refine V_nicmp_ge (x := key) (y := 4) C 109 dX2_sum_7 (by decide) (by omega) (by omega) (fun k7 => ?_) (fun k7 => ?_)
      · refine V_iload_n C dX2_sum_109 rfl rfl ?_
        exact V_iret C dX2_sum_110 (by decide) (by decide) ⟨_, rfl, by rw [← hs0, show key = 4 by omega, hf0]; rfl, rfl⟩
      · refine V_aload_n C dX2_sum_10 rfl rfl ?_
        refine V_get (C0 := RX2) (T := TX2) (N := 2) (ci := 2) C 1 in_X2 rfl hnd (by decide) q82 (fun _ h9 => h9) rfl dX2_sum_11 ?_
        refine V_iload_n C dX2_sum_14 rfl rfl ?_
        refine V_aald C 4 rfl hen (pk_in key 4 (by omega)) dX2_sum_15 ?_
        refine V_topq (o1 := ((L[0]?).map (A 0))) (by rw [nI_clamp (n := key) (by omega)]; exact (by rw [← hL, List.head?_eq_getElem?])) ?_
        refine V_astoreq (L' := [some (.ref (A 2 m0)), some (.int (nI dd)), some (.int s0), some (.int (nI key)), some (va_rf ((L[0]?).map (A 0))), none]) C dX2_sum_16 (by decide) rfl ?_
        refine V_sub ?_ (inner (by omega) 0 (Nat.zero_le _))
        repeat' (first | exact ls_e | refine ls_n ?_ | refine ls_s ?_ | refine ls_i ?_ ?_ | refine ls_v ?_ ?_)
        all_goals rfl
    refine V_sub ?_ (loop 0 (Nat.zero_le _))
    repeat' (first | exact ls_e | refine ls_n ?_ | refine ls_s ?_ | refine ls_i ?_ ?_ | refine ls_v ?_ ?_)
    all_goals rfl
def mkO (m : Nat) : Option Nat := if m = 0 then none else some (m - 1)
def depO (hi : Nat → Option Nat) (sh : Nat → Bool) : Nat → Option Nat → Option Nat
  | 0, _ => none
  | _ + 1, none => some 0
  | f + 1, some k => if sh k = true then (match hi k with
    | none => none
    | some m => (depO hi sh f (mkO m)).map (· + 1)) else none
theorem depO_lt {hi : Nat → Option Nat} {sh : Nat → Bool} : ∀ {f : Nat} {ko : Option Nat} {d : Nat}, depO hi sh f ko = some d → d < f := by
  intro f
  induction f with
  | zero => intro ko d h; cases h
  | succ f ih =>
    intro ko d h
    cases ko with
    | none => cases h; omega
    | some k =>
      unfold depO at h
      split at h
      · cases e : hi k with
        | none => rw [e] at h; cases h
        | some m =>
          rw [e] at h
          dsimp only at h
          cases e2 : depO hi sh f (mkO m) with
          | none => rw [e2] at h; cases h
          | some d2 =>
            rw [e2] at h
            have := ih e2
            cases h
            show d2 + 1 < f + 1
            omega
      · cases h
theorem ct_X0_stands (l : Launch) (G : mp_G) (b : Nat) (M : mp_M) (g a ln : Nat) (lo : Nat → List Nat) (P : Nat → Int32) (hi : Nat → Option Nat) (sh fo : Nat → Bool) (ch : Nat → Nat → List Nat) (nx : Nat → Option Nat) (wt : List (List Nat)) (A : Nat → Nat → Nat) (wo : List Nat) (hR : RepAt G M g a ln lo P hi sh fo ch nx wt A wo) (hord : ∀ k m, k < ln → hi k = some m → m ≤ k) : ∀ N f ko dd, f < N → f ≠ 0 → (∀ k, ko = some k → k < ln ∧ k + 1 < f) → dd + f ≤ 30 → Ct l yX0_stands cX0_stands 3 (some .int) (2+f) 0 0 G b ([va_rf (ko.map (A 0)), .int (nI dd)] : List Value) M (pI (fun y M1 => y = oI (depO hi sh f ko) ∧ M1 = M)) := by
  intro N
  induction N with
  | zero => intro f ko dd h; omega
  | succ N ihN =>
    intro f ko dd hN hf hko hdd
    obtain ⟨f0, hf0⟩ : ∃ f0, f = f0 + 1 := ⟨f - 1, by omega⟩
    obtain ⟨r1, r2, r3, r4, r5, r6, r7, r8, r9, r10, r11⟩ := id hR
    refine Ct.ofV (by decide) (vc_q (vc_int vc_nil)) (Nat.le_of_ble_eq_true rfl) ?_
    intro p e s m below meth c C hnm
    refine V_L (L1 := [some (va_rf (ko.map (A 0))), some (.int (nI dd)), none]) rfl ?_
    rcases (show ko = none ∨ ∃ k, ko = some k by cases ko; exact Or.inl rfl; exact Or.inr ⟨_, rfl⟩) with hkk | ⟨k, hkk⟩
    · skip
      refine V_L (L1 := [some (.null), some (.int (nI dd)), none]) (by rw [hkk]; rfl) ?_
      refine V_aload_nq (o := none) C dX0_stands_0 rfl rfl ?_
      refine V_ifnonnull_N C dX0_stands_1 ?_
      refine V_iconst C 0 dX0_stands_4 (by decide) ?_
      exact V_iret C dX0_stands_5 (by decide) (by decide) ⟨_, rfl, by rw [hf0, hkk]; rfl, rfl⟩
    · obtain ⟨hkl, hkf⟩ := hko k hkk
      have hit := r5 k hkl
      rcases hhk : hi k with _ | m
      · rw [hhk] at hit
        refine V_L (L1 := [some (.ref (A 0 k)), some (.int (nI dd)), none]) (by rw [hkk]; rfl) ?_
        refine V_aload_n C dX0_stands_0 rfl rfl ?_
        refine V_ifnonnull_R C 6 dX0_stands_1 (by decide) ?_
        refine V_aload_n C dX0_stands_6 rfl rfl ?_
        refine V_getN (C0 := RX5) (T := TX5) (N := 8) (ci := 5) C 5 in_X5 rfl hit (by decide) ev491 (fun _ h9 => h9) rfl dX0_stands_7 ?_
        refine V_ifb_eq C 26 dX0_stands_10 (by decide) (fun k10 => ?_) (fun k10 => ?_)
        · refine V_iconst C (-1) dX0_stands_26 (by decide) ?_
          exact V_iret C dX0_stands_27 (by decide) (by decide) ⟨_, rfl, by rw [hf0, hkk]; unfold depO; first | (rw [if_neg (bne2 k10)]; rfl) | (rw [if_pos k10, hhk]; rfl), rfl⟩
        · refine V_aload_n C dX0_stands_13 rfl rfl ?_
          refine V_getN (C0 := RX5) (T := TX5) (N := 8) (ci := 5) C 4 in_X5 rfl hit (by decide) ev487 (fun _ h9 => h9) rfl dX0_stands_14 ?_
          refine V_ifnull_N C 26 dX0_stands_17 (by decide) ?_
          refine V_iconst C (-1) dX0_stands_26 (by decide) ?_
          exact V_iret C dX0_stands_27 (by decide) (by decide) ⟨_, rfl, by rw [hf0, hkk]; unfold depO; first | (rw [if_neg (bne2 k10)]; rfl) | (rw [if_pos k10, hhk]; rfl), rfl⟩
      · rw [hhk] at hit
        have hmm := r11 k m hkl hhk
        have hmk := hord k m hkl hhk
        rcases hmm.2 with hmp | hls
        · have hnd := (r7 m hmm.1 hmp).1
          refine V_L (L1 := [some (.ref (A 0 k)), some (.int (nI dd)), none]) (by rw [hkk]; rfl) ?_
          refine V_aload_n C dX0_stands_0 rfl rfl ?_
          refine V_ifnonnull_R C 6 dX0_stands_1 (by decide) ?_
          refine V_aload_n C dX0_stands_6 rfl rfl ?_
          refine V_getN (C0 := RX5) (T := TX5) (N := 8) (ci := 5) C 5 in_X5 rfl hit (by decide) ev491 (fun _ h9 => h9) rfl dX0_stands_7 ?_
          refine V_ifb_eq C 26 dX0_stands_10 (by decide) (fun k10 => ?_) (fun k10 => ?_)
          · refine V_iconst C (-1) dX0_stands_26 (by decide) ?_
            exact V_iret C dX0_stands_27 (by decide) (by decide) ⟨_, rfl, by rw [hf0, hkk]; unfold depO; rw [if_neg (bne2 k10)]; rfl, rfl⟩
          · refine V_aload_n C dX0_stands_13 rfl rfl ?_
            refine V_getN (C0 := RX5) (T := TX5) (N := 8) (ci := 5) C 4 in_X5 rfl hit (by decide) ev487 (fun _ h9 => h9) rfl dX0_stands_14 ?_
            refine V_ifnull_R C dX0_stands_17 ?_
            refine V_iload_n C dX0_stands_20 rfl rfl ?_
            refine V_bipush C 40 dX0_stands_21 (by decide) ?_
            refine V_nicmp_le (x := dd) (y := 40) C 28 dX0_stands_23 (by decide) (by omega) (by omega) (fun k23 => ?_) (fun k23 => ?_)
            · refine V_aload_n C dX0_stands_28 rfl rfl ?_
              refine V_getN (C0 := RX5) (T := TX5) (N := 8) (ci := 5) C 4 in_X5 rfl hit (by decide) ev487 (fun _ h9 => h9) rfl dX0_stands_29 ?_
              refine V_ofR5e (VR_F (x := yN_maker) (As := []) (rest := []) C (ct_X2_maker l G b M (A 2 m) _ ((mkO m).map (A 0)) _ (by rw [hnd]; unfold mkO; by_cases z : m = 0; (rw [if_pos z, if_pos z]; rfl); (rw [if_neg z, if_neg z]; rfl))) hnd rfl C.2.2.2.1.2.2.1.1 (lw_F q766 q776 q778 q38 q780) nd_N_maker rfl (by omega) (by decide) dX0_stands_32 rfl ⟨by decide, by decide⟩ (Nat.le_of_ble_eq_true rfl)) ?_
              refine V_iload_n C dX0_stands_37 rfl rfl ?_
              refine V_iconst C 1 dX0_stands_38 (by decide) ?_
              refine V_iadd C dX0_stands_39 ?_
              refine V_top (y := (nI (dd + 1))) (nI_add dd 1) ?_
              refine V_ofIe (VR_S (As := [va_rf ((mkO m).map (A 0)), .int (nI (dd + 1))]) (rest := []) C (ihN f0 (mkO m) (dd + 1) (by omega) (by omega) (fun k2 hk2 => by unfold mkO at hk2; split at hk2; cases hk2; cases hk2; omega) (by omega)) (lw_S q762 q763 q36 q764) nd_X0_stands rfl (by omega) (by decide) dX0_stands_40 rfl ⟨by decide, by decide⟩ (Nat.le_of_ble_eq_true rfl)) ?_
              rcases o40 : depO hi sh f0 (mkO m) with _ | j40
              · refine V_top (y := -1) rfl ?_
                refine V_istore_n (L' := [some (.ref (A 0 k)), some (.int (nI dd)), some (.int (-1))]) C dX0_stands_43 rfl (by decide) rfl ?_
                refine V_iload_n C dX0_stands_44 rfl rfl ?_
                refine V_if_ge C 52 dX0_stands_45 (by decide) (fun h => absurd h (by decide)) (fun _ => ?_)
                refine V_iconst C (-1) dX0_stands_48 (by decide) ?_
                refine V_goto C 55 dX0_stands_49 (by decide) ?_
                exact V_iret C dX0_stands_55 (by decide) (by decide) ⟨_, rfl, by rw [hf0, hkk]; unfold depO; rw [if_pos k10, hhk]; dsimp only; rw [o40]; rfl, rfl⟩
              · have hj40 := depO_lt o40
                refine V_top (y := nI j40) rfl ?_
                refine V_istore_n (L' := [some (.ref (A 0 k)), some (.int (nI dd)), some (.int (nI j40))]) C dX0_stands_43 rfl (by decide) rfl ?_
                refine V_iload_n C dX0_stands_44 rfl rfl ?_
                refine V_if_ge C 52 dX0_stands_45 (by decide) (fun _ => ?_) (fun h => absurd (nI_pos' (n := j40) (by omega)) h)
                refine V_iload_n C dX0_stands_52 rfl rfl ?_
                refine V_iconst C 1 dX0_stands_53 (by decide) ?_
                refine V_iadd C dX0_stands_54 ?_
                refine V_top (y := (nI (j40 + 1))) (nI_add j40 1) ?_
                exact V_iret C dX0_stands_55 (by decide) (by decide) ⟨_, rfl, by rw [hf0, hkk]; unfold depO; rw [if_pos k10, hhk]; dsimp only; rw [o40]; rfl, rfl⟩
            · omega
        · have hnd := r8 m hmm.1 hls
          have hm0 := hls.1
          refine V_L (L1 := [some (.ref (A 0 k)), some (.int (nI dd)), none]) (by rw [hkk]; rfl) ?_
          refine V_aload_n C dX0_stands_0 rfl rfl ?_
          refine V_ifnonnull_R C 6 dX0_stands_1 (by decide) ?_
          refine V_aload_n C dX0_stands_6 rfl rfl ?_
          refine V_getN (C0 := RX5) (T := TX5) (N := 8) (ci := 5) C 5 in_X5 rfl hit (by decide) ev491 (fun _ h9 => h9) rfl dX0_stands_7 ?_
          refine V_ifb_eq C 26 dX0_stands_10 (by decide) (fun k10 => ?_) (fun k10 => ?_)
          · refine V_iconst C (-1) dX0_stands_26 (by decide) ?_
            exact V_iret C dX0_stands_27 (by decide) (by decide) ⟨_, rfl, by rw [hf0, hkk]; unfold depO; rw [if_neg (bne2 k10)]; rfl, rfl⟩
          · refine V_aload_n C dX0_stands_13 rfl rfl ?_
            refine V_getN (C0 := RX5) (T := TX5) (N := 8) (ci := 5) C 4 in_X5 rfl hit (by decide) ev487 (fun _ h9 => h9) rfl dX0_stands_14 ?_
            refine V_ifnull_R C dX0_stands_17 ?_
            refine V_iload_n C dX0_stands_20 rfl rfl ?_
            refine V_bipush C 40 dX0_stands_21 (by decide) ?_
            refine V_nicmp_le (x := dd) (y := 40) C 28 dX0_stands_23 (by decide) (by omega) (by omega) (fun k23 => ?_) (fun k23 => ?_)
            · refine V_aload_n C dX0_stands_28 rfl rfl ?_
              refine V_getN (C0 := RX5) (T := TX5) (N := 8) (ci := 5) C 4 in_X5 rfl hit (by decide) ev487 (fun _ h9 => h9) rfl dX0_stands_29 ?_
              refine V_ofR5e (VR_F (x := yN_maker) (As := []) (rest := []) C (ct_X6_maker l G b M (A 2 m) _ ((mkO m).map (A 0)) _ (by rw [hnd]; unfold mkO; rw [if_neg hm0]; rfl)) hnd rfl C.2.2.2.1.2.2.1.2.1 (lw_F q766 q770 q772 q57 q774) nd_N_maker rfl (by omega) (by decide) dX0_stands_32 rfl ⟨by decide, by decide⟩ (Nat.le_of_ble_eq_true rfl)) ?_
              refine V_iload_n C dX0_stands_37 rfl rfl ?_
              refine V_iconst C 1 dX0_stands_38 (by decide) ?_
              refine V_iadd C dX0_stands_39 ?_
              refine V_top (y := (nI (dd + 1))) (nI_add dd 1) ?_
              refine V_ofIe (VR_S (As := [va_rf ((mkO m).map (A 0)), .int (nI (dd + 1))]) (rest := []) C (ihN f0 (mkO m) (dd + 1) (by omega) (by omega) (fun k2 hk2 => by unfold mkO at hk2; split at hk2; cases hk2; cases hk2; omega) (by omega)) (lw_S q762 q763 q36 q764) nd_X0_stands rfl (by omega) (by decide) dX0_stands_40 rfl ⟨by decide, by decide⟩ (Nat.le_of_ble_eq_true rfl)) ?_
              rcases o40 : depO hi sh f0 (mkO m) with _ | j40
              · refine V_top (y := -1) rfl ?_
                refine V_istore_n (L' := [some (.ref (A 0 k)), some (.int (nI dd)), some (.int (-1))]) C dX0_stands_43 rfl (by decide) rfl ?_
                refine V_iload_n C dX0_stands_44 rfl rfl ?_
                refine V_if_ge C 52 dX0_stands_45 (by decide) (fun h => absurd h (by decide)) (fun _ => ?_)
                refine V_iconst C (-1) dX0_stands_48 (by decide) ?_
                refine V_goto C 55 dX0_stands_49 (by decide) ?_
                exact V_iret C dX0_stands_55 (by decide) (by decide) ⟨_, rfl, by rw [hf0, hkk]; unfold depO; rw [if_pos k10, hhk]; dsimp only; rw [o40]; rfl, rfl⟩
              · have hj40 := depO_lt o40
                refine V_top (y := nI j40) rfl ?_
                refine V_istore_n (L' := [some (.ref (A 0 k)), some (.int (nI dd)), some (.int (nI j40))]) C dX0_stands_43 rfl (by decide) rfl ?_
                refine V_iload_n C dX0_stands_44 rfl rfl ?_
                refine V_if_ge C 52 dX0_stands_45 (by decide) (fun _ => ?_) (fun h => absurd (nI_pos' (n := j40) (by omega)) h)
                refine V_iload_n C dX0_stands_52 rfl rfl ?_
                refine V_iconst C 1 dX0_stands_53 (by decide) ?_
                refine V_iadd C dX0_stands_54 ?_
                refine V_top (y := (nI (j40 + 1))) (nI_add j40 1) ?_
                exact V_iret C dX0_stands_55 (by decide) (by decide) ⟨_, rfl, by rw [hf0, hkk]; unfold depO; rw [if_pos k10, hhk]; dsimp only; rw [o40]; rfl, rfl⟩
            · omega

