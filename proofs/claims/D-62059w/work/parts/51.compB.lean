set_option maxRecDepth 100000
/-! THE COMPONENT, B: a replica, its readers -/
def nodeO (lo : Nat → List Nat) (A : Nat → Nat → Nat) (k : Nat) : Option Nat := if oB (lo k) 1 = 1 ∨ oB (lo k) 1 = 2 then some (A 2 (k + 1)) else none
def isMap (lo : Nat → List Nat) (m : Nat) : Prop := m = 0 ∨ oB (lo (m - 1)) 1 = 1
def isLst (lo : Nat → List Nat) (m : Nat) : Prop := m ≠ 0 ∧ oB (lo (m - 1)) 1 = 2
/-- a chain of items of node m (at key): linked by nx -/
def ChOk (ln : Nat) (lo : Nat → List Nat) (hi nx : Nat → Option Nat) (A : Nat → Nat → Nat) (m key : Nat) (L : List Nat) : Prop := L.Nodup ∧ ∀ i k, L[i]? = some k → k < ln ∧ hi k = some m ∧ (isMap lo m → oB (lo k) 3 = key) ∧ nx k = (L[i + 1]?).map (A 0)
/-- a replica at a: ln items in the log (item k at A 0 k, its operation at A 1 k), nodes at A 2 m (0: the root; k + 1: made by item k), entries at A 3 m,
    chains ch m key of places; hi: the home's number; wt: what waits -/
def RepAt (G : mp_G) (M : mp_M) (g a ln : Nat) (lo : Nat → List Nat) (P : Nat → Int32) (hi : Nat → Option Nat) (sh fo : Nat → Bool) (ch : Nat → Nat → List Nat) (nx : Nat → Option Nat) (wt : List (List Nat)) (A : Nat → Nat → Nat) (wo : List Nat) : Prop :=
  M a = some ((g, 14, 0), .inr (1, [.ref (A 2 0), .ref (A 4 0), .ref (A 4 1)])) ∧
  AlAt G M (g, 4, 0) (g, 5, 0) (A 4 0) ((List.range ln).map (A 0)) ∧
  AlAt G M (g, 6, 0) (g, 7, 0) (A 4 1) wo ∧
  (wo.length = wt.length ∧ ∀ i, i < wt.length → OpAt G M g (wo.getD i 0) (wt.getD i [])) ∧
  (∀ k, k < ln → M (A 0 k) = some ((g, 1, k), .inr (5, [.ref (A 1 k), .int (P k), .int (nI k), va_rf (nodeO lo A k), va_rf ((hi k).map (A 2)), .int (bI (sh k)), .int (bI (fo k)), va_rf (nx k)]))) ∧
  (∀ k, k < ln → OpAt G M g (A 1 k) (lo k)) ∧
  (∀ m, m ≤ ln → isMap lo m → M (A 2 m) = some ((g, 13, m), .inr (2, [va_rf (if m = 0 then none else some (A 0 (m - 1))), .ref (A 3 m)])) ∧ M (A 3 m) = some ((g, 2, m), .inl (G.2.1 4, 4, .inr (.inr (.inr (.inr (fun key => ((ch m key).head?).map (A 0)))))))) ∧
  (∀ m, m ≤ ln → isLst lo m → M (A 2 m) = some ((g, 3, m), .inr (6, [.ref (A 0 (m - 1)), va_rf (((ch m 0).head?).map (A 0))]))) ∧
  (∀ m key, m ≤ ln → ((isMap lo m ∧ key < 4) ∨ (isLst lo m ∧ key = 0)) → ChOk ln lo hi nx A m key (ch m key)) ∧
  (ln ≤ 16 ∧ wt.length ≤ 16 ∧ (∀ k, k < ln → OpOk (lo k)) ∧ ∀ bs ∈ wt, OpOk bs) ∧
  (∀ k m, k < ln → hi k = some m → m ≤ ln ∧ (isMap lo m ∨ isLst lo m))
theorem lg_len {n : Nat} {f : Nat → Nat} : ((List.range n).map f).length = n := by rw [List.length_map, List.length_range]
theorem lg_get {n k : Nat} {f : Nat → Nat} (h : k < n) : ((List.range n).map f)[k]? = some (f k) := by
  rw [List.getElem?_map, List.getElem?_range h]
  rfl
theorem wo_get {wo : List Nat} {i : Nat} (h : i < wo.length) : wo[i]? = some (wo.getD i 0) := oB_get h
theorem wt_ok {wt : List (List Nat)} (h : ∀ bs ∈ wt, OpOk bs) {i : Nat} (hi : i < wt.length) : OpOk (wt.getD i []) := by
  rw [List.getD_eq_getElem?_getD, List.getElem?_eq_getElem hi]
  exact h _ (List.getElem_mem hi)
theorem ct_J2_sizeN (l : Launch) (G : mp_G) (b : Nat) (M : mp_M) (a : Nat) (l1 l2 : mp_L) (xs : List Nat) (h : AlAt G M l1 l2 a xs) {n : Nat} (hn : xs.length = n) : Ct l yJ2_size cJ2_size 1 (some .int) 0 0 0 G b ([.ref a] : List Value) M (pI (fun r M1 => r = nI n ∧ M1 = M)) := hn ▸ ct_J2_size l G b M a l1 l2 xs h
def cplace (ln : Nat) (lo : Nat → List Nat) (x : Int32) : Option Nat := firstI (fun k => decide (nI (oB (lo k) 0) = x)) ln
theorem ct_X1_place (l : Launch) (G : mp_G) (b : Nat) (M : mp_M) (g a ln : Nat) (lo : Nat → List Nat) (P : Nat → Int32) (hi : Nat → Option Nat) (sh fo : Nat → Bool) (ch : Nat → Nat → List Nat) (nx : Nat → Option Nat) (wt : List (List Nat)) (A : Nat → Nat → Nat) (wo : List Nat) (hR : RepAt G M g a ln lo P hi sh fo ch nx wt A wo) (x : Int32) : Ct l yX1_place cX1_place 3 (some .int) 5 0 0 G b ([.ref a, .int x] : List Value) M (pI (fun y M1 => y = oI (cplace ln lo x) ∧ M1 = M)) := by
  refine Ct.ofV (by decide) (vc_ref (vc_int vc_nil)) (Nat.le_of_ble_eq_true rfl) ?_
  intro p e s m below meth c C hnm
  refine V_L (L1 := [some (.ref a), some (.int x), none]) rfl ?_
  obtain ⟨r1, r2, r3, r4, r5, r6, r7, r8, r9, r10, r11⟩ := id hR
  have rb := r10.2.2.1
  have rln := r10.1
  have rwl := r10.2.1
  have rwo := r4.1
  obtain ⟨lmo, lar, hla⟩ := al_obj r2
  obtain ⟨wmo, war, hwa⟩ := al_obj r3
  refine V_iconst C 0 dX1_place_0 (by decide) ?_
  refine V_istore_n (L' := [some (.ref a), some (.int x), some (.int 0)]) C dX1_place_1 rfl (by decide) rfl ?_
  have loop : ∀ k, k ≤ ln → (∀ i, i < k → decide (nI (oB (lo i) 0) = x) = false) → V p l e (rmOf 5 0 0) s m ([.ref a, .int x] : List Value).toArray below meth c (MQ below (Qp G b (pI (fun y M1 => y = oI (cplace ln lo x) ∧ M1 = M))) ([.ref a, .int x] : List Value).toArray s 0 0 (fun q => b ≤ q)) G b 3 0 0 2 [some (.ref a), some (.int x), some (.int (nI k))] [] M := by
    refine up_ind ln ?_
    intro k hk ih hb
    refine V_iload_n C dX1_place_2 rfl rfl ?_
    refine V_aload_n C dX1_place_3 rfl rfl ?_
    refine V_get (C0 := RX1) (T := TX1) (N := 3) (ci := 1) C 1 in_X1 rfl r1 (by decide) q117 (fun _ h9 => h9) rfl dX1_place_4 ?_
    refine V_ofIe (VR_V (As := []) (rest := [.int (nI k)]) C (ct_J2_sizeN l G b M (A 4 0) (g, 4, 0) (g, 5, 0) _ r2 lg_len) hla rfl (lw_V q204 q205 q206 q41 q207) rfl nd_J2_size rfl (by decide) (by decide) dX1_place_7 rfl ⟨by decide, by decide⟩ (Nat.le_of_ble_eq_true rfl)) ?_
    refine V_nicmp_ge (x := k) (y := ln) C 42 dX1_place_10 (by decide) (by omega) (by omega) (fun k10 => ?_) (fun k10 => ?_)
    · refine V_iconst C (-1) dX1_place_42 (by decide) ?_
      exact V_iret C dX1_place_43 (by decide) (by decide) ⟨_, rfl, by unfold cplace; rw [firstI_none.mpr (fun i hi => hb i (by omega))]; rfl, rfl⟩
    · refine V_aload_n C dX1_place_13 rfl rfl ?_
      refine V_get (C0 := RX1) (T := TX1) (N := 3) (ci := 1) C 1 in_X1 rfl r1 (by decide) q117 (fun _ h9 => h9) rfl dX1_place_14 ?_
      refine V_iload_n C dX1_place_17 rfl rfl ?_
      refine V_ofRe (VR_V (As := [.int (nI k)]) (rest := []) C (ct_J2_get l G b M (A 4 0) k (A 0 k) (g, 4, 0) (g, 5, 0) _ r2 (lg_get (by omega)) (by rw [lg_len]; omega)) hla rfl (lw_V q208 q209 q210 q41 q211) rfl nd_J2_get rfl (by decide) (by decide) dX1_place_18 rfl ⟨by decide, by decide⟩ (Nat.le_of_ble_eq_true rfl)) ?_
      have hit18 := r5 k (by omega)
      obtain ⟨sa18, si18, hop18, -⟩ := r6 k (by omega)
      have hob18 := rb k (by omega)
      refine V_castS C hit18 rfl q222 dX1_place_21 ?_
      refine V_getN (C0 := RX5) (T := TX5) (N := 8) (ci := 5) C 0 in_X5 rfl hit18 (by decide) ev474 (fun _ h9 => h9) rfl dX1_place_24 ?_
      refine V_ofIe (VR_V (As := []) (rest := []) C (ct_X4_id l G b M g (A 1 k) (lo k) (r6 k (by omega)) (rb k (by omega))) hop18 rfl (lw_V q223 q224 q225 q55 q226) rfl nd_X4_id rfl (by decide) (by decide) dX1_place_27 rfl ⟨by decide, by decide⟩ (Nat.le_of_ble_eq_true rfl)) ?_
      have hz27 := (rb k (by omega)).2.2 0
      refine V_iload_n C dX1_place_30 rfl rfl ?_
      refine V_icmp_ne C 36 dX1_place_31 (by decide) (fun k31 => ?_) (fun k31 => ?_)
      · refine V_iinc (v := (nI (k + 1))) (L' := [some (.ref a), some (.int x), some (.int (nI (k + 1)))]) C dX1_place_36 rfl (nI_1 _) (by decide) rfl ?_
        refine V_goto C 2 dX1_place_39 (by decide) ?_
        refine V_sub ?_ (ih (by omega) (fun i hi => by rcases Nat.lt_or_ge i k with z | z; exact hb i z; rw [show i = k by omega]; exact decide_eq_false k31))
        repeat' (first | exact ls_e | refine ls_n ?_ | refine ls_s ?_ | refine ls_i ?_ ?_ | refine ls_v ?_ ?_)
      · refine V_iload_n C dX1_place_34 rfl rfl ?_
        exact V_iret C dX1_place_35 (by decide) (by decide) ⟨_, rfl, by unfold cplace; rw [firstI_at (j := k) (by omega) (decide_eq_true k31) hb]; rfl, rfl⟩
  refine V_sub ?_ (loop 0 (Nat.zero_le _) (fun i hi => absurd hi (Nat.not_lt_zero _)))
  repeat' (first | exact ls_e | refine ls_n ?_ | refine ls_s ?_ | refine ls_i ?_ ?_ | refine ls_v ?_ ?_)
  all_goals rfl
theorem ct_X1_item (l : Launch) (G : mp_G) (b : Nat) (M : mp_M) (g a ln : Nat) (lo : Nat → List Nat) (P : Nat → Int32) (hi : Nat → Option Nat) (sh fo : Nat → Bool) (ch : Nat → Nat → List Nat) (nx : Nat → Option Nat) (wt : List (List Nat)) (A : Nat → Nat → Nat) (wo : List Nat) (hR : RepAt G M g a ln lo P hi sh fo ch nx wt A wo) (x : Int32) : Ct l yX1_item cX1_item 3 (some (.object "ReplicaDocument$Item")) 6 0 0 G b ([.ref a, .int x] : List Value) M (pR (fun y M1 => y = (cplace ln lo x).map (A 0) ∧ M1 = M)) := by
  refine Ct.ofV (by decide) (vc_ref (vc_int vc_nil)) (Nat.le_of_ble_eq_true rfl) ?_
  intro p e s m below meth c C hnm
  refine V_L (L1 := [some (.ref a), some (.int x), none]) rfl ?_
  obtain ⟨r1, r2, r3, r4, r5, r6, r7, r8, r9, r10, r11⟩ := id hR
  have rb := r10.2.2.1
  have rln := r10.1
  have rwl := r10.2.1
  have rwo := r4.1
  obtain ⟨lmo, lar, hla⟩ := al_obj r2
  obtain ⟨wmo, war, hwa⟩ := al_obj r3
  refine V_aload_n C dX1_item_0 rfl rfl ?_
  refine V_iload_n C dX1_item_1 rfl rfl ?_
  refine V_ofIe (VR_V (As := [.int x]) (rest := []) C (ct_X1_place l G b M g a ln lo P hi sh fo ch nx wt A wo hR x) r1 rfl (lw_V q200 q201 q202 q37 q203) rfl nd_X1_place rfl (by decide) (by decide) dX1_item_2 rfl ⟨by decide, by decide⟩ (Nat.le_of_ble_eq_true rfl)) ?_
  rcases o2 : cplace ln lo x with _ | j2
  · refine V_top (y := -1) rfl ?_
    refine V_istore_n (L' := [some (.ref a), some (.int x), some (.int (-1))]) C dX1_item_5 rfl (by decide) rfl ?_
    refine V_iload_n C dX1_item_6 rfl rfl ?_
    refine V_if_ge C 14 dX1_item_7 (by decide) (fun h => absurd h (by decide)) (fun _ => ?_)
    refine V_null C dX1_item_10 ?_
    refine V_goto C 25 dX1_item_11 (by decide) ?_
    exact V_aret (o := none) C (Or.inl ⟨_, rfl⟩) dX1_item_25 (by decide) (by decide) ⟨_, rfl, rfl, rfl⟩
  · have hj2 := (firstI_get o2).1
    refine V_top (y := nI j2) rfl ?_
    refine V_istore_n (L' := [some (.ref a), some (.int x), some (.int (nI j2))]) C dX1_item_5 rfl (by decide) rfl ?_
    refine V_iload_n C dX1_item_6 rfl rfl ?_
    refine V_if_ge C 14 dX1_item_7 (by decide) (fun _ => ?_) (fun h => absurd (nI_pos' (n := j2) (by omega)) h)
    refine V_aload_n C dX1_item_14 rfl rfl ?_
    refine V_get (C0 := RX1) (T := TX1) (N := 3) (ci := 1) C 1 in_X1 rfl r1 (by decide) q117 (fun _ h9 => h9) rfl dX1_item_15 ?_
    refine V_iload_n C dX1_item_18 rfl rfl ?_
    refine V_ofRe (VR_V (As := [.int (nI j2)]) (rest := []) C (ct_J2_get l G b M (A 4 0) j2 (A 0 j2) (g, 4, 0) (g, 5, 0) _ r2 (lg_get (by omega)) (by rw [lg_len]; omega)) hla rfl (lw_V q208 q209 q210 q41 q211) rfl nd_J2_get rfl (by decide) (by decide) dX1_item_19 rfl ⟨by decide, by decide⟩ (Nat.le_of_ble_eq_true rfl)) ?_
    have hit19 := r5 j2 (by omega)
    obtain ⟨sa19, si19, hop19, -⟩ := r6 j2 (by omega)
    have hob19 := rb j2 (by omega)
    refine V_castS C hit19 rfl q222 dX1_item_22 ?_
    exact V_aret (o := some (A 0 j2)) C (Or.inl ⟨_, rfl⟩) dX1_item_25 (by decide) (by decide) ⟨_, rfl, rfl, rfl⟩
def celem (ln : Nat) (lo : Nat → List Nat) (hi : Nat → Option Nat) (x : Int32) : Option Nat := match cplace ln lo x with
  | none => none
  | some k => if oB (lo k) 1 = 3 ∧ (hi k).isSome = true then some k else none
theorem celem_lt {ln : Nat} {lo : Nat → List Nat} {hi : Nat → Option Nat} {x : Int32} {k : Nat} (h : celem ln lo hi x = some k) : k < ln := by
  unfold celem at h
  split at h
  · cases h
  · rename_i e
    split at h
    · cases h; exact (firstI_get e).1
    · cases h
theorem ct_X1_element (l : Launch) (G : mp_G) (b : Nat) (M : mp_M) (g a ln : Nat) (lo : Nat → List Nat) (P : Nat → Int32) (hi : Nat → Option Nat) (sh fo : Nat → Bool) (ch : Nat → Nat → List Nat) (nx : Nat → Option Nat) (wt : List (List Nat)) (A : Nat → Nat → Nat) (wo : List Nat) (hR : RepAt G M g a ln lo P hi sh fo ch nx wt A wo) (x : Int32) : Ct l yX1_element cX1_element 3 (some (.object "ReplicaDocument$Item")) 7 0 0 G b ([.ref a, .int x] : List Value) M (pR (fun y M1 => y = (celem ln lo hi x).map (A 0) ∧ M1 = M)) := by
  refine Ct.ofV (by decide) (vc_ref (vc_int vc_nil)) (Nat.le_of_ble_eq_true rfl) ?_
  intro p e s m below meth c C hnm
  refine V_L (L1 := [some (.ref a), some (.int x), none]) rfl ?_
  obtain ⟨r1, r2, r3, r4, r5, r6, r7, r8, r9, r10, r11⟩ := id hR
  have rb := r10.2.2.1
  have rln := r10.1
  have rwl := r10.2.1
  have rwo := r4.1
  obtain ⟨lmo, lar, hla⟩ := al_obj r2
  obtain ⟨wmo, war, hwa⟩ := al_obj r3
  refine V_aload_n C dX1_element_0 rfl rfl ?_
  refine V_iload_n C dX1_element_1 rfl rfl ?_
  refine V_ofRe (VR_V (As := [.int x]) (rest := []) C (ct_X1_item l G b M g a ln lo P hi sh fo ch nx wt A wo hR x) r1 rfl (lw_V q196 q197 q198 q37 q199) rfl nd_X1_item rfl (by decide) (by decide) dX1_element_2 rfl ⟨by decide, by decide⟩ (Nat.le_of_ble_eq_true rfl)) ?_
  rcases o2 : cplace ln lo x with _ | j2
  · refine V_st (st1 := [.null]) rfl ?_
    refine V_astore_nq (o := none) (L' := [some (.ref a), some (.int x), some (.null)]) C dX1_element_5 rfl (by decide) rfl ?_
    refine V_aload_nq (o := none) C dX1_element_6 rfl rfl ?_
    refine V_ifnull_N C 32 dX1_element_7 (by decide) ?_
    refine V_null C dX1_element_32 ?_
    exact V_aret (o := none) C (Or.inl ⟨_, rfl⟩) dX1_element_33 (by decide) (by decide) ⟨_, rfl, by unfold celem; first | (cases hh : hi j2 <;> simp_all; done) | simp [*], rfl⟩
  · have hj2 := (firstI_get o2).1
    refine V_st (st1 := [.ref (A 0 j2)]) rfl ?_
    have hit2 := r5 j2 (by omega)
    obtain ⟨sa2, si2, hop2, -⟩ := r6 j2 (by omega)
    have hob2 := rb j2 (by omega)
    refine V_astore_n (L' := [some (.ref a), some (.int x), some (.ref (A 0 j2))]) C dX1_element_5 rfl (by decide) rfl ?_
    refine V_aload_n C dX1_element_6 rfl rfl ?_
    refine V_ifnull_R C dX1_element_7 ?_
    refine V_aload_n C dX1_element_10 rfl rfl ?_
    refine V_getN (C0 := RX5) (T := TX5) (N := 8) (ci := 5) C 0 in_X5 rfl hit2 (by decide) ev474 (fun _ h9 => h9) rfl dX1_element_11 ?_
    refine V_ofIe (VR_V (As := []) (rest := []) C (ct_X4_kind l G b M g (A 1 j2) (lo j2) (r6 j2 (by omega)) (rb j2 (by omega))) hop2 rfl (lw_V q264 q265 q266 q55 q267) rfl nd_X4_kind rfl (by decide) (by decide) dX1_element_14 rfl ⟨by decide, by decide⟩ (Nat.le_of_ble_eq_true rfl)) ?_
    have hz14 := (rb j2 (by omega)).2.2 1
    refine V_iconst C 3 dX1_element_17 (by decide) ?_
    refine V_nicmp_ne (x := oB (lo j2) 1) (y := 3) C 32 dX1_element_18 (by decide) (by omega) (by omega) (fun k18 => ?_) (fun k18 => ?_)
    · refine V_null C dX1_element_32 ?_
      exact V_aret (o := none) C (Or.inl ⟨_, rfl⟩) dX1_element_33 (by decide) (by decide) ⟨_, rfl, by unfold celem; first | (cases hh : hi j2 <;> simp_all; done) | simp [*], rfl⟩
    · refine V_aload_n C dX1_element_21 rfl rfl ?_
      refine V_getN (C0 := RX5) (T := TX5) (N := 8) (ci := 5) C 4 in_X5 rfl hit2 (by decide) ev488 (fun _ h9 => h9) rfl dX1_element_22 ?_
      refine V_ifnull C 32 dX1_element_25 (by decide) (fun k25 => ?_) (fun o25 k25 => ?_)
      · refine V_null C dX1_element_32 ?_
        exact V_aret (o := none) C (Or.inl ⟨_, rfl⟩) dX1_element_33 (by decide) (by decide) ⟨_, rfl, by unfold celem; first | (cases hh : hi j2 <;> simp_all; done) | simp [*], rfl⟩
      · refine V_aload_n C dX1_element_28 rfl rfl ?_
        refine V_goto C 33 dX1_element_29 (by decide) ?_
        exact V_aret (o := some (A 0 j2)) C (Or.inl ⟨_, rfl⟩) dX1_element_33 (by decide) (by decide) ⟨_, rfl, by unfold celem; first | (cases hh : hi j2 <;> simp_all; done) | simp [*], rfl⟩
def cnode (ln : Nat) (lo : Nat → List Nat) (x : Int32) : Option Nat := if x = 0 then some 0 else match cplace ln lo x with
  | none => none
  | some k => if oB (lo k) 1 = 1 ∨ oB (lo k) 1 = 2 then some (k + 1) else none
theorem cnode_le {ln : Nat} {lo : Nat → List Nat} {x : Int32} {m : Nat} (h : cnode ln lo x = some m) : m ≤ ln ∧ (isMap lo m ∨ isLst lo m) := by
  unfold cnode at h
  split at h
  · cases h; exact ⟨Nat.zero_le _, Or.inl (Or.inl rfl)⟩
  · split at h
    · cases h
    · rename_i e
      split at h
      · rename_i e2
        cases h
        refine ⟨(firstI_get e).1, ?_⟩
        rcases e2 with z | z
        · exact Or.inl (Or.inr z)
        · exact Or.inr ⟨by omega, z⟩
      · cases h
theorem ct_X1_node (l : Launch) (G : mp_G) (b : Nat) (M : mp_M) (g a ln : Nat) (lo : Nat → List Nat) (P : Nat → Int32) (hi : Nat → Option Nat) (sh fo : Nat → Bool) (ch : Nat → Nat → List Nat) (nx : Nat → Option Nat) (wt : List (List Nat)) (A : Nat → Nat → Nat) (wo : List Nat) (hR : RepAt G M g a ln lo P hi sh fo ch nx wt A wo) (x : Int32) : Ct l yX1_node cX1_node 3 (some (.object "ReplicaDocument$Node")) 7 0 0 G b ([.ref a, .int x] : List Value) M (pR (fun y M1 => y = (cnode ln lo x).map (A 2) ∧ M1 = M)) := by
  refine Ct.ofV (by decide) (vc_ref (vc_int vc_nil)) (Nat.le_of_ble_eq_true rfl) ?_
  intro p e s m below meth c C hnm
  refine V_L (L1 := [some (.ref a), some (.int x), none]) rfl ?_
  obtain ⟨r1, r2, r3, r4, r5, r6, r7, r8, r9, r10, r11⟩ := id hR
  have rb := r10.2.2.1
  have rln := r10.1
  have rwl := r10.2.1
  have rwo := r4.1
  obtain ⟨lmo, lar, hla⟩ := al_obj r2
  obtain ⟨wmo, war, hwa⟩ := al_obj r3
  refine V_iload_n C dX1_node_0 rfl rfl ?_
  refine V_if_ne C 8 dX1_node_1 (by decide) (fun k1 => ?_) (fun k1 => ?_)
  · refine V_aload_n C dX1_node_8 rfl rfl ?_
    refine V_iload_n C dX1_node_9 rfl rfl ?_
    refine V_ofRe (VR_V (As := [.int x]) (rest := []) C (ct_X1_item l G b M g a ln lo P hi sh fo ch nx wt A wo hR x) r1 rfl (lw_V q196 q197 q198 q37 q199) rfl nd_X1_item rfl (by decide) (by decide) dX1_node_10 rfl ⟨by decide, by decide⟩ (Nat.le_of_ble_eq_true rfl)) ?_
    rcases o10 : cplace ln lo x with _ | j10
    · refine V_st (st1 := [.null]) rfl ?_
      refine V_astore_nq (o := none) (L' := [some (.ref a), some (.int x), some (.null)]) C dX1_node_13 rfl (by decide) rfl ?_
      refine V_iload_n C dX1_node_14 rfl rfl ?_
      refine V_if_ne C 25 dX1_node_15 (by decide) (fun k15 => ?_) (fun k15 => ?_)
      · refine V_aload_nq (o := none) C dX1_node_25 rfl rfl ?_
        refine V_ifnonnull_N C dX1_node_26 ?_
        refine V_null C dX1_node_29 ?_
        refine V_goto C 37 dX1_node_30 (by decide) ?_
        exact V_aret (o := none) C (Or.inl ⟨_, rfl⟩) dX1_node_37 (by decide) (by decide) ⟨_, rfl, by first | exact absurd k1 k15 | exact absurd k15 k1 | (unfold cnode; simp [*, nodeO]; done) | (unfold cnode; simp [*, nodeO]; split <;> rfl), rfl⟩
      · refine V_aload_n C dX1_node_18 rfl rfl ?_
        refine V_get (C0 := RX1) (T := TX1) (N := 3) (ci := 1) C 0 in_X1 rfl r1 (by decide) q115 (fun _ h9 => h9) rfl dX1_node_19 ?_
        refine V_goto C 37 dX1_node_22 (by decide) ?_
        exact V_aret (o := some (A 2 0)) C (Or.inl ⟨_, rfl⟩) dX1_node_37 (by decide) (by decide) ⟨_, rfl, by first | exact absurd k1 k15 | exact absurd k15 k1 | (unfold cnode; simp [*, nodeO]; done) | (unfold cnode; simp [*, nodeO]; split <;> rfl), rfl⟩
    · have hj10 := (firstI_get o10).1
      refine V_st (st1 := [.ref (A 0 j10)]) rfl ?_
      have hit10 := r5 j10 (by omega)
      obtain ⟨sa10, si10, hop10, -⟩ := r6 j10 (by omega)
      have hob10 := rb j10 (by omega)
      refine V_astore_n (L' := [some (.ref a), some (.int x), some (.ref (A 0 j10))]) C dX1_node_13 rfl (by decide) rfl ?_
      refine V_iload_n C dX1_node_14 rfl rfl ?_
      refine V_if_ne C 25 dX1_node_15 (by decide) (fun k15 => ?_) (fun k15 => ?_)
      · refine V_aload_n C dX1_node_25 rfl rfl ?_
        refine V_ifnonnull_R C 33 dX1_node_26 (by decide) ?_
        refine V_aload_n C dX1_node_33 rfl rfl ?_
        refine V_getN (C0 := RX5) (T := TX5) (N := 8) (ci := 5) C 3 in_X5 rfl hit10 (by decide) ev484 (fun _ h9 => h9) rfl dX1_node_34 ?_
        exact V_aret C (Or.inl ⟨_, rfl⟩) dX1_node_37 (by decide) (by decide) ⟨_, rfl, by first | exact absurd k1 k15 | exact absurd k15 k1 | (unfold cnode; simp [*, nodeO]; done) | (unfold cnode; simp [*, nodeO]; split <;> rfl), rfl⟩
      · refine V_aload_n C dX1_node_18 rfl rfl ?_
        refine V_get (C0 := RX1) (T := TX1) (N := 3) (ci := 1) C 0 in_X1 rfl r1 (by decide) q115 (fun _ h9 => h9) rfl dX1_node_19 ?_
        refine V_goto C 37 dX1_node_22 (by decide) ?_
        exact V_aret (o := some (A 2 0)) C (Or.inl ⟨_, rfl⟩) dX1_node_37 (by decide) (by decide) ⟨_, rfl, by first | exact absurd k1 k15 | exact absurd k15 k1 | (unfold cnode; simp [*, nodeO]; done) | (unfold cnode; simp [*, nodeO]; split <;> rfl), rfl⟩
  · refine V_null C dX1_node_4 ?_
    refine V_goto C 13 dX1_node_5 (by decide) ?_
    refine V_astore_nq (o := none) (L' := [some (.ref a), some (.int x), some (.null)]) C dX1_node_13 rfl (by decide) rfl ?_
    refine V_iload_n C dX1_node_14 rfl rfl ?_
    refine V_if_ne C 25 dX1_node_15 (by decide) (fun k15 => ?_) (fun k15 => ?_)
    · refine V_aload_nq (o := none) C dX1_node_25 rfl rfl ?_
      refine V_ifnonnull_N C dX1_node_26 ?_
      refine V_null C dX1_node_29 ?_
      refine V_goto C 37 dX1_node_30 (by decide) ?_
      exact V_aret (o := none) C (Or.inl ⟨_, rfl⟩) dX1_node_37 (by decide) (by decide) ⟨_, rfl, by first | exact absurd k1 k15 | exact absurd k15 k1 | (unfold cnode; simp [*, nodeO]; done) | (unfold cnode; simp [*, nodeO]; split <;> rfl), rfl⟩
    · refine V_aload_n C dX1_node_18 rfl rfl ?_
      refine V_get (C0 := RX1) (T := TX1) (N := 3) (ci := 1) C 0 in_X1 rfl r1 (by decide) q115 (fun _ h9 => h9) rfl dX1_node_19 ?_
      refine V_goto C 37 dX1_node_22 (by decide) ?_
      exact V_aret (o := some (A 2 0)) C (Or.inl ⟨_, rfl⟩) dX1_node_37 (by decide) (by decide) ⟨_, rfl, by first | exact absurd k1 k15 | exact absurd k15 k1 | (unfold cnode; simp [*, nodeO]; done) | (unfold cnode; simp [*, nodeO]; split <;> rfl), rfl⟩
theorem ct_X1_size (l : Launch) (G : mp_G) (b : Nat) (M : mp_M) (g a ln : Nat) (lo : Nat → List Nat) (P : Nat → Int32) (hi : Nat → Option Nat) (sh fo : Nat → Bool) (ch : Nat → Nat → List Nat) (nx : Nat → Option Nat) (wt : List (List Nat)) (A : Nat → Nat → Nat) (wo : List Nat) (hR : RepAt G M g a ln lo P hi sh fo ch nx wt A wo) : Ct l yX1_size cX1_size 1 (some .int) 1 0 0 G b ([.ref a] : List Value) M (pI (fun y M1 => y = nI (ln + wt.length) ∧ M1 = M)) := by
  refine Ct.ofV (by decide) (vc_ref vc_nil) (Nat.le_of_ble_eq_true rfl) ?_
  intro p e s m below meth c C hnm
  refine V_L (L1 := [some (.ref a)]) rfl ?_
  obtain ⟨r1, r2, r3, r4, r5, r6, r7, r8, r9, r10, r11⟩ := id hR
  have rb := r10.2.2.1
  have rln := r10.1
  have rwl := r10.2.1
  have rwo := r4.1
  obtain ⟨lmo, lar, hla⟩ := al_obj r2
  obtain ⟨wmo, war, hwa⟩ := al_obj r3
  refine V_aload_n C dX1_size_0 rfl rfl ?_
  refine V_get (C0 := RX1) (T := TX1) (N := 3) (ci := 1) C 1 in_X1 rfl r1 (by decide) q117 (fun _ h9 => h9) rfl dX1_size_1 ?_
  refine V_ofIe (VR_V (As := []) (rest := []) C (ct_J2_sizeN l G b M (A 4 0) (g, 4, 0) (g, 5, 0) _ r2 lg_len) hla rfl (lw_V q204 q205 q206 q41 q207) rfl nd_J2_size rfl (by decide) (by decide) dX1_size_4 rfl ⟨by decide, by decide⟩ (Nat.le_of_ble_eq_true rfl)) ?_
  refine V_aload_n C dX1_size_7 rfl rfl ?_
  refine V_get (C0 := RX1) (T := TX1) (N := 3) (ci := 1) C 2 in_X1 rfl r1 (by decide) q119 (fun _ h9 => h9) rfl dX1_size_8 ?_
  refine V_ofIe (VR_V (As := []) (rest := [.int (nI ln)]) C (ct_J2_size l G b M (A 4 1) (g, 6, 0) (g, 7, 0) _ r3) hwa rfl (lw_V q204 q205 q206 q41 q207) rfl nd_J2_size rfl (by decide) (by decide) dX1_size_11 rfl ⟨by decide, by decide⟩ (Nat.le_of_ble_eq_true rfl)) ?_
  refine V_iadd C dX1_size_14 ?_
  refine V_top (y := (nI (ln + wo.length))) (nI_add ln wo.length) ?_
  exact V_iret C dX1_size_15 (by decide) (by decide) ⟨_, rfl, by rw [rwo], rfl⟩
theorem node_inj {G : mp_G} {M : mp_M} {g a ln : Nat} {lo : Nat → List Nat} {P : Nat → Int32} {hi : Nat → Option Nat} {sh fo : Nat → Bool} {ch : Nat → Nat → List Nat} {nx : Nat → Option Nat} {wt : List (List Nat)} {A : Nat → Nat → Nat} {wo : List Nat} (hR : RepAt G M g a ln lo P hi sh fo ch nx wt A wo) {m1 m2 : Nat} (h1 : m1 ≤ ln) (k1 : isMap lo m1 ∨ isLst lo m1) (h2 : m2 ≤ ln) (k2 : isMap lo m2 ∨ isLst lo m2) (e : A 2 m1 = A 2 m2) : m1 = m2 := by
  obtain ⟨-, -, -, -, -, -, r7, r8, -⟩ := hR
  rcases k1 with k1 | k1 <;> rcases k2 with k2 | k2
  · have e1 := (r7 m1 h1 k1).1
    rw [e, (r7 m2 h2 k2).1] at e1
    simp at e1
    omega
  · have e1 := (r7 m1 h1 k1).1
    rw [e, r8 m2 h2 k2] at e1
    simp at e1
  · have e1 := r8 m1 h1 k1
    rw [e, (r7 m2 h2 k2).1] at e1
    simp at e1
  · have e1 := r8 m1 h1 k1
    rw [e, r8 m2 h2 k2] at e1
    simp at e1
    omega
theorem home_eq {G : mp_G} {M : mp_M} {g a ln : Nat} {lo : Nat → List Nat} {P : Nat → Int32} {hi : Nat → Option Nat} {sh fo : Nat → Bool} {ch : Nat → Nat → List Nat} {nx : Nat → Option Nat} {wt : List (List Nat)} {A : Nat → Nat → Nat} {wo : List Nat} (hR : RepAt G M g a ln lo P hi sh fo ch nx wt A wo) {k m : Nat} (hk : k < ln) (hm : m ≤ ln) (km : isMap lo m ∨ isLst lo m) : (hi k).map (A 2) = some (A 2 m) ↔ hi k = some m := by
  have r11 := hR.2.2.2.2.2.2.2.2.2.2
  constructor
  · intro h
    cases e : hi k with
    | none => rw [e] at h; cases h
    | some m2 =>
      rw [e] at h
      have h3 := r11 k m2 hk e
      rw [node_inj hR h3.1 h3.2 hm km (Option.some.inj h)]
  · intro h; rw [h]; rfl
def isMapB (lo : Nat → List Nat) (m : Nat) : Bool := decide (m = 0) || decide (oB (lo (m - 1)) 1 = 1)
def isLstB (lo : Nat → List Nat) (m : Nat) : Bool := decide (m ≠ 0) && decide (oB (lo (m - 1)) 1 = 2)
theorem isMapB_t {lo : Nat → List Nat} {m : Nat} (h : isMap lo m) : isMapB lo m = true := by
  unfold isMapB
  rcases h with z | z
  · rw [decide_eq_true z]; rfl
  · rw [decide_eq_true z]; simp
theorem isLstB_t {lo : Nat → List Nat} {m : Nat} (h : isLst lo m) : isLstB lo m = true := by
  unfold isLstB
  rw [decide_eq_true h.1, decide_eq_true h.2]; rfl
theorem isMapB_f {lo : Nat → List Nat} {m : Nat} (h : isLst lo m) : isMapB lo m = false := by
  unfold isMapB
  rw [decide_eq_false h.1, h.2]; rfl
theorem isLstB_f {lo : Nat → List Nat} {m : Nat} (h : isMap lo m) : isLstB lo m = false := by
  unfold isLstB
  rcases h with z | z
  · rw [decide_eq_false (by omega)]; rfl
  · rw [z]; simp
def cfits (ln : Nat) (lo : Nat → List Nat) (hi : Nat → Option Nat) (kd tg sl : Int32) : Bool :=
  if kd = 4 then (celem ln lo hi tg).isSome
  else if kd = 3 then (match cnode ln lo tg with
    | none => false
    | some m => isLstB lo m && (decide (sl = 0) || (match celem ln lo hi sl with
      | none => false
      | some k => decide (hi k = some m))))
  else (match cnode ln lo tg with
    | none => false
    | some m => isMapB lo m)
theorem ct_X1_fits (l : Launch) (G : mp_G) (b : Nat) (M : mp_M) (g a ln : Nat) (lo : Nat → List Nat) (P : Nat → Int32) (hi : Nat → Option Nat) (sh fo : Nat → Bool) (ch : Nat → Nat → List Nat) (nx : Nat → Option Nat) (wt : List (List Nat)) (A : Nat → Nat → Nat) (wo : List Nat) (hR : RepAt G M g a ln lo P hi sh fo ch nx wt A wo) (kd tg sl : Int32) : Ct l yX1_fits cX1_fits 6 (some .boolean) 8 0 0 G b ([.ref a, .int kd, .int tg, .int sl] : List Value) M (pI (fun y M1 => y = bI (cfits ln lo hi kd tg sl) ∧ M1 = M)) := by
  refine Ct.ofV (by decide) (vc_ref (vc_int (vc_int (vc_int vc_nil)))) (Nat.le_of_ble_eq_true rfl) ?_
  intro p e s m below meth c C hnm
  refine V_L (L1 := [some (.ref a), some (.int kd), some (.int tg), some (.int sl), none, none]) rfl ?_
  obtain ⟨r1, r2, r3, r4, r5, r6, r7, r8, r9, r10, r11⟩ := id hR
  have rb := r10.2.2.1
  have rln := r10.1
  have rwl := r10.2.1
  have rwo := r4.1
  obtain ⟨lmo, lar, hla⟩ := al_obj r2
  obtain ⟨wmo, war, hwa⟩ := al_obj r3
  refine V_iload_n C dX1_fits_0 rfl rfl ?_
  refine V_iconst C 4 dX1_fits_1 (by decide) ?_
  refine V_icmp_ne C 19 dX1_fits_2 (by decide) (fun k2 => ?_) (fun k2 => ?_)
  · refine V_aload_n C dX1_fits_19 rfl rfl ?_
    refine V_iload_n C dX1_fits_20 rfl rfl ?_
    refine V_ofRe (VR_V (As := [.int tg]) (rest := []) C (ct_X1_node l G b M g a ln lo P hi sh fo ch nx wt A wo hR tg) r1 rfl (lw_V q268 q269 q270 q37 q271) rfl nd_X1_node rfl (by decide) (by decide) dX1_fits_21 rfl ⟨by decide, by decide⟩ (Nat.le_of_ble_eq_true rfl)) ?_
    rcases o21 : cnode ln lo tg with _ | j21
    · refine V_st (st1 := [.null]) rfl ?_
      refine V_astoreq (o := none) (L' := [some (.ref a), some (.int kd), some (.int tg), some (.int sl), some (.null), none]) C dX1_fits_24 (by decide) rfl ?_
      refine V_iload_n C dX1_fits_26 rfl rfl ?_
      refine V_iconst C 3 dX1_fits_27 (by decide) ?_
      refine V_icmp_eq C 37 dX1_fits_28 (by decide) (fun k28 => ?_) (fun k28 => ?_)
      · refine V_aloadq (o := none) C dX1_fits_37 rfl ?_
        refine V_instN C dX1_fits_39 ?_
        refine V_if_ne C 47 dX1_fits_42 (by decide) (fun h => absurd rfl h) (fun _ => ?_)
        refine V_iconst C 0 dX1_fits_45 (by decide) ?_
        exact V_zret C rfl dX1_fits_46 (by decide) (by decide) ⟨_, rfl, by first | (refine bt ?_; unfold cfits; simp [*, isMapB_t, isLstB_t]; done) | (refine bf ?_; unfold cfits; simp [*, isMapB_f, isLstB_f]; done) | (refine bt ?_; unfold cfits; rw [if_neg k2, if_pos k28, o21]; dsimp only; rw [isLstB_t hls21, o49]; dsimp only; rw [decide_eq_true ((home_eq hR hj49 hj21.1 hj21.2).mp k70), Bool.or_true]; rfl) | (refine bf ?_; unfold cfits; rw [if_neg k2, if_pos k28, o21]; dsimp only; rw [isLstB_t hls21, o49]; dsimp only; rw [decide_eq_false k55, decide_eq_false (fun z => k70 ((home_eq hR hj49 hj21.1 hj21.2).mpr z))]; rfl), rfl⟩
      · refine V_aloadq (o := none) C dX1_fits_31 rfl ?_
        refine V_instN C dX1_fits_33 ?_
        exact V_zret C rfl dX1_fits_36 (by decide) (by decide) ⟨_, rfl, by first | (refine bt ?_; unfold cfits; simp [*, isMapB_t, isLstB_t]; done) | (refine bf ?_; unfold cfits; simp [*, isMapB_f, isLstB_f]; done) | (refine bt ?_; unfold cfits; rw [if_neg k2, if_pos k28, o21]; dsimp only; rw [isLstB_t hls21, o49]; dsimp only; rw [decide_eq_true ((home_eq hR hj49 hj21.1 hj21.2).mp k70), Bool.or_true]; rfl) | (refine bf ?_; unfold cfits; rw [if_neg k2, if_pos k28, o21]; dsimp only; rw [isLstB_t hls21, o49]; dsimp only; rw [decide_eq_false k55, decide_eq_false (fun z => k70 ((home_eq hR hj49 hj21.1 hj21.2).mpr z))]; rfl), rfl⟩
    · have hj21 := cnode_le o21
      refine V_st (st1 := [.ref (A 2 j21)]) rfl ?_
      rcases hj21.2 with hmp21 | hls21
      · obtain ⟨hnd21, hen21⟩ := r7 j21 hj21.1 hmp21
        refine V_astore (L' := [some (.ref a), some (.int kd), some (.int tg), some (.int sl), some (.ref (A 2 j21)), none]) C dX1_fits_24 (by decide) rfl ?_
        refine V_iload_n C dX1_fits_26 rfl rfl ?_
        refine V_iconst C 3 dX1_fits_27 (by decide) ?_
        refine V_icmp_eq C 37 dX1_fits_28 (by decide) (fun k28 => ?_) (fun k28 => ?_)
        · refine V_aload C dX1_fits_37 rfl ?_
          refine V_instNo C hnd21 rfl q272 C.2.2.2.1.2.2.1.2.2.2.2.2.2.2.1 dX1_fits_39 ?_
          refine V_if_ne C 47 dX1_fits_42 (by decide) (fun h => absurd rfl h) (fun _ => ?_)
          refine V_iconst C 0 dX1_fits_45 (by decide) ?_
          exact V_zret C rfl dX1_fits_46 (by decide) (by decide) ⟨_, rfl, by first | (refine bt ?_; unfold cfits; simp [*, isMapB_t, isLstB_t]; done) | (refine bf ?_; unfold cfits; simp [*, isMapB_f, isLstB_f]; done) | (refine bt ?_; unfold cfits; rw [if_neg k2, if_pos k28, o21]; dsimp only; rw [isLstB_t hls21, o49]; dsimp only; rw [decide_eq_true ((home_eq hR hj49 hj21.1 hj21.2).mp k70), Bool.or_true]; rfl) | (refine bf ?_; unfold cfits; rw [if_neg k2, if_pos k28, o21]; dsimp only; rw [isLstB_t hls21, o49]; dsimp only; rw [decide_eq_false k55, decide_eq_false (fun z => k70 ((home_eq hR hj49 hj21.1 hj21.2).mpr z))]; rfl), rfl⟩
        · refine V_aload C dX1_fits_31 rfl ?_
          refine V_instS C hnd21 rfl q73 dX1_fits_33 ?_
          exact V_zret C rfl dX1_fits_36 (by decide) (by decide) ⟨_, rfl, by first | (refine bt ?_; unfold cfits; simp [*, isMapB_t, isLstB_t]; done) | (refine bf ?_; unfold cfits; simp [*, isMapB_f, isLstB_f]; done) | (refine bt ?_; unfold cfits; rw [if_neg k2, if_pos k28, o21]; dsimp only; rw [isLstB_t hls21, o49]; dsimp only; rw [decide_eq_true ((home_eq hR hj49 hj21.1 hj21.2).mp k70), Bool.or_true]; rfl) | (refine bf ?_; unfold cfits; rw [if_neg k2, if_pos k28, o21]; dsimp only; rw [isLstB_t hls21, o49]; dsimp only; rw [decide_eq_false k55, decide_eq_false (fun z => k70 ((home_eq hR hj49 hj21.1 hj21.2).mpr z))]; rfl), rfl⟩
      · have hnd21 := r8 j21 hj21.1 hls21
        refine V_astore (L' := [some (.ref a), some (.int kd), some (.int tg), some (.int sl), some (.ref (A 2 j21)), none]) C dX1_fits_24 (by decide) rfl ?_
        refine V_iload_n C dX1_fits_26 rfl rfl ?_
        refine V_iconst C 3 dX1_fits_27 (by decide) ?_
        refine V_icmp_eq C 37 dX1_fits_28 (by decide) (fun k28 => ?_) (fun k28 => ?_)
        · refine V_aload C dX1_fits_37 rfl ?_
          refine V_instS C hnd21 rfl q272 dX1_fits_39 ?_
          refine V_if_ne C 47 dX1_fits_42 (by decide) (fun _ => ?_) (fun h => absurd h (by decide))
          refine V_aload_n C dX1_fits_47 rfl rfl ?_
          refine V_iload_n C dX1_fits_48 rfl rfl ?_
          refine V_ofRe (VR_V (As := [.int sl]) (rest := []) C (ct_X1_element l G b M g a ln lo P hi sh fo ch nx wt A wo hR sl) r1 rfl (lw_V q192 q193 q194 q37 q195) rfl nd_X1_element rfl (by decide) (by decide) dX1_fits_49 rfl ⟨by decide, by decide⟩ (Nat.le_of_ble_eq_true rfl)) ?_
          rcases o49 : celem ln lo hi sl with _ | j49
          · refine V_st (st1 := [.null]) rfl ?_
            refine V_astoreq (o := none) (L' := [some (.ref a), some (.int kd), some (.int tg), some (.int sl), some (.ref (A 2 j21)), some (.null)]) C dX1_fits_52 (by decide) rfl ?_
            refine V_iload_n C dX1_fits_54 rfl rfl ?_
            refine V_if_eq C 73 dX1_fits_55 (by decide) (fun k55 => ?_) (fun k55 => ?_)
            · refine V_iconst C 1 dX1_fits_73 (by decide) ?_
              refine V_goto C 78 dX1_fits_74 (by decide) ?_
              exact V_zret C rfl dX1_fits_78 (by decide) (by decide) ⟨_, rfl, by first | (refine bt ?_; unfold cfits; simp [*, isMapB_t, isLstB_t]; done) | (refine bf ?_; unfold cfits; simp [*, isMapB_f, isLstB_f]; done) | (refine bt ?_; unfold cfits; rw [if_neg k2, if_pos k28, o21]; dsimp only; rw [isLstB_t hls21, o49]; dsimp only; rw [decide_eq_true ((home_eq hR hj49 hj21.1 hj21.2).mp k70), Bool.or_true]; rfl) | (refine bf ?_; unfold cfits; rw [if_neg k2, if_pos k28, o21]; dsimp only; rw [isLstB_t hls21, o49]; dsimp only; rw [decide_eq_false k55, decide_eq_false (fun z => k70 ((home_eq hR hj49 hj21.1 hj21.2).mpr z))]; rfl), rfl⟩
            · refine V_aloadq (o := none) C dX1_fits_58 rfl ?_
              refine V_ifnull_N C 77 dX1_fits_60 (by decide) ?_
              refine V_iconst C 0 dX1_fits_77 (by decide) ?_
              exact V_zret C rfl dX1_fits_78 (by decide) (by decide) ⟨_, rfl, by first | (refine bt ?_; unfold cfits; simp [*, isMapB_t, isLstB_t]; done) | (refine bf ?_; unfold cfits; simp [*, isMapB_f, isLstB_f]; done) | (refine bt ?_; unfold cfits; rw [if_neg k2, if_pos k28, o21]; dsimp only; rw [isLstB_t hls21, o49]; dsimp only; rw [decide_eq_true ((home_eq hR hj49 hj21.1 hj21.2).mp k70), Bool.or_true]; rfl) | (refine bf ?_; unfold cfits; rw [if_neg k2, if_pos k28, o21]; dsimp only; rw [isLstB_t hls21, o49]; dsimp only; rw [decide_eq_false k55, decide_eq_false (fun z => k70 ((home_eq hR hj49 hj21.1 hj21.2).mpr z))]; rfl), rfl⟩
          · have hj49 := celem_lt o49
            refine V_st (st1 := [.ref (A 0 j49)]) rfl ?_
            have hit49 := r5 j49 (by omega)
            obtain ⟨sa49, si49, hop49, -⟩ := r6 j49 (by omega)
            have hob49 := rb j49 (by omega)
            refine V_astore (L' := [some (.ref a), some (.int kd), some (.int tg), some (.int sl), some (.ref (A 2 j21)), some (.ref (A 0 j49))]) C dX1_fits_52 (by decide) rfl ?_
            refine V_iload_n C dX1_fits_54 rfl rfl ?_
            refine V_if_eq C 73 dX1_fits_55 (by decide) (fun k55 => ?_) (fun k55 => ?_)
            · refine V_iconst C 1 dX1_fits_73 (by decide) ?_
              refine V_goto C 78 dX1_fits_74 (by decide) ?_
              exact V_zret C rfl dX1_fits_78 (by decide) (by decide) ⟨_, rfl, by first | (refine bt ?_; unfold cfits; simp [*, isMapB_t, isLstB_t]; done) | (refine bf ?_; unfold cfits; simp [*, isMapB_f, isLstB_f]; done) | (refine bt ?_; unfold cfits; rw [if_neg k2, if_pos k28, o21]; dsimp only; rw [isLstB_t hls21, o49]; dsimp only; rw [decide_eq_true ((home_eq hR hj49 hj21.1 hj21.2).mp k70), Bool.or_true]; rfl) | (refine bf ?_; unfold cfits; rw [if_neg k2, if_pos k28, o21]; dsimp only; rw [isLstB_t hls21, o49]; dsimp only; rw [decide_eq_false k55, decide_eq_false (fun z => k70 ((home_eq hR hj49 hj21.1 hj21.2).mpr z))]; rfl), rfl⟩
            · refine V_aload C dX1_fits_58 rfl ?_
              refine V_ifnull_R C dX1_fits_60 ?_
              refine V_aload C dX1_fits_63 rfl ?_
              refine V_getN (C0 := RX5) (T := TX5) (N := 8) (ci := 5) C 4 in_X5 rfl hit49 (by decide) ev488 (fun _ h9 => h9) rfl dX1_fits_65 ?_
              refine V_aload C dX1_fits_68 rfl ?_
              refine V_acmp_ne (rx := ((hi j49).map (A 2))) (ry := (some (A 2 j21))) C 77 dX1_fits_70 (by decide) (fun k70 => ?_) (fun k70 => ?_)
              · refine V_iconst C 0 dX1_fits_77 (by decide) ?_
                exact V_zret C rfl dX1_fits_78 (by decide) (by decide) ⟨_, rfl, by first | (refine bt ?_; unfold cfits; simp [*, isMapB_t, isLstB_t]; done) | (refine bf ?_; unfold cfits; simp [*, isMapB_f, isLstB_f]; done) | (refine bt ?_; unfold cfits; rw [if_neg k2, if_pos k28, o21]; dsimp only; rw [isLstB_t hls21, o49]; dsimp only; rw [decide_eq_true ((home_eq hR hj49 hj21.1 hj21.2).mp k70), Bool.or_true]; rfl) | (refine bf ?_; unfold cfits; rw [if_neg k2, if_pos k28, o21]; dsimp only; rw [isLstB_t hls21, o49]; dsimp only; rw [decide_eq_false k55, decide_eq_false (fun z => k70 ((home_eq hR hj49 hj21.1 hj21.2).mpr z))]; rfl), rfl⟩
              · refine V_iconst C 1 dX1_fits_73 (by decide) ?_
                refine V_goto C 78 dX1_fits_74 (by decide) ?_
                exact V_zret C rfl dX1_fits_78 (by decide) (by decide) ⟨_, rfl, by first | (refine bt ?_; unfold cfits; simp [*, isMapB_t, isLstB_t]; done) | (refine bf ?_; unfold cfits; simp [*, isMapB_f, isLstB_f]; done) | (refine bt ?_; unfold cfits; rw [if_neg k2, if_pos k28, o21]; dsimp only; rw [isLstB_t hls21, o49]; dsimp only; rw [decide_eq_true ((home_eq hR hj49 hj21.1 hj21.2).mp k70), Bool.or_true]; rfl) | (refine bf ?_; unfold cfits; rw [if_neg k2, if_pos k28, o21]; dsimp only; rw [isLstB_t hls21, o49]; dsimp only; rw [decide_eq_false k55, decide_eq_false (fun z => k70 ((home_eq hR hj49 hj21.1 hj21.2).mpr z))]; rfl), rfl⟩
        · refine V_aload C dX1_fits_31 rfl ?_
          refine V_instNo C hnd21 rfl q73 C.2.2.2.1.2.2.1.2.2.2.2.2.2.2.2.1 dX1_fits_33 ?_
          exact V_zret C rfl dX1_fits_36 (by decide) (by decide) ⟨_, rfl, by first | (refine bt ?_; unfold cfits; simp [*, isMapB_t, isLstB_t]; done) | (refine bf ?_; unfold cfits; simp [*, isMapB_f, isLstB_f]; done) | (refine bt ?_; unfold cfits; rw [if_neg k2, if_pos k28, o21]; dsimp only; rw [isLstB_t hls21, o49]; dsimp only; rw [decide_eq_true ((home_eq hR hj49 hj21.1 hj21.2).mp k70), Bool.or_true]; rfl) | (refine bf ?_; unfold cfits; rw [if_neg k2, if_pos k28, o21]; dsimp only; rw [isLstB_t hls21, o49]; dsimp only; rw [decide_eq_false k55, decide_eq_false (fun z => k70 ((home_eq hR hj49 hj21.1 hj21.2).mpr z))]; rfl), rfl⟩
  · refine V_aload_n C dX1_fits_5 rfl rfl ?_
    refine V_iload_n C dX1_fits_6 rfl rfl ?_
    refine V_ofRe (VR_V (As := [.int tg]) (rest := []) C (ct_X1_element l G b M g a ln lo P hi sh fo ch nx wt A wo hR tg) r1 rfl (lw_V q192 q193 q194 q37 q195) rfl nd_X1_element rfl (by decide) (by decide) dX1_fits_7 rfl ⟨by decide, by decide⟩ (Nat.le_of_ble_eq_true rfl)) ?_
    rcases o7 : celem ln lo hi tg with _ | j7
    · refine V_st (st1 := [.null]) rfl ?_
      refine V_ifnull_N C 17 dX1_fits_10 (by decide) ?_
      refine V_iconst C 0 dX1_fits_17 (by decide) ?_
      exact V_zret C rfl dX1_fits_18 (by decide) (by decide) ⟨_, rfl, by first | (refine bt ?_; unfold cfits; simp [*, isMapB_t, isLstB_t]; done) | (refine bf ?_; unfold cfits; simp [*, isMapB_f, isLstB_f]; done) | (refine bt ?_; unfold cfits; rw [if_neg k2, if_pos k28, o21]; dsimp only; rw [isLstB_t hls21, o49]; dsimp only; rw [decide_eq_true ((home_eq hR hj49 hj21.1 hj21.2).mp k70), Bool.or_true]; rfl) | (refine bf ?_; unfold cfits; rw [if_neg k2, if_pos k28, o21]; dsimp only; rw [isLstB_t hls21, o49]; dsimp only; rw [decide_eq_false k55, decide_eq_false (fun z => k70 ((home_eq hR hj49 hj21.1 hj21.2).mpr z))]; rfl), rfl⟩
    · have hj7 := celem_lt o7
      refine V_st (st1 := [.ref (A 0 j7)]) rfl ?_
      have hit7 := r5 j7 (by omega)
      obtain ⟨sa7, si7, hop7, -⟩ := r6 j7 (by omega)
      have hob7 := rb j7 (by omega)
      refine V_ifnull_R C dX1_fits_10 ?_
      refine V_iconst C 1 dX1_fits_13 (by decide) ?_
      refine V_goto C 18 dX1_fits_14 (by decide) ?_
      exact V_zret C rfl dX1_fits_18 (by decide) (by decide) ⟨_, rfl, by first | (refine bt ?_; unfold cfits; simp [*, isMapB_t, isLstB_t]; done) | (refine bf ?_; unfold cfits; simp [*, isMapB_f, isLstB_f]; done) | (refine bt ?_; unfold cfits; rw [if_neg k2, if_pos k28, o21]; dsimp only; rw [isLstB_t hls21, o49]; dsimp only; rw [decide_eq_true ((home_eq hR hj49 hj21.1 hj21.2).mp k70), Bool.or_true]; rfl) | (refine bf ?_; unfold cfits; rw [if_neg k2, if_pos k28, o21]; dsimp only; rw [isLstB_t hls21, o49]; dsimp only; rw [decide_eq_false k55, decide_eq_false (fun z => k70 ((home_eq hR hj49 hj21.1 hj21.2).mpr z))]; rfl), rfl⟩
def cheldB (ln : Nat) (lo : Nat → List Nat) (wt : List (List Nat)) (x : Int32) : Option (List Nat) := match cplace ln lo x with
  | some k => some (lo k)
  | none => (firstI (fun i => decide (nI (oB (wt.getD i []) 0) = x)) wt.length).map (fun i => wt.getD i [])
theorem ct_X1_held (l : Launch) (G : mp_G) (b : Nat) (M : mp_M) (g a ln : Nat) (lo : Nat → List Nat) (P : Nat → Int32) (hi : Nat → Option Nat) (sh fo : Nat → Bool) (ch : Nat → Nat → List Nat) (nx : Nat → Option Nat) (wt : List (List Nat)) (A : Nat → Nat → Nat) (wo : List Nat) (hR : RepAt G M g a ln lo P hi sh fo ch nx wt A wo) (x : Int32) : Ct l yX1_held cX1_held 4 (some (.object "ReplicaDocument$Op")) 7 0 0 G b ([.ref a, .int x] : List Value) M (pR (fun y M1 => ((cheldB ln lo wt x = none ∧ y = none) ∨ ∃ bs q, cheldB ln lo wt x = some bs ∧ y = some q ∧ OpAt G M g q bs ∧ OpOk bs) ∧ M1 = M)) := by
  refine Ct.ofV (by decide) (vc_ref (vc_int vc_nil)) (Nat.le_of_ble_eq_true rfl) ?_
  intro p e s m below meth c C hnm
  refine V_L (L1 := [some (.ref a), some (.int x), none, none]) rfl ?_
  obtain ⟨r1, r2, r3, r4, r5, r6, r7, r8, r9, r10, r11⟩ := id hR
  have rb := r10.2.2.1
  have rln := r10.1
  have rwl := r10.2.1
  have rwo := r4.1
  obtain ⟨lmo, lar, hla⟩ := al_obj r2
  obtain ⟨wmo, war, hwa⟩ := al_obj r3
  have loop : cplace ln lo x = none → ∀ i, i ≤ wt.length → (∀ i2, i2 < i → decide (nI (oB (wt.getD i2 []) 0) = x) = false) → V p l e (rmOf 7 0 0) s m ([.ref a, .int x] : List Value).toArray below meth c (MQ below (Qp G b (pR (fun y M1 => ((cheldB ln lo wt x = none ∧ y = none) ∨ ∃ bs q, cheldB ln lo wt x = some bs ∧ y = some q ∧ OpAt G M g q bs ∧ OpOk bs) ∧ M1 = M))) ([.ref a, .int x] : List Value).toArray s 0 0 (fun q => b ≤ q)) G b 4 0 0 17 [some (.ref a), some (.int x), none, some (.int (nI i))] [] M := by
    intro hno
    refine up_ind wt.length ?_
    intro i hi0 ih hb
    refine V_iload_n C dX1_held_17 rfl rfl ?_
    refine V_aload_n C dX1_held_18 rfl rfl ?_
    refine V_get (C0 := RX1) (T := TX1) (N := 3) (ci := 1) C 2 in_X1 rfl r1 (by decide) q119 (fun _ h9 => h9) rfl dX1_held_19 ?_
    refine V_ofIe (VR_V (As := []) (rest := [.int (nI i)]) C (ct_J2_size l G b M (A 4 1) (g, 6, 0) (g, 7, 0) _ r3) hwa rfl (lw_V q204 q205 q206 q41 q207) rfl nd_J2_size rfl (by decide) (by decide) dX1_held_22 rfl ⟨by decide, by decide⟩ (Nat.le_of_ble_eq_true rfl)) ?_
    refine V_nicmp_ge (x := i) (y := wo.length) C 64 dX1_held_25 (by decide) (by omega) (by omega) (fun k25 => ?_) (fun k25 => ?_)
    · refine V_null C dX1_held_64 ?_
      exact V_aret (o := none) C (Or.inl ⟨_, rfl⟩) dX1_held_65 (by decide) (by decide) ⟨_, rfl, Or.inl ⟨by unfold cheldB; rw [hno, firstI_none.mpr (fun i2 h2 => hb i2 (by omega))]; rfl, rfl⟩, rfl⟩
    · refine V_aload_n C dX1_held_28 rfl rfl ?_
      refine V_get (C0 := RX1) (T := TX1) (N := 3) (ci := 1) C 2 in_X1 rfl r1 (by decide) q119 (fun _ h9 => h9) rfl dX1_held_29 ?_
      refine V_iload_n C dX1_held_32 rfl rfl ?_
      refine V_ofRe (VR_V (As := [.int (nI i)]) (rest := []) C (ct_J2_get l G b M (A 4 1) i (wo.getD i 0) (g, 6, 0) (g, 7, 0) _ r3 (wo_get (by omega)) (by omega)) hwa rfl (lw_V q208 q209 q210 q41 q211) rfl nd_J2_get rfl (by decide) (by decide) dX1_held_33 rfl ⟨by decide, by decide⟩ (Nat.le_of_ble_eq_true rfl)) ?_
      obtain ⟨sw33, siw33, how33, -⟩ := r4.2 i (by omega)
      refine V_castS C how33 rfl q605 dX1_held_36 ?_
      refine V_ofIe (VR_V (As := []) (rest := []) C (ct_X4_id l G b M g (wo.getD i 0) (wt.getD i []) (r4.2 i (by omega)) (wt_ok r10.2.2.2 (by omega))) how33 rfl (lw_V q223 q224 q225 q55 q226) rfl nd_X4_id rfl (by decide) (by decide) dX1_held_39 rfl ⟨by decide, by decide⟩ (Nat.le_of_ble_eq_true rfl)) ?_
      have hz39 := (wt_ok r10.2.2.2 (i := i) (by omega)).2.2 0
      refine V_iload_n C dX1_held_42 rfl rfl ?_
      refine V_icmp_ne C 58 dX1_held_43 (by decide) (fun k43 => ?_) (fun k43 => ?_)
      · refine V_iinc (v := (nI (i + 1))) (L' := [some (.ref a), some (.int x), none, some (.int (nI (i + 1)))]) C dX1_held_58 rfl (nI_1 _) (by decide) rfl ?_
        refine V_goto C 17 dX1_held_61 (by decide) ?_
        refine V_sub ?_ (ih (by omega) (fun i2 h2 => by rcases Nat.lt_or_ge i2 i with z | z; exact hb i2 z; rw [show i2 = i by omega]; exact decide_eq_false k43))
        repeat' (first | exact ls_e | refine ls_n ?_ | refine ls_s ?_ | refine ls_i ?_ ?_ | refine ls_v ?_ ?_)
      · refine V_aload_n C dX1_held_46 rfl rfl ?_
        refine V_get (C0 := RX1) (T := TX1) (N := 3) (ci := 1) C 2 in_X1 rfl r1 (by decide) q119 (fun _ h9 => h9) rfl dX1_held_47 ?_
        refine V_iload_n C dX1_held_50 rfl rfl ?_
        refine V_ofRe (VR_V (As := [.int (nI i)]) (rest := []) C (ct_J2_get l G b M (A 4 1) i (wo.getD i 0) (g, 6, 0) (g, 7, 0) _ r3 (wo_get (by omega)) (by omega)) hwa rfl (lw_V q208 q209 q210 q41 q211) rfl nd_J2_get rfl (by decide) (by decide) dX1_held_51 rfl ⟨by decide, by decide⟩ (Nat.le_of_ble_eq_true rfl)) ?_
        refine V_castS C how33 rfl q605 dX1_held_54 ?_
        exact V_aret (o := some (wo.getD i 0)) C (Or.inl ⟨_, rfl⟩) dX1_held_57 (by decide) (by decide) ⟨_, rfl, Or.inr ⟨_, _, by unfold cheldB; rw [hno, firstI_at (j := i) (by omega) (decide_eq_true k43) hb]; rfl, rfl, r4.2 i (by omega), wt_ok r10.2.2.2 (by omega)⟩, rfl⟩
  refine V_aload_n C dX1_held_0 rfl rfl ?_
  refine V_iload_n C dX1_held_1 rfl rfl ?_
  refine V_ofRe (VR_V (As := [.int x]) (rest := []) C (ct_X1_item l G b M g a ln lo P hi sh fo ch nx wt A wo hR x) r1 rfl (lw_V q196 q197 q198 q37 q199) rfl nd_X1_item rfl (by decide) (by decide) dX1_held_2 rfl ⟨by decide, by decide⟩ (Nat.le_of_ble_eq_true rfl)) ?_
  rcases o2 : cplace ln lo x with _ | j2
  · refine V_st (st1 := [.null]) rfl ?_
    refine V_astore_nq (o := none) (L' := [some (.ref a), some (.int x), some (.null), none]) C dX1_held_5 rfl (by decide) rfl ?_
    refine V_aload_nq (o := none) C dX1_held_6 rfl rfl ?_
    refine V_ifnull_N C 15 dX1_held_7 (by decide) ?_
    refine V_iconst C 0 dX1_held_15 (by decide) ?_
    refine V_istore_n (L' := [some (.ref a), some (.int x), some (.null), some (.int 0)]) C dX1_held_16 rfl (by decide) rfl ?_
    refine V_sub ?_ (loop o2 0 (Nat.zero_le _) (fun i hi => absurd hi (Nat.not_lt_zero _)))
    repeat' (first | exact ls_e | refine ls_n ?_ | refine ls_s ?_ | refine ls_i ?_ ?_ | refine ls_v ?_ ?_)
    all_goals rfl
  · have hj2 := (firstI_get o2).1
    refine V_st (st1 := [.ref (A 0 j2)]) rfl ?_
    have hit2 := r5 j2 (by omega)
    obtain ⟨sa2, si2, hop2, -⟩ := r6 j2 (by omega)
    have hob2 := rb j2 (by omega)
    refine V_astore_n (L' := [some (.ref a), some (.int x), some (.ref (A 0 j2)), none]) C dX1_held_5 rfl (by decide) rfl ?_
    refine V_aload_n C dX1_held_6 rfl rfl ?_
    refine V_ifnull_R C dX1_held_7 ?_
    refine V_aload_n C dX1_held_10 rfl rfl ?_
    refine V_getN (C0 := RX5) (T := TX5) (N := 8) (ci := 5) C 0 in_X5 rfl hit2 (by decide) ev474 (fun _ h9 => h9) rfl dX1_held_11 ?_
    exact V_aret (o := some (A 1 j2)) C (Or.inl ⟨_, rfl⟩) dX1_held_14 (by decide) (by decide) ⟨_, rfl, Or.inr ⟨lo j2, A 1 j2, by unfold cheldB; rw [o2], rfl, r6 j2 hj2, rb j2 hj2⟩, rfl⟩
def cready (ln : Nat) (lo : Nat → List Nat) (bs : List Nat) : Bool := allI (fun k => (cplace ln lo (nI (oB bs (6 + k)))).isSome) (oB bs 5)
theorem ct_X1_ready (l : Launch) (G : mp_G) (b : Nat) (M : mp_M) (g a ln : Nat) (lo : Nat → List Nat) (P : Nat → Int32) (hi : Nat → Option Nat) (sh fo : Nat → Bool) (ch : Nat → Nat → List Nat) (nx : Nat → Option Nat) (wt : List (List Nat)) (A : Nat → Nat → Nat) (wo : List Nat) (hR : RepAt G M g a ln lo P hi sh fo ch nx wt A wo) (q : Nat) (bs : List Nat) (hO : OpAt G M g q bs) (hok : OpOk bs) : Ct l yX1_ready cX1_ready 3 (some .boolean) 6 0 0 G b ([.ref a, .ref q] : List Value) M (pI (fun y M1 => y = bI (cready ln lo bs) ∧ M1 = M)) := by
  obtain ⟨qs, qi, hq, -⟩ := id hO
  have h5 := hok.2.1
  have h5b := hok.2.2 5
  refine Ct.ofV (by decide) (vc_ref (vc_ref vc_nil)) (Nat.le_of_ble_eq_true rfl) ?_
  intro p e s m below meth c C hnm
  refine V_L (L1 := [some (.ref a), some (.ref q), none]) rfl ?_
  obtain ⟨r1, r2, r3, r4, r5, r6, r7, r8, r9, r10, r11⟩ := id hR
  have rb := r10.2.2.1
  have rln := r10.1
  have rwl := r10.2.1
  have rwo := r4.1
  obtain ⟨lmo, lar, hla⟩ := al_obj r2
  obtain ⟨wmo, war, hwa⟩ := al_obj r3
  refine V_iconst C 0 dX1_ready_0 (by decide) ?_
  refine V_istore_n (L' := [some (.ref a), some (.ref q), some (.int 0)]) C dX1_ready_1 rfl (by decide) rfl ?_
  have loop : ∀ k, k ≤ oB bs 5 → (∀ i, i < k → (cplace ln lo (nI (oB bs (6 + i)))).isSome = true) → V p l e (rmOf 6 0 0) s m ([.ref a, .ref q] : List Value).toArray below meth c (MQ below (Qp G b (pI (fun y M1 => y = bI (cready ln lo bs) ∧ M1 = M))) ([.ref a, .ref q] : List Value).toArray s 0 0 (fun q => b ≤ q)) G b 3 0 0 2 [some (.ref a), some (.ref q), some (.int (nI k))] [] M := by
    refine up_ind (oB bs 5) ?_
    intro k hk ih hb
    refine V_iload_n C dX1_ready_2 rfl rfl ?_
    refine V_aload_n C dX1_ready_3 rfl rfl ?_
    refine V_ofIe (VR_V (As := []) (rest := [.int (nI k)]) C (ct_X4_many l G b M g q bs hO hok) hq rfl (lw_V q460 q461 q462 q55 q463) rfl nd_X4_many rfl (by decide) (by decide) dX1_ready_4 rfl ⟨by decide, by decide⟩ (Nat.le_of_ble_eq_true rfl)) ?_
    refine V_nicmp_ge (x := k) (y := oB bs 5) C 30 dX1_ready_7 (by decide) (by omega) (by omega) (fun k7 => ?_) (fun k7 => ?_)
    · refine V_iconst C 1 dX1_ready_30 (by decide) ?_
      exact V_zret C rfl dX1_ready_31 (by decide) (by decide) ⟨_, rfl, bt (allI_iff.mpr (fun i hi => hb i (by omega))), rfl⟩
    · refine V_aload_n C dX1_ready_10 rfl rfl ?_
      refine V_aload_n C dX1_ready_11 rfl rfl ?_
      refine V_iload_n C dX1_ready_12 rfl rfl ?_
      refine V_ofIe (VR_V (As := [.int (nI k)]) (rest := [.ref a]) C (ct_X4_before l G b M g q bs hO hok k (by omega)) hq rfl (lw_V q464 q465 q466 q55 q467) rfl nd_X4_before rfl (by decide) (by decide) dX1_ready_13 rfl ⟨by decide, by decide⟩ (Nat.le_of_ble_eq_true rfl)) ?_
      refine V_ofIe (VR_V (As := [.int (nI (oB bs (6 + k)))]) (rest := []) C (ct_X1_place l G b M g a ln lo P hi sh fo ch nx wt A wo hR (nI (oB bs (6 + k)))) r1 rfl (lw_V q200 q201 q202 q37 q203) rfl nd_X1_place rfl (by decide) (by decide) dX1_ready_16 rfl ⟨by decide, by decide⟩ (Nat.le_of_ble_eq_true rfl)) ?_
      rcases o16 : cplace ln lo (nI (oB bs (6 + k))) with _ | j16
      · refine V_top (y := -1) rfl ?_
        refine V_if_ge C 24 dX1_ready_19 (by decide) (fun h => absurd h (by decide)) (fun _ => ?_)
        refine V_iconst C 0 dX1_ready_22 (by decide) ?_
        exact V_zret C rfl dX1_ready_23 (by decide) (by decide) ⟨_, rfl, bf (allI_no (k := k) (by omega) (by rw [o16]; rfl)), rfl⟩
      · have hj16 := (firstI_get o16).1
        refine V_top (y := nI j16) rfl ?_
        refine V_if_ge C 24 dX1_ready_19 (by decide) (fun _ => ?_) (fun h => absurd (nI_pos' (n := j16) (by omega)) h)
        refine V_iinc (v := (nI (k + 1))) (L' := [some (.ref a), some (.ref q), some (.int (nI (k + 1)))]) C dX1_ready_24 rfl (nI_1 _) (by decide) rfl ?_
        refine V_goto C 2 dX1_ready_27 (by decide) ?_
        refine V_sub ?_ (ih (by omega) (fun i hi => by rcases Nat.lt_or_ge i k with z | z; exact hb i z; rw [show i = k by omega, o16]; rfl))
        repeat' (first | exact ls_e | refine ls_n ?_ | refine ls_s ?_ | refine ls_i ?_ ?_ | refine ls_v ?_ ?_)
  refine V_sub ?_ (loop 0 (Nat.zero_le _) (fun i hi => absurd hi (Nat.not_lt_zero _)))
  repeat' (first | exact ls_e | refine ls_n ?_ | refine ls_s ?_ | refine ls_i ?_ ?_ | refine ls_v ?_ ?_)
  all_goals rfl
def cleC (ln : Nat) (lo : Nat → List Nat) (wt : List (List Nat)) (i : Nat) (o : Option Nat) : Bool := cready ln lo (wt.getD i []) && (match o with | none => true | some b => decide (oB (wt.getD i []) 0 < oB (wt.getD b []) 0))
def cleast (ln : Nat) (lo : Nat → List Nat) (wt : List (List Nat)) : Nat → Option Nat
  | 0 => none
  | i + 1 => if cleC ln lo wt i (cleast ln lo wt i) = true then some i else cleast ln lo wt i
theorem cleast_lt {ln : Nat} {lo : Nat → List Nat} {wt : List (List Nat)} {i k : Nat} (h : cleast ln lo wt i = some k) : k < i := by
  induction i with
  | zero => cases h
  | succ i ih =>
    unfold cleast at h
    split at h
    · cases h; omega
    · have := ih h; omega
theorem cle_t {ln : Nat} {lo : Nat → List Nat} {wt : List (List Nat)} {i : Nat} {o : Option Nat} (ho : cleast ln lo wt i = o) (h : cleC ln lo wt i o = true) : nI i = oI (cleast ln lo wt (i + 1)) := by
  unfold cleast
  rw [ho, if_pos h]
  rfl
theorem cle_f {ln : Nat} {lo : Nat → List Nat} {wt : List (List Nat)} {i : Nat} {o : Option Nat} (ho : cleast ln lo wt i = o) (h : cleC ln lo wt i o = false) : oI o = oI (cleast ln lo wt (i + 1)) := by
  rw [cleast, ho, if_neg (bne2 h)]
theorem cle_1t {ln : Nat} {lo : Nat → List Nat} {wt : List (List Nat)} {i : Nat} (ho : cleast ln lo wt i = none) (h : cready ln lo (wt.getD i []) = true) : nI i = oI (cleast ln lo wt (i + 1)) := cle_t ho (by unfold cleC; rw [h]; rfl)
theorem cle_1f {ln : Nat} {lo : Nat → List Nat} {wt : List (List Nat)} {i : Nat} (ho : cleast ln lo wt i = none) (h : cready ln lo (wt.getD i []) = false) : -1 = oI (cleast ln lo wt (i + 1)) := cle_f (o := none) ho (by unfold cleC; rw [h]; rfl)
theorem cle_2t {ln : Nat} {lo : Nat → List Nat} {wt : List (List Nat)} {i bb : Nat} (ho : cleast ln lo wt i = some bb) (h : cready ln lo (wt.getD i []) = true) (h2 : oB (wt.getD i []) 0 < oB (wt.getD bb []) 0) : nI i = oI (cleast ln lo wt (i + 1)) := cle_t ho (by unfold cleC; rw [h, Bool.true_and]; exact decide_eq_true h2)
theorem cle_2f {ln : Nat} {lo : Nat → List Nat} {wt : List (List Nat)} {i bb : Nat} (ho : cleast ln lo wt i = some bb) (h : cready ln lo (wt.getD i []) = false) : nI bb = oI (cleast ln lo wt (i + 1)) := cle_f (o := some bb) ho (by unfold cleC; rw [h]; rfl)
theorem cle_2g {ln : Nat} {lo : Nat → List Nat} {wt : List (List Nat)} {i bb : Nat} (ho : cleast ln lo wt i = some bb) (h : cready ln lo (wt.getD i []) = true) (h2 : oB (wt.getD bb []) 0 ≤ oB (wt.getD i []) 0) : nI bb = oI (cleast ln lo wt (i + 1)) := cle_f (o := some bb) ho (by unfold cleC; rw [h, Bool.true_and]; exact decide_eq_false (Nat.not_lt.mpr h2))
theorem ct_X1_leastReady (l : Launch) (G : mp_G) (b : Nat) (M : mp_M) (g a ln : Nat) (lo : Nat → List Nat) (P : Nat → Int32) (hi : Nat → Option Nat) (sh fo : Nat → Bool) (ch : Nat → Nat → List Nat) (nx : Nat → Option Nat) (wt : List (List Nat)) (A : Nat → Nat → Nat) (wo : List Nat) (hR : RepAt G M g a ln lo P hi sh fo ch nx wt A wo) : Ct l yX1_leastReady cX1_leastReady 4 (some .int) 7 0 0 G b ([.ref a] : List Value) M (pI (fun y M1 => y = oI (cleast ln lo wt wt.length) ∧ M1 = M)) := by
  refine Ct.ofV (by decide) (vc_ref vc_nil) (Nat.le_of_ble_eq_true rfl) ?_
  intro p e s m below meth c C hnm
  refine V_L (L1 := [some (.ref a), none, none, none]) rfl ?_
  obtain ⟨r1, r2, r3, r4, r5, r6, r7, r8, r9, r10, r11⟩ := id hR
  have rb := r10.2.2.1
  have rln := r10.1
  have rwl := r10.2.1
  have rwo := r4.1
  obtain ⟨lmo, lar, hla⟩ := al_obj r2
  obtain ⟨wmo, war, hwa⟩ := al_obj r3
  refine V_iconst C (-1) dX1_leastReady_0 (by decide) ?_
  refine V_istore_n (L' := [some (.ref a), some (.int (-1)), none, none]) C dX1_leastReady_1 rfl (by decide) rfl ?_
  refine V_iconst C 0 dX1_leastReady_2 (by decide) ?_
  refine V_istore_n (L' := [some (.ref a), some (.int (-1)), some (.int 0), none]) C dX1_leastReady_3 rfl (by decide) rfl ?_
  have loop : ∀ i, i ≤ wt.length → V p l e (rmOf 7 0 0) s m ([.ref a] : List Value).toArray below meth c (MQ below (Qp G b (pI (fun y M1 => y = oI (cleast ln lo wt wt.length) ∧ M1 = M))) ([.ref a] : List Value).toArray s 0 0 (fun q => b ≤ q)) G b 4 0 0 4 [some (.ref a), some (.int (oI (cleast ln lo wt i))), some (.int (nI i)), none] [] M := by
    refine up_ind wt.length ?_
    intro i hi0 ih
    rcases ob : cleast ln lo wt i with _ | bb
    · skip
      refine V_L (L1 := [some (.ref a), some (.int (-1)), some (.int (nI i)), none]) rfl ?_
      refine V_iload_n C dX1_leastReady_4 rfl rfl ?_
      refine V_aload_n C dX1_leastReady_5 rfl rfl ?_
      refine V_get (C0 := RX1) (T := TX1) (N := 3) (ci := 1) C 2 in_X1 rfl r1 (by decide) q119 (fun _ h9 => h9) rfl dX1_leastReady_6 ?_
      refine V_ofIe (VR_V (As := []) (rest := [.int (nI i)]) C (ct_J2_size l G b M (A 4 1) (g, 6, 0) (g, 7, 0) _ r3) hwa rfl (lw_V q204 q205 q206 q41 q207) rfl nd_J2_size rfl (by decide) (by decide) dX1_leastReady_9 rfl ⟨by decide, by decide⟩ (Nat.le_of_ble_eq_true rfl)) ?_
      refine V_nicmp_ge (x := i) (y := wo.length) C 68 dX1_leastReady_12 (by decide) (by omega) (by omega) (fun k12 => ?_) (fun k12 => ?_)
      · refine V_iload_n C dX1_leastReady_68 rfl rfl ?_
        exact V_iret C dX1_leastReady_69 (by decide) (by decide) ⟨_, rfl, by rw [← show i = wt.length by omega, ob]; rfl, rfl⟩
      · refine V_aload_n C dX1_leastReady_15 rfl rfl ?_
        refine V_get (C0 := RX1) (T := TX1) (N := 3) (ci := 1) C 2 in_X1 rfl r1 (by decide) q119 (fun _ h9 => h9) rfl dX1_leastReady_16 ?_
        refine V_iload_n C dX1_leastReady_19 rfl rfl ?_
        refine V_ofRe (VR_V (As := [.int (nI i)]) (rest := []) C (ct_J2_get l G b M (A 4 1) i (wo.getD i 0) (g, 6, 0) (g, 7, 0) _ r3 (wo_get (by omega)) (by omega)) hwa rfl (lw_V q208 q209 q210 q41 q211) rfl nd_J2_get rfl (by decide) (by decide) dX1_leastReady_20 rfl ⟨by decide, by decide⟩ (Nat.le_of_ble_eq_true rfl)) ?_
        obtain ⟨sw20, siw20, how20, -⟩ := r4.2 i (by omega)
        refine V_castS C how20 rfl q605 dX1_leastReady_23 ?_
        refine V_astore_n (L' := [some (.ref a), some (.int (-1)), some (.int (nI i)), some (.ref (wo.getD i 0))]) C dX1_leastReady_26 rfl (by decide) rfl ?_
        refine V_aload_n C dX1_leastReady_27 rfl rfl ?_
        refine V_aload_n C dX1_leastReady_28 rfl rfl ?_
        refine V_ofIe (VR_V (As := [.ref (wo.getD i 0)]) (rest := []) C (ct_X1_ready l G b M g a ln lo P hi sh fo ch nx wt A wo hR (wo.getD i 0) (wt.getD i []) (r4.2 i (by omega)) (wt_ok r10.2.2.2 (by omega))) r1 rfl (lw_V q606 q608 qs6 q37 q609) rfl nd_X1_ready rfl (by decide) (by decide) dX1_leastReady_29 rfl ⟨by decide, by decide⟩ (Nat.le_of_ble_eq_true rfl)) ?_
        refine V_ifb_eq C 62 dX1_leastReady_32 (by decide) (fun k32 => ?_) (fun k32 => ?_)
        · refine V_iinc (v := (nI (i + 1))) (L' := [some (.ref a), some (.int (-1)), some (.int (nI (i + 1))), some (.ref (wo.getD i 0))]) C dX1_leastReady_62 rfl (nI_1 _) (by decide) rfl ?_
          refine V_goto C 4 dX1_leastReady_65 (by decide) ?_
          refine V_sub ?_ (ih (by omega))
          repeat' (first | exact ls_e | refine ls_n ?_ | refine ls_s ?_ | refine ls_i ?_ ?_ | refine ls_v ?_ ?_)
          first | exact htk | exact cle_1f ob k32
        · refine V_iload_n C dX1_leastReady_35 rfl rfl ?_
          refine V_if_lt C 60 dX1_leastReady_36 (by decide) (fun _ => ?_) (fun h => absurd (by decide) h)
          have htk := cle_1t ob k32
          refine V_iload_n C dX1_leastReady_60 rfl rfl ?_
          refine V_istore_n (L' := [some (.ref a), some (.int (nI i)), some (.int (nI i)), some (.ref (wo.getD i 0))]) C dX1_leastReady_61 rfl (by decide) rfl ?_
          refine V_iinc (v := (nI (i + 1))) (L' := [some (.ref a), some (.int (nI i)), some (.int (nI (i + 1))), some (.ref (wo.getD i 0))]) C dX1_leastReady_62 rfl (nI_1 _) (by decide) rfl ?_
          refine V_goto C 4 dX1_leastReady_65 (by decide) ?_
          refine V_sub ?_ (ih (by omega))
          repeat' (first | exact ls_e | refine ls_n ?_ | refine ls_s ?_ | refine ls_i ?_ ?_ | refine ls_v ?_ ?_)
          first | exact htk | exact cle_1f ob k32
    · have hbb := cleast_lt ob
      refine V_L (L1 := [some (.ref a), some (.int (nI bb)), some (.int (nI i)), none]) rfl ?_
      refine V_iload_n C dX1_leastReady_4 rfl rfl ?_
      refine V_aload_n C dX1_leastReady_5 rfl rfl ?_
      refine V_get (C0 := RX1) (T := TX1) (N := 3) (ci := 1) C 2 in_X1 rfl r1 (by decide) q119 (fun _ h9 => h9) rfl dX1_leastReady_6 ?_
      refine V_ofIe (VR_V (As := []) (rest := [.int (nI i)]) C (ct_J2_size l G b M (A 4 1) (g, 6, 0) (g, 7, 0) _ r3) hwa rfl (lw_V q204 q205 q206 q41 q207) rfl nd_J2_size rfl (by decide) (by decide) dX1_leastReady_9 rfl ⟨by decide, by decide⟩ (Nat.le_of_ble_eq_true rfl)) ?_
      refine V_nicmp_ge (x := i) (y := wo.length) C 68 dX1_leastReady_12 (by decide) (by omega) (by omega) (fun k12 => ?_) (fun k12 => ?_)
      · refine V_iload_n C dX1_leastReady_68 rfl rfl ?_
        exact V_iret C dX1_leastReady_69 (by decide) (by decide) ⟨_, rfl, by rw [← show i = wt.length by omega, ob]; rfl, rfl⟩
      · refine V_aload_n C dX1_leastReady_15 rfl rfl ?_
        refine V_get (C0 := RX1) (T := TX1) (N := 3) (ci := 1) C 2 in_X1 rfl r1 (by decide) q119 (fun _ h9 => h9) rfl dX1_leastReady_16 ?_
        refine V_iload_n C dX1_leastReady_19 rfl rfl ?_
        refine V_ofRe (VR_V (As := [.int (nI i)]) (rest := []) C (ct_J2_get l G b M (A 4 1) i (wo.getD i 0) (g, 6, 0) (g, 7, 0) _ r3 (wo_get (by omega)) (by omega)) hwa rfl (lw_V q208 q209 q210 q41 q211) rfl nd_J2_get rfl (by decide) (by decide) dX1_leastReady_20 rfl ⟨by decide, by decide⟩ (Nat.le_of_ble_eq_true rfl)) ?_
        obtain ⟨sw20, siw20, how20, -⟩ := r4.2 i (by omega)
        refine V_castS C how20 rfl q605 dX1_leastReady_23 ?_
        refine V_astore_n (L' := [some (.ref a), some (.int (nI bb)), some (.int (nI i)), some (.ref (wo.getD i 0))]) C dX1_leastReady_26 rfl (by decide) rfl ?_
        refine V_aload_n C dX1_leastReady_27 rfl rfl ?_
        refine V_aload_n C dX1_leastReady_28 rfl rfl ?_
        refine V_ofIe (VR_V (As := [.ref (wo.getD i 0)]) (rest := []) C (ct_X1_ready l G b M g a ln lo P hi sh fo ch nx wt A wo hR (wo.getD i 0) (wt.getD i []) (r4.2 i (by omega)) (wt_ok r10.2.2.2 (by omega))) r1 rfl (lw_V q606 q608 qs6 q37 q609) rfl nd_X1_ready rfl (by decide) (by decide) dX1_leastReady_29 rfl ⟨by decide, by decide⟩ (Nat.le_of_ble_eq_true rfl)) ?_
        refine V_ifb_eq C 62 dX1_leastReady_32 (by decide) (fun k32 => ?_) (fun k32 => ?_)
        · refine V_iinc (v := (nI (i + 1))) (L' := [some (.ref a), some (.int (nI bb)), some (.int (nI (i + 1))), some (.ref (wo.getD i 0))]) C dX1_leastReady_62 rfl (nI_1 _) (by decide) rfl ?_
          refine V_goto C 4 dX1_leastReady_65 (by decide) ?_
          refine V_sub ?_ (ih (by omega))
          repeat' (first | exact ls_e | refine ls_n ?_ | refine ls_s ?_ | refine ls_i ?_ ?_ | refine ls_v ?_ ?_)
          first | exact htk | exact cle_2g ob k32 k57 | exact cle_2f ob k32
        · refine V_iload_n C dX1_leastReady_35 rfl rfl ?_
          refine V_if_lt C 60 dX1_leastReady_36 (by decide) (fun h => absurd h (nI_pos (n := bb) (by omega))) (fun _ => ?_)
          refine V_aload_n C dX1_leastReady_39 rfl rfl ?_
          refine V_ofIe (VR_V (As := []) (rest := []) C (ct_X4_id l G b M g (wo.getD i 0) (wt.getD i []) (r4.2 i (by omega)) (wt_ok r10.2.2.2 (by omega))) how20 rfl (lw_V q223 q224 q225 q55 q226) rfl nd_X4_id rfl (by decide) (by decide) dX1_leastReady_40 rfl ⟨by decide, by decide⟩ (Nat.le_of_ble_eq_true rfl)) ?_
          have hz40 := (wt_ok r10.2.2.2 (i := i) (by omega)).2.2 0
          refine V_aload_n C dX1_leastReady_43 rfl rfl ?_
          refine V_get (C0 := RX1) (T := TX1) (N := 3) (ci := 1) C 2 in_X1 rfl r1 (by decide) q119 (fun _ h9 => h9) rfl dX1_leastReady_44 ?_
          refine V_iload_n C dX1_leastReady_47 rfl rfl ?_
          refine V_ofRe (VR_V (As := [.int (nI bb)]) (rest := [.int (nI (oB (wt.getD i []) 0))]) C (ct_J2_get l G b M (A 4 1) bb (wo.getD bb 0) (g, 6, 0) (g, 7, 0) _ r3 (wo_get (by omega)) (by omega)) hwa rfl (lw_V q208 q209 q210 q41 q211) rfl nd_J2_get rfl (by decide) (by decide) dX1_leastReady_48 rfl ⟨by decide, by decide⟩ (Nat.le_of_ble_eq_true rfl)) ?_
          obtain ⟨sw48, siw48, how48, -⟩ := r4.2 bb (by omega)
          refine V_castS C how48 rfl q605 dX1_leastReady_51 ?_
          refine V_ofIe (VR_V (As := []) (rest := [.int (nI (oB (wt.getD i []) 0))]) C (ct_X4_id l G b M g (wo.getD bb 0) (wt.getD bb []) (r4.2 bb (by omega)) (wt_ok r10.2.2.2 (by omega))) how48 rfl (lw_V q223 q224 q225 q55 q226) rfl nd_X4_id rfl (by decide) (by decide) dX1_leastReady_54 rfl ⟨by decide, by decide⟩ (Nat.le_of_ble_eq_true rfl)) ?_
          have hz54 := (wt_ok r10.2.2.2 (i := bb) (by omega)).2.2 0
          refine V_nicmp_ge (x := oB (wt.getD i []) 0) (y := oB (wt.getD bb []) 0) C 62 dX1_leastReady_57 (by decide) (by omega) (by omega) (fun k57 => ?_) (fun k57 => ?_)
          · refine V_iinc (v := (nI (i + 1))) (L' := [some (.ref a), some (.int (nI bb)), some (.int (nI (i + 1))), some (.ref (wo.getD i 0))]) C dX1_leastReady_62 rfl (nI_1 _) (by decide) rfl ?_
            refine V_goto C 4 dX1_leastReady_65 (by decide) ?_
            refine V_sub ?_ (ih (by omega))
            repeat' (first | exact ls_e | refine ls_n ?_ | refine ls_s ?_ | refine ls_i ?_ ?_ | refine ls_v ?_ ?_)
            first | exact htk | exact cle_2g ob k32 k57 | exact cle_2f ob k32
          · have htk := cle_2t ob k32 k57
            refine V_iload_n C dX1_leastReady_60 rfl rfl ?_
            refine V_istore_n (L' := [some (.ref a), some (.int (nI i)), some (.int (nI i)), some (.ref (wo.getD i 0))]) C dX1_leastReady_61 rfl (by decide) rfl ?_
            refine V_iinc (v := (nI (i + 1))) (L' := [some (.ref a), some (.int (nI i)), some (.int (nI (i + 1))), some (.ref (wo.getD i 0))]) C dX1_leastReady_62 rfl (nI_1 _) (by decide) rfl ?_
            refine V_goto C 4 dX1_leastReady_65 (by decide) ?_
            refine V_sub ?_ (ih (by omega))
            repeat' (first | exact ls_e | refine ls_n ?_ | refine ls_s ?_ | refine ls_i ?_ ?_ | refine ls_v ?_ ?_)
            first | exact htk | exact cle_2g ob k32 k57 | exact cle_2f ob k32
  refine V_sub ?_ (loop 0 (Nat.zero_le _))
  repeat' (first | exact ls_e | refine ls_n ?_ | refine ls_s ?_ | refine ls_i ?_ ?_ | refine ls_v ?_ ?_)
  all_goals rfl
def cgreat (lo : Nat → List Nat) : Nat → Nat
  | 0 => 0
  | k + 1 => if cgreat lo k < oB (lo k) 0 / 4 then oB (lo k) 0 / 4 else cgreat lo k
theorem cgreat_lt {lo : Nat → List Nat} {n : Nat} (h : ∀ k, k < n → oB (lo k) 0 < 256) : cgreat lo n < 64 := by
  induction n with
  | zero => show 0 < 64; decide
  | succ n ih =>
    have h1 := ih (fun k hk => h k (by omega))
    have h2 := h n (by omega)
    unfold cgreat
    split <;> omega
theorem ct_X1_greatestCount (l : Launch) (G : mp_G) (b : Nat) (M : mp_M) (g a ln : Nat) (lo : Nat → List Nat) (P : Nat → Int32) (hi : Nat → Option Nat) (sh fo : Nat → Bool) (ch : Nat → Nat → List Nat) (nx : Nat → Option Nat) (wt : List (List Nat)) (A : Nat → Nat → Nat) (wo : List Nat) (hR : RepAt G M g a ln lo P hi sh fo ch nx wt A wo) : Ct l yX1_greatestCount cX1_greatestCount 3 (some .int) 5 0 0 G b ([.ref a] : List Value) M (pI (fun y M1 => y = nI (cgreat lo ln) ∧ M1 = M)) := by
  refine Ct.ofV (by decide) (vc_ref vc_nil) (Nat.le_of_ble_eq_true rfl) ?_
  intro p e s m below meth c C hnm
  refine V_L (L1 := [some (.ref a), none, none]) rfl ?_
  obtain ⟨r1, r2, r3, r4, r5, r6, r7, r8, r9, r10, r11⟩ := id hR
  have rb := r10.2.2.1
  have rln := r10.1
  have rwl := r10.2.1
  have rwo := r4.1
  obtain ⟨lmo, lar, hla⟩ := al_obj r2
  obtain ⟨wmo, war, hwa⟩ := al_obj r3
  refine V_iconst C 0 dX1_greatestCount_0 (by decide) ?_
  refine V_istore_n (L' := [some (.ref a), some (.int 0), none]) C dX1_greatestCount_1 rfl (by decide) rfl ?_
  refine V_iconst C 0 dX1_greatestCount_2 (by decide) ?_
  refine V_istore_n (L' := [some (.ref a), some (.int 0), some (.int 0)]) C dX1_greatestCount_3 rfl (by decide) rfl ?_
  have loop : ∀ k, k ≤ ln → V p l e (rmOf 5 0 0) s m ([.ref a] : List Value).toArray below meth c (MQ below (Qp G b (pI (fun y M1 => y = nI (cgreat lo ln) ∧ M1 = M))) ([.ref a] : List Value).toArray s 0 0 (fun q => b ≤ q)) G b 3 0 0 4 [some (.ref a), some (.int (nI (cgreat lo k))), some (.int (nI k))] [] M := by
    refine up_ind ln ?_
    intro k hk ih
    have hg := cgreat_lt (lo := lo) (n := k) (fun i hi => (rb i (by omega)).2.2 0)
    refine V_iload_n C dX1_greatestCount_4 rfl rfl ?_
    refine V_aload_n C dX1_greatestCount_5 rfl rfl ?_
    refine V_get (C0 := RX1) (T := TX1) (N := 3) (ci := 1) C 1 in_X1 rfl r1 (by decide) q117 (fun _ h9 => h9) rfl dX1_greatestCount_6 ?_
    refine V_ofIe (VR_V (As := []) (rest := [.int (nI k)]) C (ct_J2_sizeN l G b M (A 4 0) (g, 4, 0) (g, 5, 0) _ r2 lg_len) hla rfl (lw_V q204 q205 q206 q41 q207) rfl nd_J2_size rfl (by decide) (by decide) dX1_greatestCount_9 rfl ⟨by decide, by decide⟩ (Nat.le_of_ble_eq_true rfl)) ?_
    refine V_nicmp_ge (x := k) (y := ln) C 45 dX1_greatestCount_12 (by decide) (by omega) (by omega) (fun k12 => ?_) (fun k12 => ?_)
    · refine V_iload_n C dX1_greatestCount_45 rfl rfl ?_
      exact V_iret C dX1_greatestCount_46 (by decide) (by decide) ⟨_, rfl, by rw [show k = ln by omega], rfl⟩
    · refine V_iload_n C dX1_greatestCount_15 rfl rfl ?_
      refine V_aload_n C dX1_greatestCount_16 rfl rfl ?_
      refine V_get (C0 := RX1) (T := TX1) (N := 3) (ci := 1) C 1 in_X1 rfl r1 (by decide) q117 (fun _ h9 => h9) rfl dX1_greatestCount_17 ?_
      refine V_iload_n C dX1_greatestCount_20 rfl rfl ?_
      refine V_ofRe (VR_V (As := [.int (nI k)]) (rest := [.int (nI (cgreat lo k))]) C (ct_J2_get l G b M (A 4 0) k (A 0 k) (g, 4, 0) (g, 5, 0) _ r2 (lg_get (by omega)) (by rw [lg_len]; omega)) hla rfl (lw_V q208 q209 q210 q41 q211) rfl nd_J2_get rfl (by decide) (by decide) dX1_greatestCount_21 rfl ⟨by decide, by decide⟩ (Nat.le_of_ble_eq_true rfl)) ?_
      have hit21 := r5 k (by omega)
      obtain ⟨sa21, si21, hop21, -⟩ := r6 k (by omega)
      have hob21 := rb k (by omega)
      refine V_castS C hit21 rfl q222 dX1_greatestCount_24 ?_
      refine V_getN (C0 := RX5) (T := TX5) (N := 8) (ci := 5) C 0 in_X5 rfl hit21 (by decide) ev474 (fun _ h9 => h9) rfl dX1_greatestCount_27 ?_
      refine V_ofIe (VR_V (As := []) (rest := [.int (nI (cgreat lo k))]) C (ct_X4_id l G b M g (A 1 k) (lo k) (r6 k (by omega)) (rb k (by omega))) hop21 rfl (lw_V q223 q224 q225 q55 q226) rfl nd_X4_id rfl (by decide) (by decide) dX1_greatestCount_30 rfl ⟨by decide, by decide⟩ (Nat.le_of_ble_eq_true rfl)) ?_
      have hz30 := (rb k (by omega)).2.2 0
      refine V_iconst C 4 dX1_greatestCount_33 (by decide) ?_
      refine V_idiv C dX1_greatestCount_34 (by decide) ?_
      refine V_top (y := (nI ((oB (lo k) 0) / 4))) (pk_div (a := oB (lo k) 0) (d := 4) (by omega) (by decide) (by decide)) ?_
      refine V_mmax C q277 q278 q50 q279 (by decide) (Nat.le_of_ble_eq_true rfl) (by first | decide | omega | (dsimp only [rmOf]; omega)) (by first | decide | omega | (dsimp only [rmOf]; omega)) dX1_greatestCount_35 ?_
      refine V_istore_n (L' := [some (.ref a), some (.int (if (nI (cgreat lo k)) < (nI ((oB (lo k) 0) / 4)) then (nI ((oB (lo k) 0) / 4)) else (nI (cgreat lo k)))), some (.int (nI k))]) C dX1_greatestCount_38 rfl (by decide) rfl ?_
      refine V_iinc (v := (nI (k + 1))) (L' := [some (.ref a), some (.int (if (nI (cgreat lo k)) < (nI ((oB (lo k) 0) / 4)) then (nI ((oB (lo k) 0) / 4)) else (nI (cgreat lo k)))), some (.int (nI (k + 1)))]) C dX1_greatestCount_39 rfl (nI_1 _) (by decide) rfl ?_
      refine V_goto C 4 dX1_greatestCount_42 (by decide) ?_
      refine V_sub ?_ (ih (by omega))
      repeat' (first | exact ls_e | refine ls_n ?_ | refine ls_s ?_ | refine ls_i ?_ ?_ | refine ls_v ?_ ?_)
      show _ = nI (if cgreat lo k < oB (lo k) 0 / 4 then oB (lo k) 0 / 4 else cgreat lo k)
      by_cases z : cgreat lo k < oB (lo k) 0 / 4
      · rw [if_pos z, if_pos (nI_lt z (by omega))]
      · rw [if_neg z, if_neg (nI_nlt (by omega) (by omega))]
  refine V_sub ?_ (loop 0 (Nat.zero_le _))
  repeat' (first | exact ls_e | refine ls_n ?_ | refine ls_s ?_ | refine ls_i ?_ ?_ | refine ls_v ?_ ?_)
  all_goals rfl

