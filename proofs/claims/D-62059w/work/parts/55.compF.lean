set_option maxRecDepth 100000
/-! THE COMPONENT, F: Replica.change -/
theorem ct_X1_elementE (l : Launch) (G : mp_G) (b : Nat) (M : mp_M) (g a ln : Nat) (lo : Nat → List Nat) (P : Nat → Int32) (hi : Nat → Option Nat) (sh fo : Nat → Bool) (ch : Nat → Nat → List Nat) (nx : Nat → Option Nat) (wt : List (List Nat)) (A : Nat → Nat → Nat) (wo : List Nat) (hR : RepAt G M g a ln lo P hi sh fo ch nx wt A wo) (x : Int32) {k0 : Nat} (h : celem ln lo hi x = some k0) : Ct l yX1_element cX1_element 3 (some (.object "ReplicaDocument$Item")) 7 0 0 G b ([.ref a, .int x] : List Value) M (pR (fun y M1 => y = some (A 0 k0) ∧ M1 = M)) := by
  have := ct_X1_element l G b M g a ln lo P hi sh fo ch nx wt A wo hR x
  rw [h] at this
  exact this
theorem ct_X1_elementP (l : Launch) (G : mp_G) (b : Nat) (M : mp_M) (g a ln : Nat) (lo : Nat → List Nat) (P : Nat → Int32) (hi : Nat → Option Nat) (sh fo : Nat → Bool) (ch : Nat → Nat → List Nat) (nx : Nat → Option Nat) (wt : List (List Nat)) (A : Nat → Nat → Nat) (wo : List Nat) (hR : RepAt G M g a ln lo P hi sh fo ch nx wt A wo) (x : Int32) {o : Option Nat} (h : celem ln lo hi x = o) : Ct l yX1_element cX1_element 3 (some (.object "ReplicaDocument$Item")) 7 0 0 G b ([.ref a, .int x] : List Value) M (pR (fun y M1 => y = o.map (A 0) ∧ M1 = M)) := by
  have := ct_X1_element l G b M g a ln lo P hi sh fo ch nx wt A wo hR x
  rw [h] at this
  exact this
theorem ct_X1_nodeE (l : Launch) (G : mp_G) (b : Nat) (M : mp_M) (g a ln : Nat) (lo : Nat → List Nat) (P : Nat → Int32) (hi : Nat → Option Nat) (sh fo : Nat → Bool) (ch : Nat → Nat → List Nat) (nx : Nat → Option Nat) (wt : List (List Nat)) (A : Nat → Nat → Nat) (wo : List Nat) (hR : RepAt G M g a ln lo P hi sh fo ch nx wt A wo) (x : Int32) {m0 : Nat} (h : cnode ln lo x = some m0) : Ct l yX1_node cX1_node 3 (some (.object "ReplicaDocument$Node")) 7 0 0 G b ([.ref a, .int x] : List Value) M (pR (fun y M1 => y = some (A 2 m0) ∧ M1 = M)) := by
  have := ct_X1_node l G b M g a ln lo P hi sh fo ch nx wt A wo hR x
  rw [h] at this
  exact this
theorem celem_k {ln : Nat} {lo : Nat → List Nat} {hi : Nat → Option Nat} {x : Int32} {k : Nat} (h : celem ln lo hi x = some k) : cplace ln lo x = some k ∧ oB (lo k) 1 = 3 ∧ (hi k).isSome = true := by
  unfold celem at h
  split at h
  · cases h
  · rename_i e
    split at h
    · rename_i e2
      cases h
      exact ⟨e, e2⟩
    · cases h
theorem isMap_not {lo : Nat → List Nat} {m : Nat} (h : isMap lo m) (h2 : isLst lo m) : False := by
  rcases h with w | w
  · exact h2.1 w
  · have := h2.2; omega
theorem ct_X1_change_er (l : Launch) (G : mp_G) (b : Nat) (M : mp_M) (g a ln : Nat) (lo : Nat → List Nat) (P : Nat → Int32) (hi : Nat → Option Nat) (sh fo : Nat → Bool) (ch : Nat → Nat → List Nat) (nx : Nat → Option Nat) (wt : List (List Nat)) (A : Nat → Nat → Nat) (wo : List Nat) (hR : RepAt G M g a ln lo P hi sh fo ch nx wt A wo) (q k0 : Nat) (hq : q < ln) (hkd : oB (lo q) 1 = 4) (hel : celem ln lo hi (nI (oB (lo q) 2)) = some k0) : Ct l yX1_change cX1_change 5 (none) 9 0 0 G b ([.ref a, .ref (A 0 q)] : List Value) M (pV (fun M1 => RepAt G M1 g a ln lo P hi (fun j => if j = k0 then false else sh j) fo ch nx wt A wo ∧ Keep (MutG g) M M1)) := by
  have hk0 := celem_lt hel
  have hqk : q ≠ k0 := fun z => by have := (celem_k hel).2.1; rw [← z] at this; omega
  refine Ct.ofV (by decide) (vc_ref (vc_ref vc_nil)) (Nat.le_of_ble_eq_true rfl) ?_
  intro p e s m below meth c C hnm
  refine V_L (L1 := [some (.ref a), some (.ref (A 0 q)), none, none, none]) rfl ?_
  obtain ⟨r1, r2, r3, r4, r5, r6, r7, r8, r9, r10, r11⟩ := id hR
  have rb := r10.2.2.1
  have rln := r10.1
  have rwl := r10.2.1
  have rwo := r4.1
  obtain ⟨lmo, lar, hla⟩ := al_obj r2
  obtain ⟨wmo, war, hwa⟩ := al_obj r3
  have hitq := r5 q (by omega)
  obtain ⟨saq, siq, hopq, -⟩ := r6 q (by omega)
  have hobq := rb q (by omega)
  have hitk := r5 k0 hk0
  refine V_aload_n C dX1_change_0 rfl rfl ?_
  refine V_getN (C0 := RX5) (T := TX5) (N := 8) (ci := 5) C 0 in_X5 rfl hitq (by decide) ev474 (fun _ h9 => h9) rfl dX1_change_1 ?_
  refine V_astore_n (L' := [some (.ref a), some (.ref (A 0 q)), some (.ref (A 1 q)), none, none]) C dX1_change_4 rfl (by decide) rfl ?_
  refine V_aload_n C dX1_change_5 rfl rfl ?_
  refine V_ofIe (VR_V (As := []) (rest := []) C (ct_X4_kind l G b M g (A 1 q) (lo q) (r6 q (by omega)) (rb q (by omega))) hopq rfl (lw_V q264 q265 q266 q55 q267) rfl nd_X4_kind rfl (by decide) (by decide) dX1_change_6 rfl ⟨by decide, by decide⟩ (Nat.le_of_ble_eq_true rfl)) ?_
  have hz6 := (rb q (by omega)).2.2 1
  refine V_iconst C 4 dX1_change_9 (by decide) ?_
  refine V_nicmp_ne (x := oB (lo q) 1) (y := 4) C 32 dX1_change_10 (by decide) (by omega) (by omega) (fun k10 => ?_) (fun k10 => ?_)
  · omega
  · refine V_aload_n C dX1_change_13 rfl rfl ?_
    refine V_aload_n C dX1_change_14 rfl rfl ?_
    refine V_ofIe (VR_V (As := []) (rest := [.ref a]) C (ct_X4_target l G b M g (A 1 q) (lo q) (r6 q (by omega)) (rb q (by omega))) hopq rfl (lw_V q528 q529 q530 q55 q531) rfl nd_X4_target rfl (by decide) (by decide) dX1_change_15 rfl ⟨by decide, by decide⟩ (Nat.le_of_ble_eq_true rfl)) ?_
    have hz15 := (rb q (by omega)).2.2 2
    refine V_ofRe (VR_V (As := [.int (nI (oB (lo q) 2))]) (rest := []) C (ct_X1_elementE l G b M g a ln lo P hi sh fo ch nx wt A wo hR (nI (oB (lo q) 2)) hel) r1 rfl (lw_V q192 q193 q194 q37 q195) rfl nd_X1_element rfl (by decide) (by decide) dX1_change_18 rfl ⟨by decide, by decide⟩ (Nat.le_of_ble_eq_true rfl)) ?_
    refine V_astore_n (L' := [some (.ref a), some (.ref (A 0 q)), some (.ref (A 1 q)), some (.ref (A 0 k0)), none]) C dX1_change_21 rfl (by decide) rfl ?_
    refine V_aload_n C dX1_change_22 rfl rfl ?_
    refine V_ifnull_R C dX1_change_23 ?_
    refine V_aload_n C dX1_change_26 rfl rfl ?_
    refine V_iconst C 0 dX1_change_27 (by decide) ?_
    refine V_M (V_putN (C0 := RX5) (T := TX5) (N := 8) (ci := 5) (fs' := [.ref (A 1 k0), .int (P k0), .int (nI k0), va_rf (nodeO lo A k0), va_rf ((hi k0).map (A 2)), .int 0, .int (bI (fo k0)), va_rf (nx k0)]) C 5 in_X5 tyX5 tyX5_ok nmX5 rfl hitk (by decide) ev492 (fun _ h9 => h9) rfl rfl rfl rfl (Nat.le_of_ble_eq_true rfl) rfl dX1_change_28) (fun M__1 eM__1 => ?_)
    have h__2 := mp_got eM__1
    have h__3 := mp_keep eM__1 r1 hitk (by first | assumption | exact Ne.symm (by assumption) | (simp; done) | (simp; omega) | (intro h; simp at h; omega))
    have h__4 := mp_keep eM__1 hla hitk (by first | assumption | exact Ne.symm (by assumption) | (simp; done) | (simp; omega) | (intro h; simp at h; omega))
    have h__5 := mp_keep eM__1 hwa hitk (by first | assumption | exact Ne.symm (by assumption) | (simp; done) | (simp; omega) | (intro h; simp at h; omega))
    have h__6 := mp_keep eM__1 hitq hitk (by first | assumption | exact Ne.symm (by assumption) | (simp; done) | (simp; omega) | (intro h; simp at h; omega))
    have h__7 := mp_keep eM__1 hopq hitk (by first | assumption | exact Ne.symm (by assumption) | (simp; done) | (simp; omega) | (intro h; simp at h; omega))
    obtain ⟨R2, K2⟩ := rep_up (M1 := M__1) hR hk0 hi (fun j => if j = k0 then false else sh j) fo ch nx (by rw [eM__1]; simp [bI]) (fun j hj => ⟨rfl, by simp [hj], rfl, rfl⟩) (fun _ _ => rfl) r9 (fun m hm => r11 k0 m hk0 hm)
    exact V_vret C dX1_change_31 (by decide) (by decide) ⟨rfl, R2, K2⟩
theorem ct_X1_change_map (l : Launch) (G : mp_G) (b : Nat) (M : mp_M) (g a ln : Nat) (lo : Nat → List Nat) (P : Nat → Int32) (hi : Nat → Option Nat) (sh fo : Nat → Bool) (ch : Nat → Nat → List Nat) (nx : Nat → Option Nat) (wt : List (List Nat)) (A : Nat → Nat → Nat) (wo : List Nat) (hR : RepAt G M g a ln lo P hi sh fo ch nx wt A wo) (q m0 : Nat) (hq : q < ln) (hhq : hi q = none) (hkd : oB (lo q) 1 ≠ 4) (hnd0 : cnode ln lo (nI (oB (lo q) 2)) = some m0) (hmp : isMap lo m0) (hkey : oB (lo q) 3 < 4) : Ct l yX1_change cX1_change 5 (none) 9 0 0 G b ([.ref a, .ref (A 0 q)] : List Value) M (pV (fun M1 => (oB (lo q) 1 = 5 ∧ ∃ nx', RepAt G M1 g a ln lo P hi (drS (ch m0 (oB (lo q) 3)) (P q) sh (ch m0 (oB (lo q) 3)).length) fo (chU ch m0 (oB (lo q) 3) ((ch m0 (oB (lo q) 3)).filter (fun k => !bitI (P q) k))) nx' wt A wo ∧ Keep (MutG g) M M1) ∨ (oB (lo q) 1 ≠ 5 ∧ ∃ i nx', i ≤ ((ch m0 (oB (lo q) 3)).filter (fun k => !bitI (P q) k)).length ∧ (∀ j k, j < i → ((ch m0 (oB (lo q) 3)).filter (fun k => !bitI (P q) k))[j]? = some k → InsP lo true q k) ∧ (∀ k, ((ch m0 (oB (lo q) 3)).filter (fun k => !bitI (P q) k))[i]? = some k → ¬ InsP lo true q k) ∧ RepAt G M1 g a ln lo P (fun j => if j = q then some m0 else hi j) (fun j => if j = q then true else drS (ch m0 (oB (lo q) 3)) (P q) sh (ch m0 (oB (lo q) 3)).length j) fo (chU ch m0 (oB (lo q) 3) (insAt ((ch m0 (oB (lo q) 3)).filter (fun k => !bitI (P q) k)) i q)) nx' wt A wo ∧ Keep (MutG g) M M1))) := by
  have hm0 := (cnode_le hnd0).1
  refine Ct.ofV (by decide) (vc_ref (vc_ref vc_nil)) (Nat.le_of_ble_eq_true rfl) ?_
  intro p e s m below meth c C hnm
  refine V_L (L1 := [some (.ref a), some (.ref (A 0 q)), none, none, none]) rfl ?_
  obtain ⟨r1, r2, r3, r4, r5, r6, r7, r8, r9, r10, r11⟩ := id hR
  have rb := r10.2.2.1
  have rln := r10.1
  have rwl := r10.2.1
  have rwo := r4.1
  obtain ⟨lmo, lar, hla⟩ := al_obj r2
  obtain ⟨wmo, war, hwa⟩ := al_obj r3
  have hitq := r5 q (by omega)
  obtain ⟨saq, siq, hopq, -⟩ := r6 q (by omega)
  have hobq := rb q (by omega)
  obtain ⟨hnd, hen⟩ := r7 m0 hm0 hmp
  have rest : ∀ M1 nx1, RepAt G M1 g a ln lo P hi (drS (ch m0 (oB (lo q) 3)) (P q) sh (ch m0 (oB (lo q) 3)).length) fo (chU ch m0 (oB (lo q) 3) ((ch m0 (oB (lo q) 3)).filter (fun k => !bitI (P q) k))) nx1 wt A wo → Keep (MutG g) M M1 → V p l e (rmOf 9 0 0) s m ([.ref a, .ref (A 0 q)] : List Value).toArray below meth c (MQ below (Qp G b (pV (fun M1 => (oB (lo q) 1 = 5 ∧ ∃ nx', RepAt G M1 g a ln lo P hi (drS (ch m0 (oB (lo q) 3)) (P q) sh (ch m0 (oB (lo q) 3)).length) fo (chU ch m0 (oB (lo q) 3) ((ch m0 (oB (lo q) 3)).filter (fun k => !bitI (P q) k))) nx' wt A wo ∧ Keep (MutG g) M M1) ∨ (oB (lo q) 1 ≠ 5 ∧ ∃ i nx', i ≤ ((ch m0 (oB (lo q) 3)).filter (fun k => !bitI (P q) k)).length ∧ (∀ j k, j < i → ((ch m0 (oB (lo q) 3)).filter (fun k => !bitI (P q) k))[j]? = some k → InsP lo true q k) ∧ (∀ k, ((ch m0 (oB (lo q) 3)).filter (fun k => !bitI (P q) k))[i]? = some k → ¬ InsP lo true q k) ∧ RepAt G M1 g a ln lo P (fun j => if j = q then some m0 else hi j) (fun j => if j = q then true else drS (ch m0 (oB (lo q) 3)) (P q) sh (ch m0 (oB (lo q) 3)).length j) fo (chU ch m0 (oB (lo q) 3) (insAt ((ch m0 (oB (lo q) 3)).filter (fun k => !bitI (P q) k)) i q)) nx' wt A wo ∧ Keep (MutG g) M M1)))) ([.ref a, .ref (A 0 q)] : List Value).toArray s 0 0 (fun q => b ≤ q)) G b 5 0 0 93 [some (.ref a), some (.ref (A 0 q)), some (.ref (A 1 q)), none, some (.ref (A 2 m0))] [] M1 := by
    intro M1 nx1 R1 hK1
    obtain ⟨r1u, r2u, r3u, r4u, r5u, r6u, r7u, r8u, r9u, r10u, r11u⟩ := id R1
    have rbu := r10u.2.2.1
    have rlnu := r10u.1
    have rwlu := r10u.2.1
    have rwou := r4u.1
    obtain ⟨lmou, laru, hlau⟩ := al_obj r2u
    obtain ⟨wmou, waru, hwau⟩ := al_obj r3u
    have hitqu := r5u q (by omega)
    obtain ⟨saqu, siqu, hopqu, -⟩ := r6u q (by omega)
    have hobqu := rbu q (by omega)
    obtain ⟨hndu, henu⟩ := r7u m0 hm0 hmp
    refine V_aload_n C dX1_change_93 rfl rfl ?_
    refine V_ofIe (VR_V (As := []) (rest := []) C (ct_X4_kind l G b M1 g (A 1 q) (lo q) (r6u q (by omega)) (rbu q (by omega))) hopqu rfl (lw_V q264 q265 q266 q55 q267) rfl nd_X4_kind rfl (by decide) (by decide) dX1_change_94 rfl ⟨by decide, by decide⟩ (Nat.le_of_ble_eq_true rfl)) ?_
    have hz94 := (rbu q (by omega)).2.2 1
    refine V_iconst C 5 dX1_change_97 (by decide) ?_
    refine V_nicmp_eq (x := oB (lo q) 1) (y := 5) C 111 dX1_change_98 (by decide) (by omega) (by omega) (fun k98 => ?_) (fun k98 => ?_)
    · skip
      first | exact V_vret C dX1_change_111 (by decide) (by decide) ⟨rfl, Or.inl ⟨k98, nx1, R1, hK1⟩⟩ | (obtain ⟨i, nx', -, h2, h3, h4, h5, h6⟩ := hM2; rw [chU_s] at h2 h3 h4 h5; rw [chU_u] at h5; exact V_vret C dX1_change_111 (by decide) (by decide) ⟨rfl, Or.inr ⟨k98, i, nx', h2, fun j k hj => h3 j k (Nat.zero_le _) hj, h4, h5, hK1.tr h6⟩⟩)
    · refine V_aload C dX1_change_101 rfl ?_
      refine V_aload_n C dX1_change_103 rfl rfl ?_
      refine V_ofIe (VR_V (As := []) (rest := [.ref (A 2 m0)]) C (ct_X4_slot l G b M1 g (A 1 q) (lo q) (r6u q (by omega)) (rbu q (by omega))) hopqu rfl (lw_V q532 q533 q534 q55 q535) rfl nd_X4_slot rfl (by decide) (by decide) dX1_change_104 rfl ⟨by decide, by decide⟩ (Nat.le_of_ble_eq_true rfl)) ?_
      have hz104 := (rbu q (by omega)).2.2 3
      refine V_aload_n C dX1_change_107 rfl rfl ?_
      refine V_ofV (VR_V (As := [.int (nI (oB (lo q) 3)), .ref (A 0 q)]) (rest := []) C (ct_X2_add l G b M1 g a ln lo P hi _ fo _ nx1 wt A wo R1 m0 q (oB (lo q) 3) hm0 hmp hq hhq hkey rfl) hndu rfl (lw_V q592 q593 q594 q38 q595) rfl nd_X2_add rfl (by decide) (by decide) dX1_change_108 rfl ⟨by decide, by decide⟩ (Nat.le_of_ble_eq_true rfl)) (fun M2 hM2 => ?_)
      skip
      first | exact V_vret C dX1_change_111 (by decide) (by decide) ⟨rfl, Or.inl ⟨k98, nx1, R1, hK1⟩⟩ | (obtain ⟨i, nx', -, h2, h3, h4, h5, h6⟩ := hM2; rw [chU_s] at h2 h3 h4 h5; rw [chU_u] at h5; exact V_vret C dX1_change_111 (by decide) (by decide) ⟨rfl, Or.inr ⟨k98, i, nx', h2, fun j k hj => h3 j k (Nat.zero_le _) hj, h4, h5, hK1.tr h6⟩⟩)
  refine V_aload_n C dX1_change_0 rfl rfl ?_
  refine V_getN (C0 := RX5) (T := TX5) (N := 8) (ci := 5) C 0 in_X5 rfl hitq (by decide) ev474 (fun _ h9 => h9) rfl dX1_change_1 ?_
  refine V_astore_n (L' := [some (.ref a), some (.ref (A 0 q)), some (.ref (A 1 q)), none, none]) C dX1_change_4 rfl (by decide) rfl ?_
  refine V_aload_n C dX1_change_5 rfl rfl ?_
  refine V_ofIe (VR_V (As := []) (rest := []) C (ct_X4_kind l G b M g (A 1 q) (lo q) (r6 q (by omega)) (rb q (by omega))) hopq rfl (lw_V q264 q265 q266 q55 q267) rfl nd_X4_kind rfl (by decide) (by decide) dX1_change_6 rfl ⟨by decide, by decide⟩ (Nat.le_of_ble_eq_true rfl)) ?_
  have hz6 := (rb q (by omega)).2.2 1
  refine V_iconst C 4 dX1_change_9 (by decide) ?_
  refine V_nicmp_ne (x := oB (lo q) 1) (y := 4) C 32 dX1_change_10 (by decide) (by omega) (by omega) (fun k10 => ?_) (fun k10 => ?_)
  · refine V_aload_n C dX1_change_32 rfl rfl ?_
    refine V_aload_n C dX1_change_33 rfl rfl ?_
    refine V_ofIe (VR_V (As := []) (rest := [.ref a]) C (ct_X4_target l G b M g (A 1 q) (lo q) (r6 q (by omega)) (rb q (by omega))) hopq rfl (lw_V q528 q529 q530 q55 q531) rfl nd_X4_target rfl (by decide) (by decide) dX1_change_34 rfl ⟨by decide, by decide⟩ (Nat.le_of_ble_eq_true rfl)) ?_
    have hz34 := (rb q (by omega)).2.2 2
    refine V_ofRe (VR_V (As := [.int (nI (oB (lo q) 2))]) (rest := []) C (ct_X1_nodeE l G b M g a ln lo P hi sh fo ch nx wt A wo hR (nI (oB (lo q) 2)) hnd0) r1 rfl (lw_V q268 q269 q270 q37 q271) rfl nd_X1_node rfl (by decide) (by decide) dX1_change_37 rfl ⟨by decide, by decide⟩ (Nat.le_of_ble_eq_true rfl)) ?_
    refine V_astore_n (L' := [some (.ref a), some (.ref (A 0 q)), some (.ref (A 1 q)), some (.ref (A 2 m0)), none]) C dX1_change_40 rfl (by decide) rfl ?_
    refine V_aload_n C dX1_change_41 rfl rfl ?_
    refine V_instNo C hnd rfl q272 C.2.2.2.1.2.2.1.2.2.2.2.2.2.2.1 dX1_change_42 ?_
    refine V_if_eq C 67 dX1_change_45 (by decide) (fun _ => ?_) (fun h => absurd (by decide) h)
    refine V_aload_n C dX1_change_67 rfl rfl ?_
    refine V_instS C hnd rfl q73 dX1_change_68 ?_
    refine V_if_eq C 111 dX1_change_71 (by decide) (fun h => absurd h (by decide)) (fun _ => ?_)
    refine V_aload_n C dX1_change_74 rfl rfl ?_
    refine V_castS C hnd rfl q73 dX1_change_75 ?_
    refine V_astore (L' := [some (.ref a), some (.ref (A 0 q)), some (.ref (A 1 q)), some (.ref (A 2 m0)), some (.ref (A 2 m0))]) C dX1_change_78 (by decide) rfl ?_
    refine V_aload C dX1_change_80 rfl ?_
    refine V_aload_n C dX1_change_82 rfl rfl ?_
    refine V_ofIe (VR_V (As := []) (rest := [.ref (A 2 m0)]) C (ct_X4_slot l G b M g (A 1 q) (lo q) (r6 q (by omega)) (rb q (by omega))) hopq rfl (lw_V q532 q533 q534 q55 q535) rfl nd_X4_slot rfl (by decide) (by decide) dX1_change_83 rfl ⟨by decide, by decide⟩ (Nat.le_of_ble_eq_true rfl)) ?_
    have hz83 := (rb q (by omega)).2.2 3
    refine V_aload_n C dX1_change_86 rfl rfl ?_
    refine V_getN (C0 := RX5) (T := TX5) (N := 8) (ci := 5) C 1 in_X5 rfl hitq (by decide) ev479 (fun _ h9 => h9) rfl dX1_change_87 ?_
    refine V_ofV (VR_V (As := [.int (nI (oB (lo q) 3)), .int (P q)]) (rest := []) C (ct_X2_drop l G b M g a ln lo P hi sh fo ch nx wt A wo hR m0 (oB (lo q) 3) (P q) hm0 hmp hkey) hnd rfl (lw_V q588 q589 q590 q38 q591) rfl nd_X2_drop rfl (by decide) (by decide) dX1_change_90 rfl ⟨by decide, by decide⟩ (Nat.le_of_ble_eq_true rfl)) (fun M1 hM1 => ?_)
    obtain ⟨nx1, R1, hK1⟩ := hM1
    refine V_sub ?_ (rest M1 nx1 R1 hK1)
    repeat' (first | exact ls_e | refine ls_n ?_ | refine ls_s ?_ | refine ls_i ?_ ?_ | refine ls_v ?_ ?_)
  · exact absurd k10 hkd
theorem ct_X1_change_lst (l : Launch) (G : mp_G) (b : Nat) (M : mp_M) (g a ln : Nat) (lo : Nat → List Nat) (P : Nat → Int32) (hi : Nat → Option Nat) (sh fo : Nat → Bool) (ch : Nat → Nat → List Nat) (nx : Nat → Option Nat) (wt : List (List Nat)) (A : Nat → Nat → Nat) (wo : List Nat) (hR : RepAt G M g a ln lo P hi sh fo ch nx wt A wo) (q m0 ss : Nat) (hq : q < ln) (hhq : hi q = none) (hkd : oB (lo q) 1 ≠ 4) (hnd0 : cnode ln lo (nI (oB (lo q) 2)) = some m0) (hls : isLst lo m0) (hs : ss ≤ (ch m0 0).length) (hbe : celem ln lo hi (nI (oB (lo q) 3)) = prevO (ch m0 0) ss) : Ct l yX1_change cX1_change 5 (none) 9 0 0 G b ([.ref a, .ref (A 0 q)] : List Value) M (pV (fun M1 => ∃ i nx', ss ≤ i ∧ i ≤ (ch m0 0).length ∧ (∀ j k, ss ≤ j → j < i → (ch m0 0)[j]? = some k → InsP lo false q k) ∧ (∀ k, (ch m0 0)[i]? = some k → ¬ InsP lo false q k) ∧ RepAt G M1 g a ln lo P (fun j => if j = q then some m0 else hi j) (fun j => if j = q then true else sh j) fo (chU ch m0 0 (insAt (ch m0 0) i q)) nx' wt A wo ∧ Keep (MutG g) M M1)) := by
  have hm0 := (cnode_le hnd0).1
  refine Ct.ofV (by decide) (vc_ref (vc_ref vc_nil)) (Nat.le_of_ble_eq_true rfl) ?_
  intro p e s m below meth c C hnm
  refine V_L (L1 := [some (.ref a), some (.ref (A 0 q)), none, none, none]) rfl ?_
  obtain ⟨r1, r2, r3, r4, r5, r6, r7, r8, r9, r10, r11⟩ := id hR
  have rb := r10.2.2.1
  have rln := r10.1
  have rwl := r10.2.1
  have rwo := r4.1
  obtain ⟨lmo, lar, hla⟩ := al_obj r2
  obtain ⟨wmo, war, hwa⟩ := al_obj r3
  have hitq := r5 q (by omega)
  obtain ⟨saq, siq, hopq, -⟩ := r6 q (by omega)
  have hobq := rb q (by omega)
  have hnd := r8 m0 hm0 hls
  refine V_aload_n C dX1_change_0 rfl rfl ?_
  refine V_getN (C0 := RX5) (T := TX5) (N := 8) (ci := 5) C 0 in_X5 rfl hitq (by decide) ev474 (fun _ h9 => h9) rfl dX1_change_1 ?_
  refine V_astore_n (L' := [some (.ref a), some (.ref (A 0 q)), some (.ref (A 1 q)), none, none]) C dX1_change_4 rfl (by decide) rfl ?_
  refine V_aload_n C dX1_change_5 rfl rfl ?_
  refine V_ofIe (VR_V (As := []) (rest := []) C (ct_X4_kind l G b M g (A 1 q) (lo q) (r6 q (by omega)) (rb q (by omega))) hopq rfl (lw_V q264 q265 q266 q55 q267) rfl nd_X4_kind rfl (by decide) (by decide) dX1_change_6 rfl ⟨by decide, by decide⟩ (Nat.le_of_ble_eq_true rfl)) ?_
  have hz6 := (rb q (by omega)).2.2 1
  refine V_iconst C 4 dX1_change_9 (by decide) ?_
  refine V_nicmp_ne (x := oB (lo q) 1) (y := 4) C 32 dX1_change_10 (by decide) (by omega) (by omega) (fun k10 => ?_) (fun k10 => ?_)
  · refine V_aload_n C dX1_change_32 rfl rfl ?_
    refine V_aload_n C dX1_change_33 rfl rfl ?_
    refine V_ofIe (VR_V (As := []) (rest := [.ref a]) C (ct_X4_target l G b M g (A 1 q) (lo q) (r6 q (by omega)) (rb q (by omega))) hopq rfl (lw_V q528 q529 q530 q55 q531) rfl nd_X4_target rfl (by decide) (by decide) dX1_change_34 rfl ⟨by decide, by decide⟩ (Nat.le_of_ble_eq_true rfl)) ?_
    have hz34 := (rb q (by omega)).2.2 2
    refine V_ofRe (VR_V (As := [.int (nI (oB (lo q) 2))]) (rest := []) C (ct_X1_nodeE l G b M g a ln lo P hi sh fo ch nx wt A wo hR (nI (oB (lo q) 2)) hnd0) r1 rfl (lw_V q268 q269 q270 q37 q271) rfl nd_X1_node rfl (by decide) (by decide) dX1_change_37 rfl ⟨by decide, by decide⟩ (Nat.le_of_ble_eq_true rfl)) ?_
    refine V_astore_n (L' := [some (.ref a), some (.ref (A 0 q)), some (.ref (A 1 q)), some (.ref (A 2 m0)), none]) C dX1_change_40 rfl (by decide) rfl ?_
    refine V_aload_n C dX1_change_41 rfl rfl ?_
    refine V_instS C hnd rfl q272 dX1_change_42 ?_
    refine V_if_eq C 67 dX1_change_45 (by decide) (fun h => absurd h (by decide)) (fun _ => ?_)
    refine V_aload_n C dX1_change_48 rfl rfl ?_
    refine V_castS C hnd rfl q272 dX1_change_49 ?_
    refine V_aload_n C dX1_change_52 rfl rfl ?_
    refine V_aload_n C dX1_change_53 rfl rfl ?_
    refine V_ofIe (VR_V (As := []) (rest := [.ref a, .ref (A 2 m0)]) C (ct_X4_slot l G b M g (A 1 q) (lo q) (r6 q (by omega)) (rb q (by omega))) hopq rfl (lw_V q532 q533 q534 q55 q535) rfl nd_X4_slot rfl (by decide) (by decide) dX1_change_54 rfl ⟨by decide, by decide⟩ (Nat.le_of_ble_eq_true rfl)) ?_
    have hz54 := (rb q (by omega)).2.2 3
    refine V_ofRe (VR_V (As := [.int (nI (oB (lo q) 3))]) (rest := [.ref (A 2 m0)]) C (ct_X1_elementP l G b M g a ln lo P hi sh fo ch nx wt A wo hR (nI (oB (lo q) 3)) hbe) r1 rfl (lw_V q192 q193 q194 q37 q195) rfl nd_X1_element rfl (by decide) (by decide) dX1_change_57 rfl ⟨by decide, by decide⟩ (Nat.le_of_ble_eq_true rfl)) ?_
    refine V_aload_n C dX1_change_60 rfl rfl ?_
    refine V_ofV (VR_V (As := [va_rf ((prevO (ch m0 0) ss).map (A 0)), .ref (A 0 q)]) (rest := []) C (ct_X6_add l G b M g a ln lo P hi sh fo ch nx wt A wo hR m0 q hm0 hls hq hhq ss hs ((prevO (ch m0 0) ss).map (A 0)) rfl) hnd rfl (lw_V q583 q584 q585 q57 q586) rfl nd_X6_add rfl (by decide) (by decide) dX1_change_61 rfl ⟨by decide, by decide⟩ (Nat.le_of_ble_eq_true rfl)) (fun M2 hM2 => ?_)
    refine V_goto C 111 dX1_change_64 (by decide) ?_
    exact V_vret C dX1_change_111 (by decide) (by decide) ⟨rfl, hM2⟩
  · exact absurd k10 hkd

