set_option maxRecDepth 100000
/-! THE COMPONENT, D: MapNode.drop -/
theorem chok_mid {ln : Nat} {lo : Nat → List Nat} {hi nx : Nat → Option Nat} {A : Nat → Nat → Nat} {m key : Nat} {k : Nat} {T : List Nat} : ∀ {K : List Nat}, ChOk ln lo hi nx A m key (K ++ k :: T) → k < ln ∧ hi k = some m ∧ nx k = (T.head?).map (A 0) ∧ k ∉ K ∧ k ∉ T := by
  intro K h
  obtain ⟨a1, a2, a3, a4⟩ := h.2 K.length k (by rw [List.getElem?_append_right (Nat.le_refl _), Nat.sub_self]; rfl)
  have hd := h.1
  rw [List.nodup_append] at hd
  refine ⟨a1, a2, ?_, fun z => hd.2.2 k z k List.mem_cons_self rfl, (List.nodup_cons.mp hd.2.1).1⟩
  rw [a4, List.getElem?_append_right (by omega), show K.length + 1 - K.length = 1 by omega]
  cases T <;> rfl
theorem it_nx {M : mp_M} {x : Nat} {lab : mp_L} {a0 a1 a2 a3 a4 a5 a6 v : Value} {o o2 : Option Nat} (h : M x = some (lab, .inr (5, [a0, a1, a2, a3, a4, a5, a6, va_rf o]))) (e : o = o2) (e2 : va_rf o2 = v) : M x = some (lab, .inr (5, [a0, a1, a2, a3, a4, a5, a6, v])) := by
  rw [h, e, e2]
theorem drop_cons {L : List Nat} {i k : Nat} (h : L[i]? = some k) : L.drop i = k :: L.drop (i + 1) := by
  obtain ⟨h1, h2⟩ := List.getElem?_eq_some_iff.mp h
  rw [List.drop_eq_getElem_cons h1, h2]
theorem head_drop {L : List Nat} {i : Nat} : (L.drop i).head? = L[i]? := by rw [List.head?_drop]
def drF (L : List Nat) (pa : Int32) (i : Nat) : List Nat := (L.take i).filter (fun k => !bitI pa k)
def drS (L : List Nat) (pa : Int32) (sh : Nat → Bool) (i : Nat) : Nat → Bool := fun j => if j ∈ L.take i ∧ bitI pa j = true then false else sh j
theorem drF_t {L : List Nat} {pa : Int32} {i k : Nat} (h : L[i]? = some k) (hb : bitI pa k = true) : drF L pa (i + 1) = drF L pa i := by
  unfold drF
  rw [List.take_add_one, h, List.filter_append]
  simp [hb]
theorem drF_f {L : List Nat} {pa : Int32} {i k : Nat} (h : L[i]? = some k) (hb : bitI pa k = false) : drF L pa (i + 1) = drF L pa i ++ [k] := by
  unfold drF
  rw [List.take_add_one, h, List.filter_append]
  simp [hb]
theorem drS_f {L : List Nat} {pa : Int32} {sh : Nat → Bool} {i k : Nat} (h : L[i]? = some k) (hb : bitI pa k = false) : drS L pa sh (i + 1) = drS L pa sh i := by
  funext j
  unfold drS
  rw [List.take_add_one, h]
  by_cases z : j = k
  · subst z; simp [hb]
  · simp [z]
theorem drS_t {L : List Nat} {pa : Int32} {sh : Nat → Bool} {i k : Nat} (h : L[i]? = some k) (hb : bitI pa k = true) : drS L pa sh (i + 1) = fun j => if j = k then false else drS L pa sh i j := by
  funext j
  unfold drS
  rw [List.take_add_one, h]
  by_cases z : j = k
  · subst z; simp [hb]
  · simp [z]
theorem ct_X2_drop (l : Launch) (G : mp_G) (b : Nat) (M : mp_M) (g a ln : Nat) (lo : Nat → List Nat) (P : Nat → Int32) (hi : Nat → Option Nat) (sh fo : Nat → Bool) (ch : Nat → Nat → List Nat) (nx : Nat → Option Nat) (wt : List (List Nat)) (A : Nat → Nat → Nat) (wo : List Nat) (hR : RepAt G M g a ln lo P hi sh fo ch nx wt A wo) (m0 key : Nat) (pa : Int32) (hm0 : m0 ≤ ln) (hmp : isMap lo m0) (hkey : key < 4) : Ct l yX2_drop cX2_drop 6 (none) 0 0 0 G b ([.ref (A 2 m0), .int (nI key), .int pa] : List Value) M (pV (fun M1 => ∃ nx', RepAt G M1 g a ln lo P hi (drS (ch m0 key) pa sh (ch m0 key).length) fo (chU ch m0 key ((ch m0 key).filter (fun k => !bitI pa k))) nx' wt A wo ∧ Keep (MutG g) M M1)) := by
  obtain ⟨L, hL⟩ : ∃ L, L = ch m0 key := ⟨_, rfl⟩
  refine Ct.ofV (by decide) (vc_ref (vc_int (vc_int vc_nil))) (Nat.le_of_ble_eq_true rfl) ?_
  intro p e s m below meth c C hnm
  refine V_L (L1 := [some (.ref (A 2 m0)), some (.int (nI key)), some (.int pa), none, none, none]) rfl ?_
  obtain ⟨hnd, hen⟩ := hR.2.2.2.2.2.2.1 m0 hm0 hmp
  have hR0 : RepAt G M g a ln lo P hi (drS L pa sh 0) fo (chU ch m0 key (drF L pa 0 ++ L.drop 0)) nx wt A wo := by
    have e1 : drS L pa sh 0 = sh := by funext j; simp [drS]
    have e2 : drF L pa 0 ++ L.drop 0 = L := by simp [drF]
    rw [e1, e2, hL, chU_id]
    exact hR
  have loop : ∀ i, i ≤ L.length → ∀ M1 nx1, RepAt G M1 g a ln lo P hi (drS L pa sh i) fo (chU ch m0 key (drF L pa i ++ L.drop i)) nx1 wt A wo → Keep (MutG g) M M1 → V p l e (rmOf 0 0 0) s m ([.ref (A 2 m0), .int (nI key), .int pa] : List Value).toArray below meth c (MQ below (Qp G b (pV (fun M1 => ∃ nx', RepAt G M1 g a ln lo P hi (drS (ch m0 key) pa sh (ch m0 key).length) fo (chU ch m0 key ((ch m0 key).filter (fun k => !bitI pa k))) nx' wt A wo ∧ Keep (MutG g) M M1))) ([.ref (A 2 m0), .int (nI key), .int pa] : List Value).toArray s 0 0 (fun q => b ≤ q)) G b 6 0 0 10 [some (.ref (A 2 m0)), some (.int (nI key)), some (.int pa), some (va_rf ((drF L pa i).getLast?.map (A 0))), some (va_rf ((L[i]?).map (A 0))), none] [] M1 := by
    refine up_ind L.length ?_
    intro i hi0 ih M1 nx1 R1 hK1
    rcases hLi : L[i]? with _ | k
    · skip
      refine V_L (L1 := [some (.ref (A 2 m0)), some (.int (nI key)), some (.int pa), some (va_rf ((drF L pa i).getLast?.map (A 0))), some (.null), none]) rfl ?_
      have hil : i = L.length := by have := List.getElem?_eq_none_iff.mp hLi; omega
      refine V_aloadq (o := none) C dX2_drop_10 rfl ?_
      refine V_ifnull_N C 75 dX2_drop_12 (by decide) ?_
      exact V_vret C dX2_drop_75 (by decide) (by decide) ⟨rfl, nx1, by rw [hil] at R1; rw [show drF L pa L.length ++ L.drop L.length = L.filter (fun k => !bitI pa k) by simp [drF]] at R1; rw [← hL]; exact R1, hK1⟩
    · have hil := (List.getElem?_eq_some_iff.mp hLi).1
      have hdr := drop_cons hLi
      obtain ⟨q1, q2, q3, q4, q5, q6, q7, q8, q9, q10, q11⟩ := id R1
      have hC := q9 m0 key hm0 (Or.inl ⟨hmp, hkey⟩)
      rw [chU_s, hdr] at hC
      obtain ⟨hkl, hhk, hnk, hkK, hkT⟩ := chok_mid hC
      rw [head_drop] at hnk
      obtain ⟨hnd1, hen1⟩ := q7 m0 hm0 hmp
      have keepC : bitI pa k = false → V p l e (rmOf 0 0 0) s m ([.ref (A 2 m0), .int (nI key), .int pa] : List Value).toArray below meth c (MQ below (Qp G b (pV (fun M1 => ∃ nx', RepAt G M1 g a ln lo P hi (drS (ch m0 key) pa sh (ch m0 key).length) fo (chU ch m0 key ((ch m0 key).filter (fun k => !bitI pa k))) nx' wt A wo ∧ Keep (MutG g) M M1))) ([.ref (A 2 m0), .int (nI key), .int pa] : List Value).toArray s 0 0 (fun q => b ≤ q)) G b 6 0 0 65 [some (.ref (A 2 m0)), some (.int (nI key)), some (.int pa), some (va_rf ((drF L pa i).getLast?.map (A 0))), some (.ref (A 0 k)), some (va_rf ((L[i + 1]?).map (A 0)))] [] M1 := by
        intro hb
        refine V_aload C dX2_drop_65 rfl ?_
        refine V_astore_n (L' := [some (.ref (A 2 m0)), some (.int (nI key)), some (.int pa), some (.ref (A 0 k)), some (.ref (A 0 k)), some (va_rf ((L[i + 1]?).map (A 0)))]) C dX2_drop_67 rfl (by decide) rfl ?_
        refine V_aloadq C dX2_drop_68 rfl ?_
        refine V_astoreq (L' := [some (.ref (A 2 m0)), some (.int (nI key)), some (.int pa), some (.ref (A 0 k)), some (va_rf ((L[i + 1]?).map (A 0))), some (va_rf ((L[i + 1]?).map (A 0)))]) C dX2_drop_70 (by decide) rfl ?_
        refine V_goto C 10 dX2_drop_72 (by decide) ?_
        refine V_sub ?_ (ih hil M1 nx1 (by rw [drS_f hLi hb, drF_f hLi hb, List.append_assoc, List.singleton_append, ← hdr]; exact R1) hK1)
        repeat' (first | exact ls_e | refine ls_n ?_ | refine ls_s ?_ | refine ls_i ?_ ?_ | refine ls_v ?_ ?_)
        rw [drF_f hLi hb, List.getLast?_append]
        rfl
      have dropC : ∀ M3 nx3, bitI pa k = true → RepAt G M3 g a ln lo P hi (fun j => if j = k then false else drS L pa sh i j) fo (chU ch m0 key (drF L pa i ++ L.drop (i + 1))) nx3 wt A wo → Keep (MutG g) M M3 → V p l e (rmOf 0 0 0) s m ([.ref (A 2 m0), .int (nI key), .int pa] : List Value).toArray below meth c (MQ below (Qp G b (pV (fun M1 => ∃ nx', RepAt G M1 g a ln lo P hi (drS (ch m0 key) pa sh (ch m0 key).length) fo (chU ch m0 key ((ch m0 key).filter (fun k => !bitI pa k))) nx' wt A wo ∧ Keep (MutG g) M M1))) ([.ref (A 2 m0), .int (nI key), .int pa] : List Value).toArray s 0 0 (fun q => b ≤ q)) G b 6 0 0 68 [some (.ref (A 2 m0)), some (.int (nI key)), some (.int pa), some (va_rf ((drF L pa i).getLast?.map (A 0))), none, some (va_rf ((L[i + 1]?).map (A 0)))] [] M3 := by
        intro M3 nx3 hb R3 hK3
        refine V_aloadq C dX2_drop_68 rfl ?_
        refine V_astoreq (L' := [some (.ref (A 2 m0)), some (.int (nI key)), some (.int pa), some (va_rf ((drF L pa i).getLast?.map (A 0))), some (va_rf ((L[i + 1]?).map (A 0))), some (va_rf ((L[i + 1]?).map (A 0)))]) C dX2_drop_70 (by decide) rfl ?_
        refine V_goto C 10 dX2_drop_72 (by decide) ?_
        refine V_sub ?_ (ih hil M3 nx3 (by rw [drS_t hLi hb, drF_t hLi hb]; exact R3) hK3)
        repeat' (first | exact ls_e | refine ls_n ?_ | refine ls_s ?_ | refine ls_i ?_ ?_ | refine ls_v ?_ ?_)
        rw [drF_t hLi hb]
      have hR2 : ∀ M2, M2 = mp_up M1 (A 0 k) ((g, 1, k), .inr (5, [.ref (A 1 k), .int (P k), .int (nI k), va_rf (nodeO lo A k), va_rf ((hi k).map (A 2)), .int (bI false), .int (bI (fo k)), va_rf (nx1 k)])) → RepAt G M2 g a ln lo P hi (fun j => if j = k then false else drS L pa sh i j) fo (chU ch m0 key (drF L pa i ++ L.drop i)) nx1 wt A wo ∧ Keep (MutG g) M1 M2 := by
        intro M2 e2
        refine rep_up R1 hkl hi (fun j => if j = k then false else drS L pa sh i j) fo _ nx1 (by rw [e2]; simp) (fun j hj => ⟨rfl, by simp [hj], rfl, rfl⟩) (fun _ _ => rfl) q9 (fun m hm => q11 k m hkl hm)
      have h9c : ∀ (nx3 : Nat → Option Nat) (X : List Nat), ChOk ln lo hi nx3 A m0 key X → (∀ j, j ∉ drF L pa i ++ k :: L.drop (i + 1) → nx3 j = nx1 j) → ∀ m key2, m ≤ ln → ((isMap lo m ∧ key2 < 4) ∨ (isLst lo m ∧ key2 = 0)) → ChOk ln lo hi nx3 A m key2 (chU ch m0 key X m key2) := by
        intro nx3 X hX ho m key2 hm hv
        by_cases z : m = m0 ∧ key2 = key
        · obtain ⟨rfl, rfl⟩ := z
          rw [chU_s]
          exact hX
        · have h1 := q9 m key2 hm hv
          rw [chU_n z] at h1 ⊢
          refine ⟨h1.1, fun i2 j hj => ?_⟩
          rw [ho j (fun w => z (ch_one h1 hC hv (Or.inl ⟨hmp, hkey⟩) (List.mem_of_getElem? hj) w))]
          exact h1.2 i2 j hj
      rcases hL2 : L[i + 1]? with _ | k2
      · rcases List.eq_nil_or_concat (drF L pa i) with hK0 | ⟨K0, kk, hK0⟩
        · have hit : M1 (A 0 k) = some ((g, 1, k), .inr (5, [.ref (A 1 k), .int (P k), .int (nI k), va_rf (nodeO lo A k), va_rf ((hi k).map (A 2)), .int (bI (drS L pa sh i k)), .int (bI (fo k)), .null])) := it_nx (q5 k hkl) (hnk.trans (by rw [hL2])) rfl
          refine V_L (L1 := [some (.ref (A 2 m0)), some (.int (nI key)), some (.int pa), some (.null), some (.ref (A 0 k)), none]) (by rw [hK0]; rfl) ?_
          refine V_aload C dX2_drop_10 rfl ?_
          refine V_ifnull_R C dX2_drop_12 ?_
          refine V_aload C dX2_drop_15 rfl ?_
          refine V_getN (C0 := RX5) (T := TX5) (N := 8) (ci := 5) C 7 in_X5 rfl hit (by decide) ev496 (fun _ h9 => h9) rfl dX2_drop_17 ?_
          refine V_astoreq (o := none) (L' := [some (.ref (A 2 m0)), some (.int (nI key)), some (.int pa), some (.null), some (.ref (A 0 k)), some (.null)]) C dX2_drop_20 (by decide) rfl ?_
          refine V_iload_n C dX2_drop_22 rfl rfl ?_
          refine V_aload C dX2_drop_23 rfl ?_
          refine V_getN (C0 := RX5) (T := TX5) (N := 8) (ci := 5) C 2 in_X5 rfl hit (by decide) ev482 (fun _ h9 => h9) rfl dX2_drop_25 ?_
          refine V_ishr C dX2_drop_28 ?_
          refine V_iconst C 1 dX2_drop_29 (by decide) ?_
          refine V_iand C dX2_drop_30 ?_
          refine V_iconst C 1 dX2_drop_31 (by decide) ?_
          refine V_icmp_ne C 65 dX2_drop_32 (by decide) (fun k32 => ?_) (fun k32 => ?_)
          · refine V_sub ?_ (keepC (decide_eq_false k32))
            repeat' (first | exact ls_e | refine ls_n ?_ | refine ls_s ?_ | refine ls_i ?_ ?_ | refine ls_v ?_ ?_)
            all_goals (first | (rw [hK0]; simp [va_rf]) | (rw [hL2]; rfl))
          · refine V_aload C dX2_drop_35 rfl ?_
            refine V_iconst C 0 dX2_drop_37 (by decide) ?_
            refine V_M (V_putN (C0 := RX5) (T := TX5) (N := 8) (ci := 5) (fs' := [.ref (A 1 k), .int (P k), .int (nI k), va_rf (nodeO lo A k), va_rf ((hi k).map (A 2)), .int 0, .int (bI (fo k)), .null]) C 5 in_X5 tyX5 tyX5_ok nmX5 rfl hit (by decide) ev489 (fun _ h9 => h9) rfl rfl rfl rfl (Nat.le_of_ble_eq_true rfl) rfl dX2_drop_38) (fun M__1 eM__1 => ?_)
            have h__2 := mp_got eM__1
            have h__3 := mp_keep eM__1 hnd1 hit (by first | assumption | exact Ne.symm (by assumption) | (simp; done) | (simp; omega) | (intro h; simp at h; omega))
            have h__4 := mp_keep eM__1 hen1 hit (by first | assumption | exact Ne.symm (by assumption) | (simp; done) | (simp; omega) | (intro h; simp at h; omega))
            refine V_aload_nq (o := none) C dX2_drop_41 rfl rfl ?_
            refine V_ifnonnull_N C dX2_drop_42 ?_
            refine V_aload_n C dX2_drop_45 rfl rfl ?_
            refine V_get (C0 := RX2) (T := TX2) (N := 2) (ci := 2) C 1 in_X2 rfl h__3 (by decide) q82 (fun _ h9 => h9) rfl dX2_drop_46 ?_
            refine V_iload_n C dX2_drop_49 rfl rfl ?_
            refine V_aloadq (o := none) C dX2_drop_50 rfl ?_
            refine V_M (V_aastN (ti := 4) (E := "ReplicaDocument$Item") C rfl h__4 (pk_in key 4 (by omega)) dX2_drop_52) (fun M__5 eM__5 => ?_)
            rw [nI_clamp (n := key) (by omega)] at eM__5
            have h__6 := mp_got eM__5
            have h__7 := mp_keep eM__5 h__3 h__4 (by first | assumption | exact Ne.symm (by assumption) | (simp; done) | (simp; omega) | (intro h; simp at h; omega))
            have h__8 := mp_keep eM__5 h__2 h__4 (by first | assumption | exact Ne.symm (by assumption) | (simp; done) | (simp; omega) | (intro h; simp at h; omega))
            refine V_goto C 68 dX2_drop_53 (by decide) ?_
            obtain ⟨R2, K2⟩ := hR2 M__1 (by rw [eM__1, hnk, hL2]; rfl)
            have hnT : (L.drop (i + 1)).head? = none := by rw [head_drop, hL2]
            obtain ⟨R3, K3⟩ := rep_hd (M1 := M__5) (key0 := key) R2 hm0 hmp (chU ch m0 key (drF L pa i ++ L.drop (i + 1))) (by rw [eM__5, chU_s, show (drF L pa i ++ L.drop (i + 1)).head? = none from by rw [hK0, List.nil_append, hnT]]; rfl) (fun m key2 z => by rw [chU_n z, chU_n z]) (h9c nx1 _ (by rw [hK0, List.nil_append] at hC ⊢; exact (chok_cons.mp hC).2.2.2) (fun j _ => rfl))
            refine V_sub ?_ (dropC _ _ (decide_eq_true k32) R3 (hK1.tr (K2.tr K3)))
            repeat' (first | exact ls_e | refine ls_n ?_ | refine ls_s ?_ | refine ls_i ?_ ?_ | refine ls_v ?_ ?_)
            all_goals (first | (rw [hK0]; rfl) | (rw [hL2]; rfl))
        · rw [List.concat_eq_append] at hK0
          have hit : M1 (A 0 k) = some ((g, 1, k), .inr (5, [.ref (A 1 k), .int (P k), .int (nI k), va_rf (nodeO lo A k), va_rf ((hi k).map (A 2)), .int (bI (drS L pa sh i k)), .int (bI (fo k)), .null])) := it_nx (q5 k hkl) (hnk.trans (by rw [hL2])) rfl
          refine V_L (L1 := [some (.ref (A 2 m0)), some (.int (nI key)), some (.int pa), some (.ref (A 0 kk)), some (.ref (A 0 k)), none]) (by rw [hK0]; simp [va_rf]) ?_
          have hkkk : kk ≠ k := fun z => hkK (by rw [hK0, z]; simp)
          have hC2 := hC
          rw [hK0, List.append_assoc, List.singleton_append] at hC2
          obtain ⟨hkkl, -, -, -, hkkT⟩ := chok_mid hC2
          have hit3 := q5 kk hkkl
          refine V_aload C dX2_drop_10 rfl ?_
          refine V_ifnull_R C dX2_drop_12 ?_
          refine V_aload C dX2_drop_15 rfl ?_
          refine V_getN (C0 := RX5) (T := TX5) (N := 8) (ci := 5) C 7 in_X5 rfl hit (by decide) ev496 (fun _ h9 => h9) rfl dX2_drop_17 ?_
          refine V_astoreq (o := none) (L' := [some (.ref (A 2 m0)), some (.int (nI key)), some (.int pa), some (.ref (A 0 kk)), some (.ref (A 0 k)), some (.null)]) C dX2_drop_20 (by decide) rfl ?_
          refine V_iload_n C dX2_drop_22 rfl rfl ?_
          refine V_aload C dX2_drop_23 rfl ?_
          refine V_getN (C0 := RX5) (T := TX5) (N := 8) (ci := 5) C 2 in_X5 rfl hit (by decide) ev482 (fun _ h9 => h9) rfl dX2_drop_25 ?_
          refine V_ishr C dX2_drop_28 ?_
          refine V_iconst C 1 dX2_drop_29 (by decide) ?_
          refine V_iand C dX2_drop_30 ?_
          refine V_iconst C 1 dX2_drop_31 (by decide) ?_
          refine V_icmp_ne C 65 dX2_drop_32 (by decide) (fun k32 => ?_) (fun k32 => ?_)
          · refine V_sub ?_ (keepC (decide_eq_false k32))
            repeat' (first | exact ls_e | refine ls_n ?_ | refine ls_s ?_ | refine ls_i ?_ ?_ | refine ls_v ?_ ?_)
            all_goals (first | (rw [hK0]; simp [va_rf]) | (rw [hL2]; rfl))
          · refine V_aload C dX2_drop_35 rfl ?_
            refine V_iconst C 0 dX2_drop_37 (by decide) ?_
            refine V_M (V_putN (C0 := RX5) (T := TX5) (N := 8) (ci := 5) (fs' := [.ref (A 1 k), .int (P k), .int (nI k), va_rf (nodeO lo A k), va_rf ((hi k).map (A 2)), .int 0, .int (bI (fo k)), .null]) C 5 in_X5 tyX5 tyX5_ok nmX5 rfl hit (by decide) ev489 (fun _ h9 => h9) rfl rfl rfl rfl (Nat.le_of_ble_eq_true rfl) rfl dX2_drop_38) (fun M__9 eM__9 => ?_)
            have h__10 := mp_got eM__9
            have h__11 := mp_keep eM__9 hnd1 hit (by first | assumption | exact Ne.symm (by assumption) | (simp; done) | (simp; omega) | (intro h; simp at h; omega))
            have h__12 := mp_keep eM__9 hen1 hit (by first | assumption | exact Ne.symm (by assumption) | (simp; done) | (simp; omega) | (intro h; simp at h; omega))
            have h__13 := mp_keep eM__9 hit3 hit (by first | assumption | exact Ne.symm (by assumption) | (simp; done) | (simp; omega) | (intro h; simp at h; omega))
            refine V_aload_n C dX2_drop_41 rfl rfl ?_
            refine V_ifnonnull_R C 56 dX2_drop_42 (by decide) ?_
            refine V_aload_n C dX2_drop_56 rfl rfl ?_
            refine V_aloadq (o := none) C dX2_drop_57 rfl ?_
            refine V_M (V_putN (C0 := RX5) (T := TX5) (N := 8) (ci := 5) (fs' := [.ref (A 1 kk), .int (P kk), .int (nI kk), va_rf (nodeO lo A kk), va_rf ((hi kk).map (A 2)), .int (bI (drS L pa sh i kk)), .int (bI (fo kk)), .null]) C 7 in_X5 tyX5 tyX5_ok nmX5 rfl h__13 (by decide) ev496 (fun _ h9 => h9) rfl rfl rfl rfl (Nat.le_of_ble_eq_true rfl) rfl dX2_drop_59) (fun M__14 eM__14 => ?_)
            have h__15 := mp_got eM__14
            have h__16 := mp_keep eM__14 h__11 h__13 (by first | assumption | exact Ne.symm (by assumption) | (simp; done) | (simp; omega) | (intro h; simp at h; omega))
            have h__17 := mp_keep eM__14 h__12 h__13 (by first | assumption | exact Ne.symm (by assumption) | (simp; done) | (simp; omega) | (intro h; simp at h; omega))
            have h__18 := mp_keep eM__14 h__10 h__13 (by first | assumption | exact Ne.symm (by assumption) | (simp; done) | (simp; omega) | (intro h; simp at h; omega))
            refine V_goto C 68 dX2_drop_62 (by decide) ?_
            obtain ⟨R2, K2⟩ := hR2 M__9 (by rw [eM__9, hnk, hL2]; rfl)
            have hnT : (L.drop (i + 1)).head? = none := by rw [head_drop, hL2]
            obtain ⟨R3, K3⟩ := rep_up (M1 := M__14) R2 hkkl hi (fun j => if j = k then false else drS L pa sh i j) fo (chU ch m0 key (drF L pa i ++ L.drop (i + 1))) (fun j => if j = kk then ((L.drop (i + 1)).head?).map (A 0) else nx1 j) (by rw [eM__14, hnT]; simp [hkkk, va_rf]) (fun j hj => ⟨rfl, rfl, rfl, by simp [hj]⟩) (fun m key2 => by by_cases z : m = m0 ∧ key2 = key; (obtain ⟨rfl, rfl⟩ := z; rw [chU_s, chU_s, hK0]; cases K0 <;> rfl); (rw [chU_n z, chU_n z])) (h9c _ _ (by rw [hK0, List.append_assoc, List.singleton_append]; exact ch_del (k := k) (by simp) (fun j hj => by simp [hj]) K0 hC2) (fun j hj => by rw [if_neg (fun z => hj (by rw [z, hK0]; simp))])) (fun m hm => q11 kk m hkkl hm)
            refine V_sub ?_ (dropC _ _ (decide_eq_true k32) R3 (hK1.tr (K2.tr K3)))
            repeat' (first | exact ls_e | refine ls_n ?_ | refine ls_s ?_ | refine ls_i ?_ ?_ | refine ls_v ?_ ?_)
            all_goals (first | (rw [hK0]; simp [va_rf]) | (rw [hL2]; rfl))
      · rcases List.eq_nil_or_concat (drF L pa i) with hK0 | ⟨K0, kk, hK0⟩
        · have hit : M1 (A 0 k) = some ((g, 1, k), .inr (5, [.ref (A 1 k), .int (P k), .int (nI k), va_rf (nodeO lo A k), va_rf ((hi k).map (A 2)), .int (bI (drS L pa sh i k)), .int (bI (fo k)), .ref (A 0 k2)])) := it_nx (q5 k hkl) (hnk.trans (by rw [hL2])) rfl
          refine V_L (L1 := [some (.ref (A 2 m0)), some (.int (nI key)), some (.int pa), some (.null), some (.ref (A 0 k)), none]) (by rw [hK0]; rfl) ?_
          have hk2T : k2 ∈ L.drop (i + 1) := List.mem_of_getElem? (i := 0) (by rw [List.getElem?_drop, Nat.add_zero]; exact hL2)
          have hk2k : k2 ≠ k := fun z => hkT (z ▸ hk2T)
          have hk2l : k2 < ln := (hC.2 ((drF L pa i).length + 1) k2 (by rw [List.getElem?_append_right (by omega), show (drF L pa i).length + 1 - (drF L pa i).length = 1 by omega, List.getElem?_cons_succ, List.getElem?_drop, Nat.add_zero]; exact hL2)).1
          have hit2 := q5 k2 hk2l
          refine V_aload C dX2_drop_10 rfl ?_
          refine V_ifnull_R C dX2_drop_12 ?_
          refine V_aload C dX2_drop_15 rfl ?_
          refine V_getN (C0 := RX5) (T := TX5) (N := 8) (ci := 5) C 7 in_X5 rfl hit (by decide) ev496 (fun _ h9 => h9) rfl dX2_drop_17 ?_
          refine V_astore (L' := [some (.ref (A 2 m0)), some (.int (nI key)), some (.int pa), some (.null), some (.ref (A 0 k)), some (.ref (A 0 k2))]) C dX2_drop_20 (by decide) rfl ?_
          refine V_iload_n C dX2_drop_22 rfl rfl ?_
          refine V_aload C dX2_drop_23 rfl ?_
          refine V_getN (C0 := RX5) (T := TX5) (N := 8) (ci := 5) C 2 in_X5 rfl hit (by decide) ev482 (fun _ h9 => h9) rfl dX2_drop_25 ?_
          refine V_ishr C dX2_drop_28 ?_
          refine V_iconst C 1 dX2_drop_29 (by decide) ?_
          refine V_iand C dX2_drop_30 ?_
          refine V_iconst C 1 dX2_drop_31 (by decide) ?_
          refine V_icmp_ne C 65 dX2_drop_32 (by decide) (fun k32 => ?_) (fun k32 => ?_)
          · refine V_sub ?_ (keepC (decide_eq_false k32))
            repeat' (first | exact ls_e | refine ls_n ?_ | refine ls_s ?_ | refine ls_i ?_ ?_ | refine ls_v ?_ ?_)
            all_goals (first | (rw [hK0]; simp [va_rf]) | (rw [hL2]; rfl))
          · refine V_aload C dX2_drop_35 rfl ?_
            refine V_iconst C 0 dX2_drop_37 (by decide) ?_
            refine V_M (V_putN (C0 := RX5) (T := TX5) (N := 8) (ci := 5) (fs' := [.ref (A 1 k), .int (P k), .int (nI k), va_rf (nodeO lo A k), va_rf ((hi k).map (A 2)), .int 0, .int (bI (fo k)), .ref (A 0 k2)]) C 5 in_X5 tyX5 tyX5_ok nmX5 rfl hit (by decide) ev489 (fun _ h9 => h9) rfl rfl rfl rfl (Nat.le_of_ble_eq_true rfl) rfl dX2_drop_38) (fun M__19 eM__19 => ?_)
            have h__20 := mp_got eM__19
            have h__21 := mp_keep eM__19 hnd1 hit (by first | assumption | exact Ne.symm (by assumption) | (simp; done) | (simp; omega) | (intro h; simp at h; omega))
            have h__22 := mp_keep eM__19 hen1 hit (by first | assumption | exact Ne.symm (by assumption) | (simp; done) | (simp; omega) | (intro h; simp at h; omega))
            have h__23 := mp_keep eM__19 hit2 hit (by first | assumption | exact Ne.symm (by assumption) | (simp; done) | (simp; omega) | (intro h; simp at h; omega))
            refine V_aload_nq (o := none) C dX2_drop_41 rfl rfl ?_
            refine V_ifnonnull_N C dX2_drop_42 ?_
            refine V_aload_n C dX2_drop_45 rfl rfl ?_
            refine V_get (C0 := RX2) (T := TX2) (N := 2) (ci := 2) C 1 in_X2 rfl h__21 (by decide) q82 (fun _ h9 => h9) rfl dX2_drop_46 ?_
            refine V_iload_n C dX2_drop_49 rfl rfl ?_
            refine V_aload C dX2_drop_50 rfl ?_
            refine V_M (V_aast (ti := 4) (ci := 5) (r := (RX5, TX5, 8)) C rfl h__22 h__23 rfl (pk_in key 4 (by omega)) dX2_drop_52) (fun M__24 eM__24 => ?_)
            rw [nI_clamp (n := key) (by omega)] at eM__24
            have h__25 := mp_got eM__24
            have h__26 := mp_keep eM__24 h__21 h__22 (by first | assumption | exact Ne.symm (by assumption) | (simp; done) | (simp; omega) | (intro h; simp at h; omega))
            have h__27 := mp_keep eM__24 h__20 h__22 (by first | assumption | exact Ne.symm (by assumption) | (simp; done) | (simp; omega) | (intro h; simp at h; omega))
            have h__28 := mp_keep eM__24 h__23 h__22 (by first | assumption | exact Ne.symm (by assumption) | (simp; done) | (simp; omega) | (intro h; simp at h; omega))
            refine V_goto C 68 dX2_drop_53 (by decide) ?_
            obtain ⟨R2, K2⟩ := hR2 M__19 (by rw [eM__19, hnk, hL2]; rfl)
            have hnT : (L.drop (i + 1)).head? = some k2 := by rw [head_drop, hL2]
            obtain ⟨R3, K3⟩ := rep_hd (M1 := M__24) (key0 := key) R2 hm0 hmp (chU ch m0 key (drF L pa i ++ L.drop (i + 1))) (by rw [eM__24, chU_s, show (drF L pa i ++ L.drop (i + 1)).head? = some k2 from by rw [hK0, List.nil_append, hnT]]; rfl) (fun m key2 z => by rw [chU_n z, chU_n z]) (h9c nx1 _ (by rw [hK0, List.nil_append] at hC ⊢; exact (chok_cons.mp hC).2.2.2) (fun j _ => rfl))
            refine V_sub ?_ (dropC _ _ (decide_eq_true k32) R3 (hK1.tr (K2.tr K3)))
            repeat' (first | exact ls_e | refine ls_n ?_ | refine ls_s ?_ | refine ls_i ?_ ?_ | refine ls_v ?_ ?_)
            all_goals (first | (rw [hK0]; rfl) | (rw [hL2]; rfl))
        · rw [List.concat_eq_append] at hK0
          have hit : M1 (A 0 k) = some ((g, 1, k), .inr (5, [.ref (A 1 k), .int (P k), .int (nI k), va_rf (nodeO lo A k), va_rf ((hi k).map (A 2)), .int (bI (drS L pa sh i k)), .int (bI (fo k)), .ref (A 0 k2)])) := it_nx (q5 k hkl) (hnk.trans (by rw [hL2])) rfl
          refine V_L (L1 := [some (.ref (A 2 m0)), some (.int (nI key)), some (.int pa), some (.ref (A 0 kk)), some (.ref (A 0 k)), none]) (by rw [hK0]; simp [va_rf]) ?_
          have hk2T : k2 ∈ L.drop (i + 1) := List.mem_of_getElem? (i := 0) (by rw [List.getElem?_drop, Nat.add_zero]; exact hL2)
          have hk2k : k2 ≠ k := fun z => hkT (z ▸ hk2T)
          have hk2l : k2 < ln := (hC.2 ((drF L pa i).length + 1) k2 (by rw [List.getElem?_append_right (by omega), show (drF L pa i).length + 1 - (drF L pa i).length = 1 by omega, List.getElem?_cons_succ, List.getElem?_drop, Nat.add_zero]; exact hL2)).1
          have hit2 := q5 k2 hk2l
          have hkkk : kk ≠ k := fun z => hkK (by rw [hK0, z]; simp)
          have hC2 := hC
          rw [hK0, List.append_assoc, List.singleton_append] at hC2
          obtain ⟨hkkl, -, -, -, hkkT⟩ := chok_mid hC2
          have hit3 := q5 kk hkkl
          have hk2kk : k2 ≠ kk := fun z => hkkT (List.mem_cons_of_mem _ (z ▸ hk2T))
          refine V_aload C dX2_drop_10 rfl ?_
          refine V_ifnull_R C dX2_drop_12 ?_
          refine V_aload C dX2_drop_15 rfl ?_
          refine V_getN (C0 := RX5) (T := TX5) (N := 8) (ci := 5) C 7 in_X5 rfl hit (by decide) ev496 (fun _ h9 => h9) rfl dX2_drop_17 ?_
          refine V_astore (L' := [some (.ref (A 2 m0)), some (.int (nI key)), some (.int pa), some (.ref (A 0 kk)), some (.ref (A 0 k)), some (.ref (A 0 k2))]) C dX2_drop_20 (by decide) rfl ?_
          refine V_iload_n C dX2_drop_22 rfl rfl ?_
          refine V_aload C dX2_drop_23 rfl ?_
          refine V_getN (C0 := RX5) (T := TX5) (N := 8) (ci := 5) C 2 in_X5 rfl hit (by decide) ev482 (fun _ h9 => h9) rfl dX2_drop_25 ?_
          refine V_ishr C dX2_drop_28 ?_
          refine V_iconst C 1 dX2_drop_29 (by decide) ?_
          refine V_iand C dX2_drop_30 ?_
          refine V_iconst C 1 dX2_drop_31 (by decide) ?_
          refine V_icmp_ne C 65 dX2_drop_32 (by decide) (fun k32 => ?_) (fun k32 => ?_)
          · refine V_sub ?_ (keepC (decide_eq_false k32))
            repeat' (first | exact ls_e | refine ls_n ?_ | refine ls_s ?_ | refine ls_i ?_ ?_ | refine ls_v ?_ ?_)
            all_goals (first | (rw [hK0]; simp [va_rf]) | (rw [hL2]; rfl))
          · refine V_aload C dX2_drop_35 rfl ?_
            refine V_iconst C 0 dX2_drop_37 (by decide) ?_
            refine V_M (V_putN (C0 := RX5) (T := TX5) (N := 8) (ci := 5) (fs' := [.ref (A 1 k), .int (P k), .int (nI k), va_rf (nodeO lo A k), va_rf ((hi k).map (A 2)), .int 0, .int (bI (fo k)), .ref (A 0 k2)]) C 5 in_X5 tyX5 tyX5_ok nmX5 rfl hit (by decide) ev489 (fun _ h9 => h9) rfl rfl rfl rfl (Nat.le_of_ble_eq_true rfl) rfl dX2_drop_38) (fun M__29 eM__29 => ?_)
            have h__30 := mp_got eM__29
            have h__31 := mp_keep eM__29 hnd1 hit (by first | assumption | exact Ne.symm (by assumption) | (simp; done) | (simp; omega) | (intro h; simp at h; omega))
            have h__32 := mp_keep eM__29 hen1 hit (by first | assumption | exact Ne.symm (by assumption) | (simp; done) | (simp; omega) | (intro h; simp at h; omega))
            have h__33 := mp_keep eM__29 hit2 hit (by first | assumption | exact Ne.symm (by assumption) | (simp; done) | (simp; omega) | (intro h; simp at h; omega))
            have h__34 := mp_keep eM__29 hit3 hit (by first | assumption | exact Ne.symm (by assumption) | (simp; done) | (simp; omega) | (intro h; simp at h; omega))
            refine V_aload_n C dX2_drop_41 rfl rfl ?_
            refine V_ifnonnull_R C 56 dX2_drop_42 (by decide) ?_
            refine V_aload_n C dX2_drop_56 rfl rfl ?_
            refine V_aload C dX2_drop_57 rfl ?_
            refine V_M (V_putN (C0 := RX5) (T := TX5) (N := 8) (ci := 5) (fs' := [.ref (A 1 kk), .int (P kk), .int (nI kk), va_rf (nodeO lo A kk), va_rf ((hi kk).map (A 2)), .int (bI (drS L pa sh i kk)), .int (bI (fo kk)), .ref (A 0 k2)]) C 7 in_X5 tyX5 tyX5_ok nmX5 rfl h__34 (by decide) ev496 (fun _ h9 => h9) rfl rfl rfl rfl (Nat.le_of_ble_eq_true rfl) rfl dX2_drop_59) (fun M__35 eM__35 => ?_)
            have h__36 := mp_got eM__35
            have h__37 := mp_keep eM__35 h__31 h__34 (by first | assumption | exact Ne.symm (by assumption) | (simp; done) | (simp; omega) | (intro h; simp at h; omega))
            have h__38 := mp_keep eM__35 h__32 h__34 (by first | assumption | exact Ne.symm (by assumption) | (simp; done) | (simp; omega) | (intro h; simp at h; omega))
            have h__39 := mp_keep eM__35 h__30 h__34 (by first | assumption | exact Ne.symm (by assumption) | (simp; done) | (simp; omega) | (intro h; simp at h; omega))
            have h__40 := mp_keep eM__35 h__33 h__34 (by first | assumption | exact Ne.symm (by assumption) | (simp; done) | (simp; omega) | (intro h; simp at h; omega))
            refine V_goto C 68 dX2_drop_62 (by decide) ?_
            obtain ⟨R2, K2⟩ := hR2 M__29 (by rw [eM__29, hnk, hL2]; rfl)
            have hnT : (L.drop (i + 1)).head? = some k2 := by rw [head_drop, hL2]
            obtain ⟨R3, K3⟩ := rep_up (M1 := M__35) R2 hkkl hi (fun j => if j = k then false else drS L pa sh i j) fo (chU ch m0 key (drF L pa i ++ L.drop (i + 1))) (fun j => if j = kk then ((L.drop (i + 1)).head?).map (A 0) else nx1 j) (by rw [eM__35, hnT]; simp [hkkk, va_rf]) (fun j hj => ⟨rfl, rfl, rfl, by simp [hj]⟩) (fun m key2 => by by_cases z : m = m0 ∧ key2 = key; (obtain ⟨rfl, rfl⟩ := z; rw [chU_s, chU_s, hK0]; cases K0 <;> rfl); (rw [chU_n z, chU_n z])) (h9c _ _ (by rw [hK0, List.append_assoc, List.singleton_append]; exact ch_del (k := k) (by simp) (fun j hj => by simp [hj]) K0 hC2) (fun j hj => by rw [if_neg (fun z => hj (by rw [z, hK0]; simp))])) (fun m hm => q11 kk m hkkl hm)
            refine V_sub ?_ (dropC _ _ (decide_eq_true k32) R3 (hK1.tr (K2.tr K3)))
            repeat' (first | exact ls_e | refine ls_n ?_ | refine ls_s ?_ | refine ls_i ?_ ?_ | refine ls_v ?_ ?_)
            all_goals (first | (rw [hK0]; simp [va_rf]) | (rw [hL2]; rfl))
  refine V_null C dX2_drop_0 ?_
  refine V_astore_nq (o := none) (L' := [some (.ref (A 2 m0)), some (.int (nI key)), some (.int pa), some (.null), none, none]) C dX2_drop_1 rfl (by decide) rfl ?_
  refine V_aload_n C dX2_drop_2 rfl rfl ?_
  refine V_get (C0 := RX2) (T := TX2) (N := 2) (ci := 2) C 1 in_X2 rfl hnd (by decide) q82 (fun _ h9 => h9) rfl dX2_drop_3 ?_
  refine V_iload_n C dX2_drop_6 rfl rfl ?_
  refine V_aald C 4 rfl hen (pk_in key 4 hkey) dX2_drop_7 ?_
  refine V_topq (o1 := ((L[0]?).map (A 0))) (by rw [nI_clamp (by omega), ← hL, List.head?_eq_getElem?]) ?_
  refine V_astoreq (L' := [some (.ref (A 2 m0)), some (.int (nI key)), some (.int pa), some (.null), some (va_rf ((L[0]?).map (A 0))), none]) C dX2_drop_8 (by decide) rfl ?_
  refine V_sub ?_ (loop 0 (Nat.zero_le _) M nx hR0 Keep.rf)
  repeat' (first | exact ls_e | refine ls_n ?_ | refine ls_s ?_ | refine ls_i ?_ ?_ | refine ls_v ?_ ?_)

