set_option maxRecDepth 100000
/-! JDK, B: String's readers, Math -/
theorem ct_J5_isLatin1 (l : Launch) (G : mp_G) (b : Nat) (M : mp_M) (a va : Nat) (h z : Int32) (lab : mp_L) (ha : M a = some (lab, .inr (9, [.ref va, .int 0, .int h, .int z]))) : Ct l yJ5_isLatin1 cJ5_isLatin1 1 (some .boolean) 0 0 0 G b ([.ref a] : List Value) M (pI (fun r M1 => r = 1 ∧ M1 = M)) := by
  refine Ct.ofV (by decide) (vc_ref vc_nil) (Nat.le_of_ble_eq_true rfl) ?_
  intro p e s m below meth c C hnm
  refine V_L (L1 := [some (.ref a)]) rfl ?_
  refine V_gets C C.2.2.2.1.2.2.2.1 q235 (fun _ h9 => h9) dJ5_isLatin1_0 ?_
  refine V_if_eq C 17 dJ5_isLatin1_3 (by decide) (fun h => ?_) (fun h => ?_)
  · exact absurd h (by decide)
  · skip
    refine V_aload_n C dJ5_isLatin1_6 rfl rfl ?_
    refine V_get (C0 := RJ5) (T := TJ5) (N := 4) (ci := 9) C 1 in_J5 rfl ha (by decide) q435 (fun _ h9 => h9) rfl dJ5_isLatin1_7 ?_
    refine V_if_ne C 17 dJ5_isLatin1_10 (by decide) (fun h => ?_) (fun h => ?_)
    · exact absurd rfl h
    · skip
      refine V_iconst C 1 dJ5_isLatin1_13 (by decide) ?_
      refine V_goto C 18 dJ5_isLatin1_14 (by decide) ?_
      exact V_zret C rfl dJ5_isLatin1_18 (by decide) (by decide) ⟨_, rfl, rfl, rfl⟩
theorem ct_J5_coder (l : Launch) (G : mp_G) (b : Nat) (M : mp_M) (a va : Nat) (h z : Int32) (lab : mp_L) (ha : M a = some (lab, .inr (9, [.ref va, .int 0, .int h, .int z]))) : Ct l yJ5_coder cJ5_coder 1 (some .byte) 0 0 0 G b ([.ref a] : List Value) M (pI (fun r M1 => r = 0 ∧ M1 = M)) := by
  refine Ct.ofV (by decide) (vc_ref vc_nil) (Nat.le_of_ble_eq_true rfl) ?_
  intro p e s m below meth c C hnm
  refine V_L (L1 := [some (.ref a)]) rfl ?_
  refine V_gets C C.2.2.2.1.2.2.2.1 q235 (fun _ h9 => h9) dJ5_coder_0 ?_
  refine V_if_eq C 13 dJ5_coder_3 (by decide) (fun h => ?_) (fun h => ?_)
  · exact absurd h (by decide)
  · skip
    refine V_aload_n C dJ5_coder_6 rfl rfl ?_
    refine V_get (C0 := RJ5) (T := TJ5) (N := 4) (ci := 9) C 1 in_J5 rfl ha (by decide) q435 (fun _ h9 => h9) rfl dJ5_coder_7 ?_
    refine V_goto C 14 dJ5_coder_10 (by decide) ?_
    exact V_zret C rfl dJ5_coder_14 (by decide) (by decide) ⟨_, rfl, rfl, rfl⟩
theorem ct_J5_length (l : Launch) (G : mp_G) (b : Nat) (M : mp_M) (g a : Nat) (bs : List Nat) (hS : StrAt G M g a bs) : Ct l yJ5_length cJ5_length 1 (some .int) 1 0 0 G b ([.ref a] : List Value) M (pI (fun r M1 => r = nI bs.length ∧ M1 = M)) := by
  obtain ⟨va, f, h, z, i, j, ha, hv, hf, hn⟩ := hS
  refine Ct.ofV (by decide) (vc_ref vc_nil) (Nat.le_of_ble_eq_true rfl) ?_
  intro p e s m below meth c C hnm
  refine V_L (L1 := [some (.ref a)]) rfl ?_
  refine V_aload_n C dJ5_length_0 rfl rfl ?_
  refine V_get (C0 := RJ5) (T := TJ5) (N := 4) (ci := 9) C 0 in_J5 rfl ha (by decide) q434 (fun _ h9 => h9) rfl dJ5_length_1 ?_
  refine V_alen (ti := 2) C rfl hv dJ5_length_4 ?_
  refine V_aload_n C dJ5_length_5 rfl rfl ?_
  refine V_ofIe (VR_V (As := []) (rest := [.int (nI bs.length)]) C (ct_J5_coder l G b M a va h z _ ha) ha rfl (lw_V q659 q660 q661 q44 q662) rfl nd_J5_coder rfl (by decide) (by decide) dJ5_length_6 rfl ⟨by decide, by decide⟩ (Nat.le_of_ble_eq_true rfl)) ?_
  refine V_ishr C dJ5_length_9 ?_
  refine V_top (y := (nI bs.length)) (sb_shr0 _) ?_
  exact V_iret C dJ5_length_10 (by decide) (by decide) ⟨_, rfl, rfl, rfl⟩
theorem ct_J5_charAt (l : Launch) (G : mp_G) (b : Nat) (M : mp_M) (g a k ch : Nat) (bs : List Nat) (hS : StrAt G M g a bs) (hk : bs[k]? = some ch) : Ct l yJ5_charAt cJ5_charAt 2 (some .char) 3 0 0 G b ([.ref a, .int (nI k)] : List Value) M (pI (fun r M1 => r = nI ch ∧ M1 = M)) := by
  obtain ⟨va, f, h, z, i, j, ha, hv, hf, hn⟩ := hS
  have hkl := (List.getElem?_eq_some_iff.mp hk).1
  refine Ct.ofV (by decide) (vc_ref (vc_int vc_nil)) (Nat.le_of_ble_eq_true rfl) ?_
  intro p e s m below meth c C hnm
  refine V_L (L1 := [some (.ref a), some (.int (nI k))]) rfl ?_
  refine V_aload_n C dJ5_charAt_0 rfl rfl ?_
  refine V_ofIe (VR_V (As := []) (rest := []) C (ct_J5_isLatin1 l G b M a va h z _ ha) ha rfl (lw_V q231 q232 q233 q44 q234) rfl nd_J5_isLatin1 rfl (by decide) (by decide) dJ5_charAt_1 rfl ⟨by decide, by decide⟩ (Nat.le_of_ble_eq_true rfl)) ?_
  refine V_if_eq C 16 dJ5_charAt_4 (by decide) (fun h => ?_) (fun h => ?_)
  · exact absurd h (by decide)
  · skip
    refine V_aload_n C dJ5_charAt_7 rfl rfl ?_
    refine V_get (C0 := RJ5) (T := TJ5) (N := 4) (ci := 9) C 0 in_J5 rfl ha (by decide) q434 (fun _ h9 => h9) rfl dJ5_charAt_8 ?_
    refine V_iload_n C dJ5_charAt_11 rfl rfl ?_
    refine V_ofIe (VR_S (As := [.ref va, .int (nI k)]) (rest := []) C (ct_J9_charAt l G b M va k bs.length ch f _ hv hkl hn (hf k ch hk).1 (hf k ch hk).2) (lw_S q236 q237 q49 q238) nd_J9_charAt rfl (by decide) (by decide) dJ5_charAt_12 rfl ⟨by decide, by decide⟩ (Nat.le_of_ble_eq_true rfl)) ?_
    exact V_zret C (pk_charN (by have := (hf k ch hk).1; omega)).1 dJ5_charAt_15 (by decide) (by decide) ⟨_, rfl, rfl, rfl⟩
theorem ct_J9_equals (l : Launch) (G : mp_G) (b : Nat) (M : mp_M) (va wa n1 n2 : Nat) (f1 f2 : Nat → Int32) (la1 la2 : mp_L) (hv : M va = some (la1, .inl (G.2.1 2, n1, .inl f1))) (hw : M wa = some (la2, .inl (G.2.1 2, n2, .inl f2))) (hn1 : n1 ≤ 65536) (hn2 : n2 ≤ 65536) : Ct l yJ9_equals cJ9_equals 3 (some .boolean) 0 0 0 G b ([.ref va, .ref wa] : List Value) M (pI (fun r M1 => (∃ q : Bool, r = bI q ∧ (q = true ↔ (n1 = n2 ∧ ∀ j, j < n1 → f1 j = f2 j))) ∧ M1 = M)) := by
  refine Ct.ofV (by decide) (vc_ref (vc_ref vc_nil)) (Nat.le_of_ble_eq_true rfl) ?_
  intro p e s m below meth c C hnm
  refine V_L (L1 := [some (.ref va), some (.ref wa), none]) rfl ?_
  refine V_aload_n C dJ9_equals_0 rfl rfl ?_
  refine V_alen (ti := 2) C rfl hv dJ9_equals_1 ?_
  refine V_aload_n C dJ9_equals_2 rfl rfl ?_
  refine V_alen (ti := 2) C rfl hw dJ9_equals_3 ?_
  refine V_icmp_ne C 34 dJ9_equals_4 (by decide) (fun h => ?_) (fun h => ?_)
  · skip
    refine V_iconst C 0 dJ9_equals_34 (by decide) ?_
    exact V_zret C rfl dJ9_equals_35 (by decide) (by decide) ⟨_, rfl, ⟨false, rfl, (fun z => by cases z), (fun z => absurd (by rw [z.1]) h)⟩, rfl⟩
  · skip
    have hnn : n1 = n2 := (nI_eq (by omega) (by omega)).mp h
    refine V_iconst C 0 dJ9_equals_7 (by decide) ?_
    refine V_istore_n (L' := [some (.ref va), some (.ref wa), some (.int 0)]) C dJ9_equals_8 rfl (by decide) rfl ?_
    have loop : ∀ k, k ≤ n1 → (∀ j, j < k → f1 j = f2 j) → V p l e (rmOf 0 0 0) s m ([.ref va, .ref wa] : List Value).toArray below meth c (MQ below (Qp G b (pI (fun r M1 => (∃ q : Bool, r = bI q ∧ (q = true ↔ (n1 = n2 ∧ ∀ j, j < n1 → f1 j = f2 j))) ∧ M1 = M))) ([.ref va, .ref wa] : List Value).toArray s 0 0 (fun q => b ≤ q)) G b 3 0 0 9 [some (.ref va), some (.ref wa), some (.int (nI k))] [] M := by
      refine up_ind n1 ?_
      intro k hk ih hj
      refine V_iload_n C dJ9_equals_9 rfl rfl ?_
      refine V_aload_n C dJ9_equals_10 rfl rfl ?_
      refine V_alen (ti := 2) C rfl hv dJ9_equals_11 ?_
      refine V_icmp_ge C 32 dJ9_equals_12 (by decide) (fun h => ?_) (fun h => ?_)
      · skip
        rw [nI_leI (by omega) (by omega)] at h
        refine V_iconst C 1 dJ9_equals_32 (by decide) ?_
        exact V_zret C rfl dJ9_equals_33 (by decide) (by decide) ⟨_, rfl, ⟨true, rfl, fun _ => ⟨hnn, fun j hjn => hj j (by omega)⟩, fun _ => rfl⟩, rfl⟩
      · skip
        rw [nI_leI (by omega) (by omega)] at h
        refine V_aload_n C dJ9_equals_15 rfl rfl ?_
        refine V_iload_n C dJ9_equals_16 rfl rfl ?_
        refine V_bald C hv (pk_in k n1 (by omega)) dJ9_equals_17 ?_
        refine V_top (y := (f1 k)) (by rw [nI_clamp (by omega)]) ?_
        refine V_aload_n C dJ9_equals_18 rfl rfl ?_
        refine V_iload_n C dJ9_equals_19 rfl rfl ?_
        refine V_bald C hw (pk_in k n2 (by omega)) dJ9_equals_20 ?_
        refine V_top (y := (f2 k)) (by rw [nI_clamp (by omega)]) ?_
        refine V_icmp_eq C 26 dJ9_equals_21 (by decide) (fun h2 => ?_) (fun h2 => ?_)
        · skip
          refine V_iinc (v := (nI (k + 1))) (L' := [some (.ref va), some (.ref wa), some (.int (nI (k + 1)))]) C dJ9_equals_26 rfl (nI_1 _) (by decide) rfl ?_
          refine V_goto C 9 dJ9_equals_29 (by decide) ?_
          exact ih (by omega) (fun j hjk => by rcases Nat.lt_or_ge j k with q | q; exact hj j q; rw [show j = k by omega]; exact h2)
        · skip
          refine V_iconst C 0 dJ9_equals_24 (by decide) ?_
          exact V_zret C rfl dJ9_equals_25 (by decide) (by decide) ⟨_, rfl, ⟨false, rfl, (fun z => by cases z), fun z => absurd (z.2 k (by omega)) h2⟩, rfl⟩
    exact loop 0 (Nat.zero_le _) (fun j hj => absurd hj (Nat.not_lt_zero j))
theorem str_eq {G : mp_G} {M : mp_M} {g g2 a : Nat} {bs cs : List Nat} (h : StrAt G M g a bs) (h2 : StrAt G M g2 a cs) : bs = cs := by
  obtain ⟨va, f, h, z, i, j, ha, hv, hf, hn⟩ := h
  obtain ⟨va2, f2, h2, z2, i2, j2, ha2, hv2, hf2, hn2⟩ := h2
  rw [ha] at ha2
  simp only [Option.some.injEq, Prod.mk.injEq, Sum.inr.injEq, List.cons.injEq, Value.ref.injEq] at ha2
  obtain ⟨-, -, rfl, -⟩ := ha2
  rw [hv] at hv2
  simp only [Option.some.injEq, Prod.mk.injEq, Sum.inl.injEq] at hv2
  obtain ⟨-, -, hl, rfl⟩ := hv2
  apply List.ext_getElem hl
  intro n h1 h2
  have q1 := tx_at hf h1
  have q2 := tx_at hf2 h2
  exact sb_b_inj q1.1 q2.1 (q1.2.symm.trans q2.2)
theorem ct_J5_equals (l : Launch) (G : mp_G) (b : Nat) (M : mp_M) (g g2 a a2 : Nat) (bs cs : List Nat) (hS : StrAt G M g a bs) (hS2 : StrAt G M g2 a2 cs) : Ct l yJ5_equals cJ5_equals 3 (some .boolean) 1 0 0 G b ([.ref a, .ref a2] : List Value) M (pI (fun r M1 => r = bI (decide (bs = cs)) ∧ M1 = M)) := by
  refine Ct.ofV (by decide) (vc_ref (vc_ref vc_nil)) (Nat.le_of_ble_eq_true rfl) ?_
  intro p e s m below meth c C hnm
  refine V_L (L1 := [some (.ref a), some (.ref a2), none]) rfl ?_
  refine V_aload_n C dJ5_equals_0 rfl rfl ?_
  refine V_aload_n C dJ5_equals_1 rfl rfl ?_
  refine V_acmp_ne (rx := some a) (ry := some a2) C 7 dJ5_equals_2 (by decide) (fun h => ?_) (fun h => ?_)
  · skip
    obtain ⟨va, f, x, z, i, j, ha, hv, hf, hn⟩ := hS
    obtain ⟨va2, f2, x2, z2, i2, j2, ha2, hv2, hf2, hn2⟩ := hS2
    refine V_aload_n C dJ5_equals_7 rfl rfl ?_
    refine V_instS C ha2 rfl q811 dJ5_equals_8 ?_
    refine V_if_eq C 54 dJ5_equals_11 (by decide) (fun h2 => ?_) (fun h2 => ?_)
    · exact absurd h2 (by decide)
    · skip
      refine V_aload_n C dJ5_equals_14 rfl rfl ?_
      refine V_castS C ha2 rfl q811 dJ5_equals_15 ?_
      refine V_astore_n (L' := [some (.ref a), some (.ref a2), some (.ref a2)]) C dJ5_equals_18 rfl (by decide) rfl ?_
      refine V_gets C C.2.2.2.1.2.2.2.1 q235 (fun _ h9 => h9) dJ5_equals_19 ?_
      refine V_if_eq C 36 dJ5_equals_22 (by decide) (fun h3 => ?_) (fun h3 => ?_)
      · exact absurd h3 (by decide)
      · skip
        refine V_aload_n C dJ5_equals_25 rfl rfl ?_
        refine V_get (C0 := RJ5) (T := TJ5) (N := 4) (ci := 9) C 1 in_J5 rfl ha (by decide) q435 (fun _ h9 => h9) rfl dJ5_equals_26 ?_
        refine V_aload_n C dJ5_equals_29 rfl rfl ?_
        refine V_get (C0 := RJ5) (T := TJ5) (N := 4) (ci := 9) C 1 in_J5 rfl ha2 (by decide) q435 (fun _ h9 => h9) rfl dJ5_equals_30 ?_
        refine V_icmp_ne C 54 dJ5_equals_33 (by decide) (fun h4 => ?_) (fun h4 => ?_)
        · exact absurd rfl h4
        · skip
          refine V_aload_n C dJ5_equals_36 rfl rfl ?_
          refine V_get (C0 := RJ5) (T := TJ5) (N := 4) (ci := 9) C 0 in_J5 rfl ha (by decide) q434 (fun _ h9 => h9) rfl dJ5_equals_37 ?_
          refine V_aload_n C dJ5_equals_40 rfl rfl ?_
          refine V_get (C0 := RJ5) (T := TJ5) (N := 4) (ci := 9) C 0 in_J5 rfl ha2 (by decide) q434 (fun _ h9 => h9) rfl dJ5_equals_41 ?_
          refine V_ofI (VR_S (As := [.ref va, .ref va2]) (rest := []) C (ct_J9_equals l G b M va va2 bs.length cs.length f f2 _ _ hv hv2 hn hn2) (lw_S q812 q813 q49 q814) nd_J9_equals rfl (by decide) (by decide) dJ5_equals_44 rfl ⟨by decide, by decide⟩ (Nat.le_of_ble_eq_true rfl)) (fun r M1 hr => ?_)
          obtain ⟨⟨q, rfl, hq⟩, rfl⟩ := hr
          have hqe : q = decide (bs = cs) := by
            have : q = true ↔ bs = cs := by
              rw [hq]
              constructor
              · rintro ⟨h5, h6⟩
                apply List.ext_getElem h5
                intro n h7 h8
                exact sb_b_inj (tx_at hf h7).1 (tx_at hf2 h8).1 ((tx_at hf h7).2.symm.trans ((h6 n h7).trans (tx_at hf2 h8).2))
              · rintro rfl
                exact ⟨rfl, fun j hj => (tx_at hf hj).2.trans (tx_at hf2 hj).2.symm⟩
            cases q <;> simp_all
          refine V_ifb_eq C 54 dJ5_equals_47 (by decide) (fun h5 => ?_) (fun h5 => ?_)
          · skip
            refine V_iconst C 0 dJ5_equals_54 (by decide) ?_
            exact V_zret C rfl dJ5_equals_55 (by decide) (by decide) ⟨_, rfl, by rw [← hqe, h5]; rfl, rfl⟩
          · skip
            refine V_iconst C 1 dJ5_equals_50 (by decide) ?_
            refine V_goto C 55 dJ5_equals_51 (by decide) ?_
            exact V_zret C rfl dJ5_equals_55 (by decide) (by decide) ⟨_, rfl, by rw [← hqe, h5]; rfl, rfl⟩
  · skip
    refine V_iconst C 1 dJ5_equals_5 (by decide) ?_
    have he : a = a2 := by simpa using h
    subst he
    exact V_zret C rfl dJ5_equals_6 (by decide) (by decide) ⟨_, rfl, by rw [str_eq hS hS2]; simp [bI], rfl⟩

