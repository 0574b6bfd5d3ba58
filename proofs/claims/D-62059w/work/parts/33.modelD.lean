set_option maxRecDepth 100000
/-! THE MODEL, D: what changes its cells; study, settle -/
def sF (S : Nat → Nat → Int32) (i : Nat) (f : Nat → Int32) : Nat → Nat → Int32 := fun q => if q = i then f else S q
theorem sF_eq (S : Nat → Nat → Int32) (i : Nat) (f : Nat → Int32) : sF S i f i = f := if_pos rfl
theorem sF_ne {S : Nat → Nat → Int32} {i q : Nat} {f : Nat → Int32} (h : q ≠ i) : sF S i f q = S q := if_neg h
def Ag (L : List Nat) (S S1 : Nat → Nat → Int32) : Prop := ∀ q, q ∉ L → S1 q = S q
theorem Ag.rf {L : List Nat} {S : Nat → Nat → Int32} : Ag L S S := fun _ _ => rfl
theorem Ag.tr {L : List Nat} {S S1 S2 : Nat → Nat → Int32} (h : Ag L S S1) (h2 : Ag L S1 S2) : Ag L S S2 := fun q hq => (h2 q hq).trans (h q hq)
theorem Ag.f {L : List Nat} {S : Nat → Nat → Int32} {i : Nat} {f : Nat → Int32} (h : i ∈ L) : Ag L S (sF S i f) := fun q hq => sF_ne (fun z => hq (z ▸ h))
theorem Ag.mono {L L2 : List Nat} {S S1 : Nat → Nat → Int32} (h : Ag L S S1) (hL : ∀ q ∈ L, q ∈ L2) : Ag L2 S S1 := fun q hq => h q (fun z => hq (hL q z))
theorem Vw.ag {S S1 : Nat → Nat → Int32} {r n : Nat} {po : Nat → Nat → Nat} {ap : Nat → Bool} (h : Vw S r n po ap) (h0 : S1 0 = S 0) (h1 : S1 1 = S 1) (h2 : S1 2 = S 2) : Vw S1 r n po ap := by
  unfold Vw
  rw [h0, h1, h2]
  exact h
theorem md_f0 {G : mp_G} {M M1 : mp_M} {a : Nat} {ad : Nat → Nat} {S : Nat → Nat → Int32} {f : Nat → Int32} (hS : MdAt G M a ad S) (e : M1 = mp_up M (ad 0) ((9, 1, 0), .inl (G.2.1 0, 576, .inl f))) : MdAt G M1 a ad (sF S 0 f) ∧ KeepG 9 M M1 := by
  obtain ⟨ha, h0, h1, h2, h3, h4, h5, h8, h9, h10, h11⟩ := hS
  exact ⟨⟨mp_keep e ha h0 (by decide), mp_got e, mp_keep e h1 h0 (by decide), mp_keep e h2 h0 (by decide), mp_keep e h3 h0 (by decide), mp_keep e h4 h0 (by decide), mp_keep e h5 h0 (by decide), mp_keep e h8 h0 (by decide), mp_keep e h9 h0 (by decide), mp_keep e h10 h0 (by decide), mp_keep e h11 h0 (by decide)⟩, kg_up e h0⟩
theorem md_f1 {G : mp_G} {M M1 : mp_M} {a : Nat} {ad : Nat → Nat} {S : Nat → Nat → Int32} {f : Nat → Int32} (hS : MdAt G M a ad S) (e : M1 = mp_up M (ad 1) ((9, 2, 0), .inl (G.2.1 0, 3, .inl f))) : MdAt G M1 a ad (sF S 1 f) ∧ KeepG 9 M M1 := by
  obtain ⟨ha, h0, h1, h2, h3, h4, h5, h8, h9, h10, h11⟩ := hS
  exact ⟨⟨mp_keep e ha h1 (by decide), mp_keep e h0 h1 (by decide), mp_got e, mp_keep e h2 h1 (by decide), mp_keep e h3 h1 (by decide), mp_keep e h4 h1 (by decide), mp_keep e h5 h1 (by decide), mp_keep e h8 h1 (by decide), mp_keep e h9 h1 (by decide), mp_keep e h10 h1 (by decide), mp_keep e h11 h1 (by decide)⟩, kg_up e h1⟩
theorem md_f2 {G : mp_G} {M M1 : mp_M} {a : Nat} {ad : Nat → Nat} {S : Nat → Nat → Int32} {f : Nat → Int32} (hS : MdAt G M a ad S) (e : M1 = mp_up M (ad 2) ((9, 3, 0), .inl (G.2.1 1, 48, .inl f))) : MdAt G M1 a ad (sF S 2 f) ∧ KeepG 9 M M1 := by
  obtain ⟨ha, h0, h1, h2, h3, h4, h5, h8, h9, h10, h11⟩ := hS
  exact ⟨⟨mp_keep e ha h2 (by decide), mp_keep e h0 h2 (by decide), mp_keep e h1 h2 (by decide), mp_got e, mp_keep e h3 h2 (by decide), mp_keep e h4 h2 (by decide), mp_keep e h5 h2 (by decide), mp_keep e h8 h2 (by decide), mp_keep e h9 h2 (by decide), mp_keep e h10 h2 (by decide), mp_keep e h11 h2 (by decide)⟩, kg_up e h2⟩
theorem md_f3 {G : mp_G} {M M1 : mp_M} {a : Nat} {ad : Nat → Nat} {S : Nat → Nat → Int32} {f : Nat → Int32} (hS : MdAt G M a ad S) (e : M1 = mp_up M (ad 3) ((9, 4, 0), .inl (G.2.1 0, 48, .inl f))) : MdAt G M1 a ad (sF S 3 f) ∧ KeepG 9 M M1 := by
  obtain ⟨ha, h0, h1, h2, h3, h4, h5, h8, h9, h10, h11⟩ := hS
  exact ⟨⟨mp_keep e ha h3 (by decide), mp_keep e h0 h3 (by decide), mp_keep e h1 h3 (by decide), mp_keep e h2 h3 (by decide), mp_got e, mp_keep e h4 h3 (by decide), mp_keep e h5 h3 (by decide), mp_keep e h8 h3 (by decide), mp_keep e h9 h3 (by decide), mp_keep e h10 h3 (by decide), mp_keep e h11 h3 (by decide)⟩, kg_up e h3⟩
theorem md_f4 {G : mp_G} {M M1 : mp_M} {a : Nat} {ad : Nat → Nat} {S : Nat → Nat → Int32} {f : Nat → Int32} (hS : MdAt G M a ad S) (e : M1 = mp_up M (ad 4) ((9, 5, 0), .inl (G.2.1 0, 3, .inl f))) : MdAt G M1 a ad (sF S 4 f) ∧ KeepG 9 M M1 := by
  obtain ⟨ha, h0, h1, h2, h3, h4, h5, h8, h9, h10, h11⟩ := hS
  exact ⟨⟨mp_keep e ha h4 (by decide), mp_keep e h0 h4 (by decide), mp_keep e h1 h4 (by decide), mp_keep e h2 h4 (by decide), mp_keep e h3 h4 (by decide), mp_got e, mp_keep e h5 h4 (by decide), mp_keep e h8 h4 (by decide), mp_keep e h9 h4 (by decide), mp_keep e h10 h4 (by decide), mp_keep e h11 h4 (by decide)⟩, kg_up e h4⟩
theorem md_f5 {G : mp_G} {M M1 : mp_M} {a : Nat} {ad : Nat → Nat} {S : Nat → Nat → Int32} {f : Nat → Int32} (hS : MdAt G M a ad S) (e : M1 = mp_up M (ad 5) ((9, 6, 0), .inl (G.2.1 0, 16, .inl f))) : MdAt G M1 a ad (sF S 5 f) ∧ KeepG 9 M M1 := by
  obtain ⟨ha, h0, h1, h2, h3, h4, h5, h8, h9, h10, h11⟩ := hS
  exact ⟨⟨mp_keep e ha h5 (by decide), mp_keep e h0 h5 (by decide), mp_keep e h1 h5 (by decide), mp_keep e h2 h5 (by decide), mp_keep e h3 h5 (by decide), mp_keep e h4 h5 (by decide), mp_got e, mp_keep e h8 h5 (by decide), mp_keep e h9 h5 (by decide), mp_keep e h10 h5 (by decide), mp_keep e h11 h5 (by decide)⟩, kg_up e h5⟩
theorem md_f8 {G : mp_G} {M M1 : mp_M} {a : Nat} {ad : Nat → Nat} {S : Nat → Nat → Int32} {f : Nat → Int32} (hS : MdAt G M a ad S) (e : M1 = mp_up M (ad 8) ((9, 9, 0), .inl (G.2.1 1, 16, .inl f))) : MdAt G M1 a ad (sF S 8 f) ∧ KeepG 9 M M1 := by
  obtain ⟨ha, h0, h1, h2, h3, h4, h5, h8, h9, h10, h11⟩ := hS
  exact ⟨⟨mp_keep e ha h8 (by decide), mp_keep e h0 h8 (by decide), mp_keep e h1 h8 (by decide), mp_keep e h2 h8 (by decide), mp_keep e h3 h8 (by decide), mp_keep e h4 h8 (by decide), mp_keep e h5 h8 (by decide), mp_got e, mp_keep e h9 h8 (by decide), mp_keep e h10 h8 (by decide), mp_keep e h11 h8 (by decide)⟩, kg_up e h8⟩
theorem md_f9 {G : mp_G} {M M1 : mp_M} {a : Nat} {ad : Nat → Nat} {S : Nat → Nat → Int32} {f : Nat → Int32} (hS : MdAt G M a ad S) (e : M1 = mp_up M (ad 9) ((9, 10, 0), .inl (G.2.1 0, 16, .inl f))) : MdAt G M1 a ad (sF S 9 f) ∧ KeepG 9 M M1 := by
  obtain ⟨ha, h0, h1, h2, h3, h4, h5, h8, h9, h10, h11⟩ := hS
  exact ⟨⟨mp_keep e ha h9 (by decide), mp_keep e h0 h9 (by decide), mp_keep e h1 h9 (by decide), mp_keep e h2 h9 (by decide), mp_keep e h3 h9 (by decide), mp_keep e h4 h9 (by decide), mp_keep e h5 h9 (by decide), mp_keep e h8 h9 (by decide), mp_got e, mp_keep e h10 h9 (by decide), mp_keep e h11 h9 (by decide)⟩, kg_up e h9⟩
theorem md_f10 {G : mp_G} {M M1 : mp_M} {a : Nat} {ad : Nat → Nat} {S : Nat → Nat → Int32} {f : Nat → Int32} (hS : MdAt G M a ad S) (e : M1 = mp_up M (ad 10) ((9, 11, 0), .inl (G.2.1 0, 16, .inl f))) : MdAt G M1 a ad (sF S 10 f) ∧ KeepG 9 M M1 := by
  obtain ⟨ha, h0, h1, h2, h3, h4, h5, h8, h9, h10, h11⟩ := hS
  exact ⟨⟨mp_keep e ha h10 (by decide), mp_keep e h0 h10 (by decide), mp_keep e h1 h10 (by decide), mp_keep e h2 h10 (by decide), mp_keep e h3 h10 (by decide), mp_keep e h4 h10 (by decide), mp_keep e h5 h10 (by decide), mp_keep e h8 h10 (by decide), mp_keep e h9 h10 (by decide), mp_got e, mp_keep e h11 h10 (by decide)⟩, kg_up e h10⟩
theorem md_f11 {G : mp_G} {M M1 : mp_M} {a : Nat} {ad : Nat → Nat} {S : Nat → Nat → Int32} {f : Nat → Int32} (hS : MdAt G M a ad S) (e : M1 = mp_up M (ad 11) ((9, 12, 0), .inl (G.2.1 0, 24, .inl f))) : MdAt G M1 a ad (sF S 11 f) ∧ KeepG 9 M M1 := by
  obtain ⟨ha, h0, h1, h2, h3, h4, h5, h8, h9, h10, h11⟩ := hS
  exact ⟨⟨mp_keep e ha h11 (by decide), mp_keep e h0 h11 (by decide), mp_keep e h1 h11 (by decide), mp_keep e h2 h11 (by decide), mp_keep e h3 h11 (by decide), mp_keep e h4 h11 (by decide), mp_keep e h5 h11 (by decide), mp_keep e h8 h11 (by decide), mp_keep e h9 h11 (by decide), mp_keep e h10 h11 (by decide), mp_got e⟩, kg_up e h11⟩
theorem md_f6 {G : mp_G} {M M1 : mp_M} {a : Nat} {ad : Nat → Nat} {S : Nat → Nat → Int32} {v y : Int32} (hS : MdAt G M a ad S) (hy : S 7 0 = y) (e : M1 = mp_up M a ((9, 0, 0), .inr (3, [.ref (ad 0), .ref (ad 1), .ref (ad 2), .ref (ad 3), .ref (ad 4), .ref (ad 5), .int v, .int y, .ref (ad 8), .ref (ad 9), .ref (ad 10), .ref (ad 11)]))) : MdAt G M1 a ad (sF S 6 (fun _ => v)) ∧ KeepG 9 M M1 := by
  obtain ⟨ha, h0, h1, h2, h3, h4, h5, h8, h9, h10, h11⟩ := hS
  subst hy
  exact ⟨⟨mp_got e, mp_keep e h0 ha (by decide), mp_keep e h1 ha (by decide), mp_keep e h2 ha (by decide), mp_keep e h3 ha (by decide), mp_keep e h4 ha (by decide), mp_keep e h5 ha (by decide), mp_keep e h8 ha (by decide), mp_keep e h9 ha (by decide), mp_keep e h10 ha (by decide), mp_keep e h11 ha (by decide)⟩, kg_up e ha⟩
theorem md_f7 {G : mp_G} {M M1 : mp_M} {a : Nat} {ad : Nat → Nat} {S : Nat → Nat → Int32} {v : Int32} (hS : MdAt G M a ad S) (e : M1 = mp_up M a ((9, 0, 0), .inr (3, [.ref (ad 0), .ref (ad 1), .ref (ad 2), .ref (ad 3), .ref (ad 4), .ref (ad 5), .int (S 6 0), .int v, .ref (ad 8), .ref (ad 9), .ref (ad 10), .ref (ad 11)]))) : MdAt G M1 a ad (sF S 7 (fun _ => v)) ∧ KeepG 9 M M1 := by
  obtain ⟨ha, h0, h1, h2, h3, h4, h5, h8, h9, h10, h11⟩ := hS
  exact ⟨⟨mp_got e, mp_keep e h0 ha (by decide), mp_keep e h1 ha (by decide), mp_keep e h2 ha (by decide), mp_keep e h3 ha (by decide), mp_keep e h4 ha (by decide), mp_keep e h5 ha (by decide), mp_keep e h8 ha (by decide), mp_keep e h9 ha (by decide), mp_keep e h10 ha (by decide), mp_keep e h11 ha (by decide)⟩, kg_up e ha⟩
def wst (po : Nat → Nat → Nat) (j k : Nat) (P : Nat → Int32) : Nat → Int32 := if hasP po j (nI (po k 0)) = true then upd P j (P j ||| ((1 : Int32) <<< (nI k &&& 31) ||| P k)) else P
def widF (n : Nat) (po : Nat → Nat → Nat) (j : Nat) (P : Nat → Int32) : Nat → Int32 := iterI (wst po j) P n
theorem ct_X3_widen (l : Launch) (G : mp_G) (b : Nat) (M : mp_M) (a : Nat) (ad : Nat → Nat) (S : Nat → Nat → Int32) (r n : Nat) (po : Nat → Nat → Nat) (ap : Nat → Bool) (hS : MdAt G M a ad S) (hme : S 7 0 = nI r) (hV : Vw S r n po ap) (j : Nat) (hj : j < n) : Ct l yX3_widen cX3_widen 4 (none) 2 0 0 G b ([.ref a, .int (nI j)] : List Value) M (pV (fun M1 => ∃ S1, MdAt G M1 a ad S1 ∧ Ag [9] S S1 ∧ S1 9 = widF n po j (S 9) ∧ KeepG 9 M M1)) := by
  have hr := hV.1
  have hn := hV.2.1
  refine Ct.ofV (by decide) (vc_ref (vc_int vc_nil)) (Nat.le_of_ble_eq_true rfl) ?_
  intro p e s m below meth c C hnm
  refine V_L (L1 := [some (.ref a), some (.int (nI j)), none, none]) rfl ?_
  refine V_iconst C 0 dX3_widen_0 (by decide) ?_
  refine V_istore_n (L' := [some (.ref a), some (.int (nI j)), some (.int 0), none]) C dX3_widen_1 rfl (by decide) rfl ?_
  have loop : ∀ k, k ≤ n → ∀ M1 S1, MdAt G M1 a ad S1 → Ag [9] S S1 → S1 9 = iterI (wst po j) (S 9) k → KeepG 9 M M1 → V p l e (rmOf 2 0 0) s m ([.ref a, .int (nI j)] : List Value).toArray below meth c (MQ below (Qp G b (pV (fun M1 => ∃ S1, MdAt G M1 a ad S1 ∧ Ag [9] S S1 ∧ S1 9 = widF n po j (S 9) ∧ KeepG 9 M M1))) ([.ref a, .int (nI j)] : List Value).toArray s 0 0 (fun q => b ≤ q)) G b 4 0 0 2 [some (.ref a), some (.int (nI j)), some (.int (nI k)), none] [] M1 := by
    refine up_ind n ?_
    intro k hk ih M1 S1 hS1 hA1 h91 hK1
    have hme1 : S1 7 0 = nI r := by rw [hA1 7 (by decide)]; exact hme
    have hV1 := hV.ag (hA1 0 (by decide)) (hA1 1 (by decide)) (hA1 2 (by decide))
    obtain ⟨hmua, hmu0, hmu1, hmu2, hmu3, hmu4, hmu5, hmu8, hmu9, hmu10, hmu11⟩ := id hS1
    rw [hme1] at hmua
    refine V_iload_n C dX3_widen_2 rfl rfl ?_
    refine V_aload_n C dX3_widen_3 rfl rfl ?_
    refine V_get (C0 := RX3) (T := TX3) (N := 12) (ci := 3) C 1 in_X3 rfl hmua (by decide) q822 (fun _ h9 => h9) rfl dX3_widen_4 ?_
    refine V_aload_n C dX3_widen_7 rfl rfl ?_
    refine V_get (C0 := RX3) (T := TX3) (N := 12) (ci := 3) C 7 in_X3 rfl hmua (by decide) q828 (fun _ h9 => h9) rfl dX3_widen_8 ?_
    refine V_iald C hmu1 (pk_in r 3 (by omega)) dX3_widen_11 ?_
    refine V_top (y := (nI n)) (by rw [nI_clamp (n := r) (by omega)]; exact hV1.2.2.1) ?_
    refine V_nicmp_ge (x := k) (y := n) C 56 dX3_widen_12 (by decide) (by omega) (by omega) (fun q12 => ?_) (fun q12 => ?_)
    · exact V_vret C dX3_widen_56 (by decide) (by decide) ⟨rfl, S1, hS1, hA1, by rw [h91, show k = n by omega]; rfl, hK1⟩
    · refine V_aload_n C dX3_widen_15 rfl rfl ?_
      refine V_iload_n C dX3_widen_16 rfl rfl ?_
      refine V_iconst C 0 dX3_widen_17 (by decide) ?_
      refine V_ofIe (VR_V (As := [.int (nI k), .int 0]) (rest := []) C (ct_X3_part l G b M1 a ad S1 r n po ap hS1 hme1 hV1 k 0 (by omega) (by omega)) hmua rfl (lw_V q875 q877 qs11 q46 q878) rfl nd_X3_part rfl (by decide) (by decide) dX3_widen_18 rfl ⟨by decide, by decide⟩ (Nat.le_of_ble_eq_true rfl)) ?_
      have hp18 := hV1.2.2.2.2.2.1 k 0
      refine V_istore_n (L' := [some (.ref a), some (.int (nI j)), some (.int (nI k)), some (.int (nI (po k 0)))]) C dX3_widen_21 rfl (by decide) rfl ?_
      refine V_aload_n C dX3_widen_22 rfl rfl ?_
      refine V_iload_n C dX3_widen_23 rfl rfl ?_
      refine V_iload_n C dX3_widen_24 rfl rfl ?_
      refine V_ofIe (VR_V (As := [.int (nI j), .int (nI (po k 0))]) (rest := []) C (ct_X3_has l G b M1 a ad S1 r n po ap hS1 hme1 hV1 j (nI (po k 0)) (by omega)) hmua rfl (lw_V q891 q893 qs15 q46 q894) rfl nd_X3_has rfl (by decide) (by decide) dX3_widen_25 rfl ⟨by decide, by decide⟩ (Nat.le_of_ble_eq_true rfl)) ?_
      refine V_ifb_eq C 50 dX3_widen_28 (by decide) (fun q28 => ?_) (fun q28 => ?_)
      · obtain ⟨M2, S2, hS2, hA2, h92, hK2, eM⟩ : ∃ M2 S2, MdAt G M2 a ad S2 ∧ Ag [9] S S2 ∧ S2 9 = iterI (wst po j) (S 9) (k + 1) ∧ KeepG 9 M M2 ∧ M2 = M1 := by first | exact ⟨M1, S1, hS1, hA1, by rw [iterI_s, ← h91]; unfold wst; rw [q28]; rfl, hK1, rfl⟩ | exact ⟨_, _, (md_f9 hS1 eM__1).1, hA1.tr (Ag.f (by decide)), by rw [sF_eq, iterI_s, ← h91]; unfold wst; rw [q28]; rfl, hK1.tr (md_f9 hS1 eM__1).2, rfl⟩
        rw [← eM]
        refine V_iinc (v := (nI (k + 1))) (L' := [some (.ref a), some (.int (nI j)), some (.int (nI (k + 1))), some (.int (nI (po k 0)))]) C dX3_widen_50 rfl (nI_1 _) (by decide) rfl ?_
        refine V_goto C 2 dX3_widen_53 (by decide) ?_
        refine V_sub ?_ (ih (by omega) M2 S2 hS2 hA2 h92 hK2)
        repeat' (first | exact ls_e | refine ls_n ?_ | refine ls_s ?_ | refine ls_i ?_ ?_ | refine ls_v ?_ ?_)
      · refine V_aload_n C dX3_widen_31 rfl rfl ?_
        refine V_get (C0 := RX3) (T := TX3) (N := 12) (ci := 3) C 9 in_X3 rfl hmua (by decide) q830 (fun _ h9 => h9) rfl dX3_widen_32 ?_
        refine V_iload_n C dX3_widen_35 rfl rfl ?_
        refine V_dup2 C dX3_widen_36 rfl rfl ?_
        refine V_iald C hmu9 (pk_in j 16 (by omega)) dX3_widen_37 ?_
        refine V_top (y := (S1 9 j)) (by rw [nI_clamp (n := j) (by omega)]) ?_
        refine V_iconst C 1 dX3_widen_38 (by decide) ?_
        refine V_iload_n C dX3_widen_39 rfl rfl ?_
        refine V_ishl C dX3_widen_40 ?_
        refine V_aload_n C dX3_widen_41 rfl rfl ?_
        refine V_get (C0 := RX3) (T := TX3) (N := 12) (ci := 3) C 9 in_X3 rfl hmua (by decide) q830 (fun _ h9 => h9) rfl dX3_widen_42 ?_
        refine V_iload_n C dX3_widen_45 rfl rfl ?_
        refine V_iald C hmu9 (pk_in k 16 (by omega)) dX3_widen_46 ?_
        refine V_top (y := (S1 9 k)) (by rw [nI_clamp (n := k) (by omega)]) ?_
        refine V_ior C dX3_widen_47 ?_
        refine V_ior C dX3_widen_48 ?_
        refine V_M (V_iast C hmu9 (pk_in j 16 (by omega)) dX3_widen_49) (fun M__1 eM__1 => ?_)
        rw [nI_clamp (n := j) (by omega)] at eM__1
        have h__2 := mp_got eM__1
        have h__3 := mp_keep eM__1 hmua hmu9 (by first | assumption | exact Ne.symm (by assumption) | simp | (intro h; simp at h; omega))
        have h__4 := mp_keep eM__1 hmu0 hmu9 (by first | assumption | exact Ne.symm (by assumption) | simp | (intro h; simp at h; omega))
        have h__5 := mp_keep eM__1 hmu1 hmu9 (by first | assumption | exact Ne.symm (by assumption) | simp | (intro h; simp at h; omega))
        have h__6 := mp_keep eM__1 hmu2 hmu9 (by first | assumption | exact Ne.symm (by assumption) | simp | (intro h; simp at h; omega))
        have h__7 := mp_keep eM__1 hmu3 hmu9 (by first | assumption | exact Ne.symm (by assumption) | simp | (intro h; simp at h; omega))
        have h__8 := mp_keep eM__1 hmu4 hmu9 (by first | assumption | exact Ne.symm (by assumption) | simp | (intro h; simp at h; omega))
        have h__9 := mp_keep eM__1 hmu5 hmu9 (by first | assumption | exact Ne.symm (by assumption) | simp | (intro h; simp at h; omega))
        have h__10 := mp_keep eM__1 hmu8 hmu9 (by first | assumption | exact Ne.symm (by assumption) | simp | (intro h; simp at h; omega))
        have h__11 := mp_keep eM__1 hmu10 hmu9 (by first | assumption | exact Ne.symm (by assumption) | simp | (intro h; simp at h; omega))
        have h__12 := mp_keep eM__1 hmu11 hmu9 (by first | assumption | exact Ne.symm (by assumption) | simp | (intro h; simp at h; omega))
        obtain ⟨M2, S2, hS2, hA2, h92, hK2, eM⟩ : ∃ M2 S2, MdAt G M2 a ad S2 ∧ Ag [9] S S2 ∧ S2 9 = iterI (wst po j) (S 9) (k + 1) ∧ KeepG 9 M M2 ∧ M2 = M__1 := by first | exact ⟨M1, S1, hS1, hA1, by rw [iterI_s, ← h91]; unfold wst; rw [q28]; rfl, hK1, rfl⟩ | exact ⟨_, _, (md_f9 hS1 eM__1).1, hA1.tr (Ag.f (by decide)), by rw [sF_eq, iterI_s, ← h91]; unfold wst; rw [q28]; rfl, hK1.tr (md_f9 hS1 eM__1).2, rfl⟩
        rw [← eM]
        refine V_iinc (v := (nI (k + 1))) (L' := [some (.ref a), some (.int (nI j)), some (.int (nI (k + 1))), some (.int (nI (po k 0)))]) C dX3_widen_50 rfl (nI_1 _) (by decide) rfl ?_
        refine V_goto C 2 dX3_widen_53 (by decide) ?_
        refine V_sub ?_ (ih (by omega) M2 S2 hS2 hA2 h92 hK2)
        repeat' (first | exact ls_e | refine ls_n ?_ | refine ls_s ?_ | refine ls_i ?_ ?_ | refine ls_v ?_ ?_)
  refine V_sub ?_ (loop 0 (Nat.zero_le _) M S hS Ag.rf rfl Keep.rf)
  repeat' (first | exact ls_e | refine ls_n ?_ | refine ls_s ?_ | refine ls_i ?_ ?_ | refine ls_v ?_ ?_)

theorem wst_congr {po : Nat → Nat → Nat} {j k : Nat} {P P2 : Nat → Int32} (hj : j < 16) (hk : k < 16) (h : ∀ i, i < 16 → P i = P2 i) : ∀ i, i < 16 → wst po j k P i = wst po j k P2 i := by
  intro i hi
  unfold wst
  split
  · unfold upd
    split
    · rw [h j hj, h k hk]
    · exact h i hi
  · exact h i hi
theorem widF_congr {n : Nat} {po : Nat → Nat → Nat} {j : Nat} {P P2 : Nat → Int32} (hj : j < 16) (hn : n ≤ 16) (h : ∀ i, i < 16 → P i = P2 i) : ∀ i, i < 16 → widF n po j P i = widF n po j P2 i := by
  unfold widF
  have : ∀ k, k ≤ n → ∀ i, i < 16 → iterI (wst po j) P k i = iterI (wst po j) P2 k i := by
    intro k
    induction k with
    | zero => intro _; exact h
    | succ k ih => intro hk; rw [iterI_s, iterI_s]; exact wst_congr hj (by omega) (ih (by omega))
  exact this n (Nat.le_refl _)
abbrev ms_ : Type := (Nat → Bool) × (Nat → Int32)
def stJ (n : Nat) (po : Nat → Nat → Nat) (ap : Nat → Bool) (j : Nat) (x : ms_) : ms_ := if ap j = true then (fun i => if i = j then mfits n po ap x.1 (nI (po j 1)) (nI (po j 2)) (nI (po j 3)) else x.1 i, widF n po j x.2) else x
def stR (n : Nat) (po : Nat → Nat → Nat) (ap : Nat → Bool) (x : ms_) : ms_ := iterI (stJ n po ap) x n
def stA (n : Nat) (po : Nat → Nat → Nat) (ap : Nat → Bool) : ms_ := iterI (fun _ => stR n po ap) (fun _ => false, fun _ => 0) 17
theorem ct_X3_study (l : Launch) (G : mp_G) (b : Nat) (M : mp_M) (a : Nat) (ad : Nat → Nat) (S : Nat → Nat → Int32) (r n : Nat) (po : Nat → Nat → Nat) (ap : Nat → Bool) (hS : MdAt G M a ad S) (hV : Vw S r n po ap) : Ct l yX3_study cX3_study 4 (none) 3 0 0 G b ([.ref a, .int (nI r)] : List Value) M (pV (fun M1 => ∃ S1, MdAt G M1 a ad S1 ∧ Ag [7, 8, 9] S S1 ∧ S1 7 0 = nI r ∧ FitV S1 (stA n po ap).1 ∧ PstV S1 (stA n po ap).2 ∧ KeepG 9 M M1)) := by
  have hr := hV.1
  have hn := hV.2.1
  refine Ct.ofV (by decide) (vc_ref (vc_int vc_nil)) (Nat.le_of_ble_eq_true rfl) ?_
  intro p e s m below meth c C hnm
  refine V_L (L1 := [some (.ref a), some (.int (nI r)), none, none]) rfl ?_
  obtain ⟨hma, hm0, hm1, hm2, hm3, hm4, hm5, hm8, hm9, hm10, hm11⟩ := id hS
  refine V_aload_n C dX3_study_0 rfl rfl ?_
  refine V_iload_n C dX3_study_1 rfl rfl ?_
  refine V_M (V_put (host := "") (C0 := RX3) (T := TX3) (N := 12) (ci := 3) (fs' := [.ref (ad 0), .ref (ad 1), .ref (ad 2), .ref (ad 3), .ref (ad 4), .ref (ad 5), .int (S 6 0), .int (nI r), .ref (ad 8), .ref (ad 9), .ref (ad 10), .ref (ad 11)]) C 7 in_X3 tyX3 tyX3_ok nmX3 rfl hma (by decide) q828 (fun _ h9 => h9) rfl rfl rfl rfl (Nat.le_of_ble_eq_true rfl) rfl dX3_study_2) (fun M1 e1 => ?_)
  have h__1 := mp_got e1
  have h__2 := mp_keep e1 hm0 hma (by first | assumption | exact Ne.symm (by assumption) | simp | (intro h; simp at h; omega))
  have h__3 := mp_keep e1 hm1 hma (by first | assumption | exact Ne.symm (by assumption) | simp | (intro h; simp at h; omega))
  have h__4 := mp_keep e1 hm2 hma (by first | assumption | exact Ne.symm (by assumption) | simp | (intro h; simp at h; omega))
  have h__5 := mp_keep e1 hm3 hma (by first | assumption | exact Ne.symm (by assumption) | simp | (intro h; simp at h; omega))
  have h__6 := mp_keep e1 hm4 hma (by first | assumption | exact Ne.symm (by assumption) | simp | (intro h; simp at h; omega))
  have h__7 := mp_keep e1 hm5 hma (by first | assumption | exact Ne.symm (by assumption) | simp | (intro h; simp at h; omega))
  have h__8 := mp_keep e1 hm8 hma (by first | assumption | exact Ne.symm (by assumption) | simp | (intro h; simp at h; omega))
  have h__9 := mp_keep e1 hm9 hma (by first | assumption | exact Ne.symm (by assumption) | simp | (intro h; simp at h; omega))
  have h__10 := mp_keep e1 hm10 hma (by first | assumption | exact Ne.symm (by assumption) | simp | (intro h; simp at h; omega))
  have h__11 := mp_keep e1 hm11 hma (by first | assumption | exact Ne.symm (by assumption) | simp | (intro h; simp at h; omega))
  obtain ⟨hS1, hK1⟩ := md_f7 hS e1
  refine V_iconst C 0 dX3_study_5 (by decide) ?_
  refine V_istore_n (L' := [some (.ref a), some (.int (nI r)), some (.int 0), none]) C dX3_study_6 rfl (by decide) rfl ?_
  have rounds : ∀ rd, rd ≤ 17 → ∀ M2 S2, MdAt G M2 a ad S2 → Ag [7, 8, 9] S S2 → S2 7 0 = nI r → FitV S2 (iterI (fun _ => stR n po ap) (fun _ => false, fun _ => 0) rd).1 → PstV S2 (iterI (fun _ => stR n po ap) (fun _ => false, fun _ => 0) rd).2 → KeepG 9 M M2 → V p l e (rmOf 3 0 0) s m ([.ref a, .int (nI r)] : List Value).toArray below meth c (MQ below (Qp G b (pV (fun M1 => ∃ S1, MdAt G M1 a ad S1 ∧ Ag [7, 8, 9] S S1 ∧ S1 7 0 = nI r ∧ FitV S1 (stA n po ap).1 ∧ PstV S1 (stA n po ap).2 ∧ KeepG 9 M M1))) ([.ref a, .int (nI r)] : List Value).toArray s 0 0 (fun q => b ≤ q)) G b 4 0 0 35 [some (.ref a), some (.int (nI r)), some (.int (nI rd)), none] [] M2 := by
    refine up_ind 17 ?_
    intro rd hrd ihr M2 S2 hS2 hA2 hme2 hF2 hP2 hK2
    generalize hx0 : iterI (fun _ => stR n po ap) (fun _ => false, fun _ => 0) rd = x0 at ihr hF2 hP2
    have inner : rd < 17 → ∀ j, j ≤ n → ∀ M3 S3, MdAt G M3 a ad S3 → Ag [7, 8, 9] S S3 → S3 7 0 = nI r → FitV S3 (iterI (stJ n po ap) x0 j).1 → PstV S3 (iterI (stJ n po ap) x0 j).2 → KeepG 9 M M3 → V p l e (rmOf 3 0 0) s m ([.ref a, .int (nI r)] : List Value).toArray below meth c (MQ below (Qp G b (pV (fun M1 => ∃ S1, MdAt G M1 a ad S1 ∧ Ag [7, 8, 9] S S1 ∧ S1 7 0 = nI r ∧ FitV S1 (stA n po ap).1 ∧ PstV S1 (stA n po ap).2 ∧ KeepG 9 M M1))) ([.ref a, .int (nI r)] : List Value).toArray s 0 0 (fun q => b ≤ q)) G b 4 0 0 43 [some (.ref a), some (.int (nI r)), some (.int (nI rd)), some (.int (nI j))] [] M3 := by
      intro hrd2
      refine up_ind n ?_
      intro j hj ihj M3 S3 hS3 hA3 hme3 hF3 hP3 hK3
      generalize hx1 : iterI (stJ n po ap) x0 j = x1 at ihj hF3 hP3
      have hV3 := hV.ag (hA3 0 (by decide)) (hA3 1 (by decide)) (hA3 2 (by decide))
      obtain ⟨hmwa, hmw0, hmw1, hmw2, hmw3, hmw4, hmw5, hmw8, hmw9, hmw10, hmw11⟩ := id hS3
      rw [hme3] at hmwa
      have mid : ∀ {M4 : mp_M}, ap j = true → MdAt G M4 a ad (sF S3 8 (upd (S3 8) j (bI (mfits n po ap x1.1 (nI (po j 1)) (nI (po j 2)) (nI (po j 3)))))) → KeepG 9 M3 M4 → j < n → V p l e (rmOf 3 0 0) s m ([.ref a, .int (nI r)] : List Value).toArray below meth c (MQ below (Qp G b (pV (fun M1 => ∃ S1, MdAt G M1 a ad S1 ∧ Ag [7, 8, 9] S S1 ∧ S1 7 0 = nI r ∧ FitV S1 (stA n po ap).1 ∧ PstV S1 (stA n po ap).2 ∧ KeepG 9 M M1))) ([.ref a, .int (nI r)] : List Value).toArray s 0 0 (fun q => b ≤ q)) G b 4 0 0 92 [some (.ref a), some (.int (nI r)), some (.int (nI rd)), some (.int (nI j))] [] M4 := by
        intro M4 hap hS4 hK4 hjn
        have hA4 : Ag [7, 8, 9] S (sF S3 8 (upd (S3 8) j (bI (mfits n po ap x1.1 (nI (po j 1)) (nI (po j 2)) (nI (po j 3)))))) := hA3.tr (Ag.f (by decide))
        have hV4 := hV.ag (hA4 0 (by decide)) (hA4 1 (by decide)) (hA4 2 (by decide))
        have hme4 : (sF S3 8 (upd (S3 8) j (bI (mfits n po ap x1.1 (nI (po j 1)) (nI (po j 2)) (nI (po j 3)))))) 7 0 = nI r := by rw [sF_ne (by decide)]; exact hme3
        obtain ⟨hm4a, -⟩ := id hS4
        refine V_aload_n C dX3_study_92 rfl rfl ?_
        refine V_iload_n C dX3_study_93 rfl rfl ?_
        refine V_ofV (VR_V (As := [.int (nI j)]) (rest := []) C (ct_X3_widen l G b M4 a ad _ r n po ap hS4 hme4 hV4 j hjn) hm4a rfl (lw_V q887 q889 qs14 q46 q890) rfl nd_X3_widen rfl (by decide) (by decide) dX3_study_94 rfl ⟨by decide, by decide⟩ (Nat.le_of_ble_eq_true rfl)) (fun M5 hM5 => ?_)
        obtain ⟨S5, hS5, hA5, h95, hK5⟩ := hM5
        refine V_iinc (v := (nI (j + 1))) (L' := [some (.ref a), some (.int (nI r)), some (.int (nI rd)), some (.int (nI (j + 1)))]) C dX3_study_97 rfl (nI_1 _) (by decide) rfl ?_
        refine V_goto C 43 dX3_study_100 (by decide) ?_
        refine V_sub ?_ (ihj hjn M5 S5 hS5 (hA4.tr (hA5.mono (by decide))) ?_ ?_ ?_ (hK3.tr (hK4.tr hK5)))
        · repeat' (first | exact ls_e | refine ls_n ?_ | refine ls_s ?_ | refine ls_i ?_ ?_ | refine ls_v ?_ ?_)
        · rw [hA5 7 (by decide)]; exact hme4
        · rw [iterI_s, hx1]
          unfold stJ
          rw [if_pos hap]
          intro i hi
          rw [hA5 8 (by decide), sF_eq]
          unfold upd
          split
          · rename_i z; simp [z]
          · rename_i z; simp [z]; exact hF3 i hi
        · rw [iterI_s, hx1]
          unfold stJ
          rw [if_pos hap]
          intro i hi
          rw [h95, sF_ne (by decide)]
          exact widF_congr (by omega) hn hP3 i hi
      refine V_iload_n C dX3_study_43 rfl rfl ?_
      refine V_aload_n C dX3_study_44 rfl rfl ?_
      refine V_get (C0 := RX3) (T := TX3) (N := 12) (ci := 3) C 1 in_X3 rfl hmwa (by decide) q822 (fun _ h9 => h9) rfl dX3_study_45 ?_
      refine V_aload_n C dX3_study_48 rfl rfl ?_
      refine V_get (C0 := RX3) (T := TX3) (N := 12) (ci := 3) C 7 in_X3 rfl hmwa (by decide) q828 (fun _ h9 => h9) rfl dX3_study_49 ?_
      refine V_iald C hmw1 (pk_in r 3 (by omega)) dX3_study_52 ?_
      refine V_top (y := (nI n)) (by rw [nI_clamp (n := r) (by omega)]; exact hV3.2.2.1) ?_
      refine V_nicmp_ge (x := j) (y := n) C 103 dX3_study_53 (by decide) (by omega) (by omega) (fun q53 => ?_) (fun q53 => ?_)
      · refine V_iinc (v := (nI (rd + 1))) (L' := [some (.ref a), some (.int (nI r)), some (.int (nI (rd + 1))), some (.int (nI j))]) C dX3_study_103 rfl (nI_1 _) (by decide) rfl ?_
        refine V_goto C 35 dX3_study_106 (by decide) ?_
        refine V_sub ?_ (ihr hrd2 M3 S3 hS3 hA3 hme3 (by rw [iterI_s, hx0]; unfold stR; rw [show j = n by omega] at hx1; rw [hx1]; exact hF3) (by rw [iterI_s, hx0]; unfold stR; rw [show j = n by omega] at hx1; rw [hx1]; exact hP3) hK3)
        repeat' (first | exact ls_e | refine ls_n ?_ | refine ls_s ?_ | refine ls_i ?_ ?_ | refine ls_v ?_ ?_)
      · refine V_aload_n C dX3_study_56 rfl rfl ?_
        refine V_iload_n C dX3_study_57 rfl rfl ?_
        refine V_ofIe (VR_V (As := [.int (nI j)]) (rest := []) C (ct_X3_done l G b M3 a ad S3 r n po ap hS3 hme3 hV3 j (by omega)) hmwa rfl (lw_V q871 q873 qs10 q46 q874) rfl nd_X3_done rfl (by decide) (by decide) dX3_study_58 rfl ⟨by decide, by decide⟩ (Nat.le_of_ble_eq_true rfl)) ?_
        refine V_ifb_eq C 97 dX3_study_61 (by decide) (fun q61 => ?_) (fun q61 => ?_)
        · refine V_iinc (v := (nI (j + 1))) (L' := [some (.ref a), some (.int (nI r)), some (.int (nI rd)), some (.int (nI (j + 1)))]) C dX3_study_97 rfl (nI_1 _) (by decide) rfl ?_
          refine V_goto C 43 dX3_study_100 (by decide) ?_
          refine V_sub ?_ (ihj (by omega) M3 S3 hS3 hA3 hme3 (by rw [iterI_s, hx1]; unfold stJ; rw [if_neg (by rw [q61]; decide)]; exact hF3) (by rw [iterI_s, hx1]; unfold stJ; rw [if_neg (by rw [q61]; decide)]; exact hP3) hK3)
          repeat' (first | exact ls_e | refine ls_n ?_ | refine ls_s ?_ | refine ls_i ?_ ?_ | refine ls_v ?_ ?_)
        · refine V_aload_n C dX3_study_64 rfl rfl ?_
          refine V_get (C0 := RX3) (T := TX3) (N := 12) (ci := 3) C 8 in_X3 rfl hmwa (by decide) q829 (fun _ h9 => h9) rfl dX3_study_65 ?_
          refine V_iload_n C dX3_study_68 rfl rfl ?_
          refine V_aload_n C dX3_study_69 rfl rfl ?_
          refine V_aload_n C dX3_study_70 rfl rfl ?_
          refine V_iload_n C dX3_study_71 rfl rfl ?_
          refine V_iconst C 1 dX3_study_72 (by decide) ?_
          refine V_ofIe (VR_V (As := [.int (nI j), .int 1]) (rest := [.ref a, .int (nI j), .ref (ad 8)]) C (ct_X3_part l G b M3 a ad S3 r n po ap hS3 hme3 hV3 j 1 (by omega) (by omega)) hmwa rfl (lw_V q875 q877 qs11 q46 q878) rfl nd_X3_part rfl (by decide) (by decide) dX3_study_73 rfl ⟨by decide, by decide⟩ (Nat.le_of_ble_eq_true rfl)) ?_
          have hp73 := hV3.2.2.2.2.2.1 j 1
          refine V_aload_n C dX3_study_76 rfl rfl ?_
          refine V_iload_n C dX3_study_77 rfl rfl ?_
          refine V_iconst C 2 dX3_study_78 (by decide) ?_
          refine V_ofIe (VR_V (As := [.int (nI j), .int 2]) (rest := [.int (nI (po j 1)), .ref a, .int (nI j), .ref (ad 8)]) C (ct_X3_part l G b M3 a ad S3 r n po ap hS3 hme3 hV3 j 2 (by omega) (by omega)) hmwa rfl (lw_V q875 q877 qs11 q46 q878) rfl nd_X3_part rfl (by decide) (by decide) dX3_study_79 rfl ⟨by decide, by decide⟩ (Nat.le_of_ble_eq_true rfl)) ?_
          have hp79 := hV3.2.2.2.2.2.1 j 2
          refine V_aload_n C dX3_study_82 rfl rfl ?_
          refine V_iload_n C dX3_study_83 rfl rfl ?_
          refine V_iconst C 3 dX3_study_84 (by decide) ?_
          refine V_ofIe (VR_V (As := [.int (nI j), .int 3]) (rest := [.int (nI (po j 2)), .int (nI (po j 1)), .ref a, .int (nI j), .ref (ad 8)]) C (ct_X3_part l G b M3 a ad S3 r n po ap hS3 hme3 hV3 j 3 (by omega) (by omega)) hmwa rfl (lw_V q875 q877 qs11 q46 q878) rfl nd_X3_part rfl (by decide) (by decide) dX3_study_85 rfl ⟨by decide, by decide⟩ (Nat.le_of_ble_eq_true rfl)) ?_
          have hp85 := hV3.2.2.2.2.2.1 j 3
          refine V_ofIe (VR_V (As := [.int (nI (po j 1)), .int (nI (po j 2)), .int (nI (po j 3))]) (rest := [.int (nI j), .ref (ad 8)]) C (ct_X3_fits l G b M3 a ad S3 r n po ap hS3 hme3 hV3 x1.1 hF3 (nI (po j 1)) (nI (po j 2)) (nI (po j 3))) hmwa rfl (lw_V q879 q881 qs12 q46 q882) rfl nd_X3_fits rfl (by decide) (by decide) dX3_study_88 rfl ⟨by decide, by decide⟩ (Nat.le_of_ble_eq_true rfl)) ?_
          refine V_M (V_zast C hmw8 (pk_in j 16 (by omega)) dX3_study_91) (fun M__12 eM__12 => ?_)
          rw [nI_clamp (n := j) (by omega), bI_vp] at eM__12
          have h__13 := mp_got eM__12
          have h__14 := mp_keep eM__12 hmwa hmw8 (by first | assumption | exact Ne.symm (by assumption) | simp | (intro h; simp at h; omega))
          have h__15 := mp_keep eM__12 hmw0 hmw8 (by first | assumption | exact Ne.symm (by assumption) | simp | (intro h; simp at h; omega))
          have h__16 := mp_keep eM__12 hmw1 hmw8 (by first | assumption | exact Ne.symm (by assumption) | simp | (intro h; simp at h; omega))
          have h__17 := mp_keep eM__12 hmw2 hmw8 (by first | assumption | exact Ne.symm (by assumption) | simp | (intro h; simp at h; omega))
          have h__18 := mp_keep eM__12 hmw3 hmw8 (by first | assumption | exact Ne.symm (by assumption) | simp | (intro h; simp at h; omega))
          have h__19 := mp_keep eM__12 hmw4 hmw8 (by first | assumption | exact Ne.symm (by assumption) | simp | (intro h; simp at h; omega))
          have h__20 := mp_keep eM__12 hmw5 hmw8 (by first | assumption | exact Ne.symm (by assumption) | simp | (intro h; simp at h; omega))
          have h__21 := mp_keep eM__12 hmw9 hmw8 (by first | assumption | exact Ne.symm (by assumption) | simp | (intro h; simp at h; omega))
          have h__22 := mp_keep eM__12 hmw10 hmw8 (by first | assumption | exact Ne.symm (by assumption) | simp | (intro h; simp at h; omega))
          have h__23 := mp_keep eM__12 hmw11 hmw8 (by first | assumption | exact Ne.symm (by assumption) | simp | (intro h; simp at h; omega))
          obtain ⟨hS4, hK4⟩ := md_f8 hS3 eM__12
          exact mid q61 hS4 hK4 (by omega)
    refine V_iload_n C dX3_study_35 rfl rfl ?_
    refine V_bipush C 17 dX3_study_36 (by decide) ?_
    refine V_nicmp_ge (x := rd) (y := 17) C 109 dX3_study_38 (by decide) (by omega) (by omega) (fun q38 => ?_) (fun q38 => ?_)
    · exact V_vret C dX3_study_109 (by decide) (by decide) ⟨rfl, S2, hS2, hA2, hme2, by unfold stA; rw [← show rd = 17 by omega, hx0]; exact hF2, by unfold stA; rw [← show rd = 17 by omega, hx0]; exact hP2, hK2⟩
    · refine V_iconst C 0 dX3_study_41 (by decide) ?_
      refine V_istore_n (L' := [some (.ref a), some (.int (nI r)), some (.int (nI rd)), some (.int 0)]) C dX3_study_42 rfl (by decide) rfl ?_
      refine V_sub ?_ (inner (by omega) 0 (Nat.zero_le _) M2 S2 hS2 hA2 hme2 hF2 hP2 hK2)
      repeat' (first | exact ls_e | refine ls_n ?_ | refine ls_s ?_ | refine ls_i ?_ ?_ | refine ls_v ?_ ?_)
  have zero : ∀ j, j ≤ 16 → ∀ M2 S2, MdAt G M2 a ad S2 → Ag [7, 8, 9] S S2 → S2 7 0 = nI r → (∀ i, i < j → S2 8 i = bI false) → (∀ i, i < j → S2 9 i = 0) → KeepG 9 M M2 → V p l e (rmOf 3 0 0) s m ([.ref a, .int (nI r)] : List Value).toArray below meth c (MQ below (Qp G b (pV (fun M1 => ∃ S1, MdAt G M1 a ad S1 ∧ Ag [7, 8, 9] S S1 ∧ S1 7 0 = nI r ∧ FitV S1 (stA n po ap).1 ∧ PstV S1 (stA n po ap).2 ∧ KeepG 9 M M1))) ([.ref a, .int (nI r)] : List Value).toArray s 0 0 (fun q => b ≤ q)) G b 4 0 0 7 [some (.ref a), some (.int (nI r)), some (.int (nI j)), none] [] M2 := by
    refine up_ind 16 ?_
    intro j hj ihj M2 S2 hS2 hA2 hme2 hF2 hP2 hK2
    obtain ⟨hmza, hmz0, hmz1, hmz2, hmz3, hmz4, hmz5, hmz8, hmz9, hmz10, hmz11⟩ := id hS2
    rw [hme2] at hmza
    have zmid : ∀ {M3 : mp_M}, MdAt G M3 a ad (sF S2 8 (upd (S2 8) j (bI false))) → KeepG 9 M2 M3 → j < 16 → V p l e (rmOf 3 0 0) s m ([.ref a, .int (nI r)] : List Value).toArray below meth c (MQ below (Qp G b (pV (fun M1 => ∃ S1, MdAt G M1 a ad S1 ∧ Ag [7, 8, 9] S S1 ∧ S1 7 0 = nI r ∧ FitV S1 (stA n po ap).1 ∧ PstV S1 (stA n po ap).2 ∧ KeepG 9 M M1))) ([.ref a, .int (nI r)] : List Value).toArray s 0 0 (fun q => b ≤ q)) G b 4 0 0 20 [some (.ref a), some (.int (nI r)), some (.int (nI j)), none] [] M3 := by
      intro M3 hS3 hK3 hj16
      have hme3 : (sF S2 8 (upd (S2 8) j (bI false))) 7 0 = nI r := by rw [sF_ne (by decide)]; exact hme2
      obtain ⟨hm3a, -, -, -, -, -, -, -, hm39, -⟩ := id hS3
      refine V_aload_n C dX3_study_20 rfl rfl ?_
      refine V_get (C0 := RX3) (T := TX3) (N := 12) (ci := 3) C 9 in_X3 rfl hm3a (by decide) q830 (fun _ h9 => h9) rfl dX3_study_21 ?_
      refine V_iload_n C dX3_study_24 rfl rfl ?_
      refine V_iconst C 0 dX3_study_25 (by decide) ?_
      refine V_M (V_iast C hm39 (pk_in j 16 hj16) dX3_study_26) (fun M4 e4 => ?_)
      rw [nI_clamp (by omega)] at e4
      obtain ⟨hS4, hK4⟩ := md_f9 hS3 e4
      refine V_iinc (v := (nI (j + 1))) (L' := [some (.ref a), some (.int (nI r)), some (.int (nI (j + 1))), none]) C dX3_study_27 rfl (nI_1 _) (by decide) rfl ?_
      refine V_goto C 7 dX3_study_30 (by decide) ?_
      refine V_sub ?_ (ihj hj16 M4 _ hS4 (hA2.tr ((Ag.f (by decide)).tr (Ag.f (by decide)))) ?_ ?_ ?_ (hK2.tr (hK3.tr hK4)))
      · repeat' (first | exact ls_e | refine ls_n ?_ | refine ls_s ?_ | refine ls_i ?_ ?_ | refine ls_v ?_ ?_)
      · rw [sF_ne (by decide)]; exact hme3
      · intro i hi
        rw [sF_ne (by decide), sF_eq]
        unfold upd
        split
        · rfl
        · exact hF2 i (by omega)
      · intro i hi
        rw [sF_eq, sF_ne (by decide)]
        unfold upd
        split
        · rfl
        · exact hP2 i (by omega)
    refine V_iload_n C dX3_study_7 rfl rfl ?_
    refine V_bipush C 16 dX3_study_8 (by decide) ?_
    refine V_nicmp_ge (x := j) (y := 16) C 33 dX3_study_10 (by decide) (by omega) (by omega) (fun q10 => ?_) (fun q10 => ?_)
    · refine V_iconst C 0 dX3_study_33 (by decide) ?_
      refine V_istore_n (L' := [some (.ref a), some (.int (nI r)), some (.int 0), none]) C dX3_study_34 rfl (by decide) rfl ?_
      refine V_sub ?_ (rounds 0 (by omega) M2 S2 hS2 hA2 hme2 (fun i hi => hF2 i (by omega)) (fun i hi => hP2 i (by omega)) hK2)
      repeat' (first | exact ls_e | refine ls_n ?_ | refine ls_s ?_ | refine ls_i ?_ ?_ | refine ls_v ?_ ?_)
      all_goals rfl
    · refine V_aload_n C dX3_study_13 rfl rfl ?_
      refine V_get (C0 := RX3) (T := TX3) (N := 12) (ci := 3) C 8 in_X3 rfl hmza (by decide) q829 (fun _ h9 => h9) rfl dX3_study_14 ?_
      refine V_iload_n C dX3_study_17 rfl rfl ?_
      refine V_iconst C 0 dX3_study_18 (by decide) ?_
      refine V_M (V_zast C hmz8 (pk_in j 16 (by omega)) dX3_study_19) (fun M__24 eM__24 => ?_)
      rw [nI_clamp (n := j) (by omega), show vp_nar .boolean (0 : Int32) = (bI false) from by decide] at eM__24
      have h__25 := mp_got eM__24
      have h__26 := mp_keep eM__24 hmza hmz8 (by first | assumption | exact Ne.symm (by assumption) | simp | (intro h; simp at h; omega))
      have h__27 := mp_keep eM__24 hmz0 hmz8 (by first | assumption | exact Ne.symm (by assumption) | simp | (intro h; simp at h; omega))
      have h__28 := mp_keep eM__24 hmz1 hmz8 (by first | assumption | exact Ne.symm (by assumption) | simp | (intro h; simp at h; omega))
      have h__29 := mp_keep eM__24 hmz2 hmz8 (by first | assumption | exact Ne.symm (by assumption) | simp | (intro h; simp at h; omega))
      have h__30 := mp_keep eM__24 hmz3 hmz8 (by first | assumption | exact Ne.symm (by assumption) | simp | (intro h; simp at h; omega))
      have h__31 := mp_keep eM__24 hmz4 hmz8 (by first | assumption | exact Ne.symm (by assumption) | simp | (intro h; simp at h; omega))
      have h__32 := mp_keep eM__24 hmz5 hmz8 (by first | assumption | exact Ne.symm (by assumption) | simp | (intro h; simp at h; omega))
      have h__33 := mp_keep eM__24 hmz9 hmz8 (by first | assumption | exact Ne.symm (by assumption) | simp | (intro h; simp at h; omega))
      have h__34 := mp_keep eM__24 hmz10 hmz8 (by first | assumption | exact Ne.symm (by assumption) | simp | (intro h; simp at h; omega))
      have h__35 := mp_keep eM__24 hmz11 hmz8 (by first | assumption | exact Ne.symm (by assumption) | simp | (intro h; simp at h; omega))
      obtain ⟨hS3, hK3⟩ := md_f8 hS2 eM__24
      exact zmid hS3 hK3 (by omega)
  refine V_sub ?_ (zero 0 (Nat.zero_le _) M1 _ hS1 (Ag.f (by decide)) (by rw [sF_eq]) (fun i hi => by omega) (fun i hi => by omega) hK1)
  repeat' (first | exact ls_e | refine ls_n ?_ | refine ls_s ?_ | refine ls_i ?_ ?_ | refine ls_v ?_ ?_)
  all_goals rfl


