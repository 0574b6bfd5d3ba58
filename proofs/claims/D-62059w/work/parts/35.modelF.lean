set_option maxRecDepth 100000
/-! THE MODEL, F: the wire -/
/-- the line: mw bytes, wl i -/
def LnV (S : Nat → Nat → Int32) (mw : Nat) (wl : Nat → Nat) : Prop := mw ≤ 16 ∧ S 6 0 = nI mw ∧ (∀ i, i < mw → S 5 i = nI (wl i)) ∧ ∀ i, wl i < 256
def saysK (wl : Nat → Nat) (x : Int32) (k : Nat) : Bool := decide (x = 0) || anyI (fun k => decide (nI (wl (6 + k)) = x)) k
def saysB (mw : Nat) (wl : Nat → Nat) (x : Int32) : Bool := saysK wl x (mw - 6)
theorem saysK_s (wl : Nat → Nat) (x : Int32) (k : Nat) : saysK wl x (k + 1) = (saysK wl x k || decide (nI (wl (6 + k)) = x)) := by
  unfold saysK
  rw [anyI_s, Bool.or_assoc]
theorem ct_X3_says (l : Launch) (G : mp_G) (b : Nat) (M : mp_M) (a : Nat) (ad : Nat → Nat) (S : Nat → Nat → Int32) (hS : MdAt G M a ad S) (mw : Nat) (wl : Nat → Nat) (hL : LnV S mw wl) (h6 : 6 ≤ mw) (x : Int32) : Ct l yX3_says cX3_says 4 (some .boolean) 0 0 0 G b ([.ref a, .int x] : List Value) M (pI (fun y M1 => y = bI (saysB mw wl x) ∧ M1 = M)) := by
  have hmw := hL.1
  refine Ct.ofV (by decide) (vc_ref (vc_int vc_nil)) (Nat.le_of_ble_eq_true rfl) ?_
  intro p e s m below meth c C hnm
  refine V_L (L1 := [some (.ref a), some (.int x), none, none]) rfl ?_
  obtain ⟨hma, hm0, hm1, hm2, hm3, hm4, hm5, hm8, hm9, hm10, hm11⟩ := id hS
  rw [hL.2.1] at hma
  have loop : ∀ k, k ≤ mw - 6 → V p l e (rmOf 0 0 0) s m ([.ref a, .int x] : List Value).toArray below meth c (MQ below (Qp G b (pI (fun y M1 => y = bI (saysB mw wl x) ∧ M1 = M))) ([.ref a, .int x] : List Value).toArray s 0 0 (fun q => b ≤ q)) G b 4 0 0 13 [some (.ref a), some (.int x), some (.int (bI (saysK wl x k))), some (.int (nI (6 + k)))] [] M := by
    refine up_ind (mw - 6) ?_
    intro k hk ih
    have hw := hL.2.2.2 (6 + k)
    refine V_iload_n C dX3_says_13 rfl rfl ?_
    refine V_aload_n C dX3_says_14 rfl rfl ?_
    refine V_get (C0 := RX3) (T := TX3) (N := 12) (ci := 3) C 6 in_X3 rfl hma (by decide) q827 (fun _ h9 => h9) rfl dX3_says_15 ?_
    refine V_nicmp_ge (x := 6 + k) (y := mw) C 47 dX3_says_18 (by decide) (by omega) (by omega) (fun q18 => ?_) (fun q18 => ?_)
    · refine V_iload_n C dX3_says_47 rfl rfl ?_
      exact V_zret C (bI_nar _) dX3_says_48 (by decide) (by decide) ⟨_, rfl, by rw [show k = mw - 6 by omega]; rfl, rfl⟩
    · refine V_iload_n C dX3_says_21 rfl rfl ?_
      refine V_ifb_ne C 35 dX3_says_22 (by decide) (fun q22 => ?_) (fun q22 => ?_)
      · refine V_iconst C 1 dX3_says_35 (by decide) ?_
        refine V_goto C 40 dX3_says_36 (by decide) ?_
        refine V_istore_n (L' := [some (.ref a), some (.int x), some (.int 1), some (.int (nI (6 + k)))]) C dX3_says_40 rfl (by decide) rfl ?_
        refine V_iinc (v := (nI ((6 + k) + 1))) (L' := [some (.ref a), some (.int x), some (.int 1), some (.int (nI ((6 + k) + 1)))]) C dX3_says_41 rfl (nI_1 _) (by decide) rfl ?_
        refine V_goto C 13 dX3_says_44 (by decide) ?_
        refine V_sub ?_ (ih (by omega))
        repeat' (first | exact ls_e | refine ls_n ?_ | refine ls_s ?_ | refine ls_i ?_ ?_ | refine ls_v ?_ ?_)
        rw [saysK_s]
        first | (rw [q22]; rfl) | (refine bt ?_; simp [*]; done) | (refine bf ?_; rw [q22]; simp [*]; done)
      · refine V_aload_n C dX3_says_25 rfl rfl ?_
        refine V_get (C0 := RX3) (T := TX3) (N := 12) (ci := 3) C 5 in_X3 rfl hma (by decide) q826 (fun _ h9 => h9) rfl dX3_says_26 ?_
        refine V_iload_n C dX3_says_29 rfl rfl ?_
        refine V_iald C hm5 (pk_in (6 + k) 16 (by omega)) dX3_says_30 ?_
        refine V_top (y := (nI (wl (6 + k)))) (by rw [nI_clamp (n := 6 + k) (by omega)]; exact (hL.2.2.1 (6 + k) (by omega))) ?_
        refine V_iload_n C dX3_says_31 rfl rfl ?_
        refine V_icmp_ne C 39 dX3_says_32 (by decide) (fun q32 => ?_) (fun q32 => ?_)
        · refine V_iconst C 0 dX3_says_39 (by decide) ?_
          refine V_istore_n (L' := [some (.ref a), some (.int x), some (.int 0), some (.int (nI (6 + k)))]) C dX3_says_40 rfl (by decide) rfl ?_
          refine V_iinc (v := (nI ((6 + k) + 1))) (L' := [some (.ref a), some (.int x), some (.int 0), some (.int (nI ((6 + k) + 1)))]) C dX3_says_41 rfl (nI_1 _) (by decide) rfl ?_
          refine V_goto C 13 dX3_says_44 (by decide) ?_
          refine V_sub ?_ (ih (by omega))
          repeat' (first | exact ls_e | refine ls_n ?_ | refine ls_s ?_ | refine ls_i ?_ ?_ | refine ls_v ?_ ?_)
          rw [saysK_s]
          first | (rw [q22]; rfl) | (refine bt ?_; simp [*]; done) | (refine bf ?_; rw [q22]; simp [*]; done)
        · refine V_iconst C 1 dX3_says_35 (by decide) ?_
          refine V_goto C 40 dX3_says_36 (by decide) ?_
          refine V_istore_n (L' := [some (.ref a), some (.int x), some (.int 1), some (.int (nI (6 + k)))]) C dX3_says_40 rfl (by decide) rfl ?_
          refine V_iinc (v := (nI ((6 + k) + 1))) (L' := [some (.ref a), some (.int x), some (.int 1), some (.int (nI ((6 + k) + 1)))]) C dX3_says_41 rfl (nI_1 _) (by decide) rfl ?_
          refine V_goto C 13 dX3_says_44 (by decide) ?_
          refine V_sub ?_ (ih (by omega))
          repeat' (first | exact ls_e | refine ls_n ?_ | refine ls_s ?_ | refine ls_i ?_ ?_ | refine ls_v ?_ ?_)
          rw [saysK_s]
          first | (rw [q22]; rfl) | (refine bt ?_; simp [*]; done) | (refine bf ?_; rw [q22]; simp [*]; done)
  refine V_iload_n C dX3_says_0 rfl rfl ?_
  refine V_if_ne C 8 dX3_says_1 (by decide) (fun q1 => ?_) (fun q1 => ?_)
  · refine V_iconst C 0 dX3_says_8 (by decide) ?_
    refine V_istore_n (L' := [some (.ref a), some (.int x), some (.int 0), none]) C dX3_says_9 rfl (by decide) rfl ?_
    refine V_bipush C 6 dX3_says_10 (by decide) ?_
    refine V_istore_n (L' := [some (.ref a), some (.int x), some (.int 0), some (.int 6)]) C dX3_says_12 rfl (by decide) rfl ?_
    refine V_sub ?_ (loop 0 (Nat.zero_le _))
    repeat' (first | exact ls_e | refine ls_n ?_ | refine ls_s ?_ | refine ls_i ?_ ?_ | refine ls_v ?_ ?_)
    first | (refine bt ?_; unfold saysK; simp [*, anyI]; done) | (refine bf ?_; unfold saysK; simp [*, anyI]; done)
  · refine V_iconst C 1 dX3_says_4 (by decide) ?_
    refine V_goto C 9 dX3_says_5 (by decide) ?_
    refine V_istore_n (L' := [some (.ref a), some (.int x), some (.int 1), none]) C dX3_says_9 rfl (by decide) rfl ?_
    refine V_bipush C 6 dX3_says_10 (by decide) ?_
    refine V_istore_n (L' := [some (.ref a), some (.int x), some (.int 1), some (.int 6)]) C dX3_says_12 rfl (by decide) rfl ?_
    refine V_sub ?_ (loop 0 (Nat.zero_le _))
    repeat' (first | exact ls_e | refine ls_n ?_ | refine ls_s ?_ | refine ls_i ?_ ?_ | refine ls_v ?_ ?_)
    first | (refine bt ?_; unfold saysK; simp [*, anyI]; done) | (refine bf ?_; unfold saysK; simp [*, anyI]; done)
theorem ct_X3_wire (l : Launch) (G : mp_G) (b : Nat) (M : mp_M) (a : Nat) (ad : Nat → Nat) (S : Nat → Nat → Int32) (hS : MdAt G M a ad S) (mw : Nat) (wl : Nat → Nat) (hL : LnV S mw wl) (x : Int32) : Ct l yX3_wire cX3_wire 2 (some .int) 0 0 0 G b ([.ref a, .int x] : List Value) M (pI (fun y M1 => y = (if x = -1 then nI mw else if ¬ x < 0 ∧ x < nI mw then nI (wl x.toNatClampNeg) else -1) ∧ M1 = M)) := by
  have hmw := hL.1
  rcases pk_ix x (n := mw) (by omega) with hx | hx | ⟨j, hj, hxj⟩
  · refine Ct.ofV (by decide) (vc_ref (vc_int vc_nil)) (Nat.le_of_ble_eq_true rfl) ?_
    intro p e s m below meth c C hnm
    refine V_L (L1 := [some (.ref a), some (.int x)]) rfl ?_
    obtain ⟨hma, hm0, hm1, hm2, hm3, hm4, hm5, hm8, hm9, hm10, hm11⟩ := id hS
    rw [hL.2.1] at hma
    refine V_iload_n C dX3_wire_0 rfl rfl ?_
    refine V_iconst C (-1) dX3_wire_1 (by decide) ?_
    refine V_icmp_ne C 12 dX3_wire_2 (by decide) (fun q2 => ?_) (fun q2 => ?_)
    · refine V_iload_n C dX3_wire_12 rfl rfl ?_
      refine V_if_lt C 33 dX3_wire_13 (by decide) (fun q13 => ?_) (fun q13 => ?_)
      · refine V_iconst C (-1) dX3_wire_33 (by decide) ?_
        exact V_iret C dX3_wire_34 (by decide) (by decide) ⟨_, rfl, by first | rw [if_pos q2] | (rw [if_neg q2, if_neg (fun z => z.1 hx)]), rfl⟩
      · exact absurd hx q13
    · refine V_aload_n C dX3_wire_5 rfl rfl ?_
      refine V_get (C0 := RX3) (T := TX3) (N := 12) (ci := 3) C 6 in_X3 rfl hma (by decide) q827 (fun _ h9 => h9) rfl dX3_wire_6 ?_
      refine V_goto C 34 dX3_wire_9 (by decide) ?_
      exact V_iret C dX3_wire_34 (by decide) (by decide) ⟨_, rfl, by first | rw [if_pos q2] | (rw [if_neg q2, if_neg (fun z => z.1 hx)]), rfl⟩
  · refine Ct.ofV (by decide) (vc_ref (vc_int vc_nil)) (Nat.le_of_ble_eq_true rfl) ?_
    intro p e s m below meth c C hnm
    refine V_L (L1 := [some (.ref a), some (.int x)]) rfl ?_
    obtain ⟨hma, hm0, hm1, hm2, hm3, hm4, hm5, hm8, hm9, hm10, hm11⟩ := id hS
    rw [hL.2.1] at hma
    refine V_iload_n C dX3_wire_0 rfl rfl ?_
    refine V_iconst C (-1) dX3_wire_1 (by decide) ?_
    refine V_icmp_ne C 12 dX3_wire_2 (by decide) (fun q2 => ?_) (fun q2 => ?_)
    · refine V_iload_n C dX3_wire_12 rfl rfl ?_
      refine V_if_lt C 33 dX3_wire_13 (by decide) (fun q13 => ?_) (fun q13 => ?_)
      · refine V_iconst C (-1) dX3_wire_33 (by decide) ?_
        exact V_iret C dX3_wire_34 (by decide) (by decide) ⟨_, rfl, by first | rw [if_pos q2] | (rw [if_neg q2, if_neg (fun z => Int32.not_lt.mpr hx z.2)]), rfl⟩
      · refine V_iload_n C dX3_wire_16 rfl rfl ?_
        refine V_aload_n C dX3_wire_17 rfl rfl ?_
        refine V_get (C0 := RX3) (T := TX3) (N := 12) (ci := 3) C 6 in_X3 rfl hma (by decide) q827 (fun _ h9 => h9) rfl dX3_wire_18 ?_
        refine V_icmp_ge C 33 dX3_wire_21 (by decide) (fun q21 => ?_) (fun q21 => ?_)
        · refine V_iconst C (-1) dX3_wire_33 (by decide) ?_
          exact V_iret C dX3_wire_34 (by decide) (by decide) ⟨_, rfl, by first | rw [if_pos q2] | (rw [if_neg q2, if_neg (fun z => Int32.not_lt.mpr hx z.2)]), rfl⟩
        · exact absurd hx q21
    · refine V_aload_n C dX3_wire_5 rfl rfl ?_
      refine V_get (C0 := RX3) (T := TX3) (N := 12) (ci := 3) C 6 in_X3 rfl hma (by decide) q827 (fun _ h9 => h9) rfl dX3_wire_6 ?_
      refine V_goto C 34 dX3_wire_9 (by decide) ?_
      exact V_iret C dX3_wire_34 (by decide) (by decide) ⟨_, rfl, by first | rw [if_pos q2] | (rw [if_neg q2, if_neg (fun z => Int32.not_lt.mpr hx z.2)]), rfl⟩
  · refine Ct.ofV (by decide) (vc_ref (vc_int vc_nil)) (Nat.le_of_ble_eq_true rfl) ?_
    intro p e s m below meth c C hnm
    refine V_L (L1 := [some (.ref a), some (.int x)]) rfl ?_
    refine V_L (L1 := [some (.ref a), some (.int (nI j))]) (by rw [hxj]) ?_
    obtain ⟨hma, hm0, hm1, hm2, hm3, hm4, hm5, hm8, hm9, hm10, hm11⟩ := id hS
    rw [hL.2.1] at hma
    refine V_iload_n C dX3_wire_0 rfl rfl ?_
    refine V_iconst C (-1) dX3_wire_1 (by decide) ?_
    refine V_icmp_ne C 12 dX3_wire_2 (by decide) (fun q2 => ?_) (fun q2 => ?_)
    · refine V_iload_n C dX3_wire_12 rfl rfl ?_
      refine V_if_lt C 33 dX3_wire_13 (by decide) (fun h => absurd h (nI_pos (n := j) (by omega))) (fun _ => ?_)
      refine V_iload_n C dX3_wire_16 rfl rfl ?_
      refine V_aload_n C dX3_wire_17 rfl rfl ?_
      refine V_get (C0 := RX3) (T := TX3) (N := 12) (ci := 3) C 6 in_X3 rfl hma (by decide) q827 (fun _ h9 => h9) rfl dX3_wire_18 ?_
      refine V_nicmp_ge (x := j) (y := mw) C 33 dX3_wire_21 (by decide) (by omega) (by omega) (fun q21 => ?_) (fun q21 => ?_)
      · omega
      · refine V_aload_n C dX3_wire_24 rfl rfl ?_
        refine V_get (C0 := RX3) (T := TX3) (N := 12) (ci := 3) C 5 in_X3 rfl hma (by decide) q826 (fun _ h9 => h9) rfl dX3_wire_25 ?_
        refine V_iload_n C dX3_wire_28 rfl rfl ?_
        refine V_iald C hm5 (pk_in j 16 (by omega)) dX3_wire_29 ?_
        refine V_top (y := (nI (wl j))) (by rw [nI_clamp (n := j) (by omega)]; exact (hL.2.2.1 j (by omega))) ?_
        refine V_goto C 34 dX3_wire_30 (by decide) ?_
        exact V_iret C dX3_wire_34 (by decide) (by decide) ⟨_, rfl, by rw [hxj]; first | rw [if_pos q2] | (rw [if_neg q2, if_pos ⟨nI_pos (by omega), nI_lt hj (by omega)⟩, nI_clamp (by omega)]), rfl⟩
    · refine V_aload_n C dX3_wire_5 rfl rfl ?_
      refine V_get (C0 := RX3) (T := TX3) (N := 12) (ci := 3) C 6 in_X3 rfl hma (by decide) q827 (fun _ h9 => h9) rfl dX3_wire_6 ?_
      refine V_goto C 34 dX3_wire_9 (by decide) ?_
      exact V_iret C dX3_wire_34 (by decide) (by decide) ⟨_, rfl, by rw [hxj]; first | rw [if_pos q2] | (rw [if_neg q2, if_pos ⟨nI_pos (by omega), nI_lt hj (by omega)⟩, nI_clamp (by omega)]), rfl⟩
theorem ct_X3_cut (l : Launch) (G : mp_G) (b : Nat) (M : mp_M) (a : Nat) (ad : Nat → Nat) (S : Nat → Nat → Int32) (hS : MdAt G M a ad S) (mw : Nat) (wl : Nat → Nat) (hL : LnV S mw wl) (x : Int32) : Ct l yX3_cut cX3_cut 2 (some .boolean) 0 0 0 G b ([.ref a, .int x] : List Value) M (pI (fun y M1 => (∃ j, j ≤ mw ∧ x = nI j ∧ y = 1 ∧ MdAt G M1 a ad (sF S 6 (fun _ => nI j)) ∧ KeepG 9 M M1) ∨ ((∀ j, j ≤ mw → x ≠ nI j) ∧ y = 0 ∧ M1 = M))) := by
  have hmw := hL.1
  rcases pk_ix x (n := mw + 1) (by omega) with hx | hx | ⟨j, hj, hxj⟩
  · refine Ct.ofV (by decide) (vc_ref (vc_int vc_nil)) (Nat.le_of_ble_eq_true rfl) ?_
    intro p e s m below meth c C hnm
    refine V_L (L1 := [some (.ref a), some (.int x)]) rfl ?_
    obtain ⟨hma, hm0, hm1, hm2, hm3, hm4, hm5, hm8, hm9, hm10, hm11⟩ := id hS
    rw [hL.2.1] at hma
    refine V_iload_n C dX3_cut_0 rfl rfl ?_
    refine V_if_lt C 12 dX3_cut_1 (by decide) (fun q1 => ?_) (fun q1 => ?_)
    · refine V_iconst C 0 dX3_cut_12 (by decide) ?_
      exact V_zret C rfl dX3_cut_13 (by decide) (by decide) ⟨_, rfl, Or.inr ⟨fun j hj z => by rw [z] at hx; exact nI_pos (by omega) hx, rfl, rfl⟩⟩
    · exact absurd hx q1
  · refine Ct.ofV (by decide) (vc_ref (vc_int vc_nil)) (Nat.le_of_ble_eq_true rfl) ?_
    intro p e s m below meth c C hnm
    refine V_L (L1 := [some (.ref a), some (.int x)]) rfl ?_
    obtain ⟨hma, hm0, hm1, hm2, hm3, hm4, hm5, hm8, hm9, hm10, hm11⟩ := id hS
    rw [hL.2.1] at hma
    refine V_iload_n C dX3_cut_0 rfl rfl ?_
    refine V_if_lt C 12 dX3_cut_1 (by decide) (fun q1 => ?_) (fun q1 => ?_)
    · refine V_iconst C 0 dX3_cut_12 (by decide) ?_
      exact V_zret C rfl dX3_cut_13 (by decide) (by decide) ⟨_, rfl, Or.inr ⟨fun j hj z => by rw [z] at hx; exact absurd hx (nI_ge (by omega) (by omega)), rfl, rfl⟩⟩
    · refine V_iload_n C dX3_cut_4 rfl rfl ?_
      refine V_aload_n C dX3_cut_5 rfl rfl ?_
      refine V_get (C0 := RX3) (T := TX3) (N := 12) (ci := 3) C 6 in_X3 rfl hma (by decide) q827 (fun _ h9 => h9) rfl dX3_cut_6 ?_
      refine V_icmp_le C 14 dX3_cut_9 (by decide) (fun q9 => ?_) (fun q9 => ?_)
      · exact absurd (Int32.lt_of_lt_of_le (nI_lt (Nat.lt_succ_self mw) (by omega)) hx) (Int32.not_lt.mpr q9)
      · refine V_iconst C 0 dX3_cut_12 (by decide) ?_
        exact V_zret C rfl dX3_cut_13 (by decide) (by decide) ⟨_, rfl, Or.inr ⟨fun j hj z => by rw [z] at hx; exact absurd hx (nI_ge (by omega) (by omega)), rfl, rfl⟩⟩
  · refine Ct.ofV (by decide) (vc_ref (vc_int vc_nil)) (Nat.le_of_ble_eq_true rfl) ?_
    intro p e s m below meth c C hnm
    refine V_L (L1 := [some (.ref a), some (.int x)]) rfl ?_
    refine V_L (L1 := [some (.ref a), some (.int (nI j))]) (by rw [hxj]) ?_
    obtain ⟨hma, hm0, hm1, hm2, hm3, hm4, hm5, hm8, hm9, hm10, hm11⟩ := id hS
    rw [hL.2.1] at hma
    refine V_iload_n C dX3_cut_0 rfl rfl ?_
    refine V_if_lt C 12 dX3_cut_1 (by decide) (fun h => absurd h (nI_pos (n := j) (by omega))) (fun _ => ?_)
    refine V_iload_n C dX3_cut_4 rfl rfl ?_
    refine V_aload_n C dX3_cut_5 rfl rfl ?_
    refine V_get (C0 := RX3) (T := TX3) (N := 12) (ci := 3) C 6 in_X3 rfl hma (by decide) q827 (fun _ h9 => h9) rfl dX3_cut_6 ?_
    refine V_nicmp_le (x := j) (y := mw) C 14 dX3_cut_9 (by decide) (by omega) (by omega) (fun q9 => ?_) (fun q9 => ?_)
    · refine V_aload_n C dX3_cut_14 rfl rfl ?_
      refine V_iload_n C dX3_cut_15 rfl rfl ?_
      refine V_M (V_put (host := "") (C0 := RX3) (T := TX3) (N := 12) (ci := 3) (fs' := [.ref (ad 0), .ref (ad 1), .ref (ad 2), .ref (ad 3), .ref (ad 4), .ref (ad 5), .int (nI j), .int (S 7 0), .ref (ad 8), .ref (ad 9), .ref (ad 10), .ref (ad 11)]) C 6 in_X3 tyX3 tyX3_ok nmX3 rfl hma (by decide) q827 (fun _ h9 => h9) rfl rfl rfl rfl (Nat.le_of_ble_eq_true rfl) rfl dX3_cut_16) (fun M__1 eM__1 => ?_)
      have h__2 := mp_got eM__1
      have h__3 := mp_keep eM__1 hm0 hma (by first | assumption | exact Ne.symm (by assumption) | simp | (intro h; simp at h; omega))
      have h__4 := mp_keep eM__1 hm1 hma (by first | assumption | exact Ne.symm (by assumption) | simp | (intro h; simp at h; omega))
      have h__5 := mp_keep eM__1 hm2 hma (by first | assumption | exact Ne.symm (by assumption) | simp | (intro h; simp at h; omega))
      have h__6 := mp_keep eM__1 hm3 hma (by first | assumption | exact Ne.symm (by assumption) | simp | (intro h; simp at h; omega))
      have h__7 := mp_keep eM__1 hm4 hma (by first | assumption | exact Ne.symm (by assumption) | simp | (intro h; simp at h; omega))
      have h__8 := mp_keep eM__1 hm5 hma (by first | assumption | exact Ne.symm (by assumption) | simp | (intro h; simp at h; omega))
      have h__9 := mp_keep eM__1 hm8 hma (by first | assumption | exact Ne.symm (by assumption) | simp | (intro h; simp at h; omega))
      have h__10 := mp_keep eM__1 hm9 hma (by first | assumption | exact Ne.symm (by assumption) | simp | (intro h; simp at h; omega))
      have h__11 := mp_keep eM__1 hm10 hma (by first | assumption | exact Ne.symm (by assumption) | simp | (intro h; simp at h; omega))
      have h__12 := mp_keep eM__1 hm11 hma (by first | assumption | exact Ne.symm (by assumption) | simp | (intro h; simp at h; omega))
      refine V_iconst C 1 dX3_cut_19 (by decide) ?_
      exact V_zret C rfl dX3_cut_20 (by decide) (by decide) ⟨_, rfl, Or.inl ⟨j, by omega, hxj, rfl, (md_f6 hS rfl eM__1).1, (md_f6 hS rfl eM__1).2⟩⟩
    · omega
theorem ct_X3_alter (l : Launch) (G : mp_G) (b : Nat) (M : mp_M) (a : Nat) (ad : Nat → Nat) (S : Nat → Nat → Int32) (hS : MdAt G M a ad S) (mw : Nat) (wl : Nat → Nat) (hL : LnV S mw wl) (x z : Int32) : Ct l yX3_alter cX3_alter 3 (some .boolean) 0 0 0 G b ([.ref a, .int x, .int z] : List Value) M (pI (fun y M1 => (∃ j c0, j ≤ mw ∧ j < 16 ∧ c0 < 256 ∧ x = nI j ∧ z = nI c0 ∧ y = 1 ∧ MdAt G M1 a ad (sF (sF S 5 (upd (S 5) j (nI c0))) 6 (fun _ => nI (if j = mw then mw + 1 else mw))) ∧ KeepG 9 M M1) ∨ ((∀ j c0, j ≤ mw → j < 16 → c0 < 256 → ¬ (x = nI j ∧ z = nI c0)) ∧ y = 0 ∧ M1 = M))) := by
  have hmw := hL.1
  by_cases hgood : ∃ j c0, j ≤ mw ∧ j < 16 ∧ c0 < 256 ∧ x = nI j ∧ z = nI c0
  · obtain ⟨j, c0, h1, h2, h3, hxj, hzc⟩ := hgood
    refine Ct.ofV (by decide) (vc_ref (vc_int (vc_int vc_nil))) (Nat.le_of_ble_eq_true rfl) ?_
    intro p e s m below meth c C hnm
    refine V_L (L1 := [some (.ref a), some (.int x), some (.int z)]) rfl ?_
    refine V_L (L1 := [some (.ref a), some (.int (nI j)), some (.int (nI c0))]) (by rw [hxj, hzc]) ?_
    obtain ⟨hma, hm0, hm1, hm2, hm3, hm4, hm5, hm8, hm9, hm10, hm11⟩ := id hS
    rw [hL.2.1] at hma
    refine V_iload_n C dX3_alter_0 rfl rfl ?_
    refine V_if_lt C 29 dX3_alter_1 (by decide) (fun h => absurd h (nI_pos (n := j) (by omega))) (fun _ => ?_)
    refine V_iload_n C dX3_alter_4 rfl rfl ?_
    refine V_aload_n C dX3_alter_5 rfl rfl ?_
    refine V_get (C0 := RX3) (T := TX3) (N := 12) (ci := 3) C 6 in_X3 rfl hma (by decide) q827 (fun _ h9 => h9) rfl dX3_alter_6 ?_
    refine V_nicmp_gt (x := j) (y := mw) C 29 dX3_alter_9 (by decide) (by omega) (by omega) (fun q9 => ?_) (fun q9 => ?_)
    · omega
    · refine V_iload_n C dX3_alter_12 rfl rfl ?_
      refine V_bipush C 16 dX3_alter_13 (by decide) ?_
      refine V_nicmp_ge (x := j) (y := 16) C 29 dX3_alter_15 (by decide) (by omega) (by omega) (fun q15 => ?_) (fun q15 => ?_)
      · omega
      · refine V_iload_n C dX3_alter_18 rfl rfl ?_
        refine V_if_lt C 29 dX3_alter_19 (by decide) (fun h => absurd h (nI_pos (n := c0) (by omega))) (fun _ => ?_)
        refine V_iload_n C dX3_alter_22 rfl rfl ?_
        refine V_sipush C 255 dX3_alter_23 (by decide) ?_
        refine V_nicmp_le (x := c0) (y := 255) C 31 dX3_alter_26 (by decide) (by omega) (by omega) (fun q26 => ?_) (fun q26 => ?_)
        · refine V_aload_n C dX3_alter_31 rfl rfl ?_
          refine V_get (C0 := RX3) (T := TX3) (N := 12) (ci := 3) C 5 in_X3 rfl hma (by decide) q826 (fun _ h9 => h9) rfl dX3_alter_32 ?_
          refine V_iload_n C dX3_alter_35 rfl rfl ?_
          refine V_iload_n C dX3_alter_36 rfl rfl ?_
          refine V_M (V_iast C hm5 (pk_in j 16 (by omega)) dX3_alter_37) (fun M__1 eM__1 => ?_)
          rw [nI_clamp (n := j) (by omega)] at eM__1
          have h__2 := mp_got eM__1
          have h__3 := mp_keep eM__1 hma hm5 (by first | assumption | exact Ne.symm (by assumption) | simp | (intro h; simp at h; omega))
          have h__4 := mp_keep eM__1 hm0 hm5 (by first | assumption | exact Ne.symm (by assumption) | simp | (intro h; simp at h; omega))
          have h__5 := mp_keep eM__1 hm1 hm5 (by first | assumption | exact Ne.symm (by assumption) | simp | (intro h; simp at h; omega))
          have h__6 := mp_keep eM__1 hm2 hm5 (by first | assumption | exact Ne.symm (by assumption) | simp | (intro h; simp at h; omega))
          have h__7 := mp_keep eM__1 hm3 hm5 (by first | assumption | exact Ne.symm (by assumption) | simp | (intro h; simp at h; omega))
          have h__8 := mp_keep eM__1 hm4 hm5 (by first | assumption | exact Ne.symm (by assumption) | simp | (intro h; simp at h; omega))
          have h__9 := mp_keep eM__1 hm8 hm5 (by first | assumption | exact Ne.symm (by assumption) | simp | (intro h; simp at h; omega))
          have h__10 := mp_keep eM__1 hm9 hm5 (by first | assumption | exact Ne.symm (by assumption) | simp | (intro h; simp at h; omega))
          have h__11 := mp_keep eM__1 hm10 hm5 (by first | assumption | exact Ne.symm (by assumption) | simp | (intro h; simp at h; omega))
          have h__12 := mp_keep eM__1 hm11 hm5 (by first | assumption | exact Ne.symm (by assumption) | simp | (intro h; simp at h; omega))
          refine V_aload_n C dX3_alter_38 rfl rfl ?_
          refine V_iload_n C dX3_alter_39 rfl rfl ?_
          refine V_aload_n C dX3_alter_40 rfl rfl ?_
          refine V_get (C0 := RX3) (T := TX3) (N := 12) (ci := 3) C 6 in_X3 rfl h__3 (by decide) q827 (fun _ h9 => h9) rfl dX3_alter_41 ?_
          refine V_nicmp_ne (x := j) (y := mw) C 56 dX3_alter_44 (by decide) (by omega) (by omega) (fun q44 => ?_) (fun q44 => ?_)
          · refine V_aload_n C dX3_alter_56 rfl rfl ?_
            refine V_get (C0 := RX3) (T := TX3) (N := 12) (ci := 3) C 6 in_X3 rfl h__3 (by decide) q827 (fun _ h9 => h9) rfl dX3_alter_57 ?_
            refine V_M (V_put (host := "") (C0 := RX3) (T := TX3) (N := 12) (ci := 3) (fs' := [.ref (ad 0), .ref (ad 1), .ref (ad 2), .ref (ad 3), .ref (ad 4), .ref (ad 5), .int (nI mw), .int (S 7 0), .ref (ad 8), .ref (ad 9), .ref (ad 10), .ref (ad 11)]) C 6 in_X3 tyX3 tyX3_ok nmX3 rfl h__3 (by decide) q827 (fun _ h9 => h9) rfl rfl rfl rfl (Nat.le_of_ble_eq_true rfl) rfl dX3_alter_60) (fun M__13 eM__13 => ?_)
            have h__14 := mp_got eM__13
            have h__15 := mp_keep eM__13 h__4 h__3 (by first | assumption | exact Ne.symm (by assumption) | simp | (intro h; simp at h; omega))
            have h__16 := mp_keep eM__13 h__5 h__3 (by first | assumption | exact Ne.symm (by assumption) | simp | (intro h; simp at h; omega))
            have h__17 := mp_keep eM__13 h__6 h__3 (by first | assumption | exact Ne.symm (by assumption) | simp | (intro h; simp at h; omega))
            have h__18 := mp_keep eM__13 h__7 h__3 (by first | assumption | exact Ne.symm (by assumption) | simp | (intro h; simp at h; omega))
            have h__19 := mp_keep eM__13 h__8 h__3 (by first | assumption | exact Ne.symm (by assumption) | simp | (intro h; simp at h; omega))
            have h__20 := mp_keep eM__13 h__2 h__3 (by first | assumption | exact Ne.symm (by assumption) | simp | (intro h; simp at h; omega))
            have h__21 := mp_keep eM__13 h__9 h__3 (by first | assumption | exact Ne.symm (by assumption) | simp | (intro h; simp at h; omega))
            have h__22 := mp_keep eM__13 h__10 h__3 (by first | assumption | exact Ne.symm (by assumption) | simp | (intro h; simp at h; omega))
            have h__23 := mp_keep eM__13 h__11 h__3 (by first | assumption | exact Ne.symm (by assumption) | simp | (intro h; simp at h; omega))
            have h__24 := mp_keep eM__13 h__12 h__3 (by first | assumption | exact Ne.symm (by assumption) | simp | (intro h; simp at h; omega))
            refine V_iconst C 1 dX3_alter_63 (by decide) ?_
            exact V_zret C rfl dX3_alter_64 (by decide) (by decide) ⟨_, rfl, Or.inl ⟨j, c0, h1, h2, h3, hxj, hzc, rfl, by first | (rw [if_pos q44]; exact (md_f6 (md_f5 hS eM__1).1 rfl eM__13).1) | (rw [if_neg q44]; exact (md_f6 (md_f5 hS eM__1).1 rfl eM__13).1), (md_f5 hS eM__1).2.tr (md_f6 (md_f5 hS eM__1).1 rfl eM__13).2⟩⟩
          · refine V_aload_n C dX3_alter_47 rfl rfl ?_
            refine V_get (C0 := RX3) (T := TX3) (N := 12) (ci := 3) C 6 in_X3 rfl h__3 (by decide) q827 (fun _ h9 => h9) rfl dX3_alter_48 ?_
            refine V_iconst C 1 dX3_alter_51 (by decide) ?_
            refine V_iadd C dX3_alter_52 ?_
            refine V_top (y := (nI (mw + 1))) (nI_add mw 1) ?_
            refine V_goto C 60 dX3_alter_53 (by decide) ?_
            refine V_M (V_put (host := "") (C0 := RX3) (T := TX3) (N := 12) (ci := 3) (fs' := [.ref (ad 0), .ref (ad 1), .ref (ad 2), .ref (ad 3), .ref (ad 4), .ref (ad 5), .int (nI (mw + 1)), .int (S 7 0), .ref (ad 8), .ref (ad 9), .ref (ad 10), .ref (ad 11)]) C 6 in_X3 tyX3 tyX3_ok nmX3 rfl h__3 (by decide) q827 (fun _ h9 => h9) rfl rfl rfl rfl (Nat.le_of_ble_eq_true rfl) rfl dX3_alter_60) (fun M__25 eM__25 => ?_)
            have h__26 := mp_got eM__25
            have h__27 := mp_keep eM__25 h__4 h__3 (by first | assumption | exact Ne.symm (by assumption) | simp | (intro h; simp at h; omega))
            have h__28 := mp_keep eM__25 h__5 h__3 (by first | assumption | exact Ne.symm (by assumption) | simp | (intro h; simp at h; omega))
            have h__29 := mp_keep eM__25 h__6 h__3 (by first | assumption | exact Ne.symm (by assumption) | simp | (intro h; simp at h; omega))
            have h__30 := mp_keep eM__25 h__7 h__3 (by first | assumption | exact Ne.symm (by assumption) | simp | (intro h; simp at h; omega))
            have h__31 := mp_keep eM__25 h__8 h__3 (by first | assumption | exact Ne.symm (by assumption) | simp | (intro h; simp at h; omega))
            have h__32 := mp_keep eM__25 h__2 h__3 (by first | assumption | exact Ne.symm (by assumption) | simp | (intro h; simp at h; omega))
            have h__33 := mp_keep eM__25 h__9 h__3 (by first | assumption | exact Ne.symm (by assumption) | simp | (intro h; simp at h; omega))
            have h__34 := mp_keep eM__25 h__10 h__3 (by first | assumption | exact Ne.symm (by assumption) | simp | (intro h; simp at h; omega))
            have h__35 := mp_keep eM__25 h__11 h__3 (by first | assumption | exact Ne.symm (by assumption) | simp | (intro h; simp at h; omega))
            have h__36 := mp_keep eM__25 h__12 h__3 (by first | assumption | exact Ne.symm (by assumption) | simp | (intro h; simp at h; omega))
            refine V_iconst C 1 dX3_alter_63 (by decide) ?_
            exact V_zret C rfl dX3_alter_64 (by decide) (by decide) ⟨_, rfl, Or.inl ⟨j, c0, h1, h2, h3, hxj, hzc, rfl, by first | (rw [if_pos q44]; exact (md_f6 (md_f5 hS eM__1).1 rfl eM__25).1) | (rw [if_neg q44]; exact (md_f6 (md_f5 hS eM__1).1 rfl eM__25).1), (md_f5 hS eM__1).2.tr (md_f6 (md_f5 hS eM__1).1 rfl eM__25).2⟩⟩
        · omega
  · have no : ∀ j c0, j ≤ mw → j < 16 → c0 < 256 → ¬ (x = nI j ∧ z = nI c0) := fun j c0 h1 h2 h3 h4 => hgood ⟨j, c0, h1, h2, h3, h4.1, h4.2⟩
    refine Ct.ofV (by decide) (vc_ref (vc_int (vc_int vc_nil))) (Nat.le_of_ble_eq_true rfl) ?_
    intro p e s m below meth c C hnm
    refine V_L (L1 := [some (.ref a), some (.int x), some (.int z)]) rfl ?_
    obtain ⟨hma, hm0, hm1, hm2, hm3, hm4, hm5, hm8, hm9, hm10, hm11⟩ := id hS
    rw [hL.2.1] at hma
    refine V_iload_n C dX3_alter_0 rfl rfl ?_
    refine V_if_lt C 29 dX3_alter_1 (by decide) (fun q1 => ?_) (fun q1 => ?_)
    · refine V_iconst C 0 dX3_alter_29 (by decide) ?_
      exact V_zret C rfl dX3_alter_30 (by decide) (by decide) ⟨_, rfl, Or.inr ⟨no, rfl, rfl⟩⟩
    · refine V_iload_n C dX3_alter_4 rfl rfl ?_
      refine V_aload_n C dX3_alter_5 rfl rfl ?_
      refine V_get (C0 := RX3) (T := TX3) (N := 12) (ci := 3) C 6 in_X3 rfl hma (by decide) q827 (fun _ h9 => h9) rfl dX3_alter_6 ?_
      refine V_icmp_gt C 29 dX3_alter_9 (by decide) (fun q9 => ?_) (fun q9 => ?_)
      · refine V_iconst C 0 dX3_alter_29 (by decide) ?_
        exact V_zret C rfl dX3_alter_30 (by decide) (by decide) ⟨_, rfl, Or.inr ⟨no, rfl, rfl⟩⟩
      · refine V_iload_n C dX3_alter_12 rfl rfl ?_
        refine V_bipush C 16 dX3_alter_13 (by decide) ?_
        refine V_icmp_ge C 29 dX3_alter_15 (by decide) (fun q15 => ?_) (fun q15 => ?_)
        · refine V_iconst C 0 dX3_alter_29 (by decide) ?_
          exact V_zret C rfl dX3_alter_30 (by decide) (by decide) ⟨_, rfl, Or.inr ⟨no, rfl, rfl⟩⟩
        · refine V_iload_n C dX3_alter_18 rfl rfl ?_
          refine V_if_lt C 29 dX3_alter_19 (by decide) (fun q19 => ?_) (fun q19 => ?_)
          · refine V_iconst C 0 dX3_alter_29 (by decide) ?_
            exact V_zret C rfl dX3_alter_30 (by decide) (by decide) ⟨_, rfl, Or.inr ⟨no, rfl, rfl⟩⟩
          · refine V_iload_n C dX3_alter_22 rfl rfl ?_
            refine V_sipush C 255 dX3_alter_23 (by decide) ?_
            refine V_icmp_le C 31 dX3_alter_26 (by decide) (fun q26 => ?_) (fun q26 => ?_)
            · exfalso; obtain ⟨j, hj1, rfl⟩ := nI_of q1; obtain ⟨c0, hc1, rfl⟩ := nI_of q19; exact hgood ⟨j, c0, (nI_leI (by omega) (by omega)).mp (Int32.not_lt.mp q9), (nI_ltI (b := 16) (by omega) (by decide)).mp (Int32.not_le.mp q15), by have := (nI_leI (b := 255) (by omega) (by decide)).mp q26; omega, rfl, rfl⟩
            · refine V_iconst C 0 dX3_alter_29 (by decide) ?_
              exact V_zret C rfl dX3_alter_30 (by decide) (by decide) ⟨_, rfl, Or.inr ⟨no, rfl, rfl⟩⟩

