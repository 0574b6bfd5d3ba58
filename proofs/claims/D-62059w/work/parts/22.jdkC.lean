set_option maxRecDepth 100000
/-! JDK, C: StringBuilder (Latin-1 alone) -/
/-- a StringBuilder with the bytes bs and room for cap: labels (g, 0, 0), (g, 1, 0) -/
def SbAt (G : mp_G) (M : mp_M) (g a : Nat) (bs : List Nat) (cap : Nat) : Prop := ∃ (va : Nat) (f : Nat → Int32) (mb : Bool), M a = some ((g, 0, 0), .inr (8, [.ref va, .int 0, .int (bI mb), .int (nI bs.length)])) ∧ M va = some ((g, 1, 0), .inl (G.2.1 2, cap, .inl f)) ∧ bs.length ≤ cap ∧ cap ≤ 1000 ∧ tx bs f ∧ sb_Fit f
abbrev KeepG (g : Nat) (M M1 : mp_M) : Prop := Keep (fun la => la.1 = g) M M1
theorem kg_up {M M1 : mp_M} {a g i j : Nat} {x : mp_L × va_E} {z : va_E} (e : M1 = mp_up M a x) (ha : M a = some ((g, i, j), z)) : KeepG g M M1 := Keep.up e ha rfl
theorem tx_push {bs : List Nat} {f : Nat → Int32} {ch : Nat} (h : tx bs f) (hc : ch < 256) : tx (bs ++ [ch]) (upd f bs.length (sb_b ch)) := by
  intro j c hj
  rcases Nat.lt_trichotomy j bs.length with q | q | q
  · rw [List.getElem?_append_left q] at hj
    rw [pk_un (by omega)]
    exact h j c hj
  · subst q
    rw [List.getElem?_append_right (Nat.le_refl _)] at hj
    simp at hj
    subst hj
    exact ⟨hc, pk_us⟩
  · rw [List.getElem?_append_right (by omega), List.getElem?_eq_none (by simp; omega)] at hj
    cases hj
theorem tx_set {bs : List Nat} {f : Nat → Int32} {ch k : Nat} (h : tx bs f) (hc : ch < 256) : tx (bs.set k ch) (upd f k (sb_b ch)) := by
  intro j c hj
  rw [List.getElem?_set] at hj
  by_cases q : k = j
  · subst q
    simp only [if_true] at hj
    split at hj
    · cases hj
      exact ⟨hc, pk_us⟩
    · cases hj
  · rw [if_neg q] at hj
    rw [pk_un (Ne.symm q)]
    exact h j c hj
theorem tx_take {bs : List Nat} {f : Nat → Int32} {n : Nat} (h : tx bs f) : tx (bs.take n) f := by
  intro j c hj
  rw [List.getElem?_take] at hj
  split at hj
  · exact h j c hj
  · cases hj
theorem nI_shl0 (n : Nat) : nI n <<< ((0 : Int32) &&& 31) = nI n := sb_shl0 _
theorem ct_J3_isLatin1 (l : Launch) (G : mp_G) (b : Nat) (M : mp_M) (a va : Nat) (w z : Int32) (lab : mp_L) (ha : M a = some (lab, .inr (8, [.ref va, .int 0, .int w, .int z]))) : Ct l yJ3_isLatin1 cJ3_isLatin1 1 (some .boolean) 0 0 0 G b ([.ref a] : List Value) M (pI (fun r M1 => r = 1 ∧ M1 = M)) := by
  refine Ct.ofV (by decide) (vc_ref vc_nil) (Nat.le_of_ble_eq_true rfl) ?_
  intro p e s m below meth c C hnm
  refine V_L (L1 := [some (.ref a)]) rfl ?_
  refine V_gets C C.2.2.2.1.2.2.2.1 q137 (fun _ h9 => h9) dJ3_isLatin1_0 ?_
  refine V_if_eq C 17 dJ3_isLatin1_3 (by decide) (fun h => ?_) (fun h => ?_)
  · exact absurd h (by decide)
  · skip
    refine V_aload_n C dJ3_isLatin1_6 rfl rfl ?_
    refine V_get (C0 := RJ4) (T := TJ4) (N := 4) (ci := 8) C 1 in_J4 rfl ha (by decide) q147 (fun _ h9 => h9) rfl dJ3_isLatin1_7 ?_
    refine V_if_ne C 17 dJ3_isLatin1_10 (by decide) (fun h => ?_) (fun h => ?_)
    · exact absurd rfl h
    · skip
      refine V_iconst C 1 dJ3_isLatin1_13 (by decide) ?_
      refine V_goto C 18 dJ3_isLatin1_14 (by decide) ?_
      exact V_zret C rfl dJ3_isLatin1_18 (by decide) (by decide) ⟨_, rfl, rfl, rfl⟩
theorem ct_J3_length (l : Launch) (G : mp_G) (b : Nat) (M : mp_M) (a va : Nat) (w z : Int32) (lab : mp_L) (ha : M a = some (lab, .inr (8, [.ref va, .int 0, .int w, .int z]))) : Ct l yJ3_length cJ3_length 1 (some .int) 0 0 0 G b ([.ref a] : List Value) M (pI (fun r M1 => r = z ∧ M1 = M)) := by
  refine Ct.ofV (by decide) (vc_ref vc_nil) (Nat.le_of_ble_eq_true rfl) ?_
  intro p e s m below meth c C hnm
  refine V_L (L1 := [some (.ref a)]) rfl ?_
  refine V_aload_n C dJ3_length_0 rfl rfl ?_
  refine V_get (C0 := RJ4) (T := TJ4) (N := 4) (ci := 8) C 3 in_J4 rfl ha (by decide) q150 (fun _ h9 => h9) rfl dJ3_length_1 ?_
  exact V_iret C dJ3_length_4 (by decide) (by decide) ⟨_, rfl, rfl, rfl⟩
theorem ct_J4_lengthr (l : Launch) (G : mp_G) (b : Nat) (M : mp_M) (a va : Nat) (w z : Int32) (lab : mp_L) (ha : M a = some (lab, .inr (8, [.ref va, .int 0, .int w, .int z]))) : Ct l yJ4_length cJ4_length 1 (some .int) 1 0 0 G b ([.ref a] : List Value) M (pI (fun r M1 => r = z ∧ M1 = M)) := by
  refine Ct.ofV (by decide) (vc_ref vc_nil) (Nat.le_of_ble_eq_true rfl) ?_
  intro p e s m below meth c C hnm
  refine V_L (L1 := [some (.ref a)]) rfl ?_
  refine V_aload_n C dJ4_length_0 rfl rfl ?_
  refine V_ofIe (VR_SU (As := []) (rest := []) C (ct_J3_length l G b M a va w z _ ha) ha rfl (lw_SU q382 q1039 q159 q383 q42 q384) ns_J3_length rfl (by decide) (by decide) dJ4_length_1 rfl ⟨by decide, by decide⟩ (Nat.le_of_ble_eq_true rfl)) ?_
  exact V_iret C dJ4_length_4 (by decide) (by decide) ⟨_, rfl, rfl, rfl⟩
theorem ct_J4_length (l : Launch) (G : mp_G) (b : Nat) (M : mp_M) (g a cap : Nat) (bs : List Nat) (hS : SbAt G M g a bs cap) : Ct l yJ4_length cJ4_length 1 (some .int) 1 0 0 G b ([.ref a] : List Value) M (pI (fun r M1 => r = nI bs.length ∧ M1 = M)) := by
  obtain ⟨va, f, mb, ha, -⟩ := hS
  exact ct_J4_lengthr l G b M a va _ _ _ ha
theorem ct_J3_getValue (l : Launch) (G : mp_G) (b : Nat) (M : mp_M) (a va : Nat) (w z : Int32) (lab : mp_L) (ha : M a = some (lab, .inr (8, [.ref va, .int 0, .int w, .int z]))) : Ct l yJ3_getValue cJ3_getValue 1 (some (.array .byte)) 0 0 0 G b ([.ref a] : List Value) M (pR (fun r M1 => r = some va ∧ M1 = M)) := by
  refine Ct.ofV (by decide) (vc_ref vc_nil) (Nat.le_of_ble_eq_true rfl) ?_
  intro p e s m below meth c C hnm
  refine V_L (L1 := [some (.ref a)]) rfl ?_
  refine V_aload_n C dJ3_getValue_0 rfl rfl ?_
  refine V_get (C0 := RJ4) (T := TJ4) (N := 4) (ci := 8) C 0 in_J4 rfl ha (by decide) q146 (fun _ h9 => h9) rfl dJ3_getValue_1 ?_
  exact V_aret (o := some va) C (Or.inr ⟨_, rfl⟩) dJ3_getValue_4 (by decide) (by decide) ⟨_, rfl, rfl, rfl⟩
theorem ct_J3_charAt (l : Launch) (G : mp_G) (b : Nat) (M : mp_M) (g a k ch cap : Nat) (bs : List Nat) (hS : SbAt G M g a bs cap) (hk : bs[k]? = some ch) : Ct l yJ3_charAt cJ3_charAt 5 (some .char) 3 0 0 G b ([.ref a, .int (nI k)] : List Value) M (pI (fun r M1 => r = nI ch ∧ M1 = M)) := by
  obtain ⟨va, f, mb, ha, hv, hl, hc, hf, hF⟩ := hS
  have hkl := (List.getElem?_eq_some_iff.mp hk).1
  refine Ct.ofV (by decide) (vc_ref (vc_int vc_nil)) (Nat.le_of_ble_eq_true rfl) ?_
  intro p e s m below meth c C hnm
  refine V_L (L1 := [some (.ref a), some (.int (nI k)), none, none, none]) rfl ?_
  refine V_aload_n C dJ3_charAt_0 rfl rfl ?_
  refine V_get (C0 := RJ4) (T := TJ4) (N := 4) (ci := 8) C 1 in_J4 rfl ha (by decide) q147 (fun _ h9 => h9) rfl dJ3_charAt_1 ?_
  refine V_istore_n (L' := [some (.ref a), some (.int (nI k)), some (.int 0), none, none]) C dJ3_charAt_4 rfl (by decide) rfl ?_
  refine V_aload_n C dJ3_charAt_5 rfl rfl ?_
  refine V_get (C0 := RJ4) (T := TJ4) (N := 4) (ci := 8) C 0 in_J4 rfl ha (by decide) q146 (fun _ h9 => h9) rfl dJ3_charAt_6 ?_
  refine V_astore_n (L' := [some (.ref a), some (.int (nI k)), some (.int 0), some (.ref va), none]) C dJ3_charAt_9 rfl (by decide) rfl ?_
  refine V_aload_n C dJ3_charAt_10 rfl rfl ?_
  refine V_get (C0 := RJ4) (T := TJ4) (N := 4) (ci := 8) C 3 in_J4 rfl ha (by decide) q150 (fun _ h9 => h9) rfl dJ3_charAt_11 ?_
  refine V_aload_n C dJ3_charAt_14 rfl rfl ?_
  refine V_alen (ti := 2) C rfl hv dJ3_charAt_15 ?_
  refine V_iload_n C dJ3_charAt_16 rfl rfl ?_
  refine V_ishr C dJ3_charAt_17 ?_
  refine V_top (y := (nI cap)) (sb_shr0 _) ?_
  refine V_mmin C q689 q319 q50 q320 (by decide) (Nat.le_of_ble_eq_true rfl) (by first | decide | omega | (dsimp only [rmOf]; omega)) (by first | decide | omega | (dsimp only [rmOf]; omega)) dJ3_charAt_18 ?_
  refine V_top (y := (nI bs.length)) (by rcases Nat.lt_or_ge bs.length cap with q | q; (rw [if_neg (nI_nlt (by omega) (by omega))]); (rw [show bs.length = cap by omega, if_neg (nI_nlt (by omega) (by omega))])) ?_
  refine V_istore (L' := [some (.ref a), some (.int (nI k)), some (.int 0), some (.ref va), some (.int (nI bs.length))]) C dJ3_charAt_21 (by decide) rfl ?_
  refine V_iload_n C dJ3_charAt_23 rfl rfl ?_
  refine V_iload C dJ3_charAt_24 rfl ?_
  refine V_ofVe (VR_S (As := [.int (nI k), .int (nI bs.length)]) (rest := []) C (ct_J5_checkIndex l G b M (nI k) (nI bs.length) (nI_pos (by omega)) (nI_lt hkl (by omega))) (lw_S q392 q240 q44 q241) nd_J5_checkIndex rfl (by decide) (by decide) dJ3_charAt_26 rfl ⟨by decide, by decide⟩ (Nat.le_of_ble_eq_true rfl)) ?_
  refine V_iload_n C dJ3_charAt_29 rfl rfl ?_
  refine V_if_ne C 42 dJ3_charAt_30 (by decide) (fun h => ?_) (fun h => ?_)
  · exact absurd rfl h
  · skip
    refine V_aload_n C dJ3_charAt_33 rfl rfl ?_
    refine V_iload_n C dJ3_charAt_34 rfl rfl ?_
    refine V_bald C hv (pk_in k cap (by omega)) dJ3_charAt_35 ?_
    refine V_top (y := (sb_b ch)) (by rw [nI_clamp (by omega)]; exact (hf k ch hk).2) ?_
    refine V_sipush C 255 dJ3_charAt_36 (by decide) ?_
    refine V_iand C dJ3_charAt_39 ?_
    refine V_top (y := (nI ch)) (sb_byte ch (hf k ch hk).1).1 ?_
    refine V_i2c C (nI ch) dJ3_charAt_40 (sb_byte ch (hf k ch hk).1).2.1 ?_
    exact V_zret C (pk_charN (by have := (hf k ch hk).1; omega)).1 dJ3_charAt_41 (by decide) (by decide) ⟨_, rfl, rfl, rfl⟩
theorem ct_J4_charAt (l : Launch) (G : mp_G) (b : Nat) (M : mp_M) (g a k ch cap : Nat) (bs : List Nat) (hS : SbAt G M g a bs cap) (hk : bs[k]? = some ch) : Ct l yJ4_charAt cJ4_charAt 2 (some .char) 4 0 0 G b ([.ref a, .int (nI k)] : List Value) M (pI (fun r M1 => r = nI ch ∧ M1 = M)) := by
  have hS0 := hS
  obtain ⟨va, f, mb, ha, hv, hl, hc, hf, hF⟩ := hS
  refine Ct.ofV (by decide) (vc_ref (vc_int vc_nil)) (Nat.le_of_ble_eq_true rfl) ?_
  intro p e s m below meth c C hnm
  refine V_L (L1 := [some (.ref a), some (.int (nI k))]) rfl ?_
  refine V_aload_n C dJ4_charAt_0 rfl rfl ?_
  refine V_iload_n C dJ4_charAt_1 rfl rfl ?_
  refine V_ofIe (VR_SU (As := [.int (nI k)]) (rest := []) C (ct_J3_charAt l G b M g a k ch cap bs hS0 hk) ha rfl (lw_SU q686 q1046 q159 q687 q42 q688) ns_J3_charAt rfl (by decide) (by decide) dJ4_charAt_2 rfl ⟨by decide, by decide⟩ (Nat.le_of_ble_eq_true rfl)) ?_
  exact V_zret C (pk_charN (by have := (hf k ch hk).1; omega)).1 dJ4_charAt_5 (by decide) (by decide) ⟨_, rfl, rfl, rfl⟩
theorem ct_J11_newLength (l : Launch) (G : mp_G) (b : Nat) (M : mp_M) (o q w : Nat) (hq : q ≤ w) (hw : 0 < w) (hb0 : o + w ≤ 1000000) : Ct l yJ11_newLength cJ11_newLength 4 (some .int) 1 0 0 G b ([.int (nI o), .int (nI q), .int (nI w)] : List Value) M (pI (fun r M1 => r = nI (o + w) ∧ M1 = M)) := by
  refine Ct.ofV (by decide) (vc_int (vc_int (vc_int vc_nil))) (Nat.le_of_ble_eq_true rfl) ?_
  intro p e s m below meth c C hnm
  refine V_L (L1 := [some (.int (nI o)), some (.int (nI q)), some (.int (nI w)), none]) rfl ?_
  refine V_iload_n C dJ11_newLength_0 rfl rfl ?_
  refine V_iload_n C dJ11_newLength_1 rfl rfl ?_
  refine V_iload_n C dJ11_newLength_2 rfl rfl ?_
  refine V_mmax C q302 q278 q50 q279 (by decide) (Nat.le_of_ble_eq_true rfl) (by first | decide | omega | (dsimp only [rmOf]; omega)) (by first | decide | omega | (dsimp only [rmOf]; omega)) dJ11_newLength_3 ?_
  refine V_top (y := (nI w)) (by rcases Nat.lt_or_ge q w with z | z; (rw [if_pos (nI_lt z (by omega))]); (rw [show q = w by omega, if_neg (nI_nlt (by omega) (by omega))])) ?_
  refine V_iadd C dJ11_newLength_6 ?_
  refine V_top (y := (nI (o + w))) (nI_add _ _) ?_
  refine V_istore_n (L' := [some (.int (nI o)), some (.int (nI q)), some (.int (nI w)), some (.int (nI (o + w)))]) C dJ11_newLength_7 rfl (by decide) rfl ?_
  refine V_iconst C 0 dJ11_newLength_8 (by decide) ?_
  refine V_iload_n C dJ11_newLength_9 rfl rfl ?_
  refine V_icmp_ge C 21 dJ11_newLength_10 (by decide) (fun h => ?_) (fun h => ?_)
  · exact absurd h (nI_nle (by omega) (by omega))
  · skip
    refine V_iload_n C dJ11_newLength_13 rfl rfl ?_
    refine V_ldc (v := 2147483639) C q303 dJ11_newLength_14 ?_
    refine V_icmp_gt C 21 dJ11_newLength_16 (by decide) (fun h => ?_) (fun h => ?_)
    · exact absurd h (nI_nlt (show o + w ≤ 2147483639 by omega) (by decide))
    · skip
      refine V_iload_n C dJ11_newLength_19 rfl rfl ?_
      exact V_iret C dJ11_newLength_20 (by decide) (by decide) ⟨_, rfl, rfl, rfl⟩
theorem ct_J3_newCapacity (l : Launch) (G : mp_G) (b : Nat) (M : mp_M) (a va cap q : Nat) (w z : Int32) (f : Nat → Int32) (lab lab2 : mp_L) (ha : M a = some (lab, .inr (8, [.ref va, .int 0, .int w, .int z]))) (hv : M va = some (lab2, .inl (G.2.1 2, cap, .inl f))) (hq : cap < q) (hq2 : q ≤ 2 * cap + 2) (hc : cap ≤ 1000) : Ct l yJ3_newCapacity cJ3_newCapacity 6 (some .int) 2 0 0 G b ([.ref a, .int (nI q)] : List Value) M (pI (fun r M1 => r = nI (2 * cap + 2) ∧ M1 = M)) := by
  refine Ct.ofV (by decide) (vc_ref (vc_int vc_nil)) (Nat.le_of_ble_eq_true rfl) ?_
  intro p e s m below meth c C hnm
  refine V_L (L1 := [some (.ref a), some (.int (nI q)), none, none, none, none]) rfl ?_
  refine V_aload_n C dJ3_newCapacity_0 rfl rfl ?_
  refine V_get (C0 := RJ4) (T := TJ4) (N := 4) (ci := 8) C 0 in_J4 rfl ha (by decide) q146 (fun _ h9 => h9) rfl dJ3_newCapacity_1 ?_
  refine V_alen (ti := 2) C rfl hv dJ3_newCapacity_4 ?_
  refine V_istore_n (L' := [some (.ref a), some (.int (nI q)), some (.int (nI cap)), none, none, none]) C dJ3_newCapacity_5 rfl (by decide) rfl ?_
  refine V_iload_n C dJ3_newCapacity_6 rfl rfl ?_
  refine V_aload_n C dJ3_newCapacity_7 rfl rfl ?_
  refine V_get (C0 := RJ4) (T := TJ4) (N := 4) (ci := 8) C 1 in_J4 rfl ha (by decide) q147 (fun _ h9 => h9) rfl dJ3_newCapacity_8 ?_
  refine V_ishl C dJ3_newCapacity_11 ?_
  refine V_top (y := (nI q)) (nI_shl0 _) ?_
  refine V_istore_n (L' := [some (.ref a), some (.int (nI q)), some (.int (nI cap)), some (.int (nI q)), none, none]) C dJ3_newCapacity_12 rfl (by decide) rfl ?_
  refine V_iload_n C dJ3_newCapacity_13 rfl rfl ?_
  refine V_iload_n C dJ3_newCapacity_14 rfl rfl ?_
  refine V_isub C dJ3_newCapacity_15 ?_
  refine V_top (y := (nI (q - cap))) (pk_sub (by omega)) ?_
  refine V_istore (L' := [some (.ref a), some (.int (nI q)), some (.int (nI cap)), some (.int (nI q)), some (.int (nI (q - cap))), none]) C dJ3_newCapacity_16 (by decide) rfl ?_
  refine V_iload_n C dJ3_newCapacity_18 rfl rfl ?_
  refine V_iload C dJ3_newCapacity_19 rfl ?_
  refine V_iload_n C dJ3_newCapacity_21 rfl rfl ?_
  refine V_iconst C 2 dJ3_newCapacity_22 (by decide) ?_
  refine V_aload_n C dJ3_newCapacity_23 rfl rfl ?_
  refine V_get (C0 := RJ4) (T := TJ4) (N := 4) (ci := 8) C 1 in_J4 rfl ha (by decide) q147 (fun _ h9 => h9) rfl dJ3_newCapacity_24 ?_
  refine V_ishl C dJ3_newCapacity_27 ?_
  refine V_top (y := 2) (sb_shl0 _) ?_
  refine V_iadd C dJ3_newCapacity_28 ?_
  refine V_top (y := (nI (cap + 2))) (nI_add cap 2) ?_
  refine V_ofIe (VR_S (As := [.int (nI cap), .int (nI (q - cap)), .int (nI (cap + 2))]) (rest := []) C (ct_J11_newLength l G b M cap (q - cap) (cap + 2) (by omega) (by omega) (by omega)) (lw_S q299 q300 q51 q301) nd_J11_newLength rfl (by decide) (by decide) dJ3_newCapacity_29 rfl ⟨by decide, by decide⟩ (Nat.le_of_ble_eq_true rfl)) ?_
  refine V_top (y := (nI (2 * cap + 2))) (by rw [show cap + (cap + 2) = 2 * cap + 2 by omega]) ?_
  refine V_istore (L' := [some (.ref a), some (.int (nI q)), some (.int (nI cap)), some (.int (nI q)), some (.int (nI (q - cap))), some (.int (nI (2 * cap + 2)))]) C dJ3_newCapacity_32 (by decide) rfl ?_
  refine V_iload C dJ3_newCapacity_34 rfl ?_
  refine V_ldc (v := 2147483647) C q307 dJ3_newCapacity_36 ?_
  refine V_icmp_ne C 51 dJ3_newCapacity_38 (by decide) (fun h => ?_) (fun h => ?_)
  · skip
    refine V_iload C dJ3_newCapacity_51 rfl ?_
    refine V_aload_n C dJ3_newCapacity_53 rfl rfl ?_
    refine V_get (C0 := RJ4) (T := TJ4) (N := 4) (ci := 8) C 1 in_J4 rfl ha (by decide) q147 (fun _ h9 => h9) rfl dJ3_newCapacity_54 ?_
    refine V_ishr C dJ3_newCapacity_57 ?_
    refine V_top (y := (nI (2 * cap + 2))) (sb_shr0 _) ?_
    exact V_iret C dJ3_newCapacity_58 (by decide) (by decide) ⟨_, rfl, rfl, rfl⟩
  · exact absurd ((nI_eq (b := 2147483647) (by omega) (by decide)).mp h) (by omega)
/-- Arrays.copyOf(byte[], q), to more places -/
theorem ct_J12_copyOf (l : Launch) (G : mp_G) (b : Nat) (M : mp_M) (va n q : Nat) (f : Nat → Int32) (lab lab2 : mp_L) (hv : M va = some (lab, .inl (G.2.1 2, n, .inl f))) (hF : sb_Fit f) (hq : n < q) (hq2 : q ≤ 64) : Ct l yJ12_copyOf cJ12_copyOf 3 (some (.array .byte)) 1 1 64 G b ([.ref va, .int (nI q)] : List Value) M (pR (fun r M1 => ∃ w, r = some w ∧ M w = none ∧ M1 = mp_up M w (lab2, .inl (G.2.1 2, q, .inl (va_cpy f (fun _ => 0) 0 0 n))))) := by
  refine Ct.ofV (by decide) (vc_ref (vc_int vc_nil)) (Nat.le_of_ble_eq_true rfl) ?_
  intro p e s m below meth c C hnm
  refine V_L (L1 := [some (.ref va), some (.int (nI q)), none]) rfl ?_
  refine V_iload_n C dJ12_copyOf_0 rfl rfl ?_
  refine V_aload_n C dJ12_copyOf_1 rfl rfl ?_
  refine V_alen (ti := 2) C rfl hv dJ12_copyOf_2 ?_
  refine V_icmp_ne C 14 dJ12_copyOf_3 (by decide) (fun h => ?_) (fun h => ?_)
  · skip
    refine V_iload_n C dJ12_copyOf_14 rfl rfl ?_
    refine V_newa (atype := .byte) (ti := 2) C q lab2 q160 rfl rfl rfl (nI_pos (by omega)) (nI_clamp (by omega)) (by show q * 1 ≤ _; omega) (by first | decide | omega | (dsimp only [rmOf]; omega)) (by first | decide | omega | (dsimp only [rmOf]; omega)) dJ12_copyOf_15 (fun w0 hw => V_N (fun M1 e1 => ?_))
    have h__1 := mp_keepN e1 hv hw
    have h__2 := mp_got e1
    refine V_astore_n (L' := [some (.ref va), some (.int (nI q)), some (.ref w0)]) C dJ12_copyOf_17 rfl (by decide) rfl ?_
    refine V_aload_n C dJ12_copyOf_18 rfl rfl ?_
    refine V_iconst C 0 dJ12_copyOf_19 (by decide) ?_
    refine V_aload_n C dJ12_copyOf_20 rfl rfl ?_
    refine V_iconst C 0 dJ12_copyOf_21 (by decide) ?_
    refine V_aload_n C dJ12_copyOf_22 rfl rfl ?_
    refine V_alen (ti := 2) C rfl h__1 dJ12_copyOf_23 ?_
    refine V_iload_n C dJ12_copyOf_24 rfl rfl ?_
    refine V_mmin C q318 q319 q50 q320 (by decide) (Nat.le_of_ble_eq_true rfl) (by first | decide | omega | (dsimp only [rmOf]; omega)) (by first | decide | omega | (dsimp only [rmOf]; omega)) dJ12_copyOf_25 ?_
    refine V_top (y := (nI n)) (by rw [if_neg (nI_nlt (by omega) (by omega))]) ?_
    refine V_M (V_copyi (ti := 2) C q321 q323 q322 q53 rfl rfl h__1 h__2 (by decide) (by decide) (nI_pos (by omega)) (by rw [nI_clamp (by omega), sb_cl0]; omega) (by rw [nI_clamp (by omega), sb_cl0]; omega) (fun i _ => hF _) (by decide) (Nat.le_of_ble_eq_true rfl) dJ12_copyOf_28) (fun M2 e2 => ?_)
    have h__3 := mp_got e2
    refine V_aload_n C dJ12_copyOf_31 rfl rfl ?_
    refine V_aret (o := some w0) C (Or.inr ⟨_, rfl⟩) dJ12_copyOf_32 (by decide) (by omega) ⟨_, rfl, w0, rfl, hw, ?_⟩
    rw [e2, e1, nI_clamp (by omega), sb_cl0]
    funext x
    by_cases hx : x = w0
    · subst hx; rw [mp_self, mp_self]
    · rw [mp_ne hx, mp_ne hx, mp_ne hx]
  · exact absurd ((nI_eq (by omega) (by omega)).mp h) (by omega)
theorem tx_cpy {bs : List Nat} {f g0 : Nat → Int32} {n : Nat} (h : tx bs f) (hn : bs.length ≤ n) : tx bs (va_cpy f g0 0 0 n) := by
  intro j c hj
  have hl := (List.getElem?_eq_some_iff.mp hj).1
  rw [sb_cpy0 (by omega)]
  exact h j c hj
/-- ensureCapacityInternal(q): as it is, or twice the room -/
theorem ct_J3_ensure (l : Launch) (G : mp_G) (b : Nat) (M : mp_M) (g a cap q : Nat) (bs : List Nat) (hS : SbAt G M g a bs cap) (hq : q ≤ 2 * cap + 2) (hcap : q ≤ cap ∨ 2 * cap + 2 ≤ 64) : Ct l yJ3_ensureCapacityInternal cJ3_ensureCapacityInternal 3 (none) 3 1 64 G b ([.ref a, .int (nI q)] : List Value) M (pV (fun M1 => SbAt G M1 g a bs (if q ≤ cap then cap else 2 * cap + 2) ∧ KeepG g M M1)) := by
  have hS0 := hS
  obtain ⟨va, f, mb, ha, hv, hl, hc, hf, hF⟩ := hS
  refine Ct.ofV (by decide) (vc_ref (vc_int vc_nil)) (Nat.le_of_ble_eq_true rfl) ?_
  intro p e s m below meth c C hnm
  refine V_L (L1 := [some (.ref a), some (.int (nI q)), none]) rfl ?_
  refine V_aload_n C dJ3_ensureCapacityInternal_0 rfl rfl ?_
  refine V_get (C0 := RJ4) (T := TJ4) (N := 4) (ci := 8) C 0 in_J4 rfl ha (by decide) q146 (fun _ h9 => h9) rfl dJ3_ensureCapacityInternal_1 ?_
  refine V_alen (ti := 2) C rfl hv dJ3_ensureCapacityInternal_4 ?_
  refine V_aload_n C dJ3_ensureCapacityInternal_5 rfl rfl ?_
  refine V_get (C0 := RJ4) (T := TJ4) (N := 4) (ci := 8) C 1 in_J4 rfl ha (by decide) q147 (fun _ h9 => h9) rfl dJ3_ensureCapacityInternal_6 ?_
  refine V_ishr C dJ3_ensureCapacityInternal_9 ?_
  refine V_top (y := (nI cap)) (sb_shr0 _) ?_
  refine V_istore_n (L' := [some (.ref a), some (.int (nI q)), some (.int (nI cap))]) C dJ3_ensureCapacityInternal_10 rfl (by decide) rfl ?_
  refine V_iload_n C dJ3_ensureCapacityInternal_11 rfl rfl ?_
  refine V_iload_n C dJ3_ensureCapacityInternal_12 rfl rfl ?_
  refine V_isub C dJ3_ensureCapacityInternal_13 ?_
  refine V_if_le C 38 dJ3_ensureCapacityInternal_14 (by decide) (fun h => ?_) (fun h => ?_)
  · skip
    have hqc : q ≤ cap := by
      rcases Nat.lt_or_ge cap q with z | z
      · rw [pk_sub (by omega)] at h
        exact absurd h (nI_nle (by omega) (by omega))
      · exact z
    exact V_vret C dJ3_ensureCapacityInternal_38 (by decide) (by decide) ⟨rfl, by rw [if_pos hqc]; exact hS0, Keep.rf⟩
  · skip
    have hqc : cap < q := by
      rcases Nat.lt_or_ge cap q with z | z
      · exact z
      · rcases Nat.lt_or_ge q cap with y | y
        · exact absurd (Int32.le_of_lt (pk_sneg (by omega) y)) h
        · exact absurd (by rw [show q = cap by omega, pk_sub (Nat.le_refl _), Nat.sub_self]; decide) h
    have h64 : 2 * cap + 2 ≤ 64 := by omega
    refine V_aload_n C dJ3_ensureCapacityInternal_17 rfl rfl ?_
    refine V_aload_n C dJ3_ensureCapacityInternal_18 rfl rfl ?_
    refine V_get (C0 := RJ4) (T := TJ4) (N := 4) (ci := 8) C 0 in_J4 rfl ha (by decide) q146 (fun _ h9 => h9) rfl dJ3_ensureCapacityInternal_19 ?_
    refine V_aload_n C dJ3_ensureCapacityInternal_22 rfl rfl ?_
    refine V_iload_n C dJ3_ensureCapacityInternal_23 rfl rfl ?_
    refine V_ofIe (VR_P (As := [.int (nI q)]) (rest := [.ref va, .ref a]) C (ct_J3_newCapacity l G b M a va cap q _ _ f _ _ ha hv hqc hq hc) ha rfl q295 q1036 evs_J3_newCapacity q297 q42 q298 nd_J3_newCapacity rfl (by decide) (by decide) dJ3_ensureCapacityInternal_24 rfl ⟨by decide, by decide⟩ (Nat.le_of_ble_eq_true rfl)) ?_
    refine V_aload_n C dJ3_ensureCapacityInternal_27 rfl rfl ?_
    refine V_get (C0 := RJ4) (T := TJ4) (N := 4) (ci := 8) C 1 in_J4 rfl ha (by decide) q147 (fun _ h9 => h9) rfl dJ3_ensureCapacityInternal_28 ?_
    refine V_ishl C dJ3_ensureCapacityInternal_31 ?_
    refine V_top (y := (nI (2 * cap + 2))) (nI_shl0 _) ?_
    refine V_ofR (VR_S (As := [.ref va, .int (nI (2 * cap + 2))]) (rest := [.ref a]) C (ct_J12_copyOf l G b M va cap (2 * cap + 2) f _ (g, 1, 0) hv hF (by omega) h64) (lw_S q308 q309 q52 q310) nd_J12_copyOf rfl (by decide) (by decide) dJ3_ensureCapacityInternal_32 rfl ⟨by decide, by decide⟩ (Nat.le_of_ble_eq_true rfl)) (fun r M1 hr => ?_)
    obtain ⟨w0, rfl, hw, e1⟩ := hr
    have ha1 := mp_keepN e1 ha hw
    have hw1 := mp_got e1
    refine V_st (st1 := [.ref w0, .ref a]) rfl ?_
    refine V_M (V_put (host := "") (C0 := RJ4) (T := TJ4) (N := 4) (ci := 8) (fs' := [.ref w0, .int 0, .int (bI mb), .int (nI bs.length)]) C 0 in_J4 tyJ4 tyJ4_ok nmJ4 rfl ha1 (by decide) q146 (fun _ h9 => h9) rfl rfl rfl rfl (Nat.le_of_ble_eq_true rfl) rfl dJ3_ensureCapacityInternal_35) (fun M2 e2 => ?_)
    have h__1 := mp_got e2
    have h__2 := mp_keep e2 hw1 ha1 (by first | assumption | exact Ne.symm (by assumption) | simp | (intro h; simp at h; omega))
    refine V_vret C dJ3_ensureCapacityInternal_38 (by decide) (by decide) ⟨rfl, ?_, (Keep.new e1 hw).tr (kg_up e2 ha1)⟩
    rw [if_neg (by omega)]
    exact ⟨w0, _, mb, mp_got e2, mp_keep e2 hw1 ha1 (by simp), by omega, by omega, tx_cpy hf hl, sb_fitC hF sb_fit0⟩
/-- append(char): one byte more -/
theorem ct_J3_append (l : Launch) (G : mp_G) (b : Nat) (M : mp_M) (g a cap ch : Nat) (bs : List Nat) (hS : SbAt G M g a bs cap) (hch : ch < 256) (hcap : bs.length < cap ∨ 2 * cap + 2 ≤ 64) : Ct l yJ3_append cJ3_append 2 (some (.object "java/lang/AbstractStringBuilder")) 4 1 64 G b ([.ref a, .int (nI ch)] : List Value) M (pR (fun r M1 => r = some a ∧ SbAt G M1 g a (bs ++ [ch]) (if bs.length < cap then cap else 2 * cap + 2) ∧ KeepG g M M1)) := by
  have hS0 := hS
  obtain ⟨va, f, mb, ha, hv, hl, hc, hf, hF⟩ := hS
  refine Ct.ofV (by decide) (vc_ref (vc_int vc_nil)) (Nat.le_of_ble_eq_true rfl) ?_
  intro p e s m below meth c C hnm
  refine V_L (L1 := [some (.ref a), some (.int (nI ch))]) rfl ?_
  refine V_aload_n C dJ3_append_0 rfl rfl ?_
  refine V_aload_n C dJ3_append_1 rfl rfl ?_
  refine V_get (C0 := RJ4) (T := TJ4) (N := 4) (ci := 8) C 3 in_J4 rfl ha (by decide) q150 (fun _ h9 => h9) rfl dJ3_append_2 ?_
  refine V_iconst C 1 dJ3_append_5 (by decide) ?_
  refine V_iadd C dJ3_append_6 ?_
  refine V_top (y := (nI (bs.length + 1))) (nI_1 _) ?_
  refine V_ofV (VR_P (As := [.int (nI (bs.length + 1))]) (rest := []) C (ct_J3_ensure l G b M g a cap (bs.length + 1) bs hS0 (by omega) (by omega)) ha rfl q291 q1035 evs_J3_ensureCapacityInternal q293 q42 q294 nd_J3_ensureCapacityInternal rfl (by decide) (by decide) dJ3_append_7 rfl ⟨by decide, by decide⟩ (Nat.le_of_ble_eq_true rfl)) (fun M1 hM1 => ?_)
  obtain ⟨hS1, hK1⟩ := hM1
  obtain ⟨cap1, hcap1⟩ : ∃ c1, c1 = (if bs.length + 1 ≤ cap then cap else 2 * cap + 2) := ⟨_, rfl⟩
  rw [← hcap1] at hS1
  have hlt : bs.length < cap1 := by rw [hcap1]; split <;> omega
  obtain ⟨va1, f1, mb1, ha1, hv1, hl1, hc1, hf1, hF1⟩ := hS1
  refine V_aload_n C dJ3_append_10 rfl rfl ?_
  refine V_ofIe (VR_U (owner := RJ3) (As := []) (rest := []) C (ct_J3_isLatin1 l G b M1 a va1 _ _ _ ha1) ha1 rfl (lw_U q324 q326 q327 q325 q42 q328) rfl nd_J3_isLatin1 rfl (by decide) (by decide) dJ3_append_11 rfl ⟨by decide, by decide⟩ (Nat.le_of_ble_eq_true rfl)) ?_
  refine V_if_eq C 45 dJ3_append_14 (by decide) (fun h => ?_) (fun h => ?_)
  · exact absurd h (by decide)
  · skip
    refine V_iload_n C dJ3_append_17 rfl rfl ?_
    refine V_ofIe (VR_S (As := [.int (nI ch)]) (rest := []) C (ct_J9_canEncode l G b M1 ch hch) (lw_S q349 q350 q49 q351) nd_J9_canEncode rfl (by decide) (by decide) dJ3_append_18 rfl ⟨by decide, by decide⟩ (Nat.le_of_ble_eq_true rfl)) ?_
    refine V_if_eq C 45 dJ3_append_21 (by decide) (fun h => ?_) (fun h => ?_)
    · exact absurd h (by decide)
    · skip
      refine V_aload_n C dJ3_append_24 rfl rfl ?_
      refine V_get (C0 := RJ4) (T := TJ4) (N := 4) (ci := 8) C 0 in_J4 rfl ha1 (by decide) q146 (fun _ h9 => h9) rfl dJ3_append_25 ?_
      refine V_aload_n C dJ3_append_28 rfl rfl ?_
      refine V_dup C dJ3_append_29 rfl ?_
      refine V_get (C0 := RJ4) (T := TJ4) (N := 4) (ci := 8) C 3 in_J4 rfl ha1 (by decide) q150 (fun _ h9 => h9) rfl dJ3_append_30 ?_
      refine V_dup_x1 C dJ3_append_33 rfl rfl ?_
      refine V_iconst C 1 dJ3_append_34 (by decide) ?_
      refine V_iadd C dJ3_append_35 ?_
      refine V_top (y := (nI (bs.length + 1))) (nI_1 _) ?_
      refine V_M (V_put (host := "") (C0 := RJ4) (T := TJ4) (N := 4) (ci := 8) (fs' := [.ref va1, .int 0, .int (bI mb1), .int (nI (bs.length + 1))]) C 3 in_J4 tyJ4 tyJ4_ok nmJ4 rfl ha1 (by decide) q150 (fun _ h9 => h9) rfl rfl rfl rfl (Nat.le_of_ble_eq_true rfl) rfl dJ3_append_36) (fun M2 e2 => ?_)
      have h__1 := mp_got e2
      have h__2 := mp_keep e2 hv1 ha1 (by first | assumption | exact Ne.symm (by assumption) | simp | (intro h; simp at h; omega))
      refine V_iload_n C dJ3_append_39 rfl rfl ?_
      refine V_i2b C (sb_b ch) dJ3_append_40 rfl ?_
      refine V_M (V_bast C h__2 (pk_in bs.length cap1 hlt) dJ3_append_41) (fun M3 e3 => ?_)
      have h__3 := mp_got e3
      rw [nI_clamp (by omega), show vp_nar .byte (sb_b ch) = sb_b ch from pk_vb _] at h__3
      have h__4 := mp_keep e3 h__1 h__2 (by first | assumption | exact Ne.symm (by assumption) | simp | (intro h; simp at h; omega))
      refine V_goto C 75 dJ3_append_42 (by decide) ?_
      refine V_aload_n C dJ3_append_75 rfl rfl ?_
      rw [show (if bs.length < cap then cap else 2 * cap + 2) = cap1 from hcap1.symm]
      refine V_aret (o := some a) C (Or.inl ⟨_, rfl⟩) dJ3_append_76 (by decide) (by decide) ⟨_, rfl, rfl, ⟨va1, _, mb1, ?_, h__3, ?_, ?_, tx_push hf1 hch, sb_fitU hF1 (sb_fitB ch)⟩, hK1.tr ((kg_up e2 ha1).tr (kg_up e3 h__2))⟩
      · rw [h__4, List.length_append]; rfl
      · rw [List.length_append]; exact hlt
      · exact hc1
theorem ct_J4_append (l : Launch) (G : mp_G) (b : Nat) (M : mp_M) (g a cap ch : Nat) (bs : List Nat) (hS : SbAt G M g a bs cap) (hch : ch < 256) (hcap : bs.length < cap ∨ 2 * cap + 2 ≤ 64) : Ct l yJ4_append cJ4_append 2 (some (.object "java/lang/StringBuilder")) 5 1 64 G b ([.ref a, .int (nI ch)] : List Value) M (pR (fun r M1 => r = some a ∧ SbAt G M1 g a (bs ++ [ch]) (if bs.length < cap then cap else 2 * cap + 2) ∧ KeepG g M M1)) := by
  have hS0 := hS
  obtain ⟨va, f, mb, ha, hv, hl, hc, hf, hF⟩ := hS
  refine Ct.ofV (by decide) (vc_ref (vc_int vc_nil)) (Nat.le_of_ble_eq_true rfl) ?_
  intro p e s m below meth c C hnm
  refine V_L (L1 := [some (.ref a), some (.int (nI ch))]) rfl ?_
  refine V_aload_n C dJ4_append_0 rfl rfl ?_
  refine V_iload_n C dJ4_append_1 rfl rfl ?_
  refine V_ofR (VR_SU (As := [.int (nI ch)]) (rest := []) C (ct_J3_append l G b M g a cap ch bs hS0 hch hcap) ha rfl (lw_SU q346 q1037 q159 q347 q42 q348) ns_J3_append rfl (by decide) (by decide) dJ4_append_2 rfl ⟨by decide, by decide⟩ (Nat.le_of_ble_eq_true rfl)) (fun r M1 hM1 => ?_)
  obtain ⟨rfl, hM1⟩ := hM1
  refine V_pop C dJ4_append_5 (vcat_rf _) ?_
  refine V_aload_n C dJ4_append_6 rfl rfl ?_
  exact V_aret (o := some a) C (Or.inl ⟨_, rfl⟩) dJ4_append_7 (by decide) (by decide) ⟨_, rfl, rfl, hM1⟩
/-- String.getBytes(dst, at, 0): its bytes copied -/
theorem ct_J5_getBytes (l : Launch) (G : mp_G) (b : Nat) (M : mp_M) (g2 sa va cap k : Nat) (cs : List Nat) (f : Nat → Int32) (lab : mp_L) (hS2 : StrAt G M g2 sa cs) (hv : M va = some (lab, .inl (G.2.1 2, cap, .inl f))) (hk : k + cs.length ≤ cap) (hc : cap ≤ 1000) : Ct l yJ5_getBytes cJ5_getBytes 4 (none) 1 0 0 G b ([.ref sa, .ref va, .int (nI k), .int 0] : List Value) M (pV (fun M1 => ∃ f2, tx cs f2 ∧ M1 = mp_up M va (lab, .inl (G.2.1 2, cap, .inl (va_cpy f2 f 0 k cs.length))))) := by
  obtain ⟨wa, f2, x, z, i, j, hs, hw, hf2, hn2⟩ := hS2
  refine Ct.ofV (by decide) (vc_ref (vc_ref (vc_int (vc_int vc_nil)))) (Nat.le_of_ble_eq_true rfl) ?_
  intro p e s m below meth c C hnm
  refine V_L (L1 := [some (.ref sa), some (.ref va), some (.int (nI k)), some (.int 0)]) rfl ?_
  refine V_aload_n C dJ5_getBytes_0 rfl rfl ?_
  refine V_ofIe (VR_V (As := []) (rest := []) C (ct_J5_coder l G b M sa wa x z _ hs) hs rfl (lw_V q659 q660 q661 q44 q662) rfl nd_J5_coder rfl (by decide) (by decide) dJ5_getBytes_1 rfl ⟨by decide, by decide⟩ (Nat.le_of_ble_eq_true rfl)) ?_
  refine V_iload_n C dJ5_getBytes_4 rfl rfl ?_
  refine V_icmp_ne C 28 dJ5_getBytes_5 (by decide) (fun h => ?_) (fun h => ?_)
  · exact absurd rfl h
  · skip
    refine V_aload_n C dJ5_getBytes_8 rfl rfl ?_
    refine V_get (C0 := RJ5) (T := TJ5) (N := 4) (ci := 9) C 0 in_J5 rfl hs (by decide) q434 (fun _ h9 => h9) rfl dJ5_getBytes_9 ?_
    refine V_iconst C 0 dJ5_getBytes_12 (by decide) ?_
    refine V_aload_n C dJ5_getBytes_13 rfl rfl ?_
    refine V_iload_n C dJ5_getBytes_14 rfl rfl ?_
    refine V_iload_n C dJ5_getBytes_15 rfl rfl ?_
    refine V_ishl C dJ5_getBytes_16 ?_
    refine V_top (y := (nI k)) (sb_shl0 _) ?_
    refine V_aload_n C dJ5_getBytes_17 rfl rfl ?_
    refine V_get (C0 := RJ5) (T := TJ5) (N := 4) (ci := 9) C 0 in_J5 rfl hs (by decide) q434 (fun _ h9 => h9) rfl dJ5_getBytes_18 ?_
    refine V_alen (ti := 2) C rfl hw dJ5_getBytes_21 ?_
    refine V_M (V_copyi (ti := 2) C q676 q323 q322 q53 rfl rfl hw hv (by decide) (nI_pos (by omega)) (nI_pos (by omega)) (by rw [nI_clamp (by omega), sb_cl0]; omega) (by rw [nI_clamp (by omega), nI_clamp (by omega)]; omega) (fun i hi => by rw [sb_cl0, Nat.zero_add]; rw [nI_clamp (by omega)] at hi; rw [(tx_at hf2 hi).2]; exact sb_fitB _) (by decide) (Nat.le_of_ble_eq_true rfl) dJ5_getBytes_22) (fun M1 e1 => ?_)
    have h__1 := mp_got e1
    refine V_goto C 43 dJ5_getBytes_25 (by decide) ?_
    exact V_vret C dJ5_getBytes_43 (by decide) (by decide) ⟨rfl, f2, hf2, by rw [e1, nI_clamp (by omega), nI_clamp (by omega), sb_cl0]⟩
theorem ct_J3_inflateIf (l : Launch) (G : mp_G) (b : Nat) (M : mp_M) (a va sa : Nat) (w z : Int32) (lab : mp_L) (ha : M a = some (lab, .inr (8, [.ref va, .int 0, .int w, .int z]))) (g2 : Nat) (cs : List Nat) (hS2 : StrAt G M g2 sa cs) : Ct l yJ3_inflateIfNeededFor cJ3_inflateIfNeededFor 2 (none) 1 0 0 G b ([.ref a, .ref sa] : List Value) M (pV (fun M1 => M1 = M)) := by
  obtain ⟨wa, f2, x, z2, i, j, hs, hw, hf2, hn2⟩ := hS2
  refine Ct.ofV (by decide) (vc_ref (vc_ref vc_nil)) (Nat.le_of_ble_eq_true rfl) ?_
  intro p e s m below meth c C hnm
  refine V_L (L1 := [some (.ref a), some (.ref sa)]) rfl ?_
  refine V_gets C C.2.2.2.1.2.2.2.1 q137 (fun _ h9 => h9) dJ3_inflateIfNeededFor_0 ?_
  refine V_if_eq C 21 dJ3_inflateIfNeededFor_3 (by decide) (fun h => ?_) (fun h => ?_)
  · exact absurd h (by decide)
  · skip
    refine V_aload_n C dJ3_inflateIfNeededFor_6 rfl rfl ?_
    refine V_get (C0 := RJ4) (T := TJ4) (N := 4) (ci := 8) C 1 in_J4 rfl ha (by decide) q147 (fun _ h9 => h9) rfl dJ3_inflateIfNeededFor_7 ?_
    refine V_aload_n C dJ3_inflateIfNeededFor_10 rfl rfl ?_
    refine V_ofIe (VR_V (As := []) (rest := [.int 0]) C (ct_J5_coder l G b M sa wa x z2 _ hs) hs rfl (lw_V q671 q660 q661 q44 q662) rfl nd_J5_coder rfl (by decide) (by decide) dJ3_inflateIfNeededFor_11 rfl ⟨by decide, by decide⟩ (Nat.le_of_ble_eq_true rfl)) ?_
    refine V_icmp_eq C 21 dJ3_inflateIfNeededFor_14 (by decide) (fun h => ?_) (fun h => ?_)
    · skip
      exact V_vret C dJ3_inflateIfNeededFor_21 (by decide) (by decide) ⟨rfl, rfl⟩
    · exact absurd rfl h
theorem ct_J3_putStringAt (l : Launch) (G : mp_G) (b : Nat) (M : mp_M) (a va sa cap k : Nat) (w z : Int32) (f : Nat → Int32) (lab lab2 : mp_L) (ha : M a = some (lab, .inr (8, [.ref va, .int 0, .int w, .int z]))) (hv : M va = some (lab2, .inl (G.2.1 2, cap, .inl f))) (g2 : Nat) (cs : List Nat) (hS2 : StrAt G M g2 sa cs) (hk : k + cs.length ≤ cap) (hc : cap ≤ 1000) : Ct l yJ3_putStringAt cJ3_putStringAt 3 (none) 2 0 0 G b ([.ref a, .int (nI k), .ref sa] : List Value) M (pV (fun M1 => ∃ f2, tx cs f2 ∧ M1 = mp_up M va (lab2, .inl (G.2.1 2, cap, .inl (va_cpy f2 f 0 k cs.length))))) := by
  have hS3 := hS2
  obtain ⟨wa, f2, x, z2, i, j, hs, hw, hf2, hn2⟩ := hS2
  refine Ct.ofV (by decide) (vc_ref (vc_int (vc_ref vc_nil))) (Nat.le_of_ble_eq_true rfl) ?_
  intro p e s m below meth c C hnm
  refine V_L (L1 := [some (.ref a), some (.int (nI k)), some (.ref sa)]) rfl ?_
  refine V_aload_n C dJ3_putStringAt_0 rfl rfl ?_
  refine V_aload_n C dJ3_putStringAt_1 rfl rfl ?_
  refine V_ofVe (VR_P (As := [.ref sa]) (rest := []) C (ct_J3_inflateIf l G b M a va sa w z _ ha g2 cs hS3) ha rfl q667 q1045 evs_J3_inflateIfNeededFor q669 q42 q670 nd_J3_inflateIfNeededFor rfl (by decide) (by decide) dJ3_putStringAt_2 rfl ⟨by decide, by decide⟩ (Nat.le_of_ble_eq_true rfl)) ?_
  refine V_aload_n C dJ3_putStringAt_5 rfl rfl ?_
  refine V_aload_n C dJ3_putStringAt_6 rfl rfl ?_
  refine V_get (C0 := RJ4) (T := TJ4) (N := 4) (ci := 8) C 0 in_J4 rfl ha (by decide) q146 (fun _ h9 => h9) rfl dJ3_putStringAt_7 ?_
  refine V_iload_n C dJ3_putStringAt_10 rfl rfl ?_
  refine V_aload_n C dJ3_putStringAt_11 rfl rfl ?_
  refine V_get (C0 := RJ4) (T := TJ4) (N := 4) (ci := 8) C 1 in_J4 rfl ha (by decide) q147 (fun _ h9 => h9) rfl dJ3_putStringAt_12 ?_
  refine V_ofV (VR_V (As := [.ref va, .int (nI k), .int 0]) (rest := []) C (ct_J5_getBytes l G b M g2 sa va cap k cs f _ hS3 hv hk hc) hs rfl (lw_V q672 q673 q674 q44 q675) rfl nd_J5_getBytes rfl (by decide) (by decide) dJ3_putStringAt_15 rfl ⟨by decide, by decide⟩ (Nat.le_of_ble_eq_true rfl)) (fun M1 hM1 => ?_)
  exact V_vret C dJ3_putStringAt_18 (by decide) (by decide) ⟨rfl, hM1⟩
theorem tx_cat {bs cs : List Nat} {f f2 : Nat → Int32} (h : tx bs f) (h2 : tx cs f2) : tx (bs ++ cs) (va_cpy f2 f 0 bs.length cs.length) := by
  intro j c hj
  rcases Nat.lt_or_ge j bs.length with q | q
  · rw [List.getElem?_append_left q] at hj
    rw [pk_cpy_out (Or.inl q)]
    exact h j c hj
  · rw [List.getElem?_append_right q] at hj
    have hl := (List.getElem?_eq_some_iff.mp hj).1
    rw [pk_cpy_in q (by omega), Nat.zero_add]
    exact h2 _ c hj
theorem tx_fit {cs : List Nat} {f f2 : Nat → Int32} {k : Nat} (h2 : tx cs f2) (hF : sb_Fit f) : sb_Fit (va_cpy f2 f 0 k cs.length) := by
  intro j
  unfold va_cpy
  split
  · rw [Nat.zero_add, (tx_at h2 (by omega)).2]
    exact sb_fitB _
  · exact hF j
/-- append(String), where there is room -/
theorem ct_J3_append_2 (l : Launch) (G : mp_G) (b : Nat) (M : mp_M) (g a cap : Nat) (bs : List Nat) (hS : SbAt G M g a bs cap) (g2 sa : Nat) (cs : List Nat) (hS2 : StrAt G M g2 sa cs) (hg : g2 ≠ g) (hk : bs.length + cs.length ≤ cap) : Ct l yJ3_append_2 cJ3_append_2 3 (some (.object "java/lang/AbstractStringBuilder")) 4 1 64 G b ([.ref a, .ref sa] : List Value) M (pR (fun r M1 => r = some a ∧ SbAt G M1 g a (bs ++ cs) cap ∧ KeepG g M M1)) := by
  have hS0 := hS
  obtain ⟨va, f, mb, ha, hv, hl, hc, hf, hF⟩ := hS
  have hS3 := hS2
  obtain ⟨wa, f2, x, z2, i, j, hs, hw, hf2, hn2⟩ := hS2
  refine Ct.ofV (by decide) (vc_ref (vc_ref vc_nil)) (Nat.le_of_ble_eq_true rfl) ?_
  intro p e s m below meth c C hnm
  refine V_L (L1 := [some (.ref a), some (.ref sa), none]) rfl ?_
  refine V_aload_n C dJ3_append_2_0 rfl rfl ?_
  refine V_ifnonnull_R C 9 dJ3_append_2_1 (by decide) ?_
  refine V_aload_n C dJ3_append_2_9 rfl rfl ?_
  refine V_ofIe (VR_V (As := []) (rest := []) C (ct_J5_length l G b M g2 sa cs hS3) hs rfl (lw_V q655 q656 q657 q44 q658) rfl nd_J5_length rfl (by decide) (by decide) dJ3_append_2_10 rfl ⟨by decide, by decide⟩ (Nat.le_of_ble_eq_true rfl)) ?_
  refine V_istore_n (L' := [some (.ref a), some (.ref sa), some (.int (nI cs.length))]) C dJ3_append_2_13 rfl (by decide) rfl ?_
  refine V_aload_n C dJ3_append_2_14 rfl rfl ?_
  refine V_aload_n C dJ3_append_2_15 rfl rfl ?_
  refine V_get (C0 := RJ4) (T := TJ4) (N := 4) (ci := 8) C 3 in_J4 rfl ha (by decide) q150 (fun _ h9 => h9) rfl dJ3_append_2_16 ?_
  refine V_iload_n C dJ3_append_2_19 rfl rfl ?_
  refine V_iadd C dJ3_append_2_20 ?_
  refine V_top (y := (nI (bs.length + cs.length))) (nI_add _ _) ?_
  refine V_ofV (VR_P (As := [.int (nI (bs.length + cs.length))]) (rest := []) C (ct_J3_ensure l G b M g a cap (bs.length + cs.length) bs hS0 (by omega) (Or.inl hk)) ha rfl q291 q1035 evs_J3_ensureCapacityInternal q293 q42 q294 nd_J3_ensureCapacityInternal rfl (by decide) (by decide) dJ3_append_2_21 rfl ⟨by decide, by decide⟩ (Nat.le_of_ble_eq_true rfl)) (fun M1 hM1 => ?_)
  obtain ⟨hS1, hK1⟩ := hM1
  rw [if_pos hk] at hS1
  obtain ⟨va1, f1, mb1, ha1, hv1, hl1, hc1, hf1, hF1⟩ := hS1
  have hs1 := hK1 _ _ _ hs hg
  have hw1 := hK1 _ _ _ hw hg
  refine V_aload_n C dJ3_append_2_24 rfl rfl ?_
  refine V_aload_n C dJ3_append_2_25 rfl rfl ?_
  refine V_get (C0 := RJ4) (T := TJ4) (N := 4) (ci := 8) C 3 in_J4 rfl ha1 (by decide) q150 (fun _ h9 => h9) rfl dJ3_append_2_26 ?_
  refine V_aload_n C dJ3_append_2_29 rfl rfl ?_
  refine V_ofV (VR_P (As := [.int (nI bs.length), .ref sa]) (rest := []) C (ct_J3_putStringAt l G b M1 a va1 sa cap bs.length _ _ f1 _ _ ha1 hv1 g2 cs ⟨wa, f2, x, z2, i, j, hs1, hw1, hf2, hn2⟩ hk hc) ha1 rfl q663 q1044 evs_J3_putStringAt q665 q42 q666 nd_J3_putStringAt rfl (by decide) (by decide) dJ3_append_2_30 rfl ⟨by decide, by decide⟩ (Nat.le_of_ble_eq_true rfl)) (fun M2 hM2 => ?_)
  obtain ⟨f3, hf3, e2⟩ := hM2
  have ha2 := mp_keep e2 ha1 hv1 (by simp)
  have hv2 := mp_got e2
  refine V_aload_n C dJ3_append_2_33 rfl rfl ?_
  refine V_dup C dJ3_append_2_34 rfl ?_
  refine V_get (C0 := RJ4) (T := TJ4) (N := 4) (ci := 8) C 3 in_J4 rfl ha2 (by decide) q150 (fun _ h9 => h9) rfl dJ3_append_2_35 ?_
  refine V_iload_n C dJ3_append_2_38 rfl rfl ?_
  refine V_iadd C dJ3_append_2_39 ?_
  refine V_top (y := (nI (bs.length + cs.length))) (nI_add _ _) ?_
  refine V_M (V_put (host := "") (C0 := RJ4) (T := TJ4) (N := 4) (ci := 8) (fs' := [.ref va1, .int 0, .int (bI mb1), .int (nI (bs.length + cs.length))]) C 3 in_J4 tyJ4 tyJ4_ok nmJ4 rfl ha2 (by decide) q150 (fun _ h9 => h9) rfl rfl rfl rfl (Nat.le_of_ble_eq_true rfl) rfl dJ3_append_2_40) (fun M3 e3 => ?_)
  have h__1 := mp_got e3
  have h__2 := mp_keep e3 hv2 ha2 (by first | assumption | exact Ne.symm (by assumption) | simp | (intro h; simp at h; omega))
  refine V_aload_n C dJ3_append_2_43 rfl rfl ?_
  refine V_aret (o := some a) C (Or.inl ⟨_, rfl⟩) dJ3_append_2_44 (by decide) (by decide) ⟨_, rfl, rfl, ⟨va1, _, mb1, ?_, mp_keep e3 hv2 ha2 (by simp), ?_, hc, tx_cat hf1 hf3, tx_fit hf3 hF1⟩, hK1.tr ((kg_up e2 hv1).tr (kg_up e3 ha2))⟩
  · rw [mp_got e3, List.length_append]
  · rw [List.length_append]; exact hk
theorem ct_J4_append_2 (l : Launch) (G : mp_G) (b : Nat) (M : mp_M) (g a cap : Nat) (bs : List Nat) (hS : SbAt G M g a bs cap) (g2 sa : Nat) (cs : List Nat) (hS2 : StrAt G M g2 sa cs) (hg : g2 ≠ g) (hk : bs.length + cs.length ≤ cap) : Ct l yJ4_append_2 cJ4_append_2 2 (some (.object "java/lang/StringBuilder")) 5 1 64 G b ([.ref a, .ref sa] : List Value) M (pR (fun r M1 => r = some a ∧ SbAt G M1 g a (bs ++ cs) cap ∧ KeepG g M M1)) := by
  have hS0 := hS
  obtain ⟨va, f, mb, ha, hv, hl, hc, hf, hF⟩ := hS
  refine Ct.ofV (by decide) (vc_ref (vc_ref vc_nil)) (Nat.le_of_ble_eq_true rfl) ?_
  intro p e s m below meth c C hnm
  refine V_L (L1 := [some (.ref a), some (.ref sa)]) rfl ?_
  refine V_aload_n C dJ4_append_2_0 rfl rfl ?_
  refine V_aload_n C dJ4_append_2_1 rfl rfl ?_
  refine V_ofR (VR_SU (As := [.ref sa]) (rest := []) C (ct_J3_append_2 l G b M g a cap bs hS0 g2 sa cs hS2 hg hk) ha rfl (lw_SU q636 q1042 q159 q637 q42 q638) ns_J3_append_2 rfl (by decide) (by decide) dJ4_append_2_2 rfl ⟨by decide, by decide⟩ (Nat.le_of_ble_eq_true rfl)) (fun r M1 hM1 => ?_)
  obtain ⟨rfl, hM1⟩ := hM1
  refine V_pop C dJ4_append_2_5 (vcat_rf _) ?_
  refine V_aload_n C dJ4_append_2_6 rfl rfl ?_
  exact V_aret (o := some a) C (Or.inl ⟨_, rfl⟩) dJ4_append_2_7 (by decide) (by decide) ⟨_, rfl, rfl, hM1⟩
/-- setCharAt(k, ch) -/
theorem ct_J3_setCharAt (l : Launch) (G : mp_G) (b : Nat) (M : mp_M) (g a cap k ch : Nat) (bs : List Nat) (hS : SbAt G M g a bs cap) (hch : ch < 256) (hk : k < bs.length) : Ct l yJ3_setCharAt cJ3_setCharAt 3 (none) 3 0 0 G b ([.ref a, .int (nI k), .int (nI ch)] : List Value) M (pV (fun M1 => SbAt G M1 g a (bs.set k ch) cap ∧ KeepG g M M1)) := by
  obtain ⟨va, f, mb, ha, hv, hl, hc, hf, hF⟩ := hS
  refine Ct.ofV (by decide) (vc_ref (vc_int (vc_int vc_nil))) (Nat.le_of_ble_eq_true rfl) ?_
  intro p e s m below meth c C hnm
  refine V_L (L1 := [some (.ref a), some (.int (nI k)), some (.int (nI ch))]) rfl ?_
  refine V_iload_n C dJ3_setCharAt_0 rfl rfl ?_
  refine V_aload_n C dJ3_setCharAt_1 rfl rfl ?_
  refine V_get (C0 := RJ4) (T := TJ4) (N := 4) (ci := 8) C 3 in_J4 rfl ha (by decide) q150 (fun _ h9 => h9) rfl dJ3_setCharAt_2 ?_
  refine V_ofVe (VR_S (As := [.int (nI k), .int (nI bs.length)]) (rest := []) C (ct_J5_checkIndex l G b M (nI k) (nI bs.length) (nI_pos (by omega)) (nI_lt hk (by omega))) (lw_S q392 q240 q44 q241) nd_J5_checkIndex rfl (by decide) (by decide) dJ3_setCharAt_5 rfl ⟨by decide, by decide⟩ (Nat.le_of_ble_eq_true rfl)) ?_
  refine V_aload_n C dJ3_setCharAt_8 rfl rfl ?_
  refine V_ofIe (VR_U (owner := RJ3) (As := []) (rest := []) C (ct_J3_isLatin1 l G b M a va _ _ _ ha) ha rfl (lw_U q324 q326 q327 q325 q42 q328) rfl nd_J3_isLatin1 rfl (by decide) (by decide) dJ3_setCharAt_9 rfl ⟨by decide, by decide⟩ (Nat.le_of_ble_eq_true rfl)) ?_
  refine V_if_eq C 33 dJ3_setCharAt_12 (by decide) (fun h => ?_) (fun h => ?_)
  · exact absurd h (by decide)
  · skip
    refine V_iload_n C dJ3_setCharAt_15 rfl rfl ?_
    refine V_ofIe (VR_S (As := [.int (nI ch)]) (rest := []) C (ct_J9_canEncode l G b M ch hch) (lw_S q349 q350 q49 q351) nd_J9_canEncode rfl (by decide) (by decide) dJ3_setCharAt_16 rfl ⟨by decide, by decide⟩ (Nat.le_of_ble_eq_true rfl)) ?_
    refine V_if_eq C 33 dJ3_setCharAt_19 (by decide) (fun h => ?_) (fun h => ?_)
    · exact absurd h (by decide)
    · skip
      refine V_aload_n C dJ3_setCharAt_22 rfl rfl ?_
      refine V_get (C0 := RJ4) (T := TJ4) (N := 4) (ci := 8) C 0 in_J4 rfl ha (by decide) q146 (fun _ h9 => h9) rfl dJ3_setCharAt_23 ?_
      refine V_iload_n C dJ3_setCharAt_26 rfl rfl ?_
      refine V_iload_n C dJ3_setCharAt_27 rfl rfl ?_
      refine V_i2b C (sb_b ch) dJ3_setCharAt_28 rfl ?_
      refine V_M (V_bast C hv (pk_in k cap (by omega)) dJ3_setCharAt_29) (fun M3 e3 => ?_)
      have h__1 := mp_got e3
      rw [nI_clamp (by omega), show vp_nar .byte (sb_b ch) = sb_b ch from pk_vb _] at h__1
      have h__2 := mp_keep e3 ha hv (by first | assumption | exact Ne.symm (by assumption) | simp | (intro h; simp at h; omega))
      refine V_goto C 58 dJ3_setCharAt_30 (by decide) ?_
      refine V_vret C dJ3_setCharAt_58 (by decide) (by decide) ⟨rfl, ⟨va, _, mb, ?_, h__1, ?_, hc, tx_set hf hch, sb_fitU hF (sb_fitB ch)⟩, kg_up e3 hv⟩
      · rw [h__2, List.length_set]
      · rw [List.length_set]; exact hl
theorem ct_J4_setCharAt (l : Launch) (G : mp_G) (b : Nat) (M : mp_M) (g a cap k ch : Nat) (bs : List Nat) (hS : SbAt G M g a bs cap) (hch : ch < 256) (hk : k < bs.length) : Ct l yJ4_setCharAt cJ4_setCharAt 3 (none) 4 0 0 G b ([.ref a, .int (nI k), .int (nI ch)] : List Value) M (pV (fun M1 => SbAt G M1 g a (bs.set k ch) cap ∧ KeepG g M M1)) := by
  have hS0 := hS
  obtain ⟨va, f, mb, ha, hv, hl, hc, hf, hF⟩ := hS
  refine Ct.ofV (by decide) (vc_ref (vc_int (vc_int vc_nil))) (Nat.le_of_ble_eq_true rfl) ?_
  intro p e s m below meth c C hnm
  refine V_L (L1 := [some (.ref a), some (.int (nI k)), some (.int (nI ch))]) rfl ?_
  refine V_aload_n C dJ4_setCharAt_0 rfl rfl ?_
  refine V_iload_n C dJ4_setCharAt_1 rfl rfl ?_
  refine V_iload_n C dJ4_setCharAt_2 rfl rfl ?_
  refine V_ofV (VR_SU (As := [.int (nI k), .int (nI ch)]) (rest := []) C (ct_J3_setCharAt l G b M g a cap k ch bs hS0 hch hk) ha rfl (lw_SU q389 q1040 q159 q390 q42 q391) ns_J3_setCharAt rfl (by decide) (by decide) dJ4_setCharAt_3 rfl ⟨by decide, by decide⟩ (Nat.le_of_ble_eq_true rfl)) (fun M1 hM1 => ?_)
  exact V_vret C dJ4_setCharAt_6 (by decide) (by decide) ⟨rfl, hM1⟩
/-- setLength(n), to fewer -/
theorem ct_J3_setLength (l : Launch) (G : mp_G) (b : Nat) (M : mp_M) (g a cap n : Nat) (bs : List Nat) (hS : SbAt G M g a bs cap) (hn : n ≤ bs.length) : Ct l yJ3_setLength cJ3_setLength 2 (none) 4 1 64 G b ([.ref a, .int (nI n)] : List Value) M (pV (fun M1 => SbAt G M1 g a (bs.take n) cap ∧ KeepG g M M1)) := by
  have hS0 := hS
  obtain ⟨va, f, mb, ha, hv, hl, hc, hf, hF⟩ := hS
  refine Ct.ofV (by decide) (vc_ref (vc_int vc_nil)) (Nat.le_of_ble_eq_true rfl) ?_
  intro p e s m below meth c C hnm
  refine V_L (L1 := [some (.ref a), some (.int (nI n))]) rfl ?_
  refine V_iload_n C dJ3_setLength_0 rfl rfl ?_
  refine V_if_ge C 13 dJ3_setLength_1 (by decide) (fun h => ?_) (fun h => ?_)
  · skip
    refine V_aload_n C dJ3_setLength_13 rfl rfl ?_
    refine V_iload_n C dJ3_setLength_14 rfl rfl ?_
    refine V_ofV (VR_P (As := [.int (nI n)]) (rest := []) C (ct_J3_ensure l G b M g a cap n bs hS0 (by omega) (by omega)) ha rfl q291 q1035 evs_J3_ensureCapacityInternal q293 q42 q294 nd_J3_ensureCapacityInternal rfl (by decide) (by decide) dJ3_setLength_15 rfl ⟨by decide, by decide⟩ (Nat.le_of_ble_eq_true rfl)) (fun M1 hM1 => ?_)
    obtain ⟨hS1, hK1⟩ := hM1
    rw [if_pos (show n ≤ cap by omega)] at hS1
    obtain ⟨va1, f1, mb1, ha1, hv1, hl1, hc1, hf1, hF1⟩ := hS1
    refine V_aload_n C dJ3_setLength_18 rfl rfl ?_
    refine V_get (C0 := RJ4) (T := TJ4) (N := 4) (ci := 8) C 3 in_J4 rfl ha1 (by decide) q150 (fun _ h9 => h9) rfl dJ3_setLength_19 ?_
    refine V_iload_n C dJ3_setLength_22 rfl rfl ?_
    refine V_icmp_ge C 63 dJ3_setLength_23 (by decide) (fun h2 => ?_) (fun h2 => ?_)
    · skip
      refine V_aload_n C dJ3_setLength_63 rfl rfl ?_
      refine V_get (C0 := RJ4) (T := TJ4) (N := 4) (ci := 8) C 3 in_J4 rfl ha1 (by decide) q150 (fun _ h9 => h9) rfl dJ3_setLength_64 ?_
      refine V_iload_n C dJ3_setLength_67 rfl rfl ?_
      refine V_icmp_le C 76 dJ3_setLength_68 (by decide) (fun h3 => ?_) (fun h3 => ?_)
      · skip
        refine V_aload_n C dJ3_setLength_76 rfl rfl ?_
        refine V_iload_n C dJ3_setLength_77 rfl rfl ?_
        refine V_M (V_put (host := "") (C0 := RJ4) (T := TJ4) (N := 4) (ci := 8) (fs' := [.ref va1, .int 0, .int (bI mb1), .int (nI n)]) C 3 in_J4 tyJ4 tyJ4_ok nmJ4 rfl ha1 (by decide) q150 (fun _ h9 => h9) rfl rfl rfl rfl (Nat.le_of_ble_eq_true rfl) rfl dJ3_setLength_78) (fun M2 e2 => ?_)
        have h__1 := mp_got e2
        have h__2 := mp_keep e2 hv1 ha1 (by first | assumption | exact Ne.symm (by assumption) | simp | (intro h; simp at h; omega))
        refine V_vret C dJ3_setLength_81 (by decide) (by decide) ⟨rfl, ⟨va1, f1, mb1, ?_, h__2, ?_, hc1, tx_take hf1, hF1⟩, hK1.tr (kg_up e2 ha1)⟩
        · rw [h__1, List.length_take, Nat.min_eq_left hn]
        · rw [List.length_take]; omega
      · skip
        refine V_aload_n C dJ3_setLength_71 rfl rfl ?_
        refine V_iconst C 1 dJ3_setLength_72 (by decide) ?_
        refine V_M (V_put (host := "") (C0 := RJ4) (T := TJ4) (N := 4) (ci := 8) (fs' := [.ref va1, .int 0, .int 1, .int (nI bs.length)]) C 2 in_J4 tyJ4 tyJ4_ok nmJ4 rfl ha1 (by decide) q148 (fun _ h9 => h9) rfl rfl rfl rfl (Nat.le_of_ble_eq_true rfl) rfl dJ3_setLength_73) (fun M2 e2 => ?_)
        have h__3 := mp_got e2
        have h__4 := mp_keep e2 hv1 ha1 (by first | assumption | exact Ne.symm (by assumption) | simp | (intro h; simp at h; omega))
        refine V_aload_n C dJ3_setLength_76 rfl rfl ?_
        refine V_iload_n C dJ3_setLength_77 rfl rfl ?_
        refine V_M (V_put (host := "") (C0 := RJ4) (T := TJ4) (N := 4) (ci := 8) (fs' := [.ref va1, .int 0, .int 1, .int (nI n)]) C 3 in_J4 tyJ4 tyJ4_ok nmJ4 rfl h__3 (by decide) q150 (fun _ h9 => h9) rfl rfl rfl rfl (Nat.le_of_ble_eq_true rfl) rfl dJ3_setLength_78) (fun M3 e3 => ?_)
        have h__5 := mp_got e3
        have h__6 := mp_keep e3 h__4 h__3 (by first | assumption | exact Ne.symm (by assumption) | simp | (intro h; simp at h; omega))
        refine V_vret C dJ3_setLength_81 (by decide) (by decide) ⟨rfl, ⟨va1, f1, true, ?_, h__6, ?_, hc1, tx_take hf1, hF1⟩, hK1.tr ((kg_up e2 ha1).tr (kg_up e3 h__3))⟩
        · rw [h__5, List.length_take, Nat.min_eq_left hn]; rfl
        · rw [List.length_take]; omega
    · exact absurd (nI_le hn (by omega)) h2
  · exact absurd (nI_pos' (by omega)) h
theorem ct_J4_setLength (l : Launch) (G : mp_G) (b : Nat) (M : mp_M) (g a cap n : Nat) (bs : List Nat) (hS : SbAt G M g a bs cap) (hn : n ≤ bs.length) : Ct l yJ4_setLength cJ4_setLength 2 (none) 5 1 64 G b ([.ref a, .int (nI n)] : List Value) M (pV (fun M1 => SbAt G M1 g a (bs.take n) cap ∧ KeepG g M M1)) := by
  have hS0 := hS
  obtain ⟨va, f, mb, ha, hv, hl, hc, hf, hF⟩ := hS
  refine Ct.ofV (by decide) (vc_ref (vc_int vc_nil)) (Nat.le_of_ble_eq_true rfl) ?_
  intro p e s m below meth c C hnm
  refine V_L (L1 := [some (.ref a), some (.int (nI n))]) rfl ?_
  refine V_aload_n C dJ4_setLength_0 rfl rfl ?_
  refine V_iload_n C dJ4_setLength_1 rfl rfl ?_
  refine V_ofV (VR_SU (As := [.int (nI n)]) (rest := []) C (ct_J3_setLength l G b M g a cap n bs hS0 hn) ha rfl (lw_SU q288 q1034 q159 q289 q42 q290) ns_J3_setLength rfl (by decide) (by decide) dJ4_setLength_2 rfl ⟨by decide, by decide⟩ (Nat.le_of_ble_eq_true rfl)) (fun M1 hM1 => ?_)
  exact V_vret C dJ4_setLength_5 (by decide) (by decide) ⟨rfl, hM1⟩

