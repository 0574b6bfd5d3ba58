set_option maxRecDepth 100000
/-! JDK, A: bounds checks, String's readers -/
def tx (bs : List Nat) (f : Nat → Int32) : Prop := ∀ (j c : Nat), bs[j]? = some c → c < 256 ∧ f j = sb_b c
/-- a String of the bytes bs: labels (g, 10, i), (g, 11, j) -/
def StrAt (G : mp_G) (M : mp_M) (g a : Nat) (bs : List Nat) : Prop := ∃ (va : Nat) (f : Nat → Int32) (h z : Int32) (i j : Nat), M a = some ((g, 10, i), .inr (9, [.ref va, .int 0, .int h, .int z])) ∧ M va = some ((g, 11, j), .inl (G.2.1 2, bs.length, .inl f)) ∧ tx bs f ∧ bs.length ≤ 65536
set_option maxHeartbeats 1000000 in
theorem ct_J8_checkIndex (l : Launch) (G : mp_G) (b : Nat) (M : mp_M) (x y : Int32) (o : Option Nat) (h0 : ¬ x < 0) (h1 : x < y) : Ct l yJ8_checkIndex cJ8_checkIndex 3 (some .int) 0 0 0 G b ([.int x, .int y, va_rf o] : List Value) M (pI (fun r M1 => r = x ∧ M1 = M)) := by
  refine Ct.ofV (by decide) (vc_int (vc_int (vc_q vc_nil))) (Nat.le_of_ble_eq_true rfl) ?_
  intro p e s m below meth c C hnm
  refine V_L (L1 := [some (.int x), some (.int y), some (va_rf o)]) rfl ?_
  refine V_iload_n C dJ8_checkIndex_0 rfl rfl ?_
  refine V_if_lt C 9 dJ8_checkIndex_1 (by decide) (fun h => ?_) (fun h => ?_)
  · exact absurd h h0
  · skip
    refine V_iload_n C dJ8_checkIndex_4 rfl rfl ?_
    refine V_iload_n C dJ8_checkIndex_5 rfl rfl ?_
    refine V_icmp_lt C 16 dJ8_checkIndex_6 (by decide) (fun h => ?_) (fun h => ?_)
    · skip
      refine V_iload_n C dJ8_checkIndex_16 rfl rfl ?_
      exact V_iret C dJ8_checkIndex_17 (by decide) (by decide) ⟨_, rfl, rfl, rfl⟩
    · exact absurd h1 h
theorem ct_J7_checkIndex (l : Launch) (G : mp_G) (b : Nat) (M : mp_M) (x y : Int32) (h0 : ¬ x < 0) (h1 : x < y) : Ct l yJ7_checkIndex cJ7_checkIndex 2 (some .int) 1 0 0 G b ([.int x, .int y] : List Value) M (pI (fun r M1 => r = x ∧ M1 = M)) := by
  refine Ct.ofV (by decide) (vc_int (vc_int vc_nil)) (Nat.le_of_ble_eq_true rfl) ?_
  intro p e s m below meth c C hnm
  refine V_L (L1 := [some (.int x), some (.int y)]) rfl ?_
  refine V_iload_n C dJ7_checkIndex_0 rfl rfl ?_
  refine V_iload_n C dJ7_checkIndex_1 rfl rfl ?_
  refine V_null C dJ7_checkIndex_2 ?_
  refine V_ofIe (VR_S (As := [.int x, .int y, .null]) (rest := []) C (ct_J8_checkIndex l G b M x y none h0 h1) (lw_S q215 q216 q48 q217) nd_J8_checkIndex rfl (by decide) (by decide) dJ7_checkIndex_3 rfl ⟨by decide, by decide⟩ (Nat.le_of_ble_eq_true rfl)) ?_
  exact V_iret C dJ7_checkIndex_6 (by decide) (by decide) ⟨_, rfl, rfl, rfl⟩
theorem ct_J5_checkIndex (l : Launch) (G : mp_G) (b : Nat) (M : mp_M) (x y : Int32) (h0 : ¬ x < 0) (h1 : x < y) : Ct l yJ5_checkIndex cJ5_checkIndex 2 (none) 1 0 0 G b ([.int x, .int y] : List Value) M (pV (fun M1 => M1 = M)) := by
  refine Ct.ofV (by decide) (vc_int (vc_int vc_nil)) (Nat.le_of_ble_eq_true rfl) ?_
  intro p e s m below meth c C hnm
  refine V_L (L1 := [some (.int x), some (.int y)]) rfl ?_
  refine V_iload_n C dJ5_checkIndex_0 rfl rfl ?_
  refine V_iload_n C dJ5_checkIndex_1 rfl rfl ?_
  obtain ⟨o, hZ⟩ := C.2.2.2.1.2.2.2.2.2.2
  refine V_gets C hZ q242 (fun _ h9 => h9) dJ5_checkIndex_2 ?_
  refine V_ofIe (VR_S (As := [.int x, .int y, va_rf o]) (rest := []) C (ct_J8_checkIndex l G b M x y o h0 h1) (lw_S q244 q216 q48 q217) nd_J8_checkIndex rfl (by decide) (by decide) dJ5_checkIndex_5 rfl ⟨by decide, by decide⟩ (Nat.le_of_ble_eq_true rfl)) ?_
  refine V_pop C dJ5_checkIndex_8 rfl ?_
  exact V_vret C dJ5_checkIndex_9 (by decide) (by decide) ⟨rfl, rfl⟩
theorem ct_J9_canEncode (l : Launch) (G : mp_G) (b : Nat) (M : mp_M) (k : Nat) (hk : k < 256) : Ct l yJ9_canEncode cJ9_canEncode 1 (some .boolean) 0 0 0 G b ([.int (nI k)] : List Value) M (pI (fun r M1 => r = 1 ∧ M1 = M)) := by
  refine Ct.ofV (by decide) (vc_int vc_nil) (Nat.le_of_ble_eq_true rfl) ?_
  intro p e s m below meth c C hnm
  refine V_L (L1 := [some (.int (nI k))]) rfl ?_
  refine V_iload_n C dJ9_canEncode_0 rfl rfl ?_
  refine V_sipush C 255 dJ9_canEncode_1 (by decide) ?_
  refine V_icmp_gt C 11 dJ9_canEncode_4 (by decide) (fun h => ?_) (fun h => ?_)
  · exact absurd h (nI_nlt (show k ≤ 255 by omega) (by decide))
  · skip
    refine V_iconst C 1 dJ9_canEncode_7 (by decide) ?_
    refine V_goto C 12 dJ9_canEncode_8 (by decide) ?_
    exact V_zret C rfl dJ9_canEncode_12 (by decide) (by decide) ⟨_, rfl, rfl, rfl⟩
theorem ct_J9_charAt (l : Launch) (G : mp_G) (b : Nat) (M : mp_M) (va k n cc0 : Nat) (f : Nat → Int32) (lab : mp_L) (hv : M va = some (lab, .inl (G.2.1 2, n, .inl f))) (hk : k < n) (hn : n ≤ 65536) (hc : cc0 < 256) (hf : f k = sb_b cc0) : Ct l yJ9_charAt cJ9_charAt 2 (some .char) 2 0 0 G b ([.ref va, .int (nI k)] : List Value) M (pI (fun r M1 => r = nI cc0 ∧ M1 = M)) := by
  refine Ct.ofV (by decide) (vc_ref (vc_int vc_nil)) (Nat.le_of_ble_eq_true rfl) ?_
  intro p e s m below meth c C hnm
  refine V_L (L1 := [some (.ref va), some (.int (nI k))]) rfl ?_
  refine V_iload_n C dJ9_charAt_0 rfl rfl ?_
  refine V_aload_n C dJ9_charAt_1 rfl rfl ?_
  refine V_alen (ti := 2) C rfl hv dJ9_charAt_2 ?_
  refine V_ofVe (VR_S (As := [.int (nI k), .int (nI n)]) (rest := []) C (ct_J5_checkIndex l G b M (nI k) (nI n) (nI_pos (by omega)) (nI_lt hk (by omega))) (lw_S q239 q240 q44 q241) nd_J5_checkIndex rfl (by decide) (by decide) dJ9_charAt_3 rfl ⟨by decide, by decide⟩ (Nat.le_of_ble_eq_true rfl)) ?_
  refine V_aload_n C dJ9_charAt_6 rfl rfl ?_
  refine V_iload_n C dJ9_charAt_7 rfl rfl ?_
  refine V_bald C hv (pk_in k n hk) dJ9_charAt_8 ?_
  refine V_sipush C 255 dJ9_charAt_9 (by decide) ?_
  refine V_iand C dJ9_charAt_12 ?_
  refine V_top (y := (nI cc0)) (by rw [nI_clamp (by omega), hf]; exact (sb_byte cc0 hc).1) ?_
  refine V_i2c C (nI cc0) dJ9_charAt_13 (sb_byte cc0 hc).2.1 ?_
  exact V_zret C (pk_charN (by omega)).1 dJ9_charAt_14 (by decide) (by decide) ⟨_, rfl, rfl, rfl⟩

