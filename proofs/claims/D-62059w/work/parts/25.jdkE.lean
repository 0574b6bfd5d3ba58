set_option maxRecDepth 100000
/-! JDK, E: ArrayList.add, remove -/
theorem isObj.ext {M M1 : mp_M} {y : Nat} (h : isObj M y) (he : Ext M M1) : isObj M1 y := by
  obtain ⟨la, ci, fs, r, h1, h2, h3⟩ := h
  exact ⟨la, ci, fs, r, he _ _ h1, h2, h3⟩
theorem isObj.up {M M1 : mp_M} {y a : Nat} {x : mp_L × va_E} (h : isObj M y) (e : M1 = mp_up M a x) (ha : ∀ (la : mp_L) (z : Nat × List Value), M a ≠ some (la, .inr z)) : isObj M1 y := by
  obtain ⟨la, ci, fs, r, h1, h2, h3⟩ := h
  refine ⟨la, ci, fs, r, ?_, h2, h3⟩
  rw [e, mp_ne (fun z => ?_)]
  · exact h1
  · rw [z] at h1
    exact ha _ _ h1
theorem isObj.obj {M M1 : mp_M} {y a : Nat} {la : mp_L} {ci : Nat} {fs fs2 : List Value} (h : isObj M y) (e : M1 = mp_up M a (la, .inr (ci, fs2))) (ha : M a = some (la, .inr (ci, fs))) : isObj M1 y := by
  by_cases q : y = a
  · subst q
    obtain ⟨la2, ci2, fs3, r, h1, h2, h3⟩ := h
    rw [ha] at h1
    simp only [Option.some.injEq, Prod.mk.injEq, Sum.inr.injEq] at h1
    obtain ⟨rfl, rfl, rfl⟩ := h1
    exact ⟨_, _, fs2, r, mp_got e, h2, h3⟩
  · obtain ⟨la2, ci2, fs3, r, h1, h2, h3⟩ := h
    exact ⟨la2, ci2, fs3, r, by rw [e, mp_ne q]; exact h1, h2, h3⟩
theorem ct_J12_copyOf_3 (l : Launch) (G : mp_G) (b : Nat) (M : mp_M) (va n q : Nat) (f : Nat → Option Nat) (lab lab2 : mp_L) (hv : M va = some (lab, .inl (G.2.1 3, n, .inr (.inr (.inr (.inr f)))))) (hel : ∀ i, i < n → ∀ y, f i = some y → isObj M y) (hq : n < q) (hq2 : q ≤ 100) : Ct l yJ12_copyOf_3 cJ12_copyOf_3 4 (some (.array (.object "java/lang/Object"))) 1 1 100 G b ([.ref va, .int (nI q), .ref (G.2.1 9)] : List Value) M (pR (fun r M1 => ∃ w, r = some w ∧ M w = none ∧ M1 = mp_up M w (lab2, .inl (G.2.1 3, q, .inr (.inr (.inr (.inr (va_cpy f (fun _ => none) 0 0 n)))))))) := by
  refine Ct.ofV (by decide) (vc_ref (vc_int (vc_ref vc_nil))) (Nat.le_of_ble_eq_true rfl) ?_
  intro p e s m below meth c C hnm
  refine V_L (L1 := [some (.ref va), some (.int (nI q)), some (.ref (G.2.1 9)), none]) rfl ?_
  refine V_aload_n C dJ12_copyOf_3_0 rfl rfl ?_
  refine V_ldcM C q574 C.2.2.2.1.2.2.1.2.2.2.2.2.2.2.2.2.1 dJ12_copyOf_3_1 ?_
  refine V_acmp_ne (rx := some (G.2.1 9)) (ry := some (G.2.1 9)) C 13 dJ12_copyOf_3_3 (by decide) (fun h => ?_) (fun h => ?_)
  · exact absurd rfl h
  · skip
    refine V_iload_n C dJ12_copyOf_3_6 rfl rfl ?_
    refine V_newq (ti := 3) C q lab2 q576 C.2.2.2.1.2.2.1.2.2.2.2.1 rfl (nI_pos (by omega)) (nI_clamp (by omega)) (by omega) (by first | decide | omega | (dsimp only [rmOf]; omega)) (by first | decide | omega | (dsimp only [rmOf]; omega)) dJ12_copyOf_3_7 (fun w0 hw => V_N (fun M1 e1 => ?_))
    have h__1 := mp_keepN e1 hv hw
    have h__2 := mp_got e1
    refine V_goto C 24 dJ12_copyOf_3_10 (by decide) ?_
    refine V_astore_n (L' := [some (.ref va), some (.int (nI q)), some (.ref (G.2.1 9)), some (.ref w0)]) C dJ12_copyOf_3_24 rfl (by decide) rfl ?_
    refine V_aload_n C dJ12_copyOf_3_25 rfl rfl ?_
    refine V_iconst C 0 dJ12_copyOf_3_26 (by decide) ?_
    refine V_aload_n C dJ12_copyOf_3_27 rfl rfl ?_
    refine V_iconst C 0 dJ12_copyOf_3_28 (by decide) ?_
    refine V_aload_n C dJ12_copyOf_3_29 rfl rfl ?_
    refine V_alen (ti := 3) C rfl h__1 dJ12_copyOf_3_30 ?_
    refine V_iload_n C dJ12_copyOf_3_31 rfl rfl ?_
    refine V_mmin C q318 q319 q50 q320 (by decide) (Nat.le_of_ble_eq_true rfl) (by first | decide | omega | (dsimp only [rmOf]; omega)) (by first | decide | omega | (dsimp only [rmOf]; omega)) dJ12_copyOf_3_32 ?_
    refine V_top (y := (nI n)) (by rw [if_neg (nI_nlt (by omega) (by omega))]) ?_
    refine V_M (V_copyM C q321 q323 q322 q53 h__1 h__2 (by decide) (by decide) (nI_pos (by omega)) (by rw [nI_clamp (by omega), sb_cl0]; omega) (by rw [nI_clamp (by omega), sb_cl0]; omega) (fun i hi y hy => by rw [nI_clamp (by omega)] at hi; rw [sb_cl0, Nat.zero_add] at hy; exact (hel i hi y hy).ext (Ext.new e1 hw)) (by decide) (Nat.le_of_ble_eq_true rfl) dJ12_copyOf_3_35) (fun M2 e2 => ?_)
    have h__3 := mp_got e2
    refine V_aload_n C dJ12_copyOf_3_38 rfl rfl ?_
    refine V_aret (o := some w0) C (Or.inr ⟨_, rfl⟩) dJ12_copyOf_3_39 (by decide) (by omega) ⟨_, rfl, w0, rfl, hw, ?_⟩
    rw [e2, e1, nI_clamp (by omega), sb_cl0]
    funext x
    by_cases hx : x = w0
    · subst hx; rw [mp_self, mp_self]
    · rw [mp_ne hx, mp_ne hx, mp_ne hx]
theorem ct_J12_copyOf_2 (l : Launch) (G : mp_G) (b : Nat) (M : mp_M) (va n q : Nat) (f : Nat → Option Nat) (lab lab2 : mp_L) (hv : M va = some (lab, .inl (G.2.1 3, n, .inr (.inr (.inr (.inr f)))))) (hel : ∀ i, i < n → ∀ y, f i = some y → isObj M y) (hq : n < q) (hq2 : q ≤ 100) : Ct l yJ12_copyOf_2 cJ12_copyOf_2 2 (some (.array (.object "java/lang/Object"))) 2 1 100 G b ([.ref va, .int (nI q)] : List Value) M (pR (fun r M1 => ∃ w, r = some w ∧ M w = none ∧ M1 = mp_up M w (lab2, .inl (G.2.1 3, q, .inr (.inr (.inr (.inr (va_cpy f (fun _ => none) 0 0 n)))))))) := by
  refine Ct.ofV (by decide) (vc_ref (vc_int vc_nil)) (Nat.le_of_ble_eq_true rfl) ?_
  intro p e s m below meth c C hnm
  refine V_L (L1 := [some (.ref va), some (.int (nI q))]) rfl ?_
  refine V_aload_n C dJ12_copyOf_2_0 rfl rfl ?_
  refine V_iload_n C dJ12_copyOf_2_1 rfl rfl ?_
  refine V_aload_n C dJ12_copyOf_2_2 rfl rfl ?_
  refine V_getC C q557 q1058 q558 q570 C.2.2.2.1.2.2.1.2.2.2.2.2.2.2.2.2.1 hv (by decide) (Nat.le_of_ble_eq_true rfl) dJ12_copyOf_2_3 ?_
  refine V_ofR (VR_S (As := [.ref va, .int (nI q), .ref (G.2.1 9)]) (rest := []) C (ct_J12_copyOf_3 l G b M va n q f lab lab2 hv hel hq hq2) (lw_S q571 q572 q52 q573) nd_J12_copyOf_3 rfl (by decide) (by decide) dJ12_copyOf_2_6 rfl ⟨by decide, by decide⟩ (Nat.le_of_ble_eq_true rfl)) (fun r M1 hr => ?_)
  exact V_aret C (Or.inr ⟨_, rfl⟩) dJ12_copyOf_2_9 (by decide) (by decide) ⟨_, rfl, hr⟩
/-- a full list: no room left -/
def AlF (G : mp_G) (M : mp_M) (l1 l2 : mp_L) (a : Nat) (xs : List Nat) : Prop := ∃ mo : Int32, (xs = [] ∧ M a = some (l1, .inr (7, [.int mo, .ref G.2.2, .int 0]))) ∨ ∃ (arr : Nat) (f : Nat → Option Nat), M a = some (l1, .inr (7, [.int mo, .ref arr, .int (nI xs.length)])) ∧ M arr = some (l2, .inl (G.2.1 3, xs.length, .inr (.inr (.inr (.inr f))))) ∧ 10 ≤ xs.length ∧ ∀ (j x : Nat), xs[j]? = some x → f j = some x
theorem alf_obj {G : mp_G} {M : mp_M} {l1 l2 : mp_L} {a : Nat} {xs : List Nat} (h : AlF G M l1 l2 a xs) : ∃ (mo : Int32) (arr : Nat), M a = some (l1, .inr (7, [.int mo, .ref arr, .int (nI xs.length)])) := by
  obtain ⟨mo, ⟨h1, h2⟩ | ⟨arr, f, h1, -⟩⟩ := h
  · exact ⟨mo, _, by rw [h2, h1]; rfl⟩
  · exact ⟨mo, arr, h1⟩
/-- what grow leaves: a wider array with the same elements -/
def AlGr (G : mp_G) (M : mp_M) (l1 l2 : mp_L) (a : Nat) (xs : List Nat) (w : Nat) : Prop := ∃ (mo : Int32) (n : Nat) (f : Nat → Option Nat), M a = some (l1, .inr (7, [.int mo, .ref w, .int (nI xs.length)])) ∧ M w = some (l2, .inl (G.2.1 3, n, .inr (.inr (.inr (.inr f))))) ∧ xs.length < n ∧ 10 ≤ n ∧ n ≤ 100 ∧ ∀ (j x : Nat), xs[j]? = some x → f j = some x
theorem cpyq0 {f g : Nat → Option Nat} {n j : Nat} (h : j < n) : va_cpy f g 0 0 n j = f j := by
  rw [pk_cpy_in (Nat.zero_le _) (by omega), Nat.zero_add, Nat.sub_zero]
theorem nI_half {n : Nat} (h : n < 2 ^ 31) : nI n >>> ((1 : Int32) &&& 31) = nI (n / 2) := pk_shrN h _ 1 (by decide)
theorem ct_J2_grow_2 (l : Launch) (G : mp_G) (b : Nat) (M : mp_M) (a : Nat) (l1 l2 : mp_L) (hne : l1 ≠ l2) (xs : List Nat) (h : AlF G M l1 l2 a xs) (hob : ∀ x ∈ xs, isObj M x) (h40 : xs.length ≤ 40) : Ct l yJ2_grow_2 cJ2_grow_2 4 (some (.array (.object "java/lang/Object"))) 3 1 100 G b ([.ref a, .int (nI (xs.length + 1))] : List Value) M (pR (fun r M1 => ∃ w, r = some w ∧ AlGr G M1 l1 l2 a xs w ∧ ExtB a M M1)) := by
  obtain ⟨mo, ⟨h1, ha⟩ | ⟨arr, f, ha, hr, h10, hf⟩⟩ := h
  · refine Ct.ofV (by decide) (vc_ref (vc_int vc_nil)) (Nat.le_of_ble_eq_true rfl) ?_
    intro p e s m below meth c C hnm
    refine V_L (L1 := [some (.ref a), some (.int (nI (xs.length + 1))), none, none]) rfl ?_
    refine V_aload_n C dJ2_grow_2_0 rfl rfl ?_
    refine V_get (C0 := RJ2) (T := TJ2) (N := 3) (ci := 7) C 1 in_J2 rfl ha (by decide) q103 (fun _ h9 => h9) rfl dJ2_grow_2_1 ?_
    refine V_tlen C C.2.2.2.1.2.2.2.2.2.1 dJ2_grow_2_4 ?_
    refine V_istore_n (L' := [some (.ref a), some (.int (nI (xs.length + 1))), some (.int (nI 0)), none]) C dJ2_grow_2_5 rfl (by decide) rfl ?_
    refine V_iload_n C dJ2_grow_2_6 rfl rfl ?_
    refine V_if_gt C 20 dJ2_grow_2_7 (by decide) (fun hb => ?_) (fun hb => ?_)
    · exact absurd hb (by decide)
    · skip
      refine V_aload_n C dJ2_grow_2_10 rfl rfl ?_
      refine V_get (C0 := RJ2) (T := TJ2) (N := 3) (ci := 7) C 1 in_J2 rfl ha (by decide) q103 (fun _ h9 => h9) rfl dJ2_grow_2_11 ?_
      refine V_gets C C.2.2.2.1.2.2.2.2.1 q101 (fun _ h9 => h9) dJ2_grow_2_14 ?_
      refine V_acmp_eq (rx := some G.2.2) (ry := some G.2.2) C 45 dJ2_grow_2_17 (by decide) (fun hb2 => ?_) (fun hb2 => ?_)
      · skip
        refine V_aload_n C dJ2_grow_2_45 rfl rfl ?_
        refine V_bipush C 10 dJ2_grow_2_46 (by decide) ?_
        refine V_iload_n C dJ2_grow_2_48 rfl rfl ?_
        refine V_mmax C q577 q278 q50 q279 (by decide) (Nat.le_of_ble_eq_true rfl) (by first | decide | omega | (dsimp only [rmOf]; omega)) (by first | decide | omega | (dsimp only [rmOf]; omega)) dJ2_grow_2_49 ?_
        refine V_top (y := 10) (by rw [h1]; decide) ?_
        refine V_newq (ti := 3) C 10 l2 q578 C.2.2.2.1.2.2.1.2.2.2.2.1 rfl (by decide) (by decide) (by decide) (by first | decide | omega | (dsimp only [rmOf]; omega)) (by first | decide | omega | (dsimp only [rmOf]; omega)) dJ2_grow_2_52 (fun w0 hw => V_N (fun M1 e1 => ?_))
        have h__1 := mp_keepN e1 ha hw
        have h__2 := mp_got e1
        refine V_dup_x1 C dJ2_grow_2_55 rfl rfl ?_
        refine V_M (V_put (host := "") (C0 := RJ2) (T := TJ2) (N := 3) (ci := 7) (fs' := [.int mo, .ref w0, .int 0]) C 1 in_J2 tyJ2 tyJ2_ok nmJ2 rfl h__1 (by decide) q103 (fun _ h9 => h9) rfl rfl rfl rfl (Nat.le_of_ble_eq_true rfl) rfl dJ2_grow_2_56) (fun M2 e2 => ?_)
        have h__3 := mp_got e2
        have h__4 := mp_keep e2 h__2 h__1 (by first | assumption | exact Ne.symm (by assumption) | simp | (intro h; simp at h; omega))
        exact V_aret (o := some w0) C (Or.inr ⟨_, rfl⟩) dJ2_grow_2_59 (by decide) (by decide) ⟨_, rfl, w0, rfl, ⟨mo, 10, fun _ => none, by rw [h__3, h1]; rfl, h__4, by rw [h1]; decide, by decide, by decide, fun j x hx => by rw [h1] at hx; simp at hx⟩, (Ext.new e1 hw).b.tr (ExtB.up e2)⟩
      · exact absurd rfl hb2
  · refine Ct.ofV (by decide) (vc_ref (vc_int vc_nil)) (Nat.le_of_ble_eq_true rfl) ?_
    intro p e s m below meth c C hnm
    refine V_L (L1 := [some (.ref a), some (.int (nI (xs.length + 1))), none, none]) rfl ?_
    refine V_aload_n C dJ2_grow_2_0 rfl rfl ?_
    refine V_get (C0 := RJ2) (T := TJ2) (N := 3) (ci := 7) C 1 in_J2 rfl ha (by decide) q103 (fun _ h9 => h9) rfl dJ2_grow_2_1 ?_
    refine V_alen (ti := 3) C rfl hr dJ2_grow_2_4 ?_
    refine V_istore_n (L' := [some (.ref a), some (.int (nI (xs.length + 1))), some (.int (nI xs.length)), none]) C dJ2_grow_2_5 rfl (by decide) rfl ?_
    refine V_iload_n C dJ2_grow_2_6 rfl rfl ?_
    refine V_if_gt C 20 dJ2_grow_2_7 (by decide) (fun hb => ?_) (fun hb => ?_)
    · skip
      refine V_iload_n C dJ2_grow_2_20 rfl rfl ?_
      refine V_iload_n C dJ2_grow_2_21 rfl rfl ?_
      refine V_iload_n C dJ2_grow_2_22 rfl rfl ?_
      refine V_isub C dJ2_grow_2_23 ?_
      refine V_top (y := (nI 1)) (by rw [pk_sub (by omega)]; congr 1; omega) ?_
      refine V_iload_n C dJ2_grow_2_24 rfl rfl ?_
      refine V_iconst C 1 dJ2_grow_2_25 (by decide) ?_
      refine V_ishr C dJ2_grow_2_26 ?_
      refine V_top (y := (nI (xs.length / 2))) (nI_half (by omega)) ?_
      refine V_ofIe (VR_S (As := [.int (nI xs.length), .int (nI 1), .int (nI (xs.length / 2))]) (rest := []) C (ct_J11_newLength l G b M xs.length 1 (xs.length / 2) (by omega) (by omega) (by omega)) (lw_S q553 q300 q51 q301) nd_J11_newLength rfl (by decide) (by decide) dJ2_grow_2_27 rfl ⟨by decide, by decide⟩ (Nat.le_of_ble_eq_true rfl)) ?_
      refine V_istore_n (L' := [some (.ref a), some (.int (nI (xs.length + 1))), some (.int (nI xs.length)), some (.int (nI (xs.length + xs.length / 2)))]) C dJ2_grow_2_30 rfl (by decide) rfl ?_
      refine V_aload_n C dJ2_grow_2_31 rfl rfl ?_
      refine V_aload_n C dJ2_grow_2_32 rfl rfl ?_
      refine V_get (C0 := RJ2) (T := TJ2) (N := 3) (ci := 7) C 1 in_J2 rfl ha (by decide) q103 (fun _ h9 => h9) rfl dJ2_grow_2_33 ?_
      refine V_iload_n C dJ2_grow_2_36 rfl rfl ?_
      refine V_ofR (VR_S (As := [.ref arr, .int (nI (xs.length + xs.length / 2))]) (rest := [.ref a]) C (ct_J12_copyOf_2 l G b M arr xs.length (xs.length + xs.length / 2) f _ l2 hr (fun i hi y hy => by rw [hf i _ (List.getElem?_eq_getElem hi)] at hy; cases hy; exact hob _ (List.getElem_mem hi)) (by omega) (by omega)) (lw_S q554 q555 q52 q556) nd_J12_copyOf_2 rfl (by decide) (by decide) dJ2_grow_2_37 rfl ⟨by decide, by decide⟩ (Nat.le_of_ble_eq_true rfl)) (fun r M1 hr1 => ?_)
      obtain ⟨w0, rfl, hw, e1⟩ := hr1
      have ha1 := mp_keepN e1 ha hw
      have hw1 := mp_got e1
      refine V_st (st1 := [.ref w0, .ref a]) rfl ?_
      refine V_dup_x1 C dJ2_grow_2_40 rfl rfl ?_
      refine V_M (V_put (host := "") (C0 := RJ2) (T := TJ2) (N := 3) (ci := 7) (fs' := [.int mo, .ref w0, .int (nI xs.length)]) C 1 in_J2 tyJ2 tyJ2_ok nmJ2 rfl ha1 (by decide) q103 (fun _ h9 => h9) rfl rfl rfl rfl (Nat.le_of_ble_eq_true rfl) rfl dJ2_grow_2_41) (fun M2 e2 => ?_)
      have h__5 := mp_got e2
      have h__6 := mp_keep e2 hw1 ha1 (by first | assumption | exact Ne.symm (by assumption) | simp | (intro h; simp at h; omega))
      exact V_aret (o := some w0) C (Or.inr ⟨_, rfl⟩) dJ2_grow_2_44 (by decide) (by decide) ⟨_, rfl, w0, rfl, ⟨mo, xs.length + xs.length / 2, _, h__5, h__6, by omega, by omega, by omega, fun j x hx => by rw [cpyq0 (by have := (List.getElem?_eq_some_iff.mp hx).1; omega)]; exact hf j x hx⟩, (Ext.new e1 hw).b.tr (ExtB.up e2)⟩
    · exact absurd (nI_lt (a := 0) (by omega) (by omega)) hb

theorem ct_J2_grow (l : Launch) (G : mp_G) (b : Nat) (M : mp_M) (a : Nat) (l1 l2 : mp_L) (hne : l1 ≠ l2) (xs : List Nat) (h : AlF G M l1 l2 a xs) (hob : ∀ x ∈ xs, isObj M x) (h40 : xs.length ≤ 40) : Ct l yJ2_grow cJ2_grow 1 (some (.array (.object "java/lang/Object"))) 4 1 100 G b ([.ref a] : List Value) M (pR (fun r M1 => ∃ w, r = some w ∧ AlGr G M1 l1 l2 a xs w ∧ ExtB a M M1)) := by
  obtain ⟨mo, arr, ha⟩ := alf_obj h
  refine Ct.ofV (by decide) (vc_ref vc_nil) (Nat.le_of_ble_eq_true rfl) ?_
  intro p e s m below meth c C hnm
  refine V_L (L1 := [some (.ref a)]) rfl ?_
  refine V_aload_n C dJ2_grow_0 rfl rfl ?_
  refine V_aload_n C dJ2_grow_1 rfl rfl ?_
  refine V_get (C0 := RJ2) (T := TJ2) (N := 3) (ci := 7) C 2 in_J2 rfl ha (by decide) q104 (fun _ h9 => h9) rfl dJ2_grow_2 ?_
  refine V_iconst C 1 dJ2_grow_5 (by decide) ?_
  refine V_iadd C dJ2_grow_6 ?_
  refine V_top (y := (nI (xs.length + 1))) (nI_1 _) ?_
  refine V_ofR (VR_V (As := [.int (nI (xs.length + 1))]) (rest := []) C (ct_J2_grow_2 l G b M a l1 l2 hne xs h hob h40) ha rfl (lw_V q549 q551 qs3 q41 q552) rfl nd_J2_grow_2 rfl (by decide) (by decide) dJ2_grow_7 rfl ⟨by decide, by decide⟩ (Nat.le_of_ble_eq_true rfl)) (fun r M1 hr => ?_)
  exact V_aret C (Or.inr ⟨_, rfl⟩) dJ2_grow_10 (by decide) (by decide) ⟨_, rfl, hr⟩
/-- behind grow, or where there is room: the element is laid, the size counted -/
theorem ct_J2_add_2 (l : Launch) (G : mp_G) (b : Nat) (M : mp_M) (a x arr : Nat) (mo : Int32) (l1 l2 : mp_L) (hne : l1 ≠ l2) (xs : List Nat) (h : AlAt G M l1 l2 a xs) (ha : M a = some (l1, .inr (7, [.int mo, .ref arr, .int (nI xs.length)]))) (hob : ∀ x ∈ xs, isObj M x) (hx : isObj M x) (hxl : ∀ (la : mp_L) (z : va_E), M x = some (la, z) → la ≠ l1 ∧ la ≠ l2) (h40 : xs.length ≤ 40) : Ct l yJ2_add_2 cJ2_add_2 4 (none) 5 1 100 G b ([.ref a, .ref x, .ref arr, .int (nI xs.length)] : List Value) M (pV (fun M1 => AlAt G M1 l1 l2 a (xs ++ [x]) ∧ Keep (fun la => la = l1 ∨ la = l2) M M1)) := by
  refine Ct.ofV (by decide) (vc_ref (vc_ref (vc_ref (vc_int vc_nil)))) (Nat.le_of_ble_eq_true rfl) ?_
  intro p e s m below meth c C hnm
  refine V_L (L1 := [some (.ref a), some (.ref x), some (.ref arr), some (.int (nI xs.length))]) rfl ?_
  have tail : ∀ (M1 : mp_M) (w : Nat), AlGr G M1 l1 l2 a xs w → Keep (fun la => la = l1 ∨ la = l2) M M1 → V p l e (rmOf 5 1 100) s m ([.ref a, .ref x, .ref arr, .int (nI xs.length)] : List Value).toArray below meth c (MQ below (Qp G b (pV (fun M1 => AlAt G M1 l1 l2 a (xs ++ [x]) ∧ Keep (fun la => la = l1 ∨ la = l2) M M1))) ([.ref a, .ref x, .ref arr, .int (nI xs.length)] : List Value).toArray s 1 100 (fun q => b ≤ q)) G b 4 1 100 11 [some (.ref a), some (.ref x), some (.ref w), some (.int (nI xs.length))] [] M1 := by
    rintro M1 w ⟨mo1, n, f, ha1, hw1, hn, h10, h100, hf⟩ hK
    obtain ⟨lx, ci, fs, r, hx1, hc, hcast⟩ := hx
    have hxl2 := hxl _ _ hx1
    have hx2 := hK _ _ _ hx1 (by rintro (z | z); exact hxl2.1 z; exact hxl2.2 z)
    refine V_aload_n C dJ2_add_2_11 rfl rfl ?_
    refine V_iload_n C dJ2_add_2_12 rfl rfl ?_
    refine V_aload_n C dJ2_add_2_13 rfl rfl ?_
    refine V_M (V_aastM C hw1 hx2 hc hcast (pk_in xs.length n hn) dJ2_add_2_14) (fun M2 e2 => ?_)
    rw [nI_clamp (by omega)] at e2
    have ha2 := mp_keep e2 ha1 hw1 hne
    have hw2 := mp_got e2
    refine V_aload_n C dJ2_add_2_15 rfl rfl ?_
    refine V_iload_n C dJ2_add_2_16 rfl rfl ?_
    refine V_iconst C 1 dJ2_add_2_17 (by decide) ?_
    refine V_iadd C dJ2_add_2_18 ?_
    refine V_top (y := (nI (xs.length + 1))) (nI_1 _) ?_
    refine V_M (V_put (host := "") (C0 := RJ2) (T := TJ2) (N := 3) (ci := 7) (fs' := [.int mo1, .ref w, .int (nI (xs.length + 1))]) C 2 in_J2 tyJ2 tyJ2_ok nmJ2 rfl ha2 (by decide) q104 (fun _ h9 => h9) rfl rfl rfl rfl (Nat.le_of_ble_eq_true rfl) rfl dJ2_add_2_19) (fun M3 e3 => ?_)
    have h__1 := mp_got e3
    have h__2 := mp_keep e3 hw2 ha2 (by first | assumption | exact Ne.symm (by assumption) | simp | (intro h; simp at h; omega))
    refine V_vret C dJ2_add_2_22 (by decide) (by decide) ⟨rfl, ⟨mo1, Or.inr ⟨w, n, _, by rw [h__1, List.length_append]; rfl, h__2, by rw [List.length_append]; exact hn, h10, h100, fun j y hj => ?_⟩⟩, hK.tr ((Keep.up e2 hw1 (Or.inr rfl)).tr (Keep.up e3 ha2 (Or.inl rfl)))⟩
    rcases Nat.lt_trichotomy j xs.length with q | q | q
    · rw [List.getElem?_append_left q] at hj
      rw [va_up_ne _ _ (by omega)]
      exact hf j y hj
    · subst q
      rw [List.getElem?_append_right (Nat.le_refl _)] at hj
      simp at hj
      subst hj
      exact va_up_self _ _ _
    · rw [List.getElem?_append_right (by omega), List.getElem?_eq_none (by simp; omega)] at hj
      cases hj
  have h0 := h
  obtain ⟨mo0, ⟨hx0, ha0⟩ | ⟨arr0, n, f, ha0, hr, hl, h10, h100, hf⟩⟩ := h
  · subst hx0
    rw [ha] at ha0
    simp only [Option.some.injEq, Prod.mk.injEq, Sum.inr.injEq, List.cons.injEq, Value.ref.injEq, Value.int.injEq, true_and, and_true] at ha0
    obtain ⟨rfl, rfl, -⟩ := ha0
    refine V_iload_n C dJ2_add_2_0 rfl rfl ?_
    refine V_aload_n C dJ2_add_2_1 rfl rfl ?_
    refine V_tlen C C.2.2.2.1.2.2.2.2.2.1 dJ2_add_2_2 ?_
    refine V_icmp_ne C 11 dJ2_add_2_3 (by decide) (fun hb => ?_) (fun hb => ?_)
    · exact absurd rfl hb
    · skip
      refine V_aload_n C dJ2_add_2_6 rfl rfl ?_
      refine V_ofR (VR_V (As := []) (rest := []) C (ct_J2_grow l G b M a l1 l2 hne [] ⟨mo, Or.inl ⟨rfl, ha⟩⟩ hob h40) ha rfl (lw_V q545 q547 qs2 q41 q548) rfl nd_J2_grow rfl (by decide) (by decide) dJ2_add_2_7 rfl ⟨by decide, by decide⟩ (Nat.le_of_ble_eq_true rfl)) (fun r M1 hr1 => ?_)
      obtain ⟨w, rfl, hG, hE⟩ := hr1
      refine V_st (st1 := [.ref w]) rfl ?_
      refine V_astore_n (L' := [some (.ref a), some (.ref x), some (.ref w), some (.int (nI 0))]) C dJ2_add_2_10 rfl (by decide) rfl ?_
      exact tail M1 w hG (fun q la y hq hn => hE q _ hq (fun z => hn (by rw [z, ha] at hq; cases hq; exact Or.inl rfl)))
  · rw [ha] at ha0
    simp only [Option.some.injEq, Prod.mk.injEq, Sum.inr.injEq, List.cons.injEq, Value.ref.injEq, Value.int.injEq, true_and, and_true] at ha0
    obtain ⟨rfl, rfl⟩ := ha0
    refine V_iload_n C dJ2_add_2_0 rfl rfl ?_
    refine V_aload_n C dJ2_add_2_1 rfl rfl ?_
    refine V_alen (ti := 3) C rfl hr dJ2_add_2_2 ?_
    refine V_icmp_ne C 11 dJ2_add_2_3 (by decide) (fun hb => ?_) (fun hb => ?_)
    · skip
      exact V_widen (by decide) (by decide) (tail M arr ⟨mo, n, f, ha, hr, by rcases Nat.lt_or_ge xs.length n with q | q; exact q; exact absurd (by rw [show xs.length = n by omega]) hb, h10, h100, hf⟩ Keep.rf)
    · skip
      have hnn : n = xs.length := ((nI_eq (by omega) (by omega)).mp hb).symm
      refine V_aload_n C dJ2_add_2_6 rfl rfl ?_
      refine V_ofR (VR_V (As := []) (rest := []) C (ct_J2_grow l G b M a l1 l2 hne xs ⟨mo, Or.inr ⟨arr, f, ha, by rw [← hnn]; exact hr, by omega, hf⟩⟩ hob h40) ha rfl (lw_V q545 q547 qs2 q41 q548) rfl nd_J2_grow rfl (by decide) (by decide) dJ2_add_2_7 rfl ⟨by decide, by decide⟩ (Nat.le_of_ble_eq_true rfl)) (fun r M1 hr1 => ?_)
      obtain ⟨w, rfl, hG, hE⟩ := hr1
      refine V_st (st1 := [.ref w]) rfl ?_
      refine V_astore_n (L' := [some (.ref a), some (.ref x), some (.ref w), some (.int (nI xs.length))]) C dJ2_add_2_10 rfl (by decide) rfl ?_
      exact tail M1 w hG (fun q la y hq hn => hE q _ hq (fun z => hn (by rw [z, ha] at hq; cases hq; exact Or.inl rfl)))
/-- add(x) -/
theorem ct_J2_add (l : Launch) (G : mp_G) (b : Nat) (M : mp_M) (a x : Nat) (l1 l2 : mp_L) (hne : l1 ≠ l2) (xs : List Nat) (h : AlAt G M l1 l2 a xs) (hob : ∀ x ∈ xs, isObj M x) (hx : isObj M x) (hxl : ∀ (la : mp_L) (z : va_E), M x = some (la, z) → la ≠ l1 ∧ la ≠ l2) (h40 : xs.length ≤ 40) : Ct l yJ2_add cJ2_add 2 (some .boolean) 6 1 100 G b ([.ref a, .ref x] : List Value) M (pI (fun r M1 => r = 1 ∧ AlAt G M1 l1 l2 a (xs ++ [x]) ∧ Keep (fun la => la = l1 ∨ la = l2) M M1)) := by
  obtain ⟨mo, arr, ha⟩ := al_obj h
  refine Ct.ofV (by decide) (vc_ref (vc_ref vc_nil)) (Nat.le_of_ble_eq_true rfl) ?_
  intro p e s m below meth c C hnm
  refine V_L (L1 := [some (.ref a), some (.ref x)]) rfl ?_
  refine V_aload_n C dJ2_add_0 rfl rfl ?_
  refine V_dup C dJ2_add_1 rfl ?_
  refine V_get (C0 := RJ2) (T := TJ2) (N := 3) (ci := 7) C 0 in_J2 rfl ha (by decide) q106 (u_same (C.1.2.2.2.2 _ q107)) rfl dJ2_add_2 ?_
  refine V_iconst C 1 dJ2_add_5 (by decide) ?_
  refine V_iadd C dJ2_add_6 ?_
  refine V_M (V_put (host := "") (C0 := RJ2) (T := TJ2) (N := 3) (ci := 7) (fs' := [.int (mo + 1), .ref arr, .int (nI xs.length)]) C 0 in_J2 tyJ2 tyJ2_ok nmJ2 rfl ha (by decide) q106 (u_same (C.1.2.2.2.2 _ q107)) rfl rfl rfl rfl (Nat.le_of_ble_eq_true rfl) rfl dJ2_add_7) (fun M1 e1 => ?_)
  have h__1 := mp_got e1
  refine V_aload_n C dJ2_add_10 rfl rfl ?_
  refine V_aload_n C dJ2_add_11 rfl rfl ?_
  refine V_aload_n C dJ2_add_12 rfl rfl ?_
  refine V_get (C0 := RJ2) (T := TJ2) (N := 3) (ci := 7) C 1 in_J2 rfl h__1 (by decide) q103 (fun _ h9 => h9) rfl dJ2_add_13 ?_
  refine V_aload_n C dJ2_add_16 rfl rfl ?_
  refine V_get (C0 := RJ2) (T := TJ2) (N := 3) (ci := 7) C 2 in_J2 rfl h__1 (by decide) q104 (fun _ h9 => h9) rfl dJ2_add_17 ?_
  have hA1 : AlAt G M1 l1 l2 a xs := by
    obtain ⟨mo0, ⟨hx0, ha0⟩ | ⟨arr0, n, f, ha0, hr, hr2⟩⟩ := h
    · refine ⟨mo + 1, Or.inl ⟨hx0, ?_⟩⟩
      rw [ha] at ha0
      simp only [Option.some.injEq, Prod.mk.injEq, Sum.inr.injEq, List.cons.injEq, Value.ref.injEq, Value.int.injEq, true_and, and_true] at ha0
      rw [h__1, ha0.2.1, ha0.2.2]
    · refine ⟨mo + 1, Or.inr ⟨arr0, n, f, ?_, mp_keep e1 hr ha (Ne.symm hne), hr2⟩⟩
      rw [ha] at ha0
      simp only [Option.some.injEq, Prod.mk.injEq, Sum.inr.injEq, List.cons.injEq, Value.ref.injEq, Value.int.injEq, true_and, and_true] at ha0
      rw [h__1, ha0.2]
  refine V_ofV (VR_V (As := [.ref x, .ref arr, .int (nI xs.length)]) (rest := []) C (ct_J2_add_2 l G b M1 a x arr _ l1 l2 hne xs hA1 h__1 (fun y hy => (hob y hy).obj e1 ha) (hx.obj e1 ha) (fun la z hz => by rw [e1, mp_ne (fun q => (hxl l1 _ (by rw [q]; exact ha)).1 rfl)] at hz; exact hxl la z hz) h40) h__1 rfl (lw_V q541 q543 qs1 q41 q544) rfl nd_J2_add_2 rfl (by decide) (by decide) dJ2_add_20 rfl ⟨by decide, by decide⟩ (Nat.le_of_ble_eq_true rfl)) (fun M2 hM2 => ?_)
  refine V_iconst C 1 dJ2_add_23 (by decide) ?_
  exact V_zret C rfl dJ2_add_24 (by decide) (by decide) ⟨_, rfl, rfl, hM2.1, (Keep.up e1 ha (Or.inl rfl)).tr hM2.2⟩
theorem ct_J2_fastRemove (l : Launch) (G : mp_G) (b : Nat) (M : mp_M) (a arr k n : Nat) (mo : Int32) (f : Nat → Option Nat) (l1 l2 : mp_L) (hne : l1 ≠ l2) (xs : List Nat) (ha : M a = some (l1, .inr (7, [.int mo, .ref arr, .int (nI xs.length)]))) (hr : M arr = some (l2, .inl (G.2.1 3, n, .inr (.inr (.inr (.inr f)))))) (hl : xs.length ≤ n) (h10 : 10 ≤ n) (h100 : n ≤ 100) (hf : ∀ (j x : Nat), xs[j]? = some x → f j = some x) (hob : ∀ x ∈ xs, isObj M x) (hk : k < xs.length) : Ct l yJ2_fastRemove cJ2_fastRemove 4 (none) 1 0 0 G b ([.ref a, .ref arr, .int (nI k)] : List Value) M (pV (fun M1 => AlAt G M1 l1 l2 a (xs.eraseIdx k) ∧ Keep (fun la => la = l1 ∨ la = l2) M M1)) := by
  refine Ct.ofV (by decide) (vc_ref (vc_ref (vc_int vc_nil))) (Nat.le_of_ble_eq_true rfl) ?_
  intro p e s m below meth c C hnm
  refine V_L (L1 := [some (.ref a), some (.ref arr), some (.int (nI k)), none]) rfl ?_
  refine V_aload_n C dJ2_fastRemove_0 rfl rfl ?_
  refine V_dup C dJ2_fastRemove_1 rfl ?_
  refine V_get (C0 := RJ2) (T := TJ2) (N := 3) (ci := 7) C 0 in_J2 rfl ha (by decide) q106 (u_same (C.1.2.2.2.2 _ q107)) rfl dJ2_fastRemove_2 ?_
  refine V_iconst C 1 dJ2_fastRemove_5 (by decide) ?_
  refine V_iadd C dJ2_fastRemove_6 ?_
  refine V_M (V_put (host := "") (C0 := RJ2) (T := TJ2) (N := 3) (ci := 7) (fs' := [.int (mo + 1), .ref arr, .int (nI xs.length)]) C 0 in_J2 tyJ2 tyJ2_ok nmJ2 rfl ha (by decide) q106 (u_same (C.1.2.2.2.2 _ q107)) rfl rfl rfl rfl (Nat.le_of_ble_eq_true rfl) rfl dJ2_fastRemove_7) (fun M1 e1 => ?_)
  have h__1 := mp_got e1
  have h__2 := mp_keep e1 hr ha (by first | assumption | exact Ne.symm (by assumption) | simp | (intro h; simp at h; omega))
  refine V_aload_n C dJ2_fastRemove_10 rfl rfl ?_
  refine V_get (C0 := RJ2) (T := TJ2) (N := 3) (ci := 7) C 2 in_J2 rfl h__1 (by decide) q104 (fun _ h9 => h9) rfl dJ2_fastRemove_11 ?_
  refine V_iconst C 1 dJ2_fastRemove_14 (by decide) ?_
  refine V_isub C dJ2_fastRemove_15 ?_
  refine V_top (y := (nI (xs.length - 1))) (pk_sub (b := 1) (by omega)) ?_
  have tail : ∀ (M2 : mp_M) (f2 : Nat → Option Nat) (mo2 : Int32), M2 a = some (l1, .inr (7, [.int mo2, .ref arr, .int (nI xs.length)])) → M2 arr = some (l2, .inl (G.2.1 3, n, .inr (.inr (.inr (.inr f2))))) → Keep (fun la => la = l1 ∨ la = l2) M M2 → (∀ j x, (xs.eraseIdx k)[j]? = some x → f2 j = some x) → V p l e (rmOf 1 0 0) s m ([.ref a, .ref arr, .int (nI k)] : List Value).toArray below meth c (MQ below (Qp G b (pV (fun M1 => AlAt G M1 l1 l2 a (xs.eraseIdx k) ∧ Keep (fun la => la = l1 ∨ la = l2) M M1))) ([.ref a, .ref arr, .int (nI k)] : List Value).toArray s 0 0 (fun q => b ≤ q)) G b 4 0 0 34 [some (.ref a), some (.ref arr), some (.int (nI k)), some (.int (nI (xs.length - 1)))] [] M2 := by
    intro M2 f2 mo2 ha2 hr2 hK hf2
    refine V_aload_n C dJ2_fastRemove_34 rfl rfl ?_
    refine V_aload_n C dJ2_fastRemove_35 rfl rfl ?_
    refine V_iload_n C dJ2_fastRemove_36 rfl rfl ?_
    refine V_dup_x1 C dJ2_fastRemove_37 rfl rfl ?_
    refine V_M (V_put (host := "") (C0 := RJ2) (T := TJ2) (N := 3) (ci := 7) (fs' := [.int mo2, .ref arr, .int (nI (xs.length - 1))]) C 2 in_J2 tyJ2 tyJ2_ok nmJ2 rfl ha2 (by decide) q104 (fun _ h9 => h9) rfl rfl rfl rfl (Nat.le_of_ble_eq_true rfl) rfl dJ2_fastRemove_38) (fun M3 e3 => ?_)
    have h__3 := mp_got e3
    have h__4 := mp_keep e3 hr2 ha2 (by first | assumption | exact Ne.symm (by assumption) | simp | (intro h; simp at h; omega))
    refine V_null C dJ2_fastRemove_41 ?_
    refine V_M (V_aastN (ti := 3) (E := "java/lang/Object") C rfl h__4 (pk_in (xs.length - 1) n (by omega)) dJ2_fastRemove_42) (fun M4 e4 => ?_)
    rw [nI_clamp (by omega)] at e4
    have hlen : (xs.eraseIdx k).length = xs.length - 1 := List.length_eraseIdx_of_lt hk
    refine V_vret C dJ2_fastRemove_43 (by decide) (by decide) ⟨rfl, ⟨mo2, Or.inr ⟨arr, n, _, by rw [hlen]; exact mp_keep e4 h__3 h__4 hne, mp_got e4, by omega, h10, h100, fun j x hj => ?_⟩⟩, hK.tr ((Keep.up e3 ha2 (Or.inl rfl)).tr (Keep.up e4 h__4 (Or.inr rfl)))⟩
    have hjl := (List.getElem?_eq_some_iff.mp hj).1
    rw [va_up_ne _ _ (by omega)]
    exact hf2 j x hj
  refine V_dup C dJ2_fastRemove_16 rfl ?_
  refine V_istore_n (L' := [some (.ref a), some (.ref arr), some (.int (nI k)), some (.int (nI (xs.length - 1)))]) C dJ2_fastRemove_17 rfl (by decide) rfl ?_
  refine V_iload_n C dJ2_fastRemove_18 rfl rfl ?_
  refine V_icmp_le C 34 dJ2_fastRemove_19 (by decide) (fun hb => ?_) (fun hb => ?_)
  · skip
    have hkk : k = xs.length - 1 := by
      rw [nI_leI (by omega) (by omega)] at hb
      omega
    refine tail M1 f _ h__1 h__2 (Keep.up e1 ha (Or.inl rfl)) (fun j x hj => ?_)
    have hjl := (List.getElem?_eq_some_iff.mp hj).1
    rw [List.length_eraseIdx_of_lt hk] at hjl
    rw [List.getElem?_eraseIdx_of_lt (by omega)] at hj
    exact hf j x hj
  · skip
    have hkk : k < xs.length - 1 := by
      rw [nI_leI (by omega) (by omega)] at hb
      omega
    refine V_aload_n C dJ2_fastRemove_22 rfl rfl ?_
    refine V_iload_n C dJ2_fastRemove_23 rfl rfl ?_
    refine V_iconst C 1 dJ2_fastRemove_24 (by decide) ?_
    refine V_iadd C dJ2_fastRemove_25 ?_
    refine V_top (y := (nI (k + 1))) (nI_1 _) ?_
    refine V_aload_n C dJ2_fastRemove_26 rfl rfl ?_
    refine V_iload_n C dJ2_fastRemove_27 rfl rfl ?_
    refine V_iload_n C dJ2_fastRemove_28 rfl rfl ?_
    refine V_iload_n C dJ2_fastRemove_29 rfl rfl ?_
    refine V_isub C dJ2_fastRemove_30 ?_
    refine V_top (y := (nI (xs.length - 1 - k))) (pk_sub (by omega)) ?_
    refine V_M (V_copyM C q618 q323 q322 q53 h__2 h__2 (nI_pos (by omega)) (nI_pos (by omega)) (nI_pos (by omega)) (by rw [nI_clamp (by omega), nI_clamp (by omega)]; omega) (by rw [nI_clamp (by omega), nI_clamp (by omega)]; omega) (fun i hi y hy => by rw [nI_clamp (by omega)] at hi hy; rw [hf (k + 1 + i) _ (List.getElem?_eq_getElem (by omega))] at hy; cases hy; exact (hob _ (List.getElem_mem _)).obj e1 ha) (by decide) (Nat.le_of_ble_eq_true rfl) dJ2_fastRemove_31) (fun M2 e2 => ?_)
    rw [nI_clamp (by omega), nI_clamp (by omega), nI_clamp (by omega)] at e2
    refine tail M2 _ _ (mp_keep e2 h__1 h__2 hne) (mp_got e2) ((Keep.up e1 ha (Or.inl rfl)).tr (Keep.up e2 h__2 (Or.inr rfl))) (fun j x hj => ?_)
    have hjl := (List.getElem?_eq_some_iff.mp hj).1
    rw [List.length_eraseIdx_of_lt hk] at hjl
    rcases Nat.lt_or_ge j k with q | q
    · rw [pk_cpy_out (Or.inl q)]
      rw [List.getElem?_eraseIdx_of_lt q] at hj
      exact hf j x hj
    · rw [pk_cpy_in q (by omega), show k + 1 + (j - k) = j + 1 by omega]
      rw [List.getElem?_eraseIdx_of_ge q] at hj
      exact hf (j + 1) x hj
/-- remove(k) -/
theorem ct_J2_remove (l : Launch) (G : mp_G) (b : Nat) (M : mp_M) (a k x : Nat) (l1 l2 : mp_L) (hne : l1 ≠ l2) (xs : List Nat) (h : AlAt G M l1 l2 a xs) (hob : ∀ x ∈ xs, isObj M x) (hk : xs[k]? = some x) : Ct l yJ2_remove cJ2_remove 4 (some (.object "java/lang/Object")) 2 0 0 G b ([.ref a, .int (nI k)] : List Value) M (pR (fun r M1 => r = some x ∧ AlAt G M1 l1 l2 a (xs.eraseIdx k) ∧ Keep (fun la => la = l1 ∨ la = l2) M M1)) := by
  have hkl := (List.getElem?_eq_some_iff.mp hk).1
  obtain ⟨mo, ⟨h1, h2⟩ | ⟨arr, n, f, ha, hr, hl, h10, h100, hf⟩⟩ := h
  · rw [h1] at hk; cases hk
  · refine Ct.ofV (by decide) (vc_ref (vc_int vc_nil)) (Nat.le_of_ble_eq_true rfl) ?_
    intro p e s m below meth c C hnm
    refine V_L (L1 := [some (.ref a), some (.int (nI k)), none, none]) rfl ?_
    refine V_iload_n C dJ2_remove_0 rfl rfl ?_
    refine V_aload_n C dJ2_remove_1 rfl rfl ?_
    refine V_get (C0 := RJ2) (T := TJ2) (N := 3) (ci := 7) C 2 in_J2 rfl ha (by decide) q104 (fun _ h9 => h9) rfl dJ2_remove_2 ?_
    refine V_ofIe (VR_S (As := [.int (nI k), .int (nI xs.length)]) (rest := []) C (ct_J7_checkIndex l G b M (nI k) (nI xs.length) (nI_pos (by omega)) (nI_lt hkl (by omega))) (lw_S q212 q213 q47 q214) nd_J7_checkIndex rfl (by decide) (by decide) dJ2_remove_5 rfl ⟨by decide, by decide⟩ (Nat.le_of_ble_eq_true rfl)) ?_
    refine V_pop C dJ2_remove_8 rfl ?_
    refine V_aload_n C dJ2_remove_9 rfl rfl ?_
    refine V_get (C0 := RJ2) (T := TJ2) (N := 3) (ci := 7) C 1 in_J2 rfl ha (by decide) q103 (fun _ h9 => h9) rfl dJ2_remove_10 ?_
    refine V_astore_n (L' := [some (.ref a), some (.int (nI k)), some (.ref arr), none]) C dJ2_remove_13 rfl (by decide) rfl ?_
    refine V_aload_n C dJ2_remove_14 rfl rfl ?_
    refine V_iload_n C dJ2_remove_15 rfl rfl ?_
    refine V_aald C 3 rfl hr (pk_in k n (by omega)) dJ2_remove_16 ?_
    refine V_topq (o1 := some x) (by rw [nI_clamp (by omega), hf k x hk]) ?_
    refine V_st (st1 := [.ref x]) rfl ?_
    refine V_astore_n (L' := [some (.ref a), some (.int (nI k)), some (.ref arr), some (.ref x)]) C dJ2_remove_17 rfl (by decide) rfl ?_
    refine V_aload_n C dJ2_remove_18 rfl rfl ?_
    refine V_aload_n C dJ2_remove_19 rfl rfl ?_
    refine V_iload_n C dJ2_remove_20 rfl rfl ?_
    refine V_ofV (VR_V (As := [.ref arr, .int (nI k)]) (rest := []) C (ct_J2_fastRemove l G b M a arr k n mo f l1 l2 hne xs ha hr hl h10 h100 hf hob hkl) ha rfl (lw_V q614 q616 qs7 q41 q617) rfl nd_J2_fastRemove rfl (by decide) (by decide) dJ2_remove_21 rfl ⟨by decide, by decide⟩ (Nat.le_of_ble_eq_true rfl)) (fun M1 hM1 => ?_)
    refine V_aload_n C dJ2_remove_24 rfl rfl ?_
    exact V_aret (o := some x) C (Or.inl ⟨_, rfl⟩) dJ2_remove_25 (by decide) (by decide) ⟨_, rfl, rfl, hM1⟩

