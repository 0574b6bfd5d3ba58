set_option maxRecDepth 100000
/-! THE COMPONENT, E: MapNode.add, ListNode.add -/
theorem mp_uu (M : mp_M) (a : Nat) (x y : mp_L × va_E) : mp_up (mp_up M a x) a y = mp_up M a y := by
  funext q
  by_cases h : q = a
  · subst h; rw [mp_self, mp_self]
  · rw [mp_ne h, mp_ne h, mp_ne h]
def prevO (L : List Nat) : Nat → Option Nat
  | 0 => none
  | i + 1 => L[i]?
theorem take_prev {L : List Nat} {i kk : Nat} (h : L[i]? = some kk) : L.take (i + 1) ++ L.drop (i + 1) = L.take i ++ kk :: L.drop (i + 1) := by
  rw [List.take_add_one, h]
  simp
/-- the item q is made part of a chain: its next, home, shown -/
theorem rep_new {G : mp_G} {M M1 : mp_M} {g a ln : Nat} {lo : Nat → List Nat} {P : Nat → Int32} {hi : Nat → Option Nat} {sh fo : Nat → Bool} {ch : Nat → Nat → List Nat} {nx : Nat → Option Nat} {wt : List (List Nat)} {A : Nat → Nat → Nat} {wo : List Nat} (hR : RepAt G M g a ln lo P hi sh fo ch nx wt A wo) {q m0 : Nat} (hq : q < ln) (hhq : hi q = none) (hm0 : m0 ≤ ln) (hmk : isMap lo m0 ∨ isLst lo m0) (v : Option Nat) (e : M1 = mp_up M (A 0 q) ((g, 1, q), .inr (5, [.ref (A 1 q), .int (P q), .int (nI q), va_rf (nodeO lo A q), .ref (A 2 m0), .int 1, .int (bI (fo q)), va_rf v]))) : RepAt G M1 g a ln lo P (fun j => if j = q then some m0 else hi j) (fun j => if j = q then true else sh j) fo ch (fun j => if j = q then v else nx j) wt A wo ∧ Keep (MutG g) M M1 := by
  refine rep_up hR hq _ _ fo ch _ (by rw [e]; simp [va_rf, bI]) (fun j hj => ⟨by simp [hj], by simp [hj], rfl, by simp [hj]⟩) (fun _ _ => rfl) (fun m key hm hv => ?_) (fun m hm => by simp at hm; subst hm; exact ⟨hm0, hmk⟩)
  have h1 := hR.2.2.2.2.2.2.2.2.1 m key hm hv
  refine ch_off (k := q) h1 (fun z => ?_) (fun j hj => ⟨by simp [hj], by simp [hj]⟩)
  obtain ⟨i, hi1⟩ := List.getElem?_of_mem z
  have := (h1.2 i q hi1).2.1
  rw [hhq] at this
  cases this
/-- the other chains, when q comes into the chain of m0, key0 -/
theorem ins_oth {G : mp_G} {M : mp_M} {g a ln : Nat} {lo : Nat → List Nat} {P : Nat → Int32} {hi : Nat → Option Nat} {sh fo : Nat → Bool} {ch : Nat → Nat → List Nat} {nx : Nat → Option Nat} {wt : List (List Nat)} {A : Nat → Nat → Nat} {wo : List Nat} (hR : RepAt G M g a ln lo P hi sh fo ch nx wt A wo) {q m0 key0 : Nat} (hhq : hi q = none) {X : List Nat} {hi' nx' : Nat → Option Nat} (hX : ChOk ln lo hi' nx' A m0 key0 X) (hm0 : m0 ≤ ln) (hv0 : (isMap lo m0 ∧ key0 < 4) ∨ (isLst lo m0 ∧ key0 = 0)) (ho : ∀ j, j ≠ q → hi' j = hi j) (hon : ∀ j, j ≠ q → j ∉ ch m0 key0 → nx' j = nx j) : ∀ m key, m ≤ ln → ((isMap lo m ∧ key < 4) ∨ (isLst lo m ∧ key = 0)) → ChOk ln lo hi' nx' A m key (chU ch m0 key0 X m key) := by
  intro m key hm hv
  by_cases z : m = m0 ∧ key = key0
  · obtain ⟨rfl, rfl⟩ := z
    rw [chU_s]
    exact hX
  · rw [chU_n z]
    have h1 := hR.2.2.2.2.2.2.2.2.1 m key hm hv
    have h0 := hR.2.2.2.2.2.2.2.2.1 m0 key0 hm0 hv0
    refine ⟨h1.1, fun i j hj => ?_⟩
    have hj2 := h1.2 i j hj
    have hjq : j ≠ q := fun w => by rw [w, hhq] at hj2; cases hj2.2.1
    rw [ho j hjq, hon j hjq (fun w => z (ch_one h1 h0 hv hv0 (List.mem_of_getElem? hj) w))]
    exact hj2
def InsP (lo : Nat → List Nat) (up : Bool) (q k : Nat) : Prop := if up = true then oB (lo k) 0 < oB (lo q) 0 else oB (lo q) 0 < oB (lo k) 0
/-- the chain L with q at place i -/
def insAt (L : List Nat) (i q : Nat) : List Nat := L.take i ++ q :: L.drop i
theorem ct_X2_add (l : Launch) (G : mp_G) (b : Nat) (M : mp_M) (g a ln : Nat) (lo : Nat → List Nat) (P : Nat → Int32) (hi : Nat → Option Nat) (sh fo : Nat → Bool) (ch : Nat → Nat → List Nat) (nx : Nat → Option Nat) (wt : List (List Nat)) (A : Nat → Nat → Nat) (wo : List Nat) (hR : RepAt G M g a ln lo P hi sh fo ch nx wt A wo) (m0 q : Nat) (key : Nat) (hm0 : m0 ≤ ln) (hmp : isMap lo m0) (hq : q < ln) (hhq : hi q = none) (hkey : key < 4) (hsl : oB (lo q) 3 = key) : Ct l yX2_add cX2_add 5 (none) 5 0 0 G b ([.ref (A 2 m0), .int (nI key), .ref (A 0 q)] : List Value) M (pV (fun M1 => ∃ i nx', 0 ≤ i ∧ i ≤ (ch m0 key).length ∧ (∀ j k, 0 ≤ j → j < i → (ch m0 key)[j]? = some k → InsP lo true q k) ∧ (∀ k, (ch m0 key)[i]? = some k → ¬ InsP lo true q k) ∧ RepAt G M1 g a ln lo P (fun j => if j = q then some m0 else hi j) (fun j => if j = q then true else sh j) fo (chU ch m0 key (insAt (ch m0 key) i q)) nx' wt A wo ∧ Keep (MutG g) M M1)) := by
  obtain ⟨L, hL⟩ : ∃ L, L = ch m0 key := ⟨_, rfl⟩
  refine Ct.ofV (by decide) (vc_ref (vc_int (vc_ref vc_nil))) (Nat.le_of_ble_eq_true rfl) ?_
  intro p e s m below meth c C hnm
  refine V_L (L1 := [some (.ref (A 2 m0)), some (.int (nI key)), some (.ref (A 0 q)), none, none]) rfl ?_
  obtain ⟨r1, r2, r3, r4, r5, r6, r7, r8, r9, r10, r11⟩ := id hR
  have rb := r10.2.2.1
  have rln := r10.1
  have hC := r9 m0 key hm0 (Or.inl ⟨hmp, hkey⟩)
  rw [← hL] at hC
  have hqL : q ∉ L := fun z => by obtain ⟨i, hi1⟩ := List.getElem?_of_mem z; have := (hC.2 i q hi1).2.1; rw [hhq] at this; cases this
  obtain ⟨hnd, hen⟩ := r7 m0 hm0 hmp
  have hitq := r5 q hq
  rw [hhq] at hitq
  obtain ⟨saq, siq, hopq, -⟩ := r6 q hq
  have hzq := (rb q hq).2.2 0
  have tail : ∀ i, 0 ≤ i → i ≤ L.length → (∀ j k, 0 ≤ j → j < i → L[j]? = some k → InsP lo true q k) → (∀ k, L[i]? = some k → ¬ InsP lo true q k) → V p l e (rmOf 5 0 0) s m ([.ref (A 2 m0), .int (nI key), .ref (A 0 q)] : List Value).toArray below meth c (MQ below (Qp G b (pV (fun M1 => ∃ i nx', 0 ≤ i ∧ i ≤ (ch m0 key).length ∧ (∀ j k, 0 ≤ j → j < i → (ch m0 key)[j]? = some k → InsP lo true q k) ∧ (∀ k, (ch m0 key)[i]? = some k → ¬ InsP lo true q k) ∧ RepAt G M1 g a ln lo P (fun j => if j = q then some m0 else hi j) (fun j => if j = q then true else sh j) fo (chU ch m0 key (insAt (ch m0 key) i q)) nx' wt A wo ∧ Keep (MutG g) M M1))) ([.ref (A 2 m0), .int (nI key), .ref (A 0 q)] : List Value).toArray s 0 0 (fun q => b ≤ q)) G b 5 0 0 46 [some (.ref (A 2 m0)), some (.int (nI key)), some (.ref (A 0 q)), some (va_rf ((prevO L i).map (A 0))), some (va_rf ((L[i]?).map (A 0)))] [] M := by
    intro i his hil hb hx
    have hRn := fun M3 e => rep_new (M1 := M3) hR hq hhq hm0 (Or.inl hmp) ((L[i]?).map (A 0)) e
    rcases hpr : prevO L i with _ | kk
    · have hi0 : i = 0 := by
        cases i with
        | zero => rfl
        | succ i => rw [prevO, List.getElem?_eq_none_iff] at hpr; omega
      subst hi0
      refine V_L (L1 := [some (.ref (A 2 m0)), some (.int (nI key)), some (.ref (A 0 q)), some (.null), some (va_rf ((L[0]?).map (A 0)))]) rfl ?_
      refine V_aload_n C dX2_add_46 rfl rfl ?_
      refine V_aloadq C dX2_add_47 rfl ?_
      refine V_M (V_putN (C0 := RX5) (T := TX5) (N := 8) (ci := 5) (fs' := [.ref (A 1 q), .int (P q), .int (nI q), va_rf (nodeO lo A q), .null, .int (bI (sh q)), .int (bI (fo q)), va_rf ((L[0]?).map (A 0))]) C 7 in_X5 tyX5 tyX5_ok nmX5 rfl hitq (by decide) ev496 (fun _ h9 => h9) rfl rfl (nq_nar _) (nq_fit _) (Nat.le_of_ble_eq_true rfl) rfl dX2_add_49) (fun M__1 eM__1 => ?_)
      have h__2 := mp_got eM__1
      have h__3 := mp_keep eM__1 hnd hitq (by first | assumption | exact Ne.symm (by assumption) | (simp; done) | (simp; omega) | (intro h; simp at h; omega))
      have h__4 := mp_keep eM__1 hen hitq (by first | assumption | exact Ne.symm (by assumption) | (simp; done) | (simp; omega) | (intro h; simp at h; omega))
      have h__5 := mp_keep eM__1 hopq hitq (by first | assumption | exact Ne.symm (by assumption) | (simp; done) | (simp; omega) | (intro h; simp at h; omega))
      refine V_aload_n C dX2_add_52 rfl rfl ?_
      refine V_aload_n C dX2_add_53 rfl rfl ?_
      refine V_M (V_putN (C0 := RX5) (T := TX5) (N := 8) (ci := 5) (fs' := [.ref (A 1 q), .int (P q), .int (nI q), va_rf (nodeO lo A q), .ref (A 2 m0), .int (bI (sh q)), .int (bI (fo q)), va_rf ((L[0]?).map (A 0))]) C 4 in_X5 tyX5 tyX5_ok nmX5 rfl h__2 (by decide) ev486 (fun _ h9 => h9) rfl rfl rfl rfl (Nat.le_of_ble_eq_true rfl) rfl dX2_add_54) (fun M__6 eM__6 => ?_)
      have h__7 := mp_got eM__6
      have h__8 := mp_keep eM__6 h__3 h__2 (by first | assumption | exact Ne.symm (by assumption) | (simp; done) | (simp; omega) | (intro h; simp at h; omega))
      have h__9 := mp_keep eM__6 h__4 h__2 (by first | assumption | exact Ne.symm (by assumption) | (simp; done) | (simp; omega) | (intro h; simp at h; omega))
      have h__10 := mp_keep eM__6 h__5 h__2 (by first | assumption | exact Ne.symm (by assumption) | (simp; done) | (simp; omega) | (intro h; simp at h; omega))
      refine V_aload_n C dX2_add_57 rfl rfl ?_
      refine V_iconst C 1 dX2_add_58 (by decide) ?_
      refine V_M (V_putN (C0 := RX5) (T := TX5) (N := 8) (ci := 5) (fs' := [.ref (A 1 q), .int (P q), .int (nI q), va_rf (nodeO lo A q), .ref (A 2 m0), .int 1, .int (bI (fo q)), va_rf ((L[0]?).map (A 0))]) C 5 in_X5 tyX5 tyX5_ok nmX5 rfl h__7 (by decide) ev489 (fun _ h9 => h9) rfl rfl rfl rfl (Nat.le_of_ble_eq_true rfl) rfl dX2_add_59) (fun M__11 eM__11 => ?_)
      have h__12 := mp_got eM__11
      have h__13 := mp_keep eM__11 h__8 h__7 (by first | assumption | exact Ne.symm (by assumption) | (simp; done) | (simp; omega) | (intro h; simp at h; omega))
      have h__14 := mp_keep eM__11 h__9 h__7 (by first | assumption | exact Ne.symm (by assumption) | (simp; done) | (simp; omega) | (intro h; simp at h; omega))
      have h__15 := mp_keep eM__11 h__10 h__7 (by first | assumption | exact Ne.symm (by assumption) | (simp; done) | (simp; omega) | (intro h; simp at h; omega))
      refine V_aload_nq (o := none) C dX2_add_62 rfl rfl ?_
      refine V_ifnonnull_N C dX2_add_63 ?_
      refine V_aload_n C dX2_add_66 rfl rfl ?_
      refine V_get (C0 := RX2) (T := TX2) (N := 2) (ci := 2) C 1 in_X2 rfl h__13 (by decide) q82 (fun _ h9 => h9) rfl dX2_add_67 ?_
      refine V_iload_n C dX2_add_70 rfl rfl ?_
      refine V_aload_n C dX2_add_71 rfl rfl ?_
      refine V_M (V_aast (ti := 4) (ci := 5) (r := (RX5, TX5, 8)) C rfl h__14 h__12 rfl (pk_in key 4 (by omega)) dX2_add_72) (fun M__16 eM__16 => ?_)
      rw [nI_clamp (n := key) (by omega)] at eM__16
      have h__17 := mp_got eM__16
      have h__18 := mp_keep eM__16 h__13 h__14 (by first | assumption | exact Ne.symm (by assumption) | (simp; done) | (simp; omega) | (intro h; simp at h; omega))
      have h__19 := mp_keep eM__16 h__12 h__14 (by first | assumption | exact Ne.symm (by assumption) | (simp; done) | (simp; omega) | (intro h; simp at h; omega))
      have h__20 := mp_keep eM__16 h__15 h__14 (by first | assumption | exact Ne.symm (by assumption) | (simp; done) | (simp; omega) | (intro h; simp at h; omega))
      refine V_goto C 81 dX2_add_73 (by decide) ?_
      obtain ⟨R3, K3⟩ := hRn M__11 (by rw [eM__11, eM__6, eM__1, mp_uu, mp_uu])
      obtain ⟨R4, K4⟩ := rep_hd (M1 := M__16) (key0 := key) R3 hm0 hmp (chU ch m0 key (insAt L 0 q)) (by rw [eM__16, chU_s]; rfl) (fun m key2 z => by rw [chU_n z]) (ins_oth hR hhq (by show ChOk _ _ _ _ _ _ _ (q :: L.drop 0); rw [List.drop_zero]; exact ch_ins0 ⟨hq, by simp, fun _ => hsl⟩ (by simp [List.head?_eq_getElem?]) (fun j hj => by simp [hj]) (fun j hj => by simp [hj]) hC hqL) hm0 (Or.inl ⟨hmp, hkey⟩) (fun j hj => by simp [hj]) (fun j hj _ => by simp [hj]))
      exact V_vret C dX2_add_81 (by decide) (by decide) ⟨rfl, 0, _, his, by rw [← hL]; exact hil, by rw [← hL]; exact hb, by rw [← hL]; exact hx, by rw [← hL]; exact R4, K3.tr K4⟩
    · obtain ⟨i1, rfl⟩ : ∃ i1, i = i1 + 1 := by
        cases i with
        | zero => cases hpr
        | succ i => exact ⟨i, rfl⟩
      rw [prevO] at hpr
      obtain ⟨hkkl, -, -, -⟩ := hC.2 i1 kk hpr
      have hkkL := List.mem_of_getElem? hpr
      have hkkq : kk ≠ q := fun z => hqL (z ▸ hkkL)
      have hit3 := r5 kk hkkl
      refine V_L (L1 := [some (.ref (A 2 m0)), some (.int (nI key)), some (.ref (A 0 q)), some (.ref (A 0 kk)), some (va_rf ((L[i1 + 1]?).map (A 0)))]) rfl ?_
      refine V_aload_n C dX2_add_46 rfl rfl ?_
      refine V_aloadq C dX2_add_47 rfl ?_
      refine V_M (V_putN (C0 := RX5) (T := TX5) (N := 8) (ci := 5) (fs' := [.ref (A 1 q), .int (P q), .int (nI q), va_rf (nodeO lo A q), .null, .int (bI (sh q)), .int (bI (fo q)), va_rf ((L[i1 + 1]?).map (A 0))]) C 7 in_X5 tyX5 tyX5_ok nmX5 rfl hitq (by decide) ev496 (fun _ h9 => h9) rfl rfl (nq_nar _) (nq_fit _) (Nat.le_of_ble_eq_true rfl) rfl dX2_add_49) (fun M__21 eM__21 => ?_)
      have h__22 := mp_got eM__21
      have h__23 := mp_keep eM__21 hnd hitq (by first | assumption | exact Ne.symm (by assumption) | (simp; done) | (simp; omega) | (intro h; simp at h; omega))
      have h__24 := mp_keep eM__21 hen hitq (by first | assumption | exact Ne.symm (by assumption) | (simp; done) | (simp; omega) | (intro h; simp at h; omega))
      have h__25 := mp_keep eM__21 hopq hitq (by first | assumption | exact Ne.symm (by assumption) | (simp; done) | (simp; omega) | (intro h; simp at h; omega))
      have h__26 := mp_keep eM__21 hit3 hitq (by first | assumption | exact Ne.symm (by assumption) | (simp; done) | (simp; omega) | (intro h; simp at h; omega))
      refine V_aload_n C dX2_add_52 rfl rfl ?_
      refine V_aload_n C dX2_add_53 rfl rfl ?_
      refine V_M (V_putN (C0 := RX5) (T := TX5) (N := 8) (ci := 5) (fs' := [.ref (A 1 q), .int (P q), .int (nI q), va_rf (nodeO lo A q), .ref (A 2 m0), .int (bI (sh q)), .int (bI (fo q)), va_rf ((L[i1 + 1]?).map (A 0))]) C 4 in_X5 tyX5 tyX5_ok nmX5 rfl h__22 (by decide) ev486 (fun _ h9 => h9) rfl rfl rfl rfl (Nat.le_of_ble_eq_true rfl) rfl dX2_add_54) (fun M__27 eM__27 => ?_)
      have h__28 := mp_got eM__27
      have h__29 := mp_keep eM__27 h__23 h__22 (by first | assumption | exact Ne.symm (by assumption) | (simp; done) | (simp; omega) | (intro h; simp at h; omega))
      have h__30 := mp_keep eM__27 h__24 h__22 (by first | assumption | exact Ne.symm (by assumption) | (simp; done) | (simp; omega) | (intro h; simp at h; omega))
      have h__31 := mp_keep eM__27 h__25 h__22 (by first | assumption | exact Ne.symm (by assumption) | (simp; done) | (simp; omega) | (intro h; simp at h; omega))
      have h__32 := mp_keep eM__27 h__26 h__22 (by first | assumption | exact Ne.symm (by assumption) | (simp; done) | (simp; omega) | (intro h; simp at h; omega))
      refine V_aload_n C dX2_add_57 rfl rfl ?_
      refine V_iconst C 1 dX2_add_58 (by decide) ?_
      refine V_M (V_putN (C0 := RX5) (T := TX5) (N := 8) (ci := 5) (fs' := [.ref (A 1 q), .int (P q), .int (nI q), va_rf (nodeO lo A q), .ref (A 2 m0), .int 1, .int (bI (fo q)), va_rf ((L[i1 + 1]?).map (A 0))]) C 5 in_X5 tyX5 tyX5_ok nmX5 rfl h__28 (by decide) ev489 (fun _ h9 => h9) rfl rfl rfl rfl (Nat.le_of_ble_eq_true rfl) rfl dX2_add_59) (fun M__33 eM__33 => ?_)
      have h__34 := mp_got eM__33
      have h__35 := mp_keep eM__33 h__29 h__28 (by first | assumption | exact Ne.symm (by assumption) | (simp; done) | (simp; omega) | (intro h; simp at h; omega))
      have h__36 := mp_keep eM__33 h__30 h__28 (by first | assumption | exact Ne.symm (by assumption) | (simp; done) | (simp; omega) | (intro h; simp at h; omega))
      have h__37 := mp_keep eM__33 h__31 h__28 (by first | assumption | exact Ne.symm (by assumption) | (simp; done) | (simp; omega) | (intro h; simp at h; omega))
      have h__38 := mp_keep eM__33 h__32 h__28 (by first | assumption | exact Ne.symm (by assumption) | (simp; done) | (simp; omega) | (intro h; simp at h; omega))
      refine V_aload_n C dX2_add_62 rfl rfl ?_
      refine V_ifnonnull_R C 76 dX2_add_63 (by decide) ?_
      refine V_aload_n C dX2_add_76 rfl rfl ?_
      refine V_aload_n C dX2_add_77 rfl rfl ?_
      refine V_M (V_putN (C0 := RX5) (T := TX5) (N := 8) (ci := 5) (fs' := [.ref (A 1 kk), .int (P kk), .int (nI kk), va_rf (nodeO lo A kk), va_rf ((hi kk).map (A 2)), .int (bI (sh kk)), .int (bI (fo kk)), .ref (A 0 q)]) C 7 in_X5 tyX5 tyX5_ok nmX5 rfl h__38 (by decide) ev496 (fun _ h9 => h9) rfl rfl rfl rfl (Nat.le_of_ble_eq_true rfl) rfl dX2_add_78) (fun M__39 eM__39 => ?_)
      have h__40 := mp_got eM__39
      have h__41 := mp_keep eM__39 h__35 h__38 (by first | assumption | exact Ne.symm (by assumption) | (simp; done) | (simp; omega) | (intro h; simp at h; omega))
      have h__42 := mp_keep eM__39 h__36 h__38 (by first | assumption | exact Ne.symm (by assumption) | (simp; done) | (simp; omega) | (intro h; simp at h; omega))
      have h__43 := mp_keep eM__39 h__34 h__38 (by first | assumption | exact Ne.symm (by assumption) | (simp; done) | (simp; omega) | (intro h; simp at h; omega))
      have h__44 := mp_keep eM__39 h__37 h__38 (by first | assumption | exact Ne.symm (by assumption) | (simp; done) | (simp; omega) | (intro h; simp at h; omega))
      obtain ⟨R3, K3⟩ := hRn M__33 (by rw [eM__33, eM__27, eM__21, mp_uu, mp_uu])
      obtain ⟨R4, K4⟩ := rep_up (M1 := M__39) R3 hkkl (fun j => if j = q then some m0 else hi j) (fun j => if j = q then true else sh j) fo (chU ch m0 key (insAt L (i1 + 1) q)) (fun j => if j = kk then some (A 0 q) else if j = q then (L[i1 + 1]?).map (A 0) else nx j) (by rw [eM__39]; simp [hkkq, va_rf]) (fun j hj => ⟨rfl, rfl, rfl, by simp [hj]⟩) (fun m key2 => by by_cases z : m = m0 ∧ key2 = key; (obtain ⟨rfl, rfl⟩ := z; rw [chU_s, ← hL]; unfold insAt; cases L; (cases hpr); rfl); (rw [chU_n z])) (ins_oth hR hhq (by have h5 := hC; rw [show L = L.take i1 ++ kk :: L.drop (i1 + 1) by rw [← take_prev hpr, List.take_append_drop]] at h5; have h6 := ch_ins (q := q) (hi' := fun j => if j = q then some m0 else hi j) (nx' := fun j => if j = kk then some (A 0 q) else if j = q then (L[i1 + 1]?).map (A 0) else nx j) ⟨hq, by simp, fun _ => hsl⟩ (by rw [head_drop]; simp [Ne.symm hkkq]) (by simp) (fun j h1 h2 => by simp [h1, h2]) (fun j hj => by simp [hj]) (L.take i1) h5 (fun z => hqL (by rw [← take_prev hpr, List.take_append_drop] at z; exact z)); unfold insAt; rw [List.take_add_one, hpr]; simpa using h6) hm0 (Or.inl ⟨hmp, hkey⟩) (fun j hj => by simp [hj]) (fun j hj hjL => by rw [← hL] at hjL; have hjk : j ≠ kk := fun z => hjL (z ▸ hkkL); simp [hj, hjk])) (fun m hm => by rw [if_neg hkkq] at hm; exact r11 kk m hkkl hm)
      exact V_vret C dX2_add_81 (by decide) (by decide) ⟨rfl, i1 + 1, _, his, by rw [← hL]; exact hil, by rw [← hL]; exact hb, by rw [← hL]; exact hx, by rw [← hL]; exact R4, K3.tr K4⟩
  have loop : ∀ i, i ≤ L.length → 0 ≤ i → (∀ j k, 0 ≤ j → j < i → L[j]? = some k → InsP lo true q k) → V p l e (rmOf 5 0 0) s m ([.ref (A 2 m0), .int (nI key), .ref (A 0 q)] : List Value).toArray below meth c (MQ below (Qp G b (pV (fun M1 => ∃ i nx', 0 ≤ i ∧ i ≤ (ch m0 key).length ∧ (∀ j k, 0 ≤ j → j < i → (ch m0 key)[j]? = some k → InsP lo true q k) ∧ (∀ k, (ch m0 key)[i]? = some k → ¬ InsP lo true q k) ∧ RepAt G M1 g a ln lo P (fun j => if j = q then some m0 else hi j) (fun j => if j = q then true else sh j) fo (chU ch m0 key (insAt (ch m0 key) i q)) nx' wt A wo ∧ Keep (MutG g) M M1))) ([.ref (A 2 m0), .int (nI key), .ref (A 0 q)] : List Value).toArray s 0 0 (fun q => b ≤ q)) G b 5 0 0 10 [some (.ref (A 2 m0)), some (.int (nI key)), some (.ref (A 0 q)), some (va_rf ((prevO L i).map (A 0))), some (va_rf ((L[i]?).map (A 0)))] [] M := by
    refine up_ind L.length ?_
    intro i hil ih his hb
    have tl := tail i his hil hb
    rcases hLi : L[i]? with _ | k
    · rw [hLi] at tl
      refine V_L (L1 := [some (.ref (A 2 m0)), some (.int (nI key)), some (.ref (A 0 q)), some (va_rf ((prevO L i).map (A 0))), some (.null)]) rfl ?_
      refine V_aloadq (o := none) C dX2_add_10 rfl ?_
      refine V_ifnull_N C 46 dX2_add_12 (by decide) ?_
      refine V_sub ?_ (tl (fun k z => by cases z))
      repeat' (first | exact ls_e | refine ls_n ?_ | refine ls_s ?_ | refine ls_i ?_ ?_ | refine ls_v ?_ ?_)
      all_goals rfl
    · rw [hLi] at tl
      obtain ⟨hkl, -, -, hnk⟩ := hC.2 i k hLi
      have hkq : k ≠ q := fun z => hqL (z ▸ List.mem_of_getElem? hLi)
      have hit := it_nx (r5 k hkl) hnk rfl
      obtain ⟨sak, sik, hopk, -⟩ := r6 k hkl
      have hzk := (rb k hkl).2.2 0
      refine V_L (L1 := [some (.ref (A 2 m0)), some (.int (nI key)), some (.ref (A 0 q)), some (va_rf ((prevO L i).map (A 0))), some (.ref (A 0 k))]) rfl ?_
      refine V_aload C dX2_add_10 rfl ?_
      refine V_ifnull_R C dX2_add_12 ?_
      refine V_aload C dX2_add_15 rfl ?_
      refine V_getN (C0 := RX5) (T := TX5) (N := 8) (ci := 5) C 0 in_X5 rfl hit (by decide) ev476 (fun _ h9 => h9) rfl dX2_add_17 ?_
      refine V_ofIe (VR_V (As := []) (rest := []) C (ct_X4_id l G b M g (A 1 k) (lo k) (r6 k (by omega)) (rb k (by omega))) hopk rfl (lw_V q596 q224 q225 q55 q226) rfl nd_X4_id rfl (by decide) (by decide) dX2_add_20 rfl ⟨by decide, by decide⟩ (Nat.le_of_ble_eq_true rfl)) ?_
      refine V_aload_n C dX2_add_23 rfl rfl ?_
      refine V_getN (C0 := RX5) (T := TX5) (N := 8) (ci := 5) C 0 in_X5 rfl hitq (by decide) ev476 (fun _ h9 => h9) rfl dX2_add_24 ?_
      refine V_ofIe (VR_V (As := []) (rest := [.int (nI (oB (lo k) 0))]) C (ct_X4_id l G b M g (A 1 q) (lo q) (r6 q (by omega)) (rb q (by omega))) hopq rfl (lw_V q596 q224 q225 q55 q226) rfl nd_X4_id rfl (by decide) (by decide) dX2_add_27 rfl ⟨by decide, by decide⟩ (Nat.le_of_ble_eq_true rfl)) ?_
      refine V_nicmp_ge (x := oB (lo k) 0) (y := oB (lo q) 0) C 46 dX2_add_30 (by decide) (by omega) (by omega) (fun k30 => ?_) (fun k30 => ?_)
      · refine V_sub ?_ (tl (fun k2 z => by cases z; unfold InsP; simp; omega))
        repeat' (first | exact ls_e | refine ls_n ?_ | refine ls_s ?_ | refine ls_i ?_ ?_ | refine ls_v ?_ ?_)
        all_goals rfl
      · refine V_aload C dX2_add_33 rfl ?_
        refine V_astore_n (L' := [some (.ref (A 2 m0)), some (.int (nI key)), some (.ref (A 0 q)), some (.ref (A 0 k)), some (.ref (A 0 k))]) C dX2_add_35 rfl (by decide) rfl ?_
        refine V_aload C dX2_add_36 rfl ?_
        refine V_getN (C0 := RX5) (T := TX5) (N := 8) (ci := 5) C 7 in_X5 rfl hit (by decide) ev496 (fun _ h9 => h9) rfl dX2_add_38 ?_
        refine V_astoreq (L' := [some (.ref (A 2 m0)), some (.int (nI key)), some (.ref (A 0 q)), some (.ref (A 0 k)), some (va_rf ((L[i + 1]?).map (A 0)))]) C dX2_add_41 (by decide) rfl ?_
        refine V_goto C 10 dX2_add_43 (by decide) ?_
        refine V_sub ?_ (ih (by have := (List.getElem?_eq_some_iff.mp hLi).1; omega) (by omega) (fun j k2 h1 h2 h3 => by rcases Nat.lt_or_ge j i with z | z; exact hb j k2 h1 z h3; (rw [show j = i by omega, hLi] at h3; cases h3; unfold InsP; simp; omega)))
        repeat' (first | exact ls_e | refine ls_n ?_ | refine ls_s ?_ | refine ls_i ?_ ?_ | refine ls_v ?_ ?_)
        all_goals (show _ = va_rf ((L[i]?).map (A 0)); rw [hLi]; rfl)
  refine V_null C dX2_add_0 ?_
  refine V_astore_nq (o := none) (L' := [some (.ref (A 2 m0)), some (.int (nI key)), some (.ref (A 0 q)), some (.null), none]) C dX2_add_1 rfl (by decide) rfl ?_
  refine V_aload_n C dX2_add_2 rfl rfl ?_
  refine V_get (C0 := RX2) (T := TX2) (N := 2) (ci := 2) C 1 in_X2 rfl hnd (by decide) q82 (fun _ h9 => h9) rfl dX2_add_3 ?_
  refine V_iload_n C dX2_add_6 rfl rfl ?_
  refine V_aald C 4 rfl hen (pk_in key 4 hkey) dX2_add_7 ?_
  refine V_topq (o1 := ((L[0]?).map (A 0))) (by rw [nI_clamp (by omega), ← hL, List.head?_eq_getElem?]) ?_
  refine V_astoreq (L' := [some (.ref (A 2 m0)), some (.int (nI key)), some (.ref (A 0 q)), some (.null), some (va_rf ((L[0]?).map (A 0)))]) C dX2_add_8 (by decide) rfl ?_
  refine V_sub ?_ (loop 0 (Nat.zero_le _) (Nat.zero_le _) (fun j k _ h => absurd h (Nat.not_lt_zero _)))
  repeat' (first | exact ls_e | refine ls_n ?_ | refine ls_s ?_ | refine ls_i ?_ ?_ | refine ls_v ?_ ?_)
theorem ct_X6_add (l : Launch) (G : mp_G) (b : Nat) (M : mp_M) (g a ln : Nat) (lo : Nat → List Nat) (P : Nat → Int32) (hi : Nat → Option Nat) (sh fo : Nat → Bool) (ch : Nat → Nat → List Nat) (nx : Nat → Option Nat) (wt : List (List Nat)) (A : Nat → Nat → Nat) (wo : List Nat) (hR : RepAt G M g a ln lo P hi sh fo ch nx wt A wo) (m0 q : Nat) (hm0 : m0 ≤ ln) (hls : isLst lo m0) (hq : q < ln) (hhq : hi q = none) (ss : Nat) (hs : ss ≤ (ch m0 0).length) (bo : Option Nat) (hbo : bo = (prevO (ch m0 0) ss).map (A 0)) : Ct l yX6_add cX6_add 5 (none) 5 0 0 G b ([.ref (A 2 m0), va_rf bo, .ref (A 0 q)] : List Value) M (pV (fun M1 => ∃ i nx', ss ≤ i ∧ i ≤ (ch m0 0).length ∧ (∀ j k, ss ≤ j → j < i → (ch m0 0)[j]? = some k → InsP lo false q k) ∧ (∀ k, (ch m0 0)[i]? = some k → ¬ InsP lo false q k) ∧ RepAt G M1 g a ln lo P (fun j => if j = q then some m0 else hi j) (fun j => if j = q then true else sh j) fo (chU ch m0 0 (insAt (ch m0 0) i q)) nx' wt A wo ∧ Keep (MutG g) M M1)) := by
  obtain ⟨L, hL⟩ : ∃ L, L = ch m0 0 := ⟨_, rfl⟩
  refine Ct.ofV (by decide) (vc_ref (vc_q (vc_ref vc_nil))) (Nat.le_of_ble_eq_true rfl) ?_
  intro p e s m below meth c C hnm
  refine V_L (L1 := [some (.ref (A 2 m0)), some (va_rf bo), some (.ref (A 0 q)), none, none]) rfl ?_
  obtain ⟨r1, r2, r3, r4, r5, r6, r7, r8, r9, r10, r11⟩ := id hR
  have rb := r10.2.2.1
  have rln := r10.1
  have hC := r9 m0 0 hm0 (Or.inr ⟨hls, rfl⟩)
  rw [← hL] at hC
  have hqL : q ∉ L := fun z => by obtain ⟨i, hi1⟩ := List.getElem?_of_mem z; have := (hC.2 i q hi1).2.1; rw [hhq] at this; cases this
  have hnd := r8 m0 hm0 hls
  rw [← hL] at hnd hs hbo
  have hitq := r5 q hq
  rw [hhq] at hitq
  obtain ⟨saq, siq, hopq, -⟩ := r6 q hq
  have hzq := (rb q hq).2.2 0
  have tail : ∀ i, ss ≤ i → i ≤ L.length → (∀ j k, ss ≤ j → j < i → L[j]? = some k → InsP lo false q k) → (∀ k, L[i]? = some k → ¬ InsP lo false q k) → V p l e (rmOf 5 0 0) s m ([.ref (A 2 m0), va_rf bo, .ref (A 0 q)] : List Value).toArray below meth c (MQ below (Qp G b (pV (fun M1 => ∃ i nx', ss ≤ i ∧ i ≤ (ch m0 0).length ∧ (∀ j k, ss ≤ j → j < i → (ch m0 0)[j]? = some k → InsP lo false q k) ∧ (∀ k, (ch m0 0)[i]? = some k → ¬ InsP lo false q k) ∧ RepAt G M1 g a ln lo P (fun j => if j = q then some m0 else hi j) (fun j => if j = q then true else sh j) fo (chU ch m0 0 (insAt (ch m0 0) i q)) nx' wt A wo ∧ Keep (MutG g) M M1))) ([.ref (A 2 m0), va_rf bo, .ref (A 0 q)] : List Value).toArray s 0 0 (fun q => b ≤ q)) G b 5 0 0 55 [some (.ref (A 2 m0)), none, some (.ref (A 0 q)), some (va_rf ((prevO L i).map (A 0))), some (va_rf ((L[i]?).map (A 0)))] [] M := by
    intro i his hil hb hx
    have hRn := fun M3 e => rep_new (M1 := M3) hR hq hhq hm0 (Or.inr hls) ((L[i]?).map (A 0)) e
    rcases hpr : prevO L i with _ | kk
    · have hi0 : i = 0 := by
        cases i with
        | zero => rfl
        | succ i => rw [prevO, List.getElem?_eq_none_iff] at hpr; omega
      subst hi0
      refine V_L (L1 := [some (.ref (A 2 m0)), none, some (.ref (A 0 q)), some (.null), some (va_rf ((L[0]?).map (A 0)))]) rfl ?_
      refine V_aload_n C dX6_add_55 rfl rfl ?_
      refine V_aloadq C dX6_add_56 rfl ?_
      refine V_M (V_putN (C0 := RX5) (T := TX5) (N := 8) (ci := 5) (fs' := [.ref (A 1 q), .int (P q), .int (nI q), va_rf (nodeO lo A q), .null, .int (bI (sh q)), .int (bI (fo q)), va_rf ((L[0]?).map (A 0))]) C 7 in_X5 tyX5 tyX5_ok nmX5 rfl hitq (by decide) ev495 (fun _ h9 => h9) rfl rfl (nq_nar _) (nq_fit _) (Nat.le_of_ble_eq_true rfl) rfl dX6_add_58) (fun M__1 eM__1 => ?_)
      have h__2 := mp_got eM__1
      have h__3 := mp_keep eM__1 hnd hitq (by first | assumption | exact Ne.symm (by assumption) | (simp; done) | (simp; omega) | (intro h; simp at h; omega))
      have h__4 := mp_keep eM__1 hopq hitq (by first | assumption | exact Ne.symm (by assumption) | (simp; done) | (simp; omega) | (intro h; simp at h; omega))
      refine V_aload_n C dX6_add_61 rfl rfl ?_
      refine V_aload_n C dX6_add_62 rfl rfl ?_
      refine V_M (V_putN (C0 := RX5) (T := TX5) (N := 8) (ci := 5) (fs' := [.ref (A 1 q), .int (P q), .int (nI q), va_rf (nodeO lo A q), .ref (A 2 m0), .int (bI (sh q)), .int (bI (fo q)), va_rf ((L[0]?).map (A 0))]) C 4 in_X5 tyX5 tyX5_ok nmX5 rfl h__2 (by decide) ev485 (fun _ h9 => h9) rfl rfl rfl rfl (Nat.le_of_ble_eq_true rfl) rfl dX6_add_63) (fun M__5 eM__5 => ?_)
      have h__6 := mp_got eM__5
      have h__7 := mp_keep eM__5 h__3 h__2 (by first | assumption | exact Ne.symm (by assumption) | (simp; done) | (simp; omega) | (intro h; simp at h; omega))
      have h__8 := mp_keep eM__5 h__4 h__2 (by first | assumption | exact Ne.symm (by assumption) | (simp; done) | (simp; omega) | (intro h; simp at h; omega))
      refine V_aload_n C dX6_add_66 rfl rfl ?_
      refine V_iconst C 1 dX6_add_67 (by decide) ?_
      refine V_M (V_putN (C0 := RX5) (T := TX5) (N := 8) (ci := 5) (fs' := [.ref (A 1 q), .int (P q), .int (nI q), va_rf (nodeO lo A q), .ref (A 2 m0), .int 1, .int (bI (fo q)), va_rf ((L[0]?).map (A 0))]) C 5 in_X5 tyX5 tyX5_ok nmX5 rfl h__6 (by decide) ev490 (fun _ h9 => h9) rfl rfl rfl rfl (Nat.le_of_ble_eq_true rfl) rfl dX6_add_68) (fun M__9 eM__9 => ?_)
      have h__10 := mp_got eM__9
      have h__11 := mp_keep eM__9 h__7 h__6 (by first | assumption | exact Ne.symm (by assumption) | (simp; done) | (simp; omega) | (intro h; simp at h; omega))
      have h__12 := mp_keep eM__9 h__8 h__6 (by first | assumption | exact Ne.symm (by assumption) | (simp; done) | (simp; omega) | (intro h; simp at h; omega))
      refine V_aload_nq (o := none) C dX6_add_71 rfl rfl ?_
      refine V_ifnonnull_N C dX6_add_72 ?_
      refine V_aload_n C dX6_add_75 rfl rfl ?_
      refine V_aload_n C dX6_add_76 rfl rfl ?_
      refine V_M (V_put (host := "") (C0 := RX6) (T := TX6) (N := 2) (ci := 6) (fs' := [.ref (A 0 (m0 - 1)), .ref (A 0 q)]) C 1 in_X6 tyX6 tyX6_ok nmX6 rfl h__11 (by decide) q521 (fun _ h9 => h9) rfl rfl rfl rfl (Nat.le_of_ble_eq_true rfl) rfl dX6_add_77) (fun M__13 eM__13 => ?_)
      have h__14 := mp_got eM__13
      have h__15 := mp_keep eM__13 h__10 h__11 (by first | assumption | exact Ne.symm (by assumption) | (simp; done) | (simp; omega) | (intro h; simp at h; omega))
      have h__16 := mp_keep eM__13 h__12 h__11 (by first | assumption | exact Ne.symm (by assumption) | (simp; done) | (simp; omega) | (intro h; simp at h; omega))
      refine V_goto C 88 dX6_add_80 (by decide) ?_
      obtain ⟨R3, K3⟩ := hRn M__9 (by rw [eM__9, eM__5, eM__1, mp_uu, mp_uu])
      obtain ⟨R4, K4⟩ := rep_fst (M1 := M__13) R3 hm0 hls (chU ch m0 0 (insAt L 0 q)) (by rw [eM__13, chU_s]; rfl) (fun m key2 z => by rw [chU_n z]) (ins_oth hR hhq (by show ChOk _ _ _ _ _ _ _ (q :: L.drop 0); rw [List.drop_zero]; exact ch_ins0 ⟨hq, by simp, fun z => absurd z (fun w => by rcases w with w | w; exact hls.1 w; have := hls.2; omega)⟩ (by simp [List.head?_eq_getElem?]) (fun j hj => by simp [hj]) (fun j hj => by simp [hj]) hC hqL) hm0 (Or.inr ⟨hls, rfl⟩) (fun j hj => by simp [hj]) (fun j hj _ => by simp [hj]))
      exact V_vret C dX6_add_88 (by decide) (by decide) ⟨rfl, 0, _, his, by rw [← hL]; exact hil, by rw [← hL]; exact hb, by rw [← hL]; exact hx, by rw [← hL]; exact R4, K3.tr K4⟩
    · obtain ⟨i1, rfl⟩ : ∃ i1, i = i1 + 1 := by
        cases i with
        | zero => cases hpr
        | succ i => exact ⟨i, rfl⟩
      rw [prevO] at hpr
      obtain ⟨hkkl, -, -, -⟩ := hC.2 i1 kk hpr
      have hkkL := List.mem_of_getElem? hpr
      have hkkq : kk ≠ q := fun z => hqL (z ▸ hkkL)
      have hit3 := r5 kk hkkl
      refine V_L (L1 := [some (.ref (A 2 m0)), none, some (.ref (A 0 q)), some (.ref (A 0 kk)), some (va_rf ((L[i1 + 1]?).map (A 0)))]) rfl ?_
      refine V_aload_n C dX6_add_55 rfl rfl ?_
      refine V_aloadq C dX6_add_56 rfl ?_
      refine V_M (V_putN (C0 := RX5) (T := TX5) (N := 8) (ci := 5) (fs' := [.ref (A 1 q), .int (P q), .int (nI q), va_rf (nodeO lo A q), .null, .int (bI (sh q)), .int (bI (fo q)), va_rf ((L[i1 + 1]?).map (A 0))]) C 7 in_X5 tyX5 tyX5_ok nmX5 rfl hitq (by decide) ev495 (fun _ h9 => h9) rfl rfl (nq_nar _) (nq_fit _) (Nat.le_of_ble_eq_true rfl) rfl dX6_add_58) (fun M__17 eM__17 => ?_)
      have h__18 := mp_got eM__17
      have h__19 := mp_keep eM__17 hnd hitq (by first | assumption | exact Ne.symm (by assumption) | (simp; done) | (simp; omega) | (intro h; simp at h; omega))
      have h__20 := mp_keep eM__17 hopq hitq (by first | assumption | exact Ne.symm (by assumption) | (simp; done) | (simp; omega) | (intro h; simp at h; omega))
      have h__21 := mp_keep eM__17 hit3 hitq (by first | assumption | exact Ne.symm (by assumption) | (simp; done) | (simp; omega) | (intro h; simp at h; omega))
      refine V_aload_n C dX6_add_61 rfl rfl ?_
      refine V_aload_n C dX6_add_62 rfl rfl ?_
      refine V_M (V_putN (C0 := RX5) (T := TX5) (N := 8) (ci := 5) (fs' := [.ref (A 1 q), .int (P q), .int (nI q), va_rf (nodeO lo A q), .ref (A 2 m0), .int (bI (sh q)), .int (bI (fo q)), va_rf ((L[i1 + 1]?).map (A 0))]) C 4 in_X5 tyX5 tyX5_ok nmX5 rfl h__18 (by decide) ev485 (fun _ h9 => h9) rfl rfl rfl rfl (Nat.le_of_ble_eq_true rfl) rfl dX6_add_63) (fun M__22 eM__22 => ?_)
      have h__23 := mp_got eM__22
      have h__24 := mp_keep eM__22 h__19 h__18 (by first | assumption | exact Ne.symm (by assumption) | (simp; done) | (simp; omega) | (intro h; simp at h; omega))
      have h__25 := mp_keep eM__22 h__20 h__18 (by first | assumption | exact Ne.symm (by assumption) | (simp; done) | (simp; omega) | (intro h; simp at h; omega))
      have h__26 := mp_keep eM__22 h__21 h__18 (by first | assumption | exact Ne.symm (by assumption) | (simp; done) | (simp; omega) | (intro h; simp at h; omega))
      refine V_aload_n C dX6_add_66 rfl rfl ?_
      refine V_iconst C 1 dX6_add_67 (by decide) ?_
      refine V_M (V_putN (C0 := RX5) (T := TX5) (N := 8) (ci := 5) (fs' := [.ref (A 1 q), .int (P q), .int (nI q), va_rf (nodeO lo A q), .ref (A 2 m0), .int 1, .int (bI (fo q)), va_rf ((L[i1 + 1]?).map (A 0))]) C 5 in_X5 tyX5 tyX5_ok nmX5 rfl h__23 (by decide) ev490 (fun _ h9 => h9) rfl rfl rfl rfl (Nat.le_of_ble_eq_true rfl) rfl dX6_add_68) (fun M__27 eM__27 => ?_)
      have h__28 := mp_got eM__27
      have h__29 := mp_keep eM__27 h__24 h__23 (by first | assumption | exact Ne.symm (by assumption) | (simp; done) | (simp; omega) | (intro h; simp at h; omega))
      have h__30 := mp_keep eM__27 h__25 h__23 (by first | assumption | exact Ne.symm (by assumption) | (simp; done) | (simp; omega) | (intro h; simp at h; omega))
      have h__31 := mp_keep eM__27 h__26 h__23 (by first | assumption | exact Ne.symm (by assumption) | (simp; done) | (simp; omega) | (intro h; simp at h; omega))
      refine V_aload_n C dX6_add_71 rfl rfl ?_
      refine V_ifnonnull_R C 83 dX6_add_72 (by decide) ?_
      refine V_aload_n C dX6_add_83 rfl rfl ?_
      refine V_aload_n C dX6_add_84 rfl rfl ?_
      refine V_M (V_putN (C0 := RX5) (T := TX5) (N := 8) (ci := 5) (fs' := [.ref (A 1 kk), .int (P kk), .int (nI kk), va_rf (nodeO lo A kk), va_rf ((hi kk).map (A 2)), .int (bI (sh kk)), .int (bI (fo kk)), .ref (A 0 q)]) C 7 in_X5 tyX5 tyX5_ok nmX5 rfl h__31 (by decide) ev495 (fun _ h9 => h9) rfl rfl rfl rfl (Nat.le_of_ble_eq_true rfl) rfl dX6_add_85) (fun M__32 eM__32 => ?_)
      have h__33 := mp_got eM__32
      have h__34 := mp_keep eM__32 h__29 h__31 (by first | assumption | exact Ne.symm (by assumption) | (simp; done) | (simp; omega) | (intro h; simp at h; omega))
      have h__35 := mp_keep eM__32 h__28 h__31 (by first | assumption | exact Ne.symm (by assumption) | (simp; done) | (simp; omega) | (intro h; simp at h; omega))
      have h__36 := mp_keep eM__32 h__30 h__31 (by first | assumption | exact Ne.symm (by assumption) | (simp; done) | (simp; omega) | (intro h; simp at h; omega))
      obtain ⟨R3, K3⟩ := hRn M__27 (by rw [eM__27, eM__22, eM__17, mp_uu, mp_uu])
      obtain ⟨R4, K4⟩ := rep_up (M1 := M__32) R3 hkkl (fun j => if j = q then some m0 else hi j) (fun j => if j = q then true else sh j) fo (chU ch m0 0 (insAt L (i1 + 1) q)) (fun j => if j = kk then some (A 0 q) else if j = q then (L[i1 + 1]?).map (A 0) else nx j) (by rw [eM__32]; simp [hkkq, va_rf]) (fun j hj => ⟨rfl, rfl, rfl, by simp [hj]⟩) (fun m key2 => by by_cases z : m = m0 ∧ key2 = 0; (obtain ⟨rfl, rfl⟩ := z; rw [chU_s, ← hL]; unfold insAt; cases L; (cases hpr); rfl); (rw [chU_n z])) (ins_oth hR hhq (by have h5 := hC; rw [show L = L.take i1 ++ kk :: L.drop (i1 + 1) by rw [← take_prev hpr, List.take_append_drop]] at h5; have h6 := ch_ins (q := q) (hi' := fun j => if j = q then some m0 else hi j) (nx' := fun j => if j = kk then some (A 0 q) else if j = q then (L[i1 + 1]?).map (A 0) else nx j) ⟨hq, by simp, fun z => absurd z (fun w => by rcases w with w | w; exact hls.1 w; have := hls.2; omega)⟩ (by rw [head_drop]; simp [Ne.symm hkkq]) (by simp) (fun j h1 h2 => by simp [h1, h2]) (fun j hj => by simp [hj]) (L.take i1) h5 (fun z => hqL (by rw [← take_prev hpr, List.take_append_drop] at z; exact z)); unfold insAt; rw [List.take_add_one, hpr]; simpa using h6) hm0 (Or.inr ⟨hls, rfl⟩) (fun j hj => by simp [hj]) (fun j hj hjL => by rw [← hL] at hjL; have hjk : j ≠ kk := fun z => hjL (z ▸ hkkL); simp [hj, hjk])) (fun m hm => by rw [if_neg hkkq] at hm; exact r11 kk m hkkl hm)
      exact V_vret C dX6_add_88 (by decide) (by decide) ⟨rfl, i1 + 1, _, his, by rw [← hL]; exact hil, by rw [← hL]; exact hb, by rw [← hL]; exact hx, by rw [← hL]; exact R4, K3.tr K4⟩
  have loop : ∀ i, i ≤ L.length → ss ≤ i → (∀ j k, ss ≤ j → j < i → L[j]? = some k → InsP lo false q k) → V p l e (rmOf 5 0 0) s m ([.ref (A 2 m0), va_rf bo, .ref (A 0 q)] : List Value).toArray below meth c (MQ below (Qp G b (pV (fun M1 => ∃ i nx', ss ≤ i ∧ i ≤ (ch m0 0).length ∧ (∀ j k, ss ≤ j → j < i → (ch m0 0)[j]? = some k → InsP lo false q k) ∧ (∀ k, (ch m0 0)[i]? = some k → ¬ InsP lo false q k) ∧ RepAt G M1 g a ln lo P (fun j => if j = q then some m0 else hi j) (fun j => if j = q then true else sh j) fo (chU ch m0 0 (insAt (ch m0 0) i q)) nx' wt A wo ∧ Keep (MutG g) M M1))) ([.ref (A 2 m0), va_rf bo, .ref (A 0 q)] : List Value).toArray s 0 0 (fun q => b ≤ q)) G b 5 0 0 19 [some (.ref (A 2 m0)), none, some (.ref (A 0 q)), some (va_rf ((prevO L i).map (A 0))), some (va_rf ((L[i]?).map (A 0)))] [] M := by
    refine up_ind L.length ?_
    intro i hil ih his hb
    have tl := tail i his hil hb
    rcases hLi : L[i]? with _ | k
    · rw [hLi] at tl
      refine V_L (L1 := [some (.ref (A 2 m0)), none, some (.ref (A 0 q)), some (va_rf ((prevO L i).map (A 0))), some (.null)]) rfl ?_
      refine V_aloadq (o := none) C dX6_add_19 rfl ?_
      refine V_ifnull_N C 55 dX6_add_21 (by decide) ?_
      refine V_sub ?_ (tl (fun k z => by cases z))
      repeat' (first | exact ls_e | refine ls_n ?_ | refine ls_s ?_ | refine ls_i ?_ ?_ | refine ls_v ?_ ?_)
      all_goals rfl
    · rw [hLi] at tl
      obtain ⟨hkl, -, -, hnk⟩ := hC.2 i k hLi
      have hkq : k ≠ q := fun z => hqL (z ▸ List.mem_of_getElem? hLi)
      have hit := it_nx (r5 k hkl) hnk rfl
      obtain ⟨sak, sik, hopk, -⟩ := r6 k hkl
      have hzk := (rb k hkl).2.2 0
      refine V_L (L1 := [some (.ref (A 2 m0)), none, some (.ref (A 0 q)), some (va_rf ((prevO L i).map (A 0))), some (.ref (A 0 k))]) rfl ?_
      refine V_aload C dX6_add_19 rfl ?_
      refine V_ifnull_R C dX6_add_21 ?_
      refine V_aload C dX6_add_24 rfl ?_
      refine V_getN (C0 := RX5) (T := TX5) (N := 8) (ci := 5) C 0 in_X5 rfl hit (by decide) ev475 (fun _ h9 => h9) rfl dX6_add_26 ?_
      refine V_ofIe (VR_V (As := []) (rest := []) C (ct_X4_id l G b M g (A 1 k) (lo k) (r6 k (by omega)) (rb k (by omega))) hopk rfl (lw_V q587 q224 q225 q55 q226) rfl nd_X4_id rfl (by decide) (by decide) dX6_add_29 rfl ⟨by decide, by decide⟩ (Nat.le_of_ble_eq_true rfl)) ?_
      refine V_aload_n C dX6_add_32 rfl rfl ?_
      refine V_getN (C0 := RX5) (T := TX5) (N := 8) (ci := 5) C 0 in_X5 rfl hitq (by decide) ev475 (fun _ h9 => h9) rfl dX6_add_33 ?_
      refine V_ofIe (VR_V (As := []) (rest := [.int (nI (oB (lo k) 0))]) C (ct_X4_id l G b M g (A 1 q) (lo q) (r6 q (by omega)) (rb q (by omega))) hopq rfl (lw_V q587 q224 q225 q55 q226) rfl nd_X4_id rfl (by decide) (by decide) dX6_add_36 rfl ⟨by decide, by decide⟩ (Nat.le_of_ble_eq_true rfl)) ?_
      refine V_nicmp_le (x := oB (lo k) 0) (y := oB (lo q) 0) C 55 dX6_add_39 (by decide) (by omega) (by omega) (fun k39 => ?_) (fun k39 => ?_)
      · refine V_sub ?_ (tl (fun k2 z => by cases z; unfold InsP; simp; omega))
        repeat' (first | exact ls_e | refine ls_n ?_ | refine ls_s ?_ | refine ls_i ?_ ?_ | refine ls_v ?_ ?_)
        all_goals rfl
      · refine V_aload C dX6_add_42 rfl ?_
        refine V_astore_n (L' := [some (.ref (A 2 m0)), none, some (.ref (A 0 q)), some (.ref (A 0 k)), some (.ref (A 0 k))]) C dX6_add_44 rfl (by decide) rfl ?_
        refine V_aload C dX6_add_45 rfl ?_
        refine V_getN (C0 := RX5) (T := TX5) (N := 8) (ci := 5) C 7 in_X5 rfl hit (by decide) ev495 (fun _ h9 => h9) rfl dX6_add_47 ?_
        refine V_astoreq (L' := [some (.ref (A 2 m0)), none, some (.ref (A 0 q)), some (.ref (A 0 k)), some (va_rf ((L[i + 1]?).map (A 0)))]) C dX6_add_50 (by decide) rfl ?_
        refine V_goto C 19 dX6_add_52 (by decide) ?_
        refine V_sub ?_ (ih (by have := (List.getElem?_eq_some_iff.mp hLi).1; omega) (by omega) (fun j k2 h1 h2 h3 => by rcases Nat.lt_or_ge j i with z | z; exact hb j k2 h1 z h3; (rw [show j = i by omega, hLi] at h3; cases h3; unfold InsP; simp; omega)))
        repeat' (first | exact ls_e | refine ls_n ?_ | refine ls_s ?_ | refine ls_i ?_ ?_ | refine ls_v ?_ ?_)
        all_goals (show _ = va_rf ((L[i]?).map (A 0)); rw [hLi]; rfl)
  have fin := loop ss hs (Nat.le_refl _) (fun j k h1 h2 => absurd h1 (by omega))
  rcases hpr : prevO L ss with _ | bb
  · have hs0 : ss = 0 := by
      cases ss with
      | zero => rfl
      | succ s => rw [prevO, List.getElem?_eq_none_iff] at hpr; omega
    subst hs0
    rw [hpr] at fin hbo
    subst hbo
    refine V_L (L1 := [some (.ref (A 2 m0)), some (.null), some (.ref (A 0 q)), none, none]) rfl ?_
    refine V_aload_nq (o := none) C dX6_add_0 rfl rfl ?_
    refine V_astore_nq (o := none) (L' := [some (.ref (A 2 m0)), some (.null), some (.ref (A 0 q)), some (.null), none]) C dX6_add_1 rfl (by decide) rfl ?_
    refine V_aload_nq (o := none) C dX6_add_2 rfl rfl ?_
    refine V_ifnonnull_N C dX6_add_3 ?_
    refine V_aload_n C dX6_add_6 rfl rfl ?_
    refine V_get (C0 := RX6) (T := TX6) (N := 2) (ci := 6) C 1 in_X6 rfl hnd (by decide) q521 (fun _ h9 => h9) rfl dX6_add_7 ?_
    refine V_goto C 17 dX6_add_10 (by decide) ?_
    refine V_astoreq (L' := [some (.ref (A 2 m0)), some (.null), some (.ref (A 0 q)), some (.null), some (va_rf ((L.head?).map (A 0)))]) C dX6_add_17 (by decide) rfl ?_
    refine V_sub ?_ (fin)
    repeat' (first | exact ls_e | refine ls_n ?_ | refine ls_s ?_ | refine ls_i ?_ ?_ | refine ls_v ?_ ?_)
    all_goals (first | rfl | (rw [List.head?_eq_getElem?]))
  · obtain ⟨s1, rfl⟩ : ∃ s1, ss = s1 + 1 := by
      cases ss with
      | zero => cases hpr
      | succ s => exact ⟨s, rfl⟩
    have hpr2 := hpr
    rw [prevO] at hpr2
    obtain ⟨hbl, -, -, hnb⟩ := hC.2 s1 bb hpr2
    have hitb := it_nx (r5 bb hbl) hnb rfl
    rw [hpr] at fin hbo
    subst hbo
    refine V_L (L1 := [some (.ref (A 2 m0)), some (.ref (A 0 bb)), some (.ref (A 0 q)), none, none]) rfl ?_
    refine V_aload_n C dX6_add_0 rfl rfl ?_
    refine V_astore_n (L' := [some (.ref (A 2 m0)), some (.ref (A 0 bb)), some (.ref (A 0 q)), some (.ref (A 0 bb)), none]) C dX6_add_1 rfl (by decide) rfl ?_
    refine V_aload_n C dX6_add_2 rfl rfl ?_
    refine V_ifnonnull_R C 13 dX6_add_3 (by decide) ?_
    refine V_aload_n C dX6_add_13 rfl rfl ?_
    refine V_getN (C0 := RX5) (T := TX5) (N := 8) (ci := 5) C 7 in_X5 rfl hitb (by decide) ev495 (fun _ h9 => h9) rfl dX6_add_14 ?_
    refine V_astoreq (L' := [some (.ref (A 2 m0)), some (.ref (A 0 bb)), some (.ref (A 0 q)), some (.ref (A 0 bb)), some (va_rf ((L[s1 + 1]?).map (A 0)))]) C dX6_add_17 (by decide) rfl ?_
    refine V_sub ?_ (fin)
    repeat' (first | exact ls_e | refine ls_n ?_ | refine ls_s ?_ | refine ls_i ?_ ?_ | refine ls_v ?_ ?_)
    all_goals rfl

