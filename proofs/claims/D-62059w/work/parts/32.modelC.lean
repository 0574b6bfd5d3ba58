set_option maxRecDepth 100000
/-! THE MODEL, C: the order of elements, sums -/
def cmpF (po : Nat → Nat → Nat) (par : Nat → Nat) : Nat → Nat → Nat → Bool
  | 0, x, y => decide (po y 0 < po x 0)
  | f + 1, x, y => if po x 3 = po y 3 then decide (po y 0 < po x 0) else cmpF po par f (par x) (par y)
theorem cmpF_end {po : Nat → Nat → Nat} {par : Nat → Nat} {f x y : Nat} (h : f = 0 ∨ po x 3 = po y 3) : cmpF po par f x y = decide (po y 0 < po x 0) := by
  cases f with
  | zero => rfl
  | succ f => exact if_pos (h.resolve_left (by omega))
theorem cmpF_go {po : Nat → Nat → Nat} {par : Nat → Nat} {f x y : Nat} (h : ¬ po x 3 = po y 3) : cmpF po par (f + 1) x y = cmpF po par f (par x) (par y) := if_neg h
def aheadF (po : Nat → Nat → Nat) (par dp : Nat → Nat) (i j : Nat) : Bool := if upF par (dp i - dp j) i = upF par (dp j - dp i) j then decide (dp i < dp j) else cmpF po par 16 (upF par (dp i - dp j) i) (upF par (dp j - dp i) j)
theorem ct_X3_ahead (l : Launch) (G : mp_G) (b : Nat) (M : mp_M) (a : Nat) (ad : Nat → Nat) (S : Nat → Nat → Int32) (r n : Nat) (po : Nat → Nat → Nat) (ap : Nat → Bool) (hS : MdAt G M a ad S) (hme : S 7 0 = nI r) (hV : Vw S r n po ap) (E : Nat → Prop) (par dp : Nat → Nat) (hTr : Tree n po ap E par dp) (i j : Nat) (hi : E i) (hj : E j) : Ct l yX3_ahead cX3_ahead 8 (some .boolean) 3 0 0 G b ([.ref a, .int (nI i), .int (nI j)] : List Value) M (pI (fun y M1 => y = bI (aheadF po par dp i j) ∧ M1 = M)) := by
  have hr := hV.1
  have hn := hV.2.1
  have hii := (hTr i hi).1
  have hjj := (hTr j hj).1
  have ux := upF_E hTr hi (dp i - dp j) (by omega)
  have uy := upF_E hTr hj (dp j - dp i) (by omega)
  have hdi := (hTr i hi).2.1
  have hdj := (hTr j hj).2.1
  refine Ct.ofV (by decide) (vc_ref (vc_int (vc_int vc_nil))) (Nat.le_of_ble_eq_true rfl) ?_
  intro p e s m below meth c C hnm
  refine V_L (L1 := [some (.ref a), some (.int (nI i)), some (.int (nI j)), none, none, none, none, none]) rfl ?_
  obtain ⟨hma, hm0, hm1, hm2, hm3, hm4, hm5, hm8, hm9, hm10, hm11⟩ := id hS
  rw [hme] at hma
  have loop : ∀ k, k ≤ 16 → ∀ x y, E x → E y → dp x = dp y → cmpF po par (16 - k) x y = aheadF po par dp i j → V p l e (rmOf 3 0 0) s m ([.ref a, .int (nI i), .int (nI j)] : List Value).toArray below meth c (MQ below (Qp G b (pI (fun y M1 => y = bI (aheadF po par dp i j) ∧ M1 = M))) ([.ref a, .int (nI i), .int (nI j)] : List Value).toArray s 0 0 (fun q => b ≤ q)) G b 8 0 0 77 [some (.ref a), some (.int (nI i)), some (.int (nI j)), none, none, some (.int (nI x)), some (.int (nI y)), some (.int (nI k))] [] M := by
    refine up_ind 16 ?_
    intro k hk ih x y hx hy hxy hc
    obtain ⟨tx1, tx2, tx3, tx4⟩ := hTr x hx
    obtain ⟨ty1, ty2, ty3, ty4⟩ := hTr y hy
    have hkx := hV.2.2.2.2.1 x tx1
    have hky := hV.2.2.2.2.1 y ty1
    refine V_iload C dX3_ahead_77 rfl ?_
    refine V_bipush C 16 dX3_ahead_79 (by decide) ?_
    refine V_nicmp_ge (x := k) (y := 16) C 125 dX3_ahead_81 (by decide) (by omega) (by omega) (fun q81 => ?_) (fun q81 => ?_)
    · have hres := cmpF_end (po := po) (par := par) (f := 16 - k) (x := x) (y := y) (by first | exact Or.inr q98 | exact Or.inl (by omega))
      refine V_aload_n C dX3_ahead_125 rfl rfl ?_
      refine V_iload C dX3_ahead_126 rfl ?_
      refine V_iconst C 0 dX3_ahead_128 (by decide) ?_
      refine V_ofIe (VR_V (As := [.int (nI x), .int 0]) (rest := []) C (ct_X3_part l G b M a ad S r n po ap hS hme hV x 0 (by omega) (by omega)) hma rfl (lw_V q875 q877 qs11 q46 q878) rfl nd_X3_part rfl (by decide) (by decide) dX3_ahead_129 rfl ⟨by decide, by decide⟩ (Nat.le_of_ble_eq_true rfl)) ?_
      have hp129 := hV.2.2.2.2.2.1 x 0
      refine V_aload_n C dX3_ahead_132 rfl rfl ?_
      refine V_iload C dX3_ahead_133 rfl ?_
      refine V_iconst C 0 dX3_ahead_135 (by decide) ?_
      refine V_ofIe (VR_V (As := [.int (nI y), .int 0]) (rest := [.int (nI (po x 0))]) C (ct_X3_part l G b M a ad S r n po ap hS hme hV y 0 (by omega) (by omega)) hma rfl (lw_V q875 q877 qs11 q46 q878) rfl nd_X3_part rfl (by decide) (by decide) dX3_ahead_136 rfl ⟨by decide, by decide⟩ (Nat.le_of_ble_eq_true rfl)) ?_
      have hp136 := hV.2.2.2.2.2.1 y 0
      refine V_nicmp_le (x := po x 0) (y := po y 0) C 146 dX3_ahead_139 (by decide) (by omega) (by omega) (fun q139 => ?_) (fun q139 => ?_)
      · refine V_iconst C 0 dX3_ahead_146 (by decide) ?_
        exact V_zret C rfl dX3_ahead_147 (by decide) (by decide) ⟨_, rfl, by rw [← hc, hres]; first | (refine bt ?_; exact decide_eq_true q139) | (refine bf ?_; exact decide_eq_false (by omega)), rfl⟩
      · refine V_iconst C 1 dX3_ahead_142 (by decide) ?_
        refine V_goto C 147 dX3_ahead_143 (by decide) ?_
        exact V_zret C rfl dX3_ahead_147 (by decide) (by decide) ⟨_, rfl, by rw [← hc, hres]; first | (refine bt ?_; exact decide_eq_true q139) | (refine bf ?_; exact decide_eq_false (by omega)), rfl⟩
    · refine V_aload_n C dX3_ahead_84 rfl rfl ?_
      refine V_iload C dX3_ahead_85 rfl ?_
      refine V_iconst C 3 dX3_ahead_87 (by decide) ?_
      refine V_ofIe (VR_V (As := [.int (nI x), .int 3]) (rest := []) C (ct_X3_part l G b M a ad S r n po ap hS hme hV x 3 (by omega) (by omega)) hma rfl (lw_V q875 q877 qs11 q46 q878) rfl nd_X3_part rfl (by decide) (by decide) dX3_ahead_88 rfl ⟨by decide, by decide⟩ (Nat.le_of_ble_eq_true rfl)) ?_
      have hp88 := hV.2.2.2.2.2.1 x 3
      refine V_aload_n C dX3_ahead_91 rfl rfl ?_
      refine V_iload C dX3_ahead_92 rfl ?_
      refine V_iconst C 3 dX3_ahead_94 (by decide) ?_
      refine V_ofIe (VR_V (As := [.int (nI y), .int 3]) (rest := [.int (nI (po x 3))]) C (ct_X3_part l G b M a ad S r n po ap hS hme hV y 3 (by omega) (by omega)) hma rfl (lw_V q875 q877 qs11 q46 q878) rfl nd_X3_part rfl (by decide) (by decide) dX3_ahead_95 rfl ⟨by decide, by decide⟩ (Nat.le_of_ble_eq_true rfl)) ?_
      have hp95 := hV.2.2.2.2.2.1 y 3
      refine V_nicmp_eq (x := po x 3) (y := po y 3) C 125 dX3_ahead_98 (by decide) (by omega) (by omega) (fun q98 => ?_) (fun q98 => ?_)
      · have hres := cmpF_end (po := po) (par := par) (f := 16 - k) (x := x) (y := y) (by first | exact Or.inr q98 | exact Or.inl (by omega))
        refine V_aload_n C dX3_ahead_125 rfl rfl ?_
        refine V_iload C dX3_ahead_126 rfl ?_
        refine V_iconst C 0 dX3_ahead_128 (by decide) ?_
        refine V_ofIe (VR_V (As := [.int (nI x), .int 0]) (rest := []) C (ct_X3_part l G b M a ad S r n po ap hS hme hV x 0 (by omega) (by omega)) hma rfl (lw_V q875 q877 qs11 q46 q878) rfl nd_X3_part rfl (by decide) (by decide) dX3_ahead_129 rfl ⟨by decide, by decide⟩ (Nat.le_of_ble_eq_true rfl)) ?_
        have hp129 := hV.2.2.2.2.2.1 x 0
        refine V_aload_n C dX3_ahead_132 rfl rfl ?_
        refine V_iload C dX3_ahead_133 rfl ?_
        refine V_iconst C 0 dX3_ahead_135 (by decide) ?_
        refine V_ofIe (VR_V (As := [.int (nI y), .int 0]) (rest := [.int (nI (po x 0))]) C (ct_X3_part l G b M a ad S r n po ap hS hme hV y 0 (by omega) (by omega)) hma rfl (lw_V q875 q877 qs11 q46 q878) rfl nd_X3_part rfl (by decide) (by decide) dX3_ahead_136 rfl ⟨by decide, by decide⟩ (Nat.le_of_ble_eq_true rfl)) ?_
        have hp136 := hV.2.2.2.2.2.1 y 0
        refine V_nicmp_le (x := po x 0) (y := po y 0) C 146 dX3_ahead_139 (by decide) (by omega) (by omega) (fun q139 => ?_) (fun q139 => ?_)
        · refine V_iconst C 0 dX3_ahead_146 (by decide) ?_
          exact V_zret C rfl dX3_ahead_147 (by decide) (by decide) ⟨_, rfl, by rw [← hc, hres]; first | (refine bt ?_; exact decide_eq_true q139) | (refine bf ?_; exact decide_eq_false (by omega)), rfl⟩
        · refine V_iconst C 1 dX3_ahead_142 (by decide) ?_
          refine V_goto C 147 dX3_ahead_143 (by decide) ?_
          exact V_zret C rfl dX3_ahead_147 (by decide) (by decide) ⟨_, rfl, by rw [← hc, hres]; first | (refine bt ?_; exact decide_eq_true q139) | (refine bf ?_; exact decide_eq_false (by omega)), rfl⟩
      · have hd1 : 1 ≤ dp x := by rcases Nat.eq_zero_or_pos (po x 3) with z | z; (rcases Nat.eq_zero_or_pos (po y 3) with w | w; exact absurd (by rw [z, w]) q98; have := (ty4 (by omega)).2.2; omega); have := (tx4 (by omega)).2.2; omega
        have hd2 : 1 ≤ dp y := by omega
        have ux1 := upF_E hTr hx 1 hd1
        have uy1 := upF_E hTr hy 1 hd2
        refine V_aload_n C dX3_ahead_101 rfl rfl ?_
        refine V_iload C dX3_ahead_102 rfl ?_
        refine V_iconst C 1 dX3_ahead_104 (by decide) ?_
        refine V_ofIe (VR_V (As := [.int (nI x), .int 1]) (rest := []) C (ct_X3_up l G b M a ad S r n po ap hS hme hV E par dp hTr x 1 (by assumption) (by omega)) hma rfl (lw_V q1014 q1016 qs32 q46 q1017) rfl nd_X3_up rfl (by decide) (by decide) dX3_ahead_105 rfl ⟨by decide, by decide⟩ (Nat.le_of_ble_eq_true rfl)) ?_
        have hup105 := (hTr _ (upF_E hTr (by assumption : E x) 1 (by omega)).1).1
        refine V_istore (L' := [some (.ref a), some (.int (nI i)), some (.int (nI j)), none, none, some (.int (nI (upF par 1 x))), some (.int (nI y)), some (.int (nI k))]) C dX3_ahead_108 (by decide) rfl ?_
        refine V_aload_n C dX3_ahead_110 rfl rfl ?_
        refine V_iload C dX3_ahead_111 rfl ?_
        refine V_iconst C 1 dX3_ahead_113 (by decide) ?_
        refine V_ofIe (VR_V (As := [.int (nI y), .int 1]) (rest := []) C (ct_X3_up l G b M a ad S r n po ap hS hme hV E par dp hTr y 1 (by assumption) (by omega)) hma rfl (lw_V q1014 q1016 qs32 q46 q1017) rfl nd_X3_up rfl (by decide) (by decide) dX3_ahead_114 rfl ⟨by decide, by decide⟩ (Nat.le_of_ble_eq_true rfl)) ?_
        have hup114 := (hTr _ (upF_E hTr (by assumption : E y) 1 (by omega)).1).1
        refine V_istore (L' := [some (.ref a), some (.int (nI i)), some (.int (nI j)), none, none, some (.int (nI (upF par 1 x))), some (.int (nI (upF par 1 y))), some (.int (nI k))]) C dX3_ahead_117 (by decide) rfl ?_
        refine V_iinc (v := (nI (k + 1))) (L' := [some (.ref a), some (.int (nI i)), some (.int (nI j)), none, none, some (.int (nI (upF par 1 x))), some (.int (nI (upF par 1 y))), some (.int (nI (k + 1)))]) C dX3_ahead_119 rfl (nI_1 _) (by decide) rfl ?_
        refine V_goto C 77 dX3_ahead_122 (by decide) ?_
        refine V_sub ?_ (ih (by omega) (upF par 1 x) (upF par 1 y) ux1.1 uy1.1 (by omega) (by rw [← hc, show 16 - k = 16 - (k + 1) + 1 by omega, cmpF_go q98]; rfl))
        repeat' (first | exact ls_e | refine ls_n ?_ | refine ls_s ?_ | refine ls_i ?_ ?_ | refine ls_v ?_ ?_)
  have rest : ∀ x y, E x → E y → dp x = dp y → x = upF par (dp i - dp j) i → y = upF par (dp j - dp i) j → V p l e (rmOf 3 0 0) s m ([.ref a, .int (nI i), .int (nI j)] : List Value).toArray below meth c (MQ below (Qp G b (pI (fun y M1 => y = bI (aheadF po par dp i j) ∧ M1 = M))) ([.ref a, .int (nI i), .int (nI j)] : List Value).toArray s 0 0 (fun q => b ≤ q)) G b 8 0 0 55 [some (.ref a), some (.int (nI i)), some (.int (nI j)), some (.int (nI (dp i))), some (.int (nI (dp j))), some (.int (nI x)), some (.int (nI y)), none] [] M := by
    intro x y hx hy hxy ex ey
    have hA : aheadF po par dp i j = if x = y then decide (dp i < dp j) else cmpF po par 16 x y := by rw [ex, ey]; rfl
    have tx1 := (hTr x hx).1
    have ty1 := (hTr y hy).1
    refine V_iload C dX3_ahead_55 rfl ?_
    refine V_iload C dX3_ahead_57 rfl ?_
    refine V_nicmp_ne (x := x) (y := y) C 74 dX3_ahead_59 (by decide) (by omega) (by omega) (fun q59 => ?_) (fun q59 => ?_)
    · refine V_iconst C 0 dX3_ahead_74 (by decide) ?_
      refine V_istore (L' := [some (.ref a), some (.int (nI i)), some (.int (nI j)), some (.int (nI (dp i))), some (.int (nI (dp j))), some (.int (nI x)), some (.int (nI y)), some (.int 0)]) C dX3_ahead_75 (by decide) rfl ?_
      refine V_sub ?_ (loop 0 (by omega) x y hx hy hxy (by rw [hA, if_neg q59]))
      repeat' (first | exact ls_e | refine ls_n ?_ | refine ls_s ?_ | refine ls_i ?_ ?_ | refine ls_v ?_ ?_)
      all_goals rfl
    · refine V_iload_n C dX3_ahead_62 rfl rfl ?_
      refine V_iload C dX3_ahead_63 rfl ?_
      refine V_nicmp_ge (x := dp i) (y := dp j) C 72 dX3_ahead_65 (by decide) (by omega) (by omega) (fun q65 => ?_) (fun q65 => ?_)
      · refine V_iconst C 0 dX3_ahead_72 (by decide) ?_
        exact V_zret C rfl dX3_ahead_73 (by decide) (by decide) ⟨_, rfl, by rw [hA, if_pos q59]; first | (refine bt ?_; exact decide_eq_true q65) | (refine bf ?_; exact decide_eq_false (by omega)), rfl⟩
      · refine V_iconst C 1 dX3_ahead_68 (by decide) ?_
        refine V_goto C 73 dX3_ahead_69 (by decide) ?_
        exact V_zret C rfl dX3_ahead_73 (by decide) (by decide) ⟨_, rfl, by rw [hA, if_pos q59]; first | (refine bt ?_; exact decide_eq_true q65) | (refine bf ?_; exact decide_eq_false (by omega)), rfl⟩
  refine V_aload_n C dX3_ahead_0 rfl rfl ?_
  refine V_iload_n C dX3_ahead_1 rfl rfl ?_
  refine V_ofIe (VR_V (As := [.int (nI i)]) (rest := []) C (ct_X3_steps l G b M a ad S r n po ap hS hme hV E par dp hTr i (by assumption)) hma rfl (lw_V q1010 q1012 qs31 q46 q1013) rfl nd_X3_steps rfl (by decide) (by decide) dX3_ahead_2 rfl ⟨by decide, by decide⟩ (Nat.le_of_ble_eq_true rfl)) ?_
  have hsd2 := (hTr i (by assumption)).2.1
  refine V_istore_n (L' := [some (.ref a), some (.int (nI i)), some (.int (nI j)), some (.int (nI (dp i))), none, none, none, none]) C dX3_ahead_5 rfl (by decide) rfl ?_
  refine V_aload_n C dX3_ahead_6 rfl rfl ?_
  refine V_iload_n C dX3_ahead_7 rfl rfl ?_
  refine V_ofIe (VR_V (As := [.int (nI j)]) (rest := []) C (ct_X3_steps l G b M a ad S r n po ap hS hme hV E par dp hTr j (by assumption)) hma rfl (lw_V q1010 q1012 qs31 q46 q1013) rfl nd_X3_steps rfl (by decide) (by decide) dX3_ahead_8 rfl ⟨by decide, by decide⟩ (Nat.le_of_ble_eq_true rfl)) ?_
  have hsd8 := (hTr j (by assumption)).2.1
  refine V_istore (L' := [some (.ref a), some (.int (nI i)), some (.int (nI j)), some (.int (nI (dp i))), some (.int (nI (dp j))), none, none, none]) C dX3_ahead_11 (by decide) rfl ?_
  refine V_iload_n C dX3_ahead_13 rfl rfl ?_
  refine V_iload C dX3_ahead_14 rfl ?_
  refine V_nicmp_le (x := dp i) (y := dp j) C 31 dX3_ahead_16 (by decide) (by omega) (by omega) (fun q16 => ?_) (fun q16 => ?_)
  · refine V_iload_n C dX3_ahead_31 rfl rfl ?_
    refine V_istore (L' := [some (.ref a), some (.int (nI i)), some (.int (nI j)), some (.int (nI (dp i))), some (.int (nI (dp j))), some (.int (nI i)), none, none]) C dX3_ahead_32 (by decide) rfl ?_
    refine V_iload C dX3_ahead_34 rfl ?_
    refine V_iload_n C dX3_ahead_36 rfl rfl ?_
    refine V_nicmp_le (x := dp j) (y := dp i) C 52 dX3_ahead_37 (by decide) (by omega) (by omega) (fun q37 => ?_) (fun q37 => ?_)
    · refine V_iload_n C dX3_ahead_52 rfl rfl ?_
      refine V_istore (L' := [some (.ref a), some (.int (nI i)), some (.int (nI j)), some (.int (nI (dp i))), some (.int (nI (dp j))), some (.int (nI i)), some (.int (nI j)), none]) C dX3_ahead_53 (by decide) rfl ?_
      refine V_sub ?_ (rest i j (by first | exact hi | exact ux.1) (by first | exact hj | exact uy.1) (by omega) (by first | rfl | (rw [show dp i - dp j = 0 by omega]; rfl)) (by first | rfl | (rw [show dp j - dp i = 0 by omega]; rfl)))
      repeat' (first | exact ls_e | refine ls_n ?_ | refine ls_s ?_ | refine ls_i ?_ ?_ | refine ls_v ?_ ?_)
    · refine V_aload_n C dX3_ahead_40 rfl rfl ?_
      refine V_iload_n C dX3_ahead_41 rfl rfl ?_
      refine V_iload C dX3_ahead_42 rfl ?_
      refine V_iload_n C dX3_ahead_44 rfl rfl ?_
      refine V_isub C dX3_ahead_45 ?_
      refine V_top (y := (nI (dp j - (dp i)))) (pk_sub (a := dp j) (b := dp i) (by omega)) ?_
      refine V_ofIe (VR_V (As := [.int (nI j), .int (nI (dp j - (dp i)))]) (rest := []) C (ct_X3_up l G b M a ad S r n po ap hS hme hV E par dp hTr j (dp j - (dp i)) (by assumption) (by omega)) hma rfl (lw_V q1014 q1016 qs32 q46 q1017) rfl nd_X3_up rfl (by decide) (by decide) dX3_ahead_46 rfl ⟨by decide, by decide⟩ (Nat.le_of_ble_eq_true rfl)) ?_
      have hup46 := (hTr _ (upF_E hTr (by assumption : E j) (dp j - (dp i)) (by omega)).1).1
      refine V_goto C 53 dX3_ahead_49 (by decide) ?_
      refine V_istore (L' := [some (.ref a), some (.int (nI i)), some (.int (nI j)), some (.int (nI (dp i))), some (.int (nI (dp j))), some (.int (nI i)), some (.int (nI (upF par (dp j - (dp i)) j))), none]) C dX3_ahead_53 (by decide) rfl ?_
      refine V_sub ?_ (rest i (upF par (dp j - (dp i)) j) (by first | exact hi | exact ux.1) (by first | exact hj | exact uy.1) (by omega) (by first | rfl | (rw [show dp i - dp j = 0 by omega]; rfl)) (by first | rfl | (rw [show dp j - dp i = 0 by omega]; rfl)))
      repeat' (first | exact ls_e | refine ls_n ?_ | refine ls_s ?_ | refine ls_i ?_ ?_ | refine ls_v ?_ ?_)
  · refine V_aload_n C dX3_ahead_19 rfl rfl ?_
    refine V_iload_n C dX3_ahead_20 rfl rfl ?_
    refine V_iload_n C dX3_ahead_21 rfl rfl ?_
    refine V_iload C dX3_ahead_22 rfl ?_
    refine V_isub C dX3_ahead_24 ?_
    refine V_top (y := (nI (dp i - (dp j)))) (pk_sub (a := dp i) (b := dp j) (by omega)) ?_
    refine V_ofIe (VR_V (As := [.int (nI i), .int (nI (dp i - (dp j)))]) (rest := []) C (ct_X3_up l G b M a ad S r n po ap hS hme hV E par dp hTr i (dp i - (dp j)) (by assumption) (by omega)) hma rfl (lw_V q1014 q1016 qs32 q46 q1017) rfl nd_X3_up rfl (by decide) (by decide) dX3_ahead_25 rfl ⟨by decide, by decide⟩ (Nat.le_of_ble_eq_true rfl)) ?_
    have hup25 := (hTr _ (upF_E hTr (by assumption : E i) (dp i - (dp j)) (by omega)).1).1
    refine V_goto C 32 dX3_ahead_28 (by decide) ?_
    refine V_istore (L' := [some (.ref a), some (.int (nI i)), some (.int (nI j)), some (.int (nI (dp i))), some (.int (nI (dp j))), some (.int (nI (upF par (dp i - (dp j)) i))), none, none]) C dX3_ahead_32 (by decide) rfl ?_
    refine V_iload C dX3_ahead_34 rfl ?_
    refine V_iload_n C dX3_ahead_36 rfl rfl ?_
    refine V_nicmp_le (x := dp j) (y := dp i) C 52 dX3_ahead_37 (by decide) (by omega) (by omega) (fun q37 => ?_) (fun q37 => ?_)
    · refine V_iload_n C dX3_ahead_52 rfl rfl ?_
      refine V_istore (L' := [some (.ref a), some (.int (nI i)), some (.int (nI j)), some (.int (nI (dp i))), some (.int (nI (dp j))), some (.int (nI (upF par (dp i - (dp j)) i))), some (.int (nI j)), none]) C dX3_ahead_53 (by decide) rfl ?_
      refine V_sub ?_ (rest (upF par (dp i - (dp j)) i) j (by first | exact hi | exact ux.1) (by first | exact hj | exact uy.1) (by omega) (by first | rfl | (rw [show dp i - dp j = 0 by omega]; rfl)) (by first | rfl | (rw [show dp j - dp i = 0 by omega]; rfl)))
      repeat' (first | exact ls_e | refine ls_n ?_ | refine ls_s ?_ | refine ls_i ?_ ?_ | refine ls_v ?_ ?_)
    · refine V_aload_n C dX3_ahead_40 rfl rfl ?_
      refine V_iload_n C dX3_ahead_41 rfl rfl ?_
      refine V_iload C dX3_ahead_42 rfl ?_
      refine V_iload_n C dX3_ahead_44 rfl rfl ?_
      refine V_isub C dX3_ahead_45 ?_
      refine V_top (y := (nI (dp j - (dp i)))) (pk_sub (a := dp j) (b := dp i) (by omega)) ?_
      refine V_ofIe (VR_V (As := [.int (nI j), .int (nI (dp j - (dp i)))]) (rest := []) C (ct_X3_up l G b M a ad S r n po ap hS hme hV E par dp hTr j (dp j - (dp i)) (by assumption) (by omega)) hma rfl (lw_V q1014 q1016 qs32 q46 q1017) rfl nd_X3_up rfl (by decide) (by decide) dX3_ahead_46 rfl ⟨by decide, by decide⟩ (Nat.le_of_ble_eq_true rfl)) ?_
      have hup46 := (hTr _ (upF_E hTr (by assumption : E j) (dp j - (dp i)) (by omega)).1).1
      refine V_goto C 53 dX3_ahead_49 (by decide) ?_
      refine V_istore (L' := [some (.ref a), some (.int (nI i)), some (.int (nI j)), some (.int (nI (dp i))), some (.int (nI (dp j))), some (.int (nI (upF par (dp i - (dp j)) i))), some (.int (nI (upF par (dp j - (dp i)) j))), none]) C dX3_ahead_53 (by decide) rfl ?_
      refine V_sub ?_ (rest (upF par (dp i - (dp j)) i) (upF par (dp j - (dp i)) j) (by first | exact hi | exact ux.1) (by first | exact hj | exact uy.1) (by omega) (by first | rfl | (rw [show dp i - dp j = 0 by omega]; rfl)) (by first | rfl | (rw [show dp j - dp i = 0 by omega]; rfl)))
      repeat' (first | exact ls_e | refine ls_n ?_ | refine ls_s ?_ | refine ls_i ?_ ?_ | refine ls_v ?_ ?_)
abbrev elP (n : Nat) (po : Nat → Nat → Nat) (ap ft : Nat → Bool) (x : Int32) (j : Nat) : Bool := melem po ap ft j x && !mgone n po ap ft j
abbrev rkP (n : Nat) (po : Nat → Nat → Nat) (ap ft : Nat → Bool) (par dp : Nat → Nat) (x : Int32) (j i : Nat) : Bool := decide (i ≠ j) && elP n po ap ft x i && aheadF po par dp i j
def elO (n : Nat) (po : Nat → Nat → Nat) (ap ft : Nat → Bool) (par dp : Nat → Nat) (x kk : Int32) : Option Nat := firstI (fun j => elP n po ap ft x j && decide (nI (cntI (rkP n po ap ft par dp x j) n) = kk)) n
theorem ct_X3_elementPlace (l : Launch) (G : mp_G) (b : Nat) (M : mp_M) (a : Nat) (ad : Nat → Nat) (S : Nat → Nat → Int32) (r n : Nat) (po : Nat → Nat → Nat) (ap : Nat → Bool) (hS : MdAt G M a ad S) (hme : S 7 0 = nI r) (hV : Vw S r n po ap) (ft : Nat → Bool) (hF : FitV S ft) (E : Nat → Prop) (par dp : Nat → Nat) (hTr : Tree n po ap E par dp) (x kk : Int32) (hEl : ∀ j, j < n → melem po ap ft j x = true → E j) : Ct l yX3_elementPlace cX3_elementPlace 7 (some .int) 4 0 0 G b ([.ref a, .int x, .int kk] : List Value) M (pI (fun y M1 => y = plI (elO n po ap ft par dp x kk) (cntI (elP n po ap ft x) n) ∧ M1 = M)) := by
  have hr := hV.1
  have hn := hV.2.1
  refine Ct.ofV (by decide) (vc_ref (vc_int (vc_int vc_nil))) (Nat.le_of_ble_eq_true rfl) ?_
  intro p e s m below meth c C hnm
  refine V_L (L1 := [some (.ref a), some (.int x), some (.int kk), none, none, none, none]) rfl ?_
  obtain ⟨hma, hm0, hm1, hm2, hm3, hm4, hm5, hm8, hm9, hm10, hm11⟩ := id hS
  rw [hme] at hma
  refine V_iconst C 0 dX3_elementPlace_0 (by decide) ?_
  refine V_istore_n (L' := [some (.ref a), some (.int x), some (.int kk), some (.int 0), none, none, none]) C dX3_elementPlace_1 rfl (by decide) rfl ?_
  refine V_iconst C 0 dX3_elementPlace_2 (by decide) ?_
  refine V_istore (L' := [some (.ref a), some (.int x), some (.int kk), some (.int 0), some (.int 0), none, none]) C dX3_elementPlace_3 (by decide) rfl ?_
  have loop : ∀ j, j ≤ n → (∀ j2, j2 < j → (elP n po ap ft x j2 && decide (nI (cntI (rkP n po ap ft par dp x j2) n) = kk)) = false) → V p l e (rmOf 4 0 0) s m ([.ref a, .int x, .int kk] : List Value).toArray below meth c (MQ below (Qp G b (pI (fun y M1 => y = plI (elO n po ap ft par dp x kk) (cntI (elP n po ap ft x) n) ∧ M1 = M))) ([.ref a, .int x, .int kk] : List Value).toArray s 0 0 (fun q => b ≤ q)) G b 7 0 0 5 [some (.ref a), some (.int x), some (.int kk), some (.int (nI (cntI (elP n po ap ft x) j))), some (.int (nI j)), none, none] [] M := by
    refine up_ind n ?_
    intro j hj ih hb
    have inner : j < n → melem po ap ft j x = true → mgone n po ap ft j = false → ∀ i, i ≤ n → V p l e (rmOf 4 0 0) s m ([.ref a, .int x, .int kk] : List Value).toArray below meth c (MQ below (Qp G b (pI (fun y M1 => y = plI (elO n po ap ft par dp x kk) (cntI (elP n po ap ft x) n) ∧ M1 = M))) ([.ref a, .int x, .int kk] : List Value).toArray s 0 0 (fun q => b ≤ q)) G b 7 0 0 47 [some (.ref a), some (.int x), some (.int kk), some (.int (nI (cntI (elP n po ap ft x) j + 1))), some (.int (nI j)), some (.int (nI (cntI (rkP n po ap ft par dp x j) i))), some (.int (nI i))] [] M := by
      intro hjn he hg
      refine up_ind n ?_
      intro i hi ihi
      have hcn := cntI_le (rkP n po ap ft par dp x j) i
      refine V_iload C dX3_elementPlace_47 rfl ?_
      refine V_aload_n C dX3_elementPlace_49 rfl rfl ?_
      refine V_get (C0 := RX3) (T := TX3) (N := 12) (ci := 3) C 1 in_X3 rfl hma (by decide) q822 (fun _ h9 => h9) rfl dX3_elementPlace_50 ?_
      refine V_aload_n C dX3_elementPlace_53 rfl rfl ?_
      refine V_get (C0 := RX3) (T := TX3) (N := 12) (ci := 3) C 7 in_X3 rfl hma (by decide) q828 (fun _ h9 => h9) rfl dX3_elementPlace_54 ?_
      refine V_iald C hm1 (pk_in r 3 (by omega)) dX3_elementPlace_57 ?_
      refine V_top (y := (nI n)) (by rw [nI_clamp (n := r) (by omega)]; exact hV.2.2.1) ?_
      refine V_nicmp_ge (x := i) (y := n) C 114 dX3_elementPlace_58 (by decide) (by omega) (by omega) (fun q58 => ?_) (fun q58 => ?_)
      · refine V_iload C dX3_elementPlace_114 rfl ?_
        refine V_iload_n C dX3_elementPlace_116 rfl rfl ?_
        refine V_icmp_ne C 123 dX3_elementPlace_117 (by decide) (fun q117 => ?_) (fun q117 => ?_)
        · refine V_iinc (v := (nI (j + 1))) (L' := [some (.ref a), some (.int x), some (.int kk), some (.int (nI (cntI (elP n po ap ft x) j + 1))), some (.int (nI (j + 1))), some (.int (nI (cntI (rkP n po ap ft par dp x j) i))), some (.int (nI i))]) C dX3_elementPlace_123 rfl (nI_1 _) (by decide) rfl ?_
          refine V_goto C 5 dX3_elementPlace_126 (by decide) ?_
          refine V_sub ?_ (ih (by omega) (fun j2 h2 => by rcases Nat.lt_or_ge j2 j with z | z; exact hb j2 z; rw [show j2 = j by omega]; refine and_f2 ?_; rw [show i = n by omega] at q117; exact q117))
          repeat' (first | exact ls_e | refine ls_n ?_ | refine ls_s ?_ | refine ls_i ?_ ?_ | refine ls_v ?_ ?_)
          exact cnt_t (by unfold elP; rw [he, hg]; rfl)
        · refine V_iload C dX3_elementPlace_120 rfl ?_
          exact V_iret C dX3_elementPlace_122 (by decide) (by decide) ⟨_, rfl, by unfold elO; rw [firstI_at (j := j) (by omega) (by unfold elP; rw [show i = n by omega] at q117; rw [he, hg, decide_eq_true q117]; rfl) hb]; rfl, rfl⟩
      · refine V_iload C dX3_elementPlace_61 rfl ?_
        refine V_iload C dX3_elementPlace_63 rfl ?_
        refine V_iload C dX3_elementPlace_65 rfl ?_
        refine V_nicmp_eq (x := i) (y := j) C 104 dX3_elementPlace_67 (by decide) (by omega) (by omega) (fun q67 => ?_) (fun q67 => ?_)
        · refine V_iconst C 0 dX3_elementPlace_104 (by decide) ?_
          refine V_iadd C dX3_elementPlace_105 ?_
          refine V_top (y := (nI (cntI (rkP n po ap ft par dp x j) i + 0))) (nI_add (cntI (rkP n po ap ft par dp x j) i) 0) ?_
          refine V_istore (L' := [some (.ref a), some (.int x), some (.int kk), some (.int (nI (cntI (elP n po ap ft x) j + 1))), some (.int (nI j)), some (.int (nI (cntI (rkP n po ap ft par dp x j) i + 0))), some (.int (nI i))]) C dX3_elementPlace_106 (by decide) rfl ?_
          refine V_iinc (v := (nI (i + 1))) (L' := [some (.ref a), some (.int x), some (.int kk), some (.int (nI (cntI (elP n po ap ft x) j + 1))), some (.int (nI j)), some (.int (nI (cntI (rkP n po ap ft par dp x j) i + 0))), some (.int (nI (i + 1)))]) C dX3_elementPlace_108 rfl (nI_1 _) (by decide) rfl ?_
          refine V_goto C 47 dX3_elementPlace_111 (by decide) ?_
          refine V_sub ?_ (ihi (by omega))
          repeat' (first | exact ls_e | refine ls_n ?_ | refine ls_s ?_ | refine ls_i ?_ ?_ | refine ls_v ?_ ?_)
          first | (refine cnt_t ?_; unfold rkP; simp [*]; done) | (refine cnt_f ?_; unfold rkP; simp [*]; done)
        · refine V_aload_n C dX3_elementPlace_70 rfl rfl ?_
          refine V_iload C dX3_elementPlace_71 rfl ?_
          refine V_iload_n C dX3_elementPlace_73 rfl rfl ?_
          refine V_ofIe (VR_V (As := [.int (nI i), .int x]) (rest := [.int (nI (cntI (rkP n po ap ft par dp x j) i))]) C (ct_X3_isElement l G b M a ad S r n po ap hS hme hV ft hF i x (by omega)) hma rfl (lw_V q998 q1000 qs28 q46 q1001) rfl nd_X3_isElement rfl (by decide) (by decide) dX3_elementPlace_74 rfl ⟨by decide, by decide⟩ (Nat.le_of_ble_eq_true rfl)) ?_
          refine V_ifb_eq C 104 dX3_elementPlace_77 (by decide) (fun q77 => ?_) (fun q77 => ?_)
          · refine V_iconst C 0 dX3_elementPlace_104 (by decide) ?_
            refine V_iadd C dX3_elementPlace_105 ?_
            refine V_top (y := (nI (cntI (rkP n po ap ft par dp x j) i + 0))) (nI_add (cntI (rkP n po ap ft par dp x j) i) 0) ?_
            refine V_istore (L' := [some (.ref a), some (.int x), some (.int kk), some (.int (nI (cntI (elP n po ap ft x) j + 1))), some (.int (nI j)), some (.int (nI (cntI (rkP n po ap ft par dp x j) i + 0))), some (.int (nI i))]) C dX3_elementPlace_106 (by decide) rfl ?_
            refine V_iinc (v := (nI (i + 1))) (L' := [some (.ref a), some (.int x), some (.int kk), some (.int (nI (cntI (elP n po ap ft x) j + 1))), some (.int (nI j)), some (.int (nI (cntI (rkP n po ap ft par dp x j) i + 0))), some (.int (nI (i + 1)))]) C dX3_elementPlace_108 rfl (nI_1 _) (by decide) rfl ?_
            refine V_goto C 47 dX3_elementPlace_111 (by decide) ?_
            refine V_sub ?_ (ihi (by omega))
            repeat' (first | exact ls_e | refine ls_n ?_ | refine ls_s ?_ | refine ls_i ?_ ?_ | refine ls_v ?_ ?_)
            first | (refine cnt_t ?_; unfold rkP; simp [*]; done) | (refine cnt_f ?_; unfold rkP; simp [*]; done)
          · refine V_aload_n C dX3_elementPlace_80 rfl rfl ?_
            refine V_iload C dX3_elementPlace_81 rfl ?_
            refine V_ofIe (VR_V (As := [.int (nI i)]) (rest := [.int (nI (cntI (rkP n po ap ft par dp x j) i))]) C (ct_X3_gone l G b M a ad S r n po ap hS hme hV ft hF i (by omega)) hma rfl (lw_V q1002 q1004 qs29 q46 q1005) rfl nd_X3_gone rfl (by decide) (by decide) dX3_elementPlace_83 rfl ⟨by decide, by decide⟩ (Nat.le_of_ble_eq_true rfl)) ?_
            refine V_ifb_ne C 104 dX3_elementPlace_86 (by decide) (fun q86 => ?_) (fun q86 => ?_)
            · refine V_iconst C 0 dX3_elementPlace_104 (by decide) ?_
              refine V_iadd C dX3_elementPlace_105 ?_
              refine V_top (y := (nI (cntI (rkP n po ap ft par dp x j) i + 0))) (nI_add (cntI (rkP n po ap ft par dp x j) i) 0) ?_
              refine V_istore (L' := [some (.ref a), some (.int x), some (.int kk), some (.int (nI (cntI (elP n po ap ft x) j + 1))), some (.int (nI j)), some (.int (nI (cntI (rkP n po ap ft par dp x j) i + 0))), some (.int (nI i))]) C dX3_elementPlace_106 (by decide) rfl ?_
              refine V_iinc (v := (nI (i + 1))) (L' := [some (.ref a), some (.int x), some (.int kk), some (.int (nI (cntI (elP n po ap ft x) j + 1))), some (.int (nI j)), some (.int (nI (cntI (rkP n po ap ft par dp x j) i + 0))), some (.int (nI (i + 1)))]) C dX3_elementPlace_108 rfl (nI_1 _) (by decide) rfl ?_
              refine V_goto C 47 dX3_elementPlace_111 (by decide) ?_
              refine V_sub ?_ (ihi (by omega))
              repeat' (first | exact ls_e | refine ls_n ?_ | refine ls_s ?_ | refine ls_i ?_ ?_ | refine ls_v ?_ ?_)
              first | (refine cnt_t ?_; unfold rkP; simp [*]; done) | (refine cnt_f ?_; unfold rkP; simp [*]; done)
            · refine V_aload_n C dX3_elementPlace_89 rfl rfl ?_
              refine V_iload C dX3_elementPlace_90 rfl ?_
              refine V_iload C dX3_elementPlace_92 rfl ?_
              refine V_ofIe (VR_V (As := [.int (nI i), .int (nI j)]) (rest := [.int (nI (cntI (rkP n po ap ft par dp x j) i))]) C (ct_X3_ahead l G b M a ad S r n po ap hS hme hV E par dp hTr i j (hEl _ (by omega) (by assumption)) (hEl _ (by omega) (by assumption))) hma rfl (lw_V q1006 q1008 qs30 q46 q1009) rfl nd_X3_ahead rfl (by decide) (by decide) dX3_elementPlace_94 rfl ⟨by decide, by decide⟩ (Nat.le_of_ble_eq_true rfl)) ?_
              refine V_ifb_eq C 104 dX3_elementPlace_97 (by decide) (fun q97 => ?_) (fun q97 => ?_)
              · refine V_iconst C 0 dX3_elementPlace_104 (by decide) ?_
                refine V_iadd C dX3_elementPlace_105 ?_
                refine V_top (y := (nI (cntI (rkP n po ap ft par dp x j) i + 0))) (nI_add (cntI (rkP n po ap ft par dp x j) i) 0) ?_
                refine V_istore (L' := [some (.ref a), some (.int x), some (.int kk), some (.int (nI (cntI (elP n po ap ft x) j + 1))), some (.int (nI j)), some (.int (nI (cntI (rkP n po ap ft par dp x j) i + 0))), some (.int (nI i))]) C dX3_elementPlace_106 (by decide) rfl ?_
                refine V_iinc (v := (nI (i + 1))) (L' := [some (.ref a), some (.int x), some (.int kk), some (.int (nI (cntI (elP n po ap ft x) j + 1))), some (.int (nI j)), some (.int (nI (cntI (rkP n po ap ft par dp x j) i + 0))), some (.int (nI (i + 1)))]) C dX3_elementPlace_108 rfl (nI_1 _) (by decide) rfl ?_
                refine V_goto C 47 dX3_elementPlace_111 (by decide) ?_
                refine V_sub ?_ (ihi (by omega))
                repeat' (first | exact ls_e | refine ls_n ?_ | refine ls_s ?_ | refine ls_i ?_ ?_ | refine ls_v ?_ ?_)
                first | (refine cnt_t ?_; unfold rkP; simp [*]; done) | (refine cnt_f ?_; unfold rkP; simp [*]; done)
              · refine V_iconst C 1 dX3_elementPlace_100 (by decide) ?_
                refine V_goto C 105 dX3_elementPlace_101 (by decide) ?_
                refine V_iadd C dX3_elementPlace_105 ?_
                refine V_top (y := (nI (cntI (rkP n po ap ft par dp x j) i + 1))) (nI_add (cntI (rkP n po ap ft par dp x j) i) 1) ?_
                refine V_istore (L' := [some (.ref a), some (.int x), some (.int kk), some (.int (nI (cntI (elP n po ap ft x) j + 1))), some (.int (nI j)), some (.int (nI (cntI (rkP n po ap ft par dp x j) i + 1))), some (.int (nI i))]) C dX3_elementPlace_106 (by decide) rfl ?_
                refine V_iinc (v := (nI (i + 1))) (L' := [some (.ref a), some (.int x), some (.int kk), some (.int (nI (cntI (elP n po ap ft x) j + 1))), some (.int (nI j)), some (.int (nI (cntI (rkP n po ap ft par dp x j) i + 1))), some (.int (nI (i + 1)))]) C dX3_elementPlace_108 rfl (nI_1 _) (by decide) rfl ?_
                refine V_goto C 47 dX3_elementPlace_111 (by decide) ?_
                refine V_sub ?_ (ihi (by omega))
                repeat' (first | exact ls_e | refine ls_n ?_ | refine ls_s ?_ | refine ls_i ?_ ?_ | refine ls_v ?_ ?_)
                first | (refine cnt_t ?_; unfold rkP; simp [*]; done) | (refine cnt_f ?_; unfold rkP; simp [*]; done)
    refine V_iload C dX3_elementPlace_5 rfl ?_
    refine V_aload_n C dX3_elementPlace_7 rfl rfl ?_
    refine V_get (C0 := RX3) (T := TX3) (N := 12) (ci := 3) C 1 in_X3 rfl hma (by decide) q822 (fun _ h9 => h9) rfl dX3_elementPlace_8 ?_
    refine V_aload_n C dX3_elementPlace_11 rfl rfl ?_
    refine V_get (C0 := RX3) (T := TX3) (N := 12) (ci := 3) C 7 in_X3 rfl hma (by decide) q828 (fun _ h9 => h9) rfl dX3_elementPlace_12 ?_
    refine V_iald C hm1 (pk_in r 3 (by omega)) dX3_elementPlace_15 ?_
    refine V_top (y := (nI n)) (by rw [nI_clamp (n := r) (by omega)]; exact hV.2.2.1) ?_
    refine V_nicmp_ge (x := j) (y := n) C 129 dX3_elementPlace_16 (by decide) (by omega) (by omega) (fun q16 => ?_) (fun q16 => ?_)
    · refine V_iconst C (-1) dX3_elementPlace_129 (by decide) ?_
      refine V_iload_n C dX3_elementPlace_130 rfl rfl ?_
      refine V_isub C dX3_elementPlace_131 ?_
      exact V_iret C dX3_elementPlace_132 (by decide) (by decide) ⟨_, rfl, by unfold elO; rw [firstI_none.mpr (fun i2 h2 => hb i2 (by omega)), show j = n by omega]; rfl, rfl⟩
    · refine V_aload_n C dX3_elementPlace_19 rfl rfl ?_
      refine V_iload C dX3_elementPlace_20 rfl ?_
      refine V_iload_n C dX3_elementPlace_22 rfl rfl ?_
      refine V_ofIe (VR_V (As := [.int (nI j), .int x]) (rest := []) C (ct_X3_isElement l G b M a ad S r n po ap hS hme hV ft hF j x (by omega)) hma rfl (lw_V q998 q1000 qs28 q46 q1001) rfl nd_X3_isElement rfl (by decide) (by decide) dX3_elementPlace_23 rfl ⟨by decide, by decide⟩ (Nat.le_of_ble_eq_true rfl)) ?_
      refine V_ifb_eq C 123 dX3_elementPlace_26 (by decide) (fun q26 => ?_) (fun q26 => ?_)
      · refine V_iinc (v := (nI (j + 1))) (L' := [some (.ref a), some (.int x), some (.int kk), some (.int (nI (cntI (elP n po ap ft x) j))), some (.int (nI (j + 1))), none, none]) C dX3_elementPlace_123 rfl (nI_1 _) (by decide) rfl ?_
        refine V_goto C 5 dX3_elementPlace_126 (by decide) ?_
        refine V_sub ?_ (ih (by omega) (fun j2 h2 => by rcases Nat.lt_or_ge j2 j with z | z; exact hb j2 z; rw [show j2 = j by omega]; refine and_f1 ?_; unfold elP; simp [*]))
        repeat' (first | exact ls_e | refine ls_n ?_ | refine ls_s ?_ | refine ls_i ?_ ?_ | refine ls_v ?_ ?_)
        exact cnt_f (by unfold elP; simp [*])
      · refine V_aload_n C dX3_elementPlace_29 rfl rfl ?_
        refine V_iload C dX3_elementPlace_30 rfl ?_
        refine V_ofIe (VR_V (As := [.int (nI j)]) (rest := []) C (ct_X3_gone l G b M a ad S r n po ap hS hme hV ft hF j (by omega)) hma rfl (lw_V q1002 q1004 qs29 q46 q1005) rfl nd_X3_gone rfl (by decide) (by decide) dX3_elementPlace_32 rfl ⟨by decide, by decide⟩ (Nat.le_of_ble_eq_true rfl)) ?_
        refine V_ifb_ne C 123 dX3_elementPlace_35 (by decide) (fun q35 => ?_) (fun q35 => ?_)
        · refine V_iinc (v := (nI (j + 1))) (L' := [some (.ref a), some (.int x), some (.int kk), some (.int (nI (cntI (elP n po ap ft x) j))), some (.int (nI (j + 1))), none, none]) C dX3_elementPlace_123 rfl (nI_1 _) (by decide) rfl ?_
          refine V_goto C 5 dX3_elementPlace_126 (by decide) ?_
          refine V_sub ?_ (ih (by omega) (fun j2 h2 => by rcases Nat.lt_or_ge j2 j with z | z; exact hb j2 z; rw [show j2 = j by omega]; refine and_f1 ?_; unfold elP; simp [*]))
          repeat' (first | exact ls_e | refine ls_n ?_ | refine ls_s ?_ | refine ls_i ?_ ?_ | refine ls_v ?_ ?_)
          exact cnt_f (by unfold elP; simp [*])
        · refine V_iinc (v := (nI ((cntI (elP n po ap ft x) j) + 1))) (L' := [some (.ref a), some (.int x), some (.int kk), some (.int (nI ((cntI (elP n po ap ft x) j) + 1))), some (.int (nI j)), none, none]) C dX3_elementPlace_38 rfl (nI_1 _) (by decide) rfl ?_
          refine V_iconst C 0 dX3_elementPlace_41 (by decide) ?_
          refine V_istore (L' := [some (.ref a), some (.int x), some (.int kk), some (.int (nI ((cntI (elP n po ap ft x) j) + 1))), some (.int (nI j)), some (.int 0), none]) C dX3_elementPlace_42 (by decide) rfl ?_
          refine V_iconst C 0 dX3_elementPlace_44 (by decide) ?_
          refine V_istore (L' := [some (.ref a), some (.int x), some (.int kk), some (.int (nI ((cntI (elP n po ap ft x) j) + 1))), some (.int (nI j)), some (.int 0), some (.int 0)]) C dX3_elementPlace_45 (by decide) rfl ?_
          refine V_sub ?_ (inner (by omega) (by assumption) (by assumption) 0 (Nat.zero_le _))
          repeat' (first | exact ls_e | refine ls_n ?_ | refine ls_s ?_ | refine ls_i ?_ ?_ | refine ls_v ?_ ?_)
          all_goals rfl
  refine V_sub ?_ (loop 0 (Nat.zero_le _) (fun i2 h2 => absurd h2 (Nat.not_lt_zero _)))
  repeat' (first | exact ls_e | refine ls_n ?_ | refine ls_s ?_ | refine ls_i ?_ ?_ | refine ls_v ?_ ?_)
theorem entO_lt {n : Nat} {po : Nat → Nat → Nat} {ap ft : Nat → Bool} {P : Nat → Int32} {m key k : Int32} {j : Nat} (h : entO n po ap ft P m key k = some j) : j < n := by
  unfold entO at h
  rw [Option.bind_eq_some_iff] at h
  obtain ⟨i, -, h2⟩ := h
  exact (lastI_some h2).1
def mtS (n : Nat) (po : Nat → Nat → Nat) (ap ft : Nat → Bool) (P T : Nat → Int32) (m : Int32) (key k : Nat) (s : Int32) : Int32 := match entO n po ap ft P m (nI key) (nI k) with
  | none => s
  | some j => 31 * (31 * s + nI (4 * po j 0) + nI key) + (if po j 1 = 0 then nI (po j 4) else T j)
def mtF (n : Nat) (po : Nat → Nat → Nat) (ap ft : Nat → Bool) (P T : Nat → Int32) (m : Int32) : Int32 := iterI (fun key s => iterI (fun k s => mtS n po ap ft P T m key k s) s 16) 7 4
theorem ct_X3_mapTotal (l : Launch) (G : mp_G) (b : Nat) (M : mp_M) (a : Nat) (ad : Nat → Nat) (S : Nat → Nat → Int32) (r n : Nat) (po : Nat → Nat → Nat) (ap : Nat → Bool) (hS : MdAt G M a ad S) (hme : S 7 0 = nI r) (hV : Vw S r n po ap) (ft : Nat → Bool) (hF : FitV S ft) (P : Nat → Int32) (hP : PstV S P) (T : Nat → Int32) (hT : TotV S T) (mm : Int32) : Ct l yX3_mapTotal cX3_mapTotal 6 (some .int) 4 0 0 G b ([.ref a, .int mm] : List Value) M (pI (fun y M1 => y = mtF n po ap ft P T mm ∧ M1 = M)) := by
  have hr := hV.1
  have hn := hV.2.1
  refine Ct.ofV (by decide) (vc_ref (vc_int vc_nil)) (Nat.le_of_ble_eq_true rfl) ?_
  intro p e s m below meth c C hnm
  refine V_L (L1 := [some (.ref a), some (.int mm), none, none, none, none]) rfl ?_
  obtain ⟨hma, hm0, hm1, hm2, hm3, hm4, hm5, hm8, hm9, hm10, hm11⟩ := id hS
  rw [hme] at hma
  refine V_bipush C 7 dX3_mapTotal_0 (by decide) ?_
  refine V_istore_n (L' := [some (.ref a), some (.int mm), some (.int 7), none, none, none]) C dX3_mapTotal_2 rfl (by decide) rfl ?_
  refine V_iconst C 0 dX3_mapTotal_3 (by decide) ?_
  refine V_istore_n (L' := [some (.ref a), some (.int mm), some (.int 7), some (.int 0), none, none]) C dX3_mapTotal_4 rfl (by decide) rfl ?_
  have loop : ∀ key, key ≤ 4 → V p l e (rmOf 4 0 0) s m ([.ref a, .int mm] : List Value).toArray below meth c (MQ below (Qp G b (pI (fun y M1 => y = mtF n po ap ft P T mm ∧ M1 = M))) ([.ref a, .int mm] : List Value).toArray s 0 0 (fun q => b ≤ q)) G b 6 0 0 5 [some (.ref a), some (.int mm), some (.int (iterI (fun key s => iterI (fun k s => mtS n po ap ft P T mm key k s) s 16) 7 key)), some (.int (nI key)), none, none] [] M := by
    refine up_ind 4 ?_
    intro key hkey ih
    generalize hs0 : iterI (fun key s => iterI (fun k s => mtS n po ap ft P T mm key k s) s 16) 7 key = s0 at ih ⊢
    have inner : key < 4 → ∀ k, k ≤ 16 → V p l e (rmOf 4 0 0) s m ([.ref a, .int mm] : List Value).toArray below meth c (MQ below (Qp G b (pI (fun y M1 => y = mtF n po ap ft P T mm ∧ M1 = M))) ([.ref a, .int mm] : List Value).toArray s 0 0 (fun q => b ≤ q)) G b 6 0 0 13 [some (.ref a), some (.int mm), some (.int (iterI (fun k s => mtS n po ap ft P T mm key k s) s0 k)), some (.int (nI key)), some (.int (nI k)), none] [] M := by
      intro hk4
      refine up_ind 16 ?_
      intro k hk ihk
      generalize hs1 : iterI (fun k s => mtS n po ap ft P T mm key k s) s0 k = s1 at ihk ⊢
      refine V_iload C dX3_mapTotal_13 rfl ?_
      refine V_bipush C 16 dX3_mapTotal_15 (by decide) ?_
      refine V_nicmp_ge (x := k) (y := 16) C 91 dX3_mapTotal_17 (by decide) (by omega) (by omega) (fun q17 => ?_) (fun q17 => ?_)
      · refine V_iinc (v := (nI (key + 1))) (L' := [some (.ref a), some (.int mm), some (.int s1), some (.int (nI (key + 1))), some (.int (nI k)), none]) C dX3_mapTotal_91 rfl (nI_1 _) (by decide) rfl ?_
        refine V_goto C 5 dX3_mapTotal_94 (by decide) ?_
        refine V_sub ?_ (ih (by omega))
        repeat' (first | exact ls_e | refine ls_n ?_ | refine ls_s ?_ | refine ls_i ?_ ?_ | refine ls_v ?_ ?_)
        rw [iterI_s, hs0, ← hs1, show k = 16 by omega]
      · refine V_aload_n C dX3_mapTotal_20 rfl rfl ?_
        refine V_iload_n C dX3_mapTotal_21 rfl rfl ?_
        refine V_iload_n C dX3_mapTotal_22 rfl rfl ?_
        refine V_iload C dX3_mapTotal_23 rfl ?_
        refine V_ofIe (VR_V (As := [.int mm, .int (nI key), .int (nI k)]) (rest := []) C (ct_X3_entryPlace l G b M a ad S r n po ap hS hme hV ft hF P hP mm (nI key) (nI k)) hma rfl (lw_V q982 q984 qs25 q46 q985) rfl nd_X3_entryPlace rfl (by decide) (by decide) dX3_mapTotal_25 rfl ⟨by decide, by decide⟩ (Nat.le_of_ble_eq_true rfl)) ?_
        rcases o25 : entO n po ap ft P mm (nI key) (nI k) with _ | j25
        · refine V_top0 (fun y25 hy25 => ?_)
          have hneg25 : y25 < 0 := by rw [hy25]; exact neg_lt (Nat.lt_of_le_of_lt (cntI_le _ _) (by omega))
          refine V_istore (L' := [some (.ref a), some (.int mm), some (.int s1), some (.int (nI key)), some (.int (nI k)), some (.int y25)]) C dX3_mapTotal_28 (by decide) rfl ?_
          refine V_iload C dX3_mapTotal_30 rfl ?_
          refine V_if_lt C 85 dX3_mapTotal_32 (by decide) (fun q32 => ?_) (fun q32 => ?_)
          · refine V_iinc (v := (nI (k + 1))) (L' := [some (.ref a), some (.int mm), some (.int s1), some (.int (nI key)), some (.int (nI (k + 1))), some (.int y25)]) C dX3_mapTotal_85 rfl (nI_1 _) (by decide) rfl ?_
            refine V_goto C 13 dX3_mapTotal_88 (by decide) ?_
            refine V_sub ?_ (ihk (by omega))
            repeat' (first | exact ls_e | refine ls_n ?_ | refine ls_s ?_ | refine ls_i ?_ ?_ | refine ls_v ?_ ?_)
            rw [iterI_s, hs1]
            unfold mtS
            rw [o25]
            first | done | simp [*]
          · exact absurd hneg25 q32
        · have hj25 := entO_lt o25
          have hk25 := hV.2.2.2.2.1 j25 hj25
          refine V_top (y := nI j25) rfl ?_
          refine V_istore (L' := [some (.ref a), some (.int mm), some (.int s1), some (.int (nI key)), some (.int (nI k)), some (.int (nI j25))]) C dX3_mapTotal_28 (by decide) rfl ?_
          refine V_iload C dX3_mapTotal_30 rfl ?_
          refine V_if_lt C 85 dX3_mapTotal_32 (by decide) (fun h => absurd h (nI_pos (n := j25) (by omega))) (fun _ => ?_)
          refine V_bipush C 31 dX3_mapTotal_35 (by decide) ?_
          refine V_iload_n C dX3_mapTotal_37 rfl rfl ?_
          refine V_imul C dX3_mapTotal_38 ?_
          refine V_iconst C 4 dX3_mapTotal_39 (by decide) ?_
          refine V_aload_n C dX3_mapTotal_40 rfl rfl ?_
          refine V_iload C dX3_mapTotal_41 rfl ?_
          refine V_iconst C 0 dX3_mapTotal_43 (by decide) ?_
          refine V_ofIe (VR_V (As := [.int (nI j25), .int 0]) (rest := [.int 4, .int (31 * s1)]) C (ct_X3_part l G b M a ad S r n po ap hS hme hV j25 0 (by omega) (by omega)) hma rfl (lw_V q875 q877 qs11 q46 q878) rfl nd_X3_part rfl (by decide) (by decide) dX3_mapTotal_44 rfl ⟨by decide, by decide⟩ (Nat.le_of_ble_eq_true rfl)) ?_
          have hp44 := hV.2.2.2.2.2.1 j25 0
          refine V_imul C dX3_mapTotal_47 ?_
          refine V_top (y := (nI (4 * (po j25 0)))) (pk_mul 4 (po j25 0)) ?_
          refine V_iadd C dX3_mapTotal_48 ?_
          refine V_iload_n C dX3_mapTotal_49 rfl rfl ?_
          refine V_iadd C dX3_mapTotal_50 ?_
          refine V_istore_n (L' := [some (.ref a), some (.int mm), some (.int (((31 * s1) + (nI (4 * (po j25 0)))) + (nI key))), some (.int (nI key)), some (.int (nI k)), some (.int (nI j25))]) C dX3_mapTotal_51 rfl (by decide) rfl ?_
          refine V_bipush C 31 dX3_mapTotal_52 (by decide) ?_
          refine V_iload_n C dX3_mapTotal_54 rfl rfl ?_
          refine V_imul C dX3_mapTotal_55 ?_
          refine V_aload_n C dX3_mapTotal_56 rfl rfl ?_
          refine V_iload C dX3_mapTotal_57 rfl ?_
          refine V_iconst C 1 dX3_mapTotal_59 (by decide) ?_
          refine V_ofIe (VR_V (As := [.int (nI j25), .int 1]) (rest := [.int (31 * (((31 * s1) + (nI (4 * (po j25 0)))) + (nI key)))]) C (ct_X3_part l G b M a ad S r n po ap hS hme hV j25 1 (by omega) (by omega)) hma rfl (lw_V q875 q877 qs11 q46 q878) rfl nd_X3_part rfl (by decide) (by decide) dX3_mapTotal_60 rfl ⟨by decide, by decide⟩ (Nat.le_of_ble_eq_true rfl)) ?_
          have hp60 := hV.2.2.2.2.2.1 j25 1
          refine V_nif_ne (x := po j25 1) C 76 dX3_mapTotal_63 (by decide) (by omega) (fun q63 => ?_) (fun q63 => ?_)
          · refine V_aload_n C dX3_mapTotal_76 rfl rfl ?_
            refine V_get (C0 := RX3) (T := TX3) (N := 12) (ci := 3) C 10 in_X3 rfl hma (by decide) q831 (fun _ h9 => h9) rfl dX3_mapTotal_77 ?_
            refine V_iload C dX3_mapTotal_80 rfl ?_
            refine V_iald C hm10 (pk_in j25 16 (by omega)) dX3_mapTotal_82 ?_
            refine V_top (y := (T j25)) (by rw [nI_clamp (n := j25) (by omega)]; exact (hT j25 (by omega))) ?_
            refine V_iadd C dX3_mapTotal_83 ?_
            refine V_istore_n (L' := [some (.ref a), some (.int mm), some (.int ((31 * (((31 * s1) + (nI (4 * (po j25 0)))) + (nI key))) + (T j25))), some (.int (nI key)), some (.int (nI k)), some (.int (nI j25))]) C dX3_mapTotal_84 rfl (by decide) rfl ?_
            refine V_iinc (v := (nI (k + 1))) (L' := [some (.ref a), some (.int mm), some (.int ((31 * (((31 * s1) + (nI (4 * (po j25 0)))) + (nI key))) + (T j25))), some (.int (nI key)), some (.int (nI (k + 1))), some (.int (nI j25))]) C dX3_mapTotal_85 rfl (nI_1 _) (by decide) rfl ?_
            refine V_goto C 13 dX3_mapTotal_88 (by decide) ?_
            refine V_sub ?_ (ihk (by omega))
            repeat' (first | exact ls_e | refine ls_n ?_ | refine ls_s ?_ | refine ls_i ?_ ?_ | refine ls_v ?_ ?_)
            rw [iterI_s, hs1]
            unfold mtS
            rw [o25]
            first | done | simp [*]
          · refine V_aload_n C dX3_mapTotal_66 rfl rfl ?_
            refine V_iload C dX3_mapTotal_67 rfl ?_
            refine V_iconst C 4 dX3_mapTotal_69 (by decide) ?_
            refine V_ofIe (VR_V (As := [.int (nI j25), .int 4]) (rest := [.int (31 * (((31 * s1) + (nI (4 * (po j25 0)))) + (nI key)))]) C (ct_X3_part l G b M a ad S r n po ap hS hme hV j25 4 (by omega) (by omega)) hma rfl (lw_V q875 q877 qs11 q46 q878) rfl nd_X3_part rfl (by decide) (by decide) dX3_mapTotal_70 rfl ⟨by decide, by decide⟩ (Nat.le_of_ble_eq_true rfl)) ?_
            have hp70 := hV.2.2.2.2.2.1 j25 4
            refine V_goto C 83 dX3_mapTotal_73 (by decide) ?_
            refine V_iadd C dX3_mapTotal_83 ?_
            refine V_istore_n (L' := [some (.ref a), some (.int mm), some (.int ((31 * (((31 * s1) + (nI (4 * (po j25 0)))) + (nI key))) + (nI (po j25 4)))), some (.int (nI key)), some (.int (nI k)), some (.int (nI j25))]) C dX3_mapTotal_84 rfl (by decide) rfl ?_
            refine V_iinc (v := (nI (k + 1))) (L' := [some (.ref a), some (.int mm), some (.int ((31 * (((31 * s1) + (nI (4 * (po j25 0)))) + (nI key))) + (nI (po j25 4)))), some (.int (nI key)), some (.int (nI (k + 1))), some (.int (nI j25))]) C dX3_mapTotal_85 rfl (nI_1 _) (by decide) rfl ?_
            refine V_goto C 13 dX3_mapTotal_88 (by decide) ?_
            refine V_sub ?_ (ihk (by omega))
            repeat' (first | exact ls_e | refine ls_n ?_ | refine ls_s ?_ | refine ls_i ?_ ?_ | refine ls_v ?_ ?_)
            rw [iterI_s, hs1]
            unfold mtS
            rw [o25]
            first | done | simp [*]
    refine V_iload_n C dX3_mapTotal_5 rfl rfl ?_
    refine V_iconst C 4 dX3_mapTotal_6 (by decide) ?_
    refine V_nicmp_ge (x := key) (y := 4) C 97 dX3_mapTotal_7 (by decide) (by omega) (by omega) (fun q7 => ?_) (fun q7 => ?_)
    · refine V_iload_n C dX3_mapTotal_97 rfl rfl ?_
      exact V_iret C dX3_mapTotal_98 (by decide) (by decide) ⟨_, rfl, by rw [← hs0, show key = 4 by omega]; rfl, rfl⟩
    · refine V_iconst C 0 dX3_mapTotal_10 (by decide) ?_
      refine V_istore (L' := [some (.ref a), some (.int mm), some (.int s0), some (.int (nI key)), some (.int 0), none]) C dX3_mapTotal_11 (by decide) rfl ?_
      refine V_sub ?_ (inner (by omega) 0 (Nat.zero_le _))
      repeat' (first | exact ls_e | refine ls_n ?_ | refine ls_s ?_ | refine ls_i ?_ ?_ | refine ls_v ?_ ?_)
      all_goals rfl
  refine V_sub ?_ (loop 0 (Nat.zero_le _))
  repeat' (first | exact ls_e | refine ls_n ?_ | refine ls_s ?_ | refine ls_i ?_ ?_ | refine ls_v ?_ ?_)
  all_goals rfl
def ltS (n : Nat) (po : Nat → Nat → Nat) (ap ft : Nat → Bool) (par dp : Nat → Nat) (x : Int32) (k : Nat) (s : Int32) : Int32 := match elO n po ap ft par dp x (nI k) with
  | none => s
  | some j => 31 * s + nI (128 * po j 0) + nI (po j 4)
def ltF (n : Nat) (po : Nat → Nat → Nat) (ap ft : Nat → Bool) (par dp : Nat → Nat) (x : Int32) : Int32 := iterI (ltS n po ap ft par dp x) 11 16
theorem ct_X3_listTotal (l : Launch) (G : mp_G) (b : Nat) (M : mp_M) (a : Nat) (ad : Nat → Nat) (S : Nat → Nat → Int32) (r n : Nat) (po : Nat → Nat → Nat) (ap : Nat → Bool) (hS : MdAt G M a ad S) (hme : S 7 0 = nI r) (hV : Vw S r n po ap) (ft : Nat → Bool) (hF : FitV S ft) (E : Nat → Prop) (par dp : Nat → Nat) (hTr : Tree n po ap E par dp) (x : Int32) (hEl : ∀ j, j < n → melem po ap ft j x = true → E j) : Ct l yX3_listTotal cX3_listTotal 5 (some .int) 5 0 0 G b ([.ref a, .int x] : List Value) M (pI (fun y M1 => y = ltF n po ap ft par dp x ∧ M1 = M)) := by
  have hr := hV.1
  have hn := hV.2.1
  refine Ct.ofV (by decide) (vc_ref (vc_int vc_nil)) (Nat.le_of_ble_eq_true rfl) ?_
  intro p e s m below meth c C hnm
  refine V_L (L1 := [some (.ref a), some (.int x), none, none, none]) rfl ?_
  obtain ⟨hma, hm0, hm1, hm2, hm3, hm4, hm5, hm8, hm9, hm10, hm11⟩ := id hS
  rw [hme] at hma
  refine V_bipush C 11 dX3_listTotal_0 (by decide) ?_
  refine V_istore_n (L' := [some (.ref a), some (.int x), some (.int 11), none, none]) C dX3_listTotal_2 rfl (by decide) rfl ?_
  refine V_iconst C 0 dX3_listTotal_3 (by decide) ?_
  refine V_istore_n (L' := [some (.ref a), some (.int x), some (.int 11), some (.int 0), none]) C dX3_listTotal_4 rfl (by decide) rfl ?_
  have loop : ∀ k, k ≤ 16 → V p l e (rmOf 5 0 0) s m ([.ref a, .int x] : List Value).toArray below meth c (MQ below (Qp G b (pI (fun y M1 => y = ltF n po ap ft par dp x ∧ M1 = M))) ([.ref a, .int x] : List Value).toArray s 0 0 (fun q => b ≤ q)) G b 5 0 0 5 [some (.ref a), some (.int x), some (.int (iterI (ltS n po ap ft par dp x) 11 k)), some (.int (nI k)), none] [] M := by
    refine up_ind 16 ?_
    intro k hk ih
    generalize hs0 : iterI (ltS n po ap ft par dp x) 11 k = s0 at ih ⊢
    refine V_iload_n C dX3_listTotal_5 rfl rfl ?_
    refine V_bipush C 16 dX3_listTotal_6 (by decide) ?_
    refine V_nicmp_ge (x := k) (y := 16) C 55 dX3_listTotal_8 (by decide) (by omega) (by omega) (fun q8 => ?_) (fun q8 => ?_)
    · refine V_iload_n C dX3_listTotal_55 rfl rfl ?_
      exact V_iret C dX3_listTotal_56 (by decide) (by decide) ⟨_, rfl, by rw [← hs0, show k = 16 by omega]; rfl, rfl⟩
    · refine V_aload_n C dX3_listTotal_11 rfl rfl ?_
      refine V_iload_n C dX3_listTotal_12 rfl rfl ?_
      refine V_iload_n C dX3_listTotal_13 rfl rfl ?_
      refine V_ofIe (VR_V (As := [.int x, .int (nI k)]) (rest := []) C (ct_X3_elementPlace l G b M a ad S r n po ap hS hme hV ft hF E par dp hTr x (nI k) hEl) hma rfl (lw_V q994 q996 qs27 q46 q997) rfl nd_X3_elementPlace rfl (by decide) (by decide) dX3_listTotal_14 rfl ⟨by decide, by decide⟩ (Nat.le_of_ble_eq_true rfl)) ?_
      rcases o14 : elO n po ap ft par dp x (nI k) with _ | j14
      · refine V_top0 (fun y14 hy14 => ?_)
        have hneg14 : y14 < 0 := by rw [hy14]; exact neg_lt (Nat.lt_of_le_of_lt (cntI_le _ _) (by omega))
        refine V_istore (L' := [some (.ref a), some (.int x), some (.int s0), some (.int (nI k)), some (.int y14)]) C dX3_listTotal_17 (by decide) rfl ?_
        refine V_iload C dX3_listTotal_19 rfl ?_
        refine V_if_lt C 49 dX3_listTotal_21 (by decide) (fun q21 => ?_) (fun q21 => ?_)
        · refine V_iinc (v := (nI (k + 1))) (L' := [some (.ref a), some (.int x), some (.int s0), some (.int (nI (k + 1))), some (.int y14)]) C dX3_listTotal_49 rfl (nI_1 _) (by decide) rfl ?_
          refine V_goto C 5 dX3_listTotal_52 (by decide) ?_
          refine V_sub ?_ (ih (by omega))
          repeat' (first | exact ls_e | refine ls_n ?_ | refine ls_s ?_ | refine ls_i ?_ ?_ | refine ls_v ?_ ?_)
          rw [iterI_s, hs0]
          unfold ltS
          rw [o14]
        · exact absurd hneg14 q21
      · have hj14 := (firstI_get o14).1
        have hk14 := hV.2.2.2.2.1 j14 hj14
        refine V_top (y := nI j14) rfl ?_
        refine V_istore (L' := [some (.ref a), some (.int x), some (.int s0), some (.int (nI k)), some (.int (nI j14))]) C dX3_listTotal_17 (by decide) rfl ?_
        refine V_iload C dX3_listTotal_19 rfl ?_
        refine V_if_lt C 49 dX3_listTotal_21 (by decide) (fun h => absurd h (nI_pos (n := j14) (by omega))) (fun _ => ?_)
        refine V_bipush C 31 dX3_listTotal_24 (by decide) ?_
        refine V_iload_n C dX3_listTotal_26 rfl rfl ?_
        refine V_imul C dX3_listTotal_27 ?_
        refine V_sipush C 128 dX3_listTotal_28 (by decide) ?_
        refine V_aload_n C dX3_listTotal_31 rfl rfl ?_
        refine V_iload C dX3_listTotal_32 rfl ?_
        refine V_iconst C 0 dX3_listTotal_34 (by decide) ?_
        refine V_ofIe (VR_V (As := [.int (nI j14), .int 0]) (rest := [.int 128, .int (31 * s0)]) C (ct_X3_part l G b M a ad S r n po ap hS hme hV j14 0 (by omega) (by omega)) hma rfl (lw_V q875 q877 qs11 q46 q878) rfl nd_X3_part rfl (by decide) (by decide) dX3_listTotal_35 rfl ⟨by decide, by decide⟩ (Nat.le_of_ble_eq_true rfl)) ?_
        have hp35 := hV.2.2.2.2.2.1 j14 0
        refine V_imul C dX3_listTotal_38 ?_
        refine V_top (y := (nI (128 * (po j14 0)))) (pk_mul 128 (po j14 0)) ?_
        refine V_iadd C dX3_listTotal_39 ?_
        refine V_aload_n C dX3_listTotal_40 rfl rfl ?_
        refine V_iload C dX3_listTotal_41 rfl ?_
        refine V_iconst C 4 dX3_listTotal_43 (by decide) ?_
        refine V_ofIe (VR_V (As := [.int (nI j14), .int 4]) (rest := [.int ((31 * s0) + (nI (128 * (po j14 0))))]) C (ct_X3_part l G b M a ad S r n po ap hS hme hV j14 4 (by omega) (by omega)) hma rfl (lw_V q875 q877 qs11 q46 q878) rfl nd_X3_part rfl (by decide) (by decide) dX3_listTotal_44 rfl ⟨by decide, by decide⟩ (Nat.le_of_ble_eq_true rfl)) ?_
        have hp44 := hV.2.2.2.2.2.1 j14 4
        refine V_iadd C dX3_listTotal_47 ?_
        refine V_istore_n (L' := [some (.ref a), some (.int x), some (.int (((31 * s0) + (nI (128 * (po j14 0)))) + (nI (po j14 4)))), some (.int (nI k)), some (.int (nI j14))]) C dX3_listTotal_48 rfl (by decide) rfl ?_
        refine V_iinc (v := (nI (k + 1))) (L' := [some (.ref a), some (.int x), some (.int (((31 * s0) + (nI (128 * (po j14 0)))) + (nI (po j14 4)))), some (.int (nI (k + 1))), some (.int (nI j14))]) C dX3_listTotal_49 rfl (nI_1 _) (by decide) rfl ?_
        refine V_goto C 5 dX3_listTotal_52 (by decide) ?_
        refine V_sub ?_ (ih (by omega))
        repeat' (first | exact ls_e | refine ls_n ?_ | refine ls_s ?_ | refine ls_i ?_ ?_ | refine ls_v ?_ ?_)
        rw [iterI_s, hs0]
        unfold ltS
        rw [o14]
  refine V_sub ?_ (loop 0 (Nat.zero_le _))
  repeat' (first | exact ls_e | refine ls_n ?_ | refine ls_s ?_ | refine ls_i ?_ ?_ | refine ls_v ?_ ?_)
  all_goals rfl

