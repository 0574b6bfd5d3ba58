set_option maxRecDepth 100000
/-! THE COMPONENT, H: Replica.apply's walk -/
theorem OpAt.ext {G : mp_G} {M M1 : mp_M} {g a : Nat} {bs : List Nat} (h : OpAt G M g a bs) (hE : Ext M M1) : OpAt G M1 g a bs := h.keep (hE.keep (S := fun _ => False)) (fun _ _ _ => id)
theorem Ext.no {M M1 : mp_M} (h : Ext M M1) {x : Nat} (hx : M1 x = none) : M x = none := by
  cases e : M x with
  | none => rfl
  | some y => rw [h x y e] at hx; cases hx
theorem ct_X1_apply (l : Launch) (G : mp_G) (b : Nat) (M : mp_M) (g a ln : Nat) (lo : Nat → List Nat) (P : Nat → Int32) (hi : Nat → Option Nat) (sh fo : Nat → Bool) (ch : Nat → Nat → List Nat) (nx : Nat → Option Nat) (wt : List (List Nat)) (A : Nat → Nat → Nat) (wo : List Nat) (hR : RepAt G M g a ln lo P hi sh fo ch nx wt A wo) (o : Nat) (bs : List Nat) (hO : OpAt G M g o bs) (hok : OpOk bs) (hln : ln < 16) (hch : ∀ m key, m ≤ ln → 4 ≤ key → ch m key = []) (hbf : ∀ k, k < oB bs 5 → (cplace ln lo (nI (oB bs (6 + k)))).isSome = true) (hkey : oB bs 1 ≠ 3 → oB bs 1 ≠ 4 → oB bs 3 < 4) (hss : ∀ m, cfits ln lo hi (nI (oB bs 1)) (nI (oB bs 2)) (nI (oB bs 3)) = true → oB bs 1 = 3 → cnode ln lo (nI (oB bs 2)) = some m → ∃ ss, ss ≤ (ch m 0).length ∧ celem ln lo hi (nI (oB bs 3)) = prevO (ch m 0) ss) : Ct l yX1_apply cX1_apply 5 (none) 10 5 130 G b ([.ref a, .ref o] : List Value) M (pV (fun M1 => ∃ A' nx' hi' sh' ch', RepAt G M1 g a (ln + 1) (ex lo ln bs) (ex P ln (paF ln lo P bs)) hi' sh' (ex (foF ln lo bs fo) ln false) ch' nx' wt A' wo ∧ ApRel ln lo hi sh ch bs (paF ln lo P bs) hi' sh' ch' ∧ Keep (MutG g) M M1)) := by
  have h5 := hok.2.1
  have hob := hok.2.2
  have hob1 := hob 1
  have hob2 := hob 2
  have hob3 := hob 3
  refine Ct.ofV (by decide) (vc_ref (vc_ref vc_nil)) (Nat.le_of_ble_eq_true rfl) ?_
  intro p e s m below meth c C hnm
  refine V_L (L1 := [some (.ref a), some (.ref o), none, none, none]) rfl ?_
  have last : ∀ M7 f1 q0 n0 e0, f1 = foF ln lo bs fo → RepAt G M7 g a (ln + 1) (ex lo ln bs) (ex P ln (paF ln lo P bs)) (ex hi ln none) (ex sh ln false) (ex f1 ln false) (exC ch ln) (ex nx ln none) wt (exA A ln q0 o n0 e0) wo → Keep (MutG g) M M7 → V p l e (rmOf 10 5 130) s m ([.ref a, .ref o] : List Value).toArray below meth c (MQ below (Qp G b (pV (fun M1 => ∃ A' nx' hi' sh' ch', RepAt G M1 g a (ln + 1) (ex lo ln bs) (ex P ln (paF ln lo P bs)) hi' sh' (ex (foF ln lo bs fo) ln false) ch' nx' wt A' wo ∧ ApRel ln lo hi sh ch bs (paF ln lo P bs) hi' sh' ch' ∧ Keep (MutG g) M M1))) ([.ref a, .ref o] : List Value).toArray s 5 130 (fun q => b ≤ q)) G b 5 4 114 160 [some (.ref a), some (.ref o), none, some (.ref q0), some (.int (bI (cfits ln lo hi (nI (oB bs 1)) (nI (oB bs 2)) (nI (oB bs 3)))))] [] M7 := by
    intro M7 f1 q0 n0 e0 hf1 R7 hK7
    subst hf1
    have hq0A : exA A ln q0 o n0 e0 0 ln = q0 := by rw [exA_0, ex_s]
    have r1 := R7.1
    rw [exA_2, exA_4, ex_n (show 0 ≠ ln + 1 by omega)] at r1
    refine V_iload C dX1_apply_160 rfl ?_
    refine V_ifb_eq C 170 dX1_apply_162 (by decide) (fun hfit => ?_) (fun hfit => ?_)
    · skip
      exact V_vret C dX1_apply_170 (by decide) (by decide) ⟨rfl, _, _, _, _, _, R7, Or.inl ⟨hfit, rfl, rfl, rfl⟩, hK7⟩
    · skip
      refine V_aload_n C dX1_apply_165 rfl rfl ?_
      refine V_aload_n C dX1_apply_166 rfl rfl ?_
      by_cases h4 : oB bs 1 = 4
      · obtain ⟨k0, hk0⟩ := cfits_4 hfit (by rw [h4]; rfl)
        have ctc := ct_X1_change_er l G b M7 g a (ln + 1) (ex lo ln bs) (ex P ln (paF ln lo P bs)) (ex hi ln none) (ex sh ln false) (ex (foF ln lo bs fo) ln false) (exC ch ln) (ex nx ln none) wt (exA A ln q0 o n0 e0) wo R7 ln k0 (by omega) (by rw [ex_s]; exact h4) (by rw [ex_s, celem_ex]; exact hk0)
        rw [hq0A] at ctc
        refine V_ofV (VR_V (As := [.ref q0]) (rest := []) C ctc r1 rfl (lw_V q579 q581 qs4 q37 q582) rfl nd_X1_change rfl (by decide) (by decide) dX1_apply_167 rfl ⟨by decide, by decide⟩ (Nat.le_of_ble_eq_true rfl)) (fun M8 hM8 => ?_)
        exact V_vret C dX1_apply_170 (by decide) (by decide) ⟨rfl, _, _, _, _, _, hM8.1, Or.inr (Or.inl ⟨hfit, h4, k0, hk0, rfl, rfl, rfl⟩), hK7.tr hM8.2⟩
      · by_cases h3 : oB bs 1 = 3
        · obtain ⟨m, hm, hlm, -⟩ := cfits_3 hfit (by rw [h3]; rfl)
          obtain ⟨ss, hs1, hs2⟩ := hss m hfit h3 hm
          have hml := (cnode_le hm).1
          have hcm : exC ch ln m = ch m := by funext key; unfold exC; rw [if_neg (by omega)]
          have ctc := ct_X1_change_lst l G b M7 g a (ln + 1) (ex lo ln bs) (ex P ln (paF ln lo P bs)) (ex hi ln none) (ex sh ln false) (ex (foF ln lo bs fo) ln false) (exC ch ln) (ex nx ln none) wt (exA A ln q0 o n0 e0) wo R7 ln m ss (by omega) (ex_s _ _ _) (by rw [ex_s]; omega) (by rw [ex_s]; exact cnode_ex hm) ((isLst_ex hml).mpr hlm) (by rw [hcm]; exact hs1) (by rw [ex_s, celem_ex, hcm]; exact hs2)
          rw [hq0A, hcm] at ctc
          refine V_ofV (VR_V (As := [.ref q0]) (rest := []) C ctc r1 rfl (lw_V q579 q581 qs4 q37 q582) rfl nd_X1_change rfl (by decide) (by decide) dX1_apply_167 rfl ⟨by decide, by decide⟩ (Nat.le_of_ble_eq_true rfl)) (fun M8 hM8 => ?_)
          obtain ⟨i, nx', g1, g2, g3, g4, g5, g6⟩ := hM8
          exact V_vret C dX1_apply_170 (by decide) (by decide) ⟨rfl, _, _, _, _, _, g5, Or.inr (Or.inr (Or.inr (Or.inr ⟨hfit, h3, m, ss, i, hm, hlm, hs2, g1, g2, g3, g4, rfl, rfl, rfl⟩))), hK7.tr g6⟩
        · obtain ⟨m, hm, hmm⟩ := cfits_m hfit (fun z => h3 ((nI_eq (a := oB bs 1) (b := 3) (by have := hob 1; omega) (by decide)).mp z)) (fun z => h4 ((nI_eq (a := oB bs 1) (b := 4) (by have := hob 1; omega) (by decide)).mp z))
          have hml := (cnode_le hm).1
          have hcm : exC ch ln m = ch m := by funext key; unfold exC; rw [if_neg (by omega)]
          have ctc := ct_X1_change_map l G b M7 g a (ln + 1) (ex lo ln bs) (ex P ln (paF ln lo P bs)) (ex hi ln none) (ex sh ln false) (ex (foF ln lo bs fo) ln false) (exC ch ln) (ex nx ln none) wt (exA A ln q0 o n0 e0) wo R7 ln m (by omega) (ex_s _ _ _) (by rw [ex_s]; exact h4) (by rw [ex_s]; exact cnode_ex hm) ((isMap_ex hml).mpr hmm) (by rw [ex_s]; exact hkey h3 h4)
          rw [hq0A, hcm, ex_s, ex_s] at ctc
          refine V_ofV (VR_V (As := [.ref q0]) (rest := []) C ctc r1 rfl (lw_V q579 q581 qs4 q37 q582) rfl nd_X1_change rfl (by decide) (by decide) dX1_apply_167 rfl ⟨by decide, by decide⟩ (Nat.le_of_ble_eq_true rfl)) (fun M8 hM8 => ?_)
          rcases hM8 with ⟨g0, nx', g5, g6⟩ | ⟨g0, i, nx', g2, g3, g4, g5, g6⟩
          · exact V_vret C dX1_apply_170 (by decide) (by decide) ⟨rfl, _, _, _, _, _, g5, Or.inr (Or.inr (Or.inl ⟨hfit, g0, m, hm, hmm, rfl, rfl, rfl⟩)), hK7.tr g6⟩
          · exact V_vret C dX1_apply_170 (by decide) (by decide) ⟨rfl, _, _, _, _, _, g5, Or.inr (Or.inr (Or.inr (Or.inl ⟨hfit, h3, h4, g0, m, i, hm, hmm, g2, g3, g4, rfl, rfl, rfl⟩))), hK7.tr g6⟩
  have rest : ∀ M1 f1, f1 = foF ln lo bs fo → RepAt G M1 g a ln lo P hi sh f1 ch nx wt A wo → Keep (MutG g) M M1 → V p l e (rmOf 10 5 130) s m ([.ref a, .ref o] : List Value).toArray below meth c (MQ below (Qp G b (pV (fun M1 => ∃ A' nx' hi' sh' ch', RepAt G M1 g a (ln + 1) (ex lo ln bs) (ex P ln (paF ln lo P bs)) hi' sh' (ex (foF ln lo bs fo) ln false) ch' nx' wt A' wo ∧ ApRel ln lo hi sh ch bs (paF ln lo P bs) hi' sh' ch' ∧ Keep (MutG g) M M1))) ([.ref a, .ref o] : List Value).toArray s 5 130 (fun q => b ≤ q)) G b 5 0 0 73 [some (.ref a), some (.ref o), some (.int (paF ln lo P bs)), none, none] [] M1 := by
    intro M1 f1 hf1 R1 hK1
    have hO1 : OpAt G M1 g o bs := hO.keep hK1 (fun kd i h10 z => by have := z.2; dsimp only at this; omega)
    obtain ⟨os, oi, ho1, -⟩ := id hO1
    have join : ∀ M6 q0 n0 e0, Ext M1 M6 → M6 q0 = some ((g, 1, ln), .inr (5, [.ref o, .int (paF ln lo P bs), .int (nI ln), va_rf (if oB bs 1 = 1 ∨ oB bs 1 = 2 then some n0 else none), .null, .int 0, .int 0, .null])) → (oB bs 1 = 1 → M6 n0 = some ((g, 13, ln + 1), .inr (2, [.ref q0, .ref e0])) ∧ M6 e0 = some ((g, 2, ln + 1), .inl (G.2.1 4, 4, .inr (.inr (.inr (.inr (fun _ => none))))))) → (oB bs 1 = 2 → M6 n0 = some ((g, 3, ln + 1), .inr (6, [.ref q0, .null]))) → V p l e (rmOf 10 5 130) s m ([.ref a, .ref o] : List Value).toArray below meth c (MQ below (Qp G b (pV (fun M1 => ∃ A' nx' hi' sh' ch', RepAt G M1 g a (ln + 1) (ex lo ln bs) (ex P ln (paF ln lo P bs)) hi' sh' (ex (foF ln lo bs fo) ln false) ch' nx' wt A' wo ∧ ApRel ln lo hi sh ch bs (paF ln lo P bs) hi' sh' ch' ∧ Keep (MutG g) M M1))) ([.ref a, .ref o] : List Value).toArray s 5 130 (fun q => b ≤ q)) G b 5 3 14 133 [some (.ref a), some (.ref o), none, some (.ref q0), none] [] M6 := by
      intro M6 q0 n0 e0 hE6 hq6 hm6 hl6
      have R6 := R1.ext hE6
      have hO6 := hO1.ext hE6
      have ho6 := hE6 _ _ ho1
      obtain ⟨r1w, r2w, r3w, r4w, r5w, r6w, r7w, r8w, r9w, r10w, r11w⟩ := id R6
      have rbw := r10w.2.2.1
      have rlnw := r10w.1
      have rwlw := r10w.2.1
      have rwow := r4w.1
      obtain ⟨lmow, larw, hlaw⟩ := al_obj r2w
      obtain ⟨wmow, warw, hwaw⟩ := al_obj r3w
      refine V_aload_n C dX1_apply_133 rfl rfl ?_
      refine V_aload_n C dX1_apply_134 rfl rfl ?_
      refine V_ofIe (VR_V (As := []) (rest := [.ref a]) C (ct_X4_kind l G b M6 g o bs hO6 hok) ho6 rfl (lw_V q264 q265 q266 q55 q267) rfl nd_X4_kind rfl (by decide) (by decide) dX1_apply_135 rfl ⟨by decide, by decide⟩ (Nat.le_of_ble_eq_true rfl)) ?_
      refine V_aload_n C dX1_apply_138 rfl rfl ?_
      refine V_ofIe (VR_V (As := []) (rest := [.int (nI (oB bs 1)), .ref a]) C (ct_X4_target l G b M6 g o bs hO6 hok) ho6 rfl (lw_V q528 q529 q530 q55 q531) rfl nd_X4_target rfl (by decide) (by decide) dX1_apply_139 rfl ⟨by decide, by decide⟩ (Nat.le_of_ble_eq_true rfl)) ?_
      refine V_aload_n C dX1_apply_142 rfl rfl ?_
      refine V_ofIe (VR_V (As := []) (rest := [.int (nI (oB bs 2)), .int (nI (oB bs 1)), .ref a]) C (ct_X4_slot l G b M6 g o bs hO6 hok) ho6 rfl (lw_V q532 q533 q534 q55 q535) rfl nd_X4_slot rfl (by decide) (by decide) dX1_apply_143 rfl ⟨by decide, by decide⟩ (Nat.le_of_ble_eq_true rfl)) ?_
      refine V_ofIe (VR_V (As := [.int (nI (oB bs 1)), .int (nI (oB bs 2)), .int (nI (oB bs 3))]) (rest := []) C (ct_X1_fits l G b M6 g a ln lo P hi sh f1 ch nx wt A wo R6 (nI (oB bs 1)) (nI (oB bs 2)) (nI (oB bs 3))) r1w rfl (lw_V q536 q189 q190 q37 q191) rfl nd_X1_fits rfl (by decide) (by decide) dX1_apply_146 rfl ⟨by decide, by decide⟩ (Nat.le_of_ble_eq_true rfl)) ?_
      refine V_istore (L' := [some (.ref a), some (.ref o), none, some (.ref q0), some (.int (bI (cfits ln lo hi (nI (oB bs 1)) (nI (oB bs 2)) (nI (oB bs 3)))))]) C dX1_apply_149 (by decide) rfl ?_
      refine V_aload_n C dX1_apply_151 rfl rfl ?_
      refine V_get (C0 := RX1) (T := TX1) (N := 3) (ci := 1) C 1 in_X1 rfl r1w (by decide) q117 (fun _ h9 => h9) rfl dX1_apply_152 ?_
      refine V_aload_n C dX1_apply_155 rfl rfl ?_
      skip
      have hobj : ∀ x ∈ (List.range ln).map (A 0), isObj M6 x := by
        intro x hx
        obtain ⟨k, hk, rfl⟩ := List.mem_map.mp hx
        exact ⟨_, _, _, _, r5w k (List.mem_range.mp hk), rfl, ev1048⟩
      refine V_ofI (VR_V (As := [.ref q0]) (rest := []) C (ct_J2_add l G b M6 (A 4 0) q0 (g, 4, 0) (g, 5, 0) (by simp) _ r2w hobj ⟨_, _, _, _, hq6, rfl, ev1048⟩ (fun la z hz => by rw [hq6] at hz; cases hz; exact ⟨by simp, by simp⟩) (by rw [lg_len]; omega)) hlaw rfl (lw_V q537 q538 q539 q41 q540) rfl nd_J2_add rfl (by decide) (by decide) dX1_apply_156 rfl ⟨by decide, by decide⟩ (Nat.le_of_ble_eq_true rfl)) (fun y7 M7 hM7 => ?_)
      obtain ⟨-, hal, hK7⟩ := hM7
      refine V_pop C dX1_apply_159 rfl ?_
      have R7 := rep_more (M1 := M7) (q0 := q0) (o0 := o) (n0 := n0) (e0 := e0) (bs := bs) (pa := paF ln lo P bs) R6 hln hok hch hK7 hal (hK7 _ _ _ hq6 (by simp)) (hO6.keep hK7 (fun kd i h10 z => by simp at z; omega)) (fun z => ⟨hK7 _ _ _ (hm6 z).1 (by simp), hK7 _ _ _ (hm6 z).2 (by simp)⟩) (fun z => hK7 _ _ _ (hl6 z) (by simp))
      refine V_sub ?_ (last M7 f1 q0 n0 e0 hf1 R7 (hK1.tr ((hE6.keep).tr (hK7.mono (fun la z => by rcases z with z | z <;> (rw [z]; exact ⟨rfl, by simp⟩))))))
      repeat' (first | exact ls_e | refine ls_n ?_ | refine ls_s ?_ | refine ls_i ?_ ?_ | refine ls_v ?_ ?_)
    refine V_new (C0 := RX5) (T := TX5) (N := 8) (ci := 5) (fs := [.null, .int 0, .int 0, .null, .null, .int 0, .int 0, .null]) C (g, 1, ln) in_X5 tyX5 tyX5_ok q222 q468 q56 rfl (fun j hj => by rcases (show j = 0 ∨ j = 1 ∨ j = 2 ∨ j = 3 ∨ j = 4 ∨ j = 5 ∨ j = 6 ∨ j = 7 by omega) with rfl | rfl | rfl | rfl | rfl | rfl | rfl | rfl <;> rfl) (by first | decide | omega | (dsimp only [rmOf]; omega)) (by first | decide | omega | (dsimp only [rmOf]; omega)) dX1_apply_73 (fun q0 hq0 => V_N (fun M2 e2 => ?_))
    have h__1 := mp_keepN e2 ho1 hq0
    have h__2 := mp_got e2
    have hE2 := Ext.new e2 hq0
    have R2 := R1.ext hE2
    obtain ⟨r1v, r2v, r3v, r4v, r5v, r6v, r7v, r8v, r9v, r10v, r11v⟩ := id R2
    have rbv := r10v.2.2.1
    have rlnv := r10v.1
    have rwlv := r10v.2.1
    have rwov := r4v.1
    obtain ⟨lmov, larv, hlav⟩ := al_obj r2v
    obtain ⟨wmov, warv, hwav⟩ := al_obj r3v
    refine V_dup C dX1_apply_76 rfl ?_
    refine V_aload_n C dX1_apply_77 rfl rfl ?_
    refine V_iload_n C dX1_apply_78 rfl rfl ?_
    refine V_aload_n C dX1_apply_79 rfl rfl ?_
    refine V_get (C0 := RX1) (T := TX1) (N := 3) (ci := 1) C 1 in_X1 rfl r1v (by decide) q117 (fun _ h9 => h9) rfl dX1_apply_80 ?_
    refine V_ofIe (VR_V (As := []) (rest := [.int (paF ln lo P bs), .ref o, .ref q0, .ref q0]) C (ct_J2_sizeN l G b M2 (A 4 0) (g, 4, 0) (g, 5, 0) _ r2v lg_len) hlav rfl (lw_V q204 q205 q206 q41 q207) rfl nd_J2_size rfl (by decide) (by decide) dX1_apply_83 rfl ⟨by decide, by decide⟩ (Nat.le_of_ble_eq_true rfl)) ?_
    refine V_ofV (VR_I (As := [.ref o, .int (paF ln lo P bs), .int (nI ln)]) (rest := [.ref q0]) C (ct_X5_init l G b M2 q0 o (paF ln lo P bs) (nI ln) (g, 1, ln) h__2) (lw_meth q471) q56 q469 q470 rfl nd_X5_init rfl (by decide) (by decide) dX1_apply_86 rfl ⟨by decide, by decide⟩ (Nat.le_of_ble_eq_true rfl)) (fun M3 e3 => ?_)
    have hE3 : Ext M1 M3 := hE2.ofB hq0 (ExtB.up e3)
    have hq3 := mp_got e3
    have hO3 := hO1.ext hE3
    have ho3 := hE3 _ _ ho1
    refine V_astore_n (L' := [some (.ref a), some (.ref o), some (.int (paF ln lo P bs)), some (.ref q0), none]) C dX1_apply_89 rfl (by decide) rfl ?_
    refine V_aload_n C dX1_apply_90 rfl rfl ?_
    have mapC : oB bs 1 = 1 → V p l e (rmOf 10 5 130) s m ([.ref a, .ref o] : List Value).toArray below meth c (MQ below (Qp G b (pV (fun M1 => ∃ A' nx' hi' sh' ch', RepAt G M1 g a (ln + 1) (ex lo ln bs) (ex P ln (paF ln lo P bs)) hi' sh' (ex (foF ln lo bs fo) ln false) ch' nx' wt A' wo ∧ ApRel ln lo hi sh ch bs (paF ln lo P bs) hi' sh' ch' ∧ Keep (MutG g) M M1))) ([.ref a, .ref o] : List Value).toArray s 5 130 (fun q => b ≤ q)) G b 5 1 8 99 [some (.ref a), some (.ref o), some (.int (paF ln lo P bs)), some (.ref q0), none] [.ref q0] M3 := by
      intro hk1
      refine V_new (C0 := RX2) (T := TX2) (N := 2) (ci := 2) (fs := [.null, .null]) C (g, 13, ln + 1) in_X2 tyX2 tyX2_ok q73 q74 q38 rfl (fun j hj => by rcases (show j = 0 ∨ j = 1 by omega) with rfl | rfl <;> rfl) (by first | decide | omega | (dsimp only [rmOf]; omega)) (by first | decide | omega | (dsimp only [rmOf]; omega)) dX1_apply_99 (fun n0 hn0 => V_N (fun M4 e4 => ?_))
      have h__3 := mp_keepN e4 ho3 hn0
      have h__4 := mp_keepN e4 hq3 hn0
      have h__5 := mp_got e4
      refine V_dup C dX1_apply_102 rfl ?_
      refine V_aload_n C dX1_apply_103 rfl rfl ?_
      refine V_ofV (VR_I (As := [.ref q0]) (rest := [.ref n0, .ref q0]) C (ct_X2_init l G b M4 g (ln + 1) n0 (some q0) h__5) (lw_meth q77) q38 q75 q76 rfl nd_X2_init rfl (by decide) (by decide) dX1_apply_104 rfl ⟨by decide, by decide⟩ (Nat.le_of_ble_eq_true rfl)) (fun M5 hM5 => ?_)
      obtain ⟨w0, hw0, hwn, hn5, hw5, hE5⟩ := hM5
      have hn1 := hE3.no hn0
      have hE4 : Ext M1 M4 := hE3.tr (Ext.new e4 hn0)
      have hq5 : M5 q0 = some ((g, 1, ln), .inr (5, [.ref o, .int (paF ln lo P bs), .int (nI ln), .null, .null, .int 0, .int 0, .null])) := hE5 _ _ (mp_keepN e4 hq3 hn0) (fun z => by rw [z, hn0] at hq3; cases hq3)
      have hqn : q0 ≠ n0 := fun z => by rw [z, hn0] at hq3; cases hq3
      refine V_M (V_putN (C0 := RX5) (T := TX5) (N := 8) (ci := 5) (fs' := [.ref o, .int (paF ln lo P bs), .int (nI ln), .ref n0, .null, .int 0, .int 0, .null]) C 3 in_X5 tyX5 tyX5_ok nmX5 rfl hq5 (by decide) ev484 (fun _ h9 => h9) rfl rfl rfl rfl (Nat.le_of_ble_eq_true rfl) rfl dX1_apply_107) (fun M6 e6 => ?_)
      have h__6 := mp_got e6
      refine V_goto C 133 dX1_apply_110 (by decide) ?_
      have hE6 : Ext M1 M6 := (hE4.ofB hn1 hE5).ofB hq0 (ExtB.up e6)
      refine V_widen (k := 3) (n := 14) (by decide) (by decide) ?_
      refine V_sub ?_ (join M6 q0 n0 w0 hE6 (by rw [mp_got e6, if_pos (Or.inl hk1)]; rfl) (fun _ => ⟨mp_keep e6 hn5 hq5 (by simp), mp_keep e6 hw5 hq5 (by simp)⟩) (fun z => by omega))
      repeat' (first | exact ls_e | refine ls_n ?_ | refine ls_s ?_ | refine ls_i ?_ ?_ | refine ls_v ?_ ?_)
    have lstC : oB bs 1 = 2 → V p l e (rmOf 10 5 130) s m ([.ref a, .ref o] : List Value).toArray below meth c (MQ below (Qp G b (pV (fun M1 => ∃ A' nx' hi' sh' ch', RepAt G M1 g a (ln + 1) (ex lo ln bs) (ex P ln (paF ln lo P bs)) hi' sh' (ex (foF ln lo bs fo) ln false) ch' nx' wt A' wo ∧ ApRel ln lo hi sh ch bs (paF ln lo P bs) hi' sh' ch' ∧ Keep (MutG g) M M1))) ([.ref a, .ref o] : List Value).toArray s 5 130 (fun q => b ≤ q)) G b 5 1 8 122 [some (.ref a), some (.ref o), some (.int (paF ln lo P bs)), some (.ref q0), none] [.ref q0] M3 := by
      intro hk2
      refine V_new (C0 := RX6) (T := TX6) (N := 2) (ci := 6) (fs := [.null, .null]) C (g, 3, ln + 1) in_X6 tyX6 tyX6_ok q272 q515 q57 rfl (fun j hj => by rcases (show j = 0 ∨ j = 1 by omega) with rfl | rfl <;> rfl) (by first | decide | omega | (dsimp only [rmOf]; omega)) (by first | decide | omega | (dsimp only [rmOf]; omega)) dX1_apply_122 (fun n0 hn0 => V_N (fun M4 e4 => ?_))
      have h__7 := mp_keepN e4 ho3 hn0
      have h__8 := mp_keepN e4 hq3 hn0
      have h__9 := mp_got e4
      refine V_dup C dX1_apply_125 rfl ?_
      refine V_aload_n C dX1_apply_126 rfl rfl ?_
      refine V_ofV (VR_I (As := [.ref q0]) (rest := [.ref n0, .ref q0]) C (ct_X6_init l G b M4 n0 (g, 3, ln + 1) (some q0) h__9) (lw_meth q518) q57 q516 q517 rfl nd_X6_init rfl (by decide) (by decide) dX1_apply_127 rfl ⟨by decide, by decide⟩ (Nat.le_of_ble_eq_true rfl)) (fun M5 e5 => ?_)
      have hn1 := hE3.no hn0
      have hE4 : Ext M1 M4 := hE3.tr (Ext.new e4 hn0)
      have hqn : q0 ≠ n0 := fun z => by rw [z, hn0] at hq3; cases hq3
      have hq5 : M5 q0 = some ((g, 1, ln), .inr (5, [.ref o, .int (paF ln lo P bs), .int (nI ln), .null, .null, .int 0, .int 0, .null])) := by rw [e5, mp_ne hqn]; exact mp_keepN e4 hq3 hn0
      refine V_M (V_putN (C0 := RX5) (T := TX5) (N := 8) (ci := 5) (fs' := [.ref o, .int (paF ln lo P bs), .int (nI ln), .ref n0, .null, .int 0, .int 0, .null]) C 3 in_X5 tyX5 tyX5_ok nmX5 rfl hq5 (by decide) ev484 (fun _ h9 => h9) rfl rfl rfl rfl (Nat.le_of_ble_eq_true rfl) rfl dX1_apply_130) (fun M6 e6 => ?_)
      have h__10 := mp_got e6
      have hE6 : Ext M1 M6 := (hE4.ofB hn1 (ExtB.up e5)).ofB hq0 (ExtB.up e6)
      refine V_widen (k := 3) (n := 14) (by decide) (by decide) ?_
      refine V_sub ?_ (join M6 q0 n0 0 hE6 (by rw [mp_got e6, if_pos (Or.inr hk2)]; rfl) (fun z => by omega) (fun _ => mp_keep e6 (mp_got e5) hq5 (by simp)))
      repeat' (first | exact ls_e | refine ls_n ?_ | refine ls_s ?_ | refine ls_i ?_ ?_ | refine ls_v ?_ ?_)
    refine V_ofIe (VR_V (As := []) (rest := []) C (ct_X4_kind l G b M3 g o bs hO3 hok) ho3 rfl (lw_V q264 q265 q266 q55 q267) rfl nd_X4_kind rfl (by decide) (by decide) dX1_apply_91 rfl ⟨by decide, by decide⟩ (Nat.le_of_ble_eq_true rfl)) ?_
    refine V_iconst C 1 dX1_apply_94 (by decide) ?_
    refine V_nicmp_ne (x := oB bs 1) (y := 1) C 113 dX1_apply_95 (by decide) (by omega) (by omega) (fun k95 => ?_) (fun k95 => ?_)
    · refine V_aload_n C dX1_apply_113 rfl rfl ?_
      refine V_ofIe (VR_V (As := []) (rest := []) C (ct_X4_kind l G b M3 g o bs hO3 hok) ho3 rfl (lw_V q264 q265 q266 q55 q267) rfl nd_X4_kind rfl (by decide) (by decide) dX1_apply_114 rfl ⟨by decide, by decide⟩ (Nat.le_of_ble_eq_true rfl)) ?_
      refine V_iconst C 2 dX1_apply_117 (by decide) ?_
      refine V_nicmp_ne (x := oB bs 1) (y := 2) C 133 dX1_apply_118 (by decide) (by omega) (by omega) (fun k118 => ?_) (fun k118 => ?_)
      · refine V_widen (k := 3) (n := 14) (by decide) (by decide) ?_
        refine V_sub ?_ (join M3 q0 0 0 hE3 (by rw [hq3, if_neg (by omega)]; rfl) (fun z => by omega) (fun z => by omega))
        repeat' (first | exact ls_e | refine ls_n ?_ | refine ls_s ?_ | refine ls_i ?_ ?_ | refine ls_v ?_ ?_)
      · refine V_aload_n C dX1_apply_121 rfl rfl ?_
        exact lstC k118
    · refine V_aload_n C dX1_apply_98 rfl rfl ?_
      exact mapC k95
  have loop : ∀ k, k ≤ oB bs 5 → ∀ M1 f1, f1 = iterI (foS ln lo bs) fo k → RepAt G M1 g a ln lo P hi sh f1 ch nx wt A wo → Keep (MutG g) M M1 → V p l e (rmOf 10 5 130) s m ([.ref a, .ref o] : List Value).toArray below meth c (MQ below (Qp G b (pV (fun M1 => ∃ A' nx' hi' sh' ch', RepAt G M1 g a (ln + 1) (ex lo ln bs) (ex P ln (paF ln lo P bs)) hi' sh' (ex (foF ln lo bs fo) ln false) ch' nx' wt A' wo ∧ ApRel ln lo hi sh ch bs (paF ln lo P bs) hi' sh' ch' ∧ Keep (MutG g) M M1))) ([.ref a, .ref o] : List Value).toArray s 5 130 (fun q => b ≤ q)) G b 5 0 0 4 [some (.ref a), some (.ref o), some (.int (iterI (paS ln lo P bs) 0 k)), some (.int (nI k)), none] [] M1 := by
    refine up_ind (oB bs 5) ?_
    intro k hk ih M1 f1 hf1 R1 hK1
    generalize hx1 : iterI (paS ln lo P bs) 0 k = x1 at ih ⊢
    have hO1 : OpAt G M1 g o bs := hO.keep hK1 (fun kd i h10 z => by have := z.2; dsimp only at this; omega)
    obtain ⟨os, oi, ho1, -⟩ := id hO1
    have h5b := hob 5
    obtain ⟨r1z, r2z, r3z, r4z, r5z, r6z, r7z, r8z, r9z, r10z, r11z⟩ := id R1
    have rbz := r10z.2.2.1
    have rlnz := r10z.1
    have rwlz := r10z.2.1
    have rwoz := r4z.1
    obtain ⟨lmoz, larz, hlaz⟩ := al_obj r2z
    obtain ⟨wmoz, warz, hwaz⟩ := al_obj r3z
    refine V_iload_n C dX1_apply_4 rfl rfl ?_
    refine V_aload_n C dX1_apply_5 rfl rfl ?_
    refine V_ofIe (VR_V (As := []) (rest := [.int (nI k)]) C (ct_X4_many l G b M1 g o bs hO1 hok) ho1 rfl (lw_V q460 q461 q462 q55 q463) rfl nd_X4_many rfl (by decide) (by decide) dX1_apply_6 rfl ⟨by decide, by decide⟩ (Nat.le_of_ble_eq_true rfl)) ?_
    refine V_nicmp_ge (x := k) (y := oB bs 5) C 73 dX1_apply_9 (by decide) (by omega) (by omega) (fun k9 => ?_) (fun k9 => ?_)
    · have ek : k = oB bs 5 := by omega
      subst ek
      rw [show x1 = paF ln lo P bs from hx1.symm]
      refine V_sub ?_ (rest M1 f1 hf1 R1 hK1)
      repeat' (first | exact ls_e | refine ls_n ?_ | refine ls_s ?_ | refine ls_i ?_ ?_ | refine ls_v ?_ ?_)
    · refine V_aload_n C dX1_apply_12 rfl rfl ?_
      refine V_aload_n C dX1_apply_13 rfl rfl ?_
      refine V_iload_n C dX1_apply_14 rfl rfl ?_
      refine V_ofIe (VR_V (As := [.int (nI k)]) (rest := [.ref a]) C (ct_X4_before l G b M1 g o bs hO1 hok k (by omega)) ho1 rfl (lw_V q464 q465 q466 q55 q467) rfl nd_X4_before rfl (by decide) (by decide) dX1_apply_15 rfl ⟨by decide, by decide⟩ (Nat.le_of_ble_eq_true rfl)) ?_
      refine V_ofIe (VR_V (As := [.int (nI (oB bs (6 + k)))]) (rest := []) C (ct_X1_place l G b M1 g a ln lo P hi sh f1 ch nx wt A wo R1 (nI (oB bs (6 + k)))) r1z rfl (lw_V q200 q201 q202 q37 q203) rfl nd_X1_place rfl (by decide) (by decide) dX1_apply_18 rfl ⟨by decide, by decide⟩ (Nat.le_of_ble_eq_true rfl)) ?_
      rcases o18 : cplace ln lo (nI (oB bs (6 + k))) with _ | j18
      · have := hbf k (by omega); rw [o18] at this; cases this
      · have hj18 := (firstI_get o18).1
        refine V_top (y := nI j18) rfl ?_
        refine V_istore (L' := [some (.ref a), some (.ref o), some (.int x1), some (.int (nI k)), some (.int (nI j18))]) C dX1_apply_21 (by decide) rfl ?_
        refine V_iload C dX1_apply_23 rfl ?_
        refine V_if_lt C 67 dX1_apply_25 (by decide) (fun h => absurd h (nI_pos (n := j18) (by omega))) (fun _ => ?_)
        refine V_iload_n C dX1_apply_28 rfl rfl ?_
        refine V_iconst C 1 dX1_apply_29 (by decide) ?_
        refine V_iload C dX1_apply_30 rfl ?_
        refine V_ishl C dX1_apply_32 ?_
        refine V_aload_n C dX1_apply_33 rfl rfl ?_
        refine V_get (C0 := RX1) (T := TX1) (N := 3) (ci := 1) C 1 in_X1 rfl r1z (by decide) q117 (fun _ h9 => h9) rfl dX1_apply_34 ?_
        refine V_iload C dX1_apply_37 rfl ?_
        refine V_ofRe (VR_V (As := [.int (nI j18)]) (rest := [.int (1 <<< ((nI j18) &&& 31)), .int x1]) C (ct_J2_get l G b M1 (A 4 0) j18 (A 0 j18) (g, 4, 0) (g, 5, 0) _ r2z (lg_get (by omega)) (by rw [lg_len]; omega)) hlaz rfl (lw_V q208 q209 q210 q41 q211) rfl nd_J2_get rfl (by decide) (by decide) dX1_apply_39 rfl ⟨by decide, by decide⟩ (Nat.le_of_ble_eq_true rfl)) ?_
        have hit39 := r5z j18 (by omega)
        obtain ⟨sa39, si39, hop39, -⟩ := r6z j18 (by omega)
        have hob39 := rbz j18 (by omega)
        refine V_castS C hit39 rfl q222 dX1_apply_42 ?_
        refine V_getN (C0 := RX5) (T := TX5) (N := 8) (ci := 5) C 1 in_X5 rfl hit39 (by decide) ev479 (fun _ h9 => h9) rfl dX1_apply_45 ?_
        refine V_ior C dX1_apply_48 ?_
        refine V_ior C dX1_apply_49 ?_
        refine V_istore_n (L' := [some (.ref a), some (.ref o), some (.int (x1 ||| ((1 <<< ((nI j18) &&& 31)) ||| (P j18)))), some (.int (nI k)), some (.int (nI j18))]) C dX1_apply_50 rfl (by decide) rfl ?_
        refine V_aload_n C dX1_apply_51 rfl rfl ?_
        refine V_get (C0 := RX1) (T := TX1) (N := 3) (ci := 1) C 1 in_X1 rfl r1z (by decide) q117 (fun _ h9 => h9) rfl dX1_apply_52 ?_
        refine V_iload C dX1_apply_55 rfl ?_
        refine V_ofRe (VR_V (As := [.int (nI j18)]) (rest := []) C (ct_J2_get l G b M1 (A 4 0) j18 (A 0 j18) (g, 4, 0) (g, 5, 0) _ r2z (lg_get (by omega)) (by rw [lg_len]; omega)) hlaz rfl (lw_V q208 q209 q210 q41 q211) rfl nd_J2_get rfl (by decide) (by decide) dX1_apply_57 rfl ⟨by decide, by decide⟩ (Nat.le_of_ble_eq_true rfl)) ?_
        refine V_castS C hit39 rfl q222 dX1_apply_60 ?_
        refine V_iconst C 1 dX1_apply_63 (by decide) ?_
        refine V_M (V_putN (C0 := RX5) (T := TX5) (N := 8) (ci := 5) (fs' := [.ref (A 1 j18), .int (P j18), .int (nI j18), va_rf (nodeO lo A j18), va_rf ((hi j18).map (A 2)), .int (bI (sh j18)), .int 1, va_rf (nx j18)]) C 6 in_X5 tyX5 tyX5_ok nmX5 rfl hit39 (by decide) ev494 (fun _ h9 => h9) rfl rfl rfl rfl (Nat.le_of_ble_eq_true rfl) rfl dX1_apply_64) (fun M__11 eM__11 => ?_)
        have h__12 := mp_got eM__11
        have h__13 := mp_keep eM__11 r1z hit39 (by first | assumption | exact Ne.symm (by assumption) | (simp; done) | (simp; omega) | (intro h; simp at h; omega))
        have h__14 := mp_keep eM__11 hlaz hit39 (by first | assumption | exact Ne.symm (by assumption) | (simp; done) | (simp; omega) | (intro h; simp at h; omega))
        have h__15 := mp_keep eM__11 hwaz hit39 (by first | assumption | exact Ne.symm (by assumption) | (simp; done) | (simp; omega) | (intro h; simp at h; omega))
        have h__16 := mp_keep eM__11 ho1 hit39 (by first | assumption | exact Ne.symm (by assumption) | (simp; done) | (simp; omega) | (intro h; simp at h; omega))
        have h__17 := mp_keep eM__11 hop39 hit39 (by first | assumption | exact Ne.symm (by assumption) | (simp; done) | (simp; omega) | (intro h; simp at h; omega))
        refine V_iinc (v := (nI (k + 1))) (L' := [some (.ref a), some (.ref o), some (.int (x1 ||| ((1 <<< ((nI j18) &&& 31)) ||| (P j18)))), some (.int (nI (k + 1))), some (.int (nI j18))]) C dX1_apply_67 rfl (nI_1 _) (by decide) rfl ?_
        refine V_goto C 4 dX1_apply_70 (by decide) ?_
        obtain ⟨R2, K2⟩ := rep_up (M1 := M__11) R1 hj18 hi sh (fun j => if j = j18 then true else f1 j) ch nx (by rw [eM__11]; simp [bI]) (fun j hj => ⟨rfl, rfl, by simp [hj], rfl⟩) (fun _ _ => rfl) r9z (fun m hm => r11z j18 m hj18 hm)
        refine V_sub ?_ (ih (by omega) _ _ (by rw [iterI_s, ← hf1]; unfold foS; rw [o18]) R2 (hK1.tr K2))
        repeat' (first | exact ls_e | refine ls_n ?_ | refine ls_s ?_ | refine ls_i ?_ ?_ | refine ls_v ?_ ?_)
        rw [iterI_s, hx1]
        unfold paS
        rw [o18]
  refine V_iconst C 0 dX1_apply_0 (by decide) ?_
  refine V_istore_n (L' := [some (.ref a), some (.ref o), some (.int 0), none, none]) C dX1_apply_1 rfl (by decide) rfl ?_
  refine V_iconst C 0 dX1_apply_2 (by decide) ?_
  refine V_istore_n (L' := [some (.ref a), some (.ref o), some (.int 0), some (.int 0), none]) C dX1_apply_3 rfl (by decide) rfl ?_
  refine V_sub ?_ (loop 0 (Nat.zero_le _) M fo rfl hR Keep.rf)
  repeat' (first | exact ls_e | refine ls_n ?_ | refine ls_s ?_ | refine ls_i ?_ ?_ | refine ls_v ?_ ?_)
  all_goals rfl

