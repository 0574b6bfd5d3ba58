set_option maxRecDepth 100000
/-! THE COMPONENT, P: receive -/
theorem app_op {G : mp_G} {M : mp_M} {g o0 : Nat} {wo : List Nat} {wt : List (List Nat)} {ws : List Nat} (hl : wo.length = wt.length) (h : ∀ i, i < wt.length → OpAt G M g (wo.getD i 0) (wt.getD i [])) (ho : OpAt G M g o0 ws) : (wo ++ [o0]).length = (wt ++ [ws]).length ∧ ∀ i, i < (wt ++ [ws]).length → OpAt G M g ((wo ++ [o0]).getD i 0) ((wt ++ [ws]).getD i []) := by
  refine ⟨by rw [List.length_append, List.length_append, hl]; rfl, fun i hi2 => ?_⟩
  rw [List.length_append, List.length_singleton] at hi2
  rw [List.getD_eq_getElem?_getD, List.getD_eq_getElem?_getD]
  by_cases z : i = wt.length
  · rw [List.getElem?_append_right (by omega), List.getElem?_append_right (by omega), z, hl, Nat.sub_self]
    exact ho
  · rw [List.getElem?_append_left (by omega), List.getElem?_append_left (by omega), ← List.getD_eq_getElem?_getD, ← List.getD_eq_getElem?_getD]
    exact h i (by omega)
theorem str_up {G : mp_G} {M M1 : mp_M} {g a sa i : Nat} {bs : List Nat} {x : mp_L × va_E} {z : va_E} (h : StrAt G M g sa bs) (e : M1 = mp_up M a x) (ha : M a = some ((g, 12, i), z)) : StrAt G M1 g sa bs := by
  obtain ⟨va, f, h1, z1, i1, j1, g1, g2, g3, g4⟩ := h
  exact ⟨va, f, h1, z1, i1, j1, mp_keep e g1 ha (by simp), mp_keep e g2 ha (by simp), g3, g4⟩
/-- what receive answers when it takes nothing -/
def crcE (ws : List Nat) (r ln : Nat) (lo : Nat → List Nat) (wt : List (List Nat)) : Option Int32 :=
  if wfB ws.length (oB ws) = false then some (-2) else match cheldB ln lo wt (nI (oB ws 0)) with
  | some bs => some (if ws = bs then -8 else -3)
  | none => if oB ws 0 % 4 = r then some (-4) else if saysB ws.length (oB ws) (nI (oB ws 2)) = false then some (-5) else if oB ws 1 = 3 ∧ saysB ws.length (oB ws) (nI (oB ws 3)) = false then some (-5) else if 6 < ws.length ∧ oB ws 0 ≤ oB ws (ws.length - 1) then some (-6) else if 16 ≤ ln + wt.length then some (-7) else none
theorem nI_sub1 {a : Nat} (h : 1 ≤ a) : nI a - 1 = nI (a - 1) := by
  have e := nI_1 (a - 1)
  rw [show a - 1 + 1 = a by omega] at e
  rw [← e, Int32.add_sub_cancel]
theorem crc_4 {ws : List Nat} {r ln : Nat} {lo : Nat → List Nat} {wt : List (List Nat)} (hwf : wfB ws.length (oB ws) = true) (h1 : cheldB ln lo wt (nI (oB ws 0)) = none) (c1 : oB ws 0 % 4 = r) : crcE ws r ln lo wt = some (-4) := by
  unfold crcE; rw [if_neg (bne hwf), h1]; dsimp only; rw [if_pos c1]
theorem crc_5a {ws : List Nat} {r ln : Nat} {lo : Nat → List Nat} {wt : List (List Nat)} (hwf : wfB ws.length (oB ws) = true) (h1 : cheldB ln lo wt (nI (oB ws 0)) = none) (c1 : ¬ oB ws 0 % 4 = r) (c2 : saysB ws.length (oB ws) (nI (oB ws 2)) = false) : crcE ws r ln lo wt = some (-5) := by
  unfold crcE; rw [if_neg (bne hwf), h1]; dsimp only; rw [if_neg c1, if_pos c2]
theorem crc_5b {ws : List Nat} {r ln : Nat} {lo : Nat → List Nat} {wt : List (List Nat)} (hwf : wfB ws.length (oB ws) = true) (h1 : cheldB ln lo wt (nI (oB ws 0)) = none) (c1 : ¬ oB ws 0 % 4 = r) (c2 : saysB ws.length (oB ws) (nI (oB ws 2)) = true) (c3 : oB ws 1 = 3) (c4 : saysB ws.length (oB ws) (nI (oB ws 3)) = false) : crcE ws r ln lo wt = some (-5) := by
  unfold crcE; rw [if_neg (bne hwf), h1]; dsimp only; rw [if_neg c1, if_neg (bne c2), if_pos ⟨c3, c4⟩]
theorem crc_6 {ws : List Nat} {r ln : Nat} {lo : Nat → List Nat} {wt : List (List Nat)} (hwf : wfB ws.length (oB ws) = true) (h1 : cheldB ln lo wt (nI (oB ws 0)) = none) (c1 : ¬ oB ws 0 % 4 = r) (c2 : saysB ws.length (oB ws) (nI (oB ws 2)) = true) (c3 : ¬ oB ws 1 = 3 ∨ saysB ws.length (oB ws) (nI (oB ws 3)) = true) (c4 : 6 < ws.length ∧ oB ws 0 ≤ oB ws (ws.length - 1)) : crcE ws r ln lo wt = some (-6) := by
  unfold crcE; rw [if_neg (bne hwf), h1]; dsimp only; rw [if_neg c1, if_neg (bne c2), if_neg (fun z => c3.elim (fun w => w z.1) (fun w => by rw [z.2] at w; cases w)), if_pos c4]
theorem crc_7 {ws : List Nat} {r ln : Nat} {lo : Nat → List Nat} {wt : List (List Nat)} (hwf : wfB ws.length (oB ws) = true) (h1 : cheldB ln lo wt (nI (oB ws 0)) = none) (c1 : ¬ oB ws 0 % 4 = r) (c2 : saysB ws.length (oB ws) (nI (oB ws 2)) = true) (c3 : ¬ oB ws 1 = 3 ∨ saysB ws.length (oB ws) (nI (oB ws 3)) = true) (c4 : ¬ (6 < ws.length ∧ oB ws 0 ≤ oB ws (ws.length - 1))) (c5 : 16 ≤ ln + wt.length) : crcE ws r ln lo wt = some (-7) := by
  unfold crcE; rw [if_neg (bne hwf), h1]; dsimp only; rw [if_neg c1, if_neg (bne c2), if_neg (fun z => c3.elim (fun w => w z.1) (fun w => by rw [z.2] at w; cases w)), if_neg c4, if_pos c5]
theorem crc_0 {ws : List Nat} {r ln : Nat} {lo : Nat → List Nat} {wt : List (List Nat)} (hwf : wfB ws.length (oB ws) = true) (h1 : cheldB ln lo wt (nI (oB ws 0)) = none) (c1 : ¬ oB ws 0 % 4 = r) (c2 : saysB ws.length (oB ws) (nI (oB ws 2)) = true) (c3 : ¬ oB ws 1 = 3 ∨ saysB ws.length (oB ws) (nI (oB ws 3)) = true) (c4 : ¬ (6 < ws.length ∧ oB ws 0 ≤ oB ws (ws.length - 1))) (c5 : ¬ 16 ≤ ln + wt.length) : crcE ws r ln lo wt = none := by
  unfold crcE; rw [if_neg (bne hwf), h1]; dsimp only; rw [if_neg c1, if_neg (bne c2), if_neg (fun z => c3.elim (fun w => w z.1) (fun w => by rw [z.2] at w; cases w)), if_neg c4, if_neg c5]
/-- the replica after settle -/
def SetP (G : mp_G) (M M1 : mp_M) (g a : Nat) (x : cs_) : Prop := ∃ P' hi' sh' fo' ch' nx' A' wo', RepAt G M1 g a x.1 x.2.1 P' hi' sh' fo' ch' nx' x.2.2 A' wo' ∧ RInv x.1 x.2.1 P' hi' sh' fo' ch' ∧ Keep (MutG g) M M1
def CrcP (G : mp_G) (M : mp_M) (g a r ln : Nat) (lo : Nat → List Nat) (wt : List (List Nat)) (ws : List Nat) (y : Int32) (M1 : mp_M) : Prop := match crcE ws r ln lo wt with
  | some v => y = v ∧ M1 = M
  | none => y = nI ((csA (ln, lo, wt ++ [ws])).1 - ln) ∧ SetP G M M1 g a (csA (ln, lo, wt ++ [ws]))
theorem crc_some {G : mp_G} {M : mp_M} {g a r ln : Nat} {lo : Nat → List Nat} {wt : List (List Nat)} {ws : List Nat} {y : Int32} (h : crcE ws r ln lo wt = some y) : CrcP G M g a r ln lo wt ws y M := by
  unfold CrcP
  rw [h]
  exact ⟨rfl, rfl⟩
theorem ct_X0_receive (l : Launch) (G : mp_G) (b : Nat) (M : mp_M) (dx ra wa da : Nat) (rp : Nat → Nat) (hD : DocAt G M dx ra wa da rp) (g a ln : Nat) (lo : Nat → List Nat) (P : Nat → Int32) (hi : Nat → Option Nat) (sh fo : Nat → Bool) (ch : Nat → Nat → List Nat) (nx : Nat → Option Nat) (wt : List (List Nat)) (A : Nat → Nat → Nat) (wo : List Nat) (hR : RepAt G M g a ln lo P hi sh fo ch nx wt A wo) (r : Nat) (hr : r ≤ 2) (hrp : rp r = a) (ws : List Nat) (cap : Nat) (hW : SbAt G M 1 wa ws cap) (hcap : 16 ≤ cap) (hw16 : ws.length ≤ 16) (hg : g ≠ 1) (hI : RInv ln lo P hi sh fo ch) (hWn : crcE ws r ln lo wt = none → WtOk ln lo (wt ++ [ws])) : Ct l yX0_receive cX0_receive 5 (some .int) 12 90 2300 G b ([.ref dx, .int (nI r)] : List Value) M (pI (CrcP G M g a r ln lo wt ws)) := by
  have hW0 := hW
  obtain ⟨wv, wf, wmb, hwa, hwv, hwl, hwc, hwt, hwF⟩ := hW
  have hwb : ∀ i, oB ws i < 256 := fun i => by
    rcases Nat.lt_or_ge i ws.length with z | z
    · exact (hwt i _ (oB_get z)).1
    · unfold oB; rw [List.getD_eq_getElem?_getD, List.getElem?_eq_none z]; decide
  have w0 := hwb 0
  have w1 := hwb 1
  have w2 := hwb 2
  have w3 := hwb 3
  have wL := hwb (ws.length - 1)
  refine Ct.ofV (by decide) (vc_ref (vc_int vc_nil)) (Nat.le_of_ble_eq_true rfl) ?_
  intro p e s m below meth c C hnm
  refine V_L (L1 := [some (.ref dx), some (.int (nI r)), none, none, none]) rfl ?_
  obtain ⟨r1e, r2e, r3e, r4e, r5e, r6e, r7e, r8e, r9e, r10e, r11e⟩ := id hR
  have rbe := r10e.2.2.1
  have rlne := r10e.1
  have rwle := r10e.2.1
  have rwoe := r4e.1
  obtain ⟨lmoe, lare, hlae⟩ := al_obj r2e
  obtain ⟨wmoe, ware, hwae⟩ := al_obj r3e
  have fin : crcE ws r ln lo wt = none → wfB ws.length (oB ws) = true → V p l e (rmOf 12 90 2300) s m ([.ref dx, .int (nI r)] : List Value).toArray below meth c (MQ below (Qp G b (pI (CrcP G M g a r ln lo wt ws))) ([.ref dx, .int (nI r)] : List Value).toArray s 90 2300 (fun q => b ≤ q)) G b 5 0 0 168 [some (.ref dx), some (.int (nI r)), some (.ref a), none, none] [] M := by
    intro hn hwf
    have hWk := hWn hn
    have h12 := wfB_pre hwf
    have hwl16 : wt.length < 16 := by have := hWk.2.2.2; rw [List.length_append, List.length_singleton] at this; omega
    refine V_aload_n C dX0_receive_168 rfl rfl ?_
    refine V_getN (C0 := RX1) (T := TX1) (N := 3) (ci := 1) C 2 in_X1 rfl r1e (by decide) ev120 (fun _ h9 => h9) rfl dX0_receive_169 ?_
    refine V_new (C0 := RX4) (T := TX4) (N := 1) (ci := 4) (fs := [.null]) C (g, 12, 0) in_X4 tyX4 tyX4_ok q393 q394 q55 rfl (fun j hj => by rcases (show j = 0 by omega) with rfl <;> rfl) (by first | decide | omega | (dsimp only [rmOf]; omega)) (by first | decide | omega | (dsimp only [rmOf]; omega)) dX0_receive_172 (fun o0 ho0 => V_N (fun M2 e2 => ?_))
    have h__1 := mp_keepN e2 r1e ho0
    have h__2 := mp_keepN e2 hlae ho0
    have h__3 := mp_keepN e2 hwae ho0
    have h__4 := mp_keepN e2 hD.1 ho0
    have h__5 := mp_keepN e2 hwa ho0
    have h__6 := mp_got e2
    have hE2 := Ext.new e2 ho0
    have hW2 : SbAt G M2 1 wa ws cap := hW0.keep (hE2.keep (S := fun _ => False)) (fun _ _ => id)
    have hd2 := hE2 _ _ hD.1
    have hwa2 := hE2 _ _ hwa
    refine V_dup C dX0_receive_175 rfl ?_
    refine V_aload_n C dX0_receive_176 rfl rfl ?_
    refine V_get (C0 := RX0) (T := TX0) (N := 3) (ci := 0) C 1 in_X0 rfl hd2 (by decide) q162 (fun _ h9 => h9) rfl dX0_receive_177 ?_
    refine V_ofR (VR_V (As := []) (rest := [.ref o0, .ref o0, .ref (A 4 1)]) C (ct_J4_toString l G b M2 1 g wa cap ws hW2 hg (by omega) (by omega)) hwa2 rfl (lw_V q395 q396 q397 q43 q398) rfl nd_J4_toString rfl (by decide) (by decide) dX0_receive_180 rfl ⟨by decide, by decide⟩ (Nat.le_of_ble_eq_true rfl)) (fun y3 M3 hM3 => ?_)
    obtain ⟨sa, rfl, hsan, hS3, hE3⟩ := hM3
    refine V_st (st1 := [.ref sa, .ref o0, .ref o0, .ref (A 4 1)]) rfl ?_
    refine V_ofV (VR_IN (As := [.ref sa]) (rest := [.ref o0, .ref (A 4 1)]) C (ct_X4_init l G b M3 g o0 sa 0 (hE3 _ _ (mp_got e2))) (lw_meth q447) q55 ev445 q446 rfl nd_X4_init rfl (by decide) (by decide) dX0_receive_183 rfl ⟨by decide, by decide⟩ (Nat.le_of_ble_eq_true rfl)) (fun M4 e4 => ?_)
    have hE4 : Ext M M4 := (hE2.tr hE3).ofB ho0 (ExtB.up e4)
    have hne : sa ≠ o0 := fun z => by rw [z, mp_got e2] at hsan; cases hsan
    have hO4 : OpAt G M4 g o0 ws := ⟨sa, 0, mp_got e4, str_up hS3 e4 (hE3 _ _ (mp_got e2))⟩
    have R4 := hR.ext hE4
    obtain ⟨r1f, r2f, r3f, r4f, r5f, r6f, r7f, r8f, r9f, r10f, r11f⟩ := id R4
    have rbf := r10f.2.2.1
    have rlnf := r10f.1
    have rwlf := r10f.2.1
    have rwof := r4f.1
    obtain ⟨lmof, larf, hlaf⟩ := al_obj r2f
    obtain ⟨wmof, warf, hwaf⟩ := al_obj r3f
    have hobj : ∀ x ∈ wo, isObj M4 x := by
      intro x hx9
      obtain ⟨j, hj⟩ := List.getElem?_of_mem hx9
      have hjl := (List.getElem?_eq_some_iff.mp hj).1
      rw [wo_get hjl] at hj
      cases hj
      obtain ⟨sa9, si9, hsa9, -⟩ := r4f.2 j (by omega)
      exact ⟨_, _, _, _, hsa9, rfl, ev1054⟩
    refine V_ofI (VR_V (As := [.ref o0]) (rest := []) C (ct_J2_add l G b M4 (A 4 1) o0 (g, 6, 0) (g, 7, 0) (by simp) wo r3f hobj ⟨_, _, _, _, mp_got e4, rfl, ev1054⟩ (fun la z hz => by rw [mp_got e4] at hz; cases hz; exact ⟨by simp, by simp⟩) (by omega)) hwaf rfl (lw_V q717 q538 q539 q41 q540) rfl nd_J2_add rfl (by decide) (by decide) dX0_receive_186 rfl ⟨by decide, by decide⟩ (Nat.le_of_ble_eq_true rfl)) (fun y5 M5 hM5 => ?_)
    obtain ⟨-, hal5, hK5⟩ := hM5
    have R5 : RepAt G M5 g a ln lo P hi sh fo ch nx (wt ++ [ws]) A (wo ++ [o0]) := rep_wt R4 hK5 hal5 (app_op rwof (fun i hi9 => (r4f.2 i hi9).keep hK5 (fun kd i h10 z => by simp at z; omega)) (hO4.keep hK5 (fun kd i h10 z => by simp at z; omega))) (by rw [List.length_append, List.length_singleton]; omega) (fun bs hb => (hWk.1 bs hb).1)
    refine V_pop C dX0_receive_189 rfl ?_
    refine V_aload_n C dX0_receive_190 rfl rfl ?_
    refine V_ofI (VR_V (As := []) (rest := []) C (ct_X1_settle l G b M5 g a ln lo P hi sh fo ch nx (wt ++ [ws]) A (wo ++ [o0]) R5 hI hWk) R5.1 rfl (lw_V q597 q598 q599 q37 q600) rfl nd_X1_settle rfl (by decide) (by decide) dX0_receive_191 rfl ⟨by decide, by decide⟩ (Nat.le_of_ble_eq_true rfl)) (fun y6 M6 hM6 => ?_)
    obtain ⟨P6, hi6, sh6, fo6, ch6, nx6, A6, wo6, R6, I6, hy6, hK6⟩ := hM6
    exact V_iret C dX0_receive_194 (by decide) (by decide) ⟨_, rfl, by unfold CrcP; rw [hn]; exact ⟨hy6, P6, hi6, sh6, fo6, ch6, nx6, A6, wo6, R6, I6, (hE4.keep).tr ((hK5.mono (fun la z => by rcases z with z | z <;> (rw [z]; exact ⟨rfl, by simp⟩))).tr hK6)⟩⟩
  cases hwf : wfB ws.length (oB ws) with
  | false =>
    refine V_aload_n C dX0_receive_0 rfl rfl ?_
    refine V_iload_n C dX0_receive_1 rfl rfl ?_
    refine V_ofRe (VR_V (As := [.int (nI r)]) (rest := []) C (ct_X0_replica l G b M dx ra wa da rp hD r a hr hrp) hD.1 rfl (lw_V q175 q177 qs0 q36 q178) rfl nd_X0_replica rfl (by decide) (by decide) dX0_receive_2 rfl ⟨by decide, by decide⟩ (Nat.le_of_ble_eq_true rfl)) ?_
    refine V_astore_n (L' := [some (.ref dx), some (.int (nI r)), some (.ref a), none, none]) C dX0_receive_5 rfl (by decide) rfl ?_
    refine V_aload_n C dX0_receive_6 rfl rfl ?_
    refine V_ifnonnull_R C 12 dX0_receive_7 (by decide) ?_
    refine V_aload_n C dX0_receive_12 rfl rfl ?_
    refine V_get (C0 := RX0) (T := TX0) (N := 3) (ci := 0) C 1 in_X0 rfl hD.1 (by decide) q162 (fun _ h9 => h9) rfl dX0_receive_13 ?_
    refine V_ofIe (VR_S (As := [.ref wa]) (rest := []) C (ct_X0_wellFormed l G b M wa ws cap hW0 hw16) (lw_S q703 q704 q36 q705) nd_X0_wellFormed rfl (by decide) (by decide) dX0_receive_16 rfl ⟨by decide, by decide⟩ (Nat.le_of_ble_eq_true rfl)) ?_
    refine V_ifb_ne C 25 dX0_receive_19 (by decide) (fun k19 => ?_) (fun k19 => ?_)
    · rw [hwf] at k19
      cases k19
    · refine V_bipush C (-2) dX0_receive_22 (by decide) ?_
      exact V_iret C dX0_receive_24 (by decide) (by decide) ⟨_, rfl, crc_some (by unfold crcE; rw [if_pos hwf])⟩
  | true =>
    have h12 := wfB_pre hwf
    have body : (6 ≤ ws.length ∧ oB ws 5 ≤ 6 ∧ ws.length = 6 + oB ws 5) → V p l e (rmOf 12 90 2300) s m ([.ref dx, .int (nI r)] : List Value).toArray below meth c (MQ below (Qp G b (pI (CrcP G M g a r ln lo wt ws))) ([.ref dx, .int (nI r)] : List Value).toArray s 90 2300 (fun q => b ≤ q)) G b 5 0 0 25 [some (.ref dx), some (.int (nI r)), some (.ref a), none, none] [] M := by
      intro h12
      refine V_aload_n C dX0_receive_25 rfl rfl ?_
      refine V_get (C0 := RX0) (T := TX0) (N := 3) (ci := 0) C 1 in_X0 rfl hD.1 (by decide) q162 (fun _ h9 => h9) rfl dX0_receive_26 ?_
      refine V_iconst C 0 dX0_receive_29 (by decide) ?_
      refine V_ofIe (VR_V (As := [.int 0]) (rest := []) C (ct_J4_charAt l G b M 1 wa 0 (oB ws 0) cap ws hW0 (oB_get (by omega))) hwa rfl (lw_V q682 q683 q684 q43 q685) rfl nd_J4_charAt rfl (by decide) (by decide) dX0_receive_30 rfl ⟨by decide, by decide⟩ (Nat.le_of_ble_eq_true rfl)) ?_
      refine V_istore_n (L' := [some (.ref dx), some (.int (nI r)), some (.ref a), some (.int (nI (oB ws 0))), none]) C dX0_receive_33 rfl (by decide) rfl ?_
      refine V_aload_n C dX0_receive_34 rfl rfl ?_
      refine V_iload_n C dX0_receive_35 rfl rfl ?_
      refine V_ofR (VR_V (As := [.int (nI (oB ws 0))]) (rest := []) C (ct_X1_held l G b M g a ln lo P hi sh fo ch nx wt A wo hR (nI (oB ws 0))) r1e rfl (lw_V q624 q625 q626 q37 q627) rfl nd_X1_held rfl (by decide) (by decide) dX0_receive_36 rfl ⟨by decide, by decide⟩ (Nat.le_of_ble_eq_true rfl)) (fun y M1 hM1 => ?_)
      obtain ⟨hM1, rfl⟩ := hM1
      obtain ⟨r1h, r2h, r3h, r4h, r5h, r6h, r7h, r8h, r9h, r10h, r11h⟩ := id hR
      have rbh := r10h.2.2.1
      have rlnh := r10h.1
      have rwlh := r10h.2.1
      have rwoh := r4h.1
      obtain ⟨lmoh, larh, hlah⟩ := al_obj r2h
      obtain ⟨wmoh, warh, hwah⟩ := al_obj r3h
      rcases hM1 with ⟨h1, rfl⟩ | ⟨bs, q, h1, rfl, hq, hok⟩
      · refine V_st (st1 := [.null]) rfl ?_
        refine V_astoreq (o := none) (L' := [some (.ref dx), some (.int (nI r)), some (.ref a), some (.int (nI (oB ws 0))), some (.null)]) C dX0_receive_39 (by decide) rfl ?_
        refine V_aloadq (o := none) C dX0_receive_41 rfl ?_
        refine V_ifnull_N C 66 dX0_receive_43 (by decide) ?_
        refine V_iload_n C dX0_receive_66 rfl rfl ?_
        refine V_iconst C 4 dX0_receive_67 (by decide) ?_
        refine V_irem C dX0_receive_68 (by decide) ?_
        refine V_top (y := (nI ((oB ws 0) % 4))) (pk_rem (a := oB ws 0) (d := 4) (by omega) (by decide) (by decide)) ?_
        refine V_iload_n C dX0_receive_69 rfl rfl ?_
        refine V_nicmp_ne (x := (oB ws 0) % 4) (y := r) C 76 dX0_receive_70 (by decide) (by omega) (by omega) (fun k70 => ?_) (fun k70 => ?_)
        · refine V_aload_n C dX0_receive_76 rfl rfl ?_
          refine V_aload_n C dX0_receive_77 rfl rfl ?_
          refine V_get (C0 := RX0) (T := TX0) (N := 3) (ci := 0) C 1 in_X0 rfl hD.1 (by decide) q162 (fun _ h9 => h9) rfl dX0_receive_78 ?_
          refine V_iconst C 2 dX0_receive_81 (by decide) ?_
          refine V_ofIe (VR_V (As := [.int 2]) (rest := [.ref dx]) C (ct_J4_charAt l G b M1 1 wa 2 (oB ws 2) cap ws hW0 (oB_get (by omega))) hwa rfl (lw_V q682 q683 q684 q43 q685) rfl nd_J4_charAt rfl (by decide) (by decide) dX0_receive_82 rfl ⟨by decide, by decide⟩ (Nat.le_of_ble_eq_true rfl)) ?_
          refine V_ofIe (VR_V (As := [.int (nI (oB ws 2))]) (rest := []) C (ct_X0_says l G b M1 dx ra wa da rp hD ws cap hW0 hw16 (by omega) (nI (oB ws 2))) hD.1 rfl (lw_V q713 q715 qs8 q36 q716) rfl nd_X0_says rfl (by decide) (by decide) dX0_receive_85 rfl ⟨by decide, by decide⟩ (Nat.le_of_ble_eq_true rfl)) ?_
          refine V_ifb_eq C 118 dX0_receive_88 (by decide) (fun k88 => ?_) (fun k88 => ?_)
          · refine V_bipush C (-5) dX0_receive_118 (by decide) ?_
            exact V_iret C dX0_receive_120 (by decide) (by decide) ⟨_, rfl, by first | exact crc_some (crc_5a hwf h1 k70 k88) | exact crc_some (crc_5b hwf h1 k70 k88 k100 k115)⟩
          · refine V_aload_n C dX0_receive_91 rfl rfl ?_
            refine V_get (C0 := RX0) (T := TX0) (N := 3) (ci := 0) C 1 in_X0 rfl hD.1 (by decide) q162 (fun _ h9 => h9) rfl dX0_receive_92 ?_
            refine V_iconst C 1 dX0_receive_95 (by decide) ?_
            refine V_ofIe (VR_V (As := [.int 1]) (rest := []) C (ct_J4_charAt l G b M1 1 wa 1 (oB ws 1) cap ws hW0 (oB_get (by omega))) hwa rfl (lw_V q682 q683 q684 q43 q685) rfl nd_J4_charAt rfl (by decide) (by decide) dX0_receive_96 rfl ⟨by decide, by decide⟩ (Nat.le_of_ble_eq_true rfl)) ?_
            refine V_iconst C 3 dX0_receive_99 (by decide) ?_
            refine V_nicmp_ne (x := oB ws 1) (y := 3) C 121 dX0_receive_100 (by decide) (by omega) (by omega) (fun k100 => ?_) (fun k100 => ?_)
            · refine V_aload_n C dX0_receive_121 rfl rfl ?_
              refine V_get (C0 := RX0) (T := TX0) (N := 3) (ci := 0) C 1 in_X0 rfl hD.1 (by decide) q162 (fun _ h9 => h9) rfl dX0_receive_122 ?_
              refine V_ofIe (VR_V (As := []) (rest := []) C (ct_J4_length l G b M1 1 wa cap ws hW0) hwa rfl (lw_V q378 q379 q380 q43 q381) rfl nd_J4_length rfl (by decide) (by decide) dX0_receive_125 rfl ⟨by decide, by decide⟩ (Nat.le_of_ble_eq_true rfl)) ?_
              refine V_bipush C 6 dX0_receive_128 (by decide) ?_
              refine V_nicmp_le (x := ws.length) (y := 6) C 156 dX0_receive_130 (by decide) (by omega) (by omega) (fun k130 => ?_) (fun k130 => ?_)
              · refine V_aload_n C dX0_receive_156 rfl rfl ?_
                refine V_ofIe (VR_V (As := []) (rest := []) C (ct_X1_size l G b M1 g a ln lo P hi sh fo ch nx wt A wo hR) r1h rfl (lw_V q280 q281 q282 q37 q283) rfl nd_X1_size rfl (by decide) (by decide) dX0_receive_157 rfl ⟨by decide, by decide⟩ (Nat.le_of_ble_eq_true rfl)) ?_
                refine V_bipush C 16 dX0_receive_160 (by decide) ?_
                refine V_nicmp_lt (x := ln + wt.length) (y := 16) C 168 dX0_receive_162 (by decide) (by omega) (by omega) (fun k162 => ?_) (fun k162 => ?_)
                · refine V_sub ?_ (fin (by refine crc_0 hwf h1 k70 k88 ?_ ?_ ?_; (first | exact Or.inl k100 | exact Or.inr k115); omega; omega) hwf)
                  repeat' (first | exact ls_e | refine ls_n ?_ | refine ls_s ?_ | refine ls_i ?_ ?_ | refine ls_v ?_ ?_)
                · refine V_bipush C (-7) dX0_receive_165 (by decide) ?_
                  exact V_iret C dX0_receive_167 (by decide) (by decide) ⟨_, rfl, by refine crc_some (crc_7 hwf h1 k70 k88 ?_ ?_ ?_); (first | exact Or.inl k100 | exact Or.inr k115); omega; omega⟩
              · refine V_aload_n C dX0_receive_133 rfl rfl ?_
                refine V_get (C0 := RX0) (T := TX0) (N := 3) (ci := 0) C 1 in_X0 rfl hD.1 (by decide) q162 (fun _ h9 => h9) rfl dX0_receive_134 ?_
                refine V_aload_n C dX0_receive_137 rfl rfl ?_
                refine V_get (C0 := RX0) (T := TX0) (N := 3) (ci := 0) C 1 in_X0 rfl hD.1 (by decide) q162 (fun _ h9 => h9) rfl dX0_receive_138 ?_
                refine V_ofIe (VR_V (As := []) (rest := [.ref wa]) C (ct_J4_length l G b M1 1 wa cap ws hW0) hwa rfl (lw_V q378 q379 q380 q43 q381) rfl nd_J4_length rfl (by decide) (by decide) dX0_receive_141 rfl ⟨by decide, by decide⟩ (Nat.le_of_ble_eq_true rfl)) ?_
                refine V_iconst C 1 dX0_receive_144 (by decide) ?_
                refine V_isub C dX0_receive_145 ?_
                refine V_top (y := (nI (ws.length - 1))) (nI_sub1 (by omega)) ?_
                refine V_ofIe (VR_V (As := [.int (nI (ws.length - 1))]) (rest := []) C (ct_J4_charAt l G b M1 1 wa (ws.length - 1) (oB ws (ws.length - 1)) cap ws hW0 (oB_get (by omega))) hwa rfl (lw_V q682 q683 q684 q43 q685) rfl nd_J4_charAt rfl (by decide) (by decide) dX0_receive_146 rfl ⟨by decide, by decide⟩ (Nat.le_of_ble_eq_true rfl)) ?_
                refine V_iload_n C dX0_receive_149 rfl rfl ?_
                refine V_nicmp_lt (x := oB ws (ws.length - 1)) (y := oB ws 0) C 156 dX0_receive_150 (by decide) (by omega) (by omega) (fun k150 => ?_) (fun k150 => ?_)
                · refine V_aload_n C dX0_receive_156 rfl rfl ?_
                  refine V_ofIe (VR_V (As := []) (rest := []) C (ct_X1_size l G b M1 g a ln lo P hi sh fo ch nx wt A wo hR) r1h rfl (lw_V q280 q281 q282 q37 q283) rfl nd_X1_size rfl (by decide) (by decide) dX0_receive_157 rfl ⟨by decide, by decide⟩ (Nat.le_of_ble_eq_true rfl)) ?_
                  refine V_bipush C 16 dX0_receive_160 (by decide) ?_
                  refine V_nicmp_lt (x := ln + wt.length) (y := 16) C 168 dX0_receive_162 (by decide) (by omega) (by omega) (fun k162 => ?_) (fun k162 => ?_)
                  · refine V_sub ?_ (fin (by refine crc_0 hwf h1 k70 k88 ?_ ?_ ?_; (first | exact Or.inl k100 | exact Or.inr k115); omega; omega) hwf)
                    repeat' (first | exact ls_e | refine ls_n ?_ | refine ls_s ?_ | refine ls_i ?_ ?_ | refine ls_v ?_ ?_)
                  · refine V_bipush C (-7) dX0_receive_165 (by decide) ?_
                    exact V_iret C dX0_receive_167 (by decide) (by decide) ⟨_, rfl, by refine crc_some (crc_7 hwf h1 k70 k88 ?_ ?_ ?_); (first | exact Or.inl k100 | exact Or.inr k115); omega; omega⟩
                · refine V_bipush C (-6) dX0_receive_153 (by decide) ?_
                  exact V_iret C dX0_receive_155 (by decide) (by decide) ⟨_, rfl, by refine crc_some (crc_6 hwf h1 k70 k88 ?_ ?_); (first | exact Or.inl k100 | exact Or.inr k115); omega⟩
            · refine V_aload_n C dX0_receive_103 rfl rfl ?_
              refine V_aload_n C dX0_receive_104 rfl rfl ?_
              refine V_get (C0 := RX0) (T := TX0) (N := 3) (ci := 0) C 1 in_X0 rfl hD.1 (by decide) q162 (fun _ h9 => h9) rfl dX0_receive_105 ?_
              refine V_iconst C 3 dX0_receive_108 (by decide) ?_
              refine V_ofIe (VR_V (As := [.int 3]) (rest := [.ref dx]) C (ct_J4_charAt l G b M1 1 wa 3 (oB ws 3) cap ws hW0 (oB_get (by omega))) hwa rfl (lw_V q682 q683 q684 q43 q685) rfl nd_J4_charAt rfl (by decide) (by decide) dX0_receive_109 rfl ⟨by decide, by decide⟩ (Nat.le_of_ble_eq_true rfl)) ?_
              refine V_ofIe (VR_V (As := [.int (nI (oB ws 3))]) (rest := []) C (ct_X0_says l G b M1 dx ra wa da rp hD ws cap hW0 hw16 (by omega) (nI (oB ws 3))) hD.1 rfl (lw_V q713 q715 qs8 q36 q716) rfl nd_X0_says rfl (by decide) (by decide) dX0_receive_112 rfl ⟨by decide, by decide⟩ (Nat.le_of_ble_eq_true rfl)) ?_
              refine V_ifb_ne C 121 dX0_receive_115 (by decide) (fun k115 => ?_) (fun k115 => ?_)
              · refine V_aload_n C dX0_receive_121 rfl rfl ?_
                refine V_get (C0 := RX0) (T := TX0) (N := 3) (ci := 0) C 1 in_X0 rfl hD.1 (by decide) q162 (fun _ h9 => h9) rfl dX0_receive_122 ?_
                refine V_ofIe (VR_V (As := []) (rest := []) C (ct_J4_length l G b M1 1 wa cap ws hW0) hwa rfl (lw_V q378 q379 q380 q43 q381) rfl nd_J4_length rfl (by decide) (by decide) dX0_receive_125 rfl ⟨by decide, by decide⟩ (Nat.le_of_ble_eq_true rfl)) ?_
                refine V_bipush C 6 dX0_receive_128 (by decide) ?_
                refine V_nicmp_le (x := ws.length) (y := 6) C 156 dX0_receive_130 (by decide) (by omega) (by omega) (fun k130 => ?_) (fun k130 => ?_)
                · refine V_aload_n C dX0_receive_156 rfl rfl ?_
                  refine V_ofIe (VR_V (As := []) (rest := []) C (ct_X1_size l G b M1 g a ln lo P hi sh fo ch nx wt A wo hR) r1h rfl (lw_V q280 q281 q282 q37 q283) rfl nd_X1_size rfl (by decide) (by decide) dX0_receive_157 rfl ⟨by decide, by decide⟩ (Nat.le_of_ble_eq_true rfl)) ?_
                  refine V_bipush C 16 dX0_receive_160 (by decide) ?_
                  refine V_nicmp_lt (x := ln + wt.length) (y := 16) C 168 dX0_receive_162 (by decide) (by omega) (by omega) (fun k162 => ?_) (fun k162 => ?_)
                  · refine V_sub ?_ (fin (by refine crc_0 hwf h1 k70 k88 ?_ ?_ ?_; (first | exact Or.inl k100 | exact Or.inr k115); omega; omega) hwf)
                    repeat' (first | exact ls_e | refine ls_n ?_ | refine ls_s ?_ | refine ls_i ?_ ?_ | refine ls_v ?_ ?_)
                  · refine V_bipush C (-7) dX0_receive_165 (by decide) ?_
                    exact V_iret C dX0_receive_167 (by decide) (by decide) ⟨_, rfl, by refine crc_some (crc_7 hwf h1 k70 k88 ?_ ?_ ?_); (first | exact Or.inl k100 | exact Or.inr k115); omega; omega⟩
                · refine V_aload_n C dX0_receive_133 rfl rfl ?_
                  refine V_get (C0 := RX0) (T := TX0) (N := 3) (ci := 0) C 1 in_X0 rfl hD.1 (by decide) q162 (fun _ h9 => h9) rfl dX0_receive_134 ?_
                  refine V_aload_n C dX0_receive_137 rfl rfl ?_
                  refine V_get (C0 := RX0) (T := TX0) (N := 3) (ci := 0) C 1 in_X0 rfl hD.1 (by decide) q162 (fun _ h9 => h9) rfl dX0_receive_138 ?_
                  refine V_ofIe (VR_V (As := []) (rest := [.ref wa]) C (ct_J4_length l G b M1 1 wa cap ws hW0) hwa rfl (lw_V q378 q379 q380 q43 q381) rfl nd_J4_length rfl (by decide) (by decide) dX0_receive_141 rfl ⟨by decide, by decide⟩ (Nat.le_of_ble_eq_true rfl)) ?_
                  refine V_iconst C 1 dX0_receive_144 (by decide) ?_
                  refine V_isub C dX0_receive_145 ?_
                  refine V_top (y := (nI (ws.length - 1))) (nI_sub1 (by omega)) ?_
                  refine V_ofIe (VR_V (As := [.int (nI (ws.length - 1))]) (rest := []) C (ct_J4_charAt l G b M1 1 wa (ws.length - 1) (oB ws (ws.length - 1)) cap ws hW0 (oB_get (by omega))) hwa rfl (lw_V q682 q683 q684 q43 q685) rfl nd_J4_charAt rfl (by decide) (by decide) dX0_receive_146 rfl ⟨by decide, by decide⟩ (Nat.le_of_ble_eq_true rfl)) ?_
                  refine V_iload_n C dX0_receive_149 rfl rfl ?_
                  refine V_nicmp_lt (x := oB ws (ws.length - 1)) (y := oB ws 0) C 156 dX0_receive_150 (by decide) (by omega) (by omega) (fun k150 => ?_) (fun k150 => ?_)
                  · refine V_aload_n C dX0_receive_156 rfl rfl ?_
                    refine V_ofIe (VR_V (As := []) (rest := []) C (ct_X1_size l G b M1 g a ln lo P hi sh fo ch nx wt A wo hR) r1h rfl (lw_V q280 q281 q282 q37 q283) rfl nd_X1_size rfl (by decide) (by decide) dX0_receive_157 rfl ⟨by decide, by decide⟩ (Nat.le_of_ble_eq_true rfl)) ?_
                    refine V_bipush C 16 dX0_receive_160 (by decide) ?_
                    refine V_nicmp_lt (x := ln + wt.length) (y := 16) C 168 dX0_receive_162 (by decide) (by omega) (by omega) (fun k162 => ?_) (fun k162 => ?_)
                    · refine V_sub ?_ (fin (by refine crc_0 hwf h1 k70 k88 ?_ ?_ ?_; (first | exact Or.inl k100 | exact Or.inr k115); omega; omega) hwf)
                      repeat' (first | exact ls_e | refine ls_n ?_ | refine ls_s ?_ | refine ls_i ?_ ?_ | refine ls_v ?_ ?_)
                    · refine V_bipush C (-7) dX0_receive_165 (by decide) ?_
                      exact V_iret C dX0_receive_167 (by decide) (by decide) ⟨_, rfl, by refine crc_some (crc_7 hwf h1 k70 k88 ?_ ?_ ?_); (first | exact Or.inl k100 | exact Or.inr k115); omega; omega⟩
                  · refine V_bipush C (-6) dX0_receive_153 (by decide) ?_
                    exact V_iret C dX0_receive_155 (by decide) (by decide) ⟨_, rfl, by refine crc_some (crc_6 hwf h1 k70 k88 ?_ ?_); (first | exact Or.inl k100 | exact Or.inr k115); omega⟩
              · refine V_bipush C (-5) dX0_receive_118 (by decide) ?_
                exact V_iret C dX0_receive_120 (by decide) (by decide) ⟨_, rfl, by first | exact crc_some (crc_5a hwf h1 k70 k88) | exact crc_some (crc_5b hwf h1 k70 k88 k100 k115)⟩
        · refine V_bipush C (-4) dX0_receive_73 (by decide) ?_
          exact V_iret C dX0_receive_75 (by decide) (by decide) ⟨_, rfl, crc_some (crc_4 hwf h1 k70)⟩
      · skip
        refine V_st (st1 := [.ref q]) rfl ?_
        obtain ⟨qs, qi, hq1, hqs⟩ := id hq
        refine V_astore (L' := [some (.ref dx), some (.int (nI r)), some (.ref a), some (.int (nI (oB ws 0))), some (.ref q)]) C dX0_receive_39 (by decide) rfl ?_
        refine V_aload C dX0_receive_41 rfl ?_
        refine V_ifnull_R C dX0_receive_43 ?_
        refine V_aload C dX0_receive_46 rfl ?_
        refine V_aload_n C dX0_receive_48 rfl rfl ?_
        refine V_get (C0 := RX0) (T := TX0) (N := 3) (ci := 0) C 1 in_X0 rfl hD.1 (by decide) q162 (fun _ h9 => h9) rfl dX0_receive_49 ?_
        refine V_ofIe (VR_V (As := [.ref wa]) (rest := []) C (ct_X4_isOnWire l G b M1 g 1 q wa cap bs ws hq hok hW0) hq1 rfl (lw_V q706 q707 q708 q55 q709) rfl nd_X4_isOnWire rfl (by decide) (by decide) dX0_receive_52 rfl ⟨by decide, by decide⟩ (Nat.le_of_ble_eq_true rfl)) ?_
        refine V_ifb_eq C 63 dX0_receive_55 (by decide) (fun k55 => ?_) (fun k55 => ?_)
        · refine V_bipush C (-3) dX0_receive_63 (by decide) ?_
          exact V_iret C dX0_receive_65 (by decide) (by decide) ⟨_, rfl, crc_some (by unfold crcE; rw [if_neg (bne hwf), h1]; dsimp only; first | rw [if_pos (of_decide_eq_true k55)] | rw [if_neg (of_decide_eq_false k55)])⟩
        · refine V_bipush C (-8) dX0_receive_58 (by decide) ?_
          refine V_goto C 65 dX0_receive_60 (by decide) ?_
          exact V_iret C dX0_receive_65 (by decide) (by decide) ⟨_, rfl, crc_some (by unfold crcE; rw [if_neg (bne hwf), h1]; dsimp only; first | rw [if_pos (of_decide_eq_true k55)] | rw [if_neg (of_decide_eq_false k55)])⟩
    refine V_aload_n C dX0_receive_0 rfl rfl ?_
    refine V_iload_n C dX0_receive_1 rfl rfl ?_
    refine V_ofRe (VR_V (As := [.int (nI r)]) (rest := []) C (ct_X0_replica l G b M dx ra wa da rp hD r a hr hrp) hD.1 rfl (lw_V q175 q177 qs0 q36 q178) rfl nd_X0_replica rfl (by decide) (by decide) dX0_receive_2 rfl ⟨by decide, by decide⟩ (Nat.le_of_ble_eq_true rfl)) ?_
    refine V_astore_n (L' := [some (.ref dx), some (.int (nI r)), some (.ref a), none, none]) C dX0_receive_5 rfl (by decide) rfl ?_
    refine V_aload_n C dX0_receive_6 rfl rfl ?_
    refine V_ifnonnull_R C 12 dX0_receive_7 (by decide) ?_
    refine V_aload_n C dX0_receive_12 rfl rfl ?_
    refine V_get (C0 := RX0) (T := TX0) (N := 3) (ci := 0) C 1 in_X0 rfl hD.1 (by decide) q162 (fun _ h9 => h9) rfl dX0_receive_13 ?_
    refine V_ofIe (VR_S (As := [.ref wa]) (rest := []) C (ct_X0_wellFormed l G b M wa ws cap hW0 hw16) (lw_S q703 q704 q36 q705) nd_X0_wellFormed rfl (by decide) (by decide) dX0_receive_16 rfl ⟨by decide, by decide⟩ (Nat.le_of_ble_eq_true rfl)) ?_
    refine V_ifb_ne C 25 dX0_receive_19 (by decide) (fun k19 => ?_) (fun k19 => ?_)
    · exact body h12
    · rw [hwf] at k19; cases k19

