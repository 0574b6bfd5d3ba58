set_option maxRecDepth 100000
/-! THE COMPONENT, Q: edit -/
/-- which ids the new operation has before it -/
def nmQ (ln : Nat) (lo : Nat → List Nat) (fo : Nat → Bool) (k0 t0 s0 i : Nat) : Bool := match cplace ln lo (nI (4 + i)) with
  | none => false
  | some k => !fo k || decide (4 + i = t0) || (decide (k0 = 3) && decide (4 + i = s0))
theorem nmL_lt {Q : Nat → Bool} : ∀ {k x : Nat}, x ∈ nmL Q k → 4 ≤ x ∧ x < 4 + k ∧ Q (x - 4) = true := by
  intro k
  induction k with
  | zero => intro x h; cases h
  | succ k ih =>
    intro x h
    unfold nmL at h
    split at h
    · rename_i hq
      rcases List.mem_append.mp h with z | z
      · have := ih z; exact ⟨this.1, by omega, this.2.2⟩
      · rw [List.mem_singleton] at z
        subst z
        exact ⟨by omega, by omega, by rw [show 4 + k - 4 = k by omega]; exact hq⟩
    · have := ih h; exact ⟨this.1, by omega, this.2.2⟩
theorem nmL_srt {Q : Nat → Bool} : ∀ k : Nat, (nmL Q k).Pairwise (fun x y => x < y) := by
  intro k
  induction k with
  | zero => exact List.Pairwise.nil
  | succ k ih =>
    unfold nmL
    split
    · rw [List.pairwise_append]
      exact ⟨ih, List.pairwise_singleton _ _, fun x hx y hy => by have := nmL_lt hx; rw [List.mem_singleton] at hy; omega⟩
    · exact ih
theorem nmQ_pl {ln : Nat} {lo : Nat → List Nat} {fo : Nat → Bool} {k0 t0 s0 i : Nat} (h : nmQ ln lo fo k0 t0 s0 i = true) : ∃ k, cplace ln lo (nI (4 + i)) = some k := by
  unfold nmQ at h
  cases e : cplace ln lo (nI (4 + i)) with
  | none => rw [e] at h; cases h
  | some k => exact ⟨k, rfl⟩
/-- no more ids than there are in the log -/
theorem nmQ_len {ln : Nat} {lo : Nat → List Nat} {fo : Nat → Bool} {k0 t0 s0 n : Nat} (hL : LogOk ln lo) (hn : n ≤ 159) : (nmL (nmQ ln lo fo k0 t0 s0) n).length ≤ ln := by
  rw [← List.length_map (f := fun x => (cplace ln lo (nI x)).getD 0)]
  have hm : ∀ x ∈ nmL (nmQ ln lo fo k0 t0 s0) n, ∃ k, cplace ln lo (nI x) = some k ∧ k < ln ∧ oB (lo k) 0 = x := by
    intro x hx
    obtain ⟨h1, h2, h3⟩ := nmL_lt hx
    obtain ⟨k, hk⟩ := nmQ_pl h3
    rw [show 4 + (x - 4) = x by omega] at hk
    have := cpl_id hL (by omega) hk
    exact ⟨k, hk, this.1, this.2⟩
  refine nodup_len ln _ ?_ ?_
  · unfold List.Nodup
    rw [List.pairwise_map]
    refine (nmL_srt n).imp_of_mem (fun {x y} hx hy hxy => ?_)
    obtain ⟨k, h1, h2, h3⟩ := hm x hx
    obtain ⟨k2, g1, g2, g3⟩ := hm y hy
    rw [h1, g1]
    intro z
    dsimp only [Option.getD] at z
    subst z
    omega
  · intro y hy
    obtain ⟨x, hx, rfl⟩ := List.mem_map.mp hy
    obtain ⟨k, h1, h2, h3⟩ := hm x hx
    rw [h1]
    exact h2
/-- the new operation -/
theorem nI_sub6 (n : Nat) : nI (6 + n) - 6 = nI n := by
  have e := nI_add n 6
  rw [show 6 + n = n + 6 by omega, ← e]
  exact Int32.add_sub_cancel _ _
theorem nI_mul4 (n : Nat) : 4 * nI n = nI (4 * n) := pk_mul 4 n
def edO (r cv k0 t0 s0 v0 : Nat) (nm : List Nat) : List Nat := [4 * cv + r, k0, t0, s0, v0, nm.length] ++ nm
def CedP (G : mp_G) (M : mp_M) (g a da r ln : Nat) (lo : Nat → List Nat) (fo : Nat → Bool) (wt : List (List Nat)) (k0 t0 s0 v0 : Nat) (y : Int32) (M1 : mp_M) : Prop :=
  ((16 ≤ ln + wt.length ∨ 40 < cgreat lo ln + 1 ∨ 6 < (nmL (nmQ ln lo fo k0 t0 s0) 159).length) ∧ y = -7 ∧ (∃ ds cap, SbAt G M1 2 da ds cap ∧ (cap = 16 ∨ cap = 34)) ∧ KeepG 2 M M1) ∨
  (¬ (16 ≤ ln + wt.length ∨ 40 < cgreat lo ln + 1 ∨ 6 < (nmL (nmQ ln lo fo k0 t0 s0) 159).length) ∧ y = nI (4 * (cgreat lo ln + 1) + r) ∧ (∃ ds cap, SbAt G M1 2 da ds cap ∧ (cap = 16 ∨ cap = 34)) ∧ ∃ P' hi' sh' fo' ch' nx' A' wo' x, x = csA (ln + 1, ex lo ln (edO r (cgreat lo ln + 1) k0 t0 s0 v0 (nmL (nmQ ln lo fo k0 t0 s0) 159)), wt) ∧ RepAt G M1 g a x.1 x.2.1 P' hi' sh' fo' ch' nx' x.2.2 A' wo' ∧ RInv x.1 x.2.1 P' hi' sh' fo' ch' ∧ Keep (fun la => la.1 = 2 ∨ MutG g la) M M1)
theorem ct_X0_edit_no (l : Launch) (G : mp_G) (b : Nat) (M : mp_M) (dx ra wa da : Nat) (rp : Nat → Nat) (hD : DocAt G M dx ra wa da rp) (g a ln : Nat) (lo : Nat → List Nat) (P : Nat → Int32) (hi : Nat → Option Nat) (sh fo : Nat → Bool) (ch : Nat → Nat → List Nat) (nx : Nat → Option Nat) (wt : List (List Nat)) (A : Nat → Nat → Nat) (wo : List Nat) (hR : RepAt G M g a ln lo P hi sh fo ch nx wt A wo) (r : Nat) (hr : r ≤ 2) (hrp : rp r = a) (kd tg sl vl : Int32) (hno : (shI kd tg sl vl && cfits ln lo hi kd tg sl) = false) : Ct l yX0_edit cX0_edit 11 (some .int) 9 0 0 G b ([.ref dx, .int (nI r), .int kd, .int tg, .int sl, .int vl] : List Value) M (pI (fun y M1 => y = -1 ∧ M1 = M)) := by
  refine Ct.ofV (by decide) (vc_ref (vc_int (vc_int (vc_int (vc_int (vc_int vc_nil)))))) (Nat.le_of_ble_eq_true rfl) ?_
  intro p e s m below meth c C hnm
  refine V_L (L1 := [some (.ref dx), some (.int (nI r)), some (.int kd), some (.int tg), some (.int sl), some (.int vl), none, none, none, none, none]) rfl ?_
  obtain ⟨r1e, r2e, r3e, r4e, r5e, r6e, r7e, r8e, r9e, r10e, r11e⟩ := id hR
  have rbe := r10e.2.2.1
  have rlne := r10e.1
  have rwle := r10e.2.1
  have rwoe := r4e.1
  obtain ⟨lmoe, lare, hlae⟩ := al_obj r2e
  obtain ⟨wmoe, ware, hwae⟩ := al_obj r3e
  refine V_aload_n C dX0_edit_0 rfl rfl ?_
  refine V_iload_n C dX0_edit_1 rfl rfl ?_
  refine V_ofRe (VR_V (As := [.int (nI r)]) (rest := []) C (ct_X0_replica l G b M dx ra wa da rp hD r a hr hrp) hD.1 rfl (lw_V q175 q177 qs0 q36 q178) rfl nd_X0_replica rfl (by decide) (by decide) dX0_edit_2 rfl ⟨by decide, by decide⟩ (Nat.le_of_ble_eq_true rfl)) ?_
  refine V_astore (L' := [some (.ref dx), some (.int (nI r)), some (.int kd), some (.int tg), some (.int sl), some (.int vl), some (.ref a), none, none, none, none]) C dX0_edit_5 (by decide) rfl ?_
  refine V_aload C dX0_edit_7 rfl ?_
  refine V_ifnull_R C dX0_edit_9 ?_
  refine V_iload_n C dX0_edit_12 rfl rfl ?_
  refine V_iload_n C dX0_edit_13 rfl rfl ?_
  refine V_iload C dX0_edit_14 rfl ?_
  refine V_iload C dX0_edit_16 rfl ?_
  refine V_ofIe (VR_S (As := [.int kd, .int tg, .int sl, .int vl]) (rest := []) C (ct_X0_wellShaped l G b M kd tg sl vl) (lw_S q179 q180 q36 q181) nd_X0_wellShaped rfl (by decide) (by decide) dX0_edit_18 rfl ⟨by decide, by decide⟩ (Nat.le_of_ble_eq_true rfl)) ?_
  refine V_ifb_eq C 36 dX0_edit_21 (by decide) (fun k21 => ?_) (fun k21 => ?_)
  · refine V_iconst C (-1) dX0_edit_36 (by decide) ?_
    exact V_iret C dX0_edit_37 (by decide) (by decide) ⟨_, rfl, rfl, rfl⟩
  · refine V_aload C dX0_edit_24 rfl ?_
    refine V_iload_n C dX0_edit_26 rfl rfl ?_
    refine V_iload_n C dX0_edit_27 rfl rfl ?_
    refine V_iload C dX0_edit_28 rfl ?_
    refine V_ofIe (VR_V (As := [.int kd, .int tg, .int sl]) (rest := []) C (ct_X1_fits l G b M g a ln lo P hi sh fo ch nx wt A wo hR kd tg sl) r1e rfl (lw_V q188 q189 q190 q37 q191) rfl nd_X1_fits rfl (by decide) (by decide) dX0_edit_30 rfl ⟨by decide, by decide⟩ (Nat.le_of_ble_eq_true rfl)) ?_
    refine V_ifb_ne C 38 dX0_edit_33 (by decide) (fun k33 => ?_) (fun k33 => ?_)
    · rw [k21, k33] at hno
      cases hno
    · refine V_iconst C (-1) dX0_edit_36 (by decide) ?_
      exact V_iret C dX0_edit_37 (by decide) (by decide) ⟨_, rfl, rfl, rfl⟩
theorem ct_X0_edit (l : Launch) (G : mp_G) (b : Nat) (M : mp_M) (dx ra wa da : Nat) (rp : Nat → Nat) (hD : DocAt G M dx ra wa da rp) (g a ln : Nat) (lo : Nat → List Nat) (P : Nat → Int32) (hi : Nat → Option Nat) (sh fo : Nat → Bool) (ch : Nat → Nat → List Nat) (nx : Nat → Option Nat) (wt : List (List Nat)) (A : Nat → Nat → Nat) (wo : List Nat) (hR : RepAt G M g a ln lo P hi sh fo ch nx wt A wo) (r : Nat) (hr : r ≤ 2) (hrp : rp r = a) (k0 t0 s0 v0 : Nat) (hk0 : k0 < 256) (ht0 : t0 < 256) (hs0 : s0 < 256) (hv0 : v0 < 256) (hsh : shI (nI k0) (nI t0) (nI s0) (nI v0) = true) (hft : cfits ln lo hi (nI k0) (nI t0) (nI s0) = true) (ds : List Nat) (cap : Nat) (hDr : SbAt G M 2 da ds cap) (hcp : cap = 16 ∨ cap = 34) (hg : 3 ≤ g) (hg9 : g < 6) (hI : RInv ln lo P hi sh fo ch) (hWn : ¬ (16 ≤ ln + wt.length ∨ 40 < cgreat lo ln + 1 ∨ 6 < (nmL (nmQ ln lo fo k0 t0 s0) 159).length) → NewOk ln lo (edO r (cgreat lo ln + 1) k0 t0 s0 v0 (nmL (nmQ ln lo fo k0 t0 s0) 159)) ∧ WtOk (ln + 1) (ex lo ln (edO r (cgreat lo ln + 1) k0 t0 s0 v0 (nmL (nmQ ln lo fo k0 t0 s0) 159))) wt) : Ct l yX0_edit cX0_edit 11 (some .int) 12 260 13000 G b ([.ref dx, .int (nI r), .int (nI k0), .int (nI t0), .int (nI s0), .int (nI v0)] : List Value) M (pI (CedP G M g a da r ln lo fo wt k0 t0 s0 v0)) := by
  have hcg := cgreat_lt (lo := lo) (n := ln) (fun k hk => good_lt (hI.1.1 k hk) 0)
  generalize hcv : cgreat lo ln + 1 = cv at hWn
  have hnl : ∀ n, n ≤ 159 → (nmL (nmQ ln lo fo k0 t0 s0) n).length ≤ ln := fun n hn => nmQ_len hI.1 hn
  have rlq := hR.2.2.2.2.2.2.2.2.2.1.1
  refine Ct.ofV (by decide) (vc_ref (vc_int (vc_int (vc_int (vc_int (vc_int vc_nil)))))) (Nat.le_of_ble_eq_true rfl) ?_
  intro p e s m below meth c C hnm
  refine V_L (L1 := [some (.ref dx), some (.int (nI r)), some (.int (nI k0)), some (.int (nI t0)), some (.int (nI s0)), some (.int (nI v0)), none, none, none, none, none]) rfl ?_
  have fin : ¬ (16 ≤ ln + wt.length ∨ 40 < cv) → ∀ M1 cap1, SbAt G M1 2 da ([4 * cv + r, k0, t0, s0, v0, 0] ++ nmL (nmQ ln lo fo k0 t0 s0) 159) cap1 → (cap1 = 16 ∨ cap1 = 34) → KeepG 2 M M1 → V p l e (rmOf 12 260 13000) s m ([.ref dx, .int (nI r), .int (nI k0), .int (nI t0), .int (nI s0), .int (nI v0)] : List Value).toArray below meth c (MQ below (Qp G b (pI (CedP G M g a da r ln lo fo wt k0 t0 s0 v0))) ([.ref dx, .int (nI r), .int (nI k0), .int (nI t0), .int (nI s0), .int (nI v0)] : List Value).toArray s 260 13000 (fun q => b ≤ q)) G b 11 (7 + 159) (448 + 64 * 159) 196 [some (.ref dx), some (.int (nI r)), some (.int (nI k0)), some (.int (nI t0)), some (.int (nI s0)), some (.int (nI v0)), some (.ref a), some (.int (nI cv)), none, none, none] [] M1 := by
    intro hnf M1 cap1 hS1 hc1 hK1
    have hd1 := hK1 _ _ _ hD.1 (by simp)
    have R1 := hR.keep hK1 (fun la z w => by omega)
    have hS10 := hS1
    obtain ⟨dv, df, dmb, hda1, -⟩ := hS1
    have hlen : ([4 * cv + r, k0, t0, s0, v0, 0] ++ nmL (nmQ ln lo fo k0 t0 s0) 159).length = 6 + (nmL (nmQ ln lo fo k0 t0 s0) 159).length := by rw [List.length_append]; rfl
    have hn9 := hnl 159 (Nat.le_refl _)
    obtain ⟨r1e, r2e, r3e, r4e, r5e, r6e, r7e, r8e, r9e, r10e, r11e⟩ := id R1
    have rbe := r10e.2.2.1
    have rlne := r10e.1
    have rwle := r10e.2.1
    have rwoe := r4e.1
    obtain ⟨lmoe, lare, hlae⟩ := al_obj r2e
    obtain ⟨wmoe, ware, hwae⟩ := al_obj r3e
    refine V_aload_n C dX0_edit_196 rfl rfl ?_
    refine V_get (C0 := RX0) (T := TX0) (N := 3) (ci := 0) C 2 in_X0 rfl hd1 (by decide) q163 (fun _ h9 => h9) rfl dX0_edit_197 ?_
    refine V_ofIe (VR_V (As := []) (rest := []) C (ct_J4_length l G b M1 2 da cap1 _ hS10) hda1 rfl (lw_V q378 q379 q380 q43 q381) rfl nd_J4_length rfl (by decide) (by decide) dX0_edit_200 rfl ⟨by omega, by omega⟩ (Nat.le_of_ble_eq_true rfl)) ?_
    rw [hlen]
    refine V_st (st1 := [.int (nI (6 + (nmL (nmQ ln lo fo k0 t0 s0) 159).length))]) rfl ?_
    have bad : 6 < (nmL (nmQ ln lo fo k0 t0 s0) 159).length → CedP G M g a da r ln lo fo wt k0 t0 s0 v0 (-7) M1 := fun h => Or.inl ⟨Or.inr (Or.inr h), rfl, ⟨_, _, hS10, hc1⟩, hK1⟩
    have good : (nmL (nmQ ln lo fo k0 t0 s0) 159).length ≤ 6 → V p l e (rmOf 12 260 13000) s m ([.ref dx, .int (nI r), .int (nI k0), .int (nI t0), .int (nI s0), .int (nI v0)] : List Value).toArray below meth c (MQ below (Qp G b (pI (CedP G M g a da r ln lo fo wt k0 t0 s0 v0))) ([.ref dx, .int (nI r), .int (nI k0), .int (nI t0), .int (nI s0), .int (nI v0)] : List Value).toArray s 260 13000 (fun q => b ≤ q)) G b 11 (7 + 159) (448 + 64 * 159) 211 [some (.ref dx), some (.int (nI r)), some (.int (nI k0)), some (.int (nI t0)), some (.int (nI s0)), some (.int (nI v0)), some (.ref a), some (.int (nI cv)), none, none, none] [] M1 := by
      intro h6
      have hall : ¬ (16 ≤ ln + wt.length ∨ 40 < cv ∨ 6 < (nmL (nmQ ln lo fo k0 t0 s0) 159).length) := by omega
      obtain ⟨hNw, hWk⟩ := hWn hall
      refine V_aload_n C dX0_edit_211 rfl rfl ?_
      refine V_get (C0 := RX0) (T := TX0) (N := 3) (ci := 0) C 2 in_X0 rfl hd1 (by decide) q163 (fun _ h9 => h9) rfl dX0_edit_212 ?_
      refine V_iconst C 5 dX0_edit_215 (by decide) ?_
      refine V_aload_n C dX0_edit_216 rfl rfl ?_
      refine V_get (C0 := RX0) (T := TX0) (N := 3) (ci := 0) C 2 in_X0 rfl hd1 (by decide) q163 (fun _ h9 => h9) rfl dX0_edit_217 ?_
      refine V_ofIe (VR_V (As := []) (rest := [.int 5, .ref da]) C (ct_J4_length l G b M1 2 da cap1 _ hS10) hda1 rfl (lw_V q378 q379 q380 q43 q381) rfl nd_J4_length rfl (by decide) (by decide) dX0_edit_220 rfl ⟨by omega, by omega⟩ (Nat.le_of_ble_eq_true rfl)) ?_
      rw [hlen]
      refine V_st (st1 := [.int (nI (6 + (nmL (nmQ ln lo fo k0 t0 s0) 159).length)), .int 5, .ref da]) rfl ?_
      refine V_bipush C 6 dX0_edit_223 (by decide) ?_
      refine V_isub C dX0_edit_225 ?_
      refine V_top (y := (nI (nmL (nmQ ln lo fo k0 t0 s0) 159).length)) (nI_sub6 _) ?_
      refine V_i2c C (nI (nmL (nmQ ln lo fo k0 t0 s0) 159).length) dX0_edit_226 (i2c_n (by omega)) ?_
      refine V_ofV (VR_V (As := [.int 5, .int (nI (nmL (nmQ ln lo fo k0 t0 s0) 159).length)]) (rest := []) C (ct_J4_setCharAt l G b M1 2 da cap1 5 (nmL (nmQ ln lo fo k0 t0 s0) 159).length _ hS10 (by omega) (by rw [hlen]; omega)) hda1 rfl (lw_V q385 q386 q387 q43 q388) rfl nd_J4_setCharAt rfl (by decide) (by decide) dX0_edit_227 rfl ⟨by omega, by omega⟩ (Nat.le_of_ble_eq_true rfl)) (fun M2 hM2 => ?_)
      obtain ⟨hS2, hK2⟩ := hM2
      have hS2' : SbAt G M2 2 da (edO r cv k0 t0 s0 v0 (nmL (nmQ ln lo fo k0 t0 s0) 159)) cap1 := hS2
      have hbl : (edO r cv k0 t0 s0 v0 (nmL (nmQ ln lo fo k0 t0 s0) 159)).length = 6 + (nmL (nmQ ln lo fo k0 t0 s0) 159).length := by unfold edO; rw [List.length_append]; rfl
      clear hS2
      have hK12 := hK1.tr hK2
      have hd2 := hK12 _ _ _ hD.1 (by simp)
      have R2 := hR.keep hK12 (fun la z w => by omega)
      have hS20 := hS2'
      obtain ⟨dv2, df2, dmb2, hda2, -⟩ := hS20
      obtain ⟨r1f, r2f, r3f, r4f, r5f, r6f, r7f, r8f, r9f, r10f, r11f⟩ := id R2
      have rbf := r10f.2.2.1
      have rlnf := r10f.1
      have rwlf := r10f.2.1
      have rwof := r4f.1
      obtain ⟨lmof, larf, hlaf⟩ := al_obj r2f
      obtain ⟨wmof, warf, hwaf⟩ := al_obj r3f
      refine V_aload C dX0_edit_230 rfl ?_
      refine V_new (C0 := RX4) (T := TX4) (N := 1) (ci := 4) (fs := [.null]) C (g, 12, 0) in_X4 tyX4 tyX4_ok q393 q394 q55 rfl (fun j hj => by rcases (show j = 0 by omega) with rfl <;> rfl) (by first | decide | omega | (dsimp only [rmOf]; omega)) (by first | decide | omega | (dsimp only [rmOf]; omega)) dX0_edit_232 (fun o0 ho0 => V_N (fun M3 e3 => ?_))
      have h__1 := mp_keepN e3 hd2 ho0
      have h__2 := mp_keepN e3 hda2 ho0
      have h__3 := mp_keepN e3 r1f ho0
      have h__4 := mp_keepN e3 hlaf ho0
      have h__5 := mp_keepN e3 hwaf ho0
      have h__6 := mp_got e3
      have hE3 := Ext.new e3 ho0
      have hS3 : SbAt G M3 2 da (edO r cv k0 t0 s0 v0 (nmL (nmQ ln lo fo k0 t0 s0) 159)) cap1 := hS2'.keep (hE3.keep (S := fun _ => False)) (fun _ _ => id)
      have hd3 := hE3 _ _ hd2
      have hda3 := hE3 _ _ hda2
      refine V_dup C dX0_edit_235 rfl ?_
      refine V_aload_n C dX0_edit_236 rfl rfl ?_
      refine V_get (C0 := RX0) (T := TX0) (N := 3) (ci := 0) C 2 in_X0 rfl hd3 (by decide) q163 (fun _ h9 => h9) rfl dX0_edit_237 ?_
      refine V_ofR (VR_V (As := []) (rest := [.ref o0, .ref o0, .ref a]) C (ct_J4_toString l G b M3 2 g da cap1 (edO r cv k0 t0 s0 v0 (nmL (nmQ ln lo fo k0 t0 s0) 159)) hS3 (by omega) (by omega) (by omega)) hda3 rfl (lw_V q395 q396 q397 q43 q398) rfl nd_J4_toString rfl (by decide) (by decide) dX0_edit_240 rfl ⟨by omega, by omega⟩ (Nat.le_of_ble_eq_true rfl)) (fun y4 M4 hM4 => ?_)
      obtain ⟨sa, rfl, hsan, hS4, hE4⟩ := hM4
      refine V_st (st1 := [.ref sa, .ref o0, .ref o0, .ref a]) rfl ?_
      refine V_ofV (VR_IN (As := [.ref sa]) (rest := [.ref o0, .ref a]) C (ct_X4_init l G b M4 g o0 sa 0 (hE4 _ _ (mp_got e3))) (lw_meth q447) q55 ev445 q446 rfl nd_X4_init rfl (by decide) (by decide) dX0_edit_243 rfl ⟨by omega, by omega⟩ (Nat.le_of_ble_eq_true rfl)) (fun M5 e5 => ?_)
      have hE5 : Ext M2 M5 := (hE3.tr hE4).ofB ho0 (ExtB.up e5)
      have hO5 : OpAt G M5 g o0 (edO r cv k0 t0 s0 v0 (nmL (nmQ ln lo fo k0 t0 s0) 159)) := ⟨sa, 0, mp_got e5, str_up hS4 e5 (hE4 _ _ (mp_got e3))⟩
      have R5 := R2.ext hE5
      obtain ⟨r1h, r2h, r3h, r4h, r5h, r6h, r7h, r8h, r9h, r10h, r11h⟩ := id R5
      have rbh := r10h.2.2.1
      have rlnh := r10h.1
      have rwlh := r10h.2.1
      have rwoh := r4h.1
      obtain ⟨lmoh, larh, hlah⟩ := al_obj r2h
      obtain ⟨wmoh, warh, hwah⟩ := al_obj r3h
      refine V_ofV (VR_V (As := [.ref o0]) (rest := []) C (ct_X1_apply l G b M5 g a ln lo P hi sh fo ch nx wt A wo R5 o0 (edO r cv k0 t0 s0 v0 (nmL (nmQ ln lo fo k0 t0 s0) 159)) hO5 hNw.1.1 (by omega) hI.2.2.2.2.1 (fun k hk => by obtain ⟨p9, h1, h2⟩ := hNw.2.2 k hk; rw [← h2, cpl_at hI.1 h1]; rfl) (fun h3 _ => by have := good_sl hNw.1 h3; omega) (ap_ss hI hNw)) r1h rfl (lw_V q456 q457 q458 q37 q459) rfl nd_X1_apply rfl (by decide) (by decide) dX0_edit_246 rfl ⟨by omega, by omega⟩ (Nat.le_of_ble_eq_true rfl)) (fun M6 hM6 => ?_)
      obtain ⟨A6, nx6, hi6, sh6, ch6, R6, hap, hK6⟩ := hM6
      have I6 := rinv_ap (by omega) hI hNw hap
      refine V_aload C dX0_edit_249 rfl ?_
      refine V_ofI (VR_V (As := []) (rest := []) C (ct_X1_settle l G b M6 g a (ln + 1) (ex lo ln (edO r cv k0 t0 s0 v0 (nmL (nmQ ln lo fo k0 t0 s0) 159))) _ hi6 sh6 _ ch6 nx6 wt A6 wo R6 I6 hWk) R6.1 rfl (lw_V q597 q598 q599 q37 q600) rfl nd_X1_settle rfl (by decide) (by decide) dX0_edit_251 rfl ⟨by omega, by omega⟩ (Nat.le_of_ble_eq_true rfl)) (fun y7 M7 hM7 => ?_)
      obtain ⟨P7, hi7, sh7, fo7, ch7, nx7, A7, wo7, R7, I7, hy7, hK7⟩ := hM7
      have hK57 : Keep (MutG g) M5 M7 := hK6.tr hK7
      have hS7 : SbAt G M7 2 da (edO r cv k0 t0 s0 v0 (nmL (nmQ ln lo fo k0 t0 s0) 159)) cap1 := (hS2'.keep (hE5.keep (S := fun _ => False)) (fun _ _ => id)).keep hK57 (fun la z w => by have := w.1; omega)
      have hKK : Keep (fun la => la.1 = 2 ∨ MutG g la) M M7 := (hK12.mono (fun la z => Or.inl z)).tr ((hE5.keep).tr (hK57.mono (fun la z => Or.inr z)))
      refine V_pop C dX0_edit_254 rfl ?_
      refine V_iconst C 4 dX0_edit_255 (by decide) ?_
      refine V_iload C dX0_edit_256 rfl ?_
      refine V_imul C dX0_edit_258 ?_
      refine V_top (y := (nI (4 * cv))) (pk_mul 4 cv) ?_
      refine V_iload_n C dX0_edit_259 rfl rfl ?_
      refine V_iadd C dX0_edit_260 ?_
      refine V_top (y := (nI (4 * cv + r))) (nI_add (4 * cv) r) ?_
      exact V_iret C dX0_edit_261 (by omega) (by omega) ⟨_, rfl, Or.inr (by rw [hcv]; exact ⟨hall, rfl, ⟨_, _, hS7, hc1⟩, P7, hi7, sh7, fo7, ch7, nx7, A7, wo7, _, rfl, R7, I7, hKK⟩)⟩
    refine V_bipush C 12 dX0_edit_203 (by decide) ?_
    refine V_nicmp_le (x := 6 + (nmL (nmQ ln lo fo k0 t0 s0) 159).length) (y := 12) C 211 dX0_edit_205 (by decide) (by omega) (by omega) (fun k205 => ?_) (fun k205 => ?_)
    · refine V_sub ?_ (good (by omega))
      repeat' (first | exact ls_e | refine ls_n ?_ | refine ls_s ?_ | refine ls_i ?_ ?_ | refine ls_v ?_ ?_)
    · refine V_bipush C (-7) dX0_edit_208 (by decide) ?_
      exact V_iret C dX0_edit_210 (by omega) (by omega) ⟨_, rfl, bad (by omega)⟩
  have loop : ¬ (16 ≤ ln + wt.length ∨ 40 < cv) → ∀ i, i ≤ 159 → ∀ M1 cap1, SbAt G M1 2 da ([4 * cv + r, k0, t0, s0, v0, 0] ++ nmL (nmQ ln lo fo k0 t0 s0) i) cap1 → (cap1 = 16 ∨ cap1 = 34) → KeepG 2 M M1 → V p l e (rmOf 12 260 13000) s m ([.ref dx, .int (nI r), .int (nI k0), .int (nI t0), .int (nI s0), .int (nI v0)] : List Value).toArray below meth c (MQ below (Qp G b (pI (CedP G M g a da r ln lo fo wt k0 t0 s0 v0))) ([.ref dx, .int (nI r), .int (nI k0), .int (nI t0), .int (nI s0), .int (nI v0)] : List Value).toArray s 260 13000 (fun q => b ≤ q)) G b 11 (7 + i) (448 + 64 * i) 119 [some (.ref dx), some (.int (nI r)), some (.int (nI k0)), some (.int (nI t0)), some (.int (nI s0)), some (.int (nI v0)), some (.ref a), some (.int (nI cv)), some (.int (nI (4 + i))), none, none] [] M1 := by
    intro hnf
    refine up_ind 159 ?_
    intro i hi9 ih M1 cap1 hS1 hc1 hK1
    have hd1 := hK1 _ _ _ hD.1 (by simp)
    have R1 := hR.keep hK1 (fun la z w => by omega)
    have hS10 := hS1
    obtain ⟨dv, df, dmb, hda1, -⟩ := hS1
    have hlen : ([4 * cv + r, k0, t0, s0, v0, 0] ++ nmL (nmQ ln lo fo k0 t0 s0) i).length = 6 + (nmL (nmQ ln lo fo k0 t0 s0) i).length := by rw [List.length_append]; rfl
    have hn9 := hnl i hi9
    obtain ⟨r1e, r2e, r3e, r4e, r5e, r6e, r7e, r8e, r9e, r10e, r11e⟩ := id R1
    have rbe := r10e.2.2.1
    have rlne := r10e.1
    have rwle := r10e.2.1
    have rwoe := r4e.1
    obtain ⟨lmoe, lare, hlae⟩ := al_obj r2e
    obtain ⟨wmoe, ware, hwae⟩ := al_obj r3e
    have nxt0 : i < 159 → nmQ ln lo fo k0 t0 s0 i = false → V p l e (rmOf 12 260 13000) s m ([.ref dx, .int (nI r), .int (nI k0), .int (nI t0), .int (nI s0), .int (nI v0)] : List Value).toArray below meth c (MQ below (Qp G b (pI (CedP G M g a da r ln lo fo wt k0 t0 s0 v0))) ([.ref dx, .int (nI r), .int (nI k0), .int (nI t0), .int (nI s0), .int (nI v0)] : List Value).toArray s 260 13000 (fun q => b ≤ q)) G b 11 (7 + i) (448 + 64 * i) 190 [some (.ref dx), some (.int (nI r)), some (.int (nI k0)), some (.int (nI t0)), some (.int (nI s0)), some (.int (nI v0)), some (.ref a), some (.int (nI cv)), some (.int (nI (4 + i))), none, none] [] M1 := by
      intro hlt hq
      refine V_iinc (v := (nI (4 + i + 1))) (L' := [some (.ref dx), some (.int (nI r)), some (.int (nI k0)), some (.int (nI t0)), some (.int (nI s0)), some (.int (nI v0)), some (.ref a), some (.int (nI cv)), some (.int (nI (4 + i + 1))), none, none]) C dX0_edit_190 rfl (nI_1 _) (by decide) rfl ?_
      refine V_goto C 119 dX0_edit_193 (by decide) ?_
      refine V_widen (k := 7 + (i + 1)) (n := 448 + 64 * (i + 1)) (by omega) (by omega) ?_
      refine V_sub ?_ (ih (by omega) M1 cap1 (by rw [nmL_f hq]; exact hS10) hc1 hK1)
      repeat' (first | exact ls_e | refine ls_n ?_ | refine ls_s ?_ | refine ls_i ?_ ?_ | refine ls_v ?_ ?_)
    have nxt1 : i < 159 → nmQ ln lo fo k0 t0 s0 i = true → V p l e (rmOf 12 260 13000) s m ([.ref dx, .int (nI r), .int (nI k0), .int (nI t0), .int (nI s0), .int (nI v0)] : List Value).toArray below meth c (MQ below (Qp G b (pI (CedP G M g a da r ln lo fo wt k0 t0 s0 v0))) ([.ref dx, .int (nI r), .int (nI k0), .int (nI t0), .int (nI s0), .int (nI v0)] : List Value).toArray s 260 13000 (fun q => b ≤ q)) G b 11 (7 + i) (448 + 64 * i) 179 [some (.ref dx), some (.int (nI r)), some (.int (nI k0)), some (.int (nI t0)), some (.int (nI s0)), some (.int (nI v0)), some (.ref a), some (.int (nI cv)), some (.int (nI (4 + i))), none, none] [] M1 := by
      intro hlt hq
      refine V_aload_n C dX0_edit_179 rfl rfl ?_
      refine V_get (C0 := RX0) (T := TX0) (N := 3) (ci := 0) C 2 in_X0 rfl hd1 (by decide) q163 (fun _ h9 => h9) rfl dX0_edit_180 ?_
      refine V_iload C dX0_edit_183 rfl ?_
      refine V_i2c C (nI (4 + i)) dX0_edit_185 (i2c_n (by omega)) ?_
      refine V_ofR (VR_V (As := [.int (nI (4 + i))]) (rest := []) C (ct_J4_append l G b M1 2 da cap1 (4 + i) _ hS10 (by omega) (by rw [hlen]; rcases hc1 with z | z <;> omega)) hda1 rfl (lw_V q342 q343 q344 q43 q345) rfl nd_J4_append rfl (by decide) (by decide) dX0_edit_186 rfl ⟨by omega, by omega⟩ (Nat.le_of_ble_eq_true rfl)) (fun y2 M2 hM2 => ?_)
      obtain ⟨rfl, hS2, hK2⟩ := hM2
      rw [hlen] at hS2
      have hc2 : (if 6 + (nmL (nmQ ln lo fo k0 t0 s0) i).length < cap1 then cap1 else 2 * cap1 + 2) = 16 ∨ (if 6 + (nmL (nmQ ln lo fo k0 t0 s0) i).length < cap1 then cap1 else 2 * cap1 + 2) = 34 := by
        split
        · exact hc1
        · rcases hc1 with z | z <;> omega
      refine V_st (st1 := [.ref da]) rfl ?_
      refine V_pop C dX0_edit_189 rfl ?_
      refine V_iinc (v := (nI (4 + i + 1))) (L' := [some (.ref dx), some (.int (nI r)), some (.int (nI k0)), some (.int (nI t0)), some (.int (nI s0)), some (.int (nI v0)), some (.ref a), some (.int (nI cv)), some (.int (nI (4 + i + 1))), none, none]) C dX0_edit_190 rfl (nI_1 _) (by decide) rfl ?_
      refine V_goto C 119 dX0_edit_193 (by decide) ?_
      refine V_widen (k := 7 + (i + 1)) (n := 448 + 64 * (i + 1)) (by omega) (by omega) ?_
      refine V_sub ?_ (ih (by omega) M2 _ (by rw [nmL_t hq, ← List.append_assoc]; exact hS2) hc2 (hK1.tr hK2))
      repeat' (first | exact ls_e | refine ls_n ?_ | refine ls_s ?_ | refine ls_i ?_ ?_ | refine ls_v ?_ ?_)
    refine V_iload C dX0_edit_119 rfl ?_
    refine V_sipush C 163 dX0_edit_121 (by decide) ?_
    refine V_nicmp_ge (x := 4 + i) (y := 163) C 196 dX0_edit_124 (by decide) (by omega) (by omega) (fun k124 => ?_) (fun k124 => ?_)
    · have ei : i = 159 := by omega
      subst ei
      refine V_sub ?_ (fin hnf M1 cap1 hS10 hc1 hK1)
      repeat' (first | exact ls_e | refine ls_n ?_ | refine ls_s ?_ | refine ls_i ?_ ?_ | refine ls_v ?_ ?_)
    · refine V_aload C dX0_edit_127 rfl ?_
      refine V_iload C dX0_edit_129 rfl ?_
      refine V_ofRe (VR_V (As := [.int (nI (4 + i))]) (rest := []) C (ct_X1_item l G b M1 g a ln lo P hi sh fo ch nx wt A wo R1 (nI (4 + i))) r1e rfl (lw_V q377 q197 q198 q37 q199) rfl nd_X1_item rfl (by decide) (by decide) dX0_edit_131 rfl ⟨by omega, by omega⟩ (Nat.le_of_ble_eq_true rfl)) ?_
      rcases o131 : cplace ln lo (nI (4 + i)) with _ | j131
      · refine V_st (st1 := [.null]) rfl ?_
        refine V_astoreq (o := none) (L' := [some (.ref dx), some (.int (nI r)), some (.int (nI k0)), some (.int (nI t0)), some (.int (nI s0)), some (.int (nI v0)), some (.ref a), some (.int (nI cv)), some (.int (nI (4 + i))), some (.null), none]) C dX0_edit_134 (by decide) rfl ?_
        refine V_iload C dX0_edit_136 rfl ?_
        refine V_iload_n C dX0_edit_138 rfl rfl ?_
        refine V_nicmp_eq (x := 4 + i) (y := t0) C 154 dX0_edit_139 (by decide) (by omega) (by omega) (fun k139 => ?_) (fun k139 => ?_)
        · refine V_iconst C 1 dX0_edit_154 (by decide) ?_
          refine V_goto C 159 dX0_edit_155 (by decide) ?_
          refine V_istore (L' := [some (.ref dx), some (.int (nI r)), some (.int (nI k0)), some (.int (nI t0)), some (.int (nI s0)), some (.int (nI v0)), some (.ref a), some (.int (nI cv)), some (.int (nI (4 + i))), some (.null), some (.int 1)]) C dX0_edit_159 (by decide) rfl ?_
          refine V_aloadq (o := none) C dX0_edit_161 rfl ?_
          refine V_ifnull_N C 190 dX0_edit_163 (by decide) ?_
          refine V_sub ?_ (nxt0 (by omega) (by unfold nmQ; rw [o131] <;> simp [*]))
          repeat' (first | exact ls_e | refine ls_n ?_ | refine ls_s ?_ | refine ls_i ?_ ?_ | refine ls_v ?_ ?_)
        · refine V_iload_n C dX0_edit_142 rfl rfl ?_
          refine V_iconst C 3 dX0_edit_143 (by decide) ?_
          refine V_nicmp_ne (x := k0) (y := 3) C 158 dX0_edit_144 (by decide) (by omega) (by omega) (fun k144 => ?_) (fun k144 => ?_)
          · refine V_iconst C 0 dX0_edit_158 (by decide) ?_
            refine V_istore (L' := [some (.ref dx), some (.int (nI r)), some (.int (nI k0)), some (.int (nI t0)), some (.int (nI s0)), some (.int (nI v0)), some (.ref a), some (.int (nI cv)), some (.int (nI (4 + i))), some (.null), some (.int 0)]) C dX0_edit_159 (by decide) rfl ?_
            refine V_aloadq (o := none) C dX0_edit_161 rfl ?_
            refine V_ifnull_N C 190 dX0_edit_163 (by decide) ?_
            refine V_sub ?_ (nxt0 (by omega) (by unfold nmQ; rw [o131] <;> simp [*]))
            repeat' (first | exact ls_e | refine ls_n ?_ | refine ls_s ?_ | refine ls_i ?_ ?_ | refine ls_v ?_ ?_)
          · refine V_iload C dX0_edit_147 rfl ?_
            refine V_iload C dX0_edit_149 rfl ?_
            refine V_nicmp_ne (x := 4 + i) (y := s0) C 158 dX0_edit_151 (by decide) (by omega) (by omega) (fun k151 => ?_) (fun k151 => ?_)
            · refine V_iconst C 0 dX0_edit_158 (by decide) ?_
              refine V_istore (L' := [some (.ref dx), some (.int (nI r)), some (.int (nI k0)), some (.int (nI t0)), some (.int (nI s0)), some (.int (nI v0)), some (.ref a), some (.int (nI cv)), some (.int (nI (4 + i))), some (.null), some (.int 0)]) C dX0_edit_159 (by decide) rfl ?_
              refine V_aloadq (o := none) C dX0_edit_161 rfl ?_
              refine V_ifnull_N C 190 dX0_edit_163 (by decide) ?_
              refine V_sub ?_ (nxt0 (by omega) (by unfold nmQ; rw [o131] <;> simp [*]))
              repeat' (first | exact ls_e | refine ls_n ?_ | refine ls_s ?_ | refine ls_i ?_ ?_ | refine ls_v ?_ ?_)
            · refine V_iconst C 1 dX0_edit_154 (by decide) ?_
              refine V_goto C 159 dX0_edit_155 (by decide) ?_
              refine V_istore (L' := [some (.ref dx), some (.int (nI r)), some (.int (nI k0)), some (.int (nI t0)), some (.int (nI s0)), some (.int (nI v0)), some (.ref a), some (.int (nI cv)), some (.int (nI (4 + i))), some (.null), some (.int 1)]) C dX0_edit_159 (by decide) rfl ?_
              refine V_aloadq (o := none) C dX0_edit_161 rfl ?_
              refine V_ifnull_N C 190 dX0_edit_163 (by decide) ?_
              refine V_sub ?_ (nxt0 (by omega) (by unfold nmQ; rw [o131] <;> simp [*]))
              repeat' (first | exact ls_e | refine ls_n ?_ | refine ls_s ?_ | refine ls_i ?_ ?_ | refine ls_v ?_ ?_)
      · have hj131 := (firstI_get o131).1
        refine V_st (st1 := [.ref (A 0 j131)]) rfl ?_
        have hit131 := r5e j131 (by omega)
        obtain ⟨sa131, si131, hop131, -⟩ := r6e j131 (by omega)
        have hob131 := rbe j131 (by omega)
        refine V_astore (L' := [some (.ref dx), some (.int (nI r)), some (.int (nI k0)), some (.int (nI t0)), some (.int (nI s0)), some (.int (nI v0)), some (.ref a), some (.int (nI cv)), some (.int (nI (4 + i))), some (.ref (A 0 j131)), none]) C dX0_edit_134 (by decide) rfl ?_
        refine V_iload C dX0_edit_136 rfl ?_
        refine V_iload_n C dX0_edit_138 rfl rfl ?_
        refine V_nicmp_eq (x := 4 + i) (y := t0) C 154 dX0_edit_139 (by decide) (by omega) (by omega) (fun k139 => ?_) (fun k139 => ?_)
        · refine V_iconst C 1 dX0_edit_154 (by decide) ?_
          refine V_goto C 159 dX0_edit_155 (by decide) ?_
          refine V_istore (L' := [some (.ref dx), some (.int (nI r)), some (.int (nI k0)), some (.int (nI t0)), some (.int (nI s0)), some (.int (nI v0)), some (.ref a), some (.int (nI cv)), some (.int (nI (4 + i))), some (.ref (A 0 j131)), some (.int 1)]) C dX0_edit_159 (by decide) rfl ?_
          refine V_aload C dX0_edit_161 rfl ?_
          refine V_ifnull_R C dX0_edit_163 ?_
          refine V_aload C dX0_edit_166 rfl ?_
          refine V_getN (C0 := RX5) (T := TX5) (N := 8) (ci := 5) C 6 in_X5 rfl hit131 (by decide) ev493 (fun _ h9 => h9) rfl dX0_edit_168 ?_
          refine V_ifb_eq C 179 dX0_edit_171 (by decide) (fun k171 => ?_) (fun k171 => ?_)
          · refine V_sub ?_ (nxt1 (by omega) (by unfold nmQ; rw [o131]; dsimp only; simp [*]))
            repeat' (first | exact ls_e | refine ls_n ?_ | refine ls_s ?_ | refine ls_i ?_ ?_ | refine ls_v ?_ ?_)
          · refine V_iload C dX0_edit_174 rfl ?_
            refine V_if_eq C 190 dX0_edit_176 (by decide) (fun h => absurd h (by decide)) (fun _ => ?_)
            refine V_sub ?_ (nxt1 (by omega) (by unfold nmQ; rw [o131]; dsimp only; simp [*]))
            repeat' (first | exact ls_e | refine ls_n ?_ | refine ls_s ?_ | refine ls_i ?_ ?_ | refine ls_v ?_ ?_)
        · refine V_iload_n C dX0_edit_142 rfl rfl ?_
          refine V_iconst C 3 dX0_edit_143 (by decide) ?_
          refine V_nicmp_ne (x := k0) (y := 3) C 158 dX0_edit_144 (by decide) (by omega) (by omega) (fun k144 => ?_) (fun k144 => ?_)
          · refine V_iconst C 0 dX0_edit_158 (by decide) ?_
            refine V_istore (L' := [some (.ref dx), some (.int (nI r)), some (.int (nI k0)), some (.int (nI t0)), some (.int (nI s0)), some (.int (nI v0)), some (.ref a), some (.int (nI cv)), some (.int (nI (4 + i))), some (.ref (A 0 j131)), some (.int 0)]) C dX0_edit_159 (by decide) rfl ?_
            refine V_aload C dX0_edit_161 rfl ?_
            refine V_ifnull_R C dX0_edit_163 ?_
            refine V_aload C dX0_edit_166 rfl ?_
            refine V_getN (C0 := RX5) (T := TX5) (N := 8) (ci := 5) C 6 in_X5 rfl hit131 (by decide) ev493 (fun _ h9 => h9) rfl dX0_edit_168 ?_
            refine V_ifb_eq C 179 dX0_edit_171 (by decide) (fun k171 => ?_) (fun k171 => ?_)
            · refine V_sub ?_ (nxt1 (by omega) (by unfold nmQ; rw [o131]; dsimp only; simp [*]))
              repeat' (first | exact ls_e | refine ls_n ?_ | refine ls_s ?_ | refine ls_i ?_ ?_ | refine ls_v ?_ ?_)
            · refine V_iload C dX0_edit_174 rfl ?_
              refine V_if_eq C 190 dX0_edit_176 (by decide) (fun _ => ?_) (fun h => absurd (by decide) h)
              refine V_sub ?_ (nxt0 (by omega) (by unfold nmQ; rw [o131] <;> simp [*]))
              repeat' (first | exact ls_e | refine ls_n ?_ | refine ls_s ?_ | refine ls_i ?_ ?_ | refine ls_v ?_ ?_)
          · refine V_iload C dX0_edit_147 rfl ?_
            refine V_iload C dX0_edit_149 rfl ?_
            refine V_nicmp_ne (x := 4 + i) (y := s0) C 158 dX0_edit_151 (by decide) (by omega) (by omega) (fun k151 => ?_) (fun k151 => ?_)
            · refine V_iconst C 0 dX0_edit_158 (by decide) ?_
              refine V_istore (L' := [some (.ref dx), some (.int (nI r)), some (.int (nI k0)), some (.int (nI t0)), some (.int (nI s0)), some (.int (nI v0)), some (.ref a), some (.int (nI cv)), some (.int (nI (4 + i))), some (.ref (A 0 j131)), some (.int 0)]) C dX0_edit_159 (by decide) rfl ?_
              refine V_aload C dX0_edit_161 rfl ?_
              refine V_ifnull_R C dX0_edit_163 ?_
              refine V_aload C dX0_edit_166 rfl ?_
              refine V_getN (C0 := RX5) (T := TX5) (N := 8) (ci := 5) C 6 in_X5 rfl hit131 (by decide) ev493 (fun _ h9 => h9) rfl dX0_edit_168 ?_
              refine V_ifb_eq C 179 dX0_edit_171 (by decide) (fun k171 => ?_) (fun k171 => ?_)
              · refine V_sub ?_ (nxt1 (by omega) (by unfold nmQ; rw [o131]; dsimp only; simp [*]))
                repeat' (first | exact ls_e | refine ls_n ?_ | refine ls_s ?_ | refine ls_i ?_ ?_ | refine ls_v ?_ ?_)
              · refine V_iload C dX0_edit_174 rfl ?_
                refine V_if_eq C 190 dX0_edit_176 (by decide) (fun _ => ?_) (fun h => absurd (by decide) h)
                refine V_sub ?_ (nxt0 (by omega) (by unfold nmQ; rw [o131] <;> simp [*]))
                repeat' (first | exact ls_e | refine ls_n ?_ | refine ls_s ?_ | refine ls_i ?_ ?_ | refine ls_v ?_ ?_)
            · refine V_iconst C 1 dX0_edit_154 (by decide) ?_
              refine V_goto C 159 dX0_edit_155 (by decide) ?_
              refine V_istore (L' := [some (.ref dx), some (.int (nI r)), some (.int (nI k0)), some (.int (nI t0)), some (.int (nI s0)), some (.int (nI v0)), some (.ref a), some (.int (nI cv)), some (.int (nI (4 + i))), some (.ref (A 0 j131)), some (.int 1)]) C dX0_edit_159 (by decide) rfl ?_
              refine V_aload C dX0_edit_161 rfl ?_
              refine V_ifnull_R C dX0_edit_163 ?_
              refine V_aload C dX0_edit_166 rfl ?_
              refine V_getN (C0 := RX5) (T := TX5) (N := 8) (ci := 5) C 6 in_X5 rfl hit131 (by decide) ev493 (fun _ h9 => h9) rfl dX0_edit_168 ?_
              refine V_ifb_eq C 179 dX0_edit_171 (by decide) (fun k171 => ?_) (fun k171 => ?_)
              · refine V_sub ?_ (nxt1 (by omega) (by unfold nmQ; rw [o131]; dsimp only; simp [*]))
                repeat' (first | exact ls_e | refine ls_n ?_ | refine ls_s ?_ | refine ls_i ?_ ?_ | refine ls_v ?_ ?_)
              · refine V_iload C dX0_edit_174 rfl ?_
                refine V_if_eq C 190 dX0_edit_176 (by decide) (fun h => absurd h (by decide)) (fun _ => ?_)
                refine V_sub ?_ (nxt1 (by omega) (by unfold nmQ; rw [o131]; dsimp only; simp [*]))
                repeat' (first | exact ls_e | refine ls_n ?_ | refine ls_s ?_ | refine ls_i ?_ ?_ | refine ls_v ?_ ?_)
  have top : ¬ (16 ≤ ln + wt.length ∨ 40 < cv) → V p l e (rmOf 12 260 13000) s m ([.ref dx, .int (nI r), .int (nI k0), .int (nI t0), .int (nI s0), .int (nI v0)] : List Value).toArray below meth c (MQ below (Qp G b (pI (CedP G M g a da r ln lo fo wt k0 t0 s0 v0))) ([.ref dx, .int (nI r), .int (nI k0), .int (nI t0), .int (nI s0), .int (nI v0)] : List Value).toArray s 260 13000 (fun q => b ≤ q)) G b 11 0 0 67 [some (.ref dx), some (.int (nI r)), some (.int (nI k0)), some (.int (nI t0)), some (.int (nI s0)), some (.int (nI v0)), some (.ref a), some (.int (nI cv)), none, none, none] [] M := by
    intro hnf
    have hDr0 := hDr
    obtain ⟨dv, df, dmb, hda, -⟩ := hDr
    obtain ⟨r1e, r2e, r3e, r4e, r5e, r6e, r7e, r8e, r9e, r10e, r11e⟩ := id hR
    have rbe := r10e.2.2.1
    have rlne := r10e.1
    have rwle := r10e.2.1
    have rwoe := r4e.1
    obtain ⟨lmoe, lare, hlae⟩ := al_obj r2e
    obtain ⟨wmoe, ware, hwae⟩ := al_obj r3e
    refine V_aload_n C dX0_edit_67 rfl rfl ?_
    refine V_get (C0 := RX0) (T := TX0) (N := 3) (ci := 0) C 2 in_X0 rfl hD.1 (by decide) q163 (fun _ h9 => h9) rfl dX0_edit_68 ?_
    refine V_iconst C 0 dX0_edit_71 (by decide) ?_
    refine V_ofV (VR_V (As := [.int 0]) (rest := []) C (ct_J4_setLength l G b M 2 da cap 0 ds hDr0 (Nat.zero_le _)) hda rfl (lw_V q284 q285 q286 q43 q287) rfl nd_J4_setLength rfl (by decide) (by decide) dX0_edit_72 rfl ⟨by omega, by omega⟩ (Nat.le_of_ble_eq_true rfl)) (fun N0 hN0 => ?_)
    obtain ⟨hS0, hK0⟩ := hN0
    rw [List.take_zero] at hS0
    have hT0 := hS0
    obtain ⟨dv0, df0, dmb0, hda0, -⟩ := hS0
    have hd0 := hK0 _ _ _ hD.1 (by simp)
    refine V_aload_n C dX0_edit_75 rfl rfl ?_
    refine V_get (C0 := RX0) (T := TX0) (N := 3) (ci := 0) C 2 in_X0 rfl hd0 (by decide) q163 (fun _ h9 => h9) rfl dX0_edit_76 ?_
    refine V_iconst C 4 dX0_edit_79 (by decide) ?_
    refine V_iload C dX0_edit_80 rfl ?_
    refine V_imul C dX0_edit_82 ?_
    refine V_iload_n C dX0_edit_83 rfl rfl ?_
    refine V_iadd C dX0_edit_84 ?_
    refine V_top (y := (nI (4 * cv + r))) (by rw [nI_mul4, nI_add]) ?_
    refine V_i2c C (nI (4 * cv + r)) dX0_edit_85 (i2c_n (by omega)) ?_
    refine V_ofR (VR_V (As := [.int (nI (4 * cv + r))]) (rest := []) C (ct_J4_append l G b N0 2 da cap (4 * cv + r) [] hT0 (by omega) (Or.inl (by simp only [List.length_cons, List.length_nil]; omega))) hda0 rfl (lw_V q342 q343 q344 q43 q345) rfl nd_J4_append rfl (by decide) (by decide) dX0_edit_86 rfl ⟨by omega, by omega⟩ (Nat.le_of_ble_eq_true rfl)) (fun y1 N1 hN1 => ?_)
    obtain ⟨rfl, hS1, hK1⟩ := hN1
    rw [if_pos (by simp only [List.length_cons, List.length_nil]; omega)] at hS1
    have hT1 : SbAt G N1 2 da [4 * cv + r] cap := hS1
    obtain ⟨dv1, df1, dmb1, hda1, -⟩ := hS1
    have hd1 := hK1 _ _ _ hd0 (by simp)
    refine V_st (st1 := [.ref da]) rfl ?_
    refine V_iload_n C dX0_edit_89 rfl rfl ?_
    refine V_i2c C (nI (k0)) dX0_edit_90 (i2c_n (by omega)) ?_
    refine V_ofR (VR_V (As := [.int (nI (k0))]) (rest := []) C (ct_J4_append l G b N1 2 da cap (k0) [4 * cv + r] hT1 (by omega) (Or.inl (by simp only [List.length_cons, List.length_nil]; omega))) hda1 rfl (lw_V q342 q343 q344 q43 q345) rfl nd_J4_append rfl (by decide) (by decide) dX0_edit_91 rfl ⟨by omega, by omega⟩ (Nat.le_of_ble_eq_true rfl)) (fun y2 N2 hN2 => ?_)
    obtain ⟨rfl, hS2, hK2⟩ := hN2
    rw [if_pos (by simp only [List.length_cons, List.length_nil]; omega)] at hS2
    have hT2 : SbAt G N2 2 da [4 * cv + r, k0] cap := hS2
    obtain ⟨dv2, df2, dmb2, hda2, -⟩ := hS2
    have hd2 := hK2 _ _ _ hd1 (by simp)
    refine V_st (st1 := [.ref da]) rfl ?_
    refine V_iload_n C dX0_edit_94 rfl rfl ?_
    refine V_i2c C (nI (t0)) dX0_edit_95 (i2c_n (by omega)) ?_
    refine V_ofR (VR_V (As := [.int (nI (t0))]) (rest := []) C (ct_J4_append l G b N2 2 da cap (t0) [4 * cv + r, k0] hT2 (by omega) (Or.inl (by simp only [List.length_cons, List.length_nil]; omega))) hda2 rfl (lw_V q342 q343 q344 q43 q345) rfl nd_J4_append rfl (by decide) (by decide) dX0_edit_96 rfl ⟨by omega, by omega⟩ (Nat.le_of_ble_eq_true rfl)) (fun y3 N3 hN3 => ?_)
    obtain ⟨rfl, hS3, hK3⟩ := hN3
    rw [if_pos (by simp only [List.length_cons, List.length_nil]; omega)] at hS3
    have hT3 : SbAt G N3 2 da [4 * cv + r, k0, t0] cap := hS3
    obtain ⟨dv3, df3, dmb3, hda3, -⟩ := hS3
    have hd3 := hK3 _ _ _ hd2 (by simp)
    refine V_st (st1 := [.ref da]) rfl ?_
    refine V_iload C dX0_edit_99 rfl ?_
    refine V_i2c C (nI (s0)) dX0_edit_101 (i2c_n (by omega)) ?_
    refine V_ofR (VR_V (As := [.int (nI (s0))]) (rest := []) C (ct_J4_append l G b N3 2 da cap (s0) [4 * cv + r, k0, t0] hT3 (by omega) (Or.inl (by simp only [List.length_cons, List.length_nil]; omega))) hda3 rfl (lw_V q342 q343 q344 q43 q345) rfl nd_J4_append rfl (by decide) (by decide) dX0_edit_102 rfl ⟨by omega, by omega⟩ (Nat.le_of_ble_eq_true rfl)) (fun y4 N4 hN4 => ?_)
    obtain ⟨rfl, hS4, hK4⟩ := hN4
    rw [if_pos (by simp only [List.length_cons, List.length_nil]; omega)] at hS4
    have hT4 : SbAt G N4 2 da [4 * cv + r, k0, t0, s0] cap := hS4
    obtain ⟨dv4, df4, dmb4, hda4, -⟩ := hS4
    have hd4 := hK4 _ _ _ hd3 (by simp)
    refine V_st (st1 := [.ref da]) rfl ?_
    refine V_iload C dX0_edit_105 rfl ?_
    refine V_i2c C (nI (v0)) dX0_edit_107 (i2c_n (by omega)) ?_
    refine V_ofR (VR_V (As := [.int (nI (v0))]) (rest := []) C (ct_J4_append l G b N4 2 da cap (v0) [4 * cv + r, k0, t0, s0] hT4 (by omega) (Or.inl (by simp only [List.length_cons, List.length_nil]; omega))) hda4 rfl (lw_V q342 q343 q344 q43 q345) rfl nd_J4_append rfl (by decide) (by decide) dX0_edit_108 rfl ⟨by omega, by omega⟩ (Nat.le_of_ble_eq_true rfl)) (fun y5 N5 hN5 => ?_)
    obtain ⟨rfl, hS5, hK5⟩ := hN5
    rw [if_pos (by simp only [List.length_cons, List.length_nil]; omega)] at hS5
    have hT5 : SbAt G N5 2 da [4 * cv + r, k0, t0, s0, v0] cap := hS5
    obtain ⟨dv5, df5, dmb5, hda5, -⟩ := hS5
    have hd5 := hK5 _ _ _ hd4 (by simp)
    refine V_st (st1 := [.ref da]) rfl ?_
    refine V_iconst C 0 dX0_edit_111 (by decide) ?_
    refine V_ofR (VR_V (As := [.int 0]) (rest := []) C (ct_J4_append l G b N5 2 da cap (0) [4 * cv + r, k0, t0, s0, v0] hT5 (by omega) (Or.inl (by simp only [List.length_cons, List.length_nil]; omega))) hda5 rfl (lw_V q342 q343 q344 q43 q345) rfl nd_J4_append rfl (by decide) (by decide) dX0_edit_112 rfl ⟨by omega, by omega⟩ (Nat.le_of_ble_eq_true rfl)) (fun y6 N6 hN6 => ?_)
    obtain ⟨rfl, hS6, hK6⟩ := hN6
    rw [if_pos (by simp only [List.length_cons, List.length_nil]; omega)] at hS6
    have hT6 : SbAt G N6 2 da [4 * cv + r, k0, t0, s0, v0, 0] cap := hS6
    obtain ⟨dv6, df6, dmb6, hda6, -⟩ := hS6
    have hd6 := hK6 _ _ _ hd5 (by simp)
    refine V_st (st1 := [.ref da]) rfl ?_
    refine V_pop C dX0_edit_115 rfl ?_
    refine V_iconst C 4 dX0_edit_116 (by decide) ?_
    refine V_istore (L' := [some (.ref dx), some (.int (nI r)), some (.int (nI k0)), some (.int (nI t0)), some (.int (nI s0)), some (.int (nI v0)), some (.ref a), some (.int (nI cv)), some (.int 4), none, none]) C dX0_edit_117 (by decide) rfl ?_
    refine V_widen (k := 7 + 0) (n := 448 + 64 * 0) (by decide) (by decide) ?_
    refine V_sub ?_ (loop hnf 0 (Nat.zero_le _) N6 cap hT6 hcp (hK0.tr (hK1.tr (hK2.tr (hK3.tr (hK4.tr (hK5.tr hK6)))))))
    repeat' (first | exact ls_e | refine ls_n ?_ | refine ls_s ?_ | refine ls_i ?_ ?_ | refine ls_v ?_ ?_)
  obtain ⟨r1e, r2e, r3e, r4e, r5e, r6e, r7e, r8e, r9e, r10e, r11e⟩ := id hR
  have rbe := r10e.2.2.1
  have rlne := r10e.1
  have rwle := r10e.2.1
  have rwoe := r4e.1
  obtain ⟨lmoe, lare, hlae⟩ := al_obj r2e
  obtain ⟨wmoe, ware, hwae⟩ := al_obj r3e
  refine V_aload_n C dX0_edit_0 rfl rfl ?_
  refine V_iload_n C dX0_edit_1 rfl rfl ?_
  refine V_ofRe (VR_V (As := [.int (nI r)]) (rest := []) C (ct_X0_replica l G b M dx ra wa da rp hD r a hr hrp) hD.1 rfl (lw_V q175 q177 qs0 q36 q178) rfl nd_X0_replica rfl (by decide) (by decide) dX0_edit_2 rfl ⟨by omega, by omega⟩ (Nat.le_of_ble_eq_true rfl)) ?_
  refine V_astore (L' := [some (.ref dx), some (.int (nI r)), some (.int (nI k0)), some (.int (nI t0)), some (.int (nI s0)), some (.int (nI v0)), some (.ref a), none, none, none, none]) C dX0_edit_5 (by decide) rfl ?_
  refine V_aload C dX0_edit_7 rfl ?_
  refine V_ifnull_R C dX0_edit_9 ?_
  refine V_iload_n C dX0_edit_12 rfl rfl ?_
  refine V_iload_n C dX0_edit_13 rfl rfl ?_
  refine V_iload C dX0_edit_14 rfl ?_
  refine V_iload C dX0_edit_16 rfl ?_
  refine V_ofIe (VR_S (As := [.int (nI k0), .int (nI t0), .int (nI s0), .int (nI v0)]) (rest := []) C (ct_X0_wellShaped l G b M (nI k0) (nI t0) (nI s0) (nI v0)) (lw_S q179 q180 q36 q181) nd_X0_wellShaped rfl (by decide) (by decide) dX0_edit_18 rfl ⟨by omega, by omega⟩ (Nat.le_of_ble_eq_true rfl)) ?_
  refine V_ifb_eq C 36 dX0_edit_21 (by decide) (fun k21 => ?_) (fun k21 => ?_)
  · rw [hsh] at k21; cases k21
  · refine V_aload C dX0_edit_24 rfl ?_
    refine V_iload_n C dX0_edit_26 rfl rfl ?_
    refine V_iload_n C dX0_edit_27 rfl rfl ?_
    refine V_iload C dX0_edit_28 rfl ?_
    refine V_ofIe (VR_V (As := [.int (nI k0), .int (nI t0), .int (nI s0)]) (rest := []) C (ct_X1_fits l G b M g a ln lo P hi sh fo ch nx wt A wo hR (nI k0) (nI t0) (nI s0)) r1e rfl (lw_V q188 q189 q190 q37 q191) rfl nd_X1_fits rfl (by decide) (by decide) dX0_edit_30 rfl ⟨by omega, by omega⟩ (Nat.le_of_ble_eq_true rfl)) ?_
    refine V_ifb_ne C 38 dX0_edit_33 (by decide) (fun k33 => ?_) (fun k33 => ?_)
    · refine V_aload C dX0_edit_38 rfl ?_
      refine V_ofIe (VR_V (As := []) (rest := []) C (ct_X1_greatestCount l G b M g a ln lo P hi sh fo ch nx wt A wo hR) r1e rfl (lw_V q273 q274 q275 q37 q276) rfl nd_X1_greatestCount rfl (by decide) (by decide) dX0_edit_40 rfl ⟨by omega, by omega⟩ (Nat.le_of_ble_eq_true rfl)) ?_
      refine V_iconst C 1 dX0_edit_43 (by decide) ?_
      refine V_iadd C dX0_edit_44 ?_
      refine V_top (y := (nI (cgreat lo ln + 1))) (nI_add (cgreat lo ln) 1) ?_
      refine V_istore (L' := [some (.ref dx), some (.int (nI r)), some (.int (nI k0)), some (.int (nI t0)), some (.int (nI s0)), some (.int (nI v0)), some (.ref a), some (.int (nI (cgreat lo ln + 1))), none, none, none]) C dX0_edit_45 (by decide) rfl ?_
      refine V_aload C dX0_edit_47 rfl ?_
      refine V_ofIe (VR_V (As := []) (rest := []) C (ct_X1_size l G b M g a ln lo P hi sh fo ch nx wt A wo hR) r1e rfl (lw_V q280 q281 q282 q37 q283) rfl nd_X1_size rfl (by decide) (by decide) dX0_edit_49 rfl ⟨by omega, by omega⟩ (Nat.le_of_ble_eq_true rfl)) ?_
      refine V_bipush C 16 dX0_edit_52 (by decide) ?_
      refine V_nicmp_ge (x := ln + wt.length) (y := 16) C 64 dX0_edit_54 (by decide) (by omega) (by omega) (fun k54 => ?_) (fun k54 => ?_)
      · refine V_bipush C (-7) dX0_edit_64 (by decide) ?_
        exact V_iret C dX0_edit_66 (by omega) (by omega) ⟨_, rfl, Or.inl ⟨by omega, rfl, ⟨_, _, hDr, hcp⟩, Keep.rf⟩⟩
      · refine V_iload C dX0_edit_57 rfl ?_
        refine V_bipush C 40 dX0_edit_59 (by decide) ?_
        refine V_nicmp_le (x := cgreat lo ln + 1) (y := 40) C 67 dX0_edit_61 (by decide) (by omega) (by omega) (fun k61 => ?_) (fun k61 => ?_)
        · refine V_sub ?_ (top (by omega))
          repeat' (first | exact ls_e | refine ls_n ?_ | refine ls_s ?_ | refine ls_i ?_ ?_ | refine ls_v ?_ ?_)
          all_goals (rw [← hcv])
        · refine V_bipush C (-7) dX0_edit_64 (by decide) ?_
          exact V_iret C dX0_edit_66 (by omega) (by omega) ⟨_, rfl, Or.inl ⟨by omega, rfl, ⟨_, _, hDr, hcp⟩, Keep.rf⟩⟩
    · rw [hft] at k33; cases k33

