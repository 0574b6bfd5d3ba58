set_option maxRecDepth 100000
/-! THE MODEL, J: edit's walk -/
theorem getD_lt {L : List Nat} {B : Nat} (h : ∀ x ∈ L, x < B) (hB : 0 < B) (i : Nat) : L.getD i 0 < B := by
  rw [List.getD_eq_getElem?_getD]
  cases e : L[i]? with
  | none => exact hB
  | some v => exact h v (List.mem_of_getElem? e)
theorem ed_out {n : Nat} {po : Nat → Nat → Nat} {ap ft : Nat → Bool} {kd tg sl vl : Int32} (h : edB n po ap ft kd tg sl vl = true) : (kd ≠ 3 → kd ≠ 4 → ¬ sl < 0 ∧ sl ≤ 3) ∧ (kd = 4 → sl = 0) ∧ ¬ vl < 0 ∧ (vl ≤ if kd = 0 ∨ kd = 3 then 99 else 0) ∧ mfits n po ap ft kd tg sl = true := by
  unfold edB at h
  simp only [Bool.and_eq_true, Bool.or_eq_true, decide_eq_true_eq, Bool.not_eq_true', decide_eq_false_iff_not] at h
  obtain ⟨⟨⟨⟨⟨⟨h1, h2⟩, h3⟩, h4⟩, h5⟩, h6⟩, h7⟩ := h
  refine ⟨fun e3 e4 => ?_, fun e4 => ?_, h5, h6, h7⟩
  · rcases h3 with (z | z) | z
    · exact absurd z e3
    · exact absurd z e4
    · exact z
  · rcases h4 with z | z
    · exact absurd e4 z
    · exact z
theorem ed_in {n : Nat} {po : Nat → Nat → Nat} {ap ft : Nat → Bool} {kd tg sl vl : Int32} (h1 : ¬ kd < 0) (h2 : kd ≤ 5) (h3 : kd = 3 ∨ kd = 4 ∨ (¬ sl < 0 ∧ sl ≤ 3)) (h4 : kd = 4 → sl = 0) (h5 : ¬ vl < 0) (h6 : vl ≤ if kd = 0 ∨ kd = 3 then 99 else 0) (h7 : mfits n po ap ft kd tg sl = true) : edB n po ap ft kd tg sl vl = true := by
  unfold edB
  simp only [Bool.and_eq_true, Bool.or_eq_true, decide_eq_true_eq, Bool.not_eq_true', decide_eq_false_iff_not]
  refine ⟨⟨⟨⟨⟨⟨h1, h2⟩, ?_⟩, ?_⟩, h5⟩, h6⟩, h7⟩
  · rcases h3 with z | z | z
    · exact Or.inl (Or.inl z)
    · exact Or.inl (Or.inr z)
    · exact Or.inr z
  · by_cases e : kd = 4
    · exact Or.inr (h4 e)
    · exact Or.inl e
theorem edN_lt {r cv : Nat} {kd tg sl vl : Int32} {nm : List Nat} (hr : r ≤ 2) (hc : cv ≤ 40) (hnm : ∀ x ∈ nm, x < 256) (hl : nm.length ≤ 6) {k0 t0 s0 v0 : Nat} (h1 : k0 ≤ 5) (h2 : t0 < 256) (h3 : s0 < 256) (h4 : v0 < 100) (e1 : kd = nI k0) (e2 : tg = nI t0) (e3 : sl = nI s0) (e4 : vl = nI v0) : ∀ f, edN r cv kd tg sl vl nm f < 256 := by
  intro f
  unfold edN
  refine getD_lt (fun x hx => ?_) (by decide) f
  rw [e1, e2, e3, e4, nI_clamp (by omega), nI_clamp (by omega), nI_clamp (by omega), nI_clamp (by omega)] at hx
  simp only [List.cons_append, List.nil_append, List.mem_cons] at hx
  rcases hx with z | z | z | z | z | z | z
  · omega
  · omega
  · omega
  · omega
  · omega
  · omega
  · exact hnm x z
theorem ct_X3_edit (l : Launch) (G : mp_G) (b : Nat) (M : mp_M) (a : Nat) (ad : Nat → Nat) (S : Nat → Nat → Int32) (r n : Nat) (po : Nat → Nat → Nat) (ap : Nat → Bool) (hS : MdAt G M a ad S) (hV : Vw S r n po ap) (od : List Nat) (hO : OrV S r od) (hok : OdOk n ap od) (kd tg sl vl : Int32) : Ct l yX3_edit cX3_edit 12 (some .int) 4 0 0 G b ([.ref a, .int (nI r), .int kd, .int tg, .int sl, .int vl] : List Value) M (pI (EdPost G M a ad S r n po ap od kd tg sl vl)) := by
  have hr := hV.1
  have hn := hV.2.1
  have hpo := hV.2.2.2.2.2.1
  have hl0 := hok.len
  refine Ct.ofV (by decide) (vc_ref (vc_int (vc_int (vc_int (vc_int (vc_int vc_nil)))))) (Nat.le_of_ble_eq_true rfl) ?_
  intro p e s m below meth c C hnm
  refine V_L (L1 := [some (.ref a), some (.int (nI r)), some (.int kd), some (.int tg), some (.int sl), some (.int vl), none, none, none, none, none, none]) rfl ?_
  have fin : edB n po ap (stA n po ap).1 kd tg sl vl = true → n < 16 → (nmL (nmP n po ap kd tg sl) 159).length ≤ 6 → cnV n po ap 159 ≤ 40 → ∀ M2 S2, MdAt G M2 a ad S2 → Ag [7, 8, 9, 11] S S2 → S2 7 0 = nI r → (∀ t x, (nmL (nmP n po ap kd tg sl) 159)[t]? = some x → S2 11 (6 + t) = nI x) → KeepG 9 M M2 → V p l e (rmOf 4 0 0) s m ([.ref a, .int (nI r), .int kd, .int tg, .int sl, .int vl] : List Value).toArray below meth c (MQ below (Qp G b (pI (EdPost G M a ad S r n po ap od kd tg sl vl))) ([.ref a, .int (nI r), .int kd, .int tg, .int sl, .int vl] : List Value).toArray s 0 0 (fun q => b ≤ q)) G b 12 0 0 231 [some (.ref a), some (.int (nI r)), some (.int kd), some (.int tg), some (.int sl), some (.int vl), none, none, some (.int (nI (cnV n po ap 159))), some (.int (nI (nmL (nmP n po ap kd tg sl) 159).length)), none, none] [] M2 := by
    intro hed hn16 hnm6 hcv M2 S2 hS2 hA2 hme2 hfr hK2
    obtain ⟨k0, t0, s0, v0, hk0, ht0, hs0, hv0, ekd, etg, esl, evl⟩ := ed_nat hpo hed
    have h12 : S2 1 r = nI n := by rw [hA2 1 (by decide)]; exact hV.2.2.1
    have hnb := edN_lt (r := r) (cv := cnV n po ap 159) (nm := (nmL (nmP n po ap kd tg sl) 159)) hr hcv (fun x hx => by have := nm_lt hx; omega) hnm6 hk0 ht0 hs0 hv0 ekd etg esl evl
    have hnb6 : edN r (cnV n po ap 159) kd tg sl vl (nmL (nmP n po ap kd tg sl) 159) 5 ≤ 6 := hnm6
    generalize hnbE : edN r (cnV n po ap 159) kd tg sl vl (nmL (nmP n po ap kd tg sl) 159) = nb at hnb hnb6
    have hb0 : nb 0 = 4 * cnV n po ap 159 + r := by rw [← hnbE]; rfl
    have hb1 : nI (nb 1) = kd := by rw [← hnbE, ekd]; show nI ((nI k0).toNatClampNeg) = nI k0; rw [nI_clamp (by omega)]
    have hb2 : nI (nb 2) = tg := by rw [← hnbE, etg]; show nI ((nI t0).toNatClampNeg) = nI t0; rw [nI_clamp (by omega)]
    have hb3 : nI (nb 3) = sl := by rw [← hnbE, esl]; show nI ((nI s0).toNatClampNeg) = nI s0; rw [nI_clamp (by omega)]
    have hb4 : nI (nb 4) = vl := by rw [← hnbE, evl]; show nI ((nI v0).toNatClampNeg) = nI v0; rw [nI_clamp (by omega)]
    have hb5 : nb 5 = (nmL (nmP n po ap kd tg sl) 159).length := by rw [← hnbE]; rfl
    have hb6 : ∀ t x, (nmL (nmP n po ap kd tg sl) 159)[t]? = some x → nb (6 + t) = x := by
      intro t x ht
      rw [← hnbE]
      show ([4 * cnV n po ap 159 + r, kd.toNatClampNeg, tg.toNatClampNeg, sl.toNatClampNeg, vl.toNatClampNeg, (nmL (nmP n po ap kd tg sl) 159).length] ++ (nmL (nmP n po ap kd tg sl) 159)).getD (6 + t) 0 = x
      rw [List.getD_eq_getElem?_getD, List.getElem?_append_right (by simp), show 6 + t - [4 * cnV n po ap 159 + r, kd.toNatClampNeg, tg.toNatClampNeg, sl.toNatClampNeg, vl.toNatClampNeg, (nmL (nmP n po ap kd tg sl) 159).length].length = t by simp, ht]
      rfl
    have last : ∀ M5 S5, MdAt G M5 a ad S5 → Ag [0, 1, 2, 7, 8, 9, 11] S S5 → S5 7 0 = nI r → S5 1 r = nI (n + 1) → (∀ i, i ≠ r → S5 1 i = S 1 i) → S5 2 (16 * r + n) = bI false → (∀ i, i ≠ 16 * r + n → S5 2 i = S 2 i) → (∀ f, f < 6 + nb 5 → S5 0 ((12 * (16 * r + n)) + f) = nI (nb f)) → (∀ i, ¬ ((12 * (16 * r + n)) ≤ i ∧ i < (12 * (16 * r + n)) + 12) → S5 0 i = S 0 i) → KeepG 9 M M5 → V p l e (rmOf 4 0 0) s m ([.ref a, .int (nI r), .int kd, .int tg, .int sl, .int vl] : List Value).toArray below meth c (MQ below (Qp G b (pI (EdPost G M a ad S r n po ap od kd tg sl vl))) ([.ref a, .int (nI r), .int kd, .int tg, .int sl, .int vl] : List Value).toArray s 0 0 (fun q => b ≤ q)) G b 12 0 0 379 [some (.ref a), some (.int (nI r)), some (.int kd), some (.int tg), some (.int sl), some (.int vl), none, none, some (.int (nI (cnV n po ap 159))), none, none, none] [] M5 := by
      intro M5 S5 hS5 hA5 hme5 h15 h15' h25 h25' h05 h05' hK5
      have hV5 : Vw S5 r (n + 1) (poA po n nb) (apA ap n) := vw_add hV hn16 hnb6 hnb h15 h05 h05' h25 h25'
      have hO5 : OrV S5 r od := by
        unfold OrV
        rw [hA5 4 (by decide), hA5 3 (by decide)]
        exact hO
      have hF5 : FrR r S S5 := ⟨hA5 5 (by decide), hA5 6 (by decide), fun i hi => h05' i (by omega), h15', fun i hi => ⟨h25' i (by omega), by rw [hA5 3 (by decide)]⟩, fun i hi => by rw [hA5 4 (by decide)]⟩
      obtain ⟨hmxa, hmx0, hmx1, hmx2, hmx3, hmx4, hmx5, hmx8, hmx9, hmx10, hmx11⟩ := id hS5
      rw [hme5] at hmxa
      refine V_aload_n C dX3_edit_379 rfl rfl ?_
      refine V_aload_n C dX3_edit_380 rfl rfl ?_
      refine V_get (C0 := RX3) (T := TX3) (N := 12) (ci := 3) C 1 in_X3 rfl hmxa (by decide) q822 (fun _ h9 => h9) rfl dX3_edit_381 ?_
      refine V_iload_n C dX3_edit_384 rfl rfl ?_
      refine V_iald C hmx1 (pk_in r 3 (by omega)) dX3_edit_385 ?_
      refine V_top (y := (nI (n + 1))) (by rw [nI_clamp (n := r) (by omega)]; exact h15) ?_
      refine V_iconst C 1 dX3_edit_386 (by decide) ?_
      refine V_isub C dX3_edit_387 ?_
      refine V_top (y := (nI (n + 1 - 1))) (pk_sub (a := n + 1) (b := 1) (by omega)) ?_
      refine V_top (y := nI n) (by rw [show n + 1 - 1 = n by omega]) ?_
      refine V_ofV (VR_V (As := [.int (nI n)]) (rest := []) C (ct_X3_apply l G b M5 a ad S5 r n od.length hS5 hme5 hr hO5.1 (by omega) (by omega)) hmxa rfl (lw_V q899 q901 qs17 q46 q902) rfl nd_X3_apply rfl (by decide) (by decide) dX3_edit_388 rfl ⟨by decide, by decide⟩ (Nat.le_of_ble_eq_true rfl)) (fun M6 hM6 => ?_)
      obtain ⟨hS6, hK6⟩ := hM6
      have hV6 := apS_vw (j := n) (ln := od.length) hV5
      have hO6 := apS_or (j := n) hO5
      have hok6 := (odok_add hok).push (j := n) (by omega) (by unfold apA; rw [if_pos rfl])
      obtain ⟨hm6a, -⟩ := id hS6
      refine V_aload_n C dX3_edit_391 rfl rfl ?_
      refine V_ofI (VR_V (As := []) (rest := []) C (ct_X3_settle l G b M6 a ad _ r (n + 1) (poA po n nb) _ hS6 hme5 hV6 _ hO6 hok6) hm6a rfl (lw_V q903 q905 qs18 q46 q906) rfl nd_X3_settle rfl (by decide) (by decide) dX3_edit_392 rfl ⟨by decide, by decide⟩ (Nat.le_of_ble_eq_true rfl)) (fun y7 M7 hM7 => ?_)
      obtain ⟨-, S7, hS7, hF7, hV7, hO7, hok7, hK7⟩ := hM7
      refine V_pop C dX3_edit_395 rfl ?_
      refine V_iconst C 4 dX3_edit_396 (by decide) ?_
      refine V_iload C dX3_edit_397 rfl ?_
      refine V_imul C dX3_edit_399 ?_
      refine V_top (y := (nI (4 * (cnV n po ap 159)))) (pk_mul 4 (cnV n po ap 159)) ?_
      refine V_iload_n C dX3_edit_400 rfl rfl ?_
      refine V_iadd C dX3_edit_401 ?_
      refine V_top (y := (nI (4 * (cnV n po ap 159) + r))) (nI_add (4 * (cnV n po ap 159)) r) ?_
      refine V_iret C dX3_edit_402 (by decide) (by decide) ⟨_, rfl, ?_⟩
      unfold EdPost
      rw [if_neg (bne hed), if_neg (by omega)]
      exact ⟨rfl, S7, hS7, hF7.frR ((apS_fr (by omega) (by omega)).frR hF5), ⟨poA po n nb, _, by rw [hnbE], rfl, hV7, hO7, hok7⟩, hK5.tr (hK6.tr hK7)⟩
    have copy : ∀ k, k ≤ (nmL (nmP n po ap kd tg sl) 159).length → ∀ M3 S3, MdAt G M3 a ad S3 → Ag [0, 7, 8, 9, 11] S S3 → S3 7 0 = nI r → (∀ t x, (nmL (nmP n po ap kd tg sl) 159)[t]? = some x → S3 11 (6 + t) = nI x) → (∀ f, f < 6 + k → S3 0 ((12 * (16 * r + n)) + f) = nI (nb f)) → (∀ i, ¬ ((12 * (16 * r + n)) ≤ i ∧ i < (12 * (16 * r + n)) + 12) → S3 0 i = S 0 i) → KeepG 9 M M3 → V p l e (rmOf 4 0 0) s m ([.ref a, .int (nI r), .int kd, .int tg, .int sl, .int vl] : List Value).toArray below meth c (MQ below (Qp G b (pI (EdPost G M a ad S r n po ap od kd tg sl vl))) ([.ref a, .int (nI r), .int kd, .int tg, .int sl, .int vl] : List Value).toArray s 0 0 (fun q => b ≤ q)) G b 12 0 0 316 [some (.ref a), some (.int (nI r)), some (.int kd), some (.int tg), some (.int sl), some (.int vl), none, none, some (.int (nI (cnV n po ap 159))), some (.int (nI (nmL (nmP n po ap kd tg sl) 159).length)), some (.int (nI (12 * (16 * r + n)))), some (.int (nI k))] [] M3 := by
      refine up_ind (nmL (nmP n po ap kd tg sl) 159).length ?_
      intro k hk ih M3 S3 hS3 hA3 hme3 hfr3 hb3 hc3 hK3
      have h13 : S3 1 r = nI n := by rw [hA3 1 (by decide)]; exact hV.2.2.1
      obtain ⟨hmva, hmv0, hmv1, hmv2, hmv3, hmv4, hmv5, hmv8, hmv9, hmv10, hmv11⟩ := id hS3
      rw [hme3] at hmva
      refine V_iload C dX3_edit_316 rfl ?_
      refine V_iload C dX3_edit_318 rfl ?_
      refine V_nicmp_ge (x := k) (y := (nmL (nmP n po ap kd tg sl) 159).length) C 352 dX3_edit_320 (by decide) (by omega) (by omega) (fun q320 => ?_) (fun q320 => ?_)
      · refine V_aload_n C dX3_edit_352 rfl rfl ?_
        refine V_get (C0 := RX3) (T := TX3) (N := 12) (ci := 3) C 2 in_X3 rfl hmva (by decide) q823 (fun _ h9 => h9) rfl dX3_edit_353 ?_
        refine V_bipush C 16 dX3_edit_356 (by decide) ?_
        refine V_iload_n C dX3_edit_358 rfl rfl ?_
        refine V_imul C dX3_edit_359 ?_
        refine V_top (y := (nI (16 * r))) (pk_mul 16 r) ?_
        refine V_aload_n C dX3_edit_360 rfl rfl ?_
        refine V_get (C0 := RX3) (T := TX3) (N := 12) (ci := 3) C 1 in_X3 rfl hmva (by decide) q822 (fun _ h9 => h9) rfl dX3_edit_361 ?_
        refine V_iload_n C dX3_edit_364 rfl rfl ?_
        refine V_iald C hmv1 (pk_in r 3 (by omega)) dX3_edit_365 ?_
        refine V_top (y := (nI n)) (by rw [nI_clamp (n := r) (by omega)]; exact h13) ?_
        refine V_iadd C dX3_edit_366 ?_
        refine V_top (y := (nI (16 * r + n))) (nI_add (16 * r) n) ?_
        refine V_iconst C 0 dX3_edit_367 (by decide) ?_
        refine V_M (V_zast C hmv2 (pk_in (16 * r + n) 48 (by omega)) dX3_edit_368) (fun M__1 eM__1 => ?_)
        rw [nI_clamp (n := 16 * r + n) (by omega), show vp_nar .boolean (0 : Int32) = (bI false) from by decide] at eM__1
        have h__2 := mp_got eM__1
        have h__3 := mp_keep eM__1 hmva hmv2 (by first | assumption | exact Ne.symm (by assumption) | simp | (intro h; simp at h; omega))
        have h__4 := mp_keep eM__1 hmv0 hmv2 (by first | assumption | exact Ne.symm (by assumption) | simp | (intro h; simp at h; omega))
        have h__5 := mp_keep eM__1 hmv1 hmv2 (by first | assumption | exact Ne.symm (by assumption) | simp | (intro h; simp at h; omega))
        have h__6 := mp_keep eM__1 hmv3 hmv2 (by first | assumption | exact Ne.symm (by assumption) | simp | (intro h; simp at h; omega))
        have h__7 := mp_keep eM__1 hmv4 hmv2 (by first | assumption | exact Ne.symm (by assumption) | simp | (intro h; simp at h; omega))
        have h__8 := mp_keep eM__1 hmv5 hmv2 (by first | assumption | exact Ne.symm (by assumption) | simp | (intro h; simp at h; omega))
        have h__9 := mp_keep eM__1 hmv8 hmv2 (by first | assumption | exact Ne.symm (by assumption) | simp | (intro h; simp at h; omega))
        have h__10 := mp_keep eM__1 hmv9 hmv2 (by first | assumption | exact Ne.symm (by assumption) | simp | (intro h; simp at h; omega))
        have h__11 := mp_keep eM__1 hmv10 hmv2 (by first | assumption | exact Ne.symm (by assumption) | simp | (intro h; simp at h; omega))
        have h__12 := mp_keep eM__1 hmv11 hmv2 (by first | assumption | exact Ne.symm (by assumption) | simp | (intro h; simp at h; omega))
        refine V_aload_n C dX3_edit_369 rfl rfl ?_
        refine V_get (C0 := RX3) (T := TX3) (N := 12) (ci := 3) C 1 in_X3 rfl h__3 (by decide) q822 (fun _ h9 => h9) rfl dX3_edit_370 ?_
        refine V_iload_n C dX3_edit_373 rfl rfl ?_
        refine V_dup2 C dX3_edit_374 rfl rfl ?_
        refine V_iald C h__5 (pk_in r 3 (by omega)) dX3_edit_375 ?_
        refine V_top (y := (nI n)) (by rw [nI_clamp (n := r) (by omega)]; exact h13) ?_
        refine V_iconst C 1 dX3_edit_376 (by decide) ?_
        refine V_iadd C dX3_edit_377 ?_
        refine V_top (y := (nI (n + 1))) (nI_add n 1) ?_
        refine V_M (V_iast C h__5 (pk_in r 3 (by omega)) dX3_edit_378) (fun M__13 eM__13 => ?_)
        rw [nI_clamp (n := r) (by omega)] at eM__13
        have h__14 := mp_got eM__13
        have h__15 := mp_keep eM__13 h__3 h__5 (by first | assumption | exact Ne.symm (by assumption) | simp | (intro h; simp at h; omega))
        have h__16 := mp_keep eM__13 h__4 h__5 (by first | assumption | exact Ne.symm (by assumption) | simp | (intro h; simp at h; omega))
        have h__17 := mp_keep eM__13 h__2 h__5 (by first | assumption | exact Ne.symm (by assumption) | simp | (intro h; simp at h; omega))
        have h__18 := mp_keep eM__13 h__6 h__5 (by first | assumption | exact Ne.symm (by assumption) | simp | (intro h; simp at h; omega))
        have h__19 := mp_keep eM__13 h__7 h__5 (by first | assumption | exact Ne.symm (by assumption) | simp | (intro h; simp at h; omega))
        have h__20 := mp_keep eM__13 h__8 h__5 (by first | assumption | exact Ne.symm (by assumption) | simp | (intro h; simp at h; omega))
        have h__21 := mp_keep eM__13 h__9 h__5 (by first | assumption | exact Ne.symm (by assumption) | simp | (intro h; simp at h; omega))
        have h__22 := mp_keep eM__13 h__10 h__5 (by first | assumption | exact Ne.symm (by assumption) | simp | (intro h; simp at h; omega))
        have h__23 := mp_keep eM__13 h__11 h__5 (by first | assumption | exact Ne.symm (by assumption) | simp | (intro h; simp at h; omega))
        have h__24 := mp_keep eM__13 h__12 h__5 (by first | assumption | exact Ne.symm (by assumption) | simp | (intro h; simp at h; omega))
        obtain ⟨hS4, hK4⟩ := md_f2 hS3 eM__1
        obtain ⟨hS5, hK5⟩ := md_f1 hS4 eM__13
        refine V_sub ?_ (last _ _ hS5 (hA3.mono (by decide) |>.tr ((Ag.f (by decide)).tr (Ag.f (by decide)))) hme3 (by rw [sF_eq, pk_us]) (fun i hi => by rw [sF_eq, pk_un hi]; show S3 1 i = S 1 i; rw [hA3 1 (by decide)]) (by show upd (S3 2) (16 * r + n) (bI false) (16 * r + n) = bI false; rw [pk_us]) (fun i hi => by show upd (S3 2) (16 * r + n) (bI false) i = S 2 i; rw [pk_un hi, hA3 2 (by decide)]) (fun f hf => hb3 f (by omega)) hc3 (hK3.tr (hK4.tr hK5)))
        repeat' (first | exact ls_e | refine ls_n ?_ | refine ls_s ?_ | refine ls_i ?_ ?_ | refine ls_v ?_ ?_)
      · refine V_aload_n C dX3_edit_323 rfl rfl ?_
        refine V_get (C0 := RX3) (T := TX3) (N := 12) (ci := 3) C 0 in_X3 rfl hmva (by decide) q821 (fun _ h9 => h9) rfl dX3_edit_324 ?_
        refine V_iload C dX3_edit_327 rfl ?_
        refine V_bipush C 6 dX3_edit_329 (by decide) ?_
        refine V_iadd C dX3_edit_331 ?_
        refine V_top (y := (nI (12 * (16 * r + n) + 6))) (nI_add (12 * (16 * r + n)) 6) ?_
        refine V_iload C dX3_edit_332 rfl ?_
        refine V_iadd C dX3_edit_334 ?_
        refine V_top (y := (nI (12 * (16 * r + n) + 6 + k))) (nI_add (12 * (16 * r + n) + 6) k) ?_
        refine V_aload_n C dX3_edit_335 rfl rfl ?_
        refine V_get (C0 := RX3) (T := TX3) (N := 12) (ci := 3) C 11 in_X3 rfl hmva (by decide) q832 (fun _ h9 => h9) rfl dX3_edit_336 ?_
        refine V_bipush C 6 dX3_edit_339 (by decide) ?_
        refine V_iload C dX3_edit_341 rfl ?_
        refine V_iadd C dX3_edit_343 ?_
        refine V_top (y := (nI (6 + k))) (nI_add 6 k) ?_
        refine V_iald C hmv11 (pk_in (6 + k) 24 (by omega)) dX3_edit_344 ?_
        refine V_top (y := (nI (nb (6 + k)))) (by rw [nI_clamp (n := 6 + k) (by omega)]; exact (by have q := List.getElem?_eq_getElem (l := (nmL (nmP n po ap kd tg sl) 159)) (i := k) (by omega); rw [hfr3 k _ q, hb6 k _ q])) ?_
        refine V_M (V_iast C hmv0 (pk_in (12 * (16 * r + n) + 6 + k) 576 (by omega)) dX3_edit_345) (fun M__25 eM__25 => ?_)
        rw [nI_clamp (n := 12 * (16 * r + n) + 6 + k) (by omega)] at eM__25
        have h__26 := mp_got eM__25
        have h__27 := mp_keep eM__25 hmva hmv0 (by first | assumption | exact Ne.symm (by assumption) | simp | (intro h; simp at h; omega))
        have h__28 := mp_keep eM__25 hmv1 hmv0 (by first | assumption | exact Ne.symm (by assumption) | simp | (intro h; simp at h; omega))
        have h__29 := mp_keep eM__25 hmv2 hmv0 (by first | assumption | exact Ne.symm (by assumption) | simp | (intro h; simp at h; omega))
        have h__30 := mp_keep eM__25 hmv3 hmv0 (by first | assumption | exact Ne.symm (by assumption) | simp | (intro h; simp at h; omega))
        have h__31 := mp_keep eM__25 hmv4 hmv0 (by first | assumption | exact Ne.symm (by assumption) | simp | (intro h; simp at h; omega))
        have h__32 := mp_keep eM__25 hmv5 hmv0 (by first | assumption | exact Ne.symm (by assumption) | simp | (intro h; simp at h; omega))
        have h__33 := mp_keep eM__25 hmv8 hmv0 (by first | assumption | exact Ne.symm (by assumption) | simp | (intro h; simp at h; omega))
        have h__34 := mp_keep eM__25 hmv9 hmv0 (by first | assumption | exact Ne.symm (by assumption) | simp | (intro h; simp at h; omega))
        have h__35 := mp_keep eM__25 hmv10 hmv0 (by first | assumption | exact Ne.symm (by assumption) | simp | (intro h; simp at h; omega))
        have h__36 := mp_keep eM__25 hmv11 hmv0 (by first | assumption | exact Ne.symm (by assumption) | simp | (intro h; simp at h; omega))
        refine V_iinc (v := (nI (k + 1))) (L' := [some (.ref a), some (.int (nI r)), some (.int kd), some (.int tg), some (.int sl), some (.int vl), none, none, some (.int (nI (cnV n po ap 159))), some (.int (nI (nmL (nmP n po ap kd tg sl) 159).length)), some (.int (nI (12 * (16 * r + n)))), some (.int (nI (k + 1)))]) C dX3_edit_346 rfl (nI_1 _) (by decide) rfl ?_
        refine V_goto C 316 dX3_edit_349 (by decide) ?_
        obtain ⟨hS4, hK4⟩ := md_f0 hS3 eM__25
        refine V_sub ?_ (ih (by omega) _ _ hS4 (hA3.tr (Ag.f (by decide))) hme3 hfr3 (fun f hf => ?_) (fun i hi => ?_) (hK3.tr hK4))
        · repeat' (first | exact ls_e | refine ls_n ?_ | refine ls_s ?_ | refine ls_i ?_ ?_ | refine ls_v ?_ ?_)
        · rw [sF_eq]; unfold upd; split; (rename_i z; rw [show f = 6 + k by omega]); (rename_i z; exact hb3 f (by omega))
        · rw [sF_eq, pk_un (by omega)]; exact hc3 i hi
    obtain ⟨hmya, hmy0, hmy1, hmy2, hmy3, hmy4, hmy5, hmy8, hmy9, hmy10, hmy11⟩ := id hS2
    rw [hme2] at hmya
    refine V_bipush C 12 dX3_edit_231 (by decide) ?_
    refine V_bipush C 16 dX3_edit_233 (by decide) ?_
    refine V_iload_n C dX3_edit_235 rfl rfl ?_
    refine V_imul C dX3_edit_236 ?_
    refine V_top (y := (nI (16 * r))) (pk_mul 16 r) ?_
    refine V_aload_n C dX3_edit_237 rfl rfl ?_
    refine V_get (C0 := RX3) (T := TX3) (N := 12) (ci := 3) C 1 in_X3 rfl hmya (by decide) q822 (fun _ h9 => h9) rfl dX3_edit_238 ?_
    refine V_iload_n C dX3_edit_241 rfl rfl ?_
    refine V_iald C hmy1 (pk_in r 3 (by omega)) dX3_edit_242 ?_
    refine V_top (y := (nI n)) (by rw [nI_clamp (n := r) (by omega)]; exact h12) ?_
    refine V_iadd C dX3_edit_243 ?_
    refine V_top (y := (nI (16 * r + n))) (nI_add (16 * r) n) ?_
    refine V_imul C dX3_edit_244 ?_
    refine V_top (y := (nI (12 * (16 * r + n)))) (pk_mul 12 (16 * r + n)) ?_
    refine V_istore (L' := [some (.ref a), some (.int (nI r)), some (.int kd), some (.int tg), some (.int sl), some (.int vl), none, none, some (.int (nI (cnV n po ap 159))), some (.int (nI (nmL (nmP n po ap kd tg sl) 159).length)), some (.int (nI (12 * (16 * r + n)))), none]) C dX3_edit_245 (by decide) rfl ?_
    refine V_aload_n C dX3_edit_247 rfl rfl ?_
    refine V_get (C0 := RX3) (T := TX3) (N := 12) (ci := 3) C 0 in_X3 rfl hmya (by decide) q821 (fun _ h9 => h9) rfl dX3_edit_248 ?_
    refine V_iload C dX3_edit_251 rfl ?_
    refine V_iconst C 4 dX3_edit_253 (by decide) ?_
    refine V_iload C dX3_edit_254 rfl ?_
    refine V_imul C dX3_edit_256 ?_
    refine V_top (y := (nI (4 * (cnV n po ap 159)))) (pk_mul 4 (cnV n po ap 159)) ?_
    refine V_iload_n C dX3_edit_257 rfl rfl ?_
    refine V_iadd C dX3_edit_258 ?_
    refine V_top (y := (nI (4 * (cnV n po ap 159) + r))) (nI_add (4 * (cnV n po ap 159)) r) ?_
    refine V_M (V_iast C hmy0 (pk_in (12 * (16 * r + n)) 576 (by omega)) dX3_edit_259) (fun M__37 eM__37 => ?_)
    rw [nI_clamp (n := 12 * (16 * r + n)) (by omega)] at eM__37
    have h__38 := mp_got eM__37
    have h__39 := mp_keep eM__37 hmya hmy0 (by first | assumption | exact Ne.symm (by assumption) | simp | (intro h; simp at h; omega))
    have h__40 := mp_keep eM__37 hmy1 hmy0 (by first | assumption | exact Ne.symm (by assumption) | simp | (intro h; simp at h; omega))
    have h__41 := mp_keep eM__37 hmy2 hmy0 (by first | assumption | exact Ne.symm (by assumption) | simp | (intro h; simp at h; omega))
    have h__42 := mp_keep eM__37 hmy3 hmy0 (by first | assumption | exact Ne.symm (by assumption) | simp | (intro h; simp at h; omega))
    have h__43 := mp_keep eM__37 hmy4 hmy0 (by first | assumption | exact Ne.symm (by assumption) | simp | (intro h; simp at h; omega))
    have h__44 := mp_keep eM__37 hmy5 hmy0 (by first | assumption | exact Ne.symm (by assumption) | simp | (intro h; simp at h; omega))
    have h__45 := mp_keep eM__37 hmy8 hmy0 (by first | assumption | exact Ne.symm (by assumption) | simp | (intro h; simp at h; omega))
    have h__46 := mp_keep eM__37 hmy9 hmy0 (by first | assumption | exact Ne.symm (by assumption) | simp | (intro h; simp at h; omega))
    have h__47 := mp_keep eM__37 hmy10 hmy0 (by first | assumption | exact Ne.symm (by assumption) | simp | (intro h; simp at h; omega))
    have h__48 := mp_keep eM__37 hmy11 hmy0 (by first | assumption | exact Ne.symm (by assumption) | simp | (intro h; simp at h; omega))
    refine V_aload_n C dX3_edit_260 rfl rfl ?_
    refine V_get (C0 := RX3) (T := TX3) (N := 12) (ci := 3) C 0 in_X3 rfl h__39 (by decide) q821 (fun _ h9 => h9) rfl dX3_edit_261 ?_
    refine V_iload C dX3_edit_264 rfl ?_
    refine V_iconst C 1 dX3_edit_266 (by decide) ?_
    refine V_iadd C dX3_edit_267 ?_
    refine V_top (y := (nI (12 * (16 * r + n) + 1))) (nI_add (12 * (16 * r + n)) 1) ?_
    refine V_iload_n C dX3_edit_268 rfl rfl ?_
    refine V_M (V_iast C h__38 (pk_in (12 * (16 * r + n) + 1) 576 (by omega)) dX3_edit_269) (fun M__49 eM__49 => ?_)
    rw [nI_clamp (n := 12 * (16 * r + n) + 1) (by omega)] at eM__49
    have h__50 := mp_got eM__49
    have h__51 := mp_keep eM__49 h__39 h__38 (by first | assumption | exact Ne.symm (by assumption) | simp | (intro h; simp at h; omega))
    have h__52 := mp_keep eM__49 h__40 h__38 (by first | assumption | exact Ne.symm (by assumption) | simp | (intro h; simp at h; omega))
    have h__53 := mp_keep eM__49 h__41 h__38 (by first | assumption | exact Ne.symm (by assumption) | simp | (intro h; simp at h; omega))
    have h__54 := mp_keep eM__49 h__42 h__38 (by first | assumption | exact Ne.symm (by assumption) | simp | (intro h; simp at h; omega))
    have h__55 := mp_keep eM__49 h__43 h__38 (by first | assumption | exact Ne.symm (by assumption) | simp | (intro h; simp at h; omega))
    have h__56 := mp_keep eM__49 h__44 h__38 (by first | assumption | exact Ne.symm (by assumption) | simp | (intro h; simp at h; omega))
    have h__57 := mp_keep eM__49 h__45 h__38 (by first | assumption | exact Ne.symm (by assumption) | simp | (intro h; simp at h; omega))
    have h__58 := mp_keep eM__49 h__46 h__38 (by first | assumption | exact Ne.symm (by assumption) | simp | (intro h; simp at h; omega))
    have h__59 := mp_keep eM__49 h__47 h__38 (by first | assumption | exact Ne.symm (by assumption) | simp | (intro h; simp at h; omega))
    have h__60 := mp_keep eM__49 h__48 h__38 (by first | assumption | exact Ne.symm (by assumption) | simp | (intro h; simp at h; omega))
    refine V_aload_n C dX3_edit_270 rfl rfl ?_
    refine V_get (C0 := RX3) (T := TX3) (N := 12) (ci := 3) C 0 in_X3 rfl h__51 (by decide) q821 (fun _ h9 => h9) rfl dX3_edit_271 ?_
    refine V_iload C dX3_edit_274 rfl ?_
    refine V_iconst C 2 dX3_edit_276 (by decide) ?_
    refine V_iadd C dX3_edit_277 ?_
    refine V_top (y := (nI (12 * (16 * r + n) + 2))) (nI_add (12 * (16 * r + n)) 2) ?_
    refine V_iload_n C dX3_edit_278 rfl rfl ?_
    refine V_M (V_iast C h__50 (pk_in (12 * (16 * r + n) + 2) 576 (by omega)) dX3_edit_279) (fun M__61 eM__61 => ?_)
    rw [nI_clamp (n := 12 * (16 * r + n) + 2) (by omega)] at eM__61
    have h__62 := mp_got eM__61
    have h__63 := mp_keep eM__61 h__51 h__50 (by first | assumption | exact Ne.symm (by assumption) | simp | (intro h; simp at h; omega))
    have h__64 := mp_keep eM__61 h__52 h__50 (by first | assumption | exact Ne.symm (by assumption) | simp | (intro h; simp at h; omega))
    have h__65 := mp_keep eM__61 h__53 h__50 (by first | assumption | exact Ne.symm (by assumption) | simp | (intro h; simp at h; omega))
    have h__66 := mp_keep eM__61 h__54 h__50 (by first | assumption | exact Ne.symm (by assumption) | simp | (intro h; simp at h; omega))
    have h__67 := mp_keep eM__61 h__55 h__50 (by first | assumption | exact Ne.symm (by assumption) | simp | (intro h; simp at h; omega))
    have h__68 := mp_keep eM__61 h__56 h__50 (by first | assumption | exact Ne.symm (by assumption) | simp | (intro h; simp at h; omega))
    have h__69 := mp_keep eM__61 h__57 h__50 (by first | assumption | exact Ne.symm (by assumption) | simp | (intro h; simp at h; omega))
    have h__70 := mp_keep eM__61 h__58 h__50 (by first | assumption | exact Ne.symm (by assumption) | simp | (intro h; simp at h; omega))
    have h__71 := mp_keep eM__61 h__59 h__50 (by first | assumption | exact Ne.symm (by assumption) | simp | (intro h; simp at h; omega))
    have h__72 := mp_keep eM__61 h__60 h__50 (by first | assumption | exact Ne.symm (by assumption) | simp | (intro h; simp at h; omega))
    refine V_aload_n C dX3_edit_280 rfl rfl ?_
    refine V_get (C0 := RX3) (T := TX3) (N := 12) (ci := 3) C 0 in_X3 rfl h__63 (by decide) q821 (fun _ h9 => h9) rfl dX3_edit_281 ?_
    refine V_iload C dX3_edit_284 rfl ?_
    refine V_iconst C 3 dX3_edit_286 (by decide) ?_
    refine V_iadd C dX3_edit_287 ?_
    refine V_top (y := (nI (12 * (16 * r + n) + 3))) (nI_add (12 * (16 * r + n)) 3) ?_
    refine V_iload C dX3_edit_288 rfl ?_
    refine V_M (V_iast C h__62 (pk_in (12 * (16 * r + n) + 3) 576 (by omega)) dX3_edit_290) (fun M__73 eM__73 => ?_)
    rw [nI_clamp (n := 12 * (16 * r + n) + 3) (by omega)] at eM__73
    have h__74 := mp_got eM__73
    have h__75 := mp_keep eM__73 h__63 h__62 (by first | assumption | exact Ne.symm (by assumption) | simp | (intro h; simp at h; omega))
    have h__76 := mp_keep eM__73 h__64 h__62 (by first | assumption | exact Ne.symm (by assumption) | simp | (intro h; simp at h; omega))
    have h__77 := mp_keep eM__73 h__65 h__62 (by first | assumption | exact Ne.symm (by assumption) | simp | (intro h; simp at h; omega))
    have h__78 := mp_keep eM__73 h__66 h__62 (by first | assumption | exact Ne.symm (by assumption) | simp | (intro h; simp at h; omega))
    have h__79 := mp_keep eM__73 h__67 h__62 (by first | assumption | exact Ne.symm (by assumption) | simp | (intro h; simp at h; omega))
    have h__80 := mp_keep eM__73 h__68 h__62 (by first | assumption | exact Ne.symm (by assumption) | simp | (intro h; simp at h; omega))
    have h__81 := mp_keep eM__73 h__69 h__62 (by first | assumption | exact Ne.symm (by assumption) | simp | (intro h; simp at h; omega))
    have h__82 := mp_keep eM__73 h__70 h__62 (by first | assumption | exact Ne.symm (by assumption) | simp | (intro h; simp at h; omega))
    have h__83 := mp_keep eM__73 h__71 h__62 (by first | assumption | exact Ne.symm (by assumption) | simp | (intro h; simp at h; omega))
    have h__84 := mp_keep eM__73 h__72 h__62 (by first | assumption | exact Ne.symm (by assumption) | simp | (intro h; simp at h; omega))
    refine V_aload_n C dX3_edit_291 rfl rfl ?_
    refine V_get (C0 := RX3) (T := TX3) (N := 12) (ci := 3) C 0 in_X3 rfl h__75 (by decide) q821 (fun _ h9 => h9) rfl dX3_edit_292 ?_
    refine V_iload C dX3_edit_295 rfl ?_
    refine V_iconst C 4 dX3_edit_297 (by decide) ?_
    refine V_iadd C dX3_edit_298 ?_
    refine V_top (y := (nI (12 * (16 * r + n) + 4))) (nI_add (12 * (16 * r + n)) 4) ?_
    refine V_iload C dX3_edit_299 rfl ?_
    refine V_M (V_iast C h__74 (pk_in (12 * (16 * r + n) + 4) 576 (by omega)) dX3_edit_301) (fun M__85 eM__85 => ?_)
    rw [nI_clamp (n := 12 * (16 * r + n) + 4) (by omega)] at eM__85
    have h__86 := mp_got eM__85
    have h__87 := mp_keep eM__85 h__75 h__74 (by first | assumption | exact Ne.symm (by assumption) | simp | (intro h; simp at h; omega))
    have h__88 := mp_keep eM__85 h__76 h__74 (by first | assumption | exact Ne.symm (by assumption) | simp | (intro h; simp at h; omega))
    have h__89 := mp_keep eM__85 h__77 h__74 (by first | assumption | exact Ne.symm (by assumption) | simp | (intro h; simp at h; omega))
    have h__90 := mp_keep eM__85 h__78 h__74 (by first | assumption | exact Ne.symm (by assumption) | simp | (intro h; simp at h; omega))
    have h__91 := mp_keep eM__85 h__79 h__74 (by first | assumption | exact Ne.symm (by assumption) | simp | (intro h; simp at h; omega))
    have h__92 := mp_keep eM__85 h__80 h__74 (by first | assumption | exact Ne.symm (by assumption) | simp | (intro h; simp at h; omega))
    have h__93 := mp_keep eM__85 h__81 h__74 (by first | assumption | exact Ne.symm (by assumption) | simp | (intro h; simp at h; omega))
    have h__94 := mp_keep eM__85 h__82 h__74 (by first | assumption | exact Ne.symm (by assumption) | simp | (intro h; simp at h; omega))
    have h__95 := mp_keep eM__85 h__83 h__74 (by first | assumption | exact Ne.symm (by assumption) | simp | (intro h; simp at h; omega))
    have h__96 := mp_keep eM__85 h__84 h__74 (by first | assumption | exact Ne.symm (by assumption) | simp | (intro h; simp at h; omega))
    refine V_aload_n C dX3_edit_302 rfl rfl ?_
    refine V_get (C0 := RX3) (T := TX3) (N := 12) (ci := 3) C 0 in_X3 rfl h__87 (by decide) q821 (fun _ h9 => h9) rfl dX3_edit_303 ?_
    refine V_iload C dX3_edit_306 rfl ?_
    refine V_iconst C 5 dX3_edit_308 (by decide) ?_
    refine V_iadd C dX3_edit_309 ?_
    refine V_top (y := (nI (12 * (16 * r + n) + 5))) (nI_add (12 * (16 * r + n)) 5) ?_
    refine V_iload C dX3_edit_310 rfl ?_
    refine V_M (V_iast C h__86 (pk_in (12 * (16 * r + n) + 5) 576 (by omega)) dX3_edit_312) (fun M__97 eM__97 => ?_)
    rw [nI_clamp (n := 12 * (16 * r + n) + 5) (by omega)] at eM__97
    have h__98 := mp_got eM__97
    have h__99 := mp_keep eM__97 h__87 h__86 (by first | assumption | exact Ne.symm (by assumption) | simp | (intro h; simp at h; omega))
    have h__100 := mp_keep eM__97 h__88 h__86 (by first | assumption | exact Ne.symm (by assumption) | simp | (intro h; simp at h; omega))
    have h__101 := mp_keep eM__97 h__89 h__86 (by first | assumption | exact Ne.symm (by assumption) | simp | (intro h; simp at h; omega))
    have h__102 := mp_keep eM__97 h__90 h__86 (by first | assumption | exact Ne.symm (by assumption) | simp | (intro h; simp at h; omega))
    have h__103 := mp_keep eM__97 h__91 h__86 (by first | assumption | exact Ne.symm (by assumption) | simp | (intro h; simp at h; omega))
    have h__104 := mp_keep eM__97 h__92 h__86 (by first | assumption | exact Ne.symm (by assumption) | simp | (intro h; simp at h; omega))
    have h__105 := mp_keep eM__97 h__93 h__86 (by first | assumption | exact Ne.symm (by assumption) | simp | (intro h; simp at h; omega))
    have h__106 := mp_keep eM__97 h__94 h__86 (by first | assumption | exact Ne.symm (by assumption) | simp | (intro h; simp at h; omega))
    have h__107 := mp_keep eM__97 h__95 h__86 (by first | assumption | exact Ne.symm (by assumption) | simp | (intro h; simp at h; omega))
    have h__108 := mp_keep eM__97 h__96 h__86 (by first | assumption | exact Ne.symm (by assumption) | simp | (intro h; simp at h; omega))
    refine V_iconst C 0 dX3_edit_313 (by decide) ?_
    refine V_istore (L' := [some (.ref a), some (.int (nI r)), some (.int kd), some (.int tg), some (.int sl), some (.int vl), none, none, some (.int (nI (cnV n po ap 159))), some (.int (nI (nmL (nmP n po ap kd tg sl) 159).length)), some (.int (nI (12 * (16 * r + n)))), some (.int 0)]) C dX3_edit_314 (by decide) rfl ?_
    obtain ⟨g1, k1⟩ := md_f0 hS2 eM__37
    obtain ⟨g2, k2⟩ := md_f0 g1 eM__49
    obtain ⟨g3, k3⟩ := md_f0 g2 eM__61
    obtain ⟨g4, k4⟩ := md_f0 g3 eM__73
    obtain ⟨g5, k5⟩ := md_f0 g4 eM__85
    obtain ⟨g6, k6⟩ := md_f0 g5 eM__97
    refine V_sub ?_ (copy 0 (Nat.zero_le _) _ _ g6 (hA2.mono (by decide) |>.tr ((Ag.f (by decide)).tr ((Ag.f (by decide)).tr ((Ag.f (by decide)).tr ((Ag.f (by decide)).tr ((Ag.f (by decide)).tr (Ag.f (by decide)))))))) hme2 hfr (fun f hf => ?_) (fun i hi => ?_) (hK2.tr (k1.tr (k2.tr (k3.tr (k4.tr (k5.tr k6)))))))
    · ((repeat' (first | exact ls_e | refine ls_n ?_ | refine ls_s ?_ | refine ls_i ?_ ?_ | refine ls_v ?_ ?_)); all_goals rfl)
    · rw [sF_eq]; rcases (show f = 0 ∨ f = 1 ∨ f = 2 ∨ f = 3 ∨ f = 4 ∨ f = 5 by omega) with z | z | z | z | z | z <;> subst z <;> simp [upd, *]
    · rw [sF_eq, pk_un (by omega), pk_un (by omega), pk_un (by omega), pk_un (by omega), pk_un (by omega), pk_un (by omega), hA2 0 (by decide)]
  have rest : edB n po ap (stA n po ap).1 kd tg sl vl = true → ∀ M1 S1, MdAt G M1 a ad S1 → Ag [7, 8, 9] S S1 → S1 7 0 = nI r → KeepG 9 M M1 → V p l e (rmOf 4 0 0) s m ([.ref a, .int (nI r), .int kd, .int tg, .int sl, .int vl] : List Value).toArray below meth c (MQ below (Qp G b (pI (EdPost G M a ad S r n po ap od kd tg sl vl))) ([.ref a, .int (nI r), .int kd, .int tg, .int sl, .int vl] : List Value).toArray s 0 0 (fun q => b ≤ q)) G b 12 0 0 116 [some (.ref a), some (.int (nI r)), some (.int kd), some (.int tg), some (.int sl), some (.int vl), none, none, none, none, none, none] [] M1 := by
    intro hed M1 S1 hS1 hA1 hme1 hK1
    have loop : ∀ k, k ≤ 159 → ∀ M2 S2, MdAt G M2 a ad S2 → Ag [7, 8, 9, 11] S S2 → S2 7 0 = nI r → (∀ t x, (nmL (nmP n po ap kd tg sl) k)[t]? = some x → S2 11 (6 + t) = nI x) → KeepG 9 M M2 → V p l e (rmOf 4 0 0) s m ([.ref a, .int (nI r), .int kd, .int tg, .int sl, .int vl] : List Value).toArray below meth c (MQ below (Qp G b (pI (EdPost G M a ad S r n po ap od kd tg sl vl))) ([.ref a, .int (nI r), .int kd, .int tg, .int sl, .int vl] : List Value).toArray s 0 0 (fun q => b ≤ q)) G b 12 0 0 125 [some (.ref a), some (.int (nI r)), some (.int kd), some (.int tg), some (.int sl), some (.int vl), none, none, some (.int (nI (cnV n po ap k))), some (.int (nI (nmL (nmP n po ap kd tg sl) k).length)), some (.int (nI (4 + k))), none] [] M2 := by
      refine up_ind 159 ?_
      intro k hk ih M2 S2 hS2 hA2 hme2 hfr hK2
      have hV2 := hV.ag (hA2 0 (by decide)) (hA2 1 (by decide)) (hA2 2 (by decide))
      have hcn := cnV_le n po ap k
      have hnl := nm_len (n := n) (po := po) (ap := ap) (kd := kd) (tg := tg) (sl := sl) hpo hk
      have stepA : k < 159 → idJ n po ap k = none → V p l e (rmOf 4 0 0) s m ([.ref a, .int (nI r), .int kd, .int tg, .int sl, .int vl] : List Value).toArray below meth c (MQ below (Qp G b (pI (EdPost G M a ad S r n po ap od kd tg sl vl))) ([.ref a, .int (nI r), .int kd, .int tg, .int sl, .int vl] : List Value).toArray s 0 0 (fun q => b ≤ q)) G b 12 0 0 125 [some (.ref a), some (.int (nI r)), some (.int kd), some (.int tg), some (.int sl), some (.int vl), none, none, some (.int (nI (cnV n po ap k))), some (.int (nI (nmL (nmP n po ap kd tg sl) k).length)), some (.int (nI (4 + k + 1))), some (.int (-1))] [] M2 := by
        intro hlt hno
        have hPf : (nmP n po ap kd tg sl) k = false := by unfold nmP; rw [hno]
        refine V_sub ?_ (ih hlt M2 S2 hS2 hA2 hme2 (by rw [nmL_f hPf]; exact hfr) hK2)
        repeat' (first | exact ls_e | refine ls_n ?_ | refine ls_s ?_ | refine ls_i ?_ ?_ | refine ls_v ?_ ?_)
        · rw [cnV_f hno]
        · rw [nmL_f hPf]
      have stepB : ∀ j, k < 159 → idJ n po ap k = some j → (nmP n po ap kd tg sl) k = false → V p l e (rmOf 4 0 0) s m ([.ref a, .int (nI r), .int kd, .int tg, .int sl, .int vl] : List Value).toArray below meth c (MQ below (Qp G b (pI (EdPost G M a ad S r n po ap od kd tg sl vl))) ([.ref a, .int (nI r), .int kd, .int tg, .int sl, .int vl] : List Value).toArray s 0 0 (fun q => b ≤ q)) G b 12 0 0 125 [some (.ref a), some (.int (nI r)), some (.int kd), some (.int tg), some (.int sl), some (.int vl), none, none, some (.int (nI ((4 + k) / 4 + 1))), some (.int (nI (nmL (nmP n po ap kd tg sl) k).length)), some (.int (nI (4 + k + 1))), some (.int (nI j))] [] M2 := by
        intro j hlt hj hPf
        refine V_sub ?_ (ih hlt M2 S2 hS2 hA2 hme2 (by rw [nmL_f hPf]; exact hfr) hK2)
        repeat' (first | exact ls_e | refine ls_n ?_ | refine ls_s ?_ | refine ls_i ?_ ?_ | refine ls_v ?_ ?_)
        · rw [cnV_t hj]
        · rw [nmL_f hPf]
      have stepC : ∀ j M3, k < 159 → idJ n po ap k = some j → (nmP n po ap kd tg sl) k = true → MdAt G M3 a ad (sF S2 11 (upd (S2 11) (6 + (nmL (nmP n po ap kd tg sl) k).length) (nI (4 + k)))) → KeepG 9 M2 M3 → V p l e (rmOf 4 0 0) s m ([.ref a, .int (nI r), .int kd, .int tg, .int sl, .int vl] : List Value).toArray below meth c (MQ below (Qp G b (pI (EdPost G M a ad S r n po ap od kd tg sl vl))) ([.ref a, .int (nI r), .int kd, .int tg, .int sl, .int vl] : List Value).toArray s 0 0 (fun q => b ≤ q)) G b 12 0 0 125 [some (.ref a), some (.int (nI r)), some (.int kd), some (.int tg), some (.int sl), some (.int vl), none, none, some (.int (nI ((4 + k) / 4 + 1))), some (.int (nI ((nmL (nmP n po ap kd tg sl) k).length + 1))), some (.int (nI (4 + k + 1))), some (.int (nI j))] [] M3 := by
        intro j M3 hlt hj hPt hS3 hK3
        refine V_sub ?_ (ih hlt M3 _ hS3 (hA2.tr (Ag.f (by decide))) hme2 (fun t x ht => ?_) (hK2.tr hK3))
        · repeat' (first | exact ls_e | refine ls_n ?_ | refine ls_s ?_ | refine ls_i ?_ ?_ | refine ls_v ?_ ?_)
          · rw [cnV_t hj]
          · rw [nmL_t hPt, List.length_append]; rfl
        · rw [nmL_t hPt] at ht
          rw [sF_eq]
          rcases Nat.lt_trichotomy t (nmL (nmP n po ap kd tg sl) k).length with q | q | q
          · rw [List.getElem?_append_left q] at ht
            rw [pk_un (by omega)]
            exact hfr t x ht
          · subst q
            rw [List.getElem?_append_right (Nat.le_refl _)] at ht
            simp at ht
            rw [pk_us, ht]
          · rw [List.getElem?_append_right (by omega), List.getElem?_eq_none (by simp; omega)] at ht
            cases ht
      obtain ⟨hmwa, hmw0, hmw1, hmw2, hmw3, hmw4, hmw5, hmw8, hmw9, hmw10, hmw11⟩ := id hS2
      rw [hme2] at hmwa
      refine V_iload C dX3_edit_125 rfl ?_
      refine V_sipush C 162 dX3_edit_127 (by decide) ?_
      refine V_nicmp_gt (x := 4 + k) (y := 162) C 203 dX3_edit_130 (by decide) (by omega) (by omega) (fun q130 => ?_) (fun q130 => ?_)
      · refine V_aload_n C dX3_edit_203 rfl rfl ?_
        refine V_get (C0 := RX3) (T := TX3) (N := 12) (ci := 3) C 1 in_X3 rfl hmwa (by decide) q822 (fun _ h9 => h9) rfl dX3_edit_204 ?_
        refine V_iload_n C dX3_edit_207 rfl rfl ?_
        refine V_iald C hmw1 (pk_in r 3 (by omega)) dX3_edit_208 ?_
        refine V_top (y := (nI n)) (by rw [nI_clamp (n := r) (by omega)]; exact hV2.2.2.1) ?_
        refine V_bipush C 16 dX3_edit_209 (by decide) ?_
        refine V_nicmp_ge (x := n) (y := 16) C 228 dX3_edit_211 (by decide) (by omega) (by omega) (fun q211 => ?_) (fun q211 => ?_)
        · refine V_bipush C (-7) dX3_edit_228 (by decide) ?_
          have e159 : k = 159 := by omega
          subst e159
          exact V_iret C dX3_edit_230 (by decide) (by decide) ⟨_, rfl, ed_full hed (by omega) hS2 hA2 hK2⟩
        · refine V_iload C dX3_edit_214 rfl ?_
          refine V_bipush C 6 dX3_edit_216 (by decide) ?_
          refine V_nicmp_gt (x := (nmL (nmP n po ap kd tg sl) k).length) (y := 6) C 228 dX3_edit_218 (by decide) (by omega) (by omega) (fun q218 => ?_) (fun q218 => ?_)
          · refine V_bipush C (-7) dX3_edit_228 (by decide) ?_
            have e159 : k = 159 := by omega
            subst e159
            exact V_iret C dX3_edit_230 (by decide) (by decide) ⟨_, rfl, ed_full hed (by omega) hS2 hA2 hK2⟩
          · refine V_iload C dX3_edit_221 rfl ?_
            refine V_bipush C 40 dX3_edit_223 (by decide) ?_
            refine V_nicmp_le (x := cnV n po ap k) (y := 40) C 231 dX3_edit_225 (by decide) (by omega) (by omega) (fun q225 => ?_) (fun q225 => ?_)
            · have e159 : k = 159 := by omega
              subst e159
              refine V_sub ?_ (fin hed (by omega) (by omega) (by omega) M2 S2 hS2 hA2 hme2 hfr hK2)
              repeat' (first | exact ls_e | refine ls_n ?_ | refine ls_s ?_ | refine ls_i ?_ ?_ | refine ls_v ?_ ?_)
            · refine V_bipush C (-7) dX3_edit_228 (by decide) ?_
              have e159 : k = 159 := by omega
              subst e159
              exact V_iret C dX3_edit_230 (by decide) (by decide) ⟨_, rfl, ed_full hed (by omega) hS2 hA2 hK2⟩
      · refine V_aload_n C dX3_edit_133 rfl rfl ?_
        refine V_iload C dX3_edit_134 rfl ?_
        refine V_iconst C 1 dX3_edit_136 (by decide) ?_
        refine V_ofIe (VR_V (As := [.int (nI (4 + k)), .int 1]) (rest := []) C (ct_X3_find l G b M2 a ad S2 r n po ap hS2 hme2 hV2 (nI (4 + k)) true) hmwa rfl (lw_V q883 q885 qs13 q46 q886) rfl nd_X3_find rfl (by decide) (by decide) dX3_edit_137 rfl ⟨by decide, by decide⟩ (Nat.le_of_ble_eq_true rfl)) ?_
        rcases o137 : mfind n po ap (nI (4 + k)) true with _ | j137
        · refine V_top (y := -1) rfl ?_
          refine V_istore (L' := [some (.ref a), some (.int (nI r)), some (.int kd), some (.int tg), some (.int sl), some (.int vl), none, none, some (.int (nI (cnV n po ap k))), some (.int (nI (nmL (nmP n po ap kd tg sl) k).length)), some (.int (nI (4 + k))), some (.int (-1))]) C dX3_edit_140 (by decide) rfl ?_
          refine V_iload C dX3_edit_142 rfl ?_
          refine V_if_lt C 197 dX3_edit_144 (by decide) (fun _ => ?_) (fun h => absurd (by decide) h)
          refine V_iinc (v := (nI (4 + k + 1))) (L' := [some (.ref a), some (.int (nI r)), some (.int kd), some (.int tg), some (.int sl), some (.int vl), none, none, some (.int (nI (cnV n po ap k))), some (.int (nI (nmL (nmP n po ap kd tg sl) k).length)), some (.int (nI (4 + k + 1))), some (.int (-1))]) C dX3_edit_197 rfl (nI_1 _) (by decide) rfl ?_
          refine V_goto C 125 dX3_edit_200 (by decide) ?_
          first | exact stepA (by omega) o137 | exact stepB j137 (by omega) o137 (by unfold nmP idJ; rw [o137]; simp [*]) | (obtain ⟨hS3, hK3⟩ := md_f11 hS2 eM__97; exact stepC j137 _ (by omega) o137 (by unfold nmP idJ; rw [o137]; simp [*]) hS3 hK3)
        · have hj137 := (lastI_some o137).1
          have hk137 := hV2.2.2.2.2.1 j137 hj137
          refine V_top (y := nI j137) rfl ?_
          refine V_istore (L' := [some (.ref a), some (.int (nI r)), some (.int kd), some (.int tg), some (.int sl), some (.int vl), none, none, some (.int (nI (cnV n po ap k))), some (.int (nI (nmL (nmP n po ap kd tg sl) k).length)), some (.int (nI (4 + k))), some (.int (nI j137))]) C dX3_edit_140 (by decide) rfl ?_
          refine V_iload C dX3_edit_142 rfl ?_
          refine V_if_lt C 197 dX3_edit_144 (by decide) (fun h => absurd h (nI_pos (n := j137) (by omega))) (fun _ => ?_)
          refine V_iload C dX3_edit_147 rfl ?_
          refine V_iconst C 4 dX3_edit_149 (by decide) ?_
          refine V_idiv C dX3_edit_150 (by decide) ?_
          refine V_top (y := (nI ((4 + k) / 4))) (pk_div (a := 4 + k) (d := 4) (by omega) (by decide) (by decide)) ?_
          refine V_iconst C 1 dX3_edit_151 (by decide) ?_
          refine V_iadd C dX3_edit_152 ?_
          refine V_top (y := (nI ((4 + k) / 4 + 1))) (nI_add ((4 + k) / 4) 1) ?_
          refine V_istore (L' := [some (.ref a), some (.int (nI r)), some (.int kd), some (.int tg), some (.int sl), some (.int vl), none, none, some (.int (nI ((4 + k) / 4 + 1))), some (.int (nI (nmL (nmP n po ap kd tg sl) k).length)), some (.int (nI (4 + k))), some (.int (nI j137))]) C dX3_edit_153 (by decide) rfl ?_
          refine V_aload_n C dX3_edit_155 rfl rfl ?_
          refine V_iload C dX3_edit_156 rfl ?_
          refine V_ofIe (VR_V (As := [.int (nI j137)]) (rest := []) C (ct_X3_isHead l G b M2 a ad S2 r n po ap hS2 hme2 hV2 j137 (by omega)) hmwa rfl (lw_V q895 q897 qs16 q46 q898) rfl nd_X3_isHead rfl (by decide) (by decide) dX3_edit_158 rfl ⟨by decide, by decide⟩ (Nat.le_of_ble_eq_true rfl)) ?_
          refine V_ifb_ne C 182 dX3_edit_161 (by decide) (fun q161 => ?_) (fun q161 => ?_)
          · refine V_aload_n C dX3_edit_182 rfl rfl ?_
            refine V_get (C0 := RX3) (T := TX3) (N := 12) (ci := 3) C 11 in_X3 rfl hmwa (by decide) q832 (fun _ h9 => h9) rfl dX3_edit_183 ?_
            refine V_bipush C 6 dX3_edit_186 (by decide) ?_
            refine V_iload C dX3_edit_188 rfl ?_
            refine V_iadd C dX3_edit_190 ?_
            refine V_top (y := (nI (6 + ((nmL (nmP n po ap kd tg sl) k).length)))) (nI_add 6 ((nmL (nmP n po ap kd tg sl) k).length)) ?_
            refine V_iload C dX3_edit_191 rfl ?_
            refine V_M (V_iast C hmw11 (pk_in (6 + ((nmL (nmP n po ap kd tg sl) k).length)) 24 (by omega)) dX3_edit_193) (fun M__109 eM__109 => ?_)
            rw [nI_clamp (n := 6 + ((nmL (nmP n po ap kd tg sl) k).length)) (by omega)] at eM__109
            have h__110 := mp_got eM__109
            have h__111 := mp_keep eM__109 hmwa hmw11 (by first | assumption | exact Ne.symm (by assumption) | simp | (intro h; simp at h; omega))
            have h__112 := mp_keep eM__109 hmw0 hmw11 (by first | assumption | exact Ne.symm (by assumption) | simp | (intro h; simp at h; omega))
            have h__113 := mp_keep eM__109 hmw1 hmw11 (by first | assumption | exact Ne.symm (by assumption) | simp | (intro h; simp at h; omega))
            have h__114 := mp_keep eM__109 hmw2 hmw11 (by first | assumption | exact Ne.symm (by assumption) | simp | (intro h; simp at h; omega))
            have h__115 := mp_keep eM__109 hmw3 hmw11 (by first | assumption | exact Ne.symm (by assumption) | simp | (intro h; simp at h; omega))
            have h__116 := mp_keep eM__109 hmw4 hmw11 (by first | assumption | exact Ne.symm (by assumption) | simp | (intro h; simp at h; omega))
            have h__117 := mp_keep eM__109 hmw5 hmw11 (by first | assumption | exact Ne.symm (by assumption) | simp | (intro h; simp at h; omega))
            have h__118 := mp_keep eM__109 hmw8 hmw11 (by first | assumption | exact Ne.symm (by assumption) | simp | (intro h; simp at h; omega))
            have h__119 := mp_keep eM__109 hmw9 hmw11 (by first | assumption | exact Ne.symm (by assumption) | simp | (intro h; simp at h; omega))
            have h__120 := mp_keep eM__109 hmw10 hmw11 (by first | assumption | exact Ne.symm (by assumption) | simp | (intro h; simp at h; omega))
            refine V_iinc (v := (nI ((nmL (nmP n po ap kd tg sl) k).length + 1))) (L' := [some (.ref a), some (.int (nI r)), some (.int kd), some (.int tg), some (.int sl), some (.int vl), none, none, some (.int (nI ((4 + k) / 4 + 1))), some (.int (nI ((nmL (nmP n po ap kd tg sl) k).length + 1))), some (.int (nI (4 + k))), some (.int (nI j137))]) C dX3_edit_194 rfl (nI_1 _) (by decide) rfl ?_
            refine V_iinc (v := (nI (4 + k + 1))) (L' := [some (.ref a), some (.int (nI r)), some (.int kd), some (.int tg), some (.int sl), some (.int vl), none, none, some (.int (nI ((4 + k) / 4 + 1))), some (.int (nI ((nmL (nmP n po ap kd tg sl) k).length + 1))), some (.int (nI (4 + k + 1))), some (.int (nI j137))]) C dX3_edit_197 rfl (nI_1 _) (by decide) rfl ?_
            refine V_goto C 125 dX3_edit_200 (by decide) ?_
            first | exact stepA (by omega) o137 | exact stepB j137 (by omega) o137 (by unfold nmP idJ; rw [o137]; simp [*]) | (obtain ⟨hS3, hK3⟩ := md_f11 hS2 eM__109; exact stepC j137 _ (by omega) o137 (by unfold nmP idJ; rw [o137]; simp [*]) hS3 hK3)
          · refine V_iload C dX3_edit_164 rfl ?_
            refine V_iload_n C dX3_edit_166 rfl rfl ?_
            refine V_icmp_eq C 182 dX3_edit_167 (by decide) (fun q167 => ?_) (fun q167 => ?_)
            · refine V_aload_n C dX3_edit_182 rfl rfl ?_
              refine V_get (C0 := RX3) (T := TX3) (N := 12) (ci := 3) C 11 in_X3 rfl hmwa (by decide) q832 (fun _ h9 => h9) rfl dX3_edit_183 ?_
              refine V_bipush C 6 dX3_edit_186 (by decide) ?_
              refine V_iload C dX3_edit_188 rfl ?_
              refine V_iadd C dX3_edit_190 ?_
              refine V_top (y := (nI (6 + ((nmL (nmP n po ap kd tg sl) k).length)))) (nI_add 6 ((nmL (nmP n po ap kd tg sl) k).length)) ?_
              refine V_iload C dX3_edit_191 rfl ?_
              refine V_M (V_iast C hmw11 (pk_in (6 + ((nmL (nmP n po ap kd tg sl) k).length)) 24 (by omega)) dX3_edit_193) (fun M__121 eM__121 => ?_)
              rw [nI_clamp (n := 6 + ((nmL (nmP n po ap kd tg sl) k).length)) (by omega)] at eM__121
              have h__122 := mp_got eM__121
              have h__123 := mp_keep eM__121 hmwa hmw11 (by first | assumption | exact Ne.symm (by assumption) | simp | (intro h; simp at h; omega))
              have h__124 := mp_keep eM__121 hmw0 hmw11 (by first | assumption | exact Ne.symm (by assumption) | simp | (intro h; simp at h; omega))
              have h__125 := mp_keep eM__121 hmw1 hmw11 (by first | assumption | exact Ne.symm (by assumption) | simp | (intro h; simp at h; omega))
              have h__126 := mp_keep eM__121 hmw2 hmw11 (by first | assumption | exact Ne.symm (by assumption) | simp | (intro h; simp at h; omega))
              have h__127 := mp_keep eM__121 hmw3 hmw11 (by first | assumption | exact Ne.symm (by assumption) | simp | (intro h; simp at h; omega))
              have h__128 := mp_keep eM__121 hmw4 hmw11 (by first | assumption | exact Ne.symm (by assumption) | simp | (intro h; simp at h; omega))
              have h__129 := mp_keep eM__121 hmw5 hmw11 (by first | assumption | exact Ne.symm (by assumption) | simp | (intro h; simp at h; omega))
              have h__130 := mp_keep eM__121 hmw8 hmw11 (by first | assumption | exact Ne.symm (by assumption) | simp | (intro h; simp at h; omega))
              have h__131 := mp_keep eM__121 hmw9 hmw11 (by first | assumption | exact Ne.symm (by assumption) | simp | (intro h; simp at h; omega))
              have h__132 := mp_keep eM__121 hmw10 hmw11 (by first | assumption | exact Ne.symm (by assumption) | simp | (intro h; simp at h; omega))
              refine V_iinc (v := (nI ((nmL (nmP n po ap kd tg sl) k).length + 1))) (L' := [some (.ref a), some (.int (nI r)), some (.int kd), some (.int tg), some (.int sl), some (.int vl), none, none, some (.int (nI ((4 + k) / 4 + 1))), some (.int (nI ((nmL (nmP n po ap kd tg sl) k).length + 1))), some (.int (nI (4 + k))), some (.int (nI j137))]) C dX3_edit_194 rfl (nI_1 _) (by decide) rfl ?_
              refine V_iinc (v := (nI (4 + k + 1))) (L' := [some (.ref a), some (.int (nI r)), some (.int kd), some (.int tg), some (.int sl), some (.int vl), none, none, some (.int (nI ((4 + k) / 4 + 1))), some (.int (nI ((nmL (nmP n po ap kd tg sl) k).length + 1))), some (.int (nI (4 + k + 1))), some (.int (nI j137))]) C dX3_edit_197 rfl (nI_1 _) (by decide) rfl ?_
              refine V_goto C 125 dX3_edit_200 (by decide) ?_
              first | exact stepA (by omega) o137 | exact stepB j137 (by omega) o137 (by unfold nmP idJ; rw [o137]; simp [*]) | (obtain ⟨hS3, hK3⟩ := md_f11 hS2 eM__121; exact stepC j137 _ (by omega) o137 (by unfold nmP idJ; rw [o137]; simp [*]) hS3 hK3)
            · refine V_iload_n C dX3_edit_170 rfl rfl ?_
              refine V_iconst C 3 dX3_edit_171 (by decide) ?_
              refine V_icmp_ne C 197 dX3_edit_172 (by decide) (fun q172 => ?_) (fun q172 => ?_)
              · refine V_iinc (v := (nI (4 + k + 1))) (L' := [some (.ref a), some (.int (nI r)), some (.int kd), some (.int tg), some (.int sl), some (.int vl), none, none, some (.int (nI ((4 + k) / 4 + 1))), some (.int (nI (nmL (nmP n po ap kd tg sl) k).length)), some (.int (nI (4 + k + 1))), some (.int (nI j137))]) C dX3_edit_197 rfl (nI_1 _) (by decide) rfl ?_
                refine V_goto C 125 dX3_edit_200 (by decide) ?_
                first | exact stepA (by omega) o137 | exact stepB j137 (by omega) o137 (by unfold nmP idJ; rw [o137]; simp [*]) | (obtain ⟨hS3, hK3⟩ := md_f11 hS2 eM__121; exact stepC j137 _ (by omega) o137 (by unfold nmP idJ; rw [o137]; simp [*]) hS3 hK3)
              · refine V_iload C dX3_edit_175 rfl ?_
                refine V_iload C dX3_edit_177 rfl ?_
                refine V_icmp_ne C 197 dX3_edit_179 (by decide) (fun q179 => ?_) (fun q179 => ?_)
                · refine V_iinc (v := (nI (4 + k + 1))) (L' := [some (.ref a), some (.int (nI r)), some (.int kd), some (.int tg), some (.int sl), some (.int vl), none, none, some (.int (nI ((4 + k) / 4 + 1))), some (.int (nI (nmL (nmP n po ap kd tg sl) k).length)), some (.int (nI (4 + k + 1))), some (.int (nI j137))]) C dX3_edit_197 rfl (nI_1 _) (by decide) rfl ?_
                  refine V_goto C 125 dX3_edit_200 (by decide) ?_
                  first | exact stepA (by omega) o137 | exact stepB j137 (by omega) o137 (by unfold nmP idJ; rw [o137]; simp [*]) | (obtain ⟨hS3, hK3⟩ := md_f11 hS2 eM__121; exact stepC j137 _ (by omega) o137 (by unfold nmP idJ; rw [o137]; simp [*]) hS3 hK3)
                · refine V_aload_n C dX3_edit_182 rfl rfl ?_
                  refine V_get (C0 := RX3) (T := TX3) (N := 12) (ci := 3) C 11 in_X3 rfl hmwa (by decide) q832 (fun _ h9 => h9) rfl dX3_edit_183 ?_
                  refine V_bipush C 6 dX3_edit_186 (by decide) ?_
                  refine V_iload C dX3_edit_188 rfl ?_
                  refine V_iadd C dX3_edit_190 ?_
                  refine V_top (y := (nI (6 + ((nmL (nmP n po ap kd tg sl) k).length)))) (nI_add 6 ((nmL (nmP n po ap kd tg sl) k).length)) ?_
                  refine V_iload C dX3_edit_191 rfl ?_
                  refine V_M (V_iast C hmw11 (pk_in (6 + ((nmL (nmP n po ap kd tg sl) k).length)) 24 (by omega)) dX3_edit_193) (fun M__133 eM__133 => ?_)
                  rw [nI_clamp (n := 6 + ((nmL (nmP n po ap kd tg sl) k).length)) (by omega)] at eM__133
                  have h__134 := mp_got eM__133
                  have h__135 := mp_keep eM__133 hmwa hmw11 (by first | assumption | exact Ne.symm (by assumption) | simp | (intro h; simp at h; omega))
                  have h__136 := mp_keep eM__133 hmw0 hmw11 (by first | assumption | exact Ne.symm (by assumption) | simp | (intro h; simp at h; omega))
                  have h__137 := mp_keep eM__133 hmw1 hmw11 (by first | assumption | exact Ne.symm (by assumption) | simp | (intro h; simp at h; omega))
                  have h__138 := mp_keep eM__133 hmw2 hmw11 (by first | assumption | exact Ne.symm (by assumption) | simp | (intro h; simp at h; omega))
                  have h__139 := mp_keep eM__133 hmw3 hmw11 (by first | assumption | exact Ne.symm (by assumption) | simp | (intro h; simp at h; omega))
                  have h__140 := mp_keep eM__133 hmw4 hmw11 (by first | assumption | exact Ne.symm (by assumption) | simp | (intro h; simp at h; omega))
                  have h__141 := mp_keep eM__133 hmw5 hmw11 (by first | assumption | exact Ne.symm (by assumption) | simp | (intro h; simp at h; omega))
                  have h__142 := mp_keep eM__133 hmw8 hmw11 (by first | assumption | exact Ne.symm (by assumption) | simp | (intro h; simp at h; omega))
                  have h__143 := mp_keep eM__133 hmw9 hmw11 (by first | assumption | exact Ne.symm (by assumption) | simp | (intro h; simp at h; omega))
                  have h__144 := mp_keep eM__133 hmw10 hmw11 (by first | assumption | exact Ne.symm (by assumption) | simp | (intro h; simp at h; omega))
                  refine V_iinc (v := (nI ((nmL (nmP n po ap kd tg sl) k).length + 1))) (L' := [some (.ref a), some (.int (nI r)), some (.int kd), some (.int tg), some (.int sl), some (.int vl), none, none, some (.int (nI ((4 + k) / 4 + 1))), some (.int (nI ((nmL (nmP n po ap kd tg sl) k).length + 1))), some (.int (nI (4 + k))), some (.int (nI j137))]) C dX3_edit_194 rfl (nI_1 _) (by decide) rfl ?_
                  refine V_iinc (v := (nI (4 + k + 1))) (L' := [some (.ref a), some (.int (nI r)), some (.int kd), some (.int tg), some (.int sl), some (.int vl), none, none, some (.int (nI ((4 + k) / 4 + 1))), some (.int (nI ((nmL (nmP n po ap kd tg sl) k).length + 1))), some (.int (nI (4 + k + 1))), some (.int (nI j137))]) C dX3_edit_197 rfl (nI_1 _) (by decide) rfl ?_
                  refine V_goto C 125 dX3_edit_200 (by decide) ?_
                  first | exact stepA (by omega) o137 | exact stepB j137 (by omega) o137 (by unfold nmP idJ; rw [o137]; simp [*]) | (obtain ⟨hS3, hK3⟩ := md_f11 hS2 eM__133; exact stepC j137 _ (by omega) o137 (by unfold nmP idJ; rw [o137]; simp [*]) hS3 hK3)
    refine V_iconst C 1 dX3_edit_116 (by decide) ?_
    refine V_istore (L' := [some (.ref a), some (.int (nI r)), some (.int kd), some (.int tg), some (.int sl), some (.int vl), none, none, some (.int 1), none, none, none]) C dX3_edit_117 (by decide) rfl ?_
    refine V_iconst C 0 dX3_edit_119 (by decide) ?_
    refine V_istore (L' := [some (.ref a), some (.int (nI r)), some (.int kd), some (.int tg), some (.int sl), some (.int vl), none, none, some (.int 1), some (.int 0), none, none]) C dX3_edit_120 (by decide) rfl ?_
    refine V_iconst C 4 dX3_edit_122 (by decide) ?_
    refine V_istore (L' := [some (.ref a), some (.int (nI r)), some (.int kd), some (.int tg), some (.int sl), some (.int vl), none, none, some (.int 1), some (.int 0), some (.int 4), none]) C dX3_edit_123 (by decide) rfl ?_
    refine V_sub ?_ (loop 0 (Nat.zero_le _) M1 S1 hS1 (hA1.mono (by decide)) hme1 (fun t x ht => by simp [nmL] at ht) hK1)
    repeat' (first | exact ls_e | refine ls_n ?_ | refine ls_s ?_ | refine ls_i ?_ ?_ | refine ls_v ?_ ?_)
    all_goals rfl
  obtain ⟨hma, -⟩ := id hS
  refine V_iload_n C dX3_edit_0 rfl rfl ?_
  refine V_ofIe (VR_S (As := [.int (nI r)]) (rest := []) C (ct_X3_isReplica l G b M (nI r)) (lw_S q864 q865 q46 q866) nd_X3_isReplica rfl (by decide) (by decide) dX3_edit_1 rfl ⟨by decide, by decide⟩ (Nat.le_of_ble_eq_true rfl)) ?_
  refine V_ifb_eq C 16 dX3_edit_4 (by decide) (fun hrep => ?_) (fun hrep => ?_)
  · exact absurd (isRep_t hr) (by rw [hrep]; decide)
  · skip
    refine V_iload_n C dX3_edit_7 rfl rfl ?_
    refine V_if_lt C 16 dX3_edit_8 (by decide) (fun hk0 => ?_) (fun hk0 => ?_)
    · skip
      refine V_iconst C (-1) dX3_edit_16 (by decide) ?_
      exact V_iret C dX3_edit_17 (by decide) (by decide) ⟨_, rfl, ed_no (by unfold edB; rw [decide_eq_false (fun z => z hk0)]; rfl) hS Ag.rf Keep.rf⟩
    · skip
      refine V_iload_n C dX3_edit_11 rfl rfl ?_
      refine V_iconst C 5 dX3_edit_12 (by decide) ?_
      refine V_icmp_le C 18 dX3_edit_13 (by decide) (fun hk5 => ?_) (fun hk5 => ?_)
      · skip
        refine V_aload_n C dX3_edit_18 rfl rfl ?_
        refine V_iload_n C dX3_edit_19 rfl rfl ?_
        refine V_ofV (VR_V (As := [.int (nI r)]) (rest := []) C (ct_X3_study l G b M a ad S r n po ap hS hV) hma rfl (lw_V q867 q869 qs9 q46 q870) rfl nd_X3_study rfl (by decide) (by decide) dX3_edit_20 rfl ⟨by decide, by decide⟩ (Nat.le_of_ble_eq_true rfl)) (fun M1 hM1 => ?_)
        obtain ⟨S1, hS1, hA1, hme1, hF1, hP1, hK1⟩ := hM1
        have hV1 := hV.ag (hA1 0 (by decide)) (hA1 1 (by decide)) (hA1 2 (by decide))
        obtain ⟨hmza, hmz0, hmz1, hmz2, hmz3, hmz4, hmz5, hmz8, hmz9, hmz10, hmz11⟩ := id hS1
        rw [hme1] at hmza
        rcases kd_6 hk0 hk5 with ekd | ekd | ekd | ekd | ekd | ekd
        · skip
          refine V_L (L1 := [some (.ref a), some (.int (nI r)), some (.int (0)), some (.int tg), some (.int sl), some (.int vl), none, none, none, none, none, none]) (by rw [ekd]) ?_
          refine V_iload_n C dX3_edit_23 rfl rfl ?_
          refine V_iconst C 3 dX3_edit_24 (by decide) ?_
          refine V_icmp_eq C 37 dX3_edit_25 (by decide) (fun h => absurd h (by decide)) (fun _ => ?_)
          refine V_iload_n C dX3_edit_28 rfl rfl ?_
          refine V_iconst C 4 dX3_edit_29 (by decide) ?_
          refine V_icmp_eq C 37 dX3_edit_30 (by decide) (fun h => absurd h (by decide)) (fun _ => ?_)
          refine V_iconst C 1 dX3_edit_33 (by decide) ?_
          refine V_goto C 38 dX3_edit_34 (by decide) ?_
          refine V_istore (L' := [some (.ref a), some (.int (nI r)), some (.int (0)), some (.int tg), some (.int sl), some (.int vl), some (.int 1), none, none, none, none, none]) C dX3_edit_38 (by decide) rfl ?_
          refine V_iload_n C dX3_edit_40 rfl rfl ?_
          refine V_if_eq C 49 dX3_edit_41 (by decide) (fun _ => ?_) (fun h => absurd (by decide) h)
          refine V_iconst C 1 dX3_edit_49 (by decide) ?_
          refine V_goto C 54 dX3_edit_50 (by decide) ?_
          refine V_istore (L' := [some (.ref a), some (.int (nI r)), some (.int (0)), some (.int tg), some (.int sl), some (.int vl), some (.int 1), some (.int 1), none, none, none, none]) C dX3_edit_54 (by decide) rfl ?_
          refine V_iload C dX3_edit_56 rfl ?_
          refine V_if_eq C 72 dX3_edit_58 (by decide) (fun h => absurd h (by decide)) (fun _ => ?_)
          refine V_iload C dX3_edit_61 rfl ?_
          refine V_if_lt C 114 dX3_edit_63 (by decide) (fun q63 => ?_) (fun q63 => ?_)
          · refine V_iconst C (-1) dX3_edit_114 (by decide) ?_
            exact V_iret C dX3_edit_115 (by decide) (by decide) ⟨_, rfl, ed_no (Bool.eq_false_iff.mpr (fun z => by rw [ekd] at z; obtain ⟨z1, z2, z3, z4, z5⟩ := ed_out z; rw [show (if (0 : Int32) = 0 ∨ (0 : Int32) = 3 then (99 : Int32) else 0) = 99 from by decide] at z4; first | exact absurd q63 (z1 (by decide) (by decide)).1 | exact absurd (z1 (by decide) (by decide)).2 (Int32.not_le.mpr q69) | exact absurd q84 z3 | exact absurd z4 (Int32.not_le.mpr q100) | exact absurd z5 (bne2 q111))) hS1 (hA1.mono (by decide)) hK1⟩
          · refine V_iload C dX3_edit_66 rfl ?_
            refine V_iconst C 3 dX3_edit_68 (by decide) ?_
            refine V_icmp_gt C 114 dX3_edit_69 (by decide) (fun q69 => ?_) (fun q69 => ?_)
            · refine V_iconst C (-1) dX3_edit_114 (by decide) ?_
              exact V_iret C dX3_edit_115 (by decide) (by decide) ⟨_, rfl, ed_no (Bool.eq_false_iff.mpr (fun z => by rw [ekd] at z; obtain ⟨z1, z2, z3, z4, z5⟩ := ed_out z; rw [show (if (0 : Int32) = 0 ∨ (0 : Int32) = 3 then (99 : Int32) else 0) = 99 from by decide] at z4; first | exact absurd q63 (z1 (by decide) (by decide)).1 | exact absurd (z1 (by decide) (by decide)).2 (Int32.not_le.mpr q69) | exact absurd q84 z3 | exact absurd z4 (Int32.not_le.mpr q100) | exact absurd z5 (bne2 q111))) hS1 (hA1.mono (by decide)) hK1⟩
            · refine V_iload_n C dX3_edit_72 rfl rfl ?_
              refine V_iconst C 4 dX3_edit_73 (by decide) ?_
              refine V_icmp_ne C 82 dX3_edit_74 (by decide) (fun _ => ?_) (fun h => absurd h (by decide))
              refine V_iload C dX3_edit_82 rfl ?_
              refine V_if_lt C 114 dX3_edit_84 (by decide) (fun q84 => ?_) (fun q84 => ?_)
              · refine V_iconst C (-1) dX3_edit_114 (by decide) ?_
                exact V_iret C dX3_edit_115 (by decide) (by decide) ⟨_, rfl, ed_no (Bool.eq_false_iff.mpr (fun z => by rw [ekd] at z; obtain ⟨z1, z2, z3, z4, z5⟩ := ed_out z; rw [show (if (0 : Int32) = 0 ∨ (0 : Int32) = 3 then (99 : Int32) else 0) = 99 from by decide] at z4; first | exact absurd q63 (z1 (by decide) (by decide)).1 | exact absurd (z1 (by decide) (by decide)).2 (Int32.not_le.mpr q69) | exact absurd q84 z3 | exact absurd z4 (Int32.not_le.mpr q100) | exact absurd z5 (bne2 q111))) hS1 (hA1.mono (by decide)) hK1⟩
              · refine V_iload C dX3_edit_87 rfl ?_
                refine V_iload C dX3_edit_89 rfl ?_
                refine V_if_eq C 99 dX3_edit_91 (by decide) (fun h => absurd h (by decide)) (fun _ => ?_)
                refine V_bipush C 99 dX3_edit_94 (by decide) ?_
                refine V_goto C 100 dX3_edit_96 (by decide) ?_
                refine V_icmp_gt C 114 dX3_edit_100 (by decide) (fun q100 => ?_) (fun q100 => ?_)
                · refine V_iconst C (-1) dX3_edit_114 (by decide) ?_
                  exact V_iret C dX3_edit_115 (by decide) (by decide) ⟨_, rfl, ed_no (Bool.eq_false_iff.mpr (fun z => by rw [ekd] at z; obtain ⟨z1, z2, z3, z4, z5⟩ := ed_out z; rw [show (if (0 : Int32) = 0 ∨ (0 : Int32) = 3 then (99 : Int32) else 0) = 99 from by decide] at z4; first | exact absurd q63 (z1 (by decide) (by decide)).1 | exact absurd (z1 (by decide) (by decide)).2 (Int32.not_le.mpr q69) | exact absurd q84 z3 | exact absurd z4 (Int32.not_le.mpr q100) | exact absurd z5 (bne2 q111))) hS1 (hA1.mono (by decide)) hK1⟩
                · refine V_aload_n C dX3_edit_103 rfl rfl ?_
                  refine V_iload_n C dX3_edit_104 rfl rfl ?_
                  refine V_iload_n C dX3_edit_105 rfl rfl ?_
                  refine V_iload C dX3_edit_106 rfl ?_
                  refine V_ofIe (VR_V (As := [.int (0), .int tg, .int sl]) (rest := []) C (ct_X3_fits l G b M1 a ad S1 r n po ap hS1 hme1 hV1 (stA n po ap).1 hF1 (0) tg sl) hmza rfl (lw_V q879 q881 qs12 q46 q882) rfl nd_X3_fits rfl (by decide) (by decide) dX3_edit_108 rfl ⟨by decide, by decide⟩ (Nat.le_of_ble_eq_true rfl)) ?_
                  refine V_ifb_ne C 116 dX3_edit_111 (by decide) (fun q111 => ?_) (fun q111 => ?_)
                  · refine V_sub ?_ (rest (by rw [ekd]; exact ed_in (by decide) (by decide) (Or.inr (Or.inr ⟨q63, Int32.not_lt.mp q69⟩)) (fun z => absurd z (by decide)) q84 (by rw [show (if (0 : Int32) = 0 ∨ (0 : Int32) = 3 then (99 : Int32) else 0) = 99 from by decide]; exact Int32.not_lt.mp q100) q111) M1 S1 hS1 hA1 hme1 hK1)
                    repeat' (first | exact ls_e | refine ls_n ?_ | refine ls_s ?_ | refine ls_i ?_ ?_ | refine ls_v ?_ ?_)
                    all_goals (rw [ekd])
                  · refine V_iconst C (-1) dX3_edit_114 (by decide) ?_
                    exact V_iret C dX3_edit_115 (by decide) (by decide) ⟨_, rfl, ed_no (Bool.eq_false_iff.mpr (fun z => by rw [ekd] at z; obtain ⟨z1, z2, z3, z4, z5⟩ := ed_out z; rw [show (if (0 : Int32) = 0 ∨ (0 : Int32) = 3 then (99 : Int32) else 0) = 99 from by decide] at z4; first | exact absurd q63 (z1 (by decide) (by decide)).1 | exact absurd (z1 (by decide) (by decide)).2 (Int32.not_le.mpr q69) | exact absurd q84 z3 | exact absurd z4 (Int32.not_le.mpr q100) | exact absurd z5 (bne2 q111))) hS1 (hA1.mono (by decide)) hK1⟩
        · skip
          refine V_L (L1 := [some (.ref a), some (.int (nI r)), some (.int (1)), some (.int tg), some (.int sl), some (.int vl), none, none, none, none, none, none]) (by rw [ekd]) ?_
          refine V_iload_n C dX3_edit_23 rfl rfl ?_
          refine V_iconst C 3 dX3_edit_24 (by decide) ?_
          refine V_icmp_eq C 37 dX3_edit_25 (by decide) (fun h => absurd h (by decide)) (fun _ => ?_)
          refine V_iload_n C dX3_edit_28 rfl rfl ?_
          refine V_iconst C 4 dX3_edit_29 (by decide) ?_
          refine V_icmp_eq C 37 dX3_edit_30 (by decide) (fun h => absurd h (by decide)) (fun _ => ?_)
          refine V_iconst C 1 dX3_edit_33 (by decide) ?_
          refine V_goto C 38 dX3_edit_34 (by decide) ?_
          refine V_istore (L' := [some (.ref a), some (.int (nI r)), some (.int (1)), some (.int tg), some (.int sl), some (.int vl), some (.int 1), none, none, none, none, none]) C dX3_edit_38 (by decide) rfl ?_
          refine V_iload_n C dX3_edit_40 rfl rfl ?_
          refine V_if_eq C 49 dX3_edit_41 (by decide) (fun h => absurd h (by decide)) (fun _ => ?_)
          refine V_iload_n C dX3_edit_44 rfl rfl ?_
          refine V_iconst C 3 dX3_edit_45 (by decide) ?_
          refine V_icmp_ne C 53 dX3_edit_46 (by decide) (fun _ => ?_) (fun h => absurd h (by decide))
          refine V_iconst C 0 dX3_edit_53 (by decide) ?_
          refine V_istore (L' := [some (.ref a), some (.int (nI r)), some (.int (1)), some (.int tg), some (.int sl), some (.int vl), some (.int 1), some (.int 0), none, none, none, none]) C dX3_edit_54 (by decide) rfl ?_
          refine V_iload C dX3_edit_56 rfl ?_
          refine V_if_eq C 72 dX3_edit_58 (by decide) (fun h => absurd h (by decide)) (fun _ => ?_)
          refine V_iload C dX3_edit_61 rfl ?_
          refine V_if_lt C 114 dX3_edit_63 (by decide) (fun q63 => ?_) (fun q63 => ?_)
          · refine V_iconst C (-1) dX3_edit_114 (by decide) ?_
            exact V_iret C dX3_edit_115 (by decide) (by decide) ⟨_, rfl, ed_no (Bool.eq_false_iff.mpr (fun z => by rw [ekd] at z; obtain ⟨z1, z2, z3, z4, z5⟩ := ed_out z; rw [show (if (1 : Int32) = 0 ∨ (1 : Int32) = 3 then (99 : Int32) else 0) = 0 from by decide] at z4; first | exact absurd q63 (z1 (by decide) (by decide)).1 | exact absurd (z1 (by decide) (by decide)).2 (Int32.not_le.mpr q69) | exact absurd q84 z3 | exact absurd z4 (Int32.not_le.mpr q100) | exact absurd z5 (bne2 q111))) hS1 (hA1.mono (by decide)) hK1⟩
          · refine V_iload C dX3_edit_66 rfl ?_
            refine V_iconst C 3 dX3_edit_68 (by decide) ?_
            refine V_icmp_gt C 114 dX3_edit_69 (by decide) (fun q69 => ?_) (fun q69 => ?_)
            · refine V_iconst C (-1) dX3_edit_114 (by decide) ?_
              exact V_iret C dX3_edit_115 (by decide) (by decide) ⟨_, rfl, ed_no (Bool.eq_false_iff.mpr (fun z => by rw [ekd] at z; obtain ⟨z1, z2, z3, z4, z5⟩ := ed_out z; rw [show (if (1 : Int32) = 0 ∨ (1 : Int32) = 3 then (99 : Int32) else 0) = 0 from by decide] at z4; first | exact absurd q63 (z1 (by decide) (by decide)).1 | exact absurd (z1 (by decide) (by decide)).2 (Int32.not_le.mpr q69) | exact absurd q84 z3 | exact absurd z4 (Int32.not_le.mpr q100) | exact absurd z5 (bne2 q111))) hS1 (hA1.mono (by decide)) hK1⟩
            · refine V_iload_n C dX3_edit_72 rfl rfl ?_
              refine V_iconst C 4 dX3_edit_73 (by decide) ?_
              refine V_icmp_ne C 82 dX3_edit_74 (by decide) (fun _ => ?_) (fun h => absurd h (by decide))
              refine V_iload C dX3_edit_82 rfl ?_
              refine V_if_lt C 114 dX3_edit_84 (by decide) (fun q84 => ?_) (fun q84 => ?_)
              · refine V_iconst C (-1) dX3_edit_114 (by decide) ?_
                exact V_iret C dX3_edit_115 (by decide) (by decide) ⟨_, rfl, ed_no (Bool.eq_false_iff.mpr (fun z => by rw [ekd] at z; obtain ⟨z1, z2, z3, z4, z5⟩ := ed_out z; rw [show (if (1 : Int32) = 0 ∨ (1 : Int32) = 3 then (99 : Int32) else 0) = 0 from by decide] at z4; first | exact absurd q63 (z1 (by decide) (by decide)).1 | exact absurd (z1 (by decide) (by decide)).2 (Int32.not_le.mpr q69) | exact absurd q84 z3 | exact absurd z4 (Int32.not_le.mpr q100) | exact absurd z5 (bne2 q111))) hS1 (hA1.mono (by decide)) hK1⟩
              · refine V_iload C dX3_edit_87 rfl ?_
                refine V_iload C dX3_edit_89 rfl ?_
                refine V_if_eq C 99 dX3_edit_91 (by decide) (fun _ => ?_) (fun h => absurd (by decide) h)
                refine V_iconst C 0 dX3_edit_99 (by decide) ?_
                refine V_icmp_gt C 114 dX3_edit_100 (by decide) (fun q100 => ?_) (fun q100 => ?_)
                · refine V_iconst C (-1) dX3_edit_114 (by decide) ?_
                  exact V_iret C dX3_edit_115 (by decide) (by decide) ⟨_, rfl, ed_no (Bool.eq_false_iff.mpr (fun z => by rw [ekd] at z; obtain ⟨z1, z2, z3, z4, z5⟩ := ed_out z; rw [show (if (1 : Int32) = 0 ∨ (1 : Int32) = 3 then (99 : Int32) else 0) = 0 from by decide] at z4; first | exact absurd q63 (z1 (by decide) (by decide)).1 | exact absurd (z1 (by decide) (by decide)).2 (Int32.not_le.mpr q69) | exact absurd q84 z3 | exact absurd z4 (Int32.not_le.mpr q100) | exact absurd z5 (bne2 q111))) hS1 (hA1.mono (by decide)) hK1⟩
                · refine V_aload_n C dX3_edit_103 rfl rfl ?_
                  refine V_iload_n C dX3_edit_104 rfl rfl ?_
                  refine V_iload_n C dX3_edit_105 rfl rfl ?_
                  refine V_iload C dX3_edit_106 rfl ?_
                  refine V_ofIe (VR_V (As := [.int (1), .int tg, .int sl]) (rest := []) C (ct_X3_fits l G b M1 a ad S1 r n po ap hS1 hme1 hV1 (stA n po ap).1 hF1 (1) tg sl) hmza rfl (lw_V q879 q881 qs12 q46 q882) rfl nd_X3_fits rfl (by decide) (by decide) dX3_edit_108 rfl ⟨by decide, by decide⟩ (Nat.le_of_ble_eq_true rfl)) ?_
                  refine V_ifb_ne C 116 dX3_edit_111 (by decide) (fun q111 => ?_) (fun q111 => ?_)
                  · refine V_sub ?_ (rest (by rw [ekd]; exact ed_in (by decide) (by decide) (Or.inr (Or.inr ⟨q63, Int32.not_lt.mp q69⟩)) (fun z => absurd z (by decide)) q84 (by rw [show (if (1 : Int32) = 0 ∨ (1 : Int32) = 3 then (99 : Int32) else 0) = 0 from by decide]; exact Int32.not_lt.mp q100) q111) M1 S1 hS1 hA1 hme1 hK1)
                    repeat' (first | exact ls_e | refine ls_n ?_ | refine ls_s ?_ | refine ls_i ?_ ?_ | refine ls_v ?_ ?_)
                    all_goals (rw [ekd])
                  · refine V_iconst C (-1) dX3_edit_114 (by decide) ?_
                    exact V_iret C dX3_edit_115 (by decide) (by decide) ⟨_, rfl, ed_no (Bool.eq_false_iff.mpr (fun z => by rw [ekd] at z; obtain ⟨z1, z2, z3, z4, z5⟩ := ed_out z; rw [show (if (1 : Int32) = 0 ∨ (1 : Int32) = 3 then (99 : Int32) else 0) = 0 from by decide] at z4; first | exact absurd q63 (z1 (by decide) (by decide)).1 | exact absurd (z1 (by decide) (by decide)).2 (Int32.not_le.mpr q69) | exact absurd q84 z3 | exact absurd z4 (Int32.not_le.mpr q100) | exact absurd z5 (bne2 q111))) hS1 (hA1.mono (by decide)) hK1⟩
        · skip
          refine V_L (L1 := [some (.ref a), some (.int (nI r)), some (.int (2)), some (.int tg), some (.int sl), some (.int vl), none, none, none, none, none, none]) (by rw [ekd]) ?_
          refine V_iload_n C dX3_edit_23 rfl rfl ?_
          refine V_iconst C 3 dX3_edit_24 (by decide) ?_
          refine V_icmp_eq C 37 dX3_edit_25 (by decide) (fun h => absurd h (by decide)) (fun _ => ?_)
          refine V_iload_n C dX3_edit_28 rfl rfl ?_
          refine V_iconst C 4 dX3_edit_29 (by decide) ?_
          refine V_icmp_eq C 37 dX3_edit_30 (by decide) (fun h => absurd h (by decide)) (fun _ => ?_)
          refine V_iconst C 1 dX3_edit_33 (by decide) ?_
          refine V_goto C 38 dX3_edit_34 (by decide) ?_
          refine V_istore (L' := [some (.ref a), some (.int (nI r)), some (.int (2)), some (.int tg), some (.int sl), some (.int vl), some (.int 1), none, none, none, none, none]) C dX3_edit_38 (by decide) rfl ?_
          refine V_iload_n C dX3_edit_40 rfl rfl ?_
          refine V_if_eq C 49 dX3_edit_41 (by decide) (fun h => absurd h (by decide)) (fun _ => ?_)
          refine V_iload_n C dX3_edit_44 rfl rfl ?_
          refine V_iconst C 3 dX3_edit_45 (by decide) ?_
          refine V_icmp_ne C 53 dX3_edit_46 (by decide) (fun _ => ?_) (fun h => absurd h (by decide))
          refine V_iconst C 0 dX3_edit_53 (by decide) ?_
          refine V_istore (L' := [some (.ref a), some (.int (nI r)), some (.int (2)), some (.int tg), some (.int sl), some (.int vl), some (.int 1), some (.int 0), none, none, none, none]) C dX3_edit_54 (by decide) rfl ?_
          refine V_iload C dX3_edit_56 rfl ?_
          refine V_if_eq C 72 dX3_edit_58 (by decide) (fun h => absurd h (by decide)) (fun _ => ?_)
          refine V_iload C dX3_edit_61 rfl ?_
          refine V_if_lt C 114 dX3_edit_63 (by decide) (fun q63 => ?_) (fun q63 => ?_)
          · refine V_iconst C (-1) dX3_edit_114 (by decide) ?_
            exact V_iret C dX3_edit_115 (by decide) (by decide) ⟨_, rfl, ed_no (Bool.eq_false_iff.mpr (fun z => by rw [ekd] at z; obtain ⟨z1, z2, z3, z4, z5⟩ := ed_out z; rw [show (if (2 : Int32) = 0 ∨ (2 : Int32) = 3 then (99 : Int32) else 0) = 0 from by decide] at z4; first | exact absurd q63 (z1 (by decide) (by decide)).1 | exact absurd (z1 (by decide) (by decide)).2 (Int32.not_le.mpr q69) | exact absurd q84 z3 | exact absurd z4 (Int32.not_le.mpr q100) | exact absurd z5 (bne2 q111))) hS1 (hA1.mono (by decide)) hK1⟩
          · refine V_iload C dX3_edit_66 rfl ?_
            refine V_iconst C 3 dX3_edit_68 (by decide) ?_
            refine V_icmp_gt C 114 dX3_edit_69 (by decide) (fun q69 => ?_) (fun q69 => ?_)
            · refine V_iconst C (-1) dX3_edit_114 (by decide) ?_
              exact V_iret C dX3_edit_115 (by decide) (by decide) ⟨_, rfl, ed_no (Bool.eq_false_iff.mpr (fun z => by rw [ekd] at z; obtain ⟨z1, z2, z3, z4, z5⟩ := ed_out z; rw [show (if (2 : Int32) = 0 ∨ (2 : Int32) = 3 then (99 : Int32) else 0) = 0 from by decide] at z4; first | exact absurd q63 (z1 (by decide) (by decide)).1 | exact absurd (z1 (by decide) (by decide)).2 (Int32.not_le.mpr q69) | exact absurd q84 z3 | exact absurd z4 (Int32.not_le.mpr q100) | exact absurd z5 (bne2 q111))) hS1 (hA1.mono (by decide)) hK1⟩
            · refine V_iload_n C dX3_edit_72 rfl rfl ?_
              refine V_iconst C 4 dX3_edit_73 (by decide) ?_
              refine V_icmp_ne C 82 dX3_edit_74 (by decide) (fun _ => ?_) (fun h => absurd h (by decide))
              refine V_iload C dX3_edit_82 rfl ?_
              refine V_if_lt C 114 dX3_edit_84 (by decide) (fun q84 => ?_) (fun q84 => ?_)
              · refine V_iconst C (-1) dX3_edit_114 (by decide) ?_
                exact V_iret C dX3_edit_115 (by decide) (by decide) ⟨_, rfl, ed_no (Bool.eq_false_iff.mpr (fun z => by rw [ekd] at z; obtain ⟨z1, z2, z3, z4, z5⟩ := ed_out z; rw [show (if (2 : Int32) = 0 ∨ (2 : Int32) = 3 then (99 : Int32) else 0) = 0 from by decide] at z4; first | exact absurd q63 (z1 (by decide) (by decide)).1 | exact absurd (z1 (by decide) (by decide)).2 (Int32.not_le.mpr q69) | exact absurd q84 z3 | exact absurd z4 (Int32.not_le.mpr q100) | exact absurd z5 (bne2 q111))) hS1 (hA1.mono (by decide)) hK1⟩
              · refine V_iload C dX3_edit_87 rfl ?_
                refine V_iload C dX3_edit_89 rfl ?_
                refine V_if_eq C 99 dX3_edit_91 (by decide) (fun _ => ?_) (fun h => absurd (by decide) h)
                refine V_iconst C 0 dX3_edit_99 (by decide) ?_
                refine V_icmp_gt C 114 dX3_edit_100 (by decide) (fun q100 => ?_) (fun q100 => ?_)
                · refine V_iconst C (-1) dX3_edit_114 (by decide) ?_
                  exact V_iret C dX3_edit_115 (by decide) (by decide) ⟨_, rfl, ed_no (Bool.eq_false_iff.mpr (fun z => by rw [ekd] at z; obtain ⟨z1, z2, z3, z4, z5⟩ := ed_out z; rw [show (if (2 : Int32) = 0 ∨ (2 : Int32) = 3 then (99 : Int32) else 0) = 0 from by decide] at z4; first | exact absurd q63 (z1 (by decide) (by decide)).1 | exact absurd (z1 (by decide) (by decide)).2 (Int32.not_le.mpr q69) | exact absurd q84 z3 | exact absurd z4 (Int32.not_le.mpr q100) | exact absurd z5 (bne2 q111))) hS1 (hA1.mono (by decide)) hK1⟩
                · refine V_aload_n C dX3_edit_103 rfl rfl ?_
                  refine V_iload_n C dX3_edit_104 rfl rfl ?_
                  refine V_iload_n C dX3_edit_105 rfl rfl ?_
                  refine V_iload C dX3_edit_106 rfl ?_
                  refine V_ofIe (VR_V (As := [.int (2), .int tg, .int sl]) (rest := []) C (ct_X3_fits l G b M1 a ad S1 r n po ap hS1 hme1 hV1 (stA n po ap).1 hF1 (2) tg sl) hmza rfl (lw_V q879 q881 qs12 q46 q882) rfl nd_X3_fits rfl (by decide) (by decide) dX3_edit_108 rfl ⟨by decide, by decide⟩ (Nat.le_of_ble_eq_true rfl)) ?_
                  refine V_ifb_ne C 116 dX3_edit_111 (by decide) (fun q111 => ?_) (fun q111 => ?_)
                  · refine V_sub ?_ (rest (by rw [ekd]; exact ed_in (by decide) (by decide) (Or.inr (Or.inr ⟨q63, Int32.not_lt.mp q69⟩)) (fun z => absurd z (by decide)) q84 (by rw [show (if (2 : Int32) = 0 ∨ (2 : Int32) = 3 then (99 : Int32) else 0) = 0 from by decide]; exact Int32.not_lt.mp q100) q111) M1 S1 hS1 hA1 hme1 hK1)
                    repeat' (first | exact ls_e | refine ls_n ?_ | refine ls_s ?_ | refine ls_i ?_ ?_ | refine ls_v ?_ ?_)
                    all_goals (rw [ekd])
                  · refine V_iconst C (-1) dX3_edit_114 (by decide) ?_
                    exact V_iret C dX3_edit_115 (by decide) (by decide) ⟨_, rfl, ed_no (Bool.eq_false_iff.mpr (fun z => by rw [ekd] at z; obtain ⟨z1, z2, z3, z4, z5⟩ := ed_out z; rw [show (if (2 : Int32) = 0 ∨ (2 : Int32) = 3 then (99 : Int32) else 0) = 0 from by decide] at z4; first | exact absurd q63 (z1 (by decide) (by decide)).1 | exact absurd (z1 (by decide) (by decide)).2 (Int32.not_le.mpr q69) | exact absurd q84 z3 | exact absurd z4 (Int32.not_le.mpr q100) | exact absurd z5 (bne2 q111))) hS1 (hA1.mono (by decide)) hK1⟩
        · skip
          refine V_L (L1 := [some (.ref a), some (.int (nI r)), some (.int (3)), some (.int tg), some (.int sl), some (.int vl), none, none, none, none, none, none]) (by rw [ekd]) ?_
          refine V_iload_n C dX3_edit_23 rfl rfl ?_
          refine V_iconst C 3 dX3_edit_24 (by decide) ?_
          refine V_icmp_eq C 37 dX3_edit_25 (by decide) (fun _ => ?_) (fun h => absurd (by decide) h)
          refine V_iconst C 0 dX3_edit_37 (by decide) ?_
          refine V_istore (L' := [some (.ref a), some (.int (nI r)), some (.int (3)), some (.int tg), some (.int sl), some (.int vl), some (.int 0), none, none, none, none, none]) C dX3_edit_38 (by decide) rfl ?_
          refine V_iload_n C dX3_edit_40 rfl rfl ?_
          refine V_if_eq C 49 dX3_edit_41 (by decide) (fun h => absurd h (by decide)) (fun _ => ?_)
          refine V_iload_n C dX3_edit_44 rfl rfl ?_
          refine V_iconst C 3 dX3_edit_45 (by decide) ?_
          refine V_icmp_ne C 53 dX3_edit_46 (by decide) (fun h => absurd rfl h) (fun _ => ?_)
          refine V_iconst C 1 dX3_edit_49 (by decide) ?_
          refine V_goto C 54 dX3_edit_50 (by decide) ?_
          refine V_istore (L' := [some (.ref a), some (.int (nI r)), some (.int (3)), some (.int tg), some (.int sl), some (.int vl), some (.int 0), some (.int 1), none, none, none, none]) C dX3_edit_54 (by decide) rfl ?_
          refine V_iload C dX3_edit_56 rfl ?_
          refine V_if_eq C 72 dX3_edit_58 (by decide) (fun _ => ?_) (fun h => absurd (by decide) h)
          refine V_iload_n C dX3_edit_72 rfl rfl ?_
          refine V_iconst C 4 dX3_edit_73 (by decide) ?_
          refine V_icmp_ne C 82 dX3_edit_74 (by decide) (fun _ => ?_) (fun h => absurd h (by decide))
          refine V_iload C dX3_edit_82 rfl ?_
          refine V_if_lt C 114 dX3_edit_84 (by decide) (fun q84 => ?_) (fun q84 => ?_)
          · refine V_iconst C (-1) dX3_edit_114 (by decide) ?_
            exact V_iret C dX3_edit_115 (by decide) (by decide) ⟨_, rfl, ed_no (Bool.eq_false_iff.mpr (fun z => by rw [ekd] at z; obtain ⟨z1, z2, z3, z4, z5⟩ := ed_out z; rw [show (if (3 : Int32) = 0 ∨ (3 : Int32) = 3 then (99 : Int32) else 0) = 99 from by decide] at z4; first | exact absurd q84 z3 | exact absurd z4 (Int32.not_le.mpr q100) | exact absurd z5 (bne2 q111))) hS1 (hA1.mono (by decide)) hK1⟩
          · refine V_iload C dX3_edit_87 rfl ?_
            refine V_iload C dX3_edit_89 rfl ?_
            refine V_if_eq C 99 dX3_edit_91 (by decide) (fun h => absurd h (by decide)) (fun _ => ?_)
            refine V_bipush C 99 dX3_edit_94 (by decide) ?_
            refine V_goto C 100 dX3_edit_96 (by decide) ?_
            refine V_icmp_gt C 114 dX3_edit_100 (by decide) (fun q100 => ?_) (fun q100 => ?_)
            · refine V_iconst C (-1) dX3_edit_114 (by decide) ?_
              exact V_iret C dX3_edit_115 (by decide) (by decide) ⟨_, rfl, ed_no (Bool.eq_false_iff.mpr (fun z => by rw [ekd] at z; obtain ⟨z1, z2, z3, z4, z5⟩ := ed_out z; rw [show (if (3 : Int32) = 0 ∨ (3 : Int32) = 3 then (99 : Int32) else 0) = 99 from by decide] at z4; first | exact absurd q84 z3 | exact absurd z4 (Int32.not_le.mpr q100) | exact absurd z5 (bne2 q111))) hS1 (hA1.mono (by decide)) hK1⟩
            · refine V_aload_n C dX3_edit_103 rfl rfl ?_
              refine V_iload_n C dX3_edit_104 rfl rfl ?_
              refine V_iload_n C dX3_edit_105 rfl rfl ?_
              refine V_iload C dX3_edit_106 rfl ?_
              refine V_ofIe (VR_V (As := [.int (3), .int tg, .int sl]) (rest := []) C (ct_X3_fits l G b M1 a ad S1 r n po ap hS1 hme1 hV1 (stA n po ap).1 hF1 (3) tg sl) hmza rfl (lw_V q879 q881 qs12 q46 q882) rfl nd_X3_fits rfl (by decide) (by decide) dX3_edit_108 rfl ⟨by decide, by decide⟩ (Nat.le_of_ble_eq_true rfl)) ?_
              refine V_ifb_ne C 116 dX3_edit_111 (by decide) (fun q111 => ?_) (fun q111 => ?_)
              · refine V_sub ?_ (rest (by rw [ekd]; exact ed_in (by decide) (by decide) (Or.inl rfl) (fun z => absurd z (by decide)) q84 (by rw [show (if (3 : Int32) = 0 ∨ (3 : Int32) = 3 then (99 : Int32) else 0) = 99 from by decide]; exact Int32.not_lt.mp q100) q111) M1 S1 hS1 hA1 hme1 hK1)
                repeat' (first | exact ls_e | refine ls_n ?_ | refine ls_s ?_ | refine ls_i ?_ ?_ | refine ls_v ?_ ?_)
                all_goals (rw [ekd])
              · refine V_iconst C (-1) dX3_edit_114 (by decide) ?_
                exact V_iret C dX3_edit_115 (by decide) (by decide) ⟨_, rfl, ed_no (Bool.eq_false_iff.mpr (fun z => by rw [ekd] at z; obtain ⟨z1, z2, z3, z4, z5⟩ := ed_out z; rw [show (if (3 : Int32) = 0 ∨ (3 : Int32) = 3 then (99 : Int32) else 0) = 99 from by decide] at z4; first | exact absurd q84 z3 | exact absurd z4 (Int32.not_le.mpr q100) | exact absurd z5 (bne2 q111))) hS1 (hA1.mono (by decide)) hK1⟩
        · skip
          refine V_L (L1 := [some (.ref a), some (.int (nI r)), some (.int (4)), some (.int tg), some (.int sl), some (.int vl), none, none, none, none, none, none]) (by rw [ekd]) ?_
          refine V_iload_n C dX3_edit_23 rfl rfl ?_
          refine V_iconst C 3 dX3_edit_24 (by decide) ?_
          refine V_icmp_eq C 37 dX3_edit_25 (by decide) (fun h => absurd h (by decide)) (fun _ => ?_)
          refine V_iload_n C dX3_edit_28 rfl rfl ?_
          refine V_iconst C 4 dX3_edit_29 (by decide) ?_
          refine V_icmp_eq C 37 dX3_edit_30 (by decide) (fun _ => ?_) (fun h => absurd (by decide) h)
          refine V_iconst C 0 dX3_edit_37 (by decide) ?_
          refine V_istore (L' := [some (.ref a), some (.int (nI r)), some (.int (4)), some (.int tg), some (.int sl), some (.int vl), some (.int 0), none, none, none, none, none]) C dX3_edit_38 (by decide) rfl ?_
          refine V_iload_n C dX3_edit_40 rfl rfl ?_
          refine V_if_eq C 49 dX3_edit_41 (by decide) (fun h => absurd h (by decide)) (fun _ => ?_)
          refine V_iload_n C dX3_edit_44 rfl rfl ?_
          refine V_iconst C 3 dX3_edit_45 (by decide) ?_
          refine V_icmp_ne C 53 dX3_edit_46 (by decide) (fun _ => ?_) (fun h => absurd h (by decide))
          refine V_iconst C 0 dX3_edit_53 (by decide) ?_
          refine V_istore (L' := [some (.ref a), some (.int (nI r)), some (.int (4)), some (.int tg), some (.int sl), some (.int vl), some (.int 0), some (.int 0), none, none, none, none]) C dX3_edit_54 (by decide) rfl ?_
          refine V_iload C dX3_edit_56 rfl ?_
          refine V_if_eq C 72 dX3_edit_58 (by decide) (fun _ => ?_) (fun h => absurd (by decide) h)
          refine V_iload_n C dX3_edit_72 rfl rfl ?_
          refine V_iconst C 4 dX3_edit_73 (by decide) ?_
          refine V_icmp_ne C 82 dX3_edit_74 (by decide) (fun h => absurd rfl h) (fun _ => ?_)
          refine V_iload C dX3_edit_77 rfl ?_
          refine V_if_ne C 114 dX3_edit_79 (by decide) (fun q79 => ?_) (fun q79 => ?_)
          · refine V_iconst C (-1) dX3_edit_114 (by decide) ?_
            exact V_iret C dX3_edit_115 (by decide) (by decide) ⟨_, rfl, ed_no (Bool.eq_false_iff.mpr (fun z => by rw [ekd] at z; obtain ⟨z1, z2, z3, z4, z5⟩ := ed_out z; rw [show (if (4 : Int32) = 0 ∨ (4 : Int32) = 3 then (99 : Int32) else 0) = 0 from by decide] at z4; first | exact absurd (z2 rfl) q79 | exact absurd q84 z3 | exact absurd z4 (Int32.not_le.mpr q100) | exact absurd z5 (bne2 q111))) hS1 (hA1.mono (by decide)) hK1⟩
          · refine V_iload C dX3_edit_82 rfl ?_
            refine V_if_lt C 114 dX3_edit_84 (by decide) (fun q84 => ?_) (fun q84 => ?_)
            · refine V_iconst C (-1) dX3_edit_114 (by decide) ?_
              exact V_iret C dX3_edit_115 (by decide) (by decide) ⟨_, rfl, ed_no (Bool.eq_false_iff.mpr (fun z => by rw [ekd] at z; obtain ⟨z1, z2, z3, z4, z5⟩ := ed_out z; rw [show (if (4 : Int32) = 0 ∨ (4 : Int32) = 3 then (99 : Int32) else 0) = 0 from by decide] at z4; first | exact absurd (z2 rfl) q79 | exact absurd q84 z3 | exact absurd z4 (Int32.not_le.mpr q100) | exact absurd z5 (bne2 q111))) hS1 (hA1.mono (by decide)) hK1⟩
            · refine V_iload C dX3_edit_87 rfl ?_
              refine V_iload C dX3_edit_89 rfl ?_
              refine V_if_eq C 99 dX3_edit_91 (by decide) (fun _ => ?_) (fun h => absurd (by decide) h)
              refine V_iconst C 0 dX3_edit_99 (by decide) ?_
              refine V_icmp_gt C 114 dX3_edit_100 (by decide) (fun q100 => ?_) (fun q100 => ?_)
              · refine V_iconst C (-1) dX3_edit_114 (by decide) ?_
                exact V_iret C dX3_edit_115 (by decide) (by decide) ⟨_, rfl, ed_no (Bool.eq_false_iff.mpr (fun z => by rw [ekd] at z; obtain ⟨z1, z2, z3, z4, z5⟩ := ed_out z; rw [show (if (4 : Int32) = 0 ∨ (4 : Int32) = 3 then (99 : Int32) else 0) = 0 from by decide] at z4; first | exact absurd (z2 rfl) q79 | exact absurd q84 z3 | exact absurd z4 (Int32.not_le.mpr q100) | exact absurd z5 (bne2 q111))) hS1 (hA1.mono (by decide)) hK1⟩
              · refine V_aload_n C dX3_edit_103 rfl rfl ?_
                refine V_iload_n C dX3_edit_104 rfl rfl ?_
                refine V_iload_n C dX3_edit_105 rfl rfl ?_
                refine V_iload C dX3_edit_106 rfl ?_
                refine V_ofIe (VR_V (As := [.int (4), .int tg, .int sl]) (rest := []) C (ct_X3_fits l G b M1 a ad S1 r n po ap hS1 hme1 hV1 (stA n po ap).1 hF1 (4) tg sl) hmza rfl (lw_V q879 q881 qs12 q46 q882) rfl nd_X3_fits rfl (by decide) (by decide) dX3_edit_108 rfl ⟨by decide, by decide⟩ (Nat.le_of_ble_eq_true rfl)) ?_
                refine V_ifb_ne C 116 dX3_edit_111 (by decide) (fun q111 => ?_) (fun q111 => ?_)
                · refine V_sub ?_ (rest (by rw [ekd]; exact ed_in (by decide) (by decide) (Or.inr (Or.inl rfl)) (fun _ => q79) q84 (by rw [show (if (4 : Int32) = 0 ∨ (4 : Int32) = 3 then (99 : Int32) else 0) = 0 from by decide]; exact Int32.not_lt.mp q100) q111) M1 S1 hS1 hA1 hme1 hK1)
                  repeat' (first | exact ls_e | refine ls_n ?_ | refine ls_s ?_ | refine ls_i ?_ ?_ | refine ls_v ?_ ?_)
                  all_goals (rw [ekd])
                · refine V_iconst C (-1) dX3_edit_114 (by decide) ?_
                  exact V_iret C dX3_edit_115 (by decide) (by decide) ⟨_, rfl, ed_no (Bool.eq_false_iff.mpr (fun z => by rw [ekd] at z; obtain ⟨z1, z2, z3, z4, z5⟩ := ed_out z; rw [show (if (4 : Int32) = 0 ∨ (4 : Int32) = 3 then (99 : Int32) else 0) = 0 from by decide] at z4; first | exact absurd (z2 rfl) q79 | exact absurd q84 z3 | exact absurd z4 (Int32.not_le.mpr q100) | exact absurd z5 (bne2 q111))) hS1 (hA1.mono (by decide)) hK1⟩
        · skip
          refine V_L (L1 := [some (.ref a), some (.int (nI r)), some (.int (5)), some (.int tg), some (.int sl), some (.int vl), none, none, none, none, none, none]) (by rw [ekd]) ?_
          refine V_iload_n C dX3_edit_23 rfl rfl ?_
          refine V_iconst C 3 dX3_edit_24 (by decide) ?_
          refine V_icmp_eq C 37 dX3_edit_25 (by decide) (fun h => absurd h (by decide)) (fun _ => ?_)
          refine V_iload_n C dX3_edit_28 rfl rfl ?_
          refine V_iconst C 4 dX3_edit_29 (by decide) ?_
          refine V_icmp_eq C 37 dX3_edit_30 (by decide) (fun h => absurd h (by decide)) (fun _ => ?_)
          refine V_iconst C 1 dX3_edit_33 (by decide) ?_
          refine V_goto C 38 dX3_edit_34 (by decide) ?_
          refine V_istore (L' := [some (.ref a), some (.int (nI r)), some (.int (5)), some (.int tg), some (.int sl), some (.int vl), some (.int 1), none, none, none, none, none]) C dX3_edit_38 (by decide) rfl ?_
          refine V_iload_n C dX3_edit_40 rfl rfl ?_
          refine V_if_eq C 49 dX3_edit_41 (by decide) (fun h => absurd h (by decide)) (fun _ => ?_)
          refine V_iload_n C dX3_edit_44 rfl rfl ?_
          refine V_iconst C 3 dX3_edit_45 (by decide) ?_
          refine V_icmp_ne C 53 dX3_edit_46 (by decide) (fun _ => ?_) (fun h => absurd h (by decide))
          refine V_iconst C 0 dX3_edit_53 (by decide) ?_
          refine V_istore (L' := [some (.ref a), some (.int (nI r)), some (.int (5)), some (.int tg), some (.int sl), some (.int vl), some (.int 1), some (.int 0), none, none, none, none]) C dX3_edit_54 (by decide) rfl ?_
          refine V_iload C dX3_edit_56 rfl ?_
          refine V_if_eq C 72 dX3_edit_58 (by decide) (fun h => absurd h (by decide)) (fun _ => ?_)
          refine V_iload C dX3_edit_61 rfl ?_
          refine V_if_lt C 114 dX3_edit_63 (by decide) (fun q63 => ?_) (fun q63 => ?_)
          · refine V_iconst C (-1) dX3_edit_114 (by decide) ?_
            exact V_iret C dX3_edit_115 (by decide) (by decide) ⟨_, rfl, ed_no (Bool.eq_false_iff.mpr (fun z => by rw [ekd] at z; obtain ⟨z1, z2, z3, z4, z5⟩ := ed_out z; rw [show (if (5 : Int32) = 0 ∨ (5 : Int32) = 3 then (99 : Int32) else 0) = 0 from by decide] at z4; first | exact absurd q63 (z1 (by decide) (by decide)).1 | exact absurd (z1 (by decide) (by decide)).2 (Int32.not_le.mpr q69) | exact absurd q84 z3 | exact absurd z4 (Int32.not_le.mpr q100) | exact absurd z5 (bne2 q111))) hS1 (hA1.mono (by decide)) hK1⟩
          · refine V_iload C dX3_edit_66 rfl ?_
            refine V_iconst C 3 dX3_edit_68 (by decide) ?_
            refine V_icmp_gt C 114 dX3_edit_69 (by decide) (fun q69 => ?_) (fun q69 => ?_)
            · refine V_iconst C (-1) dX3_edit_114 (by decide) ?_
              exact V_iret C dX3_edit_115 (by decide) (by decide) ⟨_, rfl, ed_no (Bool.eq_false_iff.mpr (fun z => by rw [ekd] at z; obtain ⟨z1, z2, z3, z4, z5⟩ := ed_out z; rw [show (if (5 : Int32) = 0 ∨ (5 : Int32) = 3 then (99 : Int32) else 0) = 0 from by decide] at z4; first | exact absurd q63 (z1 (by decide) (by decide)).1 | exact absurd (z1 (by decide) (by decide)).2 (Int32.not_le.mpr q69) | exact absurd q84 z3 | exact absurd z4 (Int32.not_le.mpr q100) | exact absurd z5 (bne2 q111))) hS1 (hA1.mono (by decide)) hK1⟩
            · refine V_iload_n C dX3_edit_72 rfl rfl ?_
              refine V_iconst C 4 dX3_edit_73 (by decide) ?_
              refine V_icmp_ne C 82 dX3_edit_74 (by decide) (fun _ => ?_) (fun h => absurd h (by decide))
              refine V_iload C dX3_edit_82 rfl ?_
              refine V_if_lt C 114 dX3_edit_84 (by decide) (fun q84 => ?_) (fun q84 => ?_)
              · refine V_iconst C (-1) dX3_edit_114 (by decide) ?_
                exact V_iret C dX3_edit_115 (by decide) (by decide) ⟨_, rfl, ed_no (Bool.eq_false_iff.mpr (fun z => by rw [ekd] at z; obtain ⟨z1, z2, z3, z4, z5⟩ := ed_out z; rw [show (if (5 : Int32) = 0 ∨ (5 : Int32) = 3 then (99 : Int32) else 0) = 0 from by decide] at z4; first | exact absurd q63 (z1 (by decide) (by decide)).1 | exact absurd (z1 (by decide) (by decide)).2 (Int32.not_le.mpr q69) | exact absurd q84 z3 | exact absurd z4 (Int32.not_le.mpr q100) | exact absurd z5 (bne2 q111))) hS1 (hA1.mono (by decide)) hK1⟩
              · refine V_iload C dX3_edit_87 rfl ?_
                refine V_iload C dX3_edit_89 rfl ?_
                refine V_if_eq C 99 dX3_edit_91 (by decide) (fun _ => ?_) (fun h => absurd (by decide) h)
                refine V_iconst C 0 dX3_edit_99 (by decide) ?_
                refine V_icmp_gt C 114 dX3_edit_100 (by decide) (fun q100 => ?_) (fun q100 => ?_)
                · refine V_iconst C (-1) dX3_edit_114 (by decide) ?_
                  exact V_iret C dX3_edit_115 (by decide) (by decide) ⟨_, rfl, ed_no (Bool.eq_false_iff.mpr (fun z => by rw [ekd] at z; obtain ⟨z1, z2, z3, z4, z5⟩ := ed_out z; rw [show (if (5 : Int32) = 0 ∨ (5 : Int32) = 3 then (99 : Int32) else 0) = 0 from by decide] at z4; first | exact absurd q63 (z1 (by decide) (by decide)).1 | exact absurd (z1 (by decide) (by decide)).2 (Int32.not_le.mpr q69) | exact absurd q84 z3 | exact absurd z4 (Int32.not_le.mpr q100) | exact absurd z5 (bne2 q111))) hS1 (hA1.mono (by decide)) hK1⟩
                · refine V_aload_n C dX3_edit_103 rfl rfl ?_
                  refine V_iload_n C dX3_edit_104 rfl rfl ?_
                  refine V_iload_n C dX3_edit_105 rfl rfl ?_
                  refine V_iload C dX3_edit_106 rfl ?_
                  refine V_ofIe (VR_V (As := [.int (5), .int tg, .int sl]) (rest := []) C (ct_X3_fits l G b M1 a ad S1 r n po ap hS1 hme1 hV1 (stA n po ap).1 hF1 (5) tg sl) hmza rfl (lw_V q879 q881 qs12 q46 q882) rfl nd_X3_fits rfl (by decide) (by decide) dX3_edit_108 rfl ⟨by decide, by decide⟩ (Nat.le_of_ble_eq_true rfl)) ?_
                  refine V_ifb_ne C 116 dX3_edit_111 (by decide) (fun q111 => ?_) (fun q111 => ?_)
                  · refine V_sub ?_ (rest (by rw [ekd]; exact ed_in (by decide) (by decide) (Or.inr (Or.inr ⟨q63, Int32.not_lt.mp q69⟩)) (fun z => absurd z (by decide)) q84 (by rw [show (if (5 : Int32) = 0 ∨ (5 : Int32) = 3 then (99 : Int32) else 0) = 0 from by decide]; exact Int32.not_lt.mp q100) q111) M1 S1 hS1 hA1 hme1 hK1)
                    repeat' (first | exact ls_e | refine ls_n ?_ | refine ls_s ?_ | refine ls_i ?_ ?_ | refine ls_v ?_ ?_)
                    all_goals (rw [ekd])
                  · refine V_iconst C (-1) dX3_edit_114 (by decide) ?_
                    exact V_iret C dX3_edit_115 (by decide) (by decide) ⟨_, rfl, ed_no (Bool.eq_false_iff.mpr (fun z => by rw [ekd] at z; obtain ⟨z1, z2, z3, z4, z5⟩ := ed_out z; rw [show (if (5 : Int32) = 0 ∨ (5 : Int32) = 3 then (99 : Int32) else 0) = 0 from by decide] at z4; first | exact absurd q63 (z1 (by decide) (by decide)).1 | exact absurd (z1 (by decide) (by decide)).2 (Int32.not_le.mpr q69) | exact absurd q84 z3 | exact absurd z4 (Int32.not_le.mpr q100) | exact absurd z5 (bne2 q111))) hS1 (hA1.mono (by decide)) hK1⟩
      · skip
        refine V_iconst C (-1) dX3_edit_16 (by decide) ?_
        exact V_iret C dX3_edit_17 (by decide) (by decide) ⟨_, rfl, ed_no (by unfold edB; rw [decide_eq_false (p := kd ≤ 5) hk5]; simp) hS Ag.rf Keep.rf⟩

