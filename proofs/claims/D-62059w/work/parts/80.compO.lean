set_option maxRecDepth 100000
/-! THE COMPONENT, O: Replica.settle -/
abbrev cs_ : Type := Nat × (Nat → List Nat) × List (List Nat)
def csS (x : cs_) : cs_ := match cleast x.1 x.2.1 x.2.2 x.2.2.length with
  | none => x
  | some i => (x.1 + 1, ex x.2.1 x.1 (x.2.2.getD i []), x.2.2.eraseIdx i)
def csA (x : cs_) : cs_ := iterI (fun _ => csS) x 16
/-- what waits can come to the log, each -/
def WtOk (ln : Nat) (lo : Nat → List Nat) (wt : List (List Nat)) : Prop := (∀ bs ∈ wt, OpGood bs) ∧ (∀ bs ∈ wt, ∀ k, k < ln → oB (lo k) 0 ≠ oB bs 0) ∧ wt.Pairwise (fun x y => oB x 0 ≠ oB y 0) ∧ ln + wt.length ≤ 16
theorem cleast_rdy {ln : Nat} {lo : Nat → List Nat} {wt : List (List Nat)} {i k : Nat} (h : cleast ln lo wt i = some k) : cready ln lo (wt.getD k []) = true := by
  induction i with
  | zero => cases h
  | succ i ih =>
    unfold cleast at h
    split at h
    · rename_i hc
      cases h
      unfold cleC at hc
      simp only [Bool.and_eq_true] at hc
      exact hc.1
    · exact ih h
theorem rdy_iff {ln : Nat} {lo : Nat → List Nat} {bs : List Nat} (hL : LogOk ln lo) (hg : OpGood bs) : cready ln lo bs = true ↔ ∀ i, i < oB bs 5 → ∃ p, p < ln ∧ oB (lo p) 0 = oB bs (6 + i) := by
  unfold cready
  rw [allI_iff]
  constructor
  · intro h i hi
    obtain ⟨p, hp⟩ := Option.isSome_iff_exists.mp (h i hi)
    have := cpl_id hL (good_lt hg _) hp
    exact ⟨p, this.1, this.2⟩
  · intro h i hi
    obtain ⟨p, h1, h2⟩ := h i hi
    rw [← h2, cpl_at hL h1]
    rfl
theorem wt_get {wt : List (List Nat)} {i : Nat} (h : i < wt.length) : wt[i]? = some (wt.getD i []) := by
  rw [List.getD_eq_getElem?_getD, List.getElem?_eq_getElem h]
  rfl
theorem wt_mem {wt : List (List Nat)} {i : Nat} (h : i < wt.length) : wt.getD i [] ∈ wt := List.mem_of_getElem? (wt_get h)
theorem wt_new {ln : Nat} {lo : Nat → List Nat} {wt : List (List Nat)} {i : Nat} (hL : LogOk ln lo) (hW : WtOk ln lo wt) (h : cleast ln lo wt wt.length = some i) : NewOk ln lo (wt.getD i []) := by
  have hm := wt_mem (cleast_lt h)
  have hg := hW.1 _ hm
  exact ⟨hg, hW.2.1 _ hm, (rdy_iff hL hg).mp (cleast_rdy h)⟩
theorem wt_ers {ln : Nat} {lo : Nat → List Nat} {wt : List (List Nat)} {i : Nat} (hW : WtOk ln lo wt) (hi : i < wt.length) : WtOk (ln + 1) (ex lo ln (wt.getD i [])) (wt.eraseIdx i) := by
  obtain ⟨h1, h2, h3, h4⟩ := hW
  have hsub := List.eraseIdx_sublist (l := wt) (k := i)
  refine ⟨fun bs hb => h1 bs (hsub.subset hb), fun bs hb k hk => ?_, h3.sublist hsub, ?_⟩
  · by_cases z : k = ln
    · rw [z, ex_s]
      obtain ⟨j, hj⟩ := List.getElem?_of_mem hb
      rw [List.getElem?_eraseIdx] at hj
      rw [List.pairwise_iff_getElem] at h3
      have hi2 := (List.getElem?_eq_some_iff.mp (wt_get hi)).2
      split at hj
      · rename_i hji
        obtain ⟨g1, g2⟩ := List.getElem?_eq_some_iff.mp hj
        have := h3 j i g1 hi hji
        rw [g2, hi2] at this
        exact Ne.symm this
      · rename_i hji
        obtain ⟨g1, g2⟩ := List.getElem?_eq_some_iff.mp hj
        have := h3 i (j + 1) hi g1 (by omega)
        rw [g2, hi2] at this
        exact this
    · rw [ex_n z]
      exact h2 bs (hsub.subset hb) k (by omega)
  · rw [List.length_eraseIdx, if_pos hi]
    omega
theorem rep_wt {G : mp_G} {M M1 : mp_M} {g a ln : Nat} {lo : Nat → List Nat} {P : Nat → Int32} {hi : Nat → Option Nat} {sh fo : Nat → Bool} {ch : Nat → Nat → List Nat} {nx : Nat → Option Nat} {wt wt1 : List (List Nat)} {A : Nat → Nat → Nat} {wo wo1 : List Nat} (hR : RepAt G M g a ln lo P hi sh fo ch nx wt A wo) (hK : Keep (fun la => la = (g, 6, 0) ∨ la = (g, 7, 0)) M M1) (hal : AlAt G M1 (g, 6, 0) (g, 7, 0) (A 4 1) wo1) (hw : wo1.length = wt1.length ∧ ∀ i, i < wt1.length → OpAt G M1 g (wo1.getD i 0) (wt1.getD i [])) (hl : wt1.length ≤ 16) (hok : ∀ bs ∈ wt1, OpOk bs) : RepAt G M1 g a ln lo P hi sh fo ch nx wt1 A wo1 := by
  obtain ⟨r1, r2, r3, r4, r5, r6, r7, r8, r9, r10, r11⟩ := hR
  exact ⟨hK _ _ _ r1 (by simp), r2.keep hK (by simp) (by simp), hal, hw, fun k hk => hK _ _ _ (r5 k hk) (by simp), fun k hk => (r6 k hk).keep hK (fun kd i h10 z => by simp at z; omega), fun m hm h => ⟨hK _ _ _ (r7 m hm h).1 (by simp), hK _ _ _ (r7 m hm h).2 (by simp)⟩, fun m hm h => hK _ _ _ (r8 m hm h) (by simp), r9, ⟨r10.1, hl, r10.2.2.1, hok⟩, r11⟩
theorem ers_op {G : mp_G} {M : mp_M} {g i0 : Nat} {wo : List Nat} {wt : List (List Nat)} (hl : wo.length = wt.length) (hi : i0 < wt.length) (h : ∀ i, i < wt.length → OpAt G M g (wo.getD i 0) (wt.getD i [])) : (wo.eraseIdx i0).length = (wt.eraseIdx i0).length ∧ ∀ i, i < (wt.eraseIdx i0).length → OpAt G M g ((wo.eraseIdx i0).getD i 0) ((wt.eraseIdx i0).getD i []) := by
  refine ⟨by rw [List.length_eraseIdx, List.length_eraseIdx, hl], fun i hi2 => ?_⟩
  rw [List.length_eraseIdx, if_pos hi] at hi2
  rw [List.getD_eq_getElem?_getD, List.getD_eq_getElem?_getD, List.getElem?_eraseIdx, List.getElem?_eraseIdx]
  split
  · rw [← List.getD_eq_getElem?_getD, ← List.getD_eq_getElem?_getD]
    exact h i (by omega)
  · rw [← List.getD_eq_getElem?_getD, ← List.getD_eq_getElem?_getD]
    exact h (i + 1) (by omega)
theorem csA_fix {x : cs_} {d : Nat} (hd : d ≤ 16) (h : cleast (iterI (fun _ => csS) x d).1 (iterI (fun _ => csS) x d).2.1 (iterI (fun _ => csS) x d).2.2 (iterI (fun _ => csS) x d).2.2.length = none) : csA x = iterI (fun _ => csS) x d := by
  have key : ∀ k, iterI (fun _ => csS) x (d + k) = iterI (fun _ => csS) x d := by
    intro k
    induction k with
    | zero => rfl
    | succ k ih =>
      rw [show d + (k + 1) = (d + k) + 1 by omega, iterI_s, ih]
      generalize iterI (fun _ => csS) x d = y at h ⊢
      unfold csS
      rw [h]
  unfold csA
  rw [show 16 = d + (16 - d) by omega]
  exact key _
theorem ct_X1_settle (l : Launch) (G : mp_G) (b : Nat) (M : mp_M) (g a ln0 : Nat) (lo0 : Nat → List Nat) (P0 : Nat → Int32) (hi0 : Nat → Option Nat) (sh0 fo0 : Nat → Bool) (ch0 : Nat → Nat → List Nat) (nx0 : Nat → Option Nat) (wt0 : List (List Nat)) (A0 : Nat → Nat → Nat) (wo0 : List Nat) (hR0 : RepAt G M g a ln0 lo0 P0 hi0 sh0 fo0 ch0 nx0 wt0 A0 wo0) (hI0 : RInv ln0 lo0 P0 hi0 sh0 fo0 ch0) (hW0 : WtOk ln0 lo0 wt0) : Ct l yX1_settle cX1_settle 4 (some .int) 11 80 2080 G b ([.ref a] : List Value) M (pI (fun y M1 => ∃ P' hi' sh' fo' ch' nx' A' wo', RepAt G M1 g a (csA (ln0, lo0, wt0)).1 (csA (ln0, lo0, wt0)).2.1 P' hi' sh' fo' ch' nx' (csA (ln0, lo0, wt0)).2.2 A' wo' ∧ RInv (csA (ln0, lo0, wt0)).1 (csA (ln0, lo0, wt0)).2.1 P' hi' sh' fo' ch' ∧ y = nI ((csA (ln0, lo0, wt0)).1 - ln0) ∧ Keep (MutG g) M M1)) := by
  refine Ct.ofV (by decide) (vc_ref vc_nil) (Nat.le_of_ble_eq_true rfl) ?_
  intro p e s m below meth c C hnm
  refine V_L (L1 := [some (.ref a), none, none, none]) rfl ?_
  have loop : ∀ dn, dn ≤ 16 → ∀ M1 ln lo P hi sh fo ch nx wt A wo, (ln, lo, wt) = iterI (fun _ => csS) (ln0, lo0, wt0) dn → ln = ln0 + dn → RepAt G M1 g a ln lo P hi sh fo ch nx wt A wo → RInv ln lo P hi sh fo ch → WtOk ln lo wt → Keep (MutG g) M M1 → V p l e (rmOf 11 80 2080) s m ([.ref a] : List Value).toArray below meth c (MQ below (Qp G b (pI (fun y M1 => ∃ P' hi' sh' fo' ch' nx' A' wo', RepAt G M1 g a (csA (ln0, lo0, wt0)).1 (csA (ln0, lo0, wt0)).2.1 P' hi' sh' fo' ch' nx' (csA (ln0, lo0, wt0)).2.2 A' wo' ∧ RInv (csA (ln0, lo0, wt0)).1 (csA (ln0, lo0, wt0)).2.1 P' hi' sh' fo' ch' ∧ y = nI ((csA (ln0, lo0, wt0)).1 - ln0) ∧ Keep (MutG g) M M1))) ([.ref a] : List Value).toArray s 80 2080 (fun q => b ≤ q)) G b 4 (5 * dn) (130 * dn) 7 [some (.ref a), some (.int (nI dn)), some (.int (oI (cleast ln lo wt wt.length))), none] [] M1 := by
    refine up_ind 16 ?_
    intro dn hdn ih M1 ln lo P hi sh fo ch nx wt A wo hx hln R1 I1 W1 K1
    have hfin : cleast ln lo wt wt.length = none ∨ dn = 16 → csA (ln0, lo0, wt0) = (ln, lo, wt) := by
      rintro (h | h)
      · rw [csA_fix (d := dn) (by omega) (by rw [← hx]; exact h), hx]
      · unfold csA; rw [hx, h]
    rcases ob : cleast ln lo wt wt.length with _ | i0
    · have hfn := hfin (Or.inl ob)
      refine V_L (L1 := [some (.ref a), some (.int (nI dn)), some (.int (-1)), none]) rfl ?_
      refine V_iload_n C dX1_settle_7 rfl rfl ?_
      refine V_if_lt C 54 dX1_settle_8 (by decide) (fun _ => ?_) (fun h => absurd (by decide) h)
      refine V_iload_n C dX1_settle_54 rfl rfl ?_
      exact V_iret C dX1_settle_55 (by omega) (by omega) ⟨_, rfl, by rw [hfn]; exact ⟨P, hi, sh, fo, ch, nx, A, wo, R1, I1, by rw [show ln - ln0 = dn by omega], K1⟩⟩
    · have hi0 := cleast_lt ob
      have hNw := wt_new I1.1 W1 ob
      have hln4 := W1.2.2.2
      have rem : dn < 16 → V p l e (rmOf 11 80 2080) s m ([.ref a] : List Value).toArray below meth c (MQ below (Qp G b (pI (fun y M1 => ∃ P' hi' sh' fo' ch' nx' A' wo', RepAt G M1 g a (csA (ln0, lo0, wt0)).1 (csA (ln0, lo0, wt0)).2.1 P' hi' sh' fo' ch' nx' (csA (ln0, lo0, wt0)).2.2 A' wo' ∧ RInv (csA (ln0, lo0, wt0)).1 (csA (ln0, lo0, wt0)).2.1 P' hi' sh' fo' ch' ∧ y = nI ((csA (ln0, lo0, wt0)).1 - ln0) ∧ Keep (MutG g) M M1))) ([.ref a] : List Value).toArray s 80 2080 (fun q => b ≤ q)) G b 4 (5 * dn) (130 * dn) 34 [some (.ref a), some (.int (nI dn)), some (.int (nI i0)), some (.ref (wo.getD i0 0))] [.int (nI i0), .ref (A 4 1)] M1 := by
        intro hd16
        obtain ⟨r1, r2, r3, r4, r5, r6, r7, r8, r9, r10, r11⟩ := id R1
        have rb := r10.2.2.1
        have rln := r10.1
        have rwl := r10.2.1
        have rwo := r4.1
        obtain ⟨lmo, lar, hla⟩ := al_obj r2
        obtain ⟨wmo, war, hwa⟩ := al_obj r3
        have hobj : ∀ x ∈ wo, isObj M1 x := by
          intro x hx9
          obtain ⟨j, hj⟩ := List.getElem?_of_mem hx9
          have hjl := (List.getElem?_eq_some_iff.mp hj).1
          rw [wo_get hjl] at hj
          cases hj
          obtain ⟨sa, si, hsa, -⟩ := r4.2 j (by omega)
          exact ⟨_, _, _, _, hsa, rfl, ev1054⟩
        refine V_ofR (VR_V (As := [.int (nI i0)]) (rest := []) C (ct_J2_remove l G b M1 (A 4 1) i0 (wo.getD i0 0) (g, 6, 0) (g, 7, 0) (by simp) _ r3 hobj (wo_get (by omega))) hwa rfl (lw_V q610 q611 q612 q41 q613) rfl nd_J2_remove rfl (by decide) (by decide) dX1_settle_34 rfl ⟨by omega, by omega⟩ (Nat.le_of_ble_eq_true rfl)) (fun y2 M2 hM2 => ?_)
        obtain ⟨hy2, hal2, hK2⟩ := hM2
        have hO2 : OpAt G M2 g (wo.getD i0 0) (wt.getD i0 []) := (r4.2 i0 (by omega)).keep hK2 (fun kd i h10 z => by simp at z; omega)
        have R2 : RepAt G M2 g a ln lo P hi sh fo ch nx (wt.eraseIdx i0) A (wo.eraseIdx i0) := rep_wt R1 hK2 hal2 (ers_op rwo hi0 (fun i hi9 => (r4.2 i hi9).keep hK2 (fun kd i h10 z => by simp at z; omega))) (by rw [List.length_eraseIdx]; split <;> omega) (fun bs hb => r10.2.2.2 bs ((List.eraseIdx_sublist (l := wt) (k := i0)).subset hb))
        obtain ⟨r1z, r2z, r3z, r4z, r5z, r6z, r7z, r8z, r9z, r10z, r11z⟩ := id R2
        have rbz := r10z.2.2.1
        have rlnz := r10z.1
        have rwlz := r10z.2.1
        have rwoz := r4z.1
        obtain ⟨lmoz, larz, hlaz⟩ := al_obj r2z
        obtain ⟨wmoz, warz, hwaz⟩ := al_obj r3z
        refine V_pop C dX1_settle_37 (vcat_rf _) ?_
        refine V_aload_n C dX1_settle_38 rfl rfl ?_
        refine V_aload_n C dX1_settle_39 rfl rfl ?_
        refine V_ofV (VR_V (As := [.ref (wo.getD i0 0)]) (rest := []) C (ct_X1_apply l G b M2 g a ln lo P hi sh fo ch nx (wt.eraseIdx i0) A (wo.eraseIdx i0) R2 (wo.getD i0 0) (wt.getD i0 []) hO2 hNw.1.1 (by omega) I1.2.2.2.2.1 (fun k hk => by obtain ⟨p9, h1, h2⟩ := hNw.2.2 k hk; rw [← h2, cpl_at I1.1 h1]; rfl) (fun h3 _ => by have := good_sl hNw.1 h3; omega) (ap_ss I1 hNw)) r1z rfl (lw_V q619 q457 q458 q37 q459) rfl nd_X1_apply rfl (by decide) (by decide) dX1_settle_40 rfl ⟨by omega, by omega⟩ (Nat.le_of_ble_eq_true rfl)) (fun M3 hM3 => ?_)
        obtain ⟨A3, nx3, hi3, sh3, ch3, R3, hap, hK3⟩ := hM3
        have I3 := rinv_ap (by omega) I1 hNw hap
        have W3 := wt_ers W1 hi0
        have hK13 : Keep (MutG g) M M3 := K1.tr ((hK2.mono (fun la z => by rcases z with z | z <;> (rw [z]; exact ⟨rfl, by simp⟩))).tr hK3)
        refine V_iinc (v := (nI (dn + 1))) (L' := [some (.ref a), some (.int (nI (dn + 1))), some (.int (nI i0)), some (.ref (wo.getD i0 0))]) C dX1_settle_43 rfl (nI_1 _) (by decide) rfl ?_
        refine V_aload_n C dX1_settle_46 rfl rfl ?_
        refine V_ofIe (VR_V (As := []) (rest := []) C (ct_X1_leastReady l G b M3 g a (ln + 1) (ex lo ln (wt.getD i0 [])) _ hi3 sh3 _ ch3 nx3 (wt.eraseIdx i0) A3 (wo.eraseIdx i0) R3) R3.1 rfl (lw_V q601 q603 qs5 q37 q604) rfl nd_X1_leastReady rfl (by decide) (by decide) dX1_settle_47 rfl ⟨by omega, by omega⟩ (Nat.le_of_ble_eq_true rfl)) ?_
        refine V_istore_n (L' := [some (.ref a), some (.int (nI (dn + 1))), some (.int (oI (cleast (ln + 1) (ex lo ln (wt.getD i0 [])) (wt.eraseIdx i0) (wt.eraseIdx i0).length))), some (.ref (wo.getD i0 0))]) C dX1_settle_50 rfl (by decide) rfl ?_
        refine V_goto C 7 dX1_settle_51 (by decide) ?_
        refine V_widen (k := 5 * (dn + 1)) (n := 130 * (dn + 1)) (by omega) (by omega) ?_
        refine V_sub ?_ (ih (by omega) M3 (ln + 1) (ex lo ln (wt.getD i0 [])) _ hi3 sh3 _ ch3 nx3 (wt.eraseIdx i0) A3 (wo.eraseIdx i0) (by rw [iterI_s, ← hx]; unfold csS; dsimp only; rw [ob]) (by omega) R3 I3 W3 hK13)
        repeat' (first | exact ls_e | refine ls_n ?_ | refine ls_s ?_ | refine ls_i ?_ ?_ | refine ls_v ?_ ?_)
      obtain ⟨r1, r2, r3, r4, r5, r6, r7, r8, r9, r10, r11⟩ := id R1
      have rb := r10.2.2.1
      have rln := r10.1
      have rwl := r10.2.1
      have rwo := r4.1
      obtain ⟨lmo, lar, hla⟩ := al_obj r2
      obtain ⟨wmo, war, hwa⟩ := al_obj r3
      refine V_iload_n C dX1_settle_7 rfl rfl ?_
      refine V_if_lt C 54 dX1_settle_8 (by decide) (fun h => absurd h (nI_pos (n := i0) (by omega))) (fun _ => ?_)
      refine V_iload_n C dX1_settle_11 rfl rfl ?_
      refine V_bipush C 16 dX1_settle_12 (by decide) ?_
      refine V_nicmp_ge (x := dn) (y := 16) C 54 dX1_settle_14 (by decide) (by omega) (by omega) (fun k14 => ?_) (fun k14 => ?_)
      · refine V_iload_n C dX1_settle_54 rfl rfl ?_
        exact V_iret C dX1_settle_55 (by omega) (by omega) ⟨_, rfl, by rw [hfin (Or.inr (by omega))]; exact ⟨P, hi, sh, fo, ch, nx, A, wo, R1, I1, by rw [show ln - ln0 = dn by omega], K1⟩⟩
      · refine V_aload_n C dX1_settle_17 rfl rfl ?_
        refine V_get (C0 := RX1) (T := TX1) (N := 3) (ci := 1) C 2 in_X1 rfl r1 (by decide) q119 (fun _ h9 => h9) rfl dX1_settle_18 ?_
        refine V_iload_n C dX1_settle_21 rfl rfl ?_
        refine V_ofRe (VR_V (As := [.int (nI i0)]) (rest := []) C (ct_J2_get l G b M1 (A 4 1) i0 (wo.getD i0 0) (g, 6, 0) (g, 7, 0) _ r3 (wo_get (by omega)) (by omega)) hwa rfl (lw_V q208 q209 q210 q41 q211) rfl nd_J2_get rfl (by decide) (by decide) dX1_settle_22 rfl ⟨by omega, by omega⟩ (Nat.le_of_ble_eq_true rfl)) ?_
        obtain ⟨sw22, siw22, how22, -⟩ := r4.2 i0 (by omega)
        refine V_castS C how22 rfl q605 dX1_settle_25 ?_
        refine V_astore_n (L' := [some (.ref a), some (.int (nI dn)), some (.int (nI i0)), some (.ref (wo.getD i0 0))]) C dX1_settle_28 rfl (by decide) rfl ?_
        refine V_aload_n C dX1_settle_29 rfl rfl ?_
        refine V_get (C0 := RX1) (T := TX1) (N := 3) (ci := 1) C 2 in_X1 rfl r1 (by decide) q119 (fun _ h9 => h9) rfl dX1_settle_30 ?_
        refine V_iload_n C dX1_settle_33 rfl rfl ?_
        refine V_sub ?_ (rem (by omega))
        repeat' (first | exact ls_e | refine ls_n ?_ | refine ls_s ?_ | refine ls_i ?_ ?_ | refine ls_v ?_ ?_)
  refine V_iconst C 0 dX1_settle_0 (by decide) ?_
  refine V_istore_n (L' := [some (.ref a), some (.int 0), none, none]) C dX1_settle_1 rfl (by decide) rfl ?_
  refine V_aload_n C dX1_settle_2 rfl rfl ?_
  refine V_ofIe (VR_V (As := []) (rest := []) C (ct_X1_leastReady l G b M g a ln0 lo0 P0 hi0 sh0 fo0 ch0 nx0 wt0 A0 wo0 hR0) hR0.1 rfl (lw_V q601 q603 qs5 q37 q604) rfl nd_X1_leastReady rfl (by decide) (by decide) dX1_settle_3 rfl ⟨by omega, by omega⟩ (Nat.le_of_ble_eq_true rfl)) ?_
  refine V_istore_n (L' := [some (.ref a), some (.int 0), some (.int (oI (cleast ln0 lo0 wt0 wt0.length))), none]) C dX1_settle_6 rfl (by decide) rfl ?_
  refine V_sub ?_ (loop 0 (Nat.zero_le _) M ln0 lo0 P0 hi0 sh0 fo0 ch0 nx0 wt0 A0 wo0 rfl rfl hR0 hI0 hW0 Keep.rf)
  repeat' (first | exact ls_e | refine ls_n ?_ | refine ls_s ?_ | refine ls_i ?_ ?_ | refine ls_v ?_ ?_)

