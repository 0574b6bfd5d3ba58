set_option maxRecDepth 100000
/-! PURE, N: depth, entries -/
theorem q_dep {n : Nat} {po : Nat → Nat → Nat} {ap : Nat → Bool} {od : List Nat} {ln : Nat} {lo : Nat → List Nat} {P : Nat → Int32} {hi : Nat → Option Nat} {sh : Nat → Bool} (h : Tie n po ap od ln lo) (hP : PB ln lo P) (hH : HiB ln lo hi) (hS : ShB ln lo P hi sh) : ∀ k, k < ln → ∀ f d, k + 1 < f → depF n po ap (stA n po ap).1 (stA n po ap).2 f (nI (oB (lo k) 0)) d = oI ((depO hi sh f (some k)).map (· + d)) := by
  have hL := h.2.2.2.2.2.1
  intro k
  induction k using Nat.strongRecOn with
  | _ k ih =>
    intro hk f d hf
    obtain ⟨f', rfl⟩ : ∃ f', f = f' + 1 := ⟨f - 1, by omega⟩
    have hid := good_id (hL.1 k hk)
    have hne : ¬ nI (oB (lo k) 0) = 0 := nI_ne0 (by omega) (by omega)
    unfold depF depO
    rw [if_neg hne, tie_mf h, cpl_at hL hk]
    dsimp only [Option.map]
    rw [sh_eq h hP hH hS hk]
    cases es : sh k with
    | false => rw [if_neg (by decide), if_neg (by decide)]; rfl
    | true =>
      rw [if_pos rfl, if_pos rfl, ← tie_b h hk (by omega)]
      have hfit : oB (lo k) 1 ≤ 3 ∧ fitK ln lo hi k = true := by
        rcases (hS k hk).mp es with w | w
        · exact ⟨by have := w.2.2.1; omega, w.2.1⟩
        · exact ⟨by omega, w.2.1⟩
      have hhi := hi_of hH hk hfit.1 hfit.2
      have hcn : ∃ m, cnode ln lo (nI (oB (lo k) 2)) = some m := by
        by_cases z : oB (lo k) 1 = 3
        · obtain ⟨m, e, -⟩ := cfits_3 hfit.2 ((kd_eq hL hk (c := 3) (by decide)).mpr z)
          exact ⟨m, e⟩
        · obtain ⟨m, e, -⟩ := cfits_m hfit.2 (fun w => z ((kd_eq hL hk (c := 3) (by decide)).mp w)) (fun w => by have := (kd_eq hL hk (c := 4) (by decide)).mp w; omega)
          exact ⟨m, e⟩
      obtain ⟨m, em⟩ := hcn
      rw [hhi, em]
      dsimp only
      rcases cnd_get hL (good_lt (hL.1 k hk) 2) em with ⟨z1, z2⟩ | ⟨z1, z2, z3, z4, z5⟩
      · rw [z1, z2]
        obtain ⟨f'', rfl⟩ : ∃ f'', f' = f'' + 1 := ⟨f' - 1, by omega⟩
        rw [depF_0 (x := nI 0) rfl]
        unfold mkO
        rw [if_pos rfl]
        unfold depO
        show nI (d + 1) = nI (0 + 1 + d)
        rw [show 0 + 1 + d = d + 1 by omega]
      · have hmk := tgp_lt hL hk z5
        have h9 := ih (m - 1) hmk.1 (by omega) f' (d + 1) (by omega)
        rw [z4] at h9
        rw [h9]
        unfold mkO
        rw [if_neg (by omega)]
        cases depO hi sh f' (some (m - 1)) with
        | none => rfl
        | some v =>
          dsimp only [Option.map]
          rw [show v + 1 + d = v + (d + 1) by omega]
theorem q_depth {n : Nat} {po : Nat → Nat → Nat} {ap : Nat → Bool} {od : List Nat} {ln : Nat} {lo : Nat → List Nat} {P : Nat → Int32} {hi : Nat → Option Nat} {sh : Nat → Bool} (h : Tie n po ap od ln lo) (hP : PB ln lo P) (hH : HiB ln lo hi) (hS : ShB ln lo P hi sh) (x : Int32) : depF n po ap (stA n po ap).1 (stA n po ap).2 18 x 0 = (if x = 0 then 0 else match cplace ln lo x with | none => -1 | some k => oI (depO hi sh 18 (some k))) := by
  have h7 := h.2.2.2.2.2.2
  have h8 := tie_ln h
  by_cases z : x = 0
  · rw [if_pos z, depF_0 z]; rfl
  · rw [if_neg z]
    cases e : cplace ln lo x with
    | none => exact depF_n z (by rw [tie_mf h, e]; rfl)
    | some k =>
      obtain ⟨k1, k2⟩ := cpl_get e
      rw [k2, q_dep h hP hH hS k k1 18 0 (by omega)]
      dsimp only
      cases depO hi sh 18 (some k) <;> rfl
/-! ascending lists -/
theorem srt_eq : ∀ (L K : List Nat), L.Pairwise (fun x y => x < y) → K.Pairwise (fun x y => x < y) → (∀ x, x ∈ L ↔ x ∈ K) → L = K := by
  intro L
  induction L with
  | nil =>
    intro K _ _ h
    cases K with
    | nil => rfl
    | cons b K => have := (h b).mpr List.mem_cons_self; cases this
  | cons a L ih =>
    intro K h1 h2 h
    cases K with
    | nil => have := (h a).mp List.mem_cons_self; cases this
    | cons b K =>
      rw [List.pairwise_cons] at h1 h2
      have e : a = b := by
        rcases List.mem_cons.mp ((h a).mp List.mem_cons_self) with z | z
        · exact z
        · rcases List.mem_cons.mp ((h b).mpr List.mem_cons_self) with w | w
          · exact w.symm
          · have := h1.1 b w
            have := h2.1 a z
            omega
      subst e
      rw [ih K h1.2 h2.2 (fun x => ?_)]
      constructor
      · intro z
        rcases List.mem_cons.mp ((h x).mp (List.mem_cons_of_mem _ z)) with w | w
        · have := h1.1 x z; omega
        · exact w
      · intro z
        rcases List.mem_cons.mp ((h x).mpr (List.mem_cons_of_mem _ z)) with w | w
        · have := h2.1 x z; omega
        · exact w
theorem nmL_mem {Q : Nat → Bool} {k x : Nat} : x ∈ nmL Q k ↔ 4 ≤ x ∧ x < 4 + k ∧ Q (x - 4) = true := by
  constructor
  · exact nmL_lt
  · rintro ⟨h1, h2, h3⟩
    have := nmL_in (Q := Q) (k := k) (i := x - 4) (by omega) h3
    rw [show 4 + (x - 4) = x by omega] at this
    exact this
theorem cnt_nm (Q : Nat → Bool) : ∀ k, cntI Q k = (nmL Q k).length := by
  intro k
  induction k with
  | zero => rfl
  | succ k ih =>
    cases e : Q k with
    | false => rw [cntI_f e, nmL_f e]; exact ih
    | true => rw [cntI_t e, nmL_t e, List.length_append, ih]; rfl
theorem nm_pre (Q : Nat → Bool) (k : Nat) : ∀ d, ∃ R, nmL Q (k + d) = nmL Q k ++ R := by
  intro d
  induction d with
  | zero => exact ⟨[], by rw [List.append_nil]; rfl⟩
  | succ d ih =>
    obtain ⟨R, hR⟩ := ih
    cases e : Q (k + d) with
    | false => exact ⟨R, by rw [show k + (d + 1) = k + d + 1 by omega, nmL_f e]; exact hR⟩
    | true => exact ⟨R ++ [4 + (k + d)], by rw [show k + (d + 1) = k + d + 1 by omega, nmL_t e, hR, List.append_assoc]⟩
theorem nm_at {Q : Nat → Bool} {i n : Nat} (hi : i < n) (hq : Q i = true) : (nmL Q n)[cntI Q i]? = some (4 + i) := by
  obtain ⟨R, hR⟩ := nm_pre Q (i + 1) (n - (i + 1))
  rw [show i + 1 + (n - (i + 1)) = n by omega, nmL_t hq] at hR
  rw [hR, cnt_nm, List.append_assoc, List.getElem?_append_right (Nat.le_refl _), Nat.sub_self]
  rfl
theorem cnt_mono {Q : Nat → Bool} : ∀ {i j : Nat}, i < j → Q i = true → cntI Q i < cntI Q j := by
  intro i j hij hq
  induction j with
  | zero => omega
  | succ j ih =>
    have : cntI Q j ≤ cntI Q (j + 1) := by
      cases e : Q j with
      | false => rw [cntI_f e]; exact Nat.le_refl _
      | true => rw [cntI_t e]; omega
    rcases Nat.lt_or_ge i j with z | z
    · have := ih z; omega
    · have e : i = j := by omega
      subst e
      rw [cntI_t hq]
      omega
/-- the kk-th in an ascending walk -/
theorem kth_eq {Q : Nat → Bool} {n : Nat} (hn : n < 2 ^ 31) (kk : Int32) : firstI (fun i => Q i && decide (nI (cntI Q i) = kk)) n = if ¬ kk < 0 ∧ kk < nI (nmL Q n).length then some ((nmL Q n).getD kk.toNatClampNeg 0 - 4) else none := by
  have hle := cntI_le Q n
  have hcl := cnt_nm Q n
  by_cases z : ¬ kk < 0 ∧ kk < nI (nmL Q n).length
  · rw [if_pos z]
    obtain ⟨t, ht, rfl⟩ := nI_of z.1
    have htl : t < (nmL Q n).length := (nI_ltI (by omega) (by omega)).mp z.2
    rw [nI_clamp (by omega)]
    have hx : (nmL Q n).getD t 0 ∈ nmL Q n := gD_mem htl
    have hget : (nmL Q n)[t]? = some ((nmL Q n).getD t 0) := by rw [List.getD_eq_getElem?_getD, List.getElem?_eq_getElem htl]; rfl
    generalize (nmL Q n).getD t 0 = x at hx hget ⊢
    obtain ⟨h1, h2, h3⟩ := nmL_lt hx
    have hat := nm_at (Q := Q) (i := x - 4) (n := n) (by omega) h3
    rw [show 4 + (x - 4) = x by omega] at hat
    have hc : cntI Q (x - 4) = t := by
      have hl := (List.getElem?_eq_some_iff.mp hat).1
      have hnd : (nmL Q n).Nodup := (nmL_srt n).imp (fun hab => Nat.ne_of_lt hab)
      exact (List.getElem?_inj hl hnd).mp (hat.trans hget.symm)
    refine firstI_at (by omega) (by rw [h3, hc]; simp) (fun i hi => ?_)
    cases e : Q i with
    | false => rfl
    | true =>
      rw [Bool.true_and]
      refine decide_eq_false (fun w => ?_)
      have h4 := cnt_mono hi e
      have h5 := (nI_eq (by omega) (by omega)).mp w
      omega
  · rw [if_neg z, firstI_none]
    intro i hi
    cases e : Q i with
    | false => rfl
    | true =>
      rw [Bool.true_and]
      refine decide_eq_false (fun w => z ?_)
      have h4 := cnt_mono hi e
      rw [← w]
      exact ⟨nI_pos (by omega), nI_lt (by omega) (by omega)⟩
/-- a node's entries, as the model lists them -/
theorem ent_lst {n : Nat} {po : Nat → Nat → Nat} {ap : Nat → Bool} {od : List Nat} {ln : Nat} {lo : Nat → List Nat} {P : Nat → Int32} {hi : Nat → Option Nat} {ch : Nat → Nat → List Nat} (h : Tie n po ap od ln lo) (hP : PB ln lo P) (hH : HiB ln lo hi) (hM : MapB ln lo P hi ch) {mm : Int32} {m key : Nat} (hm : cnode ln lo mm = some m) (hmp : isMap lo m) (hk : key < 4) : (ch m key).map (fun k => oB (lo k) 0) = nmL (entQ n po ap (stA n po ap).1 (stA n po ap).2 mm (nI key)) 159 := by
  have hL := h.2.2.2.2.2.1
  obtain ⟨g1, g2⟩ := hM m key (cnode_le hm).1 hmp hk
  refine srt_eq _ _ ?_ (nmL_srt 159) (fun x => ?_)
  · rw [List.pairwise_map]; exact g1
  · rw [List.mem_map, nmL_mem]
    have hmm : ∀ k, k < ln → fitK ln lo hi k = true → oB (lo k) 1 ≤ 2 → (hi k = some m ↔ nI (oB (lo k) 2) = mm) := by
      intro k hkl hf h2
      rw [hi_of hH hkl (by omega) hf]
      constructor
      · intro e
        have hmm0 : ∃ y, y < 256 ∧ mm = nI y := by
          unfold cnode at hm
          split at hm
          · rename_i z; exact ⟨0, by decide, z⟩
          · cases e2 : cplace ln lo mm with
            | none => rw [e2] at hm; cases hm
            | some p =>
              obtain ⟨p1, p2⟩ := cpl_get e2
              exact ⟨_, good_lt (hL.1 p p1) 0, p2⟩
        obtain ⟨y, hy, rfl⟩ := hmm0
        rw [cnd_inj hL (good_lt (hL.1 k hkl) 2) hy e hm]
      · intro e; rw [e]; exact hm
    constructor
    · rintro ⟨k, hk2, rfl⟩
      obtain ⟨e1, e2, e3⟩ := (g2 k).mp hk2
      have hkl := e1.1
      have hid := good_id (hL.1 k hkl)
      refine ⟨by omega, by omega, ?_⟩
      unfold entQ
      rw [idJ_eq h, show 4 + (oB (lo k) 0 - 4) = oB (lo k) 0 by omega, cpl_at hL hkl]
      dsimp only [Option.map]
      rw [(ent_eq h hP hH hkl).mpr e1, ← tie_b h hkl (f := 2) (by omega), ← tie_b h hkl (f := 3) (by omega), (hmm k hkl e1.2.1 e1.2.2.1).mp e2, e3]
      simp
    · rintro ⟨x1, x2, x3⟩
      unfold entQ at x3
      rw [idJ_eq h, show 4 + (x - 4) = x by omega] at x3
      cases e : cplace ln lo (nI x) with
      | none => rw [e] at x3; cases x3
      | some k =>
        obtain ⟨k1, k2⟩ := cpl_id hL (by omega) e
        rw [e] at x3
        dsimp only [Option.map] at x3
        simp only [Bool.and_eq_true, decide_eq_true_eq] at x3
        obtain ⟨⟨y1, y2⟩, y3⟩ := x3
        have y4 := (ent_eq h hP hH k1).mp y3
        rw [← tie_b h k1 (by omega)] at y1
        rw [← tie_b h k1 (by omega)] at y2
        refine ⟨k, (g2 k).mpr ⟨y4, (hmm k k1 y4.2.1 y4.2.2.1).mpr y1, ?_⟩, k2⟩
        exact (nI_eq (by have := good_lt (hL.1 k k1) 3; omega) (by omega)).mp y2
theorem entO_eq {n : Nat} {po : Nat → Nat → Nat} {ap : Nat → Bool} {od : List Nat} {ln : Nat} {lo : Nat → List Nat} {P : Nat → Int32} {hi : Nat → Option Nat} {ch : Nat → Nat → List Nat} (h : Tie n po ap od ln lo) (hP : PB ln lo P) (hH : HiB ln lo hi) (hM : MapB ln lo P hi ch) {mm : Int32} {m key : Nat} (hm : cnode ln lo mm = some m) (hmp : isMap lo m) (hk : key < 4) (kk : Int32) : entO n po ap (stA n po ap).1 (stA n po ap).2 mm (nI key) kk = if ¬ kk < 0 ∧ kk < nI (ch m key).length then some (oi od ((ch m key).getD kk.toNatClampNeg 0)) else none := by
  have hL := h.2.2.2.2.2.1
  have hl := ent_lst h hP hH hM hm hmp hk
  unfold entO
  rw [kth_eq (by decide), ← hl, List.length_map]
  by_cases z : ¬ kk < 0 ∧ kk < nI (ch m key).length
  · rw [if_pos z, if_pos z]
    have hlen : (ch m key).length < 2 ^ 31 := by
      have : ((ch m key).map (fun k => oB (lo k) 0)).length ≤ 159 := by rw [hl, ← cnt_nm]; exact cntI_le _ _
      rw [List.length_map] at this
      omega
    obtain ⟨t, ht, rfl⟩ := nI_of z.1
    have htl : t < (ch m key).length := (nI_ltI (by omega) hlen).mp z.2
    rw [nI_clamp (by omega), List.getD_eq_getElem?_getD, List.getElem?_map, List.getElem?_eq_getElem htl, List.getD_eq_getElem?_getD, List.getElem?_eq_getElem htl]
    have hmem := (ch m key).getElem_mem htl
    have hkl := (((hM m key (cnode_le hm).1 hmp hk).2 _).mp hmem).1.1
    have hid := good_id (hL.1 _ hkl)
    show idJ n po ap (oB (lo (ch m key)[t]) 0 - 4) = some (oi od (ch m key)[t])
    rw [idJ_eq h, show 4 + (oB (lo (ch m key)[t]) 0 - 4) = oB (lo (ch m key)[t]) 0 by omega, cpl_at hL hkl]
    rfl
  · rw [if_neg z, if_neg z]
    rfl
