set_option maxRecDepth 100000
/-! PURE, Q: element -/
theorem firstI_un {P : Nat → Bool} {n j : Nat} (hj : j < n) (hp : P j = true) (hu : ∀ i, i < n → P i = true → i = j) : firstI P n = some j := by
  refine firstI_at hj hp (fun i hi => ?_)
  cases e : P i with
  | false => rfl
  | true => have := hu i (by omega) e; omega
theorem el_E {n : Nat} {po : Nat → Nat → Nat} {ap : Nat → Bool} {od : List Nat} {ln : Nat} {lo : Nat → List Nat} {P : Nat → Int32} {hi : Nat → Option Nat} (h : Tie n po ap od ln lo) (hP : PB ln lo P) (hH : HiB ln lo hi) : ∀ x j, j < n → melem po ap (stA n po ap).1 j x = true → elE od ln lo hi j := by
  intro x j hj e
  simp only [melem, Bool.and_eq_true, decide_eq_true_eq] at e
  obtain ⟨⟨⟨e1, e2⟩, e3⟩, e4⟩ := e
  obtain ⟨k, hk, rfl⟩ := tie_inv h hj e1
  refine ⟨k, hk, rfl, by rw [tie_b h hk (by omega)]; exact e3, ?_⟩
  rw [← (st_all h hP hH).1 k hk]; exact e2
/-- the shown elements of list m -/
theorem el_in {n : Nat} {po : Nat → Nat → Nat} {ap : Nat → Bool} {od : List Nat} {ln : Nat} {lo : Nat → List Nat} {P : Nat → Int32} {hi : Nat → Option Nat} {sh : Nat → Bool} {ch : Nat → Nat → List Nat} (h : Tie n po ap od ln lo) (hP : PB ln lo P) (hH : HiB ln lo hi) (hS : ShB ln lo P hi sh) (hLs : LstB ln lo hi ch) {mm : Int32} {m : Nat} (hm : cnode ln lo mm = some m) (hls : isLst lo m) {k : Nat} (hk : k < ln) : elP n po ap (stA n po ap).1 mm (oi od k) = true ↔ k ∈ (ch m 0).filter sh := by
  have hL := h.2.2.2.2.2.1
  obtain ⟨s1, s2⟩ := st_all h hP hH
  have hmm0 : ∃ y, y < 256 ∧ mm = nI y := by
    unfold cnode at hm
    split at hm
    · rename_i z; exact ⟨0, by decide, z⟩
    · cases e2 : cplace ln lo mm with
      | none => rw [e2] at hm; cases hm
      | some p =>
        obtain ⟨p1, p2⟩ := cpl_get e2
        exact ⟨_, good_lt (hL.1 p p1) 0, p2⟩
  obtain ⟨y, hy, rfl⟩ := hmm0
  rw [List.mem_filter, (hLs m (cnode_le hm).1 hls).2 k]
  simp only [elP, melem, Bool.and_eq_true, decide_eq_true_eq, Bool.not_eq_true']
  rw [(tie_lt h hk).2, s1 k hk, ← tie_b h hk (f := 1) (by omega), ← tie_b h hk (f := 2) (by omega), ← Bool.not_eq_true, gon_eq h hP hH hk, hS k hk]
  constructor
  · rintro ⟨⟨⟨⟨-, e2⟩, e3⟩, e4⟩, e5⟩
    refine ⟨⟨hk, ?_⟩, Or.inr ⟨e3, e2, e5⟩⟩
    rw [hi_of hH hk (by omega) e2, e4]
    exact hm
  · rintro ⟨⟨-, e2⟩, e3⟩
    obtain ⟨g1, g2, g3, g4⟩ := hi_le hL hH hk e2
    have h3 := (lst_kd hL hH hk e2).1 hls
    refine ⟨⟨⟨⟨rfl, g2⟩, h3⟩, ?_⟩, ?_⟩
    · rw [cnd_inj hL (good_lt (hL.1 k hk) 2) hy g3 hm]
    · rcases e3 with w | w
      · have := w.2.2.1; omega
      · exact w.2.2
theorem el_rank {n : Nat} {po : Nat → Nat → Nat} {ap : Nat → Bool} {od : List Nat} {ln : Nat} {lo : Nat → List Nat} {P : Nat → Int32} {hi : Nat → Option Nat} {sh : Nat → Bool} {ch : Nat → Nat → List Nat} (h : Tie n po ap od ln lo) (hP : PB ln lo P) (hH : HiB ln lo hi) (hS : ShB ln lo P hi sh) (hLs : LstB ln lo hi ch) {mm : Int32} {m : Nat} (hm : cnode ln lo mm = some m) (hls : isLst lo m) {t k : Nat} (hk : ((ch m 0).filter sh)[t]? = some k) : cntI (rkP n po ap (stA n po ap).1 (elR od ln lo) (elD od ln lo) mm (oi od k)) n = t := by
  have hL := h.2.2.2.2.2.1
  obtain ⟨g1, g2⟩ := hLs m (cnode_le hm).1 hls
  have hin : ∀ {q : Nat}, q < ln → (elP n po ap (stA n po ap).1 mm (oi od q) = true ↔ q ∈ (ch m 0).filter sh) := fun hq => el_in h hP hH hS hLs hm hls hq
  have hsub : ∀ q, q ∈ (ch m 0).filter sh → q < ln := fun q hq => ((g2 q).mp (List.mem_filter.mp hq).1).1
  have hs : ((ch m 0).filter sh).Pairwise (fun x y => plt (pth ln lo x) (pth ln lo y) = true) := g1.filter _
  generalize (ch m 0).filter sh = L at hin hsub hs hk
  have hkl := hsub k (List.mem_of_getElem? hk)
  have htl := (List.getElem?_eq_some_iff.mp hk).1
  have hE : ∀ q, q ∈ L → elE od ln lo hi (oi od q) := by
    intro q hq
    have e := (hin (hsub q hq)).mpr hq
    exact el_E h hP hH mm _ (tie_lt h (hsub q hq)).1 (Bool.and_eq_true_iff.mp e).1
  have hnd : L.Nodup := by
    refine hs.imp (fun {a b} hab z => ?_)
    rw [z, plt_irr] at hab
    cases hab
  rw [cnt_od h (Q := fun q => decide (q ∈ L.take t)) (fun j _ hj => ?_) (fun q hq => ?_), cnt_flt]
  · have a1 := nd_sub ((List.range ln).filter (fun q => decide (q ∈ L.take t))) (L.take t) ((List.nodup_range (n := ln)).filter _) (fun x hx => of_decide_eq_true (List.mem_filter.mp hx).2)
    have a2 := nd_sub (L.take t) ((List.range ln).filter (fun q => decide (q ∈ L.take t))) (hnd.sublist (List.take_sublist _ _)) (fun x hx => List.mem_filter.mpr ⟨List.mem_range.mpr (hsub x (List.mem_of_mem_take hx)), decide_eq_true hx⟩)
    rw [List.length_take] at a1 a2
    omega
  · simp only [rkP, elP, melem, Bool.and_eq_true] at hj
    exact hj.1.2.1.1.1.1
  · rw [Bool.eq_iff_iff, decide_eq_true_eq]
    refine Iff.trans (b := (oi od q ≠ oi od k ∧ elP n po ap (stA n po ap).1 mm (oi od q) = true) ∧ aheadF po (elR od ln lo) (elD od ln lo) (oi od q) (oi od k) = true) ⟨fun w => ⟨⟨of_decide_eq_true (Bool.and_eq_true_iff.mp (Bool.and_eq_true_iff.mp w).1).1, (Bool.and_eq_true_iff.mp (Bool.and_eq_true_iff.mp w).1).2⟩, (Bool.and_eq_true_iff.mp w).2⟩, fun w => Bool.and_eq_true_iff.mpr ⟨Bool.and_eq_true_iff.mpr ⟨decide_eq_true w.1.1, w.1.2⟩, w.2⟩⟩ ?_
    constructor
    · rintro ⟨⟨z1, z2⟩, z3⟩
      have hqL := (hin hq).mp z2
      rw [ahd_eq h hH (hE q hqL) (hE k (List.mem_of_getElem? hk))] at z3
      unfold elT at z3
      rw [kx_oi h hq, kx_oi h hkl] at z3
      obtain ⟨s, hsq⟩ := List.getElem?_of_mem hqL
      have hlt := srt_idx hs hsq hk z3
      refine List.mem_of_getElem? (i := s) ?_
      rw [List.getElem?_take, if_pos hlt]
      exact hsq
    · intro z
      obtain ⟨s, hsq⟩ := List.getElem?_of_mem z
      rw [List.getElem?_take] at hsq
      split at hsq
      · rename_i hst
        have hqL := List.mem_of_getElem? hsq
        have hp := srt_get hs hsq hk hst
        refine ⟨⟨fun w => ?_, (hin hq).mpr hqL⟩, ?_⟩
        · have e := tie_inj h hq hkl w
          rw [e, plt_irr] at hp
          cases hp
        · rw [ahd_eq h hH (hE q hqL) (hE k (List.mem_of_getElem? hk))]
          unfold elT
          rw [kx_oi h hq, kx_oi h hkl]
          exact hp
      · cases hsq
theorem elO_eq {n : Nat} {po : Nat → Nat → Nat} {ap : Nat → Bool} {od : List Nat} {ln : Nat} {lo : Nat → List Nat} {P : Nat → Int32} {hi : Nat → Option Nat} {sh : Nat → Bool} {ch : Nat → Nat → List Nat} (h : Tie n po ap od ln lo) (hP : PB ln lo P) (hH : HiB ln lo hi) (hS : ShB ln lo P hi sh) (hLs : LstB ln lo hi ch) {mm : Int32} {m : Nat} (hm : cnode ln lo mm = some m) (hls : isLst lo m) (kk : Int32) : elO n po ap (stA n po ap).1 (elR od ln lo) (elD od ln lo) mm kk = if ¬ kk < 0 ∧ kk < nI ((ch m 0).filter sh).length then some (oi od (((ch m 0).filter sh).getD kk.toNatClampNeg 0)) else none := by
  have h7 := h.2.2.2.2.2.2
  have h8 := tie_ln h
  have hin : ∀ {q : Nat}, q < ln → (elP n po ap (stA n po ap).1 mm (oi od q) = true ↔ q ∈ (ch m 0).filter sh) := fun hq => el_in h hP hH hS hLs hm hls hq
  have hrk : ∀ {t k : Nat}, ((ch m 0).filter sh)[t]? = some k → cntI (rkP n po ap (stA n po ap).1 (elR od ln lo) (elD od ln lo) mm (oi od k)) n = t := fun hk => el_rank h hP hH hS hLs hm hls hk
  have hsub : ∀ q, q ∈ (ch m 0).filter sh → q < ln := fun q hq => (((hLs m (cnode_le hm).1 hls).2 q).mp (List.mem_filter.mp hq).1).1
  generalize (ch m 0).filter sh = L at hin hrk hsub
  have hfind : ∀ j, j < n → elP n po ap (stA n po ap).1 mm j = true → ∃ t k : Nat, L[t]? = some k ∧ oi od k = j ∧ k < ln := by
    intro j hj e
    have ha : ap j = true := by
      simp only [elP, melem, Bool.and_eq_true] at e
      exact e.1.1.1.1
    obtain ⟨k, hk, rfl⟩ := tie_inv h hj ha
    obtain ⟨t, ht⟩ := List.getElem?_of_mem ((hin hk).mp e)
    exact ⟨t, k, ht, rfl, hk⟩
  have hlen : ∀ t k : Nat, L[t]? = some k → t < 1000 := by
    intro t k ht
    have := hrk ht
    have h2 := cntI_le (rkP n po ap (stA n po ap).1 (elR od ln lo) (elD od ln lo) mm (oi od k)) n
    omega
  have hLl : L.length < 2 ^ 31 := by
    rcases Nat.lt_or_ge (L.length) (2 ^ 31) with z | z
    · exact z
    · have := hlen (L.length - 1) _ (List.getElem?_eq_getElem (by omega))
      omega
  unfold elO
  by_cases z : ¬ kk < 0 ∧ kk < nI L.length
  · rw [if_pos z]
    obtain ⟨t, ht, rfl⟩ := nI_of z.1
    have htl : t < L.length := (nI_ltI (by omega) (by omega)).mp z.2
    rw [nI_clamp (by omega)]
    have hget : L[t]? = some (L.getD t 0) := by rw [List.getD_eq_getElem?_getD, List.getElem?_eq_getElem htl]; rfl
    generalize L.getD t 0 = k at hget ⊢
    have hkL := List.mem_of_getElem? hget
    have hkl := hsub k hkL
    refine firstI_un (tie_lt h hkl).1 ?_ (fun i hi0 hp => ?_)
    · rw [(hin hkl).mpr hkL, hrk hget]
      simp
    · rw [Bool.and_eq_true, decide_eq_true_eq] at hp
      obtain ⟨s, q, h1, rfl, h3⟩ := hfind i hi0 hp.1
      rw [hrk h1] at hp
      have := (nI_eq (by have := hlen s q h1; omega) (by omega)).mp hp.2
      subst this
      rw [hget] at h1
      cases h1
      rfl
  · rw [if_neg z, firstI_none]
    intro j hj
    cases e : elP n po ap (stA n po ap).1 mm j with
    | false => rfl
    | true =>
      rw [Bool.true_and]
      refine decide_eq_false (fun w => z ?_)
      obtain ⟨s, q, h1, rfl, h3⟩ := hfind j hj e
      rw [hrk h1] at w
      rw [← w]
      have := (List.getElem?_eq_some_iff.mp h1).1
      exact ⟨nI_pos (by omega), nI_lt this (by omega)⟩
theorem el_cnt {n : Nat} {po : Nat → Nat → Nat} {ap : Nat → Bool} {od : List Nat} {ln : Nat} {lo : Nat → List Nat} {P : Nat → Int32} {hi : Nat → Option Nat} {sh : Nat → Bool} {ch : Nat → Nat → List Nat} (h : Tie n po ap od ln lo) (hP : PB ln lo P) (hH : HiB ln lo hi) (hS : ShB ln lo P hi sh) (hLs : LstB ln lo hi ch) {mm : Int32} {m : Nat} (hm : cnode ln lo mm = some m) (hls : isLst lo m) : cntI (elP n po ap (stA n po ap).1 mm) n = ((ch m 0).filter sh).length := by
  have hin : ∀ {q : Nat}, q < ln → (elP n po ap (stA n po ap).1 mm (oi od q) = true ↔ q ∈ (ch m 0).filter sh) := fun hq => el_in h hP hH hS hLs hm hls hq
  have hsub : ∀ q, q ∈ (ch m 0).filter sh → q < ln := fun q hq => (((hLs m (cnode_le hm).1 hls).2 q).mp (List.mem_filter.mp hq).1).1
  have hnd : ((ch m 0).filter sh).Nodup := by
    refine ((hLs m (cnode_le hm).1 hls).1.imp (fun {a b} hab z => ?_)).filter _
    rw [z, plt_irr] at hab
    cases hab
  generalize (ch m 0).filter sh = L at hin hsub hnd
  rw [cnt_od h (Q := fun q => decide (q ∈ L)) (fun j _ hj => ?_) (fun q hq => ?_), cnt_flt]
  · have a1 := nd_sub ((List.range ln).filter (fun q => decide (q ∈ L))) L ((List.nodup_range (n := ln)).filter _) (fun x hx => of_decide_eq_true (List.mem_filter.mp hx).2)
    have a2 := nd_sub L ((List.range ln).filter (fun q => decide (q ∈ L))) hnd (fun x hx => List.mem_filter.mpr ⟨List.mem_range.mpr (hsub x hx), decide_eq_true hx⟩)
    omega
  · simp only [elP, melem, Bool.and_eq_true] at hj
    exact hj.1.1.1.1
  · rw [Bool.eq_iff_iff, decide_eq_true_eq]
    exact hin hq
theorem q_elem {n : Nat} {po : Nat → Nat → Nat} {ap : Nat → Bool} {od : List Nat} {ln : Nat} {lo : Nat → List Nat} {P : Nat → Int32} {hi : Nat → Option Nat} {sh : Nat → Bool} {ch : Nat → Nat → List Nat} (h : Tie n po ap od ln lo) (hP : PB ln lo P) (hH : HiB ln lo hi) (hS : ShB ln lo P hi sh) (hLs : LstB ln lo hi ch) (x kk : Int32) : (if kk < -1 ∨ mkind n po ap x 2 = false then -1 else if kk = -1 then -1 - plI (elO n po ap (stA n po ap).1 (elR od ln lo) (elD od ln lo) x kk) (cntI (elP n po ap (stA n po ap).1 x) n) else match elO n po ap (stA n po ap).1 (elR od ln lo) (elD od ln lo) x kk with | none => -1 | some j => nI (po j 0)) = elmS ln lo sh ch x kk := by
  have hL := h.2.2.2.2.2.1
  have hmk := mkd_eq h x 2
  have h0 : cplace ln lo 0 = none := (cpl_no hL (x := 0) (by decide)).mpr (fun p hp => by have := good_id (hL.1 p hp); omega)
  by_cases m0 : x = 0
  · rw [m0, h0] at hmk
    rw [m0, if_pos (Or.inr hmk)]
    unfold elmS cnode
    rw [if_pos rfl]
    rfl
  · cases e : cplace ln lo x with
    | none =>
      rw [e] at hmk
      rw [if_pos (Or.inr hmk)]
      unfold elmS cnode
      rw [if_neg m0, e]
    | some k =>
      rw [e] at hmk
      dsimp only at hmk
      by_cases z2 : oB (lo k) 1 = 2
      · have hm : cnode ln lo x = some (k + 1) := by unfold cnode; rw [if_neg m0, e]; dsimp only; rw [if_pos (Or.inr z2)]
        have hls : isLst lo (k + 1) := ⟨by omega, by rw [Nat.add_sub_cancel]; exact z2⟩
        have hlb : isLstB lo (k + 1) = true := by unfold isLstB; rw [Nat.add_sub_cancel]; simp [z2]
        rw [decide_eq_true z2] at hmk
        have he := elO_eq h hP hH hS hLs hm hls kk
        have hc := el_cnt h hP hH hS hLs hm hls
        have hE : elmS ln lo sh ch x kk = pickI ((ch (k + 1) 0).filter sh) (fun k => oB (lo k) 0) kk := by
          unfold elmS
          rw [hm]
          dsimp only
          rw [if_pos hlb]
        have hsub : ∀ q, q ∈ (ch (k + 1) 0).filter sh → q < ln := fun q hq => (((hLs _ (cnode_le hm).1 hls).2 q).mp (List.mem_filter.mp hq).1).1
        have hle : ((ch (k + 1) 0).filter sh).length < 2 ^ 31 := by
          rw [← hc]
          have := cntI_le (elP n po ap (stA n po ap).1 x) n
          have h7 := h.2.2.2.2.2.2
          omega
        rw [hE, he, hc]
        generalize (ch (k + 1) 0).filter sh = L at hsub hle
        unfold pickI
        by_cases c1 : kk < -1
        · have c0 := (m1_lt kk).1 c1
          rw [if_pos (Or.inl c1), if_neg (show ¬ (¬ kk < 0 ∧ kk < nI L.length) from fun w => w.1 c0), if_neg (show ¬ kk = -1 from fun z => by rw [z] at c1; exact absurd c1 (by decide))]
        · rw [if_neg (show ¬ (kk < -1 ∨ mkind n po ap x 2 = false) from fun w => w.elim c1 (fun v => by rw [hmk] at v; cases v))]
          by_cases c2 : kk = -1
          · have c0 := (m1_lt kk).2.1 c2
            have c3 : ¬ (¬ kk < 0 ∧ kk < nI L.length) := fun w => w.1 c0
            rw [if_pos c2, if_neg c3, if_neg c3, if_pos c2]
            exact sub_sub1 _
          · rw [if_neg c2]
            by_cases z : ¬ kk < 0 ∧ kk < nI L.length
            · rw [if_pos z, if_pos z]
              dsimp only
              obtain ⟨t, ht, rfl⟩ := nI_of z.1
              have htl : t < L.length := (nI_ltI (by omega) (by omega)).mp z.2
              rw [nI_clamp (by omega), List.getD_eq_getElem?_getD, List.getElem?_eq_getElem htl]
              have hkl := hsub _ (L.getElem_mem htl)
              dsimp only [Option.getD]
              rw [tie_b h hkl (by omega)]
            · rw [if_neg z, if_neg z, if_neg c2]
      · rw [decide_eq_false z2] at hmk
        rw [if_pos (Or.inr hmk)]
        unfold elmS cnode
        rw [if_neg m0, e]
        dsimp only
        by_cases z1 : oB (lo k) 1 = 1
        · rw [if_pos (Or.inl z1)]
          dsimp only
          rw [if_neg]
          intro w
          unfold isLstB at w
          rw [Nat.add_sub_cancel] at w
          simp [z2] at w
        · rw [if_neg (by omega)]
