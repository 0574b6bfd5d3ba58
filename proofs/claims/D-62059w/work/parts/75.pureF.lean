set_option maxRecDepth 100000
/-! PURE, F: apply keeps what the cells say: the whole -/
abbrev ftB (ln : Nat) (lo : Nat → List Nat) (hi : Nat → Option Nat) (bs : List Nat) : Bool := cfits ln lo hi (nI (oB bs 1)) (nI (oB bs 2)) (nI (oB bs 3))
theorem mem_ins {L : List Nat} {i q k : Nat} : k ∈ insAt L i q ↔ k = q ∨ k ∈ L := by
  unfold insAt
  have h : k ∈ L ↔ k ∈ L.take i ∨ k ∈ L.drop i := by
    rw [← List.mem_append, List.take_append_drop]
  rw [h, List.mem_append, List.mem_cons]
  constructor
  · rintro (a | a | a)
    · exact Or.inr (Or.inl a)
    · exact Or.inl a
    · exact Or.inr (Or.inr a)
  · rintro (a | a | a)
    · exact Or.inr (Or.inl a)
    · exact Or.inl a
    · exact Or.inr (Or.inr a)
theorem ins_srt {L : List Nat} {i q : Nat} {f : Nat → Nat} (hs : L.Pairwise (fun x y => f x < f y)) (hi : i ≤ L.length) (h1 : ∀ j k, j < i → L[j]? = some k → f k < f q) (h2 : ∀ k, L[i]? = some k → f q < f k) : (insAt L i q).Pairwise (fun x y => f x < f y) := by
  have hg : ∀ {a b x y : Nat}, L[a]? = some x → L[b]? = some y → a < b → f x < f y := by
    intro a b x y hx hy hab
    rw [List.pairwise_iff_getElem] at hs
    obtain ⟨g1, e1⟩ := List.getElem?_eq_some_iff.mp hx
    obtain ⟨g2, e2⟩ := List.getElem?_eq_some_iff.mp hy
    have := hs a b g1 g2 hab
    rw [e1, e2] at this
    exact this
  unfold insAt
  rw [List.pairwise_append]
  refine ⟨hs.sublist (List.take_sublist _ _), ?_, ?_⟩
  · rw [List.pairwise_cons]
    refine ⟨fun y hy => ?_, hs.sublist (List.drop_sublist _ _)⟩
    obtain ⟨j, hj⟩ := List.getElem?_of_mem hy
    rw [List.getElem?_drop] at hj
    have hjl := (List.getElem?_eq_some_iff.mp hj).1
    have h0 : L[i]? = some (L[i]'(by omega)) := List.getElem?_eq_getElem (by omega)
    rcases Nat.eq_zero_or_pos j with w | w
    · subst w; exact h2 y hj
    · exact Nat.lt_trans (h2 _ h0) (hg h0 hj (by omega))
  · intro x hx y hy
    obtain ⟨j, hj⟩ := List.getElem?_of_mem hx
    rw [List.getElem?_take] at hj
    split at hj
    · rename_i hji
      rcases List.mem_cons.mp hy with e | e
      · rw [e]; exact h1 j x hji hj
      · obtain ⟨j2, hj2⟩ := List.getElem?_of_mem e
        rw [List.getElem?_drop] at hj2
        exact hg hj hj2 (by omega)
    · cases hj
theorem MapB_ex {ln : Nat} {lo : Nat → List Nat} {P : Nat → Int32} {hi hi' : Nat → Option Nat} {ch ch' : Nat → Nat → List Nat} {bs : List Nat} (hln : ln < 16) (hL : LogOk ln lo) (hP : PB ln lo P) (hH : HiB ln lo hi) (hM : MapB ln lo P hi ch) (hN : NewOk ln lo bs) (hh : ∀ k, k < ln → hi' k = hi k) (hH2 : HiB (ln + 1) (ex lo ln bs) hi')
    (hcn : ∀ key, ch' (ln + 1) key = [])
    (hcm : ∀ m key, m ≤ ln → isMap lo m → ¬ (ftB ln lo hi bs = true ∧ (oB bs 1 ≤ 2 ∨ oB bs 1 = 5) ∧ cnode ln lo (nI (oB bs 2)) = some m ∧ oB bs 3 = key) → ch' m key = ch m key)
    (hct : ∀ m, ftB ln lo hi bs = true → (oB bs 1 ≤ 2 ∨ oB bs 1 = 5) → cnode ln lo (nI (oB bs 2)) = some m → isMap lo m → (ch' m (oB bs 3)).Pairwise (fun x y => oB (ex lo ln bs x) 0 < oB (ex lo ln bs y) 0) ∧ ∀ k, k ∈ ch' m (oB bs 3) ↔ (k ∈ ch m (oB bs 3) ∧ bitI (paF ln lo P bs) k = false) ∨ (k = ln ∧ oB bs 1 ≤ 2)) :
    MapB (ln + 1) (ex lo ln bs) (ex P ln (paF ln lo P bs)) hi' ch' := by
  have hL2 := new_log hL hN
  intro m key hm hmp hkey
  by_cases z : m = ln + 1
  · subst z
    rw [hcn]
    refine ⟨List.Pairwise.nil, fun k => ⟨fun h => by simp at h, fun h => ?_⟩⟩
    have := hi_le hL2 hH2 h.1.1 h.2.1
    have := h.1.1
    omega
  · have hm2 : m ≤ ln := by omega
    have hmp2 := (isMap_ex hm2).mp hmp
    obtain ⟨g1, g2⟩ := hM m key hm2 hmp2 hkey
    have hnl : hi' ln = some m → ftB ln lo hi bs = true ∧ cnode ln lo (nI (oB bs 2)) = some m := by
      intro h
      have h2 := hi_le hL2 hH2 (by omega) h
      rw [fitK_new hL hN.1 hL2 hh, ex_s] at h2
      refine ⟨h2.2.1, ?_⟩
      have h3 := h2.2.2.1
      rw [cnd_ex hL hL2 (good_lt hN.1 2) (tgs_ne hN)] at h3
      exact h3
    by_cases w : ftB ln lo hi bs = true ∧ (oB bs 1 ≤ 2 ∨ oB bs 1 = 5) ∧ cnode ln lo (nI (oB bs 2)) = some m ∧ oB bs 3 = key
    · obtain ⟨w1, w2, w3, w4⟩ := w
      subst w4
      obtain ⟨c1, c2⟩ := hct m w1 w2 w3 hmp2
      refine ⟨c1, fun k => ?_⟩
      rw [c2, g2]
      by_cases y : k = ln
      · subst y
        rw [ent_new hln hL hP hN hh, ex_s]
        constructor
        · rintro (⟨⟨h1, -, -⟩, -⟩ | ⟨-, h1⟩)
          · have := h1.1; omega
          · refine ⟨⟨w1, h1⟩, ?_, rfl⟩
            rw [hH2 k (by omega), fitK_new hL hN.1 hL2 hh, ex_s, if_pos ⟨by omega, w1⟩, cnd_ex hL hL2 (good_lt hN.1 2) (tgs_ne hN)]
            exact w3
        · rintro ⟨⟨-, h1⟩, -, -⟩
          exact Or.inr ⟨rfl, h1⟩
      · constructor
        · rintro (⟨⟨h1, h2, h3⟩, h4⟩ | ⟨h1, -⟩)
          · have hk := h1.1
            rw [ent_old hL hN hh hk, hh k hk, ex_n y]
            exact ⟨⟨h1, fun v => by rw [v.2.2.2.2] at h4; cases h4⟩, h2, h3⟩
          · exact absurd h1 y
        · rintro ⟨h1, h2, h3⟩
          have hk : k < ln := by have := h1.1; omega
          rw [ent_old hL hN hh hk] at h1
          rw [hh k hk] at h2
          rw [ex_n y] at h3
          refine Or.inl ⟨⟨h1.1, h2, h3⟩, ?_⟩
          have h5 := (hi_le hL hH hk h2).2.2.1
          have h6 := cnd_inj hL (good_lt hN.1 2) (good_lt (hL.1 k hk) 2) w3 h5
          cases e : bitI (paF ln lo P bs) k with
          | false => rfl
          | true => exact absurd ⟨w1, w2, h6, h3.symm, e⟩ h1.2
    · rw [hcm m key hm2 hmp2 w]
      refine ⟨?_, fun k => ?_⟩
      · refine g1.imp_of_mem (fun {a b} ha hb hab => ?_)
        have h1 := ((g2 a).mp ha).1.1
        have h2 := ((g2 b).mp hb).1.1
        rw [ex_n (by omega), ex_n (by omega)]
        exact hab
      · rw [g2]
        constructor
        · rintro ⟨h1, h2, h3⟩
          have hk := h1.1
          rw [ent_old hL hN hh hk, hh k hk, ex_n (by omega)]
          refine ⟨⟨h1, fun v => ?_⟩, h2, h3⟩
          have h5 := (hi_le hL hH hk h2).2.2.1
          exact w ⟨v.1, v.2.1, by rw [v.2.2.1]; exact h5, by rw [v.2.2.2.1]; exact h3⟩
        · rintro ⟨h1, h2, h3⟩
          by_cases y : k = ln
          · subst y
            rw [ent_new hln hL hP hN hh] at h1
            rw [ex_s] at h3
            exact absurd ⟨h1.1, Or.inl h1.2, (hnl h2).2, h3⟩ w
          · have hk : k < ln := by have := h1.1; omega
            rw [ent_old hL hN hh hk] at h1
            rw [hh k hk] at h2
            rw [ex_n y] at h3
            exact ⟨h1.1, h2, h3⟩
theorem LstB_ex {ln : Nat} {lo : Nat → List Nat} {hi hi' : Nat → Option Nat} {ch ch' : Nat → Nat → List Nat} {bs : List Nat} (hL : LogOk ln lo) (hS : LstB ln lo hi ch) (hN : NewOk ln lo bs) (hh : ∀ k, k < ln → hi' k = hi k) (hH2 : HiB (ln + 1) (ex lo ln bs) hi')
    (hcn : ∀ key, ch' (ln + 1) key = [])
    (hcm : ∀ m, m ≤ ln → isLst lo m → ¬ (ftB ln lo hi bs = true ∧ oB bs 1 = 3 ∧ cnode ln lo (nI (oB bs 2)) = some m) → ch' m 0 = ch m 0)
    (hct : ∀ m, ftB ln lo hi bs = true → oB bs 1 = 3 → cnode ln lo (nI (oB bs 2)) = some m → isLst lo m → (ch' m 0).Pairwise (fun x y => plt (pth (ln + 1) (ex lo ln bs) x) (pth (ln + 1) (ex lo ln bs) y) = true) ∧ ∀ k, k ∈ ch' m 0 ↔ k = ln ∨ k ∈ ch m 0) :
    LstB (ln + 1) (ex lo ln bs) hi' ch' := by
  have hL2 := new_log hL hN
  intro m hm hls
  by_cases z : m = ln + 1
  · subst z
    rw [hcn]
    refine ⟨List.Pairwise.nil, fun k => ⟨fun h => by simp at h, fun h => ?_⟩⟩
    have := hi_le hL2 hH2 h.1 h.2
    omega
  · have hm2 : m ≤ ln := by omega
    have hls2 := (isLst_ex hm2).mp hls
    obtain ⟨g1, g2⟩ := hS m hm2 hls2
    have hnl : hi' ln = some m → ftB ln lo hi bs = true ∧ oB bs 1 = 3 ∧ cnode ln lo (nI (oB bs 2)) = some m := by
      intro h
      have h2 := hi_le hL2 hH2 (by omega) h
      have h4 := (lst_kd hL2 hH2 (by omega) h).1 hls
      rw [fitK_new hL hN.1 hL2 hh, ex_s] at h2
      rw [ex_s] at h4
      refine ⟨h2.2.1, h4, ?_⟩
      have h3 := h2.2.2.1
      rw [cnd_ex hL hL2 (good_lt hN.1 2) (tgs_ne hN)] at h3
      exact h3
    by_cases w : ftB ln lo hi bs = true ∧ oB bs 1 = 3 ∧ cnode ln lo (nI (oB bs 2)) = some m
    · obtain ⟨w1, w2, w3⟩ := w
      obtain ⟨c1, c2⟩ := hct m w1 w2 w3 hls2
      refine ⟨c1, fun k => ?_⟩
      rw [c2, g2]
      by_cases y : k = ln
      · subst y
        refine ⟨fun _ => ⟨by omega, ?_⟩, fun _ => Or.inl rfl⟩
        rw [hH2 k (by omega), fitK_new hL hN.1 hL2 hh, ex_s, if_pos ⟨by omega, w1⟩, cnd_ex hL hL2 (good_lt hN.1 2) (tgs_ne hN)]
        exact w3
      · constructor
        · rintro (h | ⟨h1, h2⟩)
          · exact absurd h y
          · exact ⟨by omega, by rw [hh k h1]; exact h2⟩
        · rintro ⟨h1, h2⟩
          have hk : k < ln := by omega
          exact Or.inr ⟨hk, by rw [← hh k hk]; exact h2⟩
    · rw [hcm m hm2 hls2 w]
      refine ⟨?_, fun k => ?_⟩
      · refine g1.imp_of_mem (fun {a b} ha hb hab => ?_)
        rw [pth_ex hL hN.1 hN.2.1 hL2 a ((g2 a).mp ha).1, pth_ex hL hN.1 hN.2.1 hL2 b ((g2 b).mp hb).1]
        exact hab
      · rw [g2]
        constructor
        · rintro ⟨h1, h2⟩
          exact ⟨by omega, by rw [hh k h1]; exact h2⟩
        · rintro ⟨h1, h2⟩
          by_cases y : k = ln
          · subst y; exact absurd (hnl h2) w
          · have hk : k < ln := by omega
            exact ⟨hk, by rw [← hh k hk]; exact h2⟩
theorem ShB_ex {ln : Nat} {lo : Nat → List Nat} {P : Nat → Int32} {hi hi' : Nat → Option Nat} {sh sh' : Nat → Bool} {bs : List Nat} (hln : ln < 16) (hL : LogOk ln lo) (hP : PB ln lo P) (hS : ShB ln lo P hi sh) (hN : NewOk ln lo bs) (hh : ∀ k, k < ln → hi' k = hi k)
    (hso : ∀ k, k < ln → (sh' k = true ↔ sh k = true ∧ ¬ (Ent ln lo P hi k ∧ ftB ln lo hi bs = true ∧ (oB bs 1 ≤ 2 ∨ oB bs 1 = 5) ∧ oB bs 2 = oB (lo k) 2 ∧ oB bs 3 = oB (lo k) 3 ∧ bitI (paF ln lo P bs) k = true) ∧ ¬ (ftB ln lo hi bs = true ∧ oB bs 1 = 4 ∧ oB bs 2 = oB (lo k) 0)))
    (hsn : sh' ln = true ↔ ftB ln lo hi bs = true ∧ oB bs 1 ≤ 3) :
    ShB (ln + 1) (ex lo ln bs) (ex P ln (paF ln lo P bs)) hi' sh' := by
  have hL2 := new_log hL hN
  intro k hk
  by_cases z : k = ln
  · subst z
    rw [hsn, ent_new hln hL hP hN hh, fitK_new hL hN.1 hL2 hh, ex_s]
    constructor
    · rintro ⟨h1, h2⟩
      by_cases w : oB bs 1 = 3
      · exact Or.inr ⟨w, h1, gon_new hL hN⟩
      · exact Or.inl ⟨h1, by omega⟩
    · rintro (⟨h1, h2⟩ | ⟨h1, h2, -⟩)
      · exact ⟨h1, by omega⟩
      · exact ⟨h2, by omega⟩
  · have hk2 : k < ln := by omega
    rw [hso k hk2, hS k hk2, ent_old hL hN hh hk2, fitK_ex hL hN.1 hN.2.1 hL2 hh hk2, gon_old hL hN hh hk2, ex_n z]
    constructor
    · rintro ⟨h1 | ⟨h1, h2, h3⟩, h4, h5⟩
      · exact Or.inl ⟨h1, fun w => h4 ⟨h1, w⟩⟩
      · exact Or.inr ⟨h1, h2, fun w => w.elim h3 h5⟩
    · rintro (⟨h1, h2⟩ | ⟨h1, h2, h3⟩)
      · refine ⟨Or.inl h1, fun w => h2 w.2, ?_⟩
        rintro ⟨w1, w2, w3⟩
        obtain ⟨k0, e⟩ := cfits_4 w1 (by rw [w2]; rfl)
        obtain ⟨e1, e2, -⟩ := celem_k e
        rw [w3, cpl_at hL hk2] at e1
        cases e1
        have := h1.2.2.1
        omega
      · exact ⟨Or.inr ⟨h1, h2, fun w => h3 (Or.inl w)⟩, fun w => by have := w.1.2.2.1; omega, fun w => h3 (Or.inr w)⟩
theorem rinv_ap {ln : Nat} {lo : Nat → List Nat} {P : Nat → Int32} {hi hi' : Nat → Option Nat} {sh sh' fo : Nat → Bool} {ch ch' : Nat → Nat → List Nat} {bs : List Nat} (hln : ln < 16) (hR : RInv ln lo P hi sh fo ch) (hN : NewOk ln lo bs) (hA : ApRel ln lo hi sh ch bs (paF ln lo P bs) hi' sh' ch') : RInv (ln + 1) (ex lo ln bs) (ex P ln (paF ln lo P bs)) hi' sh' (ex (foF ln lo bs fo) ln false) ch' := by
  obtain ⟨hL, hP, hF, hH, hK, hM, hS, hSh⟩ := hR
  have hL2 := new_log hL hN
  have hP2 := PB_ex (by omega) hL hP hN
  have hF2 := FoB_ex hL hF hN
  have hk5 := (good_id hN.1).2.2.2
  have exn : ∀ k, k < ln → ex hi ln none k = hi k := fun k hk => ex_n (by omega)
  have exs : ∀ k, k < ln → ex sh ln false k = sh k := fun k hk => ex_n (by omega)
  have exc : ∀ m key, m ≤ ln → exC ch ln m key = ch m key := fun m key hm => by unfold exC; rw [if_neg (by omega)]
  have exc1 : ∀ key, exC ch ln (ln + 1) key = [] := fun key => by unfold exC; rw [if_pos rfl]
  have key4 : ∀ (m0 : Nat) (key0 : Nat) (X : List Nat), key0 < 4 → ∀ m key, m ≤ ln + 1 → 4 ≤ key → chU (exC ch ln) m0 key0 X m key = [] := by
    intro m0 key0 X h0 m key hm hk
    unfold chU
    rw [if_neg (by omega)]
    by_cases z : m = ln + 1
    · rw [z, exc1]
    · rw [exc m key (by omega)]; exact hK m key (by omega) hk
  have bse : oB (ex lo ln bs ln) 0 = oB bs 0 := by rw [ex_s]
  rcases hA with ⟨a1, a2, a3, a4⟩ | ⟨a1, a2, k0, a3, a4, a5, a6⟩ | ⟨a1, a2, m0, a3, a4, a5, a6, a7⟩ | ⟨a1, a2, a3, a4, m0, i, b1, b2, b3, b4, b5, b6, b7, b8⟩ | ⟨a1, a2, m0, ss, i, b1, b2, b3, b4, b5, b6, b7, b8, b9, b10⟩
  · -- fits nowhere
    subst a2 a3 a4
    have hH2 := HiB_ex (hi' := ex hi ln none) hL hH hN exn (by rw [ex_s, if_neg (fun w => by rw [a1] at w; cases w.2)])
    refine ⟨hL2, hP2, hF2, hH2, ?_, ?_, ?_, ?_⟩
    · intro m key hm hk
      by_cases z : m = ln + 1
      · rw [z, exc1]
      · rw [exc m key (by omega)]; exact hK m key (by omega) hk
    · exact MapB_ex hln hL hP hH hM hN exn hH2 exc1 (fun m key hm _ _ => exc m key hm) (fun m w => by rw [ftB, a1] at w; cases w)
    · exact LstB_ex hL hS hN exn hH2 exc1 (fun m hm _ _ => exc m 0 hm) (fun m w => by rw [ftB, a1] at w; cases w)
    · refine ShB_ex hln hL hP hSh hN exn (fun k hk => ?_) ?_
      · rw [exs k hk]
        exact ⟨fun h => ⟨h, fun w => (by have w1 := w.2.1; rw [ftB, a1] at w1; cases w1), fun w => (by have w1 := w.1; rw [ftB, a1] at w1; cases w1)⟩, fun h => h.1⟩
      · rw [ex_s, ftB, a1]
        exact ⟨fun h => (by cases h), fun h => (by cases h.1)⟩
  · -- an erase
    subst a4 a5 a6
    have hH2 := HiB_ex (hi' := ex hi ln none) hL hH hN exn (by rw [ex_s, if_neg (fun w => by omega)])
    obtain ⟨e1, e2, -⟩ := celem_k a3
    have e3 := cpl_id hL (good_lt hN.1 2) e1
    refine ⟨hL2, hP2, hF2, hH2, ?_, ?_, ?_, ?_⟩
    · intro m key hm hk
      by_cases z : m = ln + 1
      · rw [z, exc1]
      · rw [exc m key (by omega)]; exact hK m key (by omega) hk
    · exact MapB_ex hln hL hP hH hM hN exn hH2 exc1 (fun m key hm _ _ => exc m key hm) (fun m _ w => by omega)
    · exact LstB_ex hL hS hN exn hH2 exc1 (fun m hm _ _ => exc m 0 hm) (fun m _ w => by omega)
    · refine ShB_ex hln hL hP hSh hN exn (fun k hk => ?_) ?_
      · by_cases w : k = k0
        · subst w
          rw [if_pos rfl]
          exact ⟨fun h => (by cases h), fun h => (h.2.2 ⟨a1, a2, e3.2.symm⟩).elim⟩
        · rw [if_neg w, exs k hk]
          exact ⟨fun h => ⟨h, fun v => by omega, fun v => w (hL.2.1 k k0 hk e3.1 (by rw [e3.2]; exact v.2.2.symm))⟩, fun h => h.1⟩
      · rw [if_neg (by omega), ex_s]
        exact ⟨fun h => (by cases h), fun h => (by omega)⟩
  · -- a clearing
    subst a5 a6 a7
    have hH2 := HiB_ex (hi' := ex hi ln none) hL hH hN exn (by rw [ex_s, if_neg (fun w => by omega)])
    have hm0 := (cnode_le a3).1
    have hsl : oB bs 3 < 4 := by have := good_sl hN.1 (by omega); omega
    obtain ⟨g1, g2⟩ := hM m0 (oB bs 3) hm0 a4 hsl
    refine ⟨hL2, hP2, hF2, hH2, key4 m0 (oB bs 3) _ hsl, ?_, ?_, ?_⟩
    · refine MapB_ex hln hL hP hH hM hN exn hH2 (fun key => by unfold chU; rw [if_neg (by omega), exc1]) (fun m key hm _ w => ?_) (fun m _ _ w _ => ?_)
      · rw [chU_n, exc m key hm]
        rintro ⟨v1, v2⟩
        exact w ⟨a1, Or.inr a2, by rw [v1]; exact a3, v2.symm⟩
      · rw [a3] at w
        cases w
        rw [chU_s]
        refine ⟨?_, fun k => ?_⟩
        · refine (g1.filter _).imp_of_mem (fun {a b} ha hb hab => ?_)
          have h1 := ((g2 a).mp (List.mem_filter.mp ha).1).1.1
          have h2 := ((g2 b).mp (List.mem_filter.mp hb).1).1.1
          rw [ex_n (by omega), ex_n (by omega)]
          exact hab
        · rw [List.mem_filter, Bool.not_eq_true']
          exact ⟨fun h => Or.inl h, fun h => h.elim id (fun v => by omega)⟩
    · refine LstB_ex hL hS hN exn hH2 (fun key => by unfold chU; rw [if_neg (by omega), exc1]) (fun m hm hl _ => ?_) (fun m _ w => by omega)
      rw [chU_n, exc m 0 hm]
      rintro ⟨v1, -⟩
      rw [v1] at hl
      exact map_nlst a4 hl
    · refine ShB_ex hln hL hP hSh hN exn (fun k hk => ?_) ?_
      · unfold drS
        rw [List.take_length, exs k hk]
        by_cases w : (Ent ln lo P hi k ∧ hi k = some m0 ∧ oB (lo k) 3 = oB bs 3) ∧ bitI (paF ln lo P bs) k = true
        · rw [if_pos ⟨(g2 k).mpr w.1, w.2⟩]
          refine ⟨fun h => (by cases h), fun h => (h.2.1 ⟨w.1.1, a1, Or.inr a2, ?_, w.1.2.2.symm, w.2⟩).elim⟩
          exact cnd_inj hL (good_lt hN.1 2) (good_lt (hL.1 k hk) 2) a3 (hi_le hL hH hk w.1.2.1).2.2.1
        · rw [if_neg (fun w2 => w ⟨(g2 k).mp w2.1, w2.2⟩)]
          refine ⟨fun h => ⟨h, fun v => w ⟨⟨v.1, ?_, v.2.2.2.2.1.symm⟩, v.2.2.2.2.2⟩, fun v => by omega⟩, fun h => h.1⟩
          rw [hi_of hH hk (by have := v.1.2.2.1; omega) v.1.2.1, ← v.2.2.2.1]
          exact a3
      · unfold drS
        rw [if_neg (fun w => by have := pa_lt (by omega) hL hP hN.1 hln w.2; omega), ex_s]
        exact ⟨fun h => (by cases h), fun h => (by omega)⟩
  · -- a put
    subst b6 b7 b8
    have hk2 : oB bs 1 ≤ 2 := by omega
    have hh : ∀ k, k < ln → (fun j => if j = ln then some m0 else ex hi ln none j) k = hi k := fun k hk => by
      show (if k = ln then some m0 else ex hi ln none k) = hi k
      rw [if_neg (by omega)]; exact exn k hk
    have hH2 := HiB_ex (hi' := fun j => if j = ln then some m0 else ex hi ln none j) hL hH hN hh (by rw [if_pos rfl, if_pos ⟨by omega, a1⟩]; exact b1.symm)
    have hm0 := (cnode_le b1).1
    have hsl : oB bs 3 < 4 := by have := good_sl hN.1 a2; omega
    obtain ⟨g1, g2⟩ := hM m0 (oB bs 3) hm0 b2 hsl
    refine ⟨hL2, hP2, hF2, hH2, key4 m0 (oB bs 3) _ hsl, ?_, ?_, ?_⟩
    · refine MapB_ex hln hL hP hH hM hN hh hH2 (fun key => by unfold chU; rw [if_neg (by omega), exc1]) (fun m key hm _ w => ?_) (fun m _ _ w _ => ?_)
      · rw [chU_n, exc m key hm]
        rintro ⟨v1, v2⟩
        exact w ⟨a1, Or.inl hk2, by rw [v1]; exact b1, v2.symm⟩
      · rw [b1] at w
        cases w
        rw [chU_s]
        refine ⟨?_, fun k => ?_⟩
        · refine ins_srt (f := fun x => oB (ex lo ln bs x) 0) ?_ b3 (fun j k hj hk => ?_) (fun k hk => ?_)
          · refine (g1.filter _).imp_of_mem (fun {a b} ha hb hab => ?_)
            have h1 := ((g2 a).mp (List.mem_filter.mp ha).1).1.1
            have h2 := ((g2 b).mp (List.mem_filter.mp hb).1).1.1
            rw [ex_n (by omega), ex_n (by omega)]
            exact hab
          · have := b4 j k hj hk
            unfold InsP at this
            rw [if_pos rfl] at this
            exact this
          · have := b5 k hk
            unfold InsP at this
            rw [if_pos rfl] at this
            have h1 := ((g2 k).mp (List.mem_filter.mp (List.mem_of_getElem? hk)).1).1.1
            have h2 := hN.2.1 k h1
            show oB (ex lo ln bs ln) 0 < oB (ex lo ln bs k) 0
            rw [ex_s, ex_n (by omega)] at this ⊢
            omega
        · rw [mem_ins, List.mem_filter, Bool.not_eq_true']
          exact ⟨fun h => h.elim (fun v => Or.inr ⟨v, hk2⟩) Or.inl, fun h => h.elim Or.inr (fun v => Or.inl v.1)⟩
    · refine LstB_ex hL hS hN hh hH2 (fun key => by unfold chU; rw [if_neg (by omega), exc1]) (fun m hm hl _ => ?_) (fun m _ w => by omega)
      rw [chU_n, exc m 0 hm]
      rintro ⟨v1, -⟩
      rw [v1] at hl
      exact map_nlst b2 hl
    · refine ShB_ex hln hL hP hSh hN hh (fun k hk => ?_) ?_
      · rw [if_neg (by omega)]
        unfold drS
        rw [List.take_length, exs k hk]
        by_cases w : (Ent ln lo P hi k ∧ hi k = some m0 ∧ oB (lo k) 3 = oB bs 3) ∧ bitI (paF ln lo P bs) k = true
        · rw [if_pos ⟨(g2 k).mpr w.1, w.2⟩]
          refine ⟨fun h => (by cases h), fun h => (h.2.1 ⟨w.1.1, a1, Or.inl hk2, ?_, w.1.2.2.symm, w.2⟩).elim⟩
          exact cnd_inj hL (good_lt hN.1 2) (good_lt (hL.1 k hk) 2) b1 (hi_le hL hH hk w.1.2.1).2.2.1
        · rw [if_neg (fun w2 => w ⟨(g2 k).mp w2.1, w2.2⟩)]
          refine ⟨fun h => ⟨h, fun v => w ⟨⟨v.1, ?_, v.2.2.2.2.1.symm⟩, v.2.2.2.2.2⟩, fun v => by omega⟩, fun h => h.1⟩
          rw [hi_of hH hk (by have := v.1.2.2.1; omega) v.1.2.1, ← v.2.2.2.1]
          exact b1
      · rw [if_pos rfl]
        exact ⟨fun _ => ⟨a1, by omega⟩, fun _ => rfl⟩
  · -- an insert
    subst b8 b9 b10
    have hh : ∀ k, k < ln → (fun j => if j = ln then some m0 else ex hi ln none j) k = hi k := fun k hk => by
      show (if k = ln then some m0 else ex hi ln none k) = hi k
      rw [if_neg (by omega)]; exact exn k hk
    have hH2 := HiB_ex (hi' := fun j => if j = ln then some m0 else ex hi ln none j) hL hH hN hh (by rw [if_pos rfl, if_pos ⟨by omega, a1⟩]; exact b1.symm)
    have hm0 := (cnode_le b1).1
    obtain ⟨g1, g2⟩ := hS m0 hm0 b2
    have hpe := pth_ex hL hN.1 hN.2.1 hL2
    refine ⟨hL2, hP2, hF2, hH2, key4 m0 0 _ (by decide), ?_, ?_, ?_⟩
    · refine MapB_ex hln hL hP hH hM hN hh hH2 (fun key => by unfold chU; rw [if_neg (by omega), exc1]) (fun m key hm hmp _ => ?_) (fun m _ w => by omega)
      rw [chU_n, exc m key hm]
      rintro ⟨v1, -⟩
      rw [v1] at hmp
      exact map_nlst hmp b2
    · refine LstB_ex hL hS hN hh hH2 (fun key => by unfold chU; rw [if_neg (by omega), exc1]) (fun m hm hl w => ?_) (fun m _ _ w _ => ?_)
      · rw [chU_n, exc m 0 hm]
        rintro ⟨v1, -⟩
        exact w ⟨a1, a2, by rw [v1]; exact b1⟩
      · rw [b1] at w
        cases w
        rw [chU_s]
        refine ⟨?_, fun k => mem_ins⟩
        obtain ⟨m2, f1, f2, f3⟩ := cfits_3 a1 (by rw [a2]; rfl)
        rw [b1] at f1
        cases f1
        have hs' : (ch m0 0).Pairwise (fun x y => plt (pth (ln + 1) (ex lo ln bs) x) (pth (ln + 1) (ex lo ln bs) y) = true) := by
          refine g1.imp_of_mem (fun {a b} ha hb hab => ?_)
          rw [hpe a ((g2 a).mp ha).1, hpe b ((g2 b).mp hb).1]
          exact hab
        have hanc : ∀ y ∈ ch m0 0, ∀ X v Y', pth (ln + 1) (ex lo ln bs) y = X ++ v :: Y' → ∃ z ∈ ch m0 0, pth (ln + 1) (ex lo ln bs) z = X ++ [v] ∧ oB (ex lo ln bs z) 0 = v ∧ (z = y ∨ plt (pth (ln + 1) (ex lo ln bs) z) (pth (ln + 1) (ex lo ln bs) y) = true) := by
          intro y hy X v Y' h
          obtain ⟨y1, y2⟩ := (g2 y).mp hy
          rw [hpe y y1] at h ⊢
          obtain ⟨z, h1, h2, h3, h4, h5⟩ := pth_anc hL hH y y1 y2 X v Y' h
          refine ⟨z, (g2 z).mpr ⟨h1, h2⟩, ?_⟩
          rw [hpe z h1, ex_n (by omega)]
          exact ⟨h3, h4, h5⟩
        have hinc : ∀ y ∈ ch m0 0, ∀ u ∈ pth (ln + 1) (ex lo ln bs) y, u ≤ oB (ex lo ln bs y) 0 := by
          intro y hy u hu
          have y1 := ((g2 y).mp hy).1
          exact pth_inc hL2 y (by omega) u hu
        have hemp : ∀ y ∈ ch m0 0, pth (ln + 1) (ex lo ln bs) y ≠ [] := by
          intro y hy
          have y1 := ((g2 y).mp hy).1
          exact pth_ne hL2 (by omega)
        have hsk : ∀ j k, ss ≤ j → j < i → (ch m0 0)[j]? = some k → oB (ex lo ln bs ln) 0 < oB (ex lo ln bs k) 0 := by
          intro j k h1 h2 h3
          have := b6 j k h1 h2 h3
          unfold InsP at this
          rw [if_neg (by decide)] at this
          exact this
        have hnx : ∀ k, (ch m0 0)[i]? = some k → oB (ex lo ln bs k) 0 < oB (ex lo ln bs ln) 0 := by
          intro k hk
          have := b7 k hk
          unfold InsP at this
          rw [if_neg (by decide)] at this
          have h1 := ((g2 k).mp (List.mem_of_getElem? hk)).1
          have h2 := hN.2.1 k h1
          rw [ex_s, ex_n (by omega)] at this ⊢
          omega
        have h3ne : oB bs 3 ≠ oB bs 0 := by
          have hid := good_id hN.1
          rcases hN.1.2.2.2.2 a2 with z | z
          · omega
          · intro h
            rw [h] at z
            exact new_inS hN z
        have hcp : cplace (ln + 1) (ex lo ln bs) (nI (oB (ex lo ln bs ln) 3)) = cplace ln lo (nI (oB bs 3)) := by
          rw [ex_s]
          exact cpl_ex hL hL2 (good_lt hN.1 3) h3ne
        rcases f3 with z | ⟨p, z1, z2⟩
        · have h0 : oB bs 3 = 0 := (nI_eq (b := 0) (by have := good_lt hN.1 3; omega) (by decide)).mp z
          have hno : cplace ln lo (nI (oB bs 3)) = none := by
            rw [h0]
            exact (cpl_no hL (by decide)).mpr (fun p hp => by have := good_id (hL.1 p hp); omega)
          have hss : ss = 0 := by
            unfold celem at b3
            rw [hno] at b3
            cases ss with
            | zero => rfl
            | succ s =>
              rw [prevO] at b3
              rw [eq_comm, List.getElem?_eq_none_iff] at b3
              omega
          exact rga (idf := fun x => oB (ex lo ln bs x) 0) (Q := []) hs' hanc hinc hemp (by rw [pth_n (by rw [hcp, hno])]; rfl) (Or.inl ⟨hss, rfl⟩) b4 b5 hsk hnx
        · obtain ⟨e1, e2, -⟩ := celem_k z1
          have hp := cpl_id hL (good_lt hN.1 3) e1
          have hpin := (g2 p).mpr ⟨hp.1, z2⟩
          have hss : 0 < ss ∧ (ch m0 0)[ss - 1]? = some p := by
            rw [z1] at b3
            cases ss with
            | zero => cases b3
            | succ s => rw [prevO] at b3; exact ⟨by omega, b3.symm⟩
          have h6 := slp_lt hL2 (show ln < ln + 1 by omega) (by rw [hcp]; exact e1)
          exact rga (idf := fun x => oB (ex lo ln bs x) 0) (Q := pth (ln + 1) (ex lo ln bs) p) hs' hanc hinc hemp (pth_s hL2 (by omega) (by rw [hcp]; exact e1)) (Or.inr ⟨p, hss.1, hss.2, rfl, h6.2.2.1⟩) b4 b5 hsk hnx
    · refine ShB_ex hln hL hP hSh hN hh (fun k hk => ?_) ?_
      · rw [if_neg (by omega), exs k hk]
        exact ⟨fun h => ⟨h, fun v => by omega, fun v => by omega⟩, fun h => h.1⟩
      · rw [if_pos rfl]
        exact ⟨fun _ => ⟨a1, by omega⟩, fun _ => rfl⟩
