set_option maxRecDepth 100000
/-! PURE, M: the questions: log, past, heads, value, level -/
theorem nd_sub : ∀ (L K : List Nat), L.Nodup → (∀ x ∈ L, x ∈ K) → L.length ≤ K.length := by
  intro L
  induction L with
  | nil => intro K _ _; exact Nat.zero_le _
  | cons a L ih =>
    intro K hn hs
    rw [List.nodup_cons] at hn
    have ha := hs a List.mem_cons_self
    have := ih (K.erase a) hn.2 (fun x hx => (List.mem_erase_of_ne (a := x) (b := a) (fun z => hn.1 (by rw [← z]; exact hx))).mpr (hs x (List.mem_cons_of_mem _ hx)))
    rw [List.length_erase_of_mem ha] at this
    have h2 := List.length_pos_of_mem ha
    rw [List.length_cons]
    omega
theorem cnt_flt (P : Nat → Bool) : ∀ n, cntI P n = ((List.range n).filter P).length := by
  intro n
  induction n with
  | zero => rfl
  | succ n ih =>
    rw [List.range_succ, List.filter_append, List.length_append, ← ih]
    cases e : P n with
    | false => rw [cntI_f e]; simp [e]
    | true => rw [cntI_t e]; simp [e]
/-- a count over what is applied is a count over the log -/
theorem cnt_od {n : Nat} {po : Nat → Nat → Nat} {ap : Nat → Bool} {od : List Nat} {ln : Nat} {lo : Nat → List Nat} (h : Tie n po ap od ln lo) {P Q : Nat → Bool} (hP : ∀ j, j < n → P j = true → ap j = true) (hQ : ∀ k, k < ln → P (oi od k) = Q k) : cntI P n = cntI Q ln := by
  rw [cnt_flt, cnt_flt]
  have hnd : (((List.range ln).filter Q).map (oi od)).Nodup := by
    unfold List.Nodup
    rw [List.pairwise_map]
    refine ((List.nodup_range (n := ln)).filter Q).imp_of_mem (fun {x y} hx hy hxy z => hxy ?_)
    exact tie_inj h (List.mem_range.mp (List.mem_filter.mp hx).1) (List.mem_range.mp (List.mem_filter.mp hy).1) z
  have hmem : ∀ x, x ∈ ((List.range ln).filter Q).map (oi od) ↔ x ∈ (List.range n).filter P := by
    intro x
    rw [List.mem_map, List.mem_filter, List.mem_range]
    constructor
    · rintro ⟨k, hk, rfl⟩
      rw [List.mem_filter, List.mem_range] at hk
      exact ⟨(tie_lt h hk.1).1, by rw [hQ k hk.1]; exact hk.2⟩
    · rintro ⟨h1, h2⟩
      obtain ⟨k, hk, rfl⟩ := tie_inv h h1 (hP x h1 h2)
      exact ⟨k, List.mem_filter.mpr ⟨List.mem_range.mpr hk, by rw [← hQ k hk]; exact h2⟩, rfl⟩
  have a1 := nd_sub _ _ hnd (fun x hx => (hmem x).mp hx)
  have a2 := nd_sub _ _ ((List.nodup_range (n := n)).filter P) (fun x hx => (hmem x).mpr hx)
  rw [List.length_map] at a1 a2
  omega
theorem q_log {n : Nat} {po : Nat → Nat → Nat} {ap : Nat → Bool} {od : List Nat} {ln : Nat} {lo : Nat → List Nat} (h : Tie n po ap od ln lo) (x : Int32) : (if x = -1 then nI od.length else if ¬ x < 0 ∧ x < nI od.length then nI (po (od.getD x.toNatClampNeg 0) 0) else -1) = (if x = -1 then nI ln else if ¬ x < 0 ∧ x < nI ln then nI (oB (lo x.toNatClampNeg) 0) else -1) := by
  have h7 := h.2.2.2.2.2.2
  have h8 := tie_ln h
  rw [h.2.1]
  by_cases z : ¬ x < 0 ∧ x < nI ln
  · obtain ⟨j, hj, rfl⟩ := nI_of z.1
    have hjl : j < ln := (nI_ltI (by omega) (by omega)).mp z.2
    rw [if_pos z, if_pos z, nI_clamp (by omega), tie_b h hjl (by omega)]
  · rw [if_neg z, if_neg z]
theorem q_past {n : Nat} {po : Nat → Nat → Nat} {ap : Nat → Bool} {od : List Nat} {ln : Nat} {lo : Nat → List Nat} {P : Nat → Int32} {hi : Nat → Option Nat} (h : Tie n po ap od ln lo) (hP : PB ln lo P) (hH : HiB ln lo hi) (x z : Int32) : (match mfind n po ap x true with | none => false | some i => match mfind n po ap z true with | none => false | some j => bitI ((stA n po ap).2 j) i) = (match cplace ln lo x with | none => false | some i => match cplace ln lo z with | none => false | some j => bitI (P j) i) := by
  rw [tie_mf h x, tie_mf h z]
  cases e : cplace ln lo x with
  | none => rfl
  | some i =>
    cases e2 : cplace ln lo z with
    | none => rfl
    | some j => exact (st_all h hP hH).2 j i (cpl_get e2).1 (cpl_get e).1
theorem q_heads {n : Nat} {po : Nat → Nat → Nat} {ap : Nat → Bool} {od : List Nat} {ln : Nat} {lo : Nat → List Nat} {fo : Nat → Bool} (h : Tie n po ap od ln lo) (hF : FoB ln lo fo) : cntI (mhead n po ap) n = cntI (fun k => !fo k) ln :=
  cnt_od h (fun j _ hj => by unfold mhead at hj; rw [Bool.and_eq_true] at hj; exact hj.1) (fun k hk => head_eq h hF hk)
theorem q_value {n : Nat} {po : Nat → Nat → Nat} {ap : Nat → Bool} {od : List Nat} {ln : Nat} {lo : Nat → List Nat} (h : Tie n po ap od ln lo) (x : Int32) : (match mfind n po ap x true with | none => -1 | some j => nI (po j 4)) = (match cplace ln lo x with | none => (-1 : Int32) | some k => nI (oB (lo k) 4)) := by
  rw [tie_mf h x]
  cases e : cplace ln lo x with
  | none => rfl
  | some k => dsimp only [Option.map]; rw [tie_b h (cpl_get e).1 (by omega)]
theorem al_eq {po po2 : Nat → Nat → Nat} {i j : Nat} : alK po po2 i j (6 + po i 5) = true ↔ opL po2 j = opL po i := by
  unfold alK
  rw [allI_iff]
  constructor
  · intro h
    have h5 := of_decide_eq_true (h 5 (by omega))
    unfold opL
    rw [← h5]
    refine List.map_congr_left (fun f hf => ?_)
    exact (of_decide_eq_true (h f (List.mem_range.mp hf))).symm
  · intro e f hf
    have h5 : po2 j 5 = po i 5 := by
      have a : oB (opL po2 j) 5 = po2 j 5 := opL_b (by omega)
      have b : oB (opL po i) 5 = po i 5 := opL_b (by omega)
      rw [e] at a
      omega
    have a : oB (opL po2 j) f = po2 j f := opL_b (by omega)
    have b : oB (opL po i) f = po i f := opL_b hf
    rw [e] at a
    exact decide_eq_true (by omega)
theorem q_level {n n2 : Nat} {po po2 : Nat → Nat → Nat} {ap ap2 : Nat → Bool} {od od2 : List Nat} {ln ln2 : Nat} {lo lo2 : Nat → List Nat} (h : Tie n po ap od ln lo) (h2 : Tie n2 po2 ap2 od2 ln2 lo2) : lvK ap ap2 po po2 n2 (decide (od.length = od2.length)) n = (decide (ln = ln2) && allI (clevP ln2 lo lo2) ln) := by
  unfold lvK
  rw [h.2.1, h2.2.1]
  congr 1
  have hL := h.2.2.2.2.2.1
  have hL2 := h2.2.2.2.2.2.1
  rw [Bool.eq_iff_iff, allI_iff, allI_iff]
  constructor
  · intro z k hk
    have := z (oi od k) (tie_lt h hk).1
    unfold lvP at this
    rw [if_pos (tie_lt h hk).2, anyI_iff] at this
    obtain ⟨j, hj, hb⟩ := this
    rw [Bool.and_eq_true, al_eq] at hb
    obtain ⟨q, hq, rfl⟩ := tie_inv h2 hj hb.1
    rw [← h2.2.2.1 q hq, ← h.2.2.1 k hk] at hb
    unfold clevP
    rw [← hb.2, cpl_at hL2 hq]
    exact decide_eq_true rfl
  · intro z j hj
    unfold lvP
    cases ha : ap j with
    | false => rfl
    | true =>
      obtain ⟨k, hk, rfl⟩ := tie_inv h hj ha
      rw [if_pos rfl, anyI_iff]
      have := z k hk
      unfold clevP at this
      cases e : cplace ln2 lo2 (nI (oB (lo k) 0)) with
      | none => rw [e] at this; cases this
      | some q =>
        rw [e] at this
        have hq := (cpl_get e).1
        have he := of_decide_eq_true this
        refine ⟨oi od2 q, (tie_lt h2 hq).1, ?_⟩
        rw [Bool.and_eq_true, al_eq, ← h2.2.2.1 q hq, ← h.2.2.1 k hk]
        exact ⟨(tie_lt h2 hq).2, he⟩
/-! entries and elements -/
theorem ent_eq {n : Nat} {po : Nat → Nat → Nat} {ap : Nat → Bool} {od : List Nat} {ln : Nat} {lo : Nat → List Nat} {P : Nat → Int32} {hi : Nat → Option Nat} (h : Tie n po ap od ln lo) (hP : PB ln lo P) (hH : HiB ln lo hi) {k : Nat} (hk : k < ln) : mentry n po ap (stA n po ap).1 (stA n po ap).2 (oi od k) = true ↔ Ent ln lo P hi k := by
  obtain ⟨s1, s2⟩ := st_all h hP hH
  unfold mentry Ent
  rw [Bool.and_eq_true, Bool.and_eq_true, Bool.and_eq_true, (tie_lt h hk).2, s1 k hk, decide_eq_true_eq, ← tie_b h hk (by omega), allI_iff]
  constructor
  · rintro ⟨⟨⟨-, h1⟩, h2⟩, h3⟩
    refine ⟨hk, h1, h2, ?_⟩
    rintro ⟨j, j1, j2, j3, j4, j5, j6⟩
    have := h3 (oi od j) (tie_lt h j1).1
    unfold mwr at this
    rw [(tie_lt h j1).2, s1 j j1, j2, s2 j k j1 hk, j6, ← tie_b h j1 (f := 1) (by omega), ← tie_b h j1 (f := 2) (by omega), ← tie_b h j1 (f := 3) (by omega), ← tie_b h hk (f := 2) (by omega), ← tie_b h hk (f := 3) (by omega), j4, j5] at this
    rcases j3 with z | z
    · simp [z] at this
    · simp [z] at this
  · rintro ⟨-, h1, h2, h3⟩
    refine ⟨⟨⟨rfl, h1⟩, h2⟩, fun j hj => ?_⟩
    rw [Bool.not_eq_true']
    cases e : mwr po ap (stA n po ap).1 (stA n po ap).2 (oi od k) j with
    | false => rfl
    | true =>
      exfalso
      unfold mwr at e
      simp only [Bool.and_eq_true, Bool.or_eq_true, decide_eq_true_eq] at e
      obtain ⟨⟨⟨⟨⟨e1, e2⟩, e3⟩, e4⟩, e5⟩, e6⟩ := e
      obtain ⟨q, hq, rfl⟩ := tie_inv h hj e1
      refine h3 ⟨q, hq, ?_, ?_, ?_, ?_, ?_⟩
      · rw [← s1 q hq]; exact e2
      · rw [tie_b h hq (by omega)]; exact e3
      · rw [tie_b h hq (by omega), tie_b h hk (by omega)]; exact e4
      · rw [tie_b h hq (by omega), tie_b h hk (by omega)]; exact e5
      · rw [← s2 q k hq hk]; exact e6
theorem gon_eq {n : Nat} {po : Nat → Nat → Nat} {ap : Nat → Bool} {od : List Nat} {ln : Nat} {lo : Nat → List Nat} {P : Nat → Int32} {hi : Nat → Option Nat} (h : Tie n po ap od ln lo) (hP : PB ln lo P) (hH : HiB ln lo hi) {k : Nat} (hk : k < ln) : mgone n po ap (stA n po ap).1 (oi od k) = true ↔ Gon ln lo hi k := by
  obtain ⟨s1, s2⟩ := st_all h hP hH
  unfold mgone Gon
  rw [anyI_iff]
  constructor
  · rintro ⟨j, hj, e⟩
    simp only [Bool.and_eq_true, decide_eq_true_eq] at e
    obtain ⟨⟨⟨e1, e2⟩, e3⟩, e4⟩ := e
    obtain ⟨q, hq, rfl⟩ := tie_inv h hj e1
    refine ⟨q, hq, by rw [← s1 q hq]; exact e2, by rw [tie_b h hq (by omega)]; exact e3, ?_⟩
    rw [tie_b h hq (by omega), tie_b h hk (by omega)]; exact e4
  · rintro ⟨q, hq, e2, e3, e4⟩
    refine ⟨oi od q, (tie_lt h hq).1, ?_⟩
    rw [tie_b h hq (by omega)] at e3
    rw [tie_b h hq (by omega), tie_b h hk (by omega)] at e4
    simp only [Bool.and_eq_true, decide_eq_true_eq]
    exact ⟨⟨⟨(tie_lt h hq).2, by rw [s1 q hq]; exact e2⟩, e3⟩, e4⟩
/-- whether something is shown -/
theorem sh_eq {n : Nat} {po : Nat → Nat → Nat} {ap : Nat → Bool} {od : List Nat} {ln : Nat} {lo : Nat → List Nat} {P : Nat → Int32} {hi : Nat → Option Nat} {sh : Nat → Bool} (h : Tie n po ap od ln lo) (hP : PB ln lo P) (hH : HiB ln lo hi) (hS : ShB ln lo P hi sh) {k : Nat} (hk : k < ln) : shB2 n po ap (stA n po ap).1 (stA n po ap).2 (oi od k) = sh k := by
  obtain ⟨s1, s2⟩ := st_all h hP hH
  unfold shB2
  rw [Bool.eq_iff_iff, hS k hk, ← tie_b h hk (by omega)]
  by_cases z : oB (lo k) 1 = 3
  · rw [if_pos z, Bool.and_eq_true, s1 k hk, Bool.not_eq_true', ← Bool.not_eq_true, gon_eq h hP hH hk]
    constructor
    · intro w; exact Or.inr ⟨z, w.1, w.2⟩
    · rintro (w | w)
      · have := w.2.2.1; omega
      · exact ⟨w.2.1, w.2.2⟩
  · rw [if_neg z, ent_eq h hP hH hk]
    constructor
    · intro w; exact Or.inl w
    · rintro (w | w)
      · exact w
      · exact absurd w.1 z
