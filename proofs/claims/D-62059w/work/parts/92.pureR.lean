set_option maxRecDepth 100000
/-! PURE, R: sum -/
theorem iter_fold {σ : Type} {g : σ → Nat → σ} {L : List Nat} {F : Nat → σ → σ} : ∀ n s, (∀ k, k < n → ∀ s, F k s = match L[k]? with | none => s | some x => g s x) → iterI F s n = (L.take n).foldl g s := by
  intro n
  induction n with
  | zero => intro s _; rfl
  | succ n ih =>
    intro s hF
    rw [iterI_s, ih s (fun k hk => hF k (by omega)), hF n (by omega), List.take_add_one, List.foldl_append]
    cases e : L[n]? with
    | none => rfl
    | some x => rfl
theorem ch_len {ln : Nat} {L : List Nat} (hn : L.Nodup) (h : ∀ k ∈ L, k < ln) : L.length ≤ ln := nodup_len ln L hn h
def VF (lo : Nat → List Nat) (sh : Nat → Bool) (ch : Nat → Nat → List Nat) (f k : Nat) : Int32 := if oB (lo k) 1 = 1 then msum lo sh ch f (k + 1) else if oB (lo k) 1 = 2 then (ch (k + 1) 0).foldl (csL lo sh) 11 else 0
theorem fold_congr {σ : Type} {g g2 : σ → Nat → σ} : ∀ (L : List Nat) (s : σ), (∀ k ∈ L, ∀ s, g s k = g2 s k) → L.foldl g s = L.foldl g2 s := by
  intro L
  induction L with
  | nil => intro s _; rfl
  | cons a L ih =>
    intro s h
    rw [List.foldl_cons, List.foldl_cons, h a List.mem_cons_self, ih _ (fun k hk => h k (List.mem_cons_of_mem _ hk))]
theorem iter_congr {σ : Type} {F F2 : Nat → σ → σ} : ∀ (n : Nat) (s : σ), (∀ k, k < n → ∀ s, F k s = F2 k s) → iterI F s n = iterI F2 s n := by
  intro n
  induction n with
  | zero => intro s _; rfl
  | succ n ih => intro s h; rw [iterI_s, iterI_s, ih s (fun k hk => h k (by omega)), h n (by omega)]
/-- more fuel changes nothing -/
theorem msum_fuel {ln : Nat} {lo : Nat → List Nat} {P : Nat → Int32} {hi : Nat → Option Nat} {sh : Nat → Bool} {ch : Nat → Nat → List Nat} (hL : LogOk ln lo) (hH : HiB ln lo hi) (hM : MapB ln lo P hi ch) : ∀ f g m, m ≤ ln → isMap lo m → ln - m < f → ln - m < g → msum lo sh ch f m = msum lo sh ch g m := by
  intro f
  induction f with
  | zero => intro g m _ _ h; omega
  | succ f ih =>
    intro g m hm hmp h1 h2
    obtain ⟨g', rfl⟩ : ∃ g', g = g' + 1 := ⟨g - 1, by omega⟩
    unfold msum
    refine iter_congr 4 7 (fun key hk s => fold_congr _ s (fun k hk2 s => ?_))
    obtain ⟨e1, e2, e3⟩ := ((hM m key hm hmp hk).2 k).mp hk2
    have hmk := (hi_le hL hH e1.1 e2).2.2.2
    have hkl := e1.1
    unfold msS belF
    by_cases z : oB (lo k) 1 = 1
    · rw [if_pos z, if_pos z, ih g' (k + 1) (by omega) (Or.inr (by rw [Nat.add_sub_cancel]; exact z)) (by omega) (by omega)]
    · rw [if_neg z, if_neg z]
theorem mt_eq {n : Nat} {po : Nat → Nat → Nat} {ap : Nat → Bool} {od : List Nat} {ln : Nat} {lo : Nat → List Nat} {P : Nat → Int32} {hi : Nat → Option Nat} {sh : Nat → Bool} {ch : Nat → Nat → List Nat} (h : Tie n po ap od ln lo) (hP : PB ln lo P) (hH : HiB ln lo hi) (hM : MapB ln lo P hi ch) {mm : Int32} {m : Nat} (hm : cnode ln lo mm = some m) (hmp : isMap lo m) {T : Nat → Int32} {f : Nat} (hT : ∀ key k, key < 4 → k ∈ ch m key → T (oi od k) = VF lo sh ch f k) : mtF n po ap (stA n po ap).1 (stA n po ap).2 T mm = msum lo sh ch (f + 1) m := by
  have h7 := h.2.2.2.2.2.2
  have h8 := tie_ln h
  unfold mtF msum
  refine iter_congr 4 7 (fun key hk s => ?_)
  obtain ⟨g1, g2⟩ := hM m key (cnode_le hm).1 hmp hk
  have hlen : (ch m key).length ≤ 16 := by
    have := ch_len (ln := ln) (L := ch m key) (g1.imp (fun {a b} hab z => by rw [z] at hab; omega)) (fun k hk2 => ((g2 k).mp hk2).1.1)
    omega
  rw [iter_fold (L := ch m key) (g := msS lo sh ch (msum lo sh ch f) key) 16 s (fun k hk16 s => ?_), List.take_of_length_le hlen]
  unfold mtS
  rw [entO_eq h hP hH hM hm hmp hk]
  rcases Nat.lt_or_ge k (ch m key).length with z | z
  · rw [if_pos ⟨nI_pos (by omega), nI_lt z (by omega)⟩, nI_clamp (by omega), List.getD_eq_getElem?_getD, List.getElem?_eq_getElem z]
    have hmem := (ch m key).getElem_mem z
    have hT2 := hT key _ hk hmem
    have e1 := ((g2 _).mp hmem).1
    dsimp only [Option.getD]
    generalize (ch m key)[k] = q at hmem hT2 e1 ⊢
    unfold msS
    rw [hT2, tie_b h e1.1 (by omega), ← tie_b h e1.1 (f := 1) (by omega), ← tie_b h e1.1 (f := 4) (by omega)]
    unfold belF VF
    have hk2 := e1.2.2.1
    by_cases z0 : oB (lo q) 1 = 0
    · rw [if_pos z0, if_neg (by omega), if_neg (by omega)]
    · rw [if_neg z0]
      by_cases z1 : oB (lo q) 1 = 1
      · rw [if_pos z1, if_pos z1]
      · rw [if_neg z1, if_neg z1, if_pos (by omega), if_pos (by omega)]
  · rw [List.getElem?_eq_none z]
    rw [if_neg (fun w => nI_nlt z (by omega) w.2)]
theorem lt_eq {n : Nat} {po : Nat → Nat → Nat} {ap : Nat → Bool} {od : List Nat} {ln : Nat} {lo : Nat → List Nat} {P : Nat → Int32} {hi : Nat → Option Nat} {sh : Nat → Bool} {ch : Nat → Nat → List Nat} (h : Tie n po ap od ln lo) (hP : PB ln lo P) (hH : HiB ln lo hi) (hS : ShB ln lo P hi sh) (hLs : LstB ln lo hi ch) {mm : Int32} {m : Nat} (hm : cnode ln lo mm = some m) (hls : isLst lo m) : ltF n po ap (stA n po ap).1 (elR od ln lo) (elD od ln lo) mm = (ch m 0).foldl (csL lo sh) 11 := by
  have h7 := h.2.2.2.2.2.2
  have h8 := tie_ln h
  obtain ⟨g1, g2⟩ := hLs m (cnode_le hm).1 hls
  have hnd : (ch m 0).Nodup := g1.imp (fun {a b} hab z => by rw [z, plt_irr] at hab; cases hab)
  have hsub : ∀ q, q ∈ (ch m 0).filter sh → q < ln := fun q hq => ((g2 q).mp (List.mem_filter.mp hq).1).1
  have hlen : ((ch m 0).filter sh).length ≤ 16 := by
    have := ch_len (ln := ln) (L := (ch m 0).filter sh) (hnd.filter _) hsub
    omega
  have hfold : (ch m 0).foldl (csL lo sh) 11 = ((ch m 0).filter sh).foldl (fun s k => 31 * s + nI (128 * oB (lo k) 0) + nI (oB (lo k) 4)) 11 := by
    rw [List.foldl_filter]
    rfl
  rw [hfold]
  unfold ltF
  rw [iter_fold (L := (ch m 0).filter sh) (g := fun s k => 31 * s + nI (128 * oB (lo k) 0) + nI (oB (lo k) 4)) 16 11 (fun k hk16 s => ?_), List.take_of_length_le hlen]
  unfold ltS
  rw [elO_eq h hP hH hS hLs hm hls]
  generalize (ch m 0).filter sh = L at hsub hlen
  rcases Nat.lt_or_ge k L.length with z | z
  · rw [if_pos ⟨nI_pos (by omega), nI_lt z (by omega)⟩, nI_clamp (by omega), List.getD_eq_getElem?_getD, List.getElem?_eq_getElem z]
    have hkl := hsub _ (L.getElem_mem z)
    dsimp only [Option.getD]
    rw [tie_b h hkl (by omega), tie_b h hkl (by omega)]
  · rw [List.getElem?_eq_none z, if_neg (fun w => nI_nlt z (by omega) w.2)]
theorem tot_eq {n : Nat} {po : Nat → Nat → Nat} {ap : Nat → Bool} {od : List Nat} {ln : Nat} {lo : Nat → List Nat} {P : Nat → Int32} {hi : Nat → Option Nat} {sh : Nat → Bool} {ch : Nat → Nat → List Nat} (h : Tie n po ap od ln lo) (hP : PB ln lo P) (hH : HiB ln lo hi) (hM : MapB ln lo P hi ch) (hS : ShB ln lo P hi sh) (hLs : LstB ln lo hi ch) (T0 : Nat → Int32) : ∀ i, i ≤ 159 → ∀ k, k < ln → 163 - i ≤ oB (lo k) 0 → iterI (totS n po ap (stA n po ap).1 (stA n po ap).2 (elR od ln lo) (elD od ln lo)) T0 i (oi od k) = VF lo sh ch 18 k := by
  have hL := h.2.2.2.2.2.1
  have h7 := h.2.2.2.2.2.2
  have h8 := tie_ln h
  intro i
  induction i with
  | zero =>
    intro _ k hk h1
    have := good_id (hL.1 k hk)
    omega
  | succ i ih =>
    intro hi9 k hk h1
    have ih := ih (by omega)
    rw [iterI_s]
    generalize iterI (totS n po ap (stA n po ap).1 (stA n po ap).2 (elR od ln lo) (elD od ln lo)) T0 i = T at ih ⊢
    unfold totS
    rw [tie_mf h]
    cases e : cplace ln lo (nI (162 - i)) with
    | none =>
      have hne := (cpl_no hL (x := 162 - i) (by omega)).mp e k hk
      exact ih k hk (by omega)
    | some q =>
      obtain ⟨q1, q2⟩ := cpl_id hL (by omega) e
      dsimp only [Option.map]
      by_cases z : k = q
      · subst z
        rw [pk_us, ← tie_b h hk (by omega)]
        have hid := good_id (hL.1 k hk)
        have hne : ¬ nI (162 - i) = 0 := nI_ne0 (by omega) (by omega)
        unfold VF
        by_cases z1 : oB (lo k) 1 = 1
        · rw [if_pos z1, if_pos z1]
          have hm : cnode ln lo (nI (162 - i)) = some (k + 1) := by
            unfold cnode
            rw [if_neg hne, e]
            dsimp only
            rw [if_pos (Or.inl z1)]
          have hmp : isMap lo (k + 1) := Or.inr (by rw [Nat.add_sub_cancel]; exact z1)
          rw [mt_eq (sh := sh) (f := 18) h hP hH hM hm hmp (fun key c hkey hc => ?_)]
          · exact msum_fuel hL hH hM 19 18 (k + 1) (by omega) hmp (by omega) (by omega)
          · obtain ⟨e1, e2, e3⟩ := ((hM (k + 1) key (by omega) hmp hkey).2 c).mp hc
            have e4 := (hi_le hL hH e1.1 e2).2.2.1
            rcases cnd_get hL (good_lt (hL.1 c e1.1) 2) e4 with ⟨_, w2⟩ | ⟨w1, w2, w3, w4, w5⟩
            · omega
            · have := tgp_lt hL e1.1 w5
              rw [Nat.add_sub_cancel] at this
              exact ih c e1.1 (by omega)
        · rw [if_neg z1, if_neg z1]
          by_cases z2 : oB (lo k) 1 = 2
          · rw [if_pos z2, if_pos z2]
            have hm : cnode ln lo (nI (162 - i)) = some (k + 1) := by
              unfold cnode
              rw [if_neg hne, e]
              dsimp only
              rw [if_pos (Or.inr z2)]
            exact lt_eq h hP hH hS hLs hm ⟨by omega, by rw [Nat.add_sub_cancel]; exact z2⟩
          · rw [if_neg z2, if_neg z2]
      · rw [pk_un (fun w => z (tie_inj h hk q1 w))]
        have : oB (lo k) 0 ≠ 162 - i := fun w => z (hL.2.1 k q hk q1 (by rw [w, q2]))
        exact ih k hk (by omega)
theorem q_sum {n : Nat} {po : Nat → Nat → Nat} {ap : Nat → Bool} {od : List Nat} {ln : Nat} {lo : Nat → List Nat} {P : Nat → Int32} {hi : Nat → Option Nat} {sh : Nat → Bool} {ch : Nat → Nat → List Nat} (h : Tie n po ap od ln lo) (hP : PB ln lo P) (hH : HiB ln lo hi) (hM : MapB ln lo P hi ch) (hS : ShB ln lo P hi sh) (hLs : LstB ln lo hi ch) (T0 : Nat → Int32) : mtF n po ap (stA n po ap).1 (stA n po ap).2 (iterI (totS n po ap (stA n po ap).1 (stA n po ap).2 (elR od ln lo) (elD od ln lo)) T0 159) 0 = msum lo sh ch 18 0 := by
  have hL := h.2.2.2.2.2.1
  have h7 := h.2.2.2.2.2.2
  have h8 := tie_ln h
  have hm : cnode ln lo 0 = some 0 := by unfold cnode; rw [if_pos rfl]
  rw [mt_eq (sh := sh) (f := 18) h hP hH hM hm (Or.inl rfl) (fun key c hkey hc => ?_)]
  · exact msum_fuel hL hH hM 19 18 0 (by omega) (Or.inl rfl) (by omega) (by omega)
  · obtain ⟨e1, e2, e3⟩ := ((hM 0 key (by omega) (Or.inl rfl) hkey).2 c).mp hc
    have hid := good_id (hL.1 c e1.1)
    exact tot_eq h hP hH hM hS hLs T0 159 (Nat.le_refl _) c e1.1 (by omega)
