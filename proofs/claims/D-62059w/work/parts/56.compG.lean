set_option maxRecDepth 100000
/-! THE COMPONENT, G: Replica.apply: one item more -/
def ex {α : Type} (f : Nat → α) (n : Nat) (v : α) : Nat → α := fun j => if j = n then v else f j
theorem ex_s {α : Type} (f : Nat → α) (n : Nat) (v : α) : ex f n v n = v := if_pos rfl
theorem ex_n {α : Type} {f : Nat → α} {n : Nat} {v : α} {j : Nat} (h : j ≠ n) : ex f n v j = f j := if_neg h
def exA (A : Nat → Nat → Nat) (ln q0 o0 n0 e0 : Nat) : Nat → Nat → Nat := fun i j => if i = 0 ∧ j = ln then q0 else if i = 1 ∧ j = ln then o0 else if i = 2 ∧ j = ln + 1 then n0 else if i = 3 ∧ j = ln + 1 then e0 else A i j
theorem exA_0 (A : Nat → Nat → Nat) (ln q0 o0 n0 e0 : Nat) : exA A ln q0 o0 n0 e0 0 = ex (A 0) ln q0 := by
  funext j; unfold exA ex; simp
theorem exA_1 (A : Nat → Nat → Nat) (ln q0 o0 n0 e0 : Nat) : exA A ln q0 o0 n0 e0 1 = ex (A 1) ln o0 := by
  funext j; unfold exA ex; simp
theorem exA_2 (A : Nat → Nat → Nat) (ln q0 o0 n0 e0 : Nat) : exA A ln q0 o0 n0 e0 2 = ex (A 2) (ln + 1) n0 := by
  funext j; unfold exA ex; simp
theorem exA_3 (A : Nat → Nat → Nat) (ln q0 o0 n0 e0 : Nat) : exA A ln q0 o0 n0 e0 3 = ex (A 3) (ln + 1) e0 := by
  funext j; unfold exA ex; simp
theorem exA_4 (A : Nat → Nat → Nat) (ln q0 o0 n0 e0 : Nat) : exA A ln q0 o0 n0 e0 4 = A 4 := by
  funext j; unfold exA; simp
def exC (ch : Nat → Nat → List Nat) (ln : Nat) : Nat → Nat → List Nat := fun m key => if m = ln + 1 then [] else ch m key
theorem RepAt.ext {G : mp_G} {M M1 : mp_M} {g a ln : Nat} {lo : Nat → List Nat} {P : Nat → Int32} {hi : Nat → Option Nat} {sh fo : Nat → Bool} {ch : Nat → Nat → List Nat} {nx : Nat → Option Nat} {wt : List (List Nat)} {A : Nat → Nat → Nat} {wo : List Nat} (hR : RepAt G M g a ln lo P hi sh fo ch nx wt A wo) (hE : Ext M M1) : RepAt G M1 g a ln lo P hi sh fo ch nx wt A wo := by
  obtain ⟨r1, r2, r3, r4, r5, r6, r7, r8, r9, r10, r11⟩ := hR
  have hK : Keep (fun _ => False) M M1 := hE.keep
  exact ⟨hE _ _ r1, r2.keep hK id id, r3.keep hK id id, ⟨r4.1, fun i hi0 => (r4.2 i hi0).keep hK (fun _ _ _ => id)⟩, fun k hk => hE _ _ (r5 k hk), fun k hk => (r6 k hk).keep hK (fun _ _ _ => id), fun m hm h => ⟨hE _ _ (r7 m hm h).1, hE _ _ (r7 m hm h).2⟩, fun m hm h => hE _ _ (r8 m hm h), r9, r10, r11⟩
theorem isMap_ex {lo : Nat → List Nat} {ln m : Nat} {bs : List Nat} (hm : m ≤ ln) : isMap (ex lo ln bs) m ↔ isMap lo m := by
  unfold isMap
  by_cases z : m = 0
  · simp [z]
  · rw [ex_n (show m - 1 ≠ ln by omega)]
theorem isLst_ex {lo : Nat → List Nat} {ln m : Nat} {bs : List Nat} (hm : m ≤ ln) : isLst (ex lo ln bs) m ↔ isLst lo m := by
  unfold isLst
  by_cases z : m = 0
  · simp [z]
  · rw [ex_n (show m - 1 ≠ ln by omega)]
/-- the replica with one item more, in no chain yet -/
theorem rep_more {G : mp_G} {M M1 : mp_M} {g a ln : Nat} {lo : Nat → List Nat} {P : Nat → Int32} {hi : Nat → Option Nat} {sh fo : Nat → Bool} {ch : Nat → Nat → List Nat} {nx : Nat → Option Nat} {wt : List (List Nat)} {A : Nat → Nat → Nat} {wo : List Nat} (hR : RepAt G M g a ln lo P hi sh fo ch nx wt A wo) {q0 o0 n0 e0 : Nat} {bs : List Nat} {pa : Int32} (hln : ln < 16) (hok : OpOk bs) (hch : ∀ m key, m ≤ ln → 4 ≤ key → ch m key = [])
    (hK : Keep (fun la => la = (g, 4, 0) ∨ la = (g, 5, 0)) M M1)
    (hal : AlAt G M1 (g, 4, 0) (g, 5, 0) (A 4 0) ((List.range ln).map (A 0) ++ [q0]))
    (hq : M1 q0 = some ((g, 1, ln), .inr (5, [.ref o0, .int pa, .int (nI ln), va_rf (if oB bs 1 = 1 ∨ oB bs 1 = 2 then some n0 else none), .null, .int 0, .int 0, .null])))
    (ho : OpAt G M1 g o0 bs)
    (hmp : oB bs 1 = 1 → M1 n0 = some ((g, 13, ln + 1), .inr (2, [.ref q0, .ref e0])) ∧ M1 e0 = some ((g, 2, ln + 1), .inl (G.2.1 4, 4, .inr (.inr (.inr (.inr (fun _ => none)))))))
    (hls : oB bs 1 = 2 → M1 n0 = some ((g, 3, ln + 1), .inr (6, [.ref q0, .null]))) :
    RepAt G M1 g a (ln + 1) (ex lo ln bs) (ex P ln pa) (ex hi ln none) (ex sh ln false) (ex fo ln false) (exC ch ln) (ex nx ln none) wt (exA A ln q0 o0 n0 e0) wo := by
  obtain ⟨r1, r2, r3, r4, r5, r6, r7, r8, r9, r10, r11⟩ := hR
  have hmap : (List.range (ln + 1)).map (ex (A 0) ln q0) = (List.range ln).map (A 0) ++ [q0] := by
    rw [List.range_succ, List.map_append]
    congr 1
    · apply List.map_congr_left
      intro x hx
      rw [ex_n (by have := List.mem_range.mp hx; omega)]
    · simp [ex_s]
  unfold RepAt
  rw [exA_0, exA_1, exA_2, exA_3, exA_4]
  refine ⟨?_, by rw [hmap]; exact hal, r3.keep hK (by simp) (by simp), ⟨r4.1, fun i hi0 => (r4.2 i hi0).keep hK (fun kd i h10 z => by simp at z; omega)⟩, fun k hk => ?_, fun k hk => ?_, fun m hm h => ?_, fun m hm h => ?_, fun m key hm hv => ?_, ⟨by omega, r10.2.1, fun k hk => ?_, r10.2.2.2⟩, fun k m hk hm => ?_⟩
  · rw [ex_n (by omega)]
    exact hK _ _ _ r1 (by simp)
  · by_cases z : k = ln
    · subst z
      rw [ex_s, ex_s, ex_s, ex_s, ex_s, ex_s, ex_s, hq]
      unfold nodeO
      rw [ex_s, exA_2, ex_s]
      rfl
    · have hk2 : k < ln := by omega
      rw [ex_n z, ex_n z, ex_n z, ex_n z, ex_n z, ex_n z, ex_n z, hK _ _ _ (r5 k hk2) (by simp)]
      have e1 : nodeO (ex lo ln bs) (exA A ln q0 o0 n0 e0) k = nodeO lo A k := by
        unfold nodeO
        rw [ex_n z, exA_2, ex_n (show k + 1 ≠ ln + 1 by omega)]
      have e2 : (hi k).map (ex (A 2) (ln + 1) n0) = (hi k).map (A 2) := by
        cases e : hi k with
        | none => rfl
        | some m => rw [Option.map_some, Option.map_some, ex_n (by have := (r11 k m hk2 e).1; omega)]
      rw [e1, e2]
  · by_cases z : k = ln
    · subst z
      rw [ex_s, ex_s]
      exact ho
    · rw [ex_n z, ex_n z]
      exact (r6 k (by omega)).keep hK (fun kd i h10 z => by simp at z; omega)
  · by_cases z : m = ln + 1
    · subst z
      rw [ex_s, ex_s]
      have hk1 : oB bs 1 = 1 := by
        rcases h with w | w
        · omega
        · rw [show ln + 1 - 1 = ln by omega, ex_s] at w; exact w
      obtain ⟨c1, c2⟩ := hmp hk1
      rw [if_neg (by omega), show ln + 1 - 1 = ln by omega, ex_s, c1, c2]
      refine ⟨rfl, ?_⟩
      have : (fun key => Option.map (ex (A 0) ln q0) (exC ch ln (ln + 1) key).head?) = (fun _ => none) := by
        funext key
        unfold exC
        rw [if_pos rfl]
        rfl
      rw [this]
    · have hm2 : m ≤ ln := by omega
      obtain ⟨c1, c2⟩ := r7 m hm2 ((isMap_ex hm2).mp h)
      rw [ex_n z, ex_n z]
      refine ⟨?_, ?_⟩
      · rw [hK _ _ _ c1 (by simp)]
        by_cases w : m = 0
        · rw [if_pos w, if_pos w]
        · rw [if_neg w, if_neg w, ex_n (show m - 1 ≠ ln by omega)]
      · rw [hK _ _ _ c2 (by simp)]
        have : (fun key => Option.map (A 0) (ch m key).head?) = (fun key => Option.map (ex (A 0) ln q0) (exC ch ln m key).head?) := by
          funext key
          unfold exC
          rw [if_neg z]
          cases e : (ch m key).head? with
          | none => rfl
          | some k =>
            rw [Option.map_some, Option.map_some]
            by_cases hk4 : key < 4
            · have hc := r9 m key hm2 (Or.inl ⟨(isMap_ex hm2).mp h, hk4⟩)
              have := (hc.2 0 k (by rw [← List.head?_eq_getElem?]; exact e)).1
              rw [ex_n (by omega)]
            · rw [hch m key hm2 (by omega)] at e
              cases e
        rw [this]
  · by_cases z : m = ln + 1
    · subst z
      rw [ex_s]
      have hk2 : oB bs 1 = 2 := by
        have w := h.2
        rw [show ln + 1 - 1 = ln by omega, ex_s] at w
        exact w
      rw [hls hk2, show ln + 1 - 1 = ln by omega, ex_s]
      unfold exC
      rw [if_pos rfl]
      rfl
    · have hm2 : m ≤ ln := by omega
      have h2 := (isLst_ex hm2).mp h
      rw [ex_n z, hK _ _ _ (r8 m hm2 h2) (by simp), ex_n (show m - 1 ≠ ln by have := h.1; omega)]
      unfold exC
      rw [if_neg z]
      cases e : (ch m 0).head? with
      | none => rfl
      | some k =>
        have hc := r9 m 0 hm2 (Or.inr ⟨h2, rfl⟩)
        have := (hc.2 0 k (by rw [← List.head?_eq_getElem?]; exact e)).1
        rw [Option.map_some, Option.map_some, ex_n (by omega)]
  · by_cases z : m = ln + 1
    · unfold exC
      rw [if_pos z]
      exact chok_nil
    · have hm2 : m ≤ ln := by omega
      unfold exC
      rw [if_neg z]
      rw [isMap_ex hm2, isLst_ex hm2] at hv
      have hc := r9 m key hm2 hv
      refine ⟨hc.1, fun i k hk => ?_⟩
      obtain ⟨c1, c2, c3, c4⟩ := hc.2 i k hk
      rw [ex_n (by omega), ex_n (by omega), ex_n (by omega), isMap_ex hm2, c4, exA_0]
      refine ⟨by omega, c2, c3, ?_⟩
      cases e : (ch m key)[i + 1]? with
      | none => rfl
      | some k2 =>
        have := (hc.2 (i + 1) k2 e).1
        rw [Option.map_some, Option.map_some, ex_n (by omega)]
  · by_cases z : k = ln
    · subst z; rw [ex_s]; exact hok
    · rw [ex_n z]; exact r10.2.2.1 k (by omega)
  · by_cases z : k = ln
    · subst z; rw [ex_s] at hm; cases hm
    · rw [ex_n z] at hm
      have h3 := r11 k m (by omega) hm
      refine ⟨by omega, ?_⟩
      rw [isMap_ex h3.1, isLst_ex h3.1]
      exact h3.2
def paS (ln : Nat) (lo : Nat → List Nat) (P : Nat → Int32) (bs : List Nat) (k : Nat) (x : Int32) : Int32 := match cplace ln lo (nI (oB bs (6 + k))) with
  | none => x
  | some p => x ||| ((1 <<< (nI p &&& 31)) ||| P p)
def foS (ln : Nat) (lo : Nat → List Nat) (bs : List Nat) (k : Nat) (f : Nat → Bool) : Nat → Bool := match cplace ln lo (nI (oB bs (6 + k))) with
  | none => f
  | some p => fun j => if j = p then true else f j
def paF (ln : Nat) (lo : Nat → List Nat) (P : Nat → Int32) (bs : List Nat) : Int32 := iterI (paS ln lo P bs) 0 (oB bs 5)
def foF (ln : Nat) (lo : Nat → List Nat) (bs : List Nat) (fo : Nat → Bool) : Nat → Bool := iterI (foS ln lo bs) fo (oB bs 5)
theorem celem_ex {ln : Nat} {lo : Nat → List Nat} {hi : Nat → Option Nat} {bs : List Nat} (x : Int32) : celem (ln + 1) (ex lo ln bs) (ex hi ln none) x = celem ln lo hi x := by
  unfold celem cplace
  have hc : firstI (fun k => decide (nI (oB (ex lo ln bs k) 0) = x)) ln = firstI (fun k => decide (nI (oB (lo k) 0) = x)) ln := by
    have : ∀ n, n ≤ ln → firstI (fun k => decide (nI (oB (ex lo ln bs k) 0) = x)) n = firstI (fun k => decide (nI (oB (lo k) 0) = x)) n := by
      intro n
      induction n with
      | zero => intro _; rfl
      | succ n ih => intro hn; unfold firstI; rw [ih (by omega), ex_n (show n ≠ ln by omega)]
    exact this ln (Nat.le_refl _)
  rw [firstI, hc]
  cases e : firstI (fun k => decide (nI (oB (lo k) 0) = x)) ln with
  | some k =>
    have hk := (firstI_get e).1
    dsimp only
    rw [ex_n (show k ≠ ln by omega), ex_n (show k ≠ ln by omega)]
  | none =>
    dsimp only
    by_cases z : decide (nI (oB (ex lo ln bs ln) 0) = x) = true
    · rw [if_pos z]
      dsimp only
      rw [ex_s, ex_s]
      rw [if_neg (fun w => by cases w.2)]
    · rw [if_neg z]
theorem cplace_ex {ln : Nat} {lo : Nat → List Nat} {bs : List Nat} {x : Int32} {k : Nat} (h : cplace ln lo x = some k) : cplace (ln + 1) (ex lo ln bs) x = some k := by
  obtain ⟨h1, h2, h3⟩ := firstI_get h
  exact firstI_at (by omega) (by rw [ex_n (by omega)]; exact h2) (fun i hi => by rw [ex_n (by omega)]; exact h3 i hi)
theorem cnode_ex {ln : Nat} {lo : Nat → List Nat} {bs : List Nat} {x : Int32} {m : Nat} (h : cnode ln lo x = some m) : cnode (ln + 1) (ex lo ln bs) x = some m := by
  unfold cnode at h ⊢
  split at h
  · rename_i z; rw [if_pos z]; exact h
  · rename_i z
    rw [if_neg z]
    cases e : cplace ln lo x with
    | none => rw [e] at h; cases h
    | some k =>
      rw [e] at h
      rw [cplace_ex e]
      dsimp only at h ⊢
      rw [ex_n (show k ≠ ln by have := (firstI_get e).1; omega)]
      exact h
/-- how an applied operation changes homes, shown flags and chains -/
def ApRel (ln : Nat) (lo : Nat → List Nat) (hi : Nat → Option Nat) (sh : Nat → Bool) (ch : Nat → Nat → List Nat) (bs : List Nat) (pa : Int32) (hi' : Nat → Option Nat) (sh' : Nat → Bool) (ch' : Nat → Nat → List Nat) : Prop :=
  (cfits ln lo hi (nI (oB bs 1)) (nI (oB bs 2)) (nI (oB bs 3)) = false ∧ hi' = ex hi ln none ∧ sh' = ex sh ln false ∧ ch' = exC ch ln) ∨
  (cfits ln lo hi (nI (oB bs 1)) (nI (oB bs 2)) (nI (oB bs 3)) = true ∧ oB bs 1 = 4 ∧ ∃ k0, celem ln lo hi (nI (oB bs 2)) = some k0 ∧ hi' = ex hi ln none ∧ sh' = (fun j => if j = k0 then false else ex sh ln false j) ∧ ch' = exC ch ln) ∨
  (cfits ln lo hi (nI (oB bs 1)) (nI (oB bs 2)) (nI (oB bs 3)) = true ∧ oB bs 1 = 5 ∧ ∃ m, cnode ln lo (nI (oB bs 2)) = some m ∧ isMap lo m ∧ hi' = ex hi ln none ∧ sh' = drS (ch m (oB bs 3)) pa (ex sh ln false) (ch m (oB bs 3)).length ∧ ch' = chU (exC ch ln) m (oB bs 3) ((ch m (oB bs 3)).filter (fun k => !bitI pa k))) ∨
  (cfits ln lo hi (nI (oB bs 1)) (nI (oB bs 2)) (nI (oB bs 3)) = true ∧ oB bs 1 ≠ 3 ∧ oB bs 1 ≠ 4 ∧ oB bs 1 ≠ 5 ∧ ∃ m i, cnode ln lo (nI (oB bs 2)) = some m ∧ isMap lo m ∧ i ≤ ((ch m (oB bs 3)).filter (fun k => !bitI pa k)).length ∧ (∀ j k, j < i → ((ch m (oB bs 3)).filter (fun k => !bitI pa k))[j]? = some k → InsP (ex lo ln bs) true ln k) ∧ (∀ k, ((ch m (oB bs 3)).filter (fun k => !bitI pa k))[i]? = some k → ¬ InsP (ex lo ln bs) true ln k) ∧ hi' = (fun j => if j = ln then some m else ex hi ln none j) ∧ sh' = (fun j => if j = ln then true else drS (ch m (oB bs 3)) pa (ex sh ln false) (ch m (oB bs 3)).length j) ∧ ch' = chU (exC ch ln) m (oB bs 3) (insAt ((ch m (oB bs 3)).filter (fun k => !bitI pa k)) i ln)) ∨
  (cfits ln lo hi (nI (oB bs 1)) (nI (oB bs 2)) (nI (oB bs 3)) = true ∧ oB bs 1 = 3 ∧ ∃ m ss i, cnode ln lo (nI (oB bs 2)) = some m ∧ isLst lo m ∧ celem ln lo hi (nI (oB bs 3)) = prevO (ch m 0) ss ∧ ss ≤ i ∧ i ≤ (ch m 0).length ∧ (∀ j k, ss ≤ j → j < i → (ch m 0)[j]? = some k → InsP (ex lo ln bs) false ln k) ∧ (∀ k, (ch m 0)[i]? = some k → ¬ InsP (ex lo ln bs) false ln k) ∧ hi' = (fun j => if j = ln then some m else ex hi ln none j) ∧ sh' = (fun j => if j = ln then true else ex sh ln false j) ∧ ch' = chU (exC ch ln) m 0 (insAt (ch m 0) i ln))
theorem cfits_4 {ln : Nat} {lo : Nat → List Nat} {hi : Nat → Option Nat} {kd tg sl : Int32} (h : cfits ln lo hi kd tg sl = true) (h4 : kd = 4) : ∃ k0, celem ln lo hi tg = some k0 := by
  unfold cfits at h
  rw [if_pos h4] at h
  exact Option.isSome_iff_exists.mp h
theorem cfits_3 {ln : Nat} {lo : Nat → List Nat} {hi : Nat → Option Nat} {kd tg sl : Int32} (h : cfits ln lo hi kd tg sl = true) (h3 : kd = 3) : ∃ m, cnode ln lo tg = some m ∧ isLst lo m ∧ (sl = 0 ∨ ∃ k, celem ln lo hi sl = some k ∧ hi k = some m) := by
  unfold cfits at h
  subst h3
  rw [if_neg (by decide), if_pos rfl] at h
  cases e : cnode ln lo tg with
  | none => rw [e] at h; cases h
  | some m =>
    rw [e] at h
    simp only [Bool.and_eq_true, Bool.or_eq_true, decide_eq_true_eq] at h
    refine ⟨m, rfl, ?_, ?_⟩
    · have := h.1
      unfold isLstB at this
      simp only [Bool.and_eq_true, decide_eq_true_eq] at this
      exact this
    · rcases h.2 with z | z
      · exact Or.inl z
      · right
        cases e2 : celem ln lo hi sl with
        | none => rw [e2] at z; cases z
        | some k => rw [e2] at z; exact ⟨k, rfl, by simpa using z⟩
theorem cfits_m {ln : Nat} {lo : Nat → List Nat} {hi : Nat → Option Nat} {kd tg sl : Int32} (h : cfits ln lo hi kd tg sl = true) (h3 : kd ≠ 3) (h4 : kd ≠ 4) : ∃ m, cnode ln lo tg = some m ∧ isMap lo m := by
  unfold cfits at h
  rw [if_neg h4, if_neg h3] at h
  cases e : cnode ln lo tg with
  | none => rw [e] at h; cases h
  | some m =>
    rw [e] at h
    refine ⟨m, rfl, ?_⟩
    unfold isMapB at h
    simp only [Bool.or_eq_true, decide_eq_true_eq] at h
    exact h

