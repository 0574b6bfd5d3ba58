set_option maxRecDepth 100000
/-! PURE, D: what a replica's cells say of its log -/
def Kil (ln : Nat) (lo : Nat → List Nat) (P : Nat → Int32) (hi : Nat → Option Nat) (j k : Nat) : Prop := j < ln ∧ fitK ln lo hi j = true ∧ (oB (lo j) 1 ≤ 2 ∨ oB (lo j) 1 = 5) ∧ oB (lo j) 2 = oB (lo k) 2 ∧ oB (lo j) 3 = oB (lo k) 3 ∧ bitI (P j) k = true
def Ent (ln : Nat) (lo : Nat → List Nat) (P : Nat → Int32) (hi : Nat → Option Nat) (k : Nat) : Prop := k < ln ∧ fitK ln lo hi k = true ∧ oB (lo k) 1 ≤ 2 ∧ ¬ ∃ j, Kil ln lo P hi j k
def Gon (ln : Nat) (lo : Nat → List Nat) (hi : Nat → Option Nat) (k : Nat) : Prop := ∃ j, j < ln ∧ fitK ln lo hi j = true ∧ oB (lo j) 1 = 4 ∧ oB (lo j) 2 = oB (lo k) 0
def pthF (ln : Nat) (lo : Nat → List Nat) : Nat → Nat → List Nat
  | 0, k => [oB (lo k) 0]
  | f + 1, k => match cplace ln lo (nI (oB (lo k) 3)) with
    | none => [oB (lo k) 0]
    | some p => pthF ln lo f p ++ [oB (lo k) 0]
def pth (ln : Nat) (lo : Nat → List Nat) (k : Nat) : List Nat := pthF ln lo k k
def PB (ln : Nat) (lo : Nat → List Nat) (P : Nat → Int32) : Prop := ∀ k, k < ln → ∀ i, i < 16 → (bitI (P k) i = true ↔ ∃ b p, b < oB (lo k) 5 ∧ p < ln ∧ oB (lo p) 0 = oB (lo k) (6 + b) ∧ (i = p ∨ bitI (P p) i = true))
def FoB (ln : Nat) (lo : Nat → List Nat) (fo : Nat → Bool) : Prop := ∀ k, k < ln → (fo k = true ↔ ∃ j, j < ln ∧ inB (lo j) (oB (lo k) 0))
def HiB (ln : Nat) (lo : Nat → List Nat) (hi : Nat → Option Nat) : Prop := ∀ k, k < ln → hi k = if oB (lo k) 1 ≤ 3 ∧ fitK ln lo hi k = true then cnode ln lo (nI (oB (lo k) 2)) else none
def MapB (ln : Nat) (lo : Nat → List Nat) (P : Nat → Int32) (hi : Nat → Option Nat) (ch : Nat → Nat → List Nat) : Prop := ∀ m key, m ≤ ln → isMap lo m → key < 4 → (ch m key).Pairwise (fun x y => oB (lo x) 0 < oB (lo y) 0) ∧ ∀ k, k ∈ ch m key ↔ Ent ln lo P hi k ∧ hi k = some m ∧ oB (lo k) 3 = key
def LstB (ln : Nat) (lo : Nat → List Nat) (hi : Nat → Option Nat) (ch : Nat → Nat → List Nat) : Prop := ∀ m, m ≤ ln → isLst lo m → (ch m 0).Pairwise (fun x y => plt (pth ln lo x) (pth ln lo y) = true) ∧ ∀ k, k ∈ ch m 0 ↔ k < ln ∧ hi k = some m
def ShB (ln : Nat) (lo : Nat → List Nat) (P : Nat → Int32) (hi : Nat → Option Nat) (sh : Nat → Bool) : Prop := ∀ k, k < ln → (sh k = true ↔ Ent ln lo P hi k ∨ (oB (lo k) 1 = 3 ∧ fitK ln lo hi k = true ∧ ¬ Gon ln lo hi k))
def RInv (ln : Nat) (lo : Nat → List Nat) (P : Nat → Int32) (hi : Nat → Option Nat) (sh fo : Nat → Bool) (ch : Nat → Nat → List Nat) : Prop :=
  LogOk ln lo ∧ PB ln lo P ∧ FoB ln lo fo ∧ HiB ln lo hi ∧ (∀ m key, m ≤ ln → 4 ≤ key → ch m key = []) ∧ MapB ln lo P hi ch ∧ LstB ln lo hi ch ∧ ShB ln lo P hi sh
theorem rinv_0 (lo : Nat → List Nat) (P : Nat → Int32) (hi : Nat → Option Nat) (sh fo : Nat → Bool) : RInv 0 lo P hi sh fo (fun _ _ => []) := by
  refine ⟨⟨fun k hk => by omega, fun i j hi0 => by omega, fun k i hk => by omega⟩, fun k hk => by omega, fun k hk => by omega, fun k hk => by omega, fun m key _ _ => rfl, fun m key hm h1 h2 => ⟨List.Pairwise.nil, fun k => ⟨fun h => by simp at h, fun h => by have := h.1.1; omega⟩⟩, fun m hm h => ⟨List.Pairwise.nil, fun k => ⟨fun h => by simp at h, fun h => by have := h.1; omega⟩⟩, fun k hk => by omega⟩
/-- places before are lower -/
theorem bef_lt {ln : Nat} {lo : Nat → List Nat} (hL : LogOk ln lo) {k b p : Nat} (hk : k < ln) (hb : b < oB (lo k) 5) (hp : p < ln) (h : oB (lo p) 0 = oB (lo k) (6 + b)) : p < k := by
  obtain ⟨p2, h1, h2⟩ := hL.2.2 k b hk hb
  have := hL.2.1 p p2 hp (by omega) (by rw [h, h2])
  omega
theorem inB_lt {ln : Nat} {lo : Nat → List Nat} (hL : LogOk ln lo) {k p x : Nat} (hk : k < ln) (hb : inB (lo k) x) (hp : p < ln) (h : oB (lo p) 0 = x) : p < k ∧ oB (lo p) 0 < oB (lo k) 0 := by
  obtain ⟨b, h1, h2⟩ := hb
  refine ⟨bef_lt hL hk h1 hp (by rw [h, h2]), ?_⟩
  rw [h, ← h2]
  exact (hL.1 k hk).2.2.1 b h1
theorem inB_ex {ln : Nat} {lo : Nat → List Nat} (hL : LogOk ln lo) {k x : Nat} (hk : k < ln) (hb : inB (lo k) x) : ∃ p, p < k ∧ oB (lo p) 0 = x ∧ cplace ln lo (nI x) = some p := by
  obtain ⟨b, h1, h2⟩ := hb
  obtain ⟨p, h3, h4⟩ := hL.2.2 k b hk h1
  refine ⟨p, h3, by rw [h4, h2], ?_⟩
  rw [← h2, ← h4]
  exact cpl_at hL (by omega)
/-- the parent's place, of an element's slot -/
theorem slp_lt {ln : Nat} {lo : Nat → List Nat} (hL : LogOk ln lo) {k p : Nat} (hk : k < ln) (h : cplace ln lo (nI (oB (lo k) 3)) = some p) : p < k ∧ oB (lo p) 0 = oB (lo k) 3 ∧ oB (lo p) 0 < oB (lo k) 0 ∧ oB (lo k) 1 = 3 := by
  have g := hL.1 k hk
  obtain ⟨h1, h2⟩ := cpl_id hL (good_lt g 3) h
  have h4 := good_id (hL.1 p h1)
  by_cases h3 : oB (lo k) 1 = 3
  · rcases g.2.2.2.2 h3 with z | z
    · omega
    · have := inB_lt hL hk z h1 h2
      exact ⟨this.1, h2, this.2, h3⟩
  · have := good_sl g h3
    omega
theorem tgp_lt {ln : Nat} {lo : Nat → List Nat} (hL : LogOk ln lo) {k p : Nat} (hk : k < ln) (h : cplace ln lo (nI (oB (lo k) 2)) = some p) : p < k ∧ oB (lo p) 0 = oB (lo k) 2 ∧ oB (lo p) 0 < oB (lo k) 0 := by
  have g := hL.1 k hk
  obtain ⟨h1, h2⟩ := cpl_id hL (good_lt g 2) h
  have h4 := good_id (hL.1 p h1)
  rcases g.2.2.2.1 with z | z
  · omega
  · have := inB_lt hL hk z h1 h2
    exact ⟨this.1, h2, this.2⟩
theorem cnd_get {ln : Nat} {lo : Nat → List Nat} (hL : LogOk ln lo) {x m : Nat} (hx : x < 256) (h : cnode ln lo (nI x) = some m) : (x = 0 ∧ m = 0) ∨ (x ≠ 0 ∧ 0 < m ∧ m - 1 < ln ∧ oB (lo (m - 1)) 0 = x ∧ cplace ln lo (nI x) = some (m - 1)) := by
  unfold cnode at h
  split at h
  · rename_i z
    have : x = 0 := (nI_eq (b := 0) (by omega) (by decide)).mp z
    cases h
    exact Or.inl ⟨this, rfl⟩
  · rename_i z
    have hx0 : x ≠ 0 := fun w => z (by rw [w]; rfl)
    cases e : cplace ln lo (nI x) with
    | none => rw [e] at h; cases h
    | some p =>
      rw [e] at h
      have := cpl_id hL hx e
      dsimp only at h
      split at h
      · cases h
        exact Or.inr ⟨hx0, by omega, by omega, by simpa using this.2, by simp⟩
      · cases h
theorem cnd_inj {ln : Nat} {lo : Nat → List Nat} (hL : LogOk ln lo) {x y m : Nat} (hx : x < 256) (hy : y < 256) (h1 : cnode ln lo (nI x) = some m) (h2 : cnode ln lo (nI y) = some m) : x = y := by
  rcases cnd_get hL hx h1 with ⟨a, b⟩ | ⟨a, b, c, d, -⟩ <;> rcases cnd_get hL hy h2 with ⟨a', b'⟩ | ⟨a', b', c', d', -⟩ <;> omega
theorem pth_fuel {ln : Nat} {lo : Nat → List Nat} (hL : LogOk ln lo) : ∀ k, k < ln → ∀ f, k ≤ f → pthF ln lo f k = pth ln lo k := by
  intro k
  induction k using Nat.strongRecOn with
  | _ k ih =>
    intro hk f hf
    unfold pth
    cases e : cplace ln lo (nI (oB (lo k) 3)) with
    | none =>
      cases f <;> cases k <;> simp [pthF, e]
    | some p =>
      have hp := slp_lt hL hk e
      obtain ⟨f', rfl⟩ : ∃ f', f = f' + 1 := ⟨f - 1, by omega⟩
      obtain ⟨k', hk'⟩ : ∃ k', k = k' + 1 := ⟨k - 1, by omega⟩
      have h1 : pthF ln lo (f' + 1) k = pthF ln lo f' p ++ [oB (lo k) 0] := by rw [pthF, e]
      have h2 : pthF ln lo k k = pthF ln lo k' p ++ [oB (lo k) 0] := by rw [hk', pthF, ← hk', e]
      rw [h1, h2, ih p hp.1 (by omega) f' (by omega), ih p hp.1 (by omega) k' (by omega)]
theorem pth_n {ln : Nat} {lo : Nat → List Nat} {k : Nat} (e : cplace ln lo (nI (oB (lo k) 3)) = none) : pth ln lo k = [oB (lo k) 0] := by
  unfold pth
  cases k <;> simp [pthF, e]
theorem pth_s {ln : Nat} {lo : Nat → List Nat} (hL : LogOk ln lo) {k p : Nat} (hk : k < ln) (e : cplace ln lo (nI (oB (lo k) 3)) = some p) : pth ln lo k = pth ln lo p ++ [oB (lo k) 0] := by
  have hp := slp_lt hL hk e
  obtain ⟨k', hk'⟩ : ∃ k', k = k' + 1 := ⟨k - 1, by omega⟩
  have h2 : pthF ln lo k k = pthF ln lo k' p ++ [oB (lo k) 0] := by rw [hk', pthF, ← hk', e]
  rw [pth, h2, pth_fuel hL p (by omega) k' (by omega)]
theorem pth_ex {ln : Nat} {lo : Nat → List Nat} {bs : List Nat} (hL : LogOk ln lo) (hg : OpGood bs) (hfr : ∀ k, k < ln → oB (lo k) 0 ≠ oB bs 0) (hL2 : LogOk (ln + 1) (ex lo ln bs)) : ∀ k, k < ln → pth (ln + 1) (ex lo ln bs) k = pth ln lo k := by
  intro k
  induction k using Nat.strongRecOn with
  | _ k ih =>
    intro hk
    have he : ex lo ln bs k = lo k := ex_n (by omega)
    have hc : cplace (ln + 1) (ex lo ln bs) (nI (oB (ex lo ln bs k) 3)) = cplace ln lo (nI (oB (lo k) 3)) := by
      rw [he]
      exact cpl_ex hL hL2 (good_lt (hL.1 k hk) 3) (tg_ne hL hg hfr hk).2
    cases e : cplace ln lo (nI (oB (lo k) 3)) with
    | none => rw [pth_n e, pth_n (by rw [hc, e]), he]
    | some p =>
      have hp := slp_lt hL hk e
      rw [pth_s hL hk e, pth_s hL2 (by omega) (by rw [hc, e]), he, ih p hp.1 (by omega)]
theorem pth_ne {ln : Nat} {lo : Nat → List Nat} (hL : LogOk ln lo) {k : Nat} (hk : k < ln) : pth ln lo k ≠ [] := by
  cases e : cplace ln lo (nI (oB (lo k) 3)) with
  | none => rw [pth_n e]; simp
  | some p => rw [pth_s hL hk e]; simp
theorem pth_inc {ln : Nat} {lo : Nat → List Nat} (hL : LogOk ln lo) : ∀ k, k < ln → ∀ u ∈ pth ln lo k, u ≤ oB (lo k) 0 := by
  intro k
  induction k using Nat.strongRecOn with
  | _ k ih =>
    intro hk u hu
    cases e : cplace ln lo (nI (oB (lo k) 3)) with
    | none => rw [pth_n e] at hu; simp at hu; omega
    | some p =>
      have hp := slp_lt hL hk e
      rw [pth_s hL hk e, List.mem_append] at hu
      rcases hu with h | h
      · have := ih p hp.1 (by omega) u h; omega
      · simp at h; omega
/-- the bits of a past lie below -/
theorem bit_lt {ln : Nat} {lo : Nat → List Nat} {P : Nat → Int32} (hL : LogOk ln lo) (hP : PB ln lo P) : ∀ k, k < ln → ∀ i, i < 16 → bitI (P k) i = true → i < k := by
  intro k
  induction k using Nat.strongRecOn with
  | _ k ih =>
    intro hk i hi h
    obtain ⟨b, p, h1, h2, h3, h4⟩ := (hP k hk i hi).mp h
    have hp := bef_lt hL hk h1 h2 h3
    rcases h4 with z | z
    · omega
    · have := ih p hp h2 i hi z; omega
theorem hi_le {ln : Nat} {lo : Nat → List Nat} {hi : Nat → Option Nat} (hL : LogOk ln lo) (hH : HiB ln lo hi) {k m : Nat} (hk : k < ln) (h : hi k = some m) : oB (lo k) 1 ≤ 3 ∧ fitK ln lo hi k = true ∧ cnode ln lo (nI (oB (lo k) 2)) = some m ∧ m ≤ k := by
  rw [hH k hk] at h
  split at h
  · rename_i z
    refine ⟨z.1, z.2, h, ?_⟩
    rcases cnd_get hL (good_lt (hL.1 k hk) 2) h with w | ⟨w1, w2, w3, w4, w5⟩
    · omega
    · have := tgp_lt hL hk w5; omega
  · cases h
theorem hi_of {ln : Nat} {lo : Nat → List Nat} {hi : Nat → Option Nat} (hH : HiB ln lo hi) {k : Nat} (hk : k < ln) (h1 : oB (lo k) 1 ≤ 3) (h2 : fitK ln lo hi k = true) : hi k = cnode ln lo (nI (oB (lo k) 2)) := by
  rw [hH k hk, if_pos ⟨h1, h2⟩]
theorem kd_eq {ln : Nat} {lo : Nat → List Nat} (hL : LogOk ln lo) {k c : Nat} (hk : k < ln) (hc : c < 256) : nI (oB (lo k) 1) = nI c ↔ oB (lo k) 1 = c := nI_eq (by have := good_lt (hL.1 k hk) 1; omega) (by omega)
theorem map_nlst {lo : Nat → List Nat} {m : Nat} (h1 : isMap lo m) (h2 : isLst lo m) : False := by
  rcases h1 with z | z
  · exact h2.1 z
  · have := h2.2; omega
/-- at home in a list: an element; in a map: no element -/
theorem lst_kd {ln : Nat} {lo : Nat → List Nat} {hi : Nat → Option Nat} (hL : LogOk ln lo) (hH : HiB ln lo hi) {k m : Nat} (hk : k < ln) (h : hi k = some m) : (isLst lo m → oB (lo k) 1 = 3) ∧ (oB (lo k) 1 = 3 → isLst lo m) ∧ (isMap lo m → oB (lo k) 1 ≤ 2) ∧ (oB (lo k) 1 ≤ 2 → isMap lo m) := by
  obtain ⟨h1, h2, h3, h4⟩ := hi_le hL hH hk h
  by_cases z : oB (lo k) 1 = 3
  · obtain ⟨m2, e1, e2, -⟩ := cfits_3 h2 ((kd_eq hL hk (c := 3) (by decide)).mpr z)
    rw [h3] at e1
    cases e1
    exact ⟨fun _ => z, fun _ => e2, fun w => (map_nlst w e2).elim, fun _ => by omega⟩
  · obtain ⟨m2, e1, e2⟩ := cfits_m h2 (fun w => z ((kd_eq hL hk (c := 3) (by decide)).mp w)) (fun w => by have := (kd_eq hL hk (c := 4) (by decide)).mp w; omega)
    rw [h3] at e1
    cases e1
    exact ⟨fun w => (map_nlst e2 w).elim, fun w => absurd w z, fun _ => by omega, fun _ => e2⟩
/-- an element's parent stands in the same list -/
theorem par_in {ln : Nat} {lo : Nat → List Nat} {hi : Nat → Option Nat} (hL : LogOk ln lo) (hH : HiB ln lo hi) {k p m : Nat} (hk : k < ln) (h : hi k = some m) (e : cplace ln lo (nI (oB (lo k) 3)) = some p) : hi p = some m := by
  obtain ⟨h1, h2, h3, h4⟩ := hi_le hL hH hk h
  have hp := slp_lt hL hk e
  obtain ⟨m2, e1, e2, e3⟩ := cfits_3 h2 ((kd_eq hL hk (c := 3) (by decide)).mpr hp.2.2.2)
  rw [h3] at e1
  cases e1
  rcases e3 with z | ⟨k2, z1, z2⟩
  · have : oB (lo k) 3 = 0 := (nI_eq (b := 0) (by have := good_lt (hL.1 k hk) 3; omega) (by decide)).mp z
    have := good_id (hL.1 p (by omega))
    omega
  · unfold celem at z1
    rw [e] at z1
    dsimp only at z1
    split at z1
    · cases z1; exact z2
    · cases z1
theorem pth_anc {ln : Nat} {lo : Nat → List Nat} {hi : Nat → Option Nat} (hL : LogOk ln lo) (hH : HiB ln lo hi) {m : Nat} : ∀ y, y < ln → hi y = some m → ∀ X v Y', pth ln lo y = X ++ v :: Y' → ∃ z, z < ln ∧ hi z = some m ∧ pth ln lo z = X ++ [v] ∧ oB (lo z) 0 = v ∧ (z = y ∨ plt (pth ln lo z) (pth ln lo y) = true) := by
  intro y
  induction y using Nat.strongRecOn with
  | _ y ih =>
    intro hy hh X v Y' h
    cases e : cplace ln lo (nI (oB (lo y) 3)) with
    | none =>
      have h0 := h
      rw [pth_n e] at h
      have : X = [] := by
        cases X with
        | nil => rfl
        | cons a b => simp at h
      subst this
      simp at h
      refine ⟨y, hy, hh, ?_, h.1, Or.inl rfl⟩
      rw [h0, h.2]
    | some p =>
      have hp := slp_lt hL hy e
      have h0 := h
      rw [pth_s hL hy e] at h
      rcases List.eq_nil_or_concat Y' with z | ⟨Y2, c, z⟩
      · subst z
        obtain ⟨h1, h2⟩ := List.append_inj' h rfl
        simp at h2
        exact ⟨y, hy, hh, h0, h2, Or.inl rfl⟩
      · rw [z, List.concat_eq_append, ← List.cons_append, ← List.append_assoc] at h
        obtain ⟨h1, h2⟩ := List.append_inj' h rfl
        obtain ⟨w, g1, g2, g3, g4, g5⟩ := ih p hp.1 (by omega) (par_in hL hH hy hh e) X v Y2 h1
        refine ⟨w, g1, g2, g3, g4, Or.inr ?_⟩
        have h5 : plt (pth ln lo p) (pth ln lo y) = true := by rw [pth_s hL hy e]; exact plt_pre _ _ []
        rcases g5 with g5 | g5
        · rw [g5]; exact h5
        · exact plt_tr g5 h5
