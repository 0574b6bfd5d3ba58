set_option maxRecDepth 100000
/-! PURE, P: the elements of a list: the model's order -/
theorem plt_ext : ∀ (U V R W : List Nat), U.length = V.length → U ≠ V → plt (U ++ R) (V ++ W) = plt U V := by
  intro U
  induction U with
  | nil =>
    intro V R W hl hn
    cases V with
    | nil => exact absurd rfl hn
    | cons y V => cases hl
  | cons x U ih =>
    intro V R W hl hn
    cases V with
    | nil => cases hl
    | cons y V =>
      simp only [List.cons_append, plt]
      by_cases z : x = y
      · subst z
        rw [ih V R W (by simpa using hl) (fun w => hn (by rw [w]))]
      · simp [z]
theorem plt_nil (R : List Nat) : plt R [] = false := by cases R <;> rfl
/-- the place of an operation in the log -/
def kx (od : List Nat) (ln j : Nat) : Nat := (firstI (fun k => decide (oi od k = j)) ln).getD 0
theorem kx_oi {n : Nat} {po : Nat → Nat → Nat} {ap : Nat → Bool} {od : List Nat} {ln : Nat} {lo : Nat → List Nat} (h : Tie n po ap od ln lo) {k : Nat} (hk : k < ln) : kx od ln (oi od k) = k := by
  unfold kx
  rw [firstI_at (P := fun q => decide (oi od q = oi od k)) hk (decide_eq_true rfl) (fun i hi => decide_eq_false (fun z => by have := tie_inj h (by omega) hk z; omega))]
  rfl
def elE (od : List Nat) (ln : Nat) (lo : Nat → List Nat) (hi : Nat → Option Nat) (j : Nat) : Prop := ∃ k, k < ln ∧ oi od k = j ∧ oB (lo k) 1 = 3 ∧ fitK ln lo hi k = true
abbrev elT (od : List Nat) (ln : Nat) (lo : Nat → List Nat) (j : Nat) : List Nat := pth ln lo (kx od ln j)
def elR (od : List Nat) (ln : Nat) (lo : Nat → List Nat) (j : Nat) : Nat := match cplace ln lo (nI (oB (lo (kx od ln j)) 3)) with
  | none => 0
  | some p => oi od p
def elD (od : List Nat) (ln : Nat) (lo : Nat → List Nat) (j : Nat) : Nat := (elT od ln lo j).length - 1
theorem pth_len {ln : Nat} {lo : Nat → List Nat} (hL : LogOk ln lo) : ∀ k, k < ln → (pth ln lo k).length ≤ k + 1 := by
  intro k
  induction k using Nat.strongRecOn with
  | _ k ih =>
    intro hk
    cases e : cplace ln lo (nI (oB (lo k) 3)) with
    | none => rw [pth_n e]; simp
    | some p =>
      have hp := slp_lt hL hk e
      have := ih p hp.1 (by omega)
      rw [pth_s hL hk e, List.length_append, List.length_singleton]
      omega
/-- a fitting element's parent -/
theorem el_par {n : Nat} {po : Nat → Nat → Nat} {ap : Nat → Bool} {od : List Nat} {ln : Nat} {lo : Nat → List Nat} {hi : Nat → Option Nat} (h : Tie n po ap od ln lo) (hH : HiB ln lo hi) {j : Nat} (hj : elE od ln lo hi j) : (po j 3 = 0 ∧ elT od ln lo j = [po j 0]) ∨ (po j 3 ≠ 0 ∧ elE od ln lo hi (elR od ln lo j) ∧ mfind n po ap (nI (po j 3)) true = some (elR od ln lo j) ∧ po (elR od ln lo j) 0 = po j 3 ∧ elT od ln lo j = elT od ln lo (elR od ln lo j) ++ [po j 0]) := by
  have hL := h.2.2.2.2.2.1
  obtain ⟨k, hk, rfl, h3, hf⟩ := hj
  have hkx := kx_oi h hk
  obtain ⟨m, e1, e2, e3⟩ := cfits_3 hf ((kd_eq hL hk (c := 3) (by decide)).mpr h3)
  unfold elT elR
  rw [hkx, ← tie_b h hk (f := 3) (by omega), ← tie_b h hk (f := 0) (by omega)]
  rcases e3 with z | ⟨p, z1, z2⟩
  · have h0 : oB (lo k) 3 = 0 := (nI_eq (b := 0) (by have := good_lt (hL.1 k hk) 3; omega) (by decide)).mp z
    refine Or.inl ⟨h0, pth_n ?_⟩
    rw [h0]
    exact (cpl_no hL (by decide)).mpr (fun p hp => by have := good_id (hL.1 p hp); omega)
  · obtain ⟨y1, y2, y3⟩ := celem_k z1
    have hp := slp_lt hL hk y1
    have hpl : p < ln := by omega
    have hpid := good_id (hL.1 p hpl)
    refine Or.inr ⟨by omega, ?_⟩
    rw [tie_mf h, y1]
    dsimp only [Option.map]
    refine ⟨⟨p, hpl, rfl, y2, ?_⟩, rfl, ?_, ?_⟩
    · rw [← hi_some hL hH hpl y2]; exact y3
    · rw [← tie_b h hpl (by omega)]; exact hp.2.1
    · rw [kx_oi h hpl]; exact pth_s hL hk y1
theorem el_tree {n : Nat} {po : Nat → Nat → Nat} {ap : Nat → Bool} {od : List Nat} {ln : Nat} {lo : Nat → List Nat} {hi : Nat → Option Nat} (h : Tie n po ap od ln lo) (hH : HiB ln lo hi) : Tree n po ap (elE od ln lo hi) (elR od ln lo) (elD od ln lo) := by
  have hL := h.2.2.2.2.2.1
  have h7 := h.2.2.2.2.2.2
  have h8 := tie_ln h
  intro j hj
  have hp := el_par h hH hj
  have hj2 := hj
  obtain ⟨k, hk, rfl, h3, hf⟩ := hj2
  refine ⟨(tie_lt h hk).1, ?_, fun z => ?_, fun z => ?_⟩
  · unfold elD elT
    rw [kx_oi h hk]
    have := pth_len hL k hk
    omega
  · rcases hp with w | w
    · unfold elD
      rw [w.2]; rfl
    · exact absurd z w.1
  · rcases hp with w | w
    · exact absurd w.1 z
    · refine ⟨w.2.2.1, w.2.1, ?_⟩
      unfold elD
      rw [w.2.2.2.2, List.length_append, List.length_singleton]
      obtain ⟨q, hq, e, -, -⟩ := w.2.1
      have : elT od ln lo (elR od ln lo (oi od k)) ≠ [] := by
        unfold elT
        rw [← e, kx_oi h hq]
        exact pth_ne hL hq
      have := List.length_pos_iff.mpr this
      omega
theorem el_lst {n : Nat} {po : Nat → Nat → Nat} {ap : Nat → Bool} {od : List Nat} {ln : Nat} {lo : Nat → List Nat} {hi : Nat → Option Nat} (h : Tie n po ap od ln lo) (hH : HiB ln lo hi) {j : Nat} (hj : elE od ln lo hi j) : ∃ U, elT od ln lo j = U ++ [po j 0] ∧ (U = [] ↔ po j 3 = 0) ∧ (po j 3 ≠ 0 → U = elT od ln lo (elR od ln lo j)) := by
  have hL := h.2.2.2.2.2.1
  rcases el_par h hH hj with ⟨w1, w2⟩ | ⟨w1, w2, w3, w4, w5⟩
  · exact ⟨[], w2, ⟨fun _ => w1, fun _ => rfl⟩, fun z => absurd w1 z⟩
  · refine ⟨_, w5, ⟨fun z => ?_, fun z => absurd z w1⟩, fun _ => rfl⟩
    obtain ⟨q, hq, e, -, -⟩ := w2
    unfold elT at z
    rw [← e, kx_oi h hq] at z
    exact absurd z (pth_ne hL hq)
theorem el_inj {n : Nat} {po : Nat → Nat → Nat} {ap : Nat → Bool} {od : List Nat} {ln : Nat} {lo : Nat → List Nat} {hi : Nat → Option Nat} (h : Tie n po ap od ln lo) (hH : HiB ln lo hi) {i j : Nat} (hi0 : elE od ln lo hi i) (hj : elE od ln lo hi j) (e : elT od ln lo i = elT od ln lo j) : i = j := by
  obtain ⟨U, u1, -, -⟩ := el_lst h hH hi0
  obtain ⟨V, v1, -, -⟩ := el_lst h hH hj
  rw [u1, v1] at e
  have := (List.append_inj' e rfl).2
  simp at this
  obtain ⟨k, hk, rfl, -, -⟩ := hi0
  obtain ⟨q, hq, rfl, -, -⟩ := hj
  exact h.2.2.2.1 _ _ (tie_lt h hk).1 (tie_lt h hq).1 this
/-- same depth: where the paths first differ -/
theorem cmp_eq {n : Nat} {po : Nat → Nat → Nat} {ap : Nat → Bool} {od : List Nat} {ln : Nat} {lo : Nat → List Nat} {hi : Nat → Option Nat} (h : Tie n po ap od ln lo) (hH : HiB ln lo hi) : ∀ f i j, elE od ln lo hi i → elE od ln lo hi j → (elT od ln lo i).length = (elT od ln lo j).length → (elT od ln lo i).length ≤ f + 1 → i ≠ j → cmpF po (elR od ln lo) f i j = plt (elT od ln lo i) (elT od ln lo j) := by
  intro f
  induction f with
  | zero =>
    intro i j hi0 hj hl h1 hne
    obtain ⟨U, u1, u2, u3⟩ := el_lst h hH hi0
    obtain ⟨V, v1, v2, v3⟩ := el_lst h hH hj
    rw [u1, List.length_append, List.length_singleton] at h1 hl
    rw [v1, List.length_append, List.length_singleton] at hl
    have eU : U = [] := List.eq_nil_of_length_eq_zero (by omega)
    have eV : V = [] := List.eq_nil_of_length_eq_zero (by omega)
    rw [u1, v1, eU, eV]
    simp [cmpF, plt]
  | succ f ih =>
    intro i j hi0 hj hl h1 hne
    obtain ⟨U, u1, u2, u3⟩ := el_lst h hH hi0
    obtain ⟨V, v1, v2, v3⟩ := el_lst h hH hj
    rw [u1, List.length_append, List.length_singleton] at h1
    rw [u1, v1, List.length_append, List.length_append, List.length_singleton, List.length_singleton] at hl
    by_cases z : po i 3 = po j 3
    · have eUV : U = V := by
        by_cases z0 : po i 3 = 0
        · rw [u2.mpr z0, v2.mpr (by rw [← z]; exact z0)]
        · rcases el_par h hH hi0 with ⟨w1, -⟩ | ⟨w1, w2, w3, w4, w5⟩
          · exact absurd w1 z0
          · rcases el_par h hH hj with ⟨y1, -⟩ | ⟨y1, y2, y3, y4, y5⟩
            · exact absurd (z.trans y1) z0
            · rw [z, y3] at w3
              rw [u3 w1, v3 y1, Option.some.inj w3]
      rw [cmpF_end (Or.inr z), u1, v1, eUV, plt_app]
      simp [plt]
    · rw [cmpF_go z]
      have hnz : po i 3 ≠ 0 ∧ po j 3 ≠ 0 := by
        constructor
        · intro w
          have : V = [] := List.eq_nil_of_length_eq_zero (by have e0 : U.length = 0 := (by rw [u2.mpr w]; rfl); omega)
          exact z (w.trans (v2.mp this).symm)
        · intro w
          have : U = [] := List.eq_nil_of_length_eq_zero (by have e0 : V.length = 0 := (by rw [v2.mpr w]; rfl); omega)
          exact z ((u2.mp this).trans w.symm)
      rcases el_par h hH hi0 with ⟨w1, -⟩ | ⟨w1, w2, w3, w4, w5⟩
      · exact absurd w1 hnz.1
      · rcases el_par h hH hj with ⟨y1, -⟩ | ⟨y1, y2, y3, y4, y5⟩
        · exact absurd y1 hnz.2
        · have hne2 : elR od ln lo i ≠ elR od ln lo j := fun w => z (by rw [← w4, ← y4, w])
          have eU := u3 w1
          have eV := v3 y1
          rw [eU] at hl h1
          rw [eV] at hl
          rw [ih _ _ w2 y2 (by omega) (by omega) hne2, w5, y5]
          refine (plt_ext _ _ _ _ (by omega) ?_).symm
          exact fun w => hne2 (el_inj h hH w2 y2 w)
theorem up_eq {n : Nat} {po : Nat → Nat → Nat} {ap : Nat → Bool} {od : List Nat} {ln : Nat} {lo : Nat → List Nat} {hi : Nat → Option Nat} (h : Tie n po ap od ln lo) (hH : HiB ln lo hi) {j : Nat} (hj : elE od ln lo hi j) : ∀ s, s ≤ elD od ln lo j → elE od ln lo hi (upF (elR od ln lo) s j) ∧ ∃ R, R.length = s ∧ elT od ln lo j = elT od ln lo (upF (elR od ln lo) s j) ++ R := by
  intro s
  induction s with
  | zero => intro _; exact ⟨hj, [], rfl, by rw [List.append_nil]; rfl⟩
  | succ s ih =>
    intro hs
    obtain ⟨e1, R, r1, r2⟩ := ih (by omega)
    unfold upF
    have hl : (elT od ln lo (upF (elR od ln lo) s j)).length + s = elD od ln lo j + 1 := by
      unfold elD at hs ⊢
      rw [r2, List.length_append, r1] at hs ⊢
      omega
    rcases el_par h hH e1 with ⟨w1, w2⟩ | ⟨w1, w2, w3, w4, w5⟩
    · rw [w2, List.length_singleton] at hl
      omega
    · refine ⟨w2, [po (upF (elR od ln lo) s j) 0] ++ R, by rw [List.length_append, r1, List.length_singleton]; omega, ?_⟩
      rw [r2, w5, List.append_assoc]
theorem ahd_eq {n : Nat} {po : Nat → Nat → Nat} {ap : Nat → Bool} {od : List Nat} {ln : Nat} {lo : Nat → List Nat} {hi : Nat → Option Nat} (h : Tie n po ap od ln lo) (hH : HiB ln lo hi) {i j : Nat} (hi0 : elE od ln lo hi i) (hj : elE od ln lo hi j) : aheadF po (elR od ln lo) (elD od ln lo) i j = plt (elT od ln lo i) (elT od ln lo j) := by
  have htr := el_tree h hH
  obtain ⟨a1, R, a2, a3⟩ := up_eq h hH hi0 (elD od ln lo i - elD od ln lo j) (by omega)
  obtain ⟨b1, W, b2, b3⟩ := up_eq h hH hj (elD od ln lo j - elD od ln lo i) (by omega)
  have hdi := (htr i hi0).2.1
  have hpi : 0 < (elT od ln lo i).length := by obtain ⟨U, u1, -, -⟩ := el_lst h hH hi0; rw [u1, List.length_append, List.length_singleton]; omega
  have hpj : 0 < (elT od ln lo j).length := by obtain ⟨U, u1, -, -⟩ := el_lst h hH hj; rw [u1, List.length_append, List.length_singleton]; omega
  have di : elD od ln lo i = (elT od ln lo i).length - 1 := rfl
  have dj : elD od ln lo j = (elT od ln lo j).length - 1 := rfl
  have la := congrArg List.length a3
  have lb := congrArg List.length b3
  rw [List.length_append] at la lb
  unfold aheadF
  by_cases z : upF (elR od ln lo) (elD od ln lo i - elD od ln lo j) i = upF (elR od ln lo) (elD od ln lo j - elD od ln lo i) j
  · rw [if_pos z, a3, b3, z, plt_app]
    by_cases w : elD od ln lo i < elD od ln lo j
    · rw [decide_eq_true w]
      have : R = [] := List.eq_nil_of_length_eq_zero (by omega)
      rw [this]
      cases W with
      | nil => simp at b2; omega
      | cons y W => rfl
    · rw [decide_eq_false w]
      have : W = [] := List.eq_nil_of_length_eq_zero (by omega)
      rw [this, plt_nil]
  · rw [if_neg z, cmp_eq h hH 16 _ _ a1 b1 (by omega) (by omega) z]
    rw [a3, b3]
    exact (plt_ext _ _ _ _ (by omega) (fun w => z (el_inj h hH a1 b1 w))).symm
