set_option maxRecDepth 100000
/-! THE MODEL, I: edit -/
def edB (n : Nat) (po : Nat → Nat → Nat) (ap ft : Nat → Bool) (kd tg sl vl : Int32) : Bool := decide (¬ kd < 0) && decide (kd ≤ 5) && (decide (kd = 3) || decide (kd = 4) || (decide (¬ sl < 0) && decide (sl ≤ 3))) && (!decide (kd = 4) || decide (sl = 0)) && decide (¬ vl < 0) && decide (vl ≤ (if kd = 0 ∨ kd = 3 then 99 else 0)) && mfits n po ap ft kd tg sl
def nmP (n : Nat) (po : Nat → Nat → Nat) (ap : Nat → Bool) (kd tg sl : Int32) (i : Nat) : Bool := match idJ n po ap i with
  | none => false
  | some j => mhead n po ap j || decide (nI (4 + i) = tg) || (decide (kd = 3) && decide (nI (4 + i) = sl))
def nmL (P : Nat → Bool) : Nat → List Nat
  | 0 => []
  | k + 1 => if P k = true then nmL P k ++ [4 + k] else nmL P k
theorem nmL_t {P : Nat → Bool} {k : Nat} (h : P k = true) : nmL P (k + 1) = nmL P k ++ [4 + k] := if_pos h
theorem nmL_f {P : Nat → Bool} {k : Nat} (h : P k = false) : nmL P (k + 1) = nmL P k := if_neg (by rw [h]; decide)
def cnV (n : Nat) (po : Nat → Nat → Nat) (ap : Nat → Bool) (k : Nat) : Nat := match lastI (fun i => (idJ n po ap i).isSome) k with
  | none => 1
  | some i => (4 + i) / 4 + 1
theorem cnV_t {n : Nat} {po : Nat → Nat → Nat} {ap : Nat → Bool} {k j : Nat} (h : idJ n po ap k = some j) : cnV n po ap (k + 1) = (4 + k) / 4 + 1 := by
  unfold cnV
  rw [lastI_t (by rw [h]; rfl)]
theorem cnV_f {n : Nat} {po : Nat → Nat → Nat} {ap : Nat → Bool} {k : Nat} (h : idJ n po ap k = none) : cnV n po ap (k + 1) = cnV n po ap k := by
  unfold cnV
  rw [lastI_f (by rw [h]; rfl)]
theorem cnV_le (n : Nat) (po : Nat → Nat → Nat) (ap : Nat → Bool) (k : Nat) : cnV n po ap k ≤ k + 2 := by
  unfold cnV
  split
  · omega
  · rename_i h
    have := (lastI_some h).1
    omega
theorem nm_js {n : Nat} {po : Nat → Nat → Nat} {ap : Nat → Bool} {kd tg sl : Int32} (hpo : ∀ j f, po j f < 256) : ∀ k, k ≤ 159 → ∃ js : List Nat, js.length = (nmL (nmP n po ap kd tg sl) k).length ∧ js.Nodup ∧ ∀ j ∈ js, j < n ∧ po j 0 < 4 + k := by
  intro k
  induction k with
  | zero => intro _; exact ⟨[], rfl, List.nodup_nil, fun j hj => absurd hj List.not_mem_nil⟩
  | succ k ih =>
    intro hk
    obtain ⟨js, h1, h2, h3⟩ := ih (by omega)
    by_cases hP : nmP n po ap kd tg sl k = true
    · rw [nmL_t hP]
      unfold nmP at hP
      cases e : idJ n po ap k with
      | none => rw [e] at hP; cases hP
      | some j =>
        obtain ⟨g1, g2⟩ := lastI_some e
        simp only [fP, Bool.and_eq_true, decide_eq_true_eq] at g2
        have g3 := (nI_eq (by have := hpo j 0; omega) (by omega)).mp g2.1
        refine ⟨js ++ [j], by simp [h1], ?_, fun i hi => ?_⟩
        · rw [List.nodup_append]
          refine ⟨h2, by simp, fun x hx y hy => ?_⟩
          rw [List.mem_singleton] at hy
          rw [hy]
          intro z
          subst z
          have := (h3 x hx).2
          omega
        · rcases List.mem_append.mp hi with z | z
          · have := h3 i z
            exact ⟨this.1, by omega⟩
          · rw [List.mem_singleton] at z
            rw [z]
            exact ⟨g1, by omega⟩
    · rw [nmL_f (Bool.eq_false_iff.mpr hP)]
      exact ⟨js, h1, h2, fun j hj => ⟨(h3 j hj).1, by have := (h3 j hj).2; omega⟩⟩
theorem nm_len {n : Nat} {po : Nat → Nat → Nat} {ap : Nat → Bool} {kd tg sl : Int32} (hpo : ∀ j f, po j f < 256) {k : Nat} (hk : k ≤ 159) : (nmL (nmP n po ap kd tg sl) k).length ≤ n := by
  obtain ⟨js, h1, h2, h3⟩ := nm_js (n := n) (po := po) (ap := ap) (kd := kd) (tg := tg) (sl := sl) hpo k hk
  rw [← h1]
  exact nodup_len n js h2 (fun j hj => (h3 j hj).1)
theorem nm_lt {P : Nat → Bool} : ∀ {k x : Nat}, x ∈ nmL P k → x < 4 + k := by
  intro k
  induction k with
  | zero => intro x hx; exact absurd hx List.not_mem_nil
  | succ k ih =>
    intro x hx
    unfold nmL at hx
    split at hx
    · rcases List.mem_append.mp hx with z | z
      · have := ih z; omega
      · rw [List.mem_singleton] at z; omega
    · have := ih hx; omega
/-- the new operation's bytes -/
def edN (r cv : Nat) (kd tg sl vl : Int32) (nm : List Nat) : Nat → Nat := fun f => ([4 * cv + r, kd.toNatClampNeg, tg.toNatClampNeg, sl.toNatClampNeg, vl.toNatClampNeg, nm.length] ++ nm).getD f 0
def apB (ap : Nat → Bool) (n : Nat) : Nat → Bool := fun i => if i = n then true else apA ap n i
def EdPost (G : mp_G) (M : mp_M) (a : Nat) (ad : Nat → Nat) (S : Nat → Nat → Int32) (r n : Nat) (po : Nat → Nat → Nat) (ap : Nat → Bool) (od : List Nat) (kd tg sl vl y : Int32) (M1 : mp_M) : Prop :=
  if edB n po ap (stA n po ap).1 kd tg sl vl = false then y = -1 ∧ ∃ S1, MdAt G M1 a ad S1 ∧ Ag [7, 8, 9, 11] S S1 ∧ KeepG 9 M M1
  else if 16 ≤ n ∨ 6 < (nmL (nmP n po ap kd tg sl) 159).length ∨ 40 < cnV n po ap 159 then y = -7 ∧ ∃ S1, MdAt G M1 a ad S1 ∧ Ag [7, 8, 9, 11] S S1 ∧ KeepG 9 M M1
  else y = nI (4 * cnV n po ap 159 + r) ∧ ∃ S1, MdAt G M1 a ad S1 ∧ FrR r S S1 ∧ (∃ (po1 : Nat → Nat → Nat) (x : so_), po1 = poA po n (edN r (cnV n po ap 159) kd tg sl vl (nmL (nmP n po ap kd tg sl) 159)) ∧ x = setA (n + 1) po1 (apB ap n, od ++ [n]) ∧ Vw S1 r (n + 1) po1 x.1 ∧ OrV S1 r x.2 ∧ OdOk (n + 1) x.1 x.2) ∧ KeepG 9 M M1
theorem ed_no {G : mp_G} {M : mp_M} {a : Nat} {ad : Nat → Nat} {S S1 : Nat → Nat → Int32} {r n : Nat} {po : Nat → Nat → Nat} {ap : Nat → Bool} {od : List Nat} {kd tg sl vl : Int32} {M1 : mp_M} (h : edB n po ap (stA n po ap).1 kd tg sl vl = false) (h1 : MdAt G M1 a ad S1) (h2 : Ag [7, 8, 9, 11] S S1) (h3 : KeepG 9 M M1) : EdPost G M a ad S r n po ap od kd tg sl vl (-1) M1 := by
  unfold EdPost
  rw [if_pos h]
  exact ⟨rfl, S1, h1, h2, h3⟩
theorem ed_full {G : mp_G} {M : mp_M} {a : Nat} {ad : Nat → Nat} {S S1 : Nat → Nat → Int32} {r n : Nat} {po : Nat → Nat → Nat} {ap : Nat → Bool} {od : List Nat} {kd tg sl vl : Int32} {M1 : mp_M} (h : edB n po ap (stA n po ap).1 kd tg sl vl = true) (hf : 16 ≤ n ∨ 6 < (nmL (nmP n po ap kd tg sl) 159).length ∨ 40 < cnV n po ap 159) (h1 : MdAt G M1 a ad S1) (h2 : Ag [7, 8, 9, 11] S S1) (h3 : KeepG 9 M M1) : EdPost G M a ad S r n po ap od kd tg sl vl (-7) M1 := by
  unfold EdPost
  rw [if_neg (bne h), if_pos hf]
  exact ⟨rfl, S1, h1, h2, h3⟩
theorem kd_6 {kd : Int32} (h0 : ¬ kd < 0) (h5 : kd ≤ 5) : kd = 0 ∨ kd = 1 ∨ kd = 2 ∨ kd = 3 ∨ kd = 4 ∨ kd = 5 := by
  obtain ⟨j, h1, rfl⟩ := nI_of2 (M := 5) (n := 5) (by decide) h0 h5
  rcases (show j = 0 ∨ j = 1 ∨ j = 2 ∨ j = 3 ∨ j = 4 ∨ j = 5 by omega) with z | z | z | z | z | z <;> subst z <;> decide
theorem fnd_id {n : Nat} {po : Nat → Nat → Nat} {ap : Nat → Bool} {x : Int32} {b : Bool} {j : Nat} (h : mfind n po ap x b = some j) : j < n ∧ nI (po j 0) = x := by
  obtain ⟨h1, h2⟩ := lastI_some h
  simp only [fP, Bool.and_eq_true, decide_eq_true_eq] at h2
  exact ⟨h1, h2.1⟩
/-- an edit that is let through has small numbers -/
theorem ed_nat {n : Nat} {po : Nat → Nat → Nat} {ap ft : Nat → Bool} {kd tg sl vl : Int32} (hpo : ∀ j f, po j f < 256) (h : edB n po ap ft kd tg sl vl = true) : ∃ k0 t0 s0 v0, k0 ≤ 5 ∧ t0 < 256 ∧ s0 < 256 ∧ v0 < 100 ∧ kd = nI k0 ∧ tg = nI t0 ∧ sl = nI s0 ∧ vl = nI v0 := by
  unfold edB at h
  simp only [Bool.and_eq_true, Bool.or_eq_true, decide_eq_true_eq, Bool.not_eq_true', decide_eq_false_iff_not] at h
  obtain ⟨⟨⟨⟨⟨⟨h1, h2⟩, h3⟩, h4⟩, h5⟩, h6⟩, h7⟩ := h
  obtain ⟨k0, hk0, hk⟩ := nI_of2 (M := 5) (n := 5) (by decide) h1 h2
  obtain ⟨v0, hv0, hv⟩ := nI_of2 (M := 99) (n := 99) (by decide) h5 (by
    split at h6
    · exact h6
    · exact Int32.le_trans h6 (by decide))
  have ht : ∃ t0, t0 < 256 ∧ tg = nI t0 := by
    unfold mfits at h7
    by_cases e : tg = 0
    · exact ⟨0, by decide, e⟩
    · cases e2 : mfind n po ap tg true with
      | none => rw [e2] at h7; simp [e] at h7
      | some j =>
        obtain ⟨-, g⟩ := fnd_id e2
        exact ⟨po j 0, hpo j 0, g.symm⟩
  have hs : ∃ s0, s0 < 256 ∧ sl = nI s0 := by
    by_cases e3 : kd = 3
    · unfold mfits at h7
      rw [if_pos e3] at h7
      by_cases e : sl = 0
      · exact ⟨0, by decide, e⟩
      · cases e2 : mfind n po ap sl true with
        | none => rw [e2] at h7; cases e4 : mfind n po ap tg true <;> rw [e4] at h7 <;> simp [e] at h7
        | some j =>
          obtain ⟨-, g⟩ := fnd_id e2
          exact ⟨po j 0, hpo j 0, g.symm⟩
    · by_cases e4 : kd = 4
      · rcases h4 with z | z
        · exact absurd e4 z
        · exact ⟨0, by decide, z⟩
      · rcases h3 with (z | z) | z
        · exact absurd z e3
        · exact absurd z e4
        · obtain ⟨s0, g1, g2⟩ := nI_of2 (M := 3) (n := 3) (by decide) z.1 z.2
          exact ⟨s0, by omega, g2⟩
  obtain ⟨t0, ht0, ht⟩ := ht
  obtain ⟨s0, hs0, hs⟩ := hs
  exact ⟨k0, t0, s0, v0, hk0, ht0, hs0, by omega, hk, ht, hs, hv⟩
theorem ct_X3_edit_bad (l : Launch) (G : mp_G) (b : Nat) (M : mp_M) (a : Nat) (x kd tg sl vl : Int32) (hx : isRepB x = false) : Ct l yX3_edit cX3_edit 12 (some .int) 4 0 0 G b ([.ref a, .int x, .int kd, .int tg, .int sl, .int vl] : List Value) M (pI (fun y M1 => y = -1 ∧ M1 = M)) := by
  refine Ct.ofV (by decide) (vc_ref (vc_int (vc_int (vc_int (vc_int (vc_int vc_nil)))))) (Nat.le_of_ble_eq_true rfl) ?_
  intro p e s m below meth c C hnm
  refine V_L (L1 := [some (.ref a), some (.int x), some (.int kd), some (.int tg), some (.int sl), some (.int vl), none, none, none, none, none, none]) rfl ?_
  refine V_iload_n C dX3_edit_0 rfl rfl ?_
  refine V_ofIe (VR_S (As := [.int x]) (rest := []) C (ct_X3_isReplica l G b M x) (lw_S q864 q865 q46 q866) nd_X3_isReplica rfl (by decide) (by decide) dX3_edit_1 rfl ⟨by decide, by decide⟩ (Nat.le_of_ble_eq_true rfl)) ?_
  refine V_ifb_eq C 16 dX3_edit_4 (by decide) (fun q4 => ?_) (fun q4 => ?_)
  · refine V_iconst C (-1) dX3_edit_16 (by decide) ?_
    exact V_iret C dX3_edit_17 (by decide) (by decide) ⟨_, rfl, rfl, rfl⟩
  · exact absurd q4 (by rw [hx]; decide)

