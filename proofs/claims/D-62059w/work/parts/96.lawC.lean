set_option maxRecDepth 100000
/-! THE LAW, C: what holds between its rounds -/
def RepI (G : mp_G) (M : mp_M) (S : Nat → Nat → Int32) (r a : Nat) : Prop := ∃ (n : Nat) (po : Nat → Nat → Nat) (ap : Nat → Bool) (od : List Nat) (ln : Nat) (lo : Nat → List Nat) (P : Nat → Int32) (hi : Nat → Option Nat) (sh fo : Nat → Bool) (ch : Nat → Nat → List Nat) (nx : Nat → Option Nat) (wt : List (List Nat)) (A : Nat → Nat → Nat) (wo : List Nat), RepAt G M (3 + r) a ln lo P hi sh fo ch nx wt A wo ∧ RInv ln lo P hi sh fo ch ∧ Vw S r n po ap ∧ OrV S r od ∧ RT r n po ap od ln lo wt
def LInvA (G : mp_G) (M : mp_M) (dx mx ra wa da : Nat) (rp : Nat → Nat) (ws ds : List Nat) (wcap dcap : Nat) (ad : Nat → Nat) (S : Nat → Nat → Int32) : Prop := DocAt G M dx ra wa da rp ∧ (SbAt G M 1 wa ws wcap ∧ 16 ≤ wcap ∧ ws.length ≤ 16) ∧ (SbAt G M 2 da ds dcap ∧ (dcap = 16 ∨ dcap = 34)) ∧ MdAt G M mx ad S ∧ LnV S ws.length (oB ws) ∧ ∀ r, r ≤ 2 → RepI G M S r (rp r)
def LInv (G : mp_G) (M : mp_M) (dx mx : Nat) : Prop := ∃ ra wa da rp ws ds wcap dcap ad S, LInvA G M dx mx ra wa da rp ws ds wcap dcap ad S
theorem DocAt.keep {S : mp_L → Prop} {G : mp_G} {M M1 : mp_M} {dx ra wa da : Nat} {rp : Nat → Nat} (h : DocAt G M dx ra wa da rp) (hK : Keep S M M1) (hs : ∀ la : mp_L, la.1 = 7 → ¬ S la) : DocAt G M1 dx ra wa da rp := ⟨hK _ _ _ h.1 (hs _ rfl), hK _ _ _ h.2 (hs _ rfl)⟩
theorem MdAt.keep {Sx : mp_L → Prop} {G : mp_G} {M M1 : mp_M} {a : Nat} {ad : Nat → Nat} {S : Nat → Nat → Int32} (h : MdAt G M a ad S) (hK : Keep Sx M M1) (hs : ∀ la : mp_L, la.1 = 9 → ¬ Sx la) : MdAt G M1 a ad S := by
  obtain ⟨h1, h2, h3, h4, h5, h6, h7, h8, h9, h10, h11⟩ := h
  exact ⟨hK _ _ _ h1 (hs _ rfl), hK _ _ _ h2 (hs _ rfl), hK _ _ _ h3 (hs _ rfl), hK _ _ _ h4 (hs _ rfl), hK _ _ _ h5 (hs _ rfl), hK _ _ _ h6 (hs _ rfl), hK _ _ _ h7 (hs _ rfl), hK _ _ _ h8 (hs _ rfl), hK _ _ _ h9 (hs _ rfl), hK _ _ _ h10 (hs _ rfl), hK _ _ _ h11 (hs _ rfl)⟩
/-- the model's numbers that say what a replica holds -/
theorem vw_S {S S1 : Nat → Nat → Int32} {r n : Nat} {po : Nat → Nat → Nat} {ap : Nat → Bool} (h : Vw S r n po ap) (h0 : ∀ i, 192 * r ≤ i → i < 192 * r + 192 → S1 0 i = S 0 i) (h1 : S1 1 r = S 1 r) (h2 : ∀ i, 16 * r ≤ i → i < 16 * r + 16 → S1 2 i = S 2 i) : Vw S1 r n po ap := by
  obtain ⟨a1, a2, a3, a4, a5, a6, a7⟩ := h
  refine ⟨a1, a2, by rw [h1]; exact a3, fun j f hj hf => ?_, a5, a6, fun j hj => ?_⟩
  · have := a5 j hj
    rw [h0 _ (by omega) (by omega)]
    exact a4 j f hj hf
  · rw [h2 _ (by omega) (by omega)]
    exact a7 j hj
theorem or_S {S S1 : Nat → Nat → Int32} {r : Nat} {od : List Nat} (h : OrV S r od) (hl : od.length ≤ 16) (h3 : ∀ i, 16 * r ≤ i → i < 16 * r + 16 → S1 3 i = S 3 i) (h4 : S1 4 r = S 4 r) : OrV S1 r od := by
  refine ⟨by rw [h4]; exact h.1, fun i j hij => ?_⟩
  have := (List.getElem?_eq_some_iff.mp hij).1
  rw [h3 _ (by omega) (by omega)]
  exact h.2 i j hij
theorem repI_S {G : mp_G} {M : mp_M} {S S1 : Nat → Nat → Int32} {r a : Nat} (h : RepI G M S r a) (h0 : ∀ i, 192 * r ≤ i → i < 192 * r + 192 → S1 0 i = S 0 i) (h1 : S1 1 r = S 1 r) (h2 : ∀ i, 16 * r ≤ i → i < 16 * r + 16 → S1 2 i = S 2 i) (h3 : ∀ i, 16 * r ≤ i → i < 16 * r + 16 → S1 3 i = S 3 i) (h4 : S1 4 r = S 4 r) : RepI G M S1 r a := by
  obtain ⟨n, po, ap, od, ln, lo, P, hi, sh, fo, ch, nx, wt, A, wo, R, I, V1, O1, T1⟩ := h
  have hl : od.length ≤ 16 := by rw [T1.1.2.1]; have := tie_ln T1.1; have := T1.1.2.2.2.2.2.2; omega
  exact ⟨n, po, ap, od, ln, lo, P, hi, sh, fo, ch, nx, wt, A, wo, R, I, vw_S V1 h0 h1 h2, or_S O1 hl h3 h4, T1⟩
theorem repI_ag {G : mp_G} {M : mp_M} {S S1 : Nat → Nat → Int32} {r a : Nat} (h : RepI G M S r a) (hA : ∀ q, q ≤ 4 → S1 q = S q) : RepI G M S1 r a :=
  repI_S h (fun i _ _ => by rw [hA 0 (by decide)]) (by rw [hA 1 (by decide)]) (fun i _ _ => by rw [hA 2 (by decide)]) (fun i _ _ => by rw [hA 3 (by decide)]) (by rw [hA 4 (by decide)])
theorem repI_keep {Sx : mp_L → Prop} {G : mp_G} {M M1 : mp_M} {S : Nat → Nat → Int32} {r a : Nat} (h : RepI G M S r a) (hK : Keep Sx M M1) (hs : ∀ la : mp_L, la.1 = 3 + r → ¬ Sx la) : RepI G M1 S r a := by
  obtain ⟨n, po, ap, od, ln, lo, P, hi, sh, fo, ch, nx, wt, A, wo, R, I⟩ := h
  exact ⟨n, po, ap, od, ln, lo, P, hi, sh, fo, ch, nx, wt, A, wo, R.keep hK hs, I⟩
theorem ln_S {S S1 : Nat → Nat → Int32} {mw : Nat} {wl : Nat → Nat} (h : LnV S mw wl) (h5 : S1 5 = S 5) (h6 : S1 6 = S 6) : LnV S1 mw wl := by
  unfold LnV at h ⊢
  rw [h5, h6]
  exact h
/-- the model worked something out anew -/
theorem linv_q {G : mp_G} {M M1 : mp_M} {dx mx ra wa da : Nat} {rp : Nat → Nat} {ws ds : List Nat} {wcap dcap : Nat} {ad : Nat → Nat} {S S1 : Nat → Nat → Int32} (h : LInvA G M dx mx ra wa da rp ws ds wcap dcap ad S) (hK : KeepG 9 M M1) (hM : MdAt G M1 mx ad S1) (hA : ∀ q, q ≤ 6 → S1 q = S q) : LInv G M1 dx mx := by
  obtain ⟨h1, h2, h3, h4, h5, h6⟩ := h
  exact ⟨ra, wa, da, rp, ws, ds, wcap, dcap, ad, S1, h1.keep hK (fun la z w => by omega), ⟨h2.1.keep hK (fun la z w => by omega), h2.2⟩, ⟨h3.1.keep hK (fun la z w => by omega), h3.2⟩, hM, ln_S h5 (hA 5 (by decide)) (hA 6 (by decide)), fun r hr => repI_keep (repI_ag (h6 r hr) (fun q hq => hA q (by omega))) hK (fun la z w => by omega)⟩
theorem linv_Q {G : mp_G} {M M1 : mp_M} {dx mx ra wa da : Nat} {rp : Nat → Nat} {ws ds : List Nat} {wcap dcap : Nat} {ad : Nat → Nat} {S : Nat → Nat → Int32} (h : LInvA G M dx mx ra wa da rp ws ds wcap dcap ad S) (hq : QryP G M mx ad S M1) : LInv G M1 dx mx := by
  obtain ⟨S1, q1, q2, q3⟩ := hq
  exact linv_q h q3 q1 (fun q hq => q2 q (by simp only [List.mem_cons, List.not_mem_nil, or_false, not_or]; omega))
