set_option maxRecDepth 100000
/-! THE MODEL, H: receive -/
/-- only replica r (and what is worked out anew) differs -/
def FrR (r : Nat) (S S1 : Nat → Nat → Int32) : Prop := S1 5 = S 5 ∧ S1 6 = S 6 ∧ (∀ i, ¬ (192 * r ≤ i ∧ i < 192 * r + 192) → S1 0 i = S 0 i) ∧ (∀ i, i ≠ r → S1 1 i = S 1 i) ∧ (∀ i, ¬ (16 * r ≤ i ∧ i < 16 * r + 16) → S1 2 i = S 2 i ∧ S1 3 i = S 3 i) ∧ ∀ i, i ≠ r → S1 4 i = S 4 i
theorem FrM.frR {r : Nat} {S S1 S2 : Nat → Nat → Int32} (h : FrR r S S1) (h2 : FrM r S1 S2) : FrR r S S2 := by
  obtain ⟨a1, a2, a3, a4, a5, a6⟩ := h
  obtain ⟨b1, b2, b3⟩ := h2
  refine ⟨(b1 5 (by decide)).trans a1, (b1 6 (by decide)).trans a2, fun i hi => ?_, fun i hi => ?_, fun i hi => ⟨(b2 i hi).1.trans (a5 i hi).1, (b2 i hi).2.trans (a5 i hi).2⟩, fun i hi => (b3 i hi).trans (a6 i hi)⟩
  · rw [b1 0 (by decide)]; exact a3 i hi
  · rw [b1 1 (by decide)]; exact a4 i hi
def poA (po : Nat → Nat → Nat) (n : Nat) (nb : Nat → Nat) : Nat → Nat → Nat := fun j f => if j = n then nb f else po j f
def apA (ap : Nat → Bool) (n : Nat) : Nat → Bool := fun j => if j = n then false else ap j
theorem vw_add {S S5 : Nat → Nat → Int32} {r n : Nat} {po : Nat → Nat → Nat} {ap : Nat → Bool} (hV : Vw S r n po ap) (hn : n < 16) {nb : Nat → Nat} (hnb6 : nb 5 ≤ 6) (hnb : ∀ f, nb f < 256) (h1 : S5 1 r = nI (n + 1)) (h0 : ∀ f, f < 6 + nb 5 → S5 0 (12 * (16 * r + n) + f) = nI (nb f)) (h0' : ∀ i, ¬ (12 * (16 * r + n) ≤ i ∧ i < 12 * (16 * r + n) + 12) → S5 0 i = S 0 i) (h2 : S5 2 (16 * r + n) = bI false) (h2' : ∀ i, i ≠ 16 * r + n → S5 2 i = S 2 i) : Vw S5 r (n + 1) (poA po n nb) (apA ap n) := by
  obtain ⟨a1, a2, a3, a4, a5, a6, a7⟩ := hV
  refine ⟨a1, hn, h1, fun j f hj hf => ?_, fun j hj => ?_, fun j f => ?_, fun j hj => ?_⟩
  · unfold poA at hf ⊢
    by_cases z : j = n
    · subst z
      rw [if_pos rfl] at hf ⊢
      exact h0 f hf
    · rw [if_neg z] at hf ⊢
      have hj2 : j < n := by omega
      have := a5 j hj2
      rw [h0' _ (by omega)]
      exact a4 j f hj2 hf
  · unfold poA
    by_cases z : j = n
    · rw [if_pos z]; exact hnb6
    · rw [if_neg z]; exact a5 j (by omega)
  · unfold poA
    by_cases z : j = n
    · rw [if_pos z]; exact hnb f
    · rw [if_neg z]; exact a6 j f
  · unfold apA
    by_cases z : j = n
    · rw [if_pos z, z]; exact h2
    · rw [if_neg z, h2' _ (by omega)]; exact a7 j (by omega)
theorem odok_add {n : Nat} {ap : Nat → Bool} {od : List Nat} (h : OdOk n ap od) : OdOk (n + 1) (apA ap n) od := by
  refine ⟨h.1, fun j => ?_⟩
  rw [h.2]
  unfold apA
  by_cases z : j = n
  · rw [if_pos z]
    constructor
    · intro q; omega
    · intro q; exact absurd q.2 (by decide)
  · rw [if_neg z]
    constructor
    · intro q; exact ⟨by omega, q.2⟩
    · intro q; exact ⟨by omega, q.2⟩
theorem bne {x : Bool} (h : x = true) : ¬ x = false := by rw [h]; decide
theorem bne2 {x : Bool} (h : x = false) : ¬ x = true := by rw [h]; decide
theorem and_no1 {a b : Prop} (h : ¬ a) : ¬ (a ∧ b) := fun z => h z.1
theorem and_no2 {a b : Prop} (h : ¬ b) : ¬ (a ∧ b) := fun z => h z.2
/-- what receive answers when it takes nothing -/
def rcvE (mw : Nat) (wl : Nat → Nat) (r n : Nat) (po : Nat → Nat → Nat) (ap : Nat → Bool) : Option Int32 :=
  if wfB mw wl = false then some (-2) else match mfind n po ap (nI (wl 0)) false with
  | some j => some (if saK po wl j mw = true then -8 else -3)
  | none => if wl 0 % 4 = r then some (-4) else if saysB mw wl (nI (wl 2)) = false then some (-5) else if wl 1 = 3 ∧ saysB mw wl (nI (wl 3)) = false then some (-5) else if 6 < mw ∧ wl 0 ≤ wl (mw - 1) then some (-6) else if 16 ≤ n then some (-7) else none
theorem ct_X3_receive_bad (l : Launch) (G : mp_G) (b : Nat) (M : mp_M) (a : Nat) (x : Int32) (hx : isRepB x = false) : Ct l yX3_receive cX3_receive 4 (some .int) 4 0 0 G b ([.ref a, .int x] : List Value) M (pI (fun y M1 => y = -1 ∧ M1 = M)) := by
  refine Ct.ofV (by decide) (vc_ref (vc_int vc_nil)) (Nat.le_of_ble_eq_true rfl) ?_
  intro p e s m below meth c C hnm
  refine V_L (L1 := [some (.ref a), some (.int x), none, none]) rfl ?_
  refine V_iload_n C dX3_receive_0 rfl rfl ?_
  refine V_ofIe (VR_S (As := [.int x]) (rest := []) C (ct_X3_isReplica l G b M x) (lw_S q864 q865 q46 q866) nd_X3_isReplica rfl (by decide) (by decide) dX3_receive_1 rfl ⟨by decide, by decide⟩ (Nat.le_of_ble_eq_true rfl)) ?_
  refine V_ifb_ne C 9 dX3_receive_4 (by decide) (fun q4 => ?_) (fun q4 => ?_)
  · exact absurd q4 (by rw [hx]; decide)
  · refine V_iconst C (-1) dX3_receive_7 (by decide) ?_
    exact V_iret C dX3_receive_8 (by decide) (by decide) ⟨_, rfl, rfl, rfl⟩
def RcvPost (G : mp_G) (M : mp_M) (a : Nat) (ad : Nat → Nat) (S : Nat → Nat → Int32) (r n : Nat) (po : Nat → Nat → Nat) (ap : Nat → Bool) (od : List Nat) (mw : Nat) (wl : Nat → Nat) (y : Int32) (M1 : mp_M) : Prop := match rcvE mw wl r n po ap with
  | some v => y = v ∧ ∃ S1, MdAt G M1 a ad S1 ∧ Ag [7] S S1 ∧ KeepG 9 M M1
  | none => y = nI ((setA (n + 1) (poA po n wl) (apA ap n, od)).2.length - od.length) ∧ ∃ S1, MdAt G M1 a ad S1 ∧ FrR r S S1 ∧ Vw S1 r (n + 1) (poA po n wl) (setA (n + 1) (poA po n wl) (apA ap n, od)).1 ∧ OrV S1 r (setA (n + 1) (poA po n wl) (apA ap n, od)).2 ∧ OdOk (n + 1) (setA (n + 1) (poA po n wl) (apA ap n, od)).1 (setA (n + 1) (poA po n wl) (apA ap n, od)).2 ∧ KeepG 9 M M1
theorem rcv_some {G : mp_G} {M : mp_M} {a : Nat} {ad : Nat → Nat} {S : Nat → Nat → Int32} {r n : Nat} {po : Nat → Nat → Nat} {ap : Nat → Bool} {od : List Nat} {mw : Nat} {wl : Nat → Nat} {y : Int32} {M1 : mp_M} (h : rcvE mw wl r n po ap = some y) (h2 : ∃ S1, MdAt G M1 a ad S1 ∧ Ag [7] S S1 ∧ KeepG 9 M M1) : RcvPost G M a ad S r n po ap od mw wl y M1 := by
  unfold RcvPost
  rw [h]
  exact ⟨rfl, h2⟩
theorem wfB_pre {mw : Nat} {wl : Nat → Nat} (h : wfB mw wl = true) : 6 ≤ mw ∧ wl 5 ≤ 6 ∧ mw = 6 + wl 5 := by
  unfold wfB preB at h
  simp only [Bool.and_eq_true, decide_eq_true_eq] at h
  exact ⟨h.1.1.1.1.1.1, h.1.1.1.1.1.2, h.1.1.1.1.2⟩
theorem ct_X3_receive (l : Launch) (G : mp_G) (b : Nat) (M : mp_M) (a : Nat) (ad : Nat → Nat) (S : Nat → Nat → Int32) (r n : Nat) (po : Nat → Nat → Nat) (ap : Nat → Bool) (hS : MdAt G M a ad S) (hV : Vw S r n po ap) (od : List Nat) (hO : OrV S r od) (hok : OdOk n ap od) (mw : Nat) (wl : Nat → Nat) (hL : LnV S mw wl) : Ct l yX3_receive cX3_receive 4 (some .int) 4 0 0 G b ([.ref a, .int (nI r)] : List Value) M (pI (RcvPost G M a ad S r n po ap od mw wl)) := by
  have hr := hV.1
  have hn := hV.2.1
  refine Ct.ofV (by decide) (vc_ref (vc_int vc_nil)) (Nat.le_of_ble_eq_true rfl) ?_
  intro p e s m below meth c C hnm
  refine V_L (L1 := [some (.ref a), some (.int (nI r)), none, none]) rfl ?_
  obtain ⟨hma, hm0, hm1, hm2, hm3, hm4, hm5, hm8, hm9, hm10, hm11⟩ := id hS
  rw [hL.2.1] at hma
  refine V_iload_n C dX3_receive_0 rfl rfl ?_
  refine V_ofIe (VR_S (As := [.int (nI r)]) (rest := []) C (ct_X3_isReplica l G b M (nI r)) (lw_S q864 q865 q46 q866) nd_X3_isReplica rfl (by decide) (by decide) dX3_receive_1 rfl ⟨by decide, by decide⟩ (Nat.le_of_ble_eq_true rfl)) ?_
  refine V_ifb_ne C 9 dX3_receive_4 (by decide) (fun h => ?_) (fun h => ?_)
  · skip
    refine V_aload_n C dX3_receive_9 rfl rfl ?_
    refine V_ofIe (VR_V (As := []) (rest := []) C (ct_X3_wellFormed l G b M a ad S hS mw wl hL) hma rfl (lw_V q931 q933 qs20 q46 q934) rfl nd_X3_wellFormed rfl (by decide) (by decide) dX3_receive_10 rfl ⟨by decide, by decide⟩ (Nat.le_of_ble_eq_true rfl)) ?_
    refine V_ifb_ne C 19 dX3_receive_13 (by decide) (fun hwf => ?_) (fun hwf => ?_)
    · skip
      obtain ⟨h6, h56, hmw⟩ := wfB_pre hwf
      refine V_aload_n C dX3_receive_19 rfl rfl ?_
      refine V_iload_n C dX3_receive_20 rfl rfl ?_
      refine V_M (V_put (host := "") (C0 := RX3) (T := TX3) (N := 12) (ci := 3) (fs' := [.ref (ad 0), .ref (ad 1), .ref (ad 2), .ref (ad 3), .ref (ad 4), .ref (ad 5), .int (nI mw), .int (nI r), .ref (ad 8), .ref (ad 9), .ref (ad 10), .ref (ad 11)]) C 7 in_X3 tyX3 tyX3_ok nmX3 rfl hma (by decide) q828 (fun _ h9 => h9) rfl rfl rfl rfl (Nat.le_of_ble_eq_true rfl) rfl dX3_receive_21) (fun M1 e1 => ?_)
      have h__1 := mp_got e1
      have h__2 := mp_keep e1 hm0 hma (by first | assumption | exact Ne.symm (by assumption) | simp | (intro h; simp at h; omega))
      have h__3 := mp_keep e1 hm1 hma (by first | assumption | exact Ne.symm (by assumption) | simp | (intro h; simp at h; omega))
      have h__4 := mp_keep e1 hm2 hma (by first | assumption | exact Ne.symm (by assumption) | simp | (intro h; simp at h; omega))
      have h__5 := mp_keep e1 hm3 hma (by first | assumption | exact Ne.symm (by assumption) | simp | (intro h; simp at h; omega))
      have h__6 := mp_keep e1 hm4 hma (by first | assumption | exact Ne.symm (by assumption) | simp | (intro h; simp at h; omega))
      have h__7 := mp_keep e1 hm5 hma (by first | assumption | exact Ne.symm (by assumption) | simp | (intro h; simp at h; omega))
      have h__8 := mp_keep e1 hm8 hma (by first | assumption | exact Ne.symm (by assumption) | simp | (intro h; simp at h; omega))
      have h__9 := mp_keep e1 hm9 hma (by first | assumption | exact Ne.symm (by assumption) | simp | (intro h; simp at h; omega))
      have h__10 := mp_keep e1 hm10 hma (by first | assumption | exact Ne.symm (by assumption) | simp | (intro h; simp at h; omega))
      have h__11 := mp_keep e1 hm11 hma (by first | assumption | exact Ne.symm (by assumption) | simp | (intro h; simp at h; omega))
      have hy6 := hL.2.1
      rw [← hy6] at e1
      obtain ⟨hS1, hK1⟩ := md_f7 hS e1
      have hV1 := hV.ag (S1 := sF S 7 (fun _ => nI r)) rfl rfl rfl
      have hme1 : (sF S 7 (fun _ => nI r)) 7 0 = nI r := rfl
      have hL1 : LnV (sF S 7 (fun _ => nI r)) mw wl := hL
      obtain ⟨hmua, hmu0, hmu1, hmu2, hmu3, hmu4, hmu5, hmu8, hmu9, hmu10, hmu11⟩ := id hS1
      rw [hme1] at hmua
      rw [hL1.2.1] at hmua
      have w0 := hL.2.2.2 0
      have w1 := hL.2.2.2 1
      have w2 := hL.2.2.2 2
      have w3 := hL.2.2.2 3
      have wm := hL.2.2.2 (mw - 1)
      have rest : rcvE mw wl r n po ap = none → n < 16 → V p l e (rmOf 4 0 0) s m ([.ref a, .int (nI r)] : List Value).toArray below meth c (MQ below (Qp G b (pI (RcvPost G M a ad S r n po ap od mw wl))) ([.ref a, .int (nI r)] : List Value).toArray s 0 0 (fun q => b ≤ q)) G b 4 0 0 158 [some (.ref a), some (.int (nI r)), some (.int (-1)), some (.int 0)] [] M1 := by
        intro hE hn16
        have hw : ∀ i, wl i < 256 := hL.2.2.2
        have hl0 := hok.len
        have loop : ∀ k, k ≤ mw → ∀ M3 S3, MdAt G M3 a ad S3 → Ag [0, 7] S S3 → S3 7 0 = nI r → (∀ i, i < k → S3 0 (12 * (16 * r + n) + i) = nI (wl i)) → (∀ i, ¬ (12 * (16 * r + n) ≤ i ∧ i < 12 * (16 * r + n) + 12) → S3 0 i = S 0 i) → KeepG 9 M M3 → V p l e (rmOf 4 0 0) s m ([.ref a, .int (nI r)] : List Value).toArray below meth c (MQ below (Qp G b (pI (RcvPost G M a ad S r n po ap od mw wl))) ([.ref a, .int (nI r)] : List Value).toArray s 0 0 (fun q => b ≤ q)) G b 4 0 0 158 [some (.ref a), some (.int (nI r)), none, some (.int (nI k))] [] M3 := by
          refine up_ind mw ?_
          intro k hk ih M3 S3 hS3 hA3 hme3 hb3 hc3 hK3
          have hL3 : LnV S3 mw wl := ⟨hL.1, by rw [hA3 6 (by decide)]; exact hL.2.1, by rw [hA3 5 (by decide)]; exact hL.2.2.1, hw⟩
          have h13 : S3 1 r = nI n := by rw [hA3 1 (by decide)]; exact hV.2.2.1
          obtain ⟨hmva, hmv0, hmv1, hmv2, hmv3, hmv4, hmv5, hmv8, hmv9, hmv10, hmv11⟩ := id hS3
          rw [hme3] at hmva
          rw [hL3.2.1] at hmva
          have fin : k = mw → V p l e (rmOf 4 0 0) s m ([.ref a, .int (nI r)] : List Value).toArray below meth c (MQ below (Qp G b (pI (RcvPost G M a ad S r n po ap od mw wl))) ([.ref a, .int (nI r)] : List Value).toArray s 0 0 (fun q => b ≤ q)) G b 4 0 0 199 [some (.ref a), some (.int (nI r)), none, some (.int (nI k))] [] M3 := by
            intro hkm
            have fin2 : ∀ M5, MdAt G M5 a ad (sF (sF S3 2 (upd (S3 2) (16 * r + n) (bI false))) 1 (upd (S3 1) r (nI (n + 1)))) → KeepG 9 M M5 → V p l e (rmOf 4 0 0) s m ([.ref a, .int (nI r)] : List Value).toArray below meth c (MQ below (Qp G b (pI (RcvPost G M a ad S r n po ap od mw wl))) ([.ref a, .int (nI r)] : List Value).toArray s 0 0 (fun q => b ≤ q)) G b 4 0 0 226 [some (.ref a), some (.int (nI r)), none, some (.int (nI k))] [] M5 := by
              intro M5 hS5 hK5
              have hV5 : Vw (sF (sF S3 2 (upd (S3 2) (16 * r + n) (bI false))) 1 (upd (S3 1) r (nI (n + 1)))) r (n + 1) (poA po n wl) (apA ap n) := vw_add hV hn16 h56 hw (by rw [sF_eq, pk_us]) (fun f hf => hb3 f (by omega)) hc3 (by show upd (S3 2) (16 * r + n) (bI false) (16 * r + n) = bI false; rw [pk_us]) (fun i hi => by show upd (S3 2) (16 * r + n) (bI false) i = S 2 i; rw [pk_un hi, hA3 2 (by decide)])
              have hO5 : OrV (sF (sF S3 2 (upd (S3 2) (16 * r + n) (bI false))) 1 (upd (S3 1) r (nI (n + 1)))) r od := by
                unfold OrV
                rw [show (sF (sF S3 2 (upd (S3 2) (16 * r + n) (bI false))) 1 (upd (S3 1) r (nI (n + 1)))) 4 = S 4 from hA3 4 (by decide), show (sF (sF S3 2 (upd (S3 2) (16 * r + n) (bI false))) 1 (upd (S3 1) r (nI (n + 1)))) 3 = S 3 from hA3 3 (by decide)]
                exact hO
              have hF5 : FrR r S (sF (sF S3 2 (upd (S3 2) (16 * r + n) (bI false))) 1 (upd (S3 1) r (nI (n + 1)))) := by
                refine ⟨hA3 5 (by decide), hA3 6 (by decide), fun i hi => hc3 i (by omega), fun i hi => ?_, fun i hi => ⟨?_, ?_⟩, fun i hi => ?_⟩
                · rw [sF_eq, pk_un hi, hA3 1 (by decide)]
                · show upd (S3 2) (16 * r + n) (bI false) i = S 2 i
                  rw [pk_un (by omega), hA3 2 (by decide)]
                · show S3 3 i = S 3 i
                  rw [hA3 3 (by decide)]
                · show S3 4 i = S 4 i
                  rw [hA3 4 (by decide)]
              obtain ⟨hm5a, -⟩ := id hS5
              refine V_aload_n C dX3_receive_226 rfl rfl ?_
              refine V_ofI (VR_V (As := []) (rest := []) C (ct_X3_settle l G b M5 a ad _ r (n + 1) (poA po n wl) (apA ap n) hS5 hme3 hV5 od hO5 (odok_add hok)) hm5a rfl (lw_V q903 q905 qs18 q46 q906) rfl nd_X3_settle rfl (by decide) (by decide) dX3_receive_227 rfl ⟨by decide, by decide⟩ (Nat.le_of_ble_eq_true rfl)) (fun y6 M6 hM6 => ?_)
              obtain ⟨hy, S6, hS6, hF6, hV6, hO6, hok6, hK6⟩ := hM6
              refine V_iret C dX3_receive_230 (by decide) (by decide) ⟨_, rfl, ?_⟩
              unfold RcvPost
              rw [hE]
              exact ⟨hy, S6, hS6, hF6.frR hF5, hV6, hO6, hok6, hK5.tr hK6⟩
            refine V_aload_n C dX3_receive_199 rfl rfl ?_
            refine V_get (C0 := RX3) (T := TX3) (N := 12) (ci := 3) C 2 in_X3 rfl hmva (by decide) q823 (fun _ h9 => h9) rfl dX3_receive_200 ?_
            refine V_bipush C 16 dX3_receive_203 (by decide) ?_
            refine V_iload_n C dX3_receive_205 rfl rfl ?_
            refine V_imul C dX3_receive_206 ?_
            refine V_top (y := (nI (16 * r))) (pk_mul 16 r) ?_
            refine V_aload_n C dX3_receive_207 rfl rfl ?_
            refine V_get (C0 := RX3) (T := TX3) (N := 12) (ci := 3) C 1 in_X3 rfl hmva (by decide) q822 (fun _ h9 => h9) rfl dX3_receive_208 ?_
            refine V_iload_n C dX3_receive_211 rfl rfl ?_
            refine V_iald C hmv1 (pk_in r 3 (by omega)) dX3_receive_212 ?_
            refine V_top (y := (nI n)) (by rw [nI_clamp (n := r) (by omega)]; exact h13) ?_
            refine V_iadd C dX3_receive_213 ?_
            refine V_top (y := (nI (16 * r + n))) (nI_add (16 * r) n) ?_
            refine V_iconst C 0 dX3_receive_214 (by decide) ?_
            refine V_M (V_zast C hmv2 (pk_in (16 * r + n) 48 (by omega)) dX3_receive_215) (fun M__12 eM__12 => ?_)
            rw [nI_clamp (n := 16 * r + n) (by omega), show vp_nar .boolean (0 : Int32) = (bI false) from by decide] at eM__12
            have h__13 := mp_got eM__12
            have h__14 := mp_keep eM__12 hmva hmv2 (by first | assumption | exact Ne.symm (by assumption) | simp | (intro h; simp at h; omega))
            have h__15 := mp_keep eM__12 hmv0 hmv2 (by first | assumption | exact Ne.symm (by assumption) | simp | (intro h; simp at h; omega))
            have h__16 := mp_keep eM__12 hmv1 hmv2 (by first | assumption | exact Ne.symm (by assumption) | simp | (intro h; simp at h; omega))
            have h__17 := mp_keep eM__12 hmv3 hmv2 (by first | assumption | exact Ne.symm (by assumption) | simp | (intro h; simp at h; omega))
            have h__18 := mp_keep eM__12 hmv4 hmv2 (by first | assumption | exact Ne.symm (by assumption) | simp | (intro h; simp at h; omega))
            have h__19 := mp_keep eM__12 hmv5 hmv2 (by first | assumption | exact Ne.symm (by assumption) | simp | (intro h; simp at h; omega))
            have h__20 := mp_keep eM__12 hmv8 hmv2 (by first | assumption | exact Ne.symm (by assumption) | simp | (intro h; simp at h; omega))
            have h__21 := mp_keep eM__12 hmv9 hmv2 (by first | assumption | exact Ne.symm (by assumption) | simp | (intro h; simp at h; omega))
            have h__22 := mp_keep eM__12 hmv10 hmv2 (by first | assumption | exact Ne.symm (by assumption) | simp | (intro h; simp at h; omega))
            have h__23 := mp_keep eM__12 hmv11 hmv2 (by first | assumption | exact Ne.symm (by assumption) | simp | (intro h; simp at h; omega))
            refine V_aload_n C dX3_receive_216 rfl rfl ?_
            refine V_get (C0 := RX3) (T := TX3) (N := 12) (ci := 3) C 1 in_X3 rfl h__14 (by decide) q822 (fun _ h9 => h9) rfl dX3_receive_217 ?_
            refine V_iload_n C dX3_receive_220 rfl rfl ?_
            refine V_dup2 C dX3_receive_221 rfl rfl ?_
            refine V_iald C h__16 (pk_in r 3 (by omega)) dX3_receive_222 ?_
            refine V_top (y := (nI n)) (by rw [nI_clamp (n := r) (by omega)]; exact h13) ?_
            refine V_iconst C 1 dX3_receive_223 (by decide) ?_
            refine V_iadd C dX3_receive_224 ?_
            refine V_top (y := (nI (n + 1))) (nI_add n 1) ?_
            refine V_M (V_iast C h__16 (pk_in r 3 (by omega)) dX3_receive_225) (fun M__24 eM__24 => ?_)
            rw [nI_clamp (n := r) (by omega)] at eM__24
            have h__25 := mp_got eM__24
            have h__26 := mp_keep eM__24 h__14 h__16 (by first | assumption | exact Ne.symm (by assumption) | simp | (intro h; simp at h; omega))
            have h__27 := mp_keep eM__24 h__15 h__16 (by first | assumption | exact Ne.symm (by assumption) | simp | (intro h; simp at h; omega))
            have h__28 := mp_keep eM__24 h__13 h__16 (by first | assumption | exact Ne.symm (by assumption) | simp | (intro h; simp at h; omega))
            have h__29 := mp_keep eM__24 h__17 h__16 (by first | assumption | exact Ne.symm (by assumption) | simp | (intro h; simp at h; omega))
            have h__30 := mp_keep eM__24 h__18 h__16 (by first | assumption | exact Ne.symm (by assumption) | simp | (intro h; simp at h; omega))
            have h__31 := mp_keep eM__24 h__19 h__16 (by first | assumption | exact Ne.symm (by assumption) | simp | (intro h; simp at h; omega))
            have h__32 := mp_keep eM__24 h__20 h__16 (by first | assumption | exact Ne.symm (by assumption) | simp | (intro h; simp at h; omega))
            have h__33 := mp_keep eM__24 h__21 h__16 (by first | assumption | exact Ne.symm (by assumption) | simp | (intro h; simp at h; omega))
            have h__34 := mp_keep eM__24 h__22 h__16 (by first | assumption | exact Ne.symm (by assumption) | simp | (intro h; simp at h; omega))
            have h__35 := mp_keep eM__24 h__23 h__16 (by first | assumption | exact Ne.symm (by assumption) | simp | (intro h; simp at h; omega))
            obtain ⟨hS4, hK4⟩ := md_f2 hS3 eM__12
            obtain ⟨hS5, hK5⟩ := md_f1 hS4 eM__24
            exact fin2 _ hS5 (hK3.tr (hK4.tr hK5))
          refine V_iload_n C dX3_receive_158 rfl rfl ?_
          refine V_aload_n C dX3_receive_159 rfl rfl ?_
          refine V_get (C0 := RX3) (T := TX3) (N := 12) (ci := 3) C 6 in_X3 rfl hmva (by decide) q827 (fun _ h9 => h9) rfl dX3_receive_160 ?_
          refine V_nicmp_ge (x := k) (y := mw) C 199 dX3_receive_163 (by decide) (by omega) (by omega) (fun q163 => ?_) (fun q163 => ?_)
          · exact fin (by omega)
          · refine V_aload_n C dX3_receive_166 rfl rfl ?_
            refine V_get (C0 := RX3) (T := TX3) (N := 12) (ci := 3) C 0 in_X3 rfl hmva (by decide) q821 (fun _ h9 => h9) rfl dX3_receive_167 ?_
            refine V_bipush C 12 dX3_receive_170 (by decide) ?_
            refine V_bipush C 16 dX3_receive_172 (by decide) ?_
            refine V_iload_n C dX3_receive_174 rfl rfl ?_
            refine V_imul C dX3_receive_175 ?_
            refine V_top (y := (nI (16 * r))) (pk_mul 16 r) ?_
            refine V_aload_n C dX3_receive_176 rfl rfl ?_
            refine V_get (C0 := RX3) (T := TX3) (N := 12) (ci := 3) C 1 in_X3 rfl hmva (by decide) q822 (fun _ h9 => h9) rfl dX3_receive_177 ?_
            refine V_iload_n C dX3_receive_180 rfl rfl ?_
            refine V_iald C hmv1 (pk_in r 3 (by omega)) dX3_receive_181 ?_
            refine V_top (y := (nI n)) (by rw [nI_clamp (n := r) (by omega)]; exact h13) ?_
            refine V_iadd C dX3_receive_182 ?_
            refine V_top (y := (nI (16 * r + n))) (nI_add (16 * r) n) ?_
            refine V_imul C dX3_receive_183 ?_
            refine V_top (y := (nI (12 * (16 * r + n)))) (pk_mul 12 (16 * r + n)) ?_
            refine V_iload_n C dX3_receive_184 rfl rfl ?_
            refine V_iadd C dX3_receive_185 ?_
            refine V_top (y := (nI (12 * (16 * r + n) + k))) (nI_add (12 * (16 * r + n)) k) ?_
            refine V_aload_n C dX3_receive_186 rfl rfl ?_
            refine V_get (C0 := RX3) (T := TX3) (N := 12) (ci := 3) C 5 in_X3 rfl hmva (by decide) q826 (fun _ h9 => h9) rfl dX3_receive_187 ?_
            refine V_iload_n C dX3_receive_190 rfl rfl ?_
            refine V_iald C hmv5 (pk_in k 16 (by omega)) dX3_receive_191 ?_
            refine V_top (y := (nI (wl k))) (by rw [nI_clamp (n := k) (by omega)]; exact (hL3.2.2.1 k (by omega))) ?_
            refine V_M (V_iast C hmv0 (pk_in (12 * (16 * r + n) + k) 576 (by omega)) dX3_receive_192) (fun M__36 eM__36 => ?_)
            rw [nI_clamp (n := 12 * (16 * r + n) + k) (by omega)] at eM__36
            have h__37 := mp_got eM__36
            have h__38 := mp_keep eM__36 hmva hmv0 (by first | assumption | exact Ne.symm (by assumption) | simp | (intro h; simp at h; omega))
            have h__39 := mp_keep eM__36 hmv1 hmv0 (by first | assumption | exact Ne.symm (by assumption) | simp | (intro h; simp at h; omega))
            have h__40 := mp_keep eM__36 hmv2 hmv0 (by first | assumption | exact Ne.symm (by assumption) | simp | (intro h; simp at h; omega))
            have h__41 := mp_keep eM__36 hmv3 hmv0 (by first | assumption | exact Ne.symm (by assumption) | simp | (intro h; simp at h; omega))
            have h__42 := mp_keep eM__36 hmv4 hmv0 (by first | assumption | exact Ne.symm (by assumption) | simp | (intro h; simp at h; omega))
            have h__43 := mp_keep eM__36 hmv5 hmv0 (by first | assumption | exact Ne.symm (by assumption) | simp | (intro h; simp at h; omega))
            have h__44 := mp_keep eM__36 hmv8 hmv0 (by first | assumption | exact Ne.symm (by assumption) | simp | (intro h; simp at h; omega))
            have h__45 := mp_keep eM__36 hmv9 hmv0 (by first | assumption | exact Ne.symm (by assumption) | simp | (intro h; simp at h; omega))
            have h__46 := mp_keep eM__36 hmv10 hmv0 (by first | assumption | exact Ne.symm (by assumption) | simp | (intro h; simp at h; omega))
            have h__47 := mp_keep eM__36 hmv11 hmv0 (by first | assumption | exact Ne.symm (by assumption) | simp | (intro h; simp at h; omega))
            refine V_iinc (v := (nI (k + 1))) (L' := [some (.ref a), some (.int (nI r)), none, some (.int (nI (k + 1)))]) C dX3_receive_193 rfl (nI_1 _) (by decide) rfl ?_
            refine V_goto C 158 dX3_receive_196 (by decide) ?_
            obtain ⟨hS4, hK4⟩ := md_f0 hS3 eM__36
            refine V_sub ?_ (ih (by omega) _ _ hS4 (hA3.tr (Ag.f (by decide))) hme3 (fun i hi => ?_) (fun i hi => ?_) (hK3.tr hK4))
            · repeat' (first | exact ls_e | refine ls_n ?_ | refine ls_s ?_ | refine ls_i ?_ ?_ | refine ls_v ?_ ?_)
            · rw [sF_eq]; unfold upd; split; (rename_i z; rw [show i = k by omega]); (rename_i z; exact hb3 i (by omega))
            · rw [sF_eq, pk_un (by omega)]; exact hc3 i hi
        refine V_sub ?_ (loop 0 (Nat.zero_le _) M1 _ hS1 (Ag.f (by decide)) rfl (fun i hi => absurd hi (Nat.not_lt_zero _)) (fun i hi => rfl) hK1)
        repeat' (first | exact ls_e | refine ls_n ?_ | refine ls_s ?_ | refine ls_i ?_ ?_ | refine ls_v ?_ ?_)
        all_goals rfl
      refine V_aload_n C dX3_receive_24 rfl rfl ?_
      refine V_aload_n C dX3_receive_25 rfl rfl ?_
      refine V_get (C0 := RX3) (T := TX3) (N := 12) (ci := 3) C 5 in_X3 rfl hmua (by decide) q826 (fun _ h9 => h9) rfl dX3_receive_26 ?_
      refine V_iconst C 0 dX3_receive_29 (by decide) ?_
      refine V_iald C hmu5 (pk_in 0 16 (by omega)) dX3_receive_30 ?_
      refine V_top (y := (nI (wl 0))) (by rw [show (0 : Int32).toNatClampNeg = 0 from by decide]; exact (hL1.2.2.1 0 (by omega))) ?_
      refine V_iconst C 0 dX3_receive_31 (by decide) ?_
      refine V_ofIe (VR_V (As := [.int (nI (wl 0)), .int 0]) (rest := []) C (ct_X3_find l G b M1 a ad _ r n po ap hS1 hme1 hV1 (nI (wl 0)) false) hmua rfl (lw_V q883 q885 qs13 q46 q886) rfl nd_X3_find rfl (by decide) (by decide) dX3_receive_32 rfl ⟨by decide, by decide⟩ (Nat.le_of_ble_eq_true rfl)) ?_
      rcases o32 : mfind n po ap (nI (wl 0)) false with _ | j32
      · refine V_top (y := -1) rfl ?_
        refine V_istore_n (L' := [some (.ref a), some (.int (nI r)), some (.int (-1)), none]) C dX3_receive_35 rfl (by decide) rfl ?_
        refine V_iload_n C dX3_receive_36 rfl rfl ?_
        refine V_if_lt C 56 dX3_receive_37 (by decide) (fun _ => ?_) (fun h => absurd (by decide) h)
        refine V_aload_n C dX3_receive_56 rfl rfl ?_
        refine V_get (C0 := RX3) (T := TX3) (N := 12) (ci := 3) C 5 in_X3 rfl hmua (by decide) q826 (fun _ h9 => h9) rfl dX3_receive_57 ?_
        refine V_iconst C 0 dX3_receive_60 (by decide) ?_
        refine V_iald C hmu5 (pk_in 0 16 (by omega)) dX3_receive_61 ?_
        refine V_top (y := (nI (wl 0))) (by rw [show (0 : Int32).toNatClampNeg = 0 from by decide]; exact (hL1.2.2.1 0 (by omega))) ?_
        refine V_iconst C 4 dX3_receive_62 (by decide) ?_
        refine V_irem C dX3_receive_63 (by decide) ?_
        refine V_top (y := (nI ((wl 0) % 4))) (pk_rem (a := wl 0) (d := 4) (by omega) (by decide) (by decide)) ?_
        refine V_iload_n C dX3_receive_64 rfl rfl ?_
        refine V_nicmp_ne (x := (wl 0) % 4) (y := r) C 71 dX3_receive_65 (by decide) (by omega) (by omega) (fun q65 => ?_) (fun q65 => ?_)
        · refine V_aload_n C dX3_receive_71 rfl rfl ?_
          refine V_aload_n C dX3_receive_72 rfl rfl ?_
          refine V_get (C0 := RX3) (T := TX3) (N := 12) (ci := 3) C 5 in_X3 rfl hmua (by decide) q826 (fun _ h9 => h9) rfl dX3_receive_73 ?_
          refine V_iconst C 2 dX3_receive_76 (by decide) ?_
          refine V_iald C hmu5 (pk_in 2 16 (by omega)) dX3_receive_77 ?_
          refine V_top (y := (nI (wl 2))) (by rw [show (2 : Int32).toNatClampNeg = 2 from by decide]; exact (hL1.2.2.1 2 (by omega))) ?_
          refine V_ofIe (VR_V (As := [.int (nI (wl 2))]) (rest := []) C (ct_X3_says l G b M1 a ad _ hS1 mw wl hL1 h6 (nI (wl 2))) hmua rfl (lw_V q942 q944 qs22 q46 q945) rfl nd_X3_says rfl (by decide) (by decide) dX3_receive_78 rfl ⟨by decide, by decide⟩ (Nat.le_of_ble_eq_true rfl)) ?_
          refine V_ifb_eq C 107 dX3_receive_81 (by decide) (fun q81 => ?_) (fun q81 => ?_)
          · refine V_bipush C (-5) dX3_receive_107 (by decide) ?_
            exact V_iret C dX3_receive_109 (by decide) (by decide) ⟨_, rfl, rcv_some (by unfold rcvE; rw [if_neg (bne hwf), o32]; dsimp only; (try rw [if_pos q45]); (try rw [if_neg (bne2 q45)]); (try rw [if_pos q65]); (try rw [if_neg q65]); (try rw [if_pos q81]); (try rw [if_neg (bne q81)]); (try rw [if_pos (And.intro q91 q104)]); (try rw [if_neg (and_no1 q91)]); (try rw [if_neg (and_no2 (bne q104))]); (try rw [if_neg (and_no1 (Nat.not_lt.mpr q116))]); (try rw [if_neg (and_no2 (Nat.not_le.mpr q136))]); (try rw [if_pos (And.intro q116 q136)]); (try rw [if_neg (Nat.not_le.mpr q150)]); (try rw [if_pos q150])) ⟨_, hS1, Ag.f (by decide), hK1⟩⟩
          · refine V_aload_n C dX3_receive_84 rfl rfl ?_
            refine V_get (C0 := RX3) (T := TX3) (N := 12) (ci := 3) C 5 in_X3 rfl hmua (by decide) q826 (fun _ h9 => h9) rfl dX3_receive_85 ?_
            refine V_iconst C 1 dX3_receive_88 (by decide) ?_
            refine V_iald C hmu5 (pk_in 1 16 (by omega)) dX3_receive_89 ?_
            refine V_top (y := (nI (wl 1))) (by rw [show (1 : Int32).toNatClampNeg = 1 from by decide]; exact (hL1.2.2.1 1 (by omega))) ?_
            refine V_iconst C 3 dX3_receive_90 (by decide) ?_
            refine V_nicmp_ne (x := wl 1) (y := 3) C 110 dX3_receive_91 (by decide) (by omega) (by omega) (fun q91 => ?_) (fun q91 => ?_)
            · refine V_aload_n C dX3_receive_110 rfl rfl ?_
              refine V_get (C0 := RX3) (T := TX3) (N := 12) (ci := 3) C 6 in_X3 rfl hmua (by decide) q827 (fun _ h9 => h9) rfl dX3_receive_111 ?_
              refine V_bipush C 6 dX3_receive_114 (by decide) ?_
              refine V_nicmp_le (x := mw) (y := 6) C 142 dX3_receive_116 (by decide) (by omega) (by omega) (fun q116 => ?_) (fun q116 => ?_)
              · refine V_aload_n C dX3_receive_142 rfl rfl ?_
                refine V_get (C0 := RX3) (T := TX3) (N := 12) (ci := 3) C 1 in_X3 rfl hmua (by decide) q822 (fun _ h9 => h9) rfl dX3_receive_143 ?_
                refine V_iload_n C dX3_receive_146 rfl rfl ?_
                refine V_iald C hmu1 (pk_in r 3 (by omega)) dX3_receive_147 ?_
                refine V_top (y := (nI n)) (by rw [nI_clamp (n := r) (by omega)]; exact hV1.2.2.1) ?_
                refine V_bipush C 16 dX3_receive_148 (by decide) ?_
                refine V_nicmp_lt (x := n) (y := 16) C 156 dX3_receive_150 (by decide) (by omega) (by omega) (fun q150 => ?_) (fun q150 => ?_)
                · refine V_iconst C 0 dX3_receive_156 (by decide) ?_
                  refine V_istore_n (L' := [some (.ref a), some (.int (nI r)), some (.int (-1)), some (.int 0)]) C dX3_receive_157 rfl (by decide) rfl ?_
                  exact rest (by unfold rcvE; rw [if_neg (bne hwf), o32]; dsimp only; (try rw [if_pos q45]); (try rw [if_neg (bne2 q45)]); (try rw [if_pos q65]); (try rw [if_neg q65]); (try rw [if_pos q81]); (try rw [if_neg (bne q81)]); (try rw [if_pos (And.intro q91 q104)]); (try rw [if_neg (and_no1 q91)]); (try rw [if_neg (and_no2 (bne q104))]); (try rw [if_neg (and_no1 (Nat.not_lt.mpr q116))]); (try rw [if_neg (and_no2 (Nat.not_le.mpr q136))]); (try rw [if_pos (And.intro q116 q136)]); (try rw [if_neg (Nat.not_le.mpr q150)]); (try rw [if_pos q150])) (by omega)
                · refine V_bipush C (-7) dX3_receive_153 (by decide) ?_
                  exact V_iret C dX3_receive_155 (by decide) (by decide) ⟨_, rfl, rcv_some (by unfold rcvE; rw [if_neg (bne hwf), o32]; dsimp only; (try rw [if_pos q45]); (try rw [if_neg (bne2 q45)]); (try rw [if_pos q65]); (try rw [if_neg q65]); (try rw [if_pos q81]); (try rw [if_neg (bne q81)]); (try rw [if_pos (And.intro q91 q104)]); (try rw [if_neg (and_no1 q91)]); (try rw [if_neg (and_no2 (bne q104))]); (try rw [if_neg (and_no1 (Nat.not_lt.mpr q116))]); (try rw [if_neg (and_no2 (Nat.not_le.mpr q136))]); (try rw [if_pos (And.intro q116 q136)]); (try rw [if_neg (Nat.not_le.mpr q150)]); (try rw [if_pos q150])) ⟨_, hS1, Ag.f (by decide), hK1⟩⟩
              · refine V_aload_n C dX3_receive_119 rfl rfl ?_
                refine V_get (C0 := RX3) (T := TX3) (N := 12) (ci := 3) C 5 in_X3 rfl hmua (by decide) q826 (fun _ h9 => h9) rfl dX3_receive_120 ?_
                refine V_aload_n C dX3_receive_123 rfl rfl ?_
                refine V_get (C0 := RX3) (T := TX3) (N := 12) (ci := 3) C 6 in_X3 rfl hmua (by decide) q827 (fun _ h9 => h9) rfl dX3_receive_124 ?_
                refine V_iconst C 1 dX3_receive_127 (by decide) ?_
                refine V_isub C dX3_receive_128 ?_
                refine V_top (y := (nI (mw - 1))) (pk_sub (a := mw) (b := 1) (by omega)) ?_
                refine V_iald C hmu5 (pk_in (mw - 1) 16 (by omega)) dX3_receive_129 ?_
                refine V_top (y := (nI (wl (mw - 1)))) (by rw [nI_clamp (n := mw - 1) (by omega)]; exact (hL1.2.2.1 (mw - 1) (by omega))) ?_
                refine V_aload_n C dX3_receive_130 rfl rfl ?_
                refine V_get (C0 := RX3) (T := TX3) (N := 12) (ci := 3) C 5 in_X3 rfl hmua (by decide) q826 (fun _ h9 => h9) rfl dX3_receive_131 ?_
                refine V_iconst C 0 dX3_receive_134 (by decide) ?_
                refine V_iald C hmu5 (pk_in 0 16 (by omega)) dX3_receive_135 ?_
                refine V_top (y := (nI (wl 0))) (by rw [show (0 : Int32).toNatClampNeg = 0 from by decide]; exact (hL1.2.2.1 0 (by omega))) ?_
                refine V_nicmp_lt (x := wl (mw - 1)) (y := wl 0) C 142 dX3_receive_136 (by decide) (by omega) (by omega) (fun q136 => ?_) (fun q136 => ?_)
                · refine V_aload_n C dX3_receive_142 rfl rfl ?_
                  refine V_get (C0 := RX3) (T := TX3) (N := 12) (ci := 3) C 1 in_X3 rfl hmua (by decide) q822 (fun _ h9 => h9) rfl dX3_receive_143 ?_
                  refine V_iload_n C dX3_receive_146 rfl rfl ?_
                  refine V_iald C hmu1 (pk_in r 3 (by omega)) dX3_receive_147 ?_
                  refine V_top (y := (nI n)) (by rw [nI_clamp (n := r) (by omega)]; exact hV1.2.2.1) ?_
                  refine V_bipush C 16 dX3_receive_148 (by decide) ?_
                  refine V_nicmp_lt (x := n) (y := 16) C 156 dX3_receive_150 (by decide) (by omega) (by omega) (fun q150 => ?_) (fun q150 => ?_)
                  · refine V_iconst C 0 dX3_receive_156 (by decide) ?_
                    refine V_istore_n (L' := [some (.ref a), some (.int (nI r)), some (.int (-1)), some (.int 0)]) C dX3_receive_157 rfl (by decide) rfl ?_
                    exact rest (by unfold rcvE; rw [if_neg (bne hwf), o32]; dsimp only; (try rw [if_pos q45]); (try rw [if_neg (bne2 q45)]); (try rw [if_pos q65]); (try rw [if_neg q65]); (try rw [if_pos q81]); (try rw [if_neg (bne q81)]); (try rw [if_pos (And.intro q91 q104)]); (try rw [if_neg (and_no1 q91)]); (try rw [if_neg (and_no2 (bne q104))]); (try rw [if_neg (and_no1 (Nat.not_lt.mpr q116))]); (try rw [if_neg (and_no2 (Nat.not_le.mpr q136))]); (try rw [if_pos (And.intro q116 q136)]); (try rw [if_neg (Nat.not_le.mpr q150)]); (try rw [if_pos q150])) (by omega)
                  · refine V_bipush C (-7) dX3_receive_153 (by decide) ?_
                    exact V_iret C dX3_receive_155 (by decide) (by decide) ⟨_, rfl, rcv_some (by unfold rcvE; rw [if_neg (bne hwf), o32]; dsimp only; (try rw [if_pos q45]); (try rw [if_neg (bne2 q45)]); (try rw [if_pos q65]); (try rw [if_neg q65]); (try rw [if_pos q81]); (try rw [if_neg (bne q81)]); (try rw [if_pos (And.intro q91 q104)]); (try rw [if_neg (and_no1 q91)]); (try rw [if_neg (and_no2 (bne q104))]); (try rw [if_neg (and_no1 (Nat.not_lt.mpr q116))]); (try rw [if_neg (and_no2 (Nat.not_le.mpr q136))]); (try rw [if_pos (And.intro q116 q136)]); (try rw [if_neg (Nat.not_le.mpr q150)]); (try rw [if_pos q150])) ⟨_, hS1, Ag.f (by decide), hK1⟩⟩
                · refine V_bipush C (-6) dX3_receive_139 (by decide) ?_
                  exact V_iret C dX3_receive_141 (by decide) (by decide) ⟨_, rfl, rcv_some (by unfold rcvE; rw [if_neg (bne hwf), o32]; dsimp only; (try rw [if_pos q45]); (try rw [if_neg (bne2 q45)]); (try rw [if_pos q65]); (try rw [if_neg q65]); (try rw [if_pos q81]); (try rw [if_neg (bne q81)]); (try rw [if_pos (And.intro q91 q104)]); (try rw [if_neg (and_no1 q91)]); (try rw [if_neg (and_no2 (bne q104))]); (try rw [if_neg (and_no1 (Nat.not_lt.mpr q116))]); (try rw [if_neg (and_no2 (Nat.not_le.mpr q136))]); (try rw [if_pos (And.intro q116 q136)]); (try rw [if_neg (Nat.not_le.mpr q150)]); (try rw [if_pos q150])) ⟨_, hS1, Ag.f (by decide), hK1⟩⟩
            · refine V_aload_n C dX3_receive_94 rfl rfl ?_
              refine V_aload_n C dX3_receive_95 rfl rfl ?_
              refine V_get (C0 := RX3) (T := TX3) (N := 12) (ci := 3) C 5 in_X3 rfl hmua (by decide) q826 (fun _ h9 => h9) rfl dX3_receive_96 ?_
              refine V_iconst C 3 dX3_receive_99 (by decide) ?_
              refine V_iald C hmu5 (pk_in 3 16 (by omega)) dX3_receive_100 ?_
              refine V_top (y := (nI (wl 3))) (by rw [show (3 : Int32).toNatClampNeg = 3 from by decide]; exact (hL1.2.2.1 3 (by omega))) ?_
              refine V_ofIe (VR_V (As := [.int (nI (wl 3))]) (rest := []) C (ct_X3_says l G b M1 a ad _ hS1 mw wl hL1 h6 (nI (wl 3))) hmua rfl (lw_V q942 q944 qs22 q46 q945) rfl nd_X3_says rfl (by decide) (by decide) dX3_receive_101 rfl ⟨by decide, by decide⟩ (Nat.le_of_ble_eq_true rfl)) ?_
              refine V_ifb_ne C 110 dX3_receive_104 (by decide) (fun q104 => ?_) (fun q104 => ?_)
              · refine V_aload_n C dX3_receive_110 rfl rfl ?_
                refine V_get (C0 := RX3) (T := TX3) (N := 12) (ci := 3) C 6 in_X3 rfl hmua (by decide) q827 (fun _ h9 => h9) rfl dX3_receive_111 ?_
                refine V_bipush C 6 dX3_receive_114 (by decide) ?_
                refine V_nicmp_le (x := mw) (y := 6) C 142 dX3_receive_116 (by decide) (by omega) (by omega) (fun q116 => ?_) (fun q116 => ?_)
                · refine V_aload_n C dX3_receive_142 rfl rfl ?_
                  refine V_get (C0 := RX3) (T := TX3) (N := 12) (ci := 3) C 1 in_X3 rfl hmua (by decide) q822 (fun _ h9 => h9) rfl dX3_receive_143 ?_
                  refine V_iload_n C dX3_receive_146 rfl rfl ?_
                  refine V_iald C hmu1 (pk_in r 3 (by omega)) dX3_receive_147 ?_
                  refine V_top (y := (nI n)) (by rw [nI_clamp (n := r) (by omega)]; exact hV1.2.2.1) ?_
                  refine V_bipush C 16 dX3_receive_148 (by decide) ?_
                  refine V_nicmp_lt (x := n) (y := 16) C 156 dX3_receive_150 (by decide) (by omega) (by omega) (fun q150 => ?_) (fun q150 => ?_)
                  · refine V_iconst C 0 dX3_receive_156 (by decide) ?_
                    refine V_istore_n (L' := [some (.ref a), some (.int (nI r)), some (.int (-1)), some (.int 0)]) C dX3_receive_157 rfl (by decide) rfl ?_
                    exact rest (by unfold rcvE; rw [if_neg (bne hwf), o32]; dsimp only; (try rw [if_pos q45]); (try rw [if_neg (bne2 q45)]); (try rw [if_pos q65]); (try rw [if_neg q65]); (try rw [if_pos q81]); (try rw [if_neg (bne q81)]); (try rw [if_pos (And.intro q91 q104)]); (try rw [if_neg (and_no1 q91)]); (try rw [if_neg (and_no2 (bne q104))]); (try rw [if_neg (and_no1 (Nat.not_lt.mpr q116))]); (try rw [if_neg (and_no2 (Nat.not_le.mpr q136))]); (try rw [if_pos (And.intro q116 q136)]); (try rw [if_neg (Nat.not_le.mpr q150)]); (try rw [if_pos q150])) (by omega)
                  · refine V_bipush C (-7) dX3_receive_153 (by decide) ?_
                    exact V_iret C dX3_receive_155 (by decide) (by decide) ⟨_, rfl, rcv_some (by unfold rcvE; rw [if_neg (bne hwf), o32]; dsimp only; (try rw [if_pos q45]); (try rw [if_neg (bne2 q45)]); (try rw [if_pos q65]); (try rw [if_neg q65]); (try rw [if_pos q81]); (try rw [if_neg (bne q81)]); (try rw [if_pos (And.intro q91 q104)]); (try rw [if_neg (and_no1 q91)]); (try rw [if_neg (and_no2 (bne q104))]); (try rw [if_neg (and_no1 (Nat.not_lt.mpr q116))]); (try rw [if_neg (and_no2 (Nat.not_le.mpr q136))]); (try rw [if_pos (And.intro q116 q136)]); (try rw [if_neg (Nat.not_le.mpr q150)]); (try rw [if_pos q150])) ⟨_, hS1, Ag.f (by decide), hK1⟩⟩
                · refine V_aload_n C dX3_receive_119 rfl rfl ?_
                  refine V_get (C0 := RX3) (T := TX3) (N := 12) (ci := 3) C 5 in_X3 rfl hmua (by decide) q826 (fun _ h9 => h9) rfl dX3_receive_120 ?_
                  refine V_aload_n C dX3_receive_123 rfl rfl ?_
                  refine V_get (C0 := RX3) (T := TX3) (N := 12) (ci := 3) C 6 in_X3 rfl hmua (by decide) q827 (fun _ h9 => h9) rfl dX3_receive_124 ?_
                  refine V_iconst C 1 dX3_receive_127 (by decide) ?_
                  refine V_isub C dX3_receive_128 ?_
                  refine V_top (y := (nI (mw - 1))) (pk_sub (a := mw) (b := 1) (by omega)) ?_
                  refine V_iald C hmu5 (pk_in (mw - 1) 16 (by omega)) dX3_receive_129 ?_
                  refine V_top (y := (nI (wl (mw - 1)))) (by rw [nI_clamp (n := mw - 1) (by omega)]; exact (hL1.2.2.1 (mw - 1) (by omega))) ?_
                  refine V_aload_n C dX3_receive_130 rfl rfl ?_
                  refine V_get (C0 := RX3) (T := TX3) (N := 12) (ci := 3) C 5 in_X3 rfl hmua (by decide) q826 (fun _ h9 => h9) rfl dX3_receive_131 ?_
                  refine V_iconst C 0 dX3_receive_134 (by decide) ?_
                  refine V_iald C hmu5 (pk_in 0 16 (by omega)) dX3_receive_135 ?_
                  refine V_top (y := (nI (wl 0))) (by rw [show (0 : Int32).toNatClampNeg = 0 from by decide]; exact (hL1.2.2.1 0 (by omega))) ?_
                  refine V_nicmp_lt (x := wl (mw - 1)) (y := wl 0) C 142 dX3_receive_136 (by decide) (by omega) (by omega) (fun q136 => ?_) (fun q136 => ?_)
                  · refine V_aload_n C dX3_receive_142 rfl rfl ?_
                    refine V_get (C0 := RX3) (T := TX3) (N := 12) (ci := 3) C 1 in_X3 rfl hmua (by decide) q822 (fun _ h9 => h9) rfl dX3_receive_143 ?_
                    refine V_iload_n C dX3_receive_146 rfl rfl ?_
                    refine V_iald C hmu1 (pk_in r 3 (by omega)) dX3_receive_147 ?_
                    refine V_top (y := (nI n)) (by rw [nI_clamp (n := r) (by omega)]; exact hV1.2.2.1) ?_
                    refine V_bipush C 16 dX3_receive_148 (by decide) ?_
                    refine V_nicmp_lt (x := n) (y := 16) C 156 dX3_receive_150 (by decide) (by omega) (by omega) (fun q150 => ?_) (fun q150 => ?_)
                    · refine V_iconst C 0 dX3_receive_156 (by decide) ?_
                      refine V_istore_n (L' := [some (.ref a), some (.int (nI r)), some (.int (-1)), some (.int 0)]) C dX3_receive_157 rfl (by decide) rfl ?_
                      exact rest (by unfold rcvE; rw [if_neg (bne hwf), o32]; dsimp only; (try rw [if_pos q45]); (try rw [if_neg (bne2 q45)]); (try rw [if_pos q65]); (try rw [if_neg q65]); (try rw [if_pos q81]); (try rw [if_neg (bne q81)]); (try rw [if_pos (And.intro q91 q104)]); (try rw [if_neg (and_no1 q91)]); (try rw [if_neg (and_no2 (bne q104))]); (try rw [if_neg (and_no1 (Nat.not_lt.mpr q116))]); (try rw [if_neg (and_no2 (Nat.not_le.mpr q136))]); (try rw [if_pos (And.intro q116 q136)]); (try rw [if_neg (Nat.not_le.mpr q150)]); (try rw [if_pos q150])) (by omega)
                    · refine V_bipush C (-7) dX3_receive_153 (by decide) ?_
                      exact V_iret C dX3_receive_155 (by decide) (by decide) ⟨_, rfl, rcv_some (by unfold rcvE; rw [if_neg (bne hwf), o32]; dsimp only; (try rw [if_pos q45]); (try rw [if_neg (bne2 q45)]); (try rw [if_pos q65]); (try rw [if_neg q65]); (try rw [if_pos q81]); (try rw [if_neg (bne q81)]); (try rw [if_pos (And.intro q91 q104)]); (try rw [if_neg (and_no1 q91)]); (try rw [if_neg (and_no2 (bne q104))]); (try rw [if_neg (and_no1 (Nat.not_lt.mpr q116))]); (try rw [if_neg (and_no2 (Nat.not_le.mpr q136))]); (try rw [if_pos (And.intro q116 q136)]); (try rw [if_neg (Nat.not_le.mpr q150)]); (try rw [if_pos q150])) ⟨_, hS1, Ag.f (by decide), hK1⟩⟩
                  · refine V_bipush C (-6) dX3_receive_139 (by decide) ?_
                    exact V_iret C dX3_receive_141 (by decide) (by decide) ⟨_, rfl, rcv_some (by unfold rcvE; rw [if_neg (bne hwf), o32]; dsimp only; (try rw [if_pos q45]); (try rw [if_neg (bne2 q45)]); (try rw [if_pos q65]); (try rw [if_neg q65]); (try rw [if_pos q81]); (try rw [if_neg (bne q81)]); (try rw [if_pos (And.intro q91 q104)]); (try rw [if_neg (and_no1 q91)]); (try rw [if_neg (and_no2 (bne q104))]); (try rw [if_neg (and_no1 (Nat.not_lt.mpr q116))]); (try rw [if_neg (and_no2 (Nat.not_le.mpr q136))]); (try rw [if_pos (And.intro q116 q136)]); (try rw [if_neg (Nat.not_le.mpr q150)]); (try rw [if_pos q150])) ⟨_, hS1, Ag.f (by decide), hK1⟩⟩
              · refine V_bipush C (-5) dX3_receive_107 (by decide) ?_
                exact V_iret C dX3_receive_109 (by decide) (by decide) ⟨_, rfl, rcv_some (by unfold rcvE; rw [if_neg (bne hwf), o32]; dsimp only; (try rw [if_pos q45]); (try rw [if_neg (bne2 q45)]); (try rw [if_pos q65]); (try rw [if_neg q65]); (try rw [if_pos q81]); (try rw [if_neg (bne q81)]); (try rw [if_pos (And.intro q91 q104)]); (try rw [if_neg (and_no1 q91)]); (try rw [if_neg (and_no2 (bne q104))]); (try rw [if_neg (and_no1 (Nat.not_lt.mpr q116))]); (try rw [if_neg (and_no2 (Nat.not_le.mpr q136))]); (try rw [if_pos (And.intro q116 q136)]); (try rw [if_neg (Nat.not_le.mpr q150)]); (try rw [if_pos q150])) ⟨_, hS1, Ag.f (by decide), hK1⟩⟩
        · refine V_bipush C (-4) dX3_receive_68 (by decide) ?_
          exact V_iret C dX3_receive_70 (by decide) (by decide) ⟨_, rfl, rcv_some (by unfold rcvE; rw [if_neg (bne hwf), o32]; dsimp only; (try rw [if_pos q45]); (try rw [if_neg (bne2 q45)]); (try rw [if_pos q65]); (try rw [if_neg q65]); (try rw [if_pos q81]); (try rw [if_neg (bne q81)]); (try rw [if_pos (And.intro q91 q104)]); (try rw [if_neg (and_no1 q91)]); (try rw [if_neg (and_no2 (bne q104))]); (try rw [if_neg (and_no1 (Nat.not_lt.mpr q116))]); (try rw [if_neg (and_no2 (Nat.not_le.mpr q136))]); (try rw [if_pos (And.intro q116 q136)]); (try rw [if_neg (Nat.not_le.mpr q150)]); (try rw [if_pos q150])) ⟨_, hS1, Ag.f (by decide), hK1⟩⟩
      · have hj32 := (lastI_some o32).1
        have hk32 := hV.2.2.2.2.1 j32 hj32
        refine V_top (y := nI j32) rfl ?_
        refine V_istore_n (L' := [some (.ref a), some (.int (nI r)), some (.int (nI j32)), none]) C dX3_receive_35 rfl (by decide) rfl ?_
        refine V_iload_n C dX3_receive_36 rfl rfl ?_
        refine V_if_lt C 56 dX3_receive_37 (by decide) (fun h => absurd h (nI_pos (n := j32) (by omega))) (fun _ => ?_)
        refine V_aload_n C dX3_receive_40 rfl rfl ?_
        refine V_iload_n C dX3_receive_41 rfl rfl ?_
        refine V_ofIe (VR_V (As := [.int (nI j32)]) (rest := []) C (ct_X3_sameAsLine l G b M1 a ad _ r n po ap hS1 hme1 hV1 mw wl hL1 hmw j32 (by omega)) hmua rfl (lw_V q938 q940 qs21 q46 q941) rfl nd_X3_sameAsLine rfl (by decide) (by decide) dX3_receive_42 rfl ⟨by decide, by decide⟩ (Nat.le_of_ble_eq_true rfl)) ?_
        refine V_ifb_eq C 53 dX3_receive_45 (by decide) (fun q45 => ?_) (fun q45 => ?_)
        · refine V_bipush C (-3) dX3_receive_53 (by decide) ?_
          exact V_iret C dX3_receive_55 (by decide) (by decide) ⟨_, rfl, rcv_some (by unfold rcvE; rw [if_neg (bne hwf), o32]; dsimp only; (try rw [if_pos q45]); (try rw [if_neg (bne2 q45)]); (try rw [if_pos q65]); (try rw [if_neg q65]); (try rw [if_pos q81]); (try rw [if_neg (bne q81)]); (try rw [if_pos (And.intro q91 q104)]); (try rw [if_neg (and_no1 q91)]); (try rw [if_neg (and_no2 (bne q104))]); (try rw [if_neg (and_no1 (Nat.not_lt.mpr q116))]); (try rw [if_neg (and_no2 (Nat.not_le.mpr q136))]); (try rw [if_pos (And.intro q116 q136)]); (try rw [if_neg (Nat.not_le.mpr q150)]); (try rw [if_pos q150])) ⟨_, hS1, Ag.f (by decide), hK1⟩⟩
        · refine V_bipush C (-8) dX3_receive_48 (by decide) ?_
          refine V_goto C 55 dX3_receive_50 (by decide) ?_
          exact V_iret C dX3_receive_55 (by decide) (by decide) ⟨_, rfl, rcv_some (by unfold rcvE; rw [if_neg (bne hwf), o32]; dsimp only; (try rw [if_pos q45]); (try rw [if_neg (bne2 q45)]); (try rw [if_pos q65]); (try rw [if_neg q65]); (try rw [if_pos q81]); (try rw [if_neg (bne q81)]); (try rw [if_pos (And.intro q91 q104)]); (try rw [if_neg (and_no1 q91)]); (try rw [if_neg (and_no2 (bne q104))]); (try rw [if_neg (and_no1 (Nat.not_lt.mpr q116))]); (try rw [if_neg (and_no2 (Nat.not_le.mpr q136))]); (try rw [if_pos (And.intro q116 q136)]); (try rw [if_neg (Nat.not_le.mpr q150)]); (try rw [if_pos q150])) ⟨_, hS1, Ag.f (by decide), hK1⟩⟩
    · skip
      refine V_bipush C (-2) dX3_receive_16 (by decide) ?_
      refine V_iret C dX3_receive_18 (by decide) (by decide) ⟨_, rfl, rcv_some (by unfold rcvE; rw [if_pos hwf]) ⟨S, hS, Ag.rf, Keep.rf⟩⟩
  · exact absurd (isRep_t hr) (by rw [h]; decide)

