set_option maxRecDepth 100000
/-! THE MODEL, E: apply, settle -/
def apS (S : Nat → Nat → Int32) (r j ln : Nat) : Nat → Nat → Int32 := sF (sF (sF S 2 (upd (S 2) (16 * r + j) (bI true))) 3 (upd (S 3) (16 * r + ln) (nI j))) 4 (upd (S 4) r (nI (ln + 1)))
theorem ct_X3_apply (l : Launch) (G : mp_G) (b : Nat) (M : mp_M) (a : Nat) (ad : Nat → Nat) (S : Nat → Nat → Int32) (r j ln : Nat) (hS : MdAt G M a ad S) (hme : S 7 0 = nI r) (hr : r ≤ 2) (h4 : S 4 r = nI ln) (hln : ln < 16) (hj : j < 16) : Ct l yX3_apply cX3_apply 2 (none) 0 0 0 G b ([.ref a, .int (nI j)] : List Value) M (pV (fun M1 => MdAt G M1 a ad (apS S r j ln) ∧ KeepG 9 M M1)) := by
  refine Ct.ofV (by decide) (vc_ref (vc_int vc_nil)) (Nat.le_of_ble_eq_true rfl) ?_
  intro p e s m below meth c C hnm
  refine V_L (L1 := [some (.ref a), some (.int (nI j))]) rfl ?_
  obtain ⟨hma, hm0, hm1, hm2, hm3, hm4, hm5, hm8, hm9, hm10, hm11⟩ := id hS
  rw [hme] at hma
  refine V_aload_n C dX3_apply_0 rfl rfl ?_
  refine V_get (C0 := RX3) (T := TX3) (N := 12) (ci := 3) C 2 in_X3 rfl hma (by decide) q823 (fun _ h9 => h9) rfl dX3_apply_1 ?_
  refine V_bipush C 16 dX3_apply_4 (by decide) ?_
  refine V_aload_n C dX3_apply_6 rfl rfl ?_
  refine V_get (C0 := RX3) (T := TX3) (N := 12) (ci := 3) C 7 in_X3 rfl hma (by decide) q828 (fun _ h9 => h9) rfl dX3_apply_7 ?_
  refine V_imul C dX3_apply_10 ?_
  refine V_top (y := (nI (16 * r))) (pk_mul 16 r) ?_
  refine V_iload_n C dX3_apply_11 rfl rfl ?_
  refine V_iadd C dX3_apply_12 ?_
  refine V_top (y := (nI (16 * r + j))) (nI_add (16 * r) j) ?_
  refine V_iconst C 1 dX3_apply_13 (by decide) ?_
  refine V_M (V_zast C hm2 (pk_in (16 * r + j) 48 (by omega)) dX3_apply_14) (fun M__1 eM__1 => ?_)
  rw [nI_clamp (n := 16 * r + j) (by omega), show vp_nar .boolean (1 : Int32) = (bI true) from by decide] at eM__1
  have h__2 := mp_got eM__1
  have h__3 := mp_keep eM__1 hma hm2 (by first | assumption | exact Ne.symm (by assumption) | simp | (intro h; simp at h; omega))
  have h__4 := mp_keep eM__1 hm0 hm2 (by first | assumption | exact Ne.symm (by assumption) | simp | (intro h; simp at h; omega))
  have h__5 := mp_keep eM__1 hm1 hm2 (by first | assumption | exact Ne.symm (by assumption) | simp | (intro h; simp at h; omega))
  have h__6 := mp_keep eM__1 hm3 hm2 (by first | assumption | exact Ne.symm (by assumption) | simp | (intro h; simp at h; omega))
  have h__7 := mp_keep eM__1 hm4 hm2 (by first | assumption | exact Ne.symm (by assumption) | simp | (intro h; simp at h; omega))
  have h__8 := mp_keep eM__1 hm5 hm2 (by first | assumption | exact Ne.symm (by assumption) | simp | (intro h; simp at h; omega))
  have h__9 := mp_keep eM__1 hm8 hm2 (by first | assumption | exact Ne.symm (by assumption) | simp | (intro h; simp at h; omega))
  have h__10 := mp_keep eM__1 hm9 hm2 (by first | assumption | exact Ne.symm (by assumption) | simp | (intro h; simp at h; omega))
  have h__11 := mp_keep eM__1 hm10 hm2 (by first | assumption | exact Ne.symm (by assumption) | simp | (intro h; simp at h; omega))
  have h__12 := mp_keep eM__1 hm11 hm2 (by first | assumption | exact Ne.symm (by assumption) | simp | (intro h; simp at h; omega))
  refine V_aload_n C dX3_apply_15 rfl rfl ?_
  refine V_get (C0 := RX3) (T := TX3) (N := 12) (ci := 3) C 3 in_X3 rfl h__3 (by decide) q824 (fun _ h9 => h9) rfl dX3_apply_16 ?_
  refine V_bipush C 16 dX3_apply_19 (by decide) ?_
  refine V_aload_n C dX3_apply_21 rfl rfl ?_
  refine V_get (C0 := RX3) (T := TX3) (N := 12) (ci := 3) C 7 in_X3 rfl h__3 (by decide) q828 (fun _ h9 => h9) rfl dX3_apply_22 ?_
  refine V_imul C dX3_apply_25 ?_
  refine V_top (y := (nI (16 * r))) (pk_mul 16 r) ?_
  refine V_aload_n C dX3_apply_26 rfl rfl ?_
  refine V_get (C0 := RX3) (T := TX3) (N := 12) (ci := 3) C 4 in_X3 rfl h__3 (by decide) q825 (fun _ h9 => h9) rfl dX3_apply_27 ?_
  refine V_aload_n C dX3_apply_30 rfl rfl ?_
  refine V_get (C0 := RX3) (T := TX3) (N := 12) (ci := 3) C 7 in_X3 rfl h__3 (by decide) q828 (fun _ h9 => h9) rfl dX3_apply_31 ?_
  refine V_iald C h__7 (pk_in r 3 (by omega)) dX3_apply_34 ?_
  refine V_top (y := (nI ln)) (by rw [nI_clamp (n := r) (by omega)]; exact h4) ?_
  refine V_iadd C dX3_apply_35 ?_
  refine V_top (y := (nI (16 * r + ln))) (nI_add (16 * r) ln) ?_
  refine V_iload_n C dX3_apply_36 rfl rfl ?_
  refine V_M (V_iast C h__6 (pk_in (16 * r + ln) 48 (by omega)) dX3_apply_37) (fun M__13 eM__13 => ?_)
  rw [nI_clamp (n := 16 * r + ln) (by omega)] at eM__13
  have h__14 := mp_got eM__13
  have h__15 := mp_keep eM__13 h__3 h__6 (by first | assumption | exact Ne.symm (by assumption) | simp | (intro h; simp at h; omega))
  have h__16 := mp_keep eM__13 h__4 h__6 (by first | assumption | exact Ne.symm (by assumption) | simp | (intro h; simp at h; omega))
  have h__17 := mp_keep eM__13 h__5 h__6 (by first | assumption | exact Ne.symm (by assumption) | simp | (intro h; simp at h; omega))
  have h__18 := mp_keep eM__13 h__2 h__6 (by first | assumption | exact Ne.symm (by assumption) | simp | (intro h; simp at h; omega))
  have h__19 := mp_keep eM__13 h__7 h__6 (by first | assumption | exact Ne.symm (by assumption) | simp | (intro h; simp at h; omega))
  have h__20 := mp_keep eM__13 h__8 h__6 (by first | assumption | exact Ne.symm (by assumption) | simp | (intro h; simp at h; omega))
  have h__21 := mp_keep eM__13 h__9 h__6 (by first | assumption | exact Ne.symm (by assumption) | simp | (intro h; simp at h; omega))
  have h__22 := mp_keep eM__13 h__10 h__6 (by first | assumption | exact Ne.symm (by assumption) | simp | (intro h; simp at h; omega))
  have h__23 := mp_keep eM__13 h__11 h__6 (by first | assumption | exact Ne.symm (by assumption) | simp | (intro h; simp at h; omega))
  have h__24 := mp_keep eM__13 h__12 h__6 (by first | assumption | exact Ne.symm (by assumption) | simp | (intro h; simp at h; omega))
  refine V_aload_n C dX3_apply_38 rfl rfl ?_
  refine V_get (C0 := RX3) (T := TX3) (N := 12) (ci := 3) C 4 in_X3 rfl h__15 (by decide) q825 (fun _ h9 => h9) rfl dX3_apply_39 ?_
  refine V_aload_n C dX3_apply_42 rfl rfl ?_
  refine V_get (C0 := RX3) (T := TX3) (N := 12) (ci := 3) C 7 in_X3 rfl h__15 (by decide) q828 (fun _ h9 => h9) rfl dX3_apply_43 ?_
  refine V_dup2 C dX3_apply_46 rfl rfl ?_
  refine V_iald C h__19 (pk_in r 3 (by omega)) dX3_apply_47 ?_
  refine V_top (y := (nI ln)) (by rw [nI_clamp (n := r) (by omega)]; exact h4) ?_
  refine V_iconst C 1 dX3_apply_48 (by decide) ?_
  refine V_iadd C dX3_apply_49 ?_
  refine V_top (y := (nI (ln + 1))) (nI_add ln 1) ?_
  refine V_M (V_iast C h__19 (pk_in r 3 (by omega)) dX3_apply_50) (fun M__25 eM__25 => ?_)
  rw [nI_clamp (n := r) (by omega)] at eM__25
  have h__26 := mp_got eM__25
  have h__27 := mp_keep eM__25 h__15 h__19 (by first | assumption | exact Ne.symm (by assumption) | simp | (intro h; simp at h; omega))
  have h__28 := mp_keep eM__25 h__16 h__19 (by first | assumption | exact Ne.symm (by assumption) | simp | (intro h; simp at h; omega))
  have h__29 := mp_keep eM__25 h__17 h__19 (by first | assumption | exact Ne.symm (by assumption) | simp | (intro h; simp at h; omega))
  have h__30 := mp_keep eM__25 h__18 h__19 (by first | assumption | exact Ne.symm (by assumption) | simp | (intro h; simp at h; omega))
  have h__31 := mp_keep eM__25 h__14 h__19 (by first | assumption | exact Ne.symm (by assumption) | simp | (intro h; simp at h; omega))
  have h__32 := mp_keep eM__25 h__20 h__19 (by first | assumption | exact Ne.symm (by assumption) | simp | (intro h; simp at h; omega))
  have h__33 := mp_keep eM__25 h__21 h__19 (by first | assumption | exact Ne.symm (by assumption) | simp | (intro h; simp at h; omega))
  have h__34 := mp_keep eM__25 h__22 h__19 (by first | assumption | exact Ne.symm (by assumption) | simp | (intro h; simp at h; omega))
  have h__35 := mp_keep eM__25 h__23 h__19 (by first | assumption | exact Ne.symm (by assumption) | simp | (intro h; simp at h; omega))
  have h__36 := mp_keep eM__25 h__24 h__19 (by first | assumption | exact Ne.symm (by assumption) | simp | (intro h; simp at h; omega))
  exact V_vret C dX3_apply_51 (by decide) (by decide) ⟨rfl, (md_f4 (md_f3 (md_f2 hS eM__1).1 eM__13).1 eM__25).1, (md_f2 hS eM__1).2.tr ((md_f3 (md_f2 hS eM__1).1 eM__13).2.tr (md_f4 (md_f3 (md_f2 hS eM__1).1 eM__13).1 eM__25).2)⟩
def bstC (n : Nat) (po : Nat → Nat → Nat) (ap : Nat → Bool) (j : Nat) (o : Option Nat) : Bool := !ap j && mready n po ap j && (match o with | none => true | some b => decide (po j 0 < po b 0))
def bstI (n : Nat) (po : Nat → Nat → Nat) (ap : Nat → Bool) : Nat → Option Nat
  | 0 => none
  | j + 1 => if bstC n po ap j (bstI n po ap j) = true then some j else bstI n po ap j
theorem bst_t {n : Nat} {po : Nat → Nat → Nat} {ap : Nat → Bool} {j : Nat} {o : Option Nat} (ho : bstI n po ap j = o) (h : bstC n po ap j o = true) : nI j = oI (bstI n po ap (j + 1)) := by
  unfold bstI
  rw [ho, if_pos h]
  rfl
theorem bst_f {n : Nat} {po : Nat → Nat → Nat} {ap : Nat → Bool} {j : Nat} {o : Option Nat} (ho : bstI n po ap j = o) (h : bstC n po ap j o = false) : oI o = oI (bstI n po ap (j + 1)) := by
  rw [bstI, ho, if_neg (by rw [h]; decide)]
theorem bst_lt {n : Nat} {po : Nat → Nat → Nat} {ap : Nat → Bool} {j k : Nat} (h : bstI n po ap j = some k) : k < j ∧ ap k = false ∧ mready n po ap k = true := by
  induction j with
  | zero => cases h
  | succ j ih =>
    unfold bstI at h
    split at h
    · rename_i hc
      cases h
      unfold bstC at hc
      simp only [Bool.and_eq_true, Bool.not_eq_true'] at hc
      exact ⟨by omega, hc.1.1, hc.1.2⟩
    · have := ih h
      exact ⟨by omega, this.2⟩
abbrev so_ : Type := (Nat → Bool) × List Nat
def setS (n : Nat) (po : Nat → Nat → Nat) (x : so_) : so_ := match bstI n po x.1 n with
  | none => x
  | some j => (fun i => if i = j then true else x.1 i, x.2 ++ [j])
def setA (n : Nat) (po : Nat → Nat → Nat) (x : so_) : so_ := iterI (fun _ => setS n po) x 16
/-- the log of replica r in the model -/
def OrV (S : Nat → Nat → Int32) (r : Nat) (od : List Nat) : Prop := S 4 r = nI od.length ∧ ∀ i j, od[i]? = some j → S 3 (16 * r + i) = nI j
def OdOk (n : Nat) (ap : Nat → Bool) (od : List Nat) : Prop := od.Nodup ∧ ∀ j, j ∈ od ↔ (j < n ∧ ap j = true)
/-- only replica r's flags, order and count differ -/
def FrM (r : Nat) (S S1 : Nat → Nat → Int32) : Prop := Ag [2, 3, 4] S S1 ∧ (∀ i, ¬ (16 * r ≤ i ∧ i < 16 * r + 16) → S1 2 i = S 2 i ∧ S1 3 i = S 3 i) ∧ ∀ i, i ≠ r → S1 4 i = S 4 i
theorem FrM.rf {r : Nat} {S : Nat → Nat → Int32} : FrM r S S := ⟨Ag.rf, fun _ _ => ⟨rfl, rfl⟩, fun _ _ => rfl⟩
theorem FrM.tr {r : Nat} {S S1 S2 : Nat → Nat → Int32} (h : FrM r S S1) (h2 : FrM r S1 S2) : FrM r S S2 := ⟨h.1.tr h2.1, fun i hi => ⟨(h2.2.1 i hi).1.trans (h.2.1 i hi).1, (h2.2.1 i hi).2.trans (h.2.1 i hi).2⟩, fun i hi => (h2.2.2 i hi).trans (h.2.2 i hi)⟩
theorem apS_2 (S : Nat → Nat → Int32) (r j ln : Nat) : apS S r j ln 2 = upd (S 2) (16 * r + j) (bI true) := rfl
theorem apS_3 (S : Nat → Nat → Int32) (r j ln : Nat) : apS S r j ln 3 = upd (S 3) (16 * r + ln) (nI j) := rfl
theorem apS_4 (S : Nat → Nat → Int32) (r j ln : Nat) : apS S r j ln 4 = upd (S 4) r (nI (ln + 1)) := rfl
theorem apS_fr {S : Nat → Nat → Int32} {r j ln : Nat} (hj : j < 16) (hln : ln < 16) : FrM r S (apS S r j ln) := by
  refine ⟨fun q hq => ?_, fun i hi => ⟨?_, ?_⟩, fun i hi => ?_⟩
  · simp only [List.mem_cons, List.not_mem_nil, or_false, not_or] at hq
    unfold apS
    rw [sF_ne hq.2.2, sF_ne hq.2.1, sF_ne hq.1]
  · rw [apS_2, pk_un (by omega)]
  · rw [apS_3, pk_un (by omega)]
  · rw [apS_4, pk_un hi]
theorem nodup_len : ∀ (n : Nat) (L : List Nat), L.Nodup → (∀ x ∈ L, x < n) → L.length ≤ n := by
  intro n
  induction n with
  | zero =>
    intro L _ h
    cases L with
    | nil => exact Nat.le_refl _
    | cons x xs => have := h x List.mem_cons_self; omega
  | succ n ih =>
    intro L hd h
    have h1 := ih (L.erase n) (hd.erase n) (fun x hx => by
      have := h x (List.mem_of_mem_erase hx)
      have hne : x ≠ n := fun z => by subst z; exact (List.Nodup.not_mem_erase hd) hx
      omega)
    have h2 : L.length ≤ (L.erase n).length + 1 := by rw [List.length_erase]; split <;> omega
    omega
theorem OdOk.len {n : Nat} {ap : Nat → Bool} {od : List Nat} (h : OdOk n ap od) : od.length ≤ n := nodup_len n od h.1 (fun x hx => ((h.2 x).mp hx).1)
theorem OdOk.lt {n : Nat} {ap : Nat → Bool} {od : List Nat} (h : OdOk n ap od) {j : Nat} (hj : j < n) (ha : ap j = false) : od.length < n := by
  have := nodup_len n (j :: od) (List.nodup_cons.mpr ⟨fun z => (by rw [((h.2 j).mp z).2] at ha; exact Bool.noConfusion ha), h.1⟩) (fun x hx => by
    rcases List.mem_cons.mp hx with z | z
    · rw [z]; exact hj
    · exact ((h.2 x).mp z).1)
  rw [List.length_cons] at this
  omega
theorem OdOk.push {n : Nat} {ap : Nat → Bool} {od : List Nat} (h : OdOk n ap od) {j : Nat} (hj : j < n) (ha : ap j = false) : OdOk n (fun i => if i = j then true else ap i) (od ++ [j]) := by
  refine ⟨?_, fun i => ?_⟩
  · rw [List.nodup_append]
    refine ⟨h.1, by simp, fun x hx y hy => ?_⟩
    rw [List.mem_singleton] at hy
    rw [hy]
    intro z
    subst z
    rw [((h.2 x).mp hx).2] at ha
    cases ha
  · rw [List.mem_append, List.mem_singleton, h.2]
    by_cases z : i = j
    · simp [z, hj]
    · simp [z]
theorem apS_vw {S : Nat → Nat → Int32} {r n j ln : Nat} {po : Nat → Nat → Nat} {ap : Nat → Bool} (hV : Vw S r n po ap) : Vw (apS S r j ln) r n po (fun i => if i = j then true else ap i) := by
  obtain ⟨h1, h2, h3, h4, h5, h6, h7⟩ := hV
  refine ⟨h1, h2, h3, h4, h5, h6, fun i hi => ?_⟩
  rw [apS_2]
  unfold upd
  by_cases z : i = j
  · subst z; simp
  · rw [if_neg (by omega)]
    dsimp only
    rw [if_neg z]
    exact h7 i hi
theorem apS_or {S : Nat → Nat → Int32} {r j : Nat} {od : List Nat} (h : OrV S r od) : OrV (apS S r j od.length) r (od ++ [j]) := by
  refine ⟨?_, fun i k hi => ?_⟩
  · rw [apS_4, pk_us, List.length_append]
    rfl
  · rw [apS_3]
    rcases Nat.lt_trichotomy i od.length with q | q | q
    · rw [List.getElem?_append_left q] at hi
      rw [pk_un (by omega)]
      exact h.2 i k hi
    · subst q
      rw [List.getElem?_append_right (Nat.le_refl _)] at hi
      simp at hi
      rw [pk_us, hi]
    · rw [List.getElem?_append_right (by omega), List.getElem?_eq_none (by simp; omega)] at hi
      cases hi
theorem ct_X3_settle (l : Launch) (G : mp_G) (b : Nat) (M : mp_M) (a : Nat) (ad : Nat → Nat) (S : Nat → Nat → Int32) (r n : Nat) (po : Nat → Nat → Nat) (ap : Nat → Bool) (hS : MdAt G M a ad S) (hme : S 7 0 = nI r) (hV : Vw S r n po ap) (od : List Nat) (hO : OrV S r od) (hok : OdOk n ap od) : Ct l yX3_settle cX3_settle 5 (some .int) 3 0 0 G b ([.ref a] : List Value) M (pI (fun y M1 => y = nI ((setA n po (ap, od)).2.length - od.length) ∧ ∃ S1, MdAt G M1 a ad S1 ∧ FrM r S S1 ∧ Vw S1 r n po (setA n po (ap, od)).1 ∧ OrV S1 r (setA n po (ap, od)).2 ∧ OdOk n (setA n po (ap, od)).1 (setA n po (ap, od)).2 ∧ KeepG 9 M M1)) := by
  have hr := hV.1
  have hn := hV.2.1
  refine Ct.ofV (by decide) (vc_ref vc_nil) (Nat.le_of_ble_eq_true rfl) ?_
  intro p e s m below meth c C hnm
  refine V_L (L1 := [some (.ref a), none, none, none, none]) rfl ?_
  refine V_iconst C 0 dX3_settle_0 (by decide) ?_
  refine V_istore_n (L' := [some (.ref a), some (.int 0), none, none, none]) C dX3_settle_1 rfl (by decide) rfl ?_
  refine V_iconst C 0 dX3_settle_2 (by decide) ?_
  refine V_istore_n (L' := [some (.ref a), some (.int 0), some (.int 0), none, none]) C dX3_settle_3 rfl (by decide) rfl ?_
  have loop : ∀ rd, rd ≤ 16 → ∀ M1 S1 ap1 od1, (ap1, od1) = iterI (fun _ => setS n po) (ap, od) rd → MdAt G M1 a ad S1 → FrM r S S1 → Vw S1 r n po ap1 → OrV S1 r od1 → OdOk n ap1 od1 → KeepG 9 M M1 → od.length ≤ od1.length → V p l e (rmOf 3 0 0) s m ([.ref a] : List Value).toArray below meth c (MQ below (Qp G b (pI (fun y M1 => y = nI ((setA n po (ap, od)).2.length - od.length) ∧ ∃ S1, MdAt G M1 a ad S1 ∧ FrM r S S1 ∧ Vw S1 r n po (setA n po (ap, od)).1 ∧ OrV S1 r (setA n po (ap, od)).2 ∧ OdOk n (setA n po (ap, od)).1 (setA n po (ap, od)).2 ∧ KeepG 9 M M1))) ([.ref a] : List Value).toArray s 0 0 (fun q => b ≤ q)) G b 5 0 0 4 [some (.ref a), some (.int (nI (od1.length - od.length))), some (.int (nI rd)), none, none] [] M1 := by
    refine up_ind 16 ?_
    intro rd hrd ih M1 S1 ap1 od1 hx hS1 hF1 hV1 hO1 hok1 hK1 hle
    have hme1 : S1 7 0 = nI r := by rw [hF1.1 7 (by decide)]; exact hme
    have hl1 := hok1.len
    have inner : rd < 16 → ∀ j, j ≤ n → V p l e (rmOf 3 0 0) s m ([.ref a] : List Value).toArray below meth c (MQ below (Qp G b (pI (fun y M1 => y = nI ((setA n po (ap, od)).2.length - od.length) ∧ ∃ S1, MdAt G M1 a ad S1 ∧ FrM r S S1 ∧ Vw S1 r n po (setA n po (ap, od)).1 ∧ OrV S1 r (setA n po (ap, od)).2 ∧ OdOk n (setA n po (ap, od)).1 (setA n po (ap, od)).2 ∧ KeepG 9 M M1))) ([.ref a] : List Value).toArray s 0 0 (fun q => b ≤ q)) G b 5 0 0 15 [some (.ref a), some (.int (nI (od1.length - od.length))), some (.int (nI rd)), some (.int (oI (bstI n po ap1 j))), some (.int (nI j))] [] M1 := by
      intro hrd2
      refine up_ind n ?_
      intro j hj ihj
      obtain ⟨hma, hm0, hm1, hm2, hm3, hm4, hm5, hm8, hm9, hm10, hm11⟩ := id hS1
      rw [hme1] at hma
      rcases ob : bstI n po ap1 j with _ | bb
      · refine V_L (L1 := [some (.ref a), some (.int (nI (od1.length - od.length))), some (.int (nI rd)), some (.int (-1)), some (.int (nI j))]) rfl ?_
        refine V_iload C dX3_settle_15 rfl ?_
        refine V_aload_n C dX3_settle_17 rfl rfl ?_
        refine V_get (C0 := RX3) (T := TX3) (N := 12) (ci := 3) C 1 in_X3 rfl hma (by decide) q822 (fun _ h9 => h9) rfl dX3_settle_18 ?_
        refine V_aload_n C dX3_settle_21 rfl rfl ?_
        refine V_get (C0 := RX3) (T := TX3) (N := 12) (ci := 3) C 7 in_X3 rfl hma (by decide) q828 (fun _ h9 => h9) rfl dX3_settle_22 ?_
        refine V_iald C hm1 (pk_in r 3 (by omega)) dX3_settle_25 ?_
        refine V_top (y := (nI n)) (by rw [nI_clamp (n := r) (by omega)]; exact hV1.2.2.1) ?_
        refine V_nicmp_ge (x := j) (y := n) C 76 dX3_settle_26 (by decide) (by omega) (by omega) (fun q26 => ?_) (fun q26 => ?_)
        · refine V_iload_n C dX3_settle_76 rfl rfl ?_
          refine V_if_lt C 88 dX3_settle_77 (by decide) (fun _ => ?_) (fun h => absurd (by decide) h)
          refine V_iinc (v := (nI (rd + 1))) (L' := [some (.ref a), some (.int (nI (od1.length - od.length))), some (.int (nI (rd + 1))), some (.int (-1)), some (.int (nI j))]) C dX3_settle_88 rfl (nI_1 _) (by decide) rfl ?_
          refine V_goto C 4 dX3_settle_91 (by decide) ?_
          refine V_sub ?_ (ih hrd2 M1 S1 ap1 od1 (by rw [iterI_s, ← hx]; unfold setS; rw [← show j = n by omega] at ob ⊢; dsimp only; rw [ob]) hS1 hF1 hV1 hO1 hok1 hK1 hle)
          repeat' (first | exact ls_e | refine ls_n ?_ | refine ls_s ?_ | refine ls_i ?_ ?_ | refine ls_v ?_ ?_)
        · refine V_aload_n C dX3_settle_29 rfl rfl ?_
          refine V_iload C dX3_settle_30 rfl ?_
          refine V_ofIe (VR_V (As := [.int (nI j)]) (rest := []) C (ct_X3_done l G b M1 a ad S1 r n po ap1 hS1 hme1 hV1 j (by omega)) hma rfl (lw_V q871 q873 qs10 q46 q874) rfl nd_X3_done rfl (by decide) (by decide) dX3_settle_32 rfl ⟨by decide, by decide⟩ (Nat.le_of_ble_eq_true rfl)) ?_
          refine V_ifb_ne C 70 dX3_settle_35 (by decide) (fun q35 => ?_) (fun q35 => ?_)
          · refine V_iinc (v := (nI (j + 1))) (L' := [some (.ref a), some (.int (nI (od1.length - od.length))), some (.int (nI rd)), some (.int (-1)), some (.int (nI (j + 1)))]) C dX3_settle_70 rfl (nI_1 _) (by decide) rfl ?_
            refine V_goto C 15 dX3_settle_73 (by decide) ?_
            refine V_sub ?_ (ihj (by omega))
            repeat' (first | exact ls_e | refine ls_n ?_ | refine ls_s ?_ | refine ls_i ?_ ?_ | refine ls_v ?_ ?_)
            first | (refine bst_t ob ?_; unfold bstC; simp [*]; done) | (refine bst_f ob ?_; unfold bstC; simp [*]; done)
          · refine V_aload_n C dX3_settle_38 rfl rfl ?_
            refine V_iload C dX3_settle_39 rfl ?_
            refine V_ofIe (VR_V (As := [.int (nI j)]) (rest := []) C (ct_X3_ready l G b M1 a ad S1 r n po ap1 hS1 hme1 hV1 j (by omega)) hma rfl (lw_V q907 q909 qs19 q46 q910) rfl nd_X3_ready rfl (by decide) (by decide) dX3_settle_41 rfl ⟨by decide, by decide⟩ (Nat.le_of_ble_eq_true rfl)) ?_
            refine V_ifb_eq C 70 dX3_settle_44 (by decide) (fun q44 => ?_) (fun q44 => ?_)
            · refine V_iinc (v := (nI (j + 1))) (L' := [some (.ref a), some (.int (nI (od1.length - od.length))), some (.int (nI rd)), some (.int (-1)), some (.int (nI (j + 1)))]) C dX3_settle_70 rfl (nI_1 _) (by decide) rfl ?_
              refine V_goto C 15 dX3_settle_73 (by decide) ?_
              refine V_sub ?_ (ihj (by omega))
              repeat' (first | exact ls_e | refine ls_n ?_ | refine ls_s ?_ | refine ls_i ?_ ?_ | refine ls_v ?_ ?_)
              first | (refine bst_t ob ?_; unfold bstC; simp [*]; done) | (refine bst_f ob ?_; unfold bstC; simp [*]; done)
            · refine V_iload_n C dX3_settle_47 rfl rfl ?_
              refine V_if_lt C 67 dX3_settle_48 (by decide) (fun _ => ?_) (fun h => absurd (by decide) h)
              refine V_iload C dX3_settle_67 rfl ?_
              refine V_istore_n (L' := [some (.ref a), some (.int (nI (od1.length - od.length))), some (.int (nI rd)), some (.int (nI j)), some (.int (nI j))]) C dX3_settle_69 rfl (by decide) rfl ?_
              refine V_iinc (v := (nI (j + 1))) (L' := [some (.ref a), some (.int (nI (od1.length - od.length))), some (.int (nI rd)), some (.int (nI j)), some (.int (nI (j + 1)))]) C dX3_settle_70 rfl (nI_1 _) (by decide) rfl ?_
              refine V_goto C 15 dX3_settle_73 (by decide) ?_
              refine V_sub ?_ (ihj (by omega))
              repeat' (first | exact ls_e | refine ls_n ?_ | refine ls_s ?_ | refine ls_i ?_ ?_ | refine ls_v ?_ ?_)
              first | (refine bst_t ob ?_; unfold bstC; simp [*]; done) | (refine bst_f ob ?_; unfold bstC; simp [*]; done)
      · obtain ⟨hb1, hb2, hb3⟩ := bst_lt ob
        refine V_L (L1 := [some (.ref a), some (.int (nI (od1.length - od.length))), some (.int (nI rd)), some (.int (nI bb)), some (.int (nI j))]) rfl ?_
        have app : ∀ {M2 : mp_M}, (MdAt G M2 a ad (apS S1 r bb od1.length) ∧ KeepG 9 M1 M2) → n ≤ j → V p l e (rmOf 3 0 0) s m ([.ref a] : List Value).toArray below meth c (MQ below (Qp G b (pI (fun y M1 => y = nI ((setA n po (ap, od)).2.length - od.length) ∧ ∃ S1, MdAt G M1 a ad S1 ∧ FrM r S S1 ∧ Vw S1 r n po (setA n po (ap, od)).1 ∧ OrV S1 r (setA n po (ap, od)).2 ∧ OdOk n (setA n po (ap, od)).1 (setA n po (ap, od)).2 ∧ KeepG 9 M M1))) ([.ref a] : List Value).toArray s 0 0 (fun q => b ≤ q)) G b 5 0 0 85 [some (.ref a), some (.int (nI (od1.length - od.length))), some (.int (nI rd)), some (.int (nI bb)), some (.int (nI j))] [] M2 := by
          rintro M2 ⟨hS2, hK2⟩ hjn
          have ejn : j = n := by omega
          rw [ejn] at ob
          refine V_iinc (v := (nI ((od1.length - od.length) + 1))) (L' := [some (.ref a), some (.int (nI ((od1.length - od.length) + 1))), some (.int (nI rd)), some (.int (nI bb)), some (.int (nI j))]) C dX3_settle_85 rfl (nI_1 _) (by decide) rfl ?_
          refine V_iinc (v := (nI (rd + 1))) (L' := [some (.ref a), some (.int (nI ((od1.length - od.length) + 1))), some (.int (nI (rd + 1))), some (.int (nI bb)), some (.int (nI j))]) C dX3_settle_88 rfl (nI_1 _) (by decide) rfl ?_
          refine V_goto C 4 dX3_settle_91 (by decide) ?_
          refine V_sub ?_ (ih hrd2 M2 _ (fun i => if i = bb then true else ap1 i) (od1 ++ [bb]) (by rw [iterI_s, ← hx]; unfold setS; dsimp only; rw [ob]) hS2 (hF1.tr (apS_fr (by omega) (by have := hok1.lt (j := bb) (by omega) hb2; omega))) (apS_vw hV1) (apS_or hO1) (hok1.push (by omega) hb2) (hK1.tr hK2) (by rw [List.length_append]; omega))
          repeat' (first | exact ls_e | refine ls_n ?_ | refine ls_s ?_ | refine ls_i ?_ ?_ | refine ls_v ?_ ?_)
          rw [List.length_append, List.length_singleton]
          congr 1
          omega
        refine V_iload C dX3_settle_15 rfl ?_
        refine V_aload_n C dX3_settle_17 rfl rfl ?_
        refine V_get (C0 := RX3) (T := TX3) (N := 12) (ci := 3) C 1 in_X3 rfl hma (by decide) q822 (fun _ h9 => h9) rfl dX3_settle_18 ?_
        refine V_aload_n C dX3_settle_21 rfl rfl ?_
        refine V_get (C0 := RX3) (T := TX3) (N := 12) (ci := 3) C 7 in_X3 rfl hma (by decide) q828 (fun _ h9 => h9) rfl dX3_settle_22 ?_
        refine V_iald C hm1 (pk_in r 3 (by omega)) dX3_settle_25 ?_
        refine V_top (y := (nI n)) (by rw [nI_clamp (n := r) (by omega)]; exact hV1.2.2.1) ?_
        refine V_nicmp_ge (x := j) (y := n) C 76 dX3_settle_26 (by decide) (by omega) (by omega) (fun q26 => ?_) (fun q26 => ?_)
        · refine V_iload_n C dX3_settle_76 rfl rfl ?_
          refine V_if_lt C 88 dX3_settle_77 (by decide) (fun h => absurd h (nI_pos (n := bb) (by omega))) (fun _ => ?_)
          refine V_aload_n C dX3_settle_80 rfl rfl ?_
          refine V_iload_n C dX3_settle_81 rfl rfl ?_
          refine V_ofV (VR_V (As := [.int (nI bb)]) (rest := []) C (ct_X3_apply l G b M1 a ad S1 r bb od1.length hS1 hme1 hr hO1.1 (by have := hok1.lt (j := bb) (by omega) hb2; omega) (by omega)) hma rfl (lw_V q899 q901 qs17 q46 q902) rfl nd_X3_apply rfl (by decide) (by decide) dX3_settle_82 rfl ⟨by decide, by decide⟩ (Nat.le_of_ble_eq_true rfl)) (fun M2 hM2 => ?_)
          exact app hM2 (by omega)
        · refine V_aload_n C dX3_settle_29 rfl rfl ?_
          refine V_iload C dX3_settle_30 rfl ?_
          refine V_ofIe (VR_V (As := [.int (nI j)]) (rest := []) C (ct_X3_done l G b M1 a ad S1 r n po ap1 hS1 hme1 hV1 j (by omega)) hma rfl (lw_V q871 q873 qs10 q46 q874) rfl nd_X3_done rfl (by decide) (by decide) dX3_settle_32 rfl ⟨by decide, by decide⟩ (Nat.le_of_ble_eq_true rfl)) ?_
          refine V_ifb_ne C 70 dX3_settle_35 (by decide) (fun q35 => ?_) (fun q35 => ?_)
          · refine V_iinc (v := (nI (j + 1))) (L' := [some (.ref a), some (.int (nI (od1.length - od.length))), some (.int (nI rd)), some (.int (nI bb)), some (.int (nI (j + 1)))]) C dX3_settle_70 rfl (nI_1 _) (by decide) rfl ?_
            refine V_goto C 15 dX3_settle_73 (by decide) ?_
            refine V_sub ?_ (ihj (by omega))
            repeat' (first | exact ls_e | refine ls_n ?_ | refine ls_s ?_ | refine ls_i ?_ ?_ | refine ls_v ?_ ?_)
            first | (refine bst_t ob ?_; unfold bstC; simp [*]; done) | (refine bst_f ob ?_; unfold bstC; simp [*]; done)
          · refine V_aload_n C dX3_settle_38 rfl rfl ?_
            refine V_iload C dX3_settle_39 rfl ?_
            refine V_ofIe (VR_V (As := [.int (nI j)]) (rest := []) C (ct_X3_ready l G b M1 a ad S1 r n po ap1 hS1 hme1 hV1 j (by omega)) hma rfl (lw_V q907 q909 qs19 q46 q910) rfl nd_X3_ready rfl (by decide) (by decide) dX3_settle_41 rfl ⟨by decide, by decide⟩ (Nat.le_of_ble_eq_true rfl)) ?_
            refine V_ifb_eq C 70 dX3_settle_44 (by decide) (fun q44 => ?_) (fun q44 => ?_)
            · refine V_iinc (v := (nI (j + 1))) (L' := [some (.ref a), some (.int (nI (od1.length - od.length))), some (.int (nI rd)), some (.int (nI bb)), some (.int (nI (j + 1)))]) C dX3_settle_70 rfl (nI_1 _) (by decide) rfl ?_
              refine V_goto C 15 dX3_settle_73 (by decide) ?_
              refine V_sub ?_ (ihj (by omega))
              repeat' (first | exact ls_e | refine ls_n ?_ | refine ls_s ?_ | refine ls_i ?_ ?_ | refine ls_v ?_ ?_)
              first | (refine bst_t ob ?_; unfold bstC; simp [*]; done) | (refine bst_f ob ?_; unfold bstC; simp [*]; done)
            · refine V_iload_n C dX3_settle_47 rfl rfl ?_
              refine V_if_lt C 67 dX3_settle_48 (by decide) (fun h => absurd h (nI_pos (n := bb) (by omega))) (fun _ => ?_)
              refine V_aload_n C dX3_settle_51 rfl rfl ?_
              refine V_iload C dX3_settle_52 rfl ?_
              refine V_iconst C 0 dX3_settle_54 (by decide) ?_
              refine V_ofIe (VR_V (As := [.int (nI j), .int 0]) (rest := []) C (ct_X3_part l G b M1 a ad S1 r n po ap1 hS1 hme1 hV1 j 0 (by omega) (by omega)) hma rfl (lw_V q875 q877 qs11 q46 q878) rfl nd_X3_part rfl (by decide) (by decide) dX3_settle_55 rfl ⟨by decide, by decide⟩ (Nat.le_of_ble_eq_true rfl)) ?_
              have hp55 := hV1.2.2.2.2.2.1 j 0
              refine V_aload_n C dX3_settle_58 rfl rfl ?_
              refine V_iload_n C dX3_settle_59 rfl rfl ?_
              refine V_iconst C 0 dX3_settle_60 (by decide) ?_
              refine V_ofIe (VR_V (As := [.int (nI bb), .int 0]) (rest := [.int (nI (po j 0))]) C (ct_X3_part l G b M1 a ad S1 r n po ap1 hS1 hme1 hV1 bb 0 (by omega) (by omega)) hma rfl (lw_V q875 q877 qs11 q46 q878) rfl nd_X3_part rfl (by decide) (by decide) dX3_settle_61 rfl ⟨by decide, by decide⟩ (Nat.le_of_ble_eq_true rfl)) ?_
              have hp61 := hV1.2.2.2.2.2.1 bb 0
              refine V_nicmp_ge (x := po j 0) (y := po bb 0) C 70 dX3_settle_64 (by decide) (by omega) (by omega) (fun q64 => ?_) (fun q64 => ?_)
              · refine V_iinc (v := (nI (j + 1))) (L' := [some (.ref a), some (.int (nI (od1.length - od.length))), some (.int (nI rd)), some (.int (nI bb)), some (.int (nI (j + 1)))]) C dX3_settle_70 rfl (nI_1 _) (by decide) rfl ?_
                refine V_goto C 15 dX3_settle_73 (by decide) ?_
                refine V_sub ?_ (ihj (by omega))
                repeat' (first | exact ls_e | refine ls_n ?_ | refine ls_s ?_ | refine ls_i ?_ ?_ | refine ls_v ?_ ?_)
                first | (refine bst_t ob ?_; unfold bstC; simp [*]; done) | (refine bst_f ob ?_; unfold bstC; simp [*]; done)
              · refine V_iload C dX3_settle_67 rfl ?_
                refine V_istore_n (L' := [some (.ref a), some (.int (nI (od1.length - od.length))), some (.int (nI rd)), some (.int (nI j)), some (.int (nI j))]) C dX3_settle_69 rfl (by decide) rfl ?_
                refine V_iinc (v := (nI (j + 1))) (L' := [some (.ref a), some (.int (nI (od1.length - od.length))), some (.int (nI rd)), some (.int (nI j)), some (.int (nI (j + 1)))]) C dX3_settle_70 rfl (nI_1 _) (by decide) rfl ?_
                refine V_goto C 15 dX3_settle_73 (by decide) ?_
                refine V_sub ?_ (ihj (by omega))
                repeat' (first | exact ls_e | refine ls_n ?_ | refine ls_s ?_ | refine ls_i ?_ ?_ | refine ls_v ?_ ?_)
                first | (refine bst_t ob ?_; unfold bstC; simp [*]; done) | (refine bst_f ob ?_; unfold bstC; simp [*]; done)
    obtain ⟨hmoa, hmo0, hmo1, hmo2, hmo3, hmo4, hmo5, hmo8, hmo9, hmo10, hmo11⟩ := id hS1
    rw [hme1] at hmoa
    refine V_iload_n C dX3_settle_4 rfl rfl ?_
    refine V_bipush C 16 dX3_settle_5 (by decide) ?_
    refine V_nicmp_ge (x := rd) (y := 16) C 94 dX3_settle_7 (by decide) (by omega) (by omega) (fun q7 => ?_) (fun q7 => ?_)
    · refine V_iload_n C dX3_settle_94 rfl rfl ?_
      exact V_iret C dX3_settle_95 (by decide) (by decide) ⟨_, rfl, by unfold setA; rw [← show rd = 16 by omega, ← hx], S1, hS1, hF1, by unfold setA; rw [← show rd = 16 by omega, ← hx]; exact hV1, by unfold setA; rw [← show rd = 16 by omega, ← hx]; exact hO1, by unfold setA; rw [← show rd = 16 by omega, ← hx]; exact hok1, hK1⟩
    · refine V_iconst C (-1) dX3_settle_10 (by decide) ?_
      refine V_istore_n (L' := [some (.ref a), some (.int (nI (od1.length - od.length))), some (.int (nI rd)), some (.int (-1)), none]) C dX3_settle_11 rfl (by decide) rfl ?_
      refine V_iconst C 0 dX3_settle_12 (by decide) ?_
      refine V_istore (L' := [some (.ref a), some (.int (nI (od1.length - od.length))), some (.int (nI rd)), some (.int (-1)), some (.int 0)]) C dX3_settle_13 (by decide) rfl ?_
      refine V_sub ?_ (inner (by omega) 0 (Nat.zero_le _))
      repeat' (first | exact ls_e | refine ls_n ?_ | refine ls_s ?_ | refine ls_i ?_ ?_ | refine ls_v ?_ ?_)
      all_goals rfl
  refine V_sub ?_ (loop 0 (Nat.zero_le _) M S ap od rfl hS FrM.rf hV hO hok Keep.rf (Nat.le_refl _))
  repeat' (first | exact ls_e | refine ls_n ?_ | refine ls_s ?_ | refine ls_i ?_ ?_ | refine ls_v ?_ ?_)
  all_goals (rw [Nat.sub_self]; rfl)

