set_option maxRecDepth 100000
/-! JDK, D: toString, constructors -/
def Ext (M M1 : mp_M) : Prop := ∀ (q : Nat) (y : mp_L × va_E), M q = some y → M1 q = some y
def ExtB (a : Nat) (M M1 : mp_M) : Prop := ∀ (q : Nat) (y : mp_L × va_E), M q = some y → q ≠ a → M1 q = some y
theorem ExtB.tr {a : Nat} {M M1 M2 : mp_M} (h : ExtB a M M1) (h2 : ExtB a M1 M2) : ExtB a M M2 := fun q y hq hn => h2 q y (h q y hq hn) hn
theorem ExtB.up {a : Nat} {M M1 : mp_M} {x : mp_L × va_E} (e : M1 = mp_up M a x) : ExtB a M M1 := fun q y hq hn => by rw [e, mp_ne hn]; exact hq
theorem Ext.new {a : Nat} {M M1 : mp_M} {x : mp_L × va_E} (e : M1 = mp_up M a x) (ha : M a = none) : Ext M M1 := fun q y hq => mp_keepN e hq ha
theorem Ext.b {a : Nat} {M M1 : mp_M} (h : Ext M M1) : ExtB a M M1 := fun q y hq _ => h q y hq
theorem Ext.tr {M M1 M2 : mp_M} (h : Ext M M1) (h2 : Ext M1 M2) : Ext M M2 := fun q y hq => h2 q y (h q y hq)
theorem Ext.rf {M : mp_M} : Ext M M := fun _ _ h => h
theorem Ext.ofB {a : Nat} {M M1 M2 : mp_M} (h : Ext M M1) (ha : M a = none) (h2 : ExtB a M1 M2) : Ext M M2 := fun q y hq => h2 q y (h q y hq) (fun z => by rw [z, ha] at hq; cases hq)
theorem Ext.keep {S : mp_L → Prop} {M M1 : mp_M} (h : Ext M M1) : Keep S M M1 := fun q la y hq _ => h q _ hq
theorem ct_J12_checkLength (l : Launch) (G : mp_G) (b : Nat) (M : mp_M) (n : Nat) (hn : n < 2 ^ 31) : Ct l yJ12_checkLength cJ12_checkLength 2 (none) 0 0 0 G b ([.int 0, .int (nI n)] : List Value) M (pV (fun M1 => M1 = M)) := by
  refine Ct.ofV (by decide) (vc_int (vc_int vc_nil)) (Nat.le_of_ble_eq_true rfl) ?_
  intro p e s m below meth c C hnm
  refine V_L (L1 := [some (.int 0), some (.int (nI n))]) rfl ?_
  refine V_iload_n C dJ12_checkLength_0 rfl rfl ?_
  refine V_iload_n C dJ12_checkLength_1 rfl rfl ?_
  refine V_icmp_ge C 37 dJ12_checkLength_2 (by decide) (fun h => ?_) (fun h => ?_)
  · skip
    exact V_vret C dJ12_checkLength_37 (by decide) (by decide) ⟨rfl, rfl⟩
  · exact absurd (nI_pos' hn) h
theorem ct_J12_copyOfRangeByte (l : Launch) (G : mp_G) (b : Nat) (M : mp_M) (va n q : Nat) (f : Nat → Int32) (lab lab2 : mp_L) (hv : M va = some (lab, .inl (G.2.1 2, q, .inl f))) (hF : sb_Fit f) (hq : n ≤ q) (hq2 : n ≤ 64) (hq3 : q ≤ 1000) : Ct l yJ12_copyOfRangeByte cJ12_copyOfRangeByte 5 (some (.array .byte)) 1 1 64 G b ([.ref va, .int 0, .int (nI n)] : List Value) M (pR (fun r M1 => ∃ w, r = some w ∧ M w = none ∧ M1 = mp_up M w (lab2, .inl (G.2.1 2, n, .inl (va_cpy f (fun _ => 0) 0 0 n))))) := by
  refine Ct.ofV (by decide) (vc_ref (vc_int (vc_int vc_nil))) (Nat.le_of_ble_eq_true rfl) ?_
  intro p e s m below meth c C hnm
  refine V_L (L1 := [some (.ref va), some (.int 0), some (.int (nI n)), none, none]) rfl ?_
  refine V_iload_n C dJ12_copyOfRangeByte_0 rfl rfl ?_
  refine V_iload_n C dJ12_copyOfRangeByte_1 rfl rfl ?_
  refine V_ofVe (VR_S (As := [.int 0, .int (nI n)]) (rest := []) C (ct_J12_checkLength l G b M n (by omega)) (lw_S q421 q422 q52 q423) nd_J12_checkLength rfl (by decide) (by decide) dJ12_copyOfRangeByte_2 rfl ⟨by decide, by decide⟩ (Nat.le_of_ble_eq_true rfl)) ?_
  refine V_iload_n C dJ12_copyOfRangeByte_5 rfl rfl ?_
  refine V_iload_n C dJ12_copyOfRangeByte_6 rfl rfl ?_
  refine V_isub C dJ12_copyOfRangeByte_7 ?_
  refine V_top (y := (nI n)) (by rw [← nI_0, pk_sub (Nat.zero_le _)]; rfl) ?_
  refine V_istore_n (L' := [some (.ref va), some (.int 0), some (.int (nI n)), some (.int (nI n)), none]) C dJ12_copyOfRangeByte_8 rfl (by decide) rfl ?_
  refine V_iload_n C dJ12_copyOfRangeByte_9 rfl rfl ?_
  refine V_newa (atype := .byte) (ti := 2) C n lab2 q160 rfl rfl rfl (nI_pos (by omega)) (nI_clamp (by omega)) (by show n * 1 ≤ _; omega) (by first | decide | omega | (dsimp only [rmOf]; omega)) (by first | decide | omega | (dsimp only [rmOf]; omega)) dJ12_copyOfRangeByte_10 (fun w0 hw => V_N (fun M1 e1 => ?_))
  have h__1 := mp_keepN e1 hv hw
  have h__2 := mp_got e1
  refine V_astore (L' := [some (.ref va), some (.int 0), some (.int (nI n)), some (.int (nI n)), some (.ref w0)]) C dJ12_copyOfRangeByte_12 (by decide) rfl ?_
  refine V_aload_n C dJ12_copyOfRangeByte_14 rfl rfl ?_
  refine V_iload_n C dJ12_copyOfRangeByte_15 rfl rfl ?_
  refine V_aload C dJ12_copyOfRangeByte_16 rfl ?_
  refine V_iconst C 0 dJ12_copyOfRangeByte_18 (by decide) ?_
  refine V_aload_n C dJ12_copyOfRangeByte_19 rfl rfl ?_
  refine V_alen (ti := 2) C rfl h__1 dJ12_copyOfRangeByte_20 ?_
  refine V_iload_n C dJ12_copyOfRangeByte_21 rfl rfl ?_
  refine V_isub C dJ12_copyOfRangeByte_22 ?_
  refine V_top (y := (nI q)) (by rw [← nI_0, pk_sub (Nat.zero_le _)]; rfl) ?_
  refine V_iload_n C dJ12_copyOfRangeByte_23 rfl rfl ?_
  refine V_mmin C q318 q319 q50 q320 (by decide) (Nat.le_of_ble_eq_true rfl) (by first | decide | omega | (dsimp only [rmOf]; omega)) (by first | decide | omega | (dsimp only [rmOf]; omega)) dJ12_copyOfRangeByte_24 ?_
  refine V_top (y := (nI n)) (by rcases Nat.lt_or_ge n q with z | z; (rw [if_pos (nI_lt z (by omega))]); (rw [show n = q by omega, if_neg (nI_nlt (by omega) (by omega))])) ?_
  refine V_M (V_copyi (ti := 2) C q321 q323 q322 q53 rfl rfl h__1 h__2 (by decide) (by decide) (nI_pos (by omega)) (by rw [nI_clamp (by omega), sb_cl0]; omega) (by rw [nI_clamp (by omega), sb_cl0]; omega) (fun i _ => hF _) (by decide) (Nat.le_of_ble_eq_true rfl) dJ12_copyOfRangeByte_27) (fun M2 e2 => ?_)
  have h__3 := mp_got e2
  refine V_aload C dJ12_copyOfRangeByte_30 rfl ?_
  refine V_aret (o := some w0) C (Or.inr ⟨_, rfl⟩) dJ12_copyOfRangeByte_32 (by decide) (by omega) ⟨_, rfl, w0, rfl, hw, ?_⟩
  rw [e2, e1, nI_clamp (by omega), sb_cl0]
  funext x
  by_cases hx : x = w0
  · subst hx; rw [mp_self, mp_self]
  · rw [mp_ne hx, mp_ne hx, mp_ne hx]
theorem ct_J12_copyOfRange (l : Launch) (G : mp_G) (b : Nat) (M : mp_M) (va n q : Nat) (f : Nat → Int32) (lab lab2 : mp_L) (hv : M va = some (lab, .inl (G.2.1 2, q, .inl f))) (hF : sb_Fit f) (hq : n < q) (hq2 : n ≤ 64) (hq3 : q ≤ 1000) : Ct l yJ12_copyOfRange cJ12_copyOfRange 3 (some (.array .byte)) 2 1 64 G b ([.ref va, .int 0, .int (nI n)] : List Value) M (pR (fun r M1 => ∃ w, r = some w ∧ M w = none ∧ M1 = mp_up M w (lab2, .inl (G.2.1 2, n, .inl (va_cpy f (fun _ => 0) 0 0 n))))) := by
  refine Ct.ofV (by decide) (vc_ref (vc_int (vc_int vc_nil))) (Nat.le_of_ble_eq_true rfl) ?_
  intro p e s m below meth c C hnm
  refine V_L (L1 := [some (.ref va), some (.int 0), some (.int (nI n))]) rfl ?_
  refine V_iload_n C dJ12_copyOfRange_0 rfl rfl ?_
  refine V_if_ne C 10 dJ12_copyOfRange_1 (by decide) (fun h => ?_) (fun h => ?_)
  · exact absurd rfl h
  · skip
    refine V_iload_n C dJ12_copyOfRange_4 rfl rfl ?_
    refine V_aload_n C dJ12_copyOfRange_5 rfl rfl ?_
    refine V_alen (ti := 2) C rfl hv dJ12_copyOfRange_6 ?_
    refine V_icmp_eq C 17 dJ12_copyOfRange_7 (by decide) (fun h2 => ?_) (fun h2 => ?_)
    · exact absurd ((nI_eq (by omega) (by omega)).mp h2) (by omega)
    · skip
      refine V_aload_n C dJ12_copyOfRange_10 rfl rfl ?_
      refine V_iload_n C dJ12_copyOfRange_11 rfl rfl ?_
      refine V_iload_n C dJ12_copyOfRange_12 rfl rfl ?_
      refine V_ofR (VR_S (As := [.ref va, .int 0, .int (nI n)]) (rest := []) C (ct_J12_copyOfRangeByte l G b M va n q f _ lab2 hv hF (by omega) hq2 hq3) (lw_S q418 q419 q52 q420) nd_J12_copyOfRangeByte rfl (by decide) (by decide) dJ12_copyOfRange_13 rfl ⟨by decide, by decide⟩ (Nat.le_of_ble_eq_true rfl)) (fun r M1 hr => ?_)
      exact V_aret C (Or.inr ⟨_, rfl⟩) dJ12_copyOfRange_16 (by decide) (by decide) ⟨_, rfl, hr⟩
/-- String(AbstractStringBuilder, Void): the bytes copied -/
theorem ct_J5_init_2 (l : Launch) (G : mp_G) (b : Nat) (M : mp_M) (g g2 a sa cap i0 : Nat) (bs : List Nat) (hs : M sa = some ((g2, 10, i0), .inr (9, [.null, .int 0, .int 0, .int 0]))) (hS : SbAt G M g a bs cap) (hg : g2 ≠ g) (hlt : bs.length < cap) (h64 : bs.length ≤ 64) : Ct l yJ5_init_2 cJ5_init_2 5 (none) 4 1 64 G b ([.ref sa, .ref a, .null] : List Value) M (pV (fun M1 => StrAt G M1 g2 sa bs ∧ ExtB sa M M1)) := by
  obtain ⟨va, f, mb, ha, hv, hl, hc, hf, hF⟩ := hS
  refine Ct.ofV (by decide) (vc_ref (vc_ref (vc_null vc_nil))) (Nat.le_of_ble_eq_true rfl) ?_
  intro p e s m below meth c C hnm
  refine V_L (L1 := [some (.ref sa), some (.ref a), some (.null), none, none]) rfl ?_
  refine V_aload_n C dJ5_init_2_0 rfl rfl ?_
  refine V_objInit C q407 q64 q65 dJ5_init_2_1 (by decide) (Nat.le_of_ble_eq_true rfl) ?_
  refine V_aload_n C dJ5_init_2_4 rfl rfl ?_
  refine V_ofRe (VR_U (owner := RJ3) (As := []) (rest := []) C (ct_J3_getValue l G b M a va _ _ _ ha) ha rfl (lw_U q408 q410 q411 q409 q42 q412) rfl nd_J3_getValue rfl (by decide) (by decide) dJ5_init_2_5 rfl ⟨by decide, by decide⟩ (Nat.le_of_ble_eq_true rfl)) ?_
  refine V_astore_n (L' := [some (.ref sa), some (.ref a), some (.null), some (.ref va), none]) C dJ5_init_2_8 rfl (by decide) rfl ?_
  refine V_aload_n C dJ5_init_2_9 rfl rfl ?_
  refine V_ofIe (VR_O (owner := RJ3) (As := []) (rest := []) C (ct_J4_lengthr l G b M a va _ _ _ ha) ha rfl (lw_O q413 q1039 q383 q1041 q379 q43 q381) q384 nd_J3_length rfl (by decide) (by decide) dJ5_init_2_10 rfl ⟨by decide, by decide⟩ (Nat.le_of_ble_eq_true rfl)) ?_
  refine V_istore (L' := [some (.ref sa), some (.ref a), some (.null), some (.ref va), some (.int (nI bs.length))]) C dJ5_init_2_13 (by decide) rfl ?_
  refine V_aload_n C dJ5_init_2_15 rfl rfl ?_
  refine V_ofIe (VR_U (owner := RJ3) (As := []) (rest := []) C (ct_J3_isLatin1 l G b M a va _ _ _ ha) ha rfl (lw_U q414 q326 q327 q325 q42 q328) rfl nd_J3_isLatin1 rfl (by decide) (by decide) dJ5_init_2_16 rfl ⟨by decide, by decide⟩ (Nat.le_of_ble_eq_true rfl)) ?_
  refine V_if_eq C 41 dJ5_init_2_19 (by decide) (fun h => ?_) (fun h => ?_)
  · exact absurd h (by decide)
  · skip
    refine V_aload_n C dJ5_init_2_22 rfl rfl ?_
    refine V_iconst C 0 dJ5_init_2_23 (by decide) ?_
    refine V_M (V_putF (host := "") (C0 := RJ5) (T := TJ5) (N := 4) (ci := 9) (fs' := [.null, .int 0, .int 0, .int 0]) C 1 in_J5 tyJ5 tyJ5_ok nmJ5 rfl hs (by decide) q435 (fun _ h9 => h9) rfl hnm rfl rfl rfl rfl (Nat.le_of_ble_eq_true rfl) rfl dJ5_init_2_24) (fun M1 e1 => ?_)
    have h__1 := mp_got e1
    have h__2 := mp_keep e1 ha hs (by first | assumption | exact Ne.symm (by assumption) | simp | (intro h; simp at h; omega))
    have h__3 := mp_keep e1 hv hs (by first | assumption | exact Ne.symm (by assumption) | simp | (intro h; simp at h; omega))
    refine V_aload_n C dJ5_init_2_27 rfl rfl ?_
    refine V_aload_n C dJ5_init_2_28 rfl rfl ?_
    refine V_iconst C 0 dJ5_init_2_29 (by decide) ?_
    refine V_iload C dJ5_init_2_30 rfl ?_
    refine V_ofR (VR_S (As := [.ref va, .int 0, .int (nI bs.length)]) (rest := [.ref sa]) C (ct_J12_copyOfRange l G b M1 va bs.length cap f _ (g2, 11, 0) h__3 hF hlt h64 hc) (lw_S q415 q416 q52 q417) nd_J12_copyOfRange rfl (by decide) (by decide) dJ5_init_2_32 rfl ⟨by decide, by decide⟩ (Nat.le_of_ble_eq_true rfl)) (fun r M2 hr => ?_)
    obtain ⟨w0, rfl, hw, e2⟩ := hr
    have hs2 := mp_keepN e2 h__1 hw
    have hw2 := mp_got e2
    refine V_st (st1 := [.ref w0, .ref sa]) rfl ?_
    refine V_M (V_putF (host := "") (C0 := RJ5) (T := TJ5) (N := 4) (ci := 9) (fs' := [.ref w0, .int 0, .int 0, .int 0]) C 0 in_J5 tyJ5 tyJ5_ok nmJ5 rfl hs2 (by decide) q434 (fun _ h9 => h9) rfl hnm rfl rfl rfl rfl (Nat.le_of_ble_eq_true rfl) rfl dJ5_init_2_35) (fun M3 e3 => ?_)
    have h__4 := mp_got e3
    have h__5 := mp_keep e3 hw2 hs2 (by first | assumption | exact Ne.symm (by assumption) | simp | (intro h; simp at h; omega))
    refine V_goto C 97 dJ5_init_2_38 (by decide) ?_
    refine V_vret C dJ5_init_2_97 (by decide) (by decide) ⟨rfl, ⟨w0, _, 0, 0, i0, 0, h__4, h__5, tx_cpy hf (Nat.le_refl _), by omega⟩, ?_⟩
    exact (ExtB.up e1).tr ((Ext.new e2 hw).b.tr (ExtB.up e3))
theorem ct_J5_init (l : Launch) (G : mp_G) (b : Nat) (M : mp_M) (g g2 a sa cap i0 : Nat) (bs : List Nat) (hs : M sa = some ((g2, 10, i0), .inr (9, [.null, .int 0, .int 0, .int 0]))) (hS : SbAt G M g a bs cap) (hg : g2 ≠ g) (hlt : bs.length < cap) (h64 : bs.length ≤ 64) : Ct l yJ5_init cJ5_init 2 (none) 5 1 64 G b ([.ref sa, .ref a] : List Value) M (pV (fun M1 => StrAt G M1 g2 sa bs ∧ ExtB sa M M1)) := by
  refine Ct.ofV (by decide) (vc_ref (vc_ref vc_nil)) (Nat.le_of_ble_eq_true rfl) ?_
  intro p e s m below meth c C hnm
  refine V_L (L1 := [some (.ref sa), some (.ref a)]) rfl ?_
  refine V_aload_n C dJ5_init_0 rfl rfl ?_
  refine V_aload_n C dJ5_init_1 rfl rfl ?_
  refine V_null C dJ5_init_2 ?_
  refine V_ofV (VR_I (As := [.ref a, .null]) (rest := []) C (ct_J5_init_2 l G b M g g2 a sa cap i0 bs hs hS hg hlt h64) (lw_meth q406) q44 q404 q405 rfl nd_J5_init_2 rfl (by decide) (by decide) dJ5_init_3 rfl ⟨by decide, by decide⟩ (Nat.le_of_ble_eq_true rfl)) (fun M1 hM1 => ?_)
  exact V_vret C dJ5_init_6 (by decide) (by decide) ⟨rfl, hM1⟩
/-- toString: a new String in the group g2 -/
theorem ct_J4_toString (l : Launch) (G : mp_G) (b : Nat) (M : mp_M) (g g2 a cap : Nat) (bs : List Nat) (hS : SbAt G M g a bs cap) (hg : g2 ≠ g) (hlt : bs.length < cap) (h64 : bs.length ≤ 64) : Ct l yJ4_toString cJ4_toString 1 (some (.object "java/lang/String")) 6 2 68 G b ([.ref a] : List Value) M (pR (fun r M1 => ∃ sa, r = some sa ∧ M sa = none ∧ StrAt G M1 g2 sa bs ∧ Ext M M1)) := by
  have hS0 := hS
  obtain ⟨va, f, mb, ha, hv, hl, hc, hf, hF⟩ := hS
  refine Ct.ofV (by decide) (vc_ref vc_nil) (Nat.le_of_ble_eq_true rfl) ?_
  intro p e s m below meth c C hnm
  refine V_L (L1 := [some (.ref a)]) rfl ?_
  refine V_new (C0 := RJ5) (T := TJ5) (N := 4) (ci := 9) (fs := [.null, .int 0, .int 0, .int 0]) C (g2, 10, 999) in_J5 tyJ5 tyJ5_ok q399 q400 q44 rfl (fun j hj => by rcases (show j = 0 ∨ j = 1 ∨ j = 2 ∨ j = 3 by omega) with rfl | rfl | rfl | rfl <;> rfl) (by first | decide | omega | (dsimp only [rmOf]; omega)) (by first | decide | omega | (dsimp only [rmOf]; omega)) dJ4_toString_0 (fun q0 hq0 => V_N (fun M1 e1 => ?_))
  have h__1 := mp_keepN e1 ha hq0
  have h__2 := mp_keepN e1 hv hq0
  have h__3 := mp_got e1
  refine V_dup C dJ4_toString_3 rfl ?_
  refine V_aload_n C dJ4_toString_4 rfl rfl ?_
  refine V_ofV (VR_I (As := [.ref a]) (rest := [.ref q0]) C (ct_J5_init l G b M1 g g2 a q0 cap 999 bs h__3 ⟨va, f, mb, h__1, h__2, hl, hc, hf, hF⟩ hg hlt h64) (lw_meth q403) q44 q401 q402 rfl nd_J5_init rfl (by decide) (by decide) dJ4_toString_5 rfl ⟨by decide, by decide⟩ (Nat.le_of_ble_eq_true rfl)) (fun M2 hM2 => ?_)
  refine V_aret (o := some q0) C (Or.inl ⟨_, rfl⟩) dJ4_toString_8 (by decide) (by decide) ⟨_, rfl, q0, rfl, hq0, hM2.1, (Ext.new e1 hq0).ofB hq0 hM2.2⟩
/-- AbstractStringBuilder(16), StringBuilder(): empty, 16 places -/
theorem ct_J3_init (l : Launch) (G : mp_G) (b : Nat) (M : mp_M) (g a : Nat) (ha : M a = some ((g, 0, 0), .inr (8, [.null, .int 0, .int 0, .int 0]))) : Ct l yJ3_init cJ3_init 2 (none) 1 1 16 G b ([.ref a, .int 16] : List Value) M (pV (fun M1 => SbAt G M1 g a [] 16 ∧ ExtB a M M1)) := by
  refine Ct.ofV (by decide) (vc_ref (vc_int vc_nil)) (Nat.le_of_ble_eq_true rfl) ?_
  intro p e s m below meth c C hnm
  refine V_L (L1 := [some (.ref a), some (.int 16)]) rfl ?_
  refine V_aload_n C dJ3_init_0 rfl rfl ?_
  refine V_objInit C q136 q64 q65 dJ3_init_1 (by decide) (Nat.le_of_ble_eq_true rfl) ?_
  refine V_gets C C.2.2.2.1.2.2.2.1 q137 (fun _ h9 => h9) dJ3_init_4 ?_
  refine V_if_eq C 25 dJ3_init_7 (by decide) (fun h => ?_) (fun h => ?_)
  · exact absurd h (by decide)
  · skip
    refine V_aload_n C dJ3_init_10 rfl rfl ?_
    refine V_iload_n C dJ3_init_11 rfl rfl ?_
    refine V_newa (atype := .byte) (ti := 2) C 16 (g, 1, 0) q160 rfl rfl rfl (by decide) (by decide) (by decide) (by first | decide | omega | (dsimp only [rmOf]; omega)) (by first | decide | omega | (dsimp only [rmOf]; omega)) dJ3_init_12 (fun w0 hw => V_N (fun M1 e1 => ?_))
    have h__1 := mp_keepN e1 ha hw
    have h__2 := mp_got e1
    refine V_M (V_put (host := "") (C0 := RJ4) (T := TJ4) (N := 4) (ci := 8) (fs' := [.ref w0, .int 0, .int 0, .int 0]) C 0 in_J4 tyJ4 tyJ4_ok nmJ4 rfl h__1 (by decide) q146 (fun _ h9 => h9) rfl rfl rfl rfl (Nat.le_of_ble_eq_true rfl) rfl dJ3_init_14) (fun M2 e2 => ?_)
    have h__3 := mp_got e2
    have h__4 := mp_keep e2 h__2 h__1 (by first | assumption | exact Ne.symm (by assumption) | simp | (intro h; simp at h; omega))
    refine V_aload_n C dJ3_init_17 rfl rfl ?_
    refine V_iconst C 0 dJ3_init_18 (by decide) ?_
    refine V_M (V_put (host := "") (C0 := RJ4) (T := TJ4) (N := 4) (ci := 8) (fs' := [.ref w0, .int 0, .int 0, .int 0]) C 1 in_J4 tyJ4 tyJ4_ok nmJ4 rfl h__3 (by decide) q147 (fun _ h9 => h9) rfl rfl rfl rfl (Nat.le_of_ble_eq_true rfl) rfl dJ3_init_19) (fun M3 e3 => ?_)
    have h__5 := mp_got e3
    have h__6 := mp_keep e3 h__4 h__3 (by first | assumption | exact Ne.symm (by assumption) | simp | (intro h; simp at h; omega))
    refine V_goto C 38 dJ3_init_22 (by decide) ?_
    exact V_vret C dJ3_init_38 (by decide) (by decide) ⟨rfl, ⟨w0, _, false, h__5, h__6, by decide, by decide, fun j c hj => by simp at hj, sb_fit0⟩, (Ext.new e1 hw).b.tr ((ExtB.up e2).tr (ExtB.up e3))⟩
theorem ct_J4_init (l : Launch) (G : mp_G) (b : Nat) (M : mp_M) (g a : Nat) (ha : M a = some ((g, 0, 0), .inr (8, [.null, .int 0, .int 0, .int 0]))) : Ct l yJ4_init cJ4_init 1 (none) 2 1 16 G b ([.ref a] : List Value) M (pV (fun M1 => SbAt G M1 g a [] 16 ∧ ExtB a M M1)) := by
  refine Ct.ofV (by decide) (vc_ref vc_nil) (Nat.le_of_ble_eq_true rfl) ?_
  intro p e s m below meth c C hnm
  refine V_L (L1 := [some (.ref a)]) rfl ?_
  refine V_aload_n C dJ4_init_0 rfl rfl ?_
  refine V_bipush C 16 dJ4_init_1 (by decide) ?_
  refine V_ofV (VR_I (As := [.int 16]) (rest := []) C (ct_J3_init l G b M g a ha) (lw_meth q135) q42 q133 q134 rfl nd_J3_init rfl (by decide) (by decide) dJ4_init_3 rfl ⟨by decide, by decide⟩ (Nat.le_of_ble_eq_true rfl)) (fun M1 hM1 => ?_)
  exact V_vret C dJ4_init_6 (by decide) (by decide) ⟨rfl, hM1⟩
theorem ct_J13_init (l : Launch) (G : mp_G) (b : Nat) (M : mp_M) (a : Nat) : Ct l yJ13_init cJ13_init 1 (none) 1 0 0 G b ([.ref a] : List Value) M (pV (fun M1 => M1 = M)) := by
  refine Ct.ofV (by decide) (vc_ref vc_nil) (Nat.le_of_ble_eq_true rfl) ?_
  intro p e s m below meth c C hnm
  refine V_L (L1 := [some (.ref a)]) rfl ?_
  refine V_aload_n C dJ13_init_0 rfl rfl ?_
  refine V_objInit C q451 q64 q65 dJ13_init_1 (by decide) (Nat.le_of_ble_eq_true rfl) ?_
  exact V_vret C dJ13_init_4 (by decide) (by decide) ⟨rfl, rfl⟩
theorem ct_J0_init (l : Launch) (G : mp_G) (b : Nat) (M : mp_M) (a : Nat) : Ct l yJ0_init cJ0_init 1 (none) 1 0 0 G b ([.ref a] : List Value) M (pV (fun M1 => M1 = M)) := by
  refine Ct.ofV (by decide) (vc_ref vc_nil) (Nat.le_of_ble_eq_true rfl) ?_
  intro p e s m below meth c C hnm
  refine V_L (L1 := [some (.ref a)]) rfl ?_
  refine V_aload_n C dJ0_init_0 rfl rfl ?_
  refine V_objInit C q100 q64 q65 dJ0_init_1 (by decide) (Nat.le_of_ble_eq_true rfl) ?_
  exact V_vret C dJ0_init_4 (by decide) (by decide) ⟨rfl, rfl⟩
theorem ct_J1_init (l : Launch) (G : mp_G) (b : Nat) (M : mp_M) (a : Nat) (x : Int32) (v1 v2 : Value) (lab : mp_L) (ha : M a = some (lab, .inr (7, [.int x, v1, v2]))) : Ct l yJ1_init cJ1_init 1 (none) 2 0 0 G b ([.ref a] : List Value) M (pV (fun M1 => M1 = mp_up M a (lab, .inr (7, [.int 0, v1, v2])))) := by
  refine Ct.ofV (by decide) (vc_ref vc_nil) (Nat.le_of_ble_eq_true rfl) ?_
  intro p e s m below meth c C hnm
  refine V_L (L1 := [some (.ref a)]) rfl ?_
  refine V_aload_n C dJ1_init_0 rfl rfl ?_
  refine V_ofVe (VR_I (As := []) (rest := []) C (ct_J0_init l G b M a) (lw_meth q99) q39 q97 q98 rfl nd_J0_init rfl (by decide) (by decide) dJ1_init_1 rfl ⟨by decide, by decide⟩ (Nat.le_of_ble_eq_true rfl)) ?_
  refine V_aload_n C dJ1_init_4 rfl rfl ?_
  refine V_iconst C 0 dJ1_init_5 (by decide) ?_
  refine V_M (V_put (host := "") (C0 := RJ2) (T := TJ2) (N := 3) (ci := 7) (fs' := [.int 0, v1, v2]) C 0 in_J2 tyJ2 tyJ2_ok nmJ2 rfl ha (by decide) q105 (fun _ h9 => h9) rfl rfl rfl rfl (Nat.le_of_ble_eq_true rfl) rfl dJ1_init_6) (fun M1 e1 => ?_)
  have h__1 := mp_got e1
  exact V_vret C dJ1_init_9 (by decide) (by decide) ⟨rfl, e1⟩
/-- an ArrayList of the objects at xs: labels l1 (itself), l2 (its array) -/
def AlAt (G : mp_G) (M : mp_M) (l1 l2 : mp_L) (a : Nat) (xs : List Nat) : Prop := ∃ mo : Int32, (xs = [] ∧ M a = some (l1, .inr (7, [.int mo, .ref G.2.2, .int 0]))) ∨ ∃ (arr n : Nat) (f : Nat → Option Nat), M a = some (l1, .inr (7, [.int mo, .ref arr, .int (nI xs.length)])) ∧ M arr = some (l2, .inl (G.2.1 3, n, .inr (.inr (.inr (.inr f))))) ∧ xs.length ≤ n ∧ 10 ≤ n ∧ n ≤ 100 ∧ ∀ (j x : Nat), xs[j]? = some x → f j = some x
theorem ct_J2_init (l : Launch) (G : mp_G) (b : Nat) (M : mp_M) (a : Nat) (l1 l2 : mp_L) (ha : M a = some (l1, .inr (7, [.int 0, .null, .int 0]))) : Ct l yJ2_init cJ2_init 1 (none) 3 0 0 G b ([.ref a] : List Value) M (pV (fun M1 => AlAt G M1 l1 l2 a [] ∧ ExtB a M M1)) := by
  refine Ct.ofV (by decide) (vc_ref vc_nil) (Nat.le_of_ble_eq_true rfl) ?_
  intro p e s m below meth c C hnm
  refine V_L (L1 := [some (.ref a)]) rfl ?_
  refine V_aload_n C dJ2_init_0 rfl rfl ?_
  refine V_ofV (VR_I (As := []) (rest := []) C (ct_J1_init l G b M a 0 _ _ _ ha) (lw_meth q96) q40 q94 q95 rfl nd_J1_init rfl (by decide) (by decide) dJ2_init_1 rfl ⟨by decide, by decide⟩ (Nat.le_of_ble_eq_true rfl)) (fun M1 e1 => ?_)
  have ha1 := mp_got e1
  refine V_aload_n C dJ2_init_4 rfl rfl ?_
  refine V_gets C C.2.2.2.1.2.2.2.2.1 q101 (fun _ h9 => h9) dJ2_init_5 ?_
  refine V_M (V_put (host := "") (C0 := RJ2) (T := TJ2) (N := 3) (ci := 7) (fs' := [.int 0, .ref G.2.2, .int 0]) C 1 in_J2 tyJ2 tyJ2_ok nmJ2 rfl ha1 (by decide) q103 (fun _ h9 => h9) rfl rfl rfl rfl (Nat.le_of_ble_eq_true rfl) rfl dJ2_init_8) (fun M2 e2 => ?_)
  have h__1 := mp_got e2
  exact V_vret C dJ2_init_11 (by decide) (by decide) ⟨rfl, ⟨0, Or.inl ⟨rfl, h__1⟩⟩, (ExtB.up e1).tr (ExtB.up e2)⟩
theorem al_obj {G : mp_G} {M : mp_M} {l1 l2 : mp_L} {a : Nat} {xs : List Nat} (h : AlAt G M l1 l2 a xs) : ∃ (mo : Int32) (arr : Nat), M a = some (l1, .inr (7, [.int mo, .ref arr, .int (nI xs.length)])) := by
  obtain ⟨mo, ⟨h1, h2⟩ | ⟨arr, n, f, h1, -⟩⟩ := h
  · exact ⟨mo, _, by rw [h2, h1]; rfl⟩
  · exact ⟨mo, arr, h1⟩
theorem ct_J2_size (l : Launch) (G : mp_G) (b : Nat) (M : mp_M) (a : Nat) (l1 l2 : mp_L) (xs : List Nat) (h : AlAt G M l1 l2 a xs) : Ct l yJ2_size cJ2_size 1 (some .int) 0 0 0 G b ([.ref a] : List Value) M (pI (fun r M1 => r = nI xs.length ∧ M1 = M)) := by
  obtain ⟨mo, arr, ha⟩ := al_obj h
  refine Ct.ofV (by decide) (vc_ref vc_nil) (Nat.le_of_ble_eq_true rfl) ?_
  intro p e s m below meth c C hnm
  refine V_L (L1 := [some (.ref a)]) rfl ?_
  refine V_aload_n C dJ2_size_0 rfl rfl ?_
  refine V_get (C0 := RJ2) (T := TJ2) (N := 3) (ci := 7) C 2 in_J2 rfl ha (by decide) q104 (fun _ h9 => h9) rfl dJ2_size_1 ?_
  exact V_iret C dJ2_size_4 (by decide) (by decide) ⟨_, rfl, rfl, rfl⟩
theorem ct_J2_elementData (l : Launch) (G : mp_G) (b : Nat) (M : mp_M) (a k x : Nat) (l1 l2 : mp_L) (xs : List Nat) (h : AlAt G M l1 l2 a xs) (hk : xs[k]? = some x) : Ct l yJ2_elementData cJ2_elementData 2 (some (.object "java/lang/Object")) 0 0 0 G b ([.ref a, .int (nI k)] : List Value) M (pR (fun r M1 => r = some x ∧ M1 = M)) := by
  obtain ⟨mo, ⟨h1, h2⟩ | ⟨arr, n, f, ha, hr, hl, h10, h100, hf⟩⟩ := h
  · rw [h1] at hk; cases hk
  · have hkl := (List.getElem?_eq_some_iff.mp hk).1
    refine Ct.ofV (by decide) (vc_ref (vc_int vc_nil)) (Nat.le_of_ble_eq_true rfl) ?_
    intro p e s m below meth c C hnm
    refine V_L (L1 := [some (.ref a), some (.int (nI k))]) rfl ?_
    refine V_aload_n C dJ2_elementData_0 rfl rfl ?_
    refine V_get (C0 := RJ2) (T := TJ2) (N := 3) (ci := 7) C 1 in_J2 rfl ha (by decide) q103 (fun _ h9 => h9) rfl dJ2_elementData_1 ?_
    refine V_iload_n C dJ2_elementData_4 rfl rfl ?_
    refine V_aald C 3 rfl hr (pk_in k n (by omega)) dJ2_elementData_5 ?_
    refine V_topq (o1 := some x) (by rw [nI_clamp (by omega), hf k x hk]) ?_
    exact V_aret C (Or.inl ⟨_, rfl⟩) dJ2_elementData_6 (by decide) (by decide) ⟨_, rfl, rfl, rfl⟩
theorem ct_J2_get (l : Launch) (G : mp_G) (b : Nat) (M : mp_M) (a k x : Nat) (l1 l2 : mp_L) (xs : List Nat) (h : AlAt G M l1 l2 a xs) (hk : xs[k]? = some x) (hn : xs.length ≤ 100) : Ct l yJ2_get cJ2_get 2 (some (.object "java/lang/Object")) 2 0 0 G b ([.ref a, .int (nI k)] : List Value) M (pR (fun r M1 => r = some x ∧ M1 = M)) := by
  obtain ⟨mo, arr, ha⟩ := al_obj h
  have hkl := (List.getElem?_eq_some_iff.mp hk).1
  refine Ct.ofV (by decide) (vc_ref (vc_int vc_nil)) (Nat.le_of_ble_eq_true rfl) ?_
  intro p e s m below meth c C hnm
  refine V_L (L1 := [some (.ref a), some (.int (nI k))]) rfl ?_
  refine V_iload_n C dJ2_get_0 rfl rfl ?_
  refine V_aload_n C dJ2_get_1 rfl rfl ?_
  refine V_get (C0 := RJ2) (T := TJ2) (N := 3) (ci := 7) C 2 in_J2 rfl ha (by decide) q104 (fun _ h9 => h9) rfl dJ2_get_2 ?_
  refine V_ofIe (VR_S (As := [.int (nI k), .int (nI xs.length)]) (rest := []) C (ct_J7_checkIndex l G b M (nI k) (nI xs.length) (nI_pos (by omega)) (nI_lt hkl (by omega))) (lw_S q212 q213 q47 q214) nd_J7_checkIndex rfl (by decide) (by decide) dJ2_get_5 rfl ⟨by decide, by decide⟩ (Nat.le_of_ble_eq_true rfl)) ?_
  refine V_pop C dJ2_get_8 rfl ?_
  refine V_aload_n C dJ2_get_9 rfl rfl ?_
  refine V_iload_n C dJ2_get_10 rfl rfl ?_
  refine V_ofRe (VR_V (As := [.int (nI k)]) (rest := []) C (ct_J2_elementData l G b M a k x l1 l2 xs h hk) ha rfl (lw_V q218 q219 q220 q41 q221) rfl nd_J2_elementData rfl (by decide) (by decide) dJ2_get_11 rfl ⟨by decide, by decide⟩ (Nat.le_of_ble_eq_true rfl)) ?_
  exact V_aret (o := some x) C (Or.inl ⟨_, rfl⟩) dJ2_get_14 (by decide) (by decide) ⟨_, rfl, rfl, rfl⟩

