set_option maxRecDepth 100000
/-! THE COMPONENT, N: the document's constructor -/
theorem RepAt.keep {S : mp_L → Prop} {G : mp_G} {M M1 : mp_M} {g a ln : Nat} {lo : Nat → List Nat} {P : Nat → Int32} {hi : Nat → Option Nat} {sh fo : Nat → Bool} {ch : Nat → Nat → List Nat} {nx : Nat → Option Nat} {wt : List (List Nat)} {A : Nat → Nat → Nat} {wo : List Nat} (hR : RepAt G M g a ln lo P hi sh fo ch nx wt A wo) (hK : Keep S M M1) (hs : ∀ la : mp_L, la.1 = g → ¬ S la) : RepAt G M1 g a ln lo P hi sh fo ch nx wt A wo := by
  obtain ⟨r1, r2, r3, r4, r5, r6, r7, r8, r9, r10, r11⟩ := hR
  exact ⟨hK _ _ _ r1 (hs _ rfl), r2.keep hK (hs _ rfl) (hs _ rfl), r3.keep hK (hs _ rfl) (hs _ rfl), ⟨r4.1, fun i hi0 => (r4.2 i hi0).keep hK (fun _ _ _ => hs _ rfl)⟩, fun k hk => hK _ _ _ (r5 k hk) (hs _ rfl), fun k hk => (r6 k hk).keep hK (fun _ _ _ => hs _ rfl), fun m hm h => ⟨hK _ _ _ (r7 m hm h).1 (hs _ rfl), hK _ _ _ (r7 m hm h).2 (hs _ rfl)⟩, fun m hm h => hK _ _ _ (r8 m hm h) (hs _ rfl), r9, r10, r11⟩
theorem SbAt.keep {S : mp_L → Prop} {G : mp_G} {M M1 : mp_M} {g a cap : Nat} {bs : List Nat} (h : SbAt G M g a bs cap) (hK : Keep S M M1) (hs : ∀ la : mp_L, la.1 = g → ¬ S la) : SbAt G M1 g a bs cap := by
  obtain ⟨va, f, mb, h1, h2, h3⟩ := h
  exact ⟨va, f, mb, hK _ _ _ h1 (hs _ rfl), hK _ _ _ h2 (hs _ rfl), h3⟩
theorem ExtB.lab {a : Nat} {la : mp_L} {y : va_E} {M M1 : mp_M} (h : ExtB a M M1) (ha : M a = some (la, y)) : Keep (fun lb => lb = la) M M1 := fun q lb z hq hn => h q _ hq (fun w => by rw [w, ha] at hq; cases hq; exact hn rfl)
theorem ct_X0_init (l : Launch) (G : mp_G) (b : Nat) (M : mp_M) (dx : Nat) (ha : M dx = some ((7, 0, 0), .inr (0, [.null, .null, .null]))) : Ct l yX0_init cX0_init 1 (none) 6 20 120 G b ([.ref dx] : List Value) M (pV (fun M1 => (∃ ra wa da rp, DocAt G M1 dx ra wa da rp ∧ SbAt G M1 1 wa [] 16 ∧ SbAt G M1 2 da [] 16 ∧ ∀ r, r ≤ 2 → ∃ A, RepAt G M1 (3 + r) (rp r) 0 (fun _ => []) (fun _ => 0) (fun _ => none) (fun _ => false) (fun _ => false) (fun _ _ => []) (fun _ => none) [] A []) ∧ ExtB dx M M1)) := by
  refine Ct.ofV (by decide) (vc_ref vc_nil) (Nat.le_of_ble_eq_true rfl) ?_
  intro p e s m below meth c C hnm
  refine V_L (L1 := [some (.ref dx)]) rfl ?_
  refine V_aload_n C dX0_init_0 rfl rfl ?_
  refine V_objInit C q63 q64 q65 dX0_init_1 (by decide) (Nat.le_of_ble_eq_true rfl) ?_
  refine V_aload_n C dX0_init_4 rfl rfl ?_
  refine V_iconst C 3 dX0_init_5 (by decide) ?_
  refine V_newq (ti := 5) C 3 (7, 1, 0) q66 C.2.2.2.1.2.2.1.2.2.2.2.2.2.1 rfl (by decide) (by decide) (by decide) (by first | decide | omega | (dsimp only [rmOf]; omega)) (by first | decide | omega | (dsimp only [rmOf]; omega)) dX0_init_6 (fun ra hra => V_N (fun N0 f0 => ?_))
  have h__1 := mp_keepN f0 ha hra
  have h__2 := mp_got f0
  have X0 : ExtB dx M N0 := (Ext.new f0 hra).b
  have HX0 := h__1
  have HY0 := h__2
  refine V_dup C dX0_init_9 rfl ?_
  refine V_iconst C 0 dX0_init_10 (by decide) ?_
  refine V_new (C0 := RX1) (T := TX1) (N := 3) (ci := 1) (fs := [.null, .null, .null]) C (3, 14, 0) in_X1 tyX1 tyX1_ok q66 q68 q37 rfl (fun j hj => by rcases (show j = 0 ∨ j = 1 ∨ j = 2 by omega) with rfl | rfl | rfl <;> rfl) (by first | decide | omega | (dsimp only [rmOf]; omega)) (by first | decide | omega | (dsimp only [rmOf]; omega)) dX0_init_11 (fun p0 hp0 => V_N (fun Q0 g0 => ?_))
  have h__3 := mp_keepN g0 h__1 hp0
  have h__4 := mp_keepN g0 h__2 hp0
  have h__5 := mp_got g0
  refine V_dup C dX0_init_14 rfl ?_
  refine V_ofV (VR_IN (As := []) (rest := [.ref p0, .int 0, .ref ra, .ref ra, .ref dx]) C (ct_X1_init l G b Q0 3 p0 h__5) (lw_meth q71) q37 ev69 q70 rfl nd_X1_init rfl (by decide) (by decide) dX0_init_15 rfl ⟨by decide, by decide⟩ (Nat.le_of_ble_eq_true rfl)) (fun S0 hS0 => ?_)
  obtain ⟨⟨A0, R0a⟩, E0⟩ := hS0
  have Y0 := (Ext.new g0 hp0).ofB hp0 E0
  have dd0 := Y0 _ _ HX0
  have rr0 := Y0 _ _ HY0
  have pp0 := R0a.1
  refine V_M (V_aast (ti := 5) (ci := 1) (r := (RX1, TX1, 3)) C rfl rr0 pp0 rfl (pk_in 0 3 (by omega)) dX0_init_18) (fun N1 f1 => ?_)
  rw [show (0 : Int32).toNatClampNeg = 0 from by decide] at f1
  have h__7 := mp_got f1
  have h__8 := mp_keep f1 dd0 rr0 (by first | assumption | exact Ne.symm (by assumption) | (simp; done) | (simp; omega) | (intro h; simp at h; omega))
  have h__9 := mp_keep f1 pp0 rr0 (by first | assumption | exact Ne.symm (by assumption) | (simp; done) | (simp; omega) | (intro h; simp at h; omega))
  have K0 : Keep (fun la => la = (7, 1, 0)) S0 N1 := Keep.up f1 rr0 rfl
  have R00 := R0a.keep K0 (fun la h z => by rw [z] at h; cases h)
  have X1 : ExtB dx M N1 := fun q y h1 h2 => by rw [f1, mp_ne (fun z => by rw [z, hra] at h1; cases h1)]; exact Y0 q y (X0 q y h1 h2)
  have HX1 := h__8
  have HY1 := h__7
  refine V_dup C dX0_init_19 rfl ?_
  refine V_iconst C 1 dX0_init_20 (by decide) ?_
  refine V_new (C0 := RX1) (T := TX1) (N := 3) (ci := 1) (fs := [.null, .null, .null]) C (4, 14, 0) in_X1 tyX1 tyX1_ok q66 q68 q37 rfl (fun j hj => by rcases (show j = 0 ∨ j = 1 ∨ j = 2 by omega) with rfl | rfl | rfl <;> rfl) (by first | decide | omega | (dsimp only [rmOf]; omega)) (by first | decide | omega | (dsimp only [rmOf]; omega)) dX0_init_21 (fun p1 hp1 => V_N (fun Q1 g1 => ?_))
  have h__10 := mp_keepN g1 h__8 hp1
  have h__11 := mp_keepN g1 h__7 hp1
  have h__12 := mp_keepN g1 h__9 hp1
  have h__13 := mp_got g1
  refine V_dup C dX0_init_24 rfl ?_
  refine V_ofV (VR_IN (As := []) (rest := [.ref p1, .int 1, .ref ra, .ref ra, .ref dx]) C (ct_X1_init l G b Q1 4 p1 h__13) (lw_meth q71) q37 ev69 q70 rfl nd_X1_init rfl (by decide) (by decide) dX0_init_25 rfl ⟨by decide, by decide⟩ (Nat.le_of_ble_eq_true rfl)) (fun S1 hS1 => ?_)
  obtain ⟨⟨A1, R1a⟩, E1⟩ := hS1
  have Y1 := (Ext.new g1 hp1).ofB hp1 E1
  have dd1 := Y1 _ _ HX1
  have rr1 := Y1 _ _ HY1
  have pp1 := R1a.1
  refine V_M (V_aast (ti := 5) (ci := 1) (r := (RX1, TX1, 3)) C rfl rr1 pp1 rfl (pk_in 1 3 (by omega)) dX0_init_28) (fun N2 f2 => ?_)
  rw [show (1 : Int32).toNatClampNeg = 1 from by decide] at f2
  have h__15 := mp_got f2
  have h__16 := mp_keep f2 dd1 rr1 (by first | assumption | exact Ne.symm (by assumption) | (simp; done) | (simp; omega) | (intro h; simp at h; omega))
  have h__17 := mp_keep f2 pp1 rr1 (by first | assumption | exact Ne.symm (by assumption) | (simp; done) | (simp; omega) | (intro h; simp at h; omega))
  have K1 : Keep (fun la => la = (7, 1, 0)) S1 N2 := Keep.up f2 rr1 rfl
  have R10 := R1a.keep K1 (fun la h z => by rw [z] at h; cases h)
  have R01 := (R00.ext Y1).keep K1 (fun la h z => by rw [z] at h; cases h)
  have X2 : ExtB dx M N2 := fun q y h1 h2 => by rw [f2, mp_ne (fun z => by rw [z, hra] at h1; cases h1)]; exact Y1 q y (X1 q y h1 h2)
  have HX2 := h__16
  have HY2 := h__15
  refine V_dup C dX0_init_29 rfl ?_
  refine V_iconst C 2 dX0_init_30 (by decide) ?_
  refine V_new (C0 := RX1) (T := TX1) (N := 3) (ci := 1) (fs := [.null, .null, .null]) C (5, 14, 0) in_X1 tyX1 tyX1_ok q66 q68 q37 rfl (fun j hj => by rcases (show j = 0 ∨ j = 1 ∨ j = 2 by omega) with rfl | rfl | rfl <;> rfl) (by first | decide | omega | (dsimp only [rmOf]; omega)) (by first | decide | omega | (dsimp only [rmOf]; omega)) dX0_init_31 (fun p2 hp2 => V_N (fun Q2 g2 => ?_))
  have h__18 := mp_keepN g2 h__16 hp2
  have h__19 := mp_keepN g2 h__15 hp2
  have h__20 := mp_keepN g2 h__17 hp2
  have h__21 := mp_got g2
  refine V_dup C dX0_init_34 rfl ?_
  refine V_ofV (VR_IN (As := []) (rest := [.ref p2, .int 2, .ref ra, .ref ra, .ref dx]) C (ct_X1_init l G b Q2 5 p2 h__21) (lw_meth q71) q37 ev69 q70 rfl nd_X1_init rfl (by decide) (by decide) dX0_init_35 rfl ⟨by decide, by decide⟩ (Nat.le_of_ble_eq_true rfl)) (fun S2 hS2 => ?_)
  obtain ⟨⟨A2, R2a⟩, E2⟩ := hS2
  have Y2 := (Ext.new g2 hp2).ofB hp2 E2
  have dd2 := Y2 _ _ HX2
  have rr2 := Y2 _ _ HY2
  have pp2 := R2a.1
  refine V_M (V_aast (ti := 5) (ci := 1) (r := (RX1, TX1, 3)) C rfl rr2 pp2 rfl (pk_in 2 3 (by omega)) dX0_init_38) (fun N3 f3 => ?_)
  rw [show (2 : Int32).toNatClampNeg = 2 from by decide] at f3
  have h__23 := mp_got f3
  have h__24 := mp_keep f3 dd2 rr2 (by first | assumption | exact Ne.symm (by assumption) | (simp; done) | (simp; omega) | (intro h; simp at h; omega))
  have h__25 := mp_keep f3 pp2 rr2 (by first | assumption | exact Ne.symm (by assumption) | (simp; done) | (simp; omega) | (intro h; simp at h; omega))
  have K2 : Keep (fun la => la = (7, 1, 0)) S2 N3 := Keep.up f3 rr2 rfl
  have R20 := R2a.keep K2 (fun la h z => by rw [z] at h; cases h)
  have R02 := (R01.ext Y2).keep K2 (fun la h z => by rw [z] at h; cases h)
  have R11 := (R10.ext Y2).keep K2 (fun la h z => by rw [z] at h; cases h)
  have X3 : ExtB dx M N3 := fun q y h1 h2 => by rw [f3, mp_ne (fun z => by rw [z, hra] at h1; cases h1)]; exact Y2 q y (X2 q y h1 h2)
  have XDX := h__24
  refine V_M (V_putF (host := "") (C0 := RX0) (T := TX0) (N := 3) (ci := 0) (fs' := [.ref ra, .null, .null]) C 0 in_X0 tyX0 tyX0_ok nmX0 rfl h__24 (by decide) q161 (fun _ h9 => h9) rfl hnm rfl rfl rfl rfl (Nat.le_of_ble_eq_true rfl) rfl dX0_init_39) (fun N4 f4 => ?_)
  have h__26 := mp_got f4
  have h__27 := mp_keep f4 h__23 h__24 (by first | assumption | exact Ne.symm (by assumption) | (simp; done) | (simp; omega) | (intro h; simp at h; omega))
  have h__28 := mp_keep f4 h__25 h__24 (by first | assumption | exact Ne.symm (by assumption) | (simp; done) | (simp; omega) | (intro h; simp at h; omega))
  have K4 : Keep (fun la => la = (7, 0, 0)) N3 N4 := Keep.up f4 XDX rfl
  have R0b := R02.keep K4 (fun la h z => by rw [z] at h; cases h)
  have R1b := R11.keep K4 (fun la h z => by rw [z] at h; cases h)
  have R2b := R20.keep K4 (fun la h z => by rw [z] at h; cases h)
  have X4 : ExtB dx M N4 := X3.tr (ExtB.up f4)
  have HW0 := h__26
  have HV0 := h__27
  refine V_aload_n C dX0_init_42 rfl rfl ?_
  refine V_new (C0 := RJ4) (T := TJ4) (N := 4) (ci := 8) (fs := [.null, .int 0, .int 0, .int 0]) C (1, 0, 0) in_J4 tyJ4 tyJ4_ok q128 q129 q43 rfl (fun j hj => by rcases (show j = 0 ∨ j = 1 ∨ j = 2 ∨ j = 3 by omega) with rfl | rfl | rfl | rfl <;> rfl) (by first | decide | omega | (dsimp only [rmOf]; omega)) (by first | decide | omega | (dsimp only [rmOf]; omega)) dX0_init_43 (fun wa hwa => V_N (fun B0 b0e => ?_))
  have h__29 := mp_keepN b0e h__26 hwa
  have h__30 := mp_keepN b0e h__27 hwa
  have h__31 := mp_keepN b0e h__28 hwa
  have h__32 := mp_got b0e
  refine V_dup C dX0_init_46 rfl ?_
  refine V_ofV (VR_I (As := []) (rest := [.ref wa, .ref dx]) C (ct_J4_init l G b B0 1 wa h__32) (lw_meth q132) q43 q130 q131 rfl nd_J4_init rfl (by decide) (by decide) dX0_init_47 rfl ⟨by decide, by decide⟩ (Nat.le_of_ble_eq_true rfl)) (fun D0 hD0 => ?_)
  obtain ⟨T0, U0⟩ := hD0
  have Z0 := (Ext.new b0e hwa).ofB hwa U0
  have ddw0 := Z0 _ _ HW0
  have rrw0 := Z0 _ _ HV0
  refine V_M (V_putF (host := "") (C0 := RX0) (T := TX0) (N := 3) (ci := 0) (fs' := [.ref ra, .ref wa, .null]) C 1 in_X0 tyX0 tyX0_ok nmX0 rfl ddw0 (by decide) q162 (fun _ h9 => h9) rfl hnm rfl rfl rfl rfl (Nat.le_of_ble_eq_true rfl) rfl dX0_init_50) (fun N5 f5 => ?_)
  have h__33 := mp_got f5
  have h__34 := mp_keep f5 rrw0 ddw0 (by first | assumption | exact Ne.symm (by assumption) | (simp; done) | (simp; omega) | (intro h; simp at h; omega))
  have KK0 : Keep (fun la => la = (7, 0, 0)) D0 N5 := Keep.up f5 ddw0 rfl
  have XX0 : ExtB dx M N5 := (X4.tr Z0.b).tr (ExtB.up f5)
  have T0b := T0.keep KK0 (fun la h z => by rw [z] at h; cases h)
  have R0c := (R0b.ext Z0).keep KK0 (fun la h z => by rw [z] at h; cases h)
  have R1c := (R1b.ext Z0).keep KK0 (fun la h z => by rw [z] at h; cases h)
  have R2c := (R2b.ext Z0).keep KK0 (fun la h z => by rw [z] at h; cases h)
  have HW1 := h__33
  have HV1 := h__34
  refine V_aload_n C dX0_init_53 rfl rfl ?_
  refine V_new (C0 := RJ4) (T := TJ4) (N := 4) (ci := 8) (fs := [.null, .int 0, .int 0, .int 0]) C (2, 0, 0) in_J4 tyJ4 tyJ4_ok q128 q129 q43 rfl (fun j hj => by rcases (show j = 0 ∨ j = 1 ∨ j = 2 ∨ j = 3 by omega) with rfl | rfl | rfl | rfl <;> rfl) (by first | decide | omega | (dsimp only [rmOf]; omega)) (by first | decide | omega | (dsimp only [rmOf]; omega)) dX0_init_54 (fun da hda => V_N (fun B1 b1e => ?_))
  have h__35 := mp_keepN b1e h__33 hda
  have h__36 := mp_keepN b1e h__34 hda
  have h__37 := mp_got b1e
  refine V_dup C dX0_init_57 rfl ?_
  refine V_ofV (VR_I (As := []) (rest := [.ref da, .ref dx]) C (ct_J4_init l G b B1 2 da h__37) (lw_meth q132) q43 q130 q131 rfl nd_J4_init rfl (by decide) (by decide) dX0_init_58 rfl ⟨by decide, by decide⟩ (Nat.le_of_ble_eq_true rfl)) (fun D1 hD1 => ?_)
  obtain ⟨T1, U1⟩ := hD1
  have Z1 := (Ext.new b1e hda).ofB hda U1
  have ddw1 := Z1 _ _ HW1
  have rrw1 := Z1 _ _ HV1
  refine V_M (V_putF (host := "") (C0 := RX0) (T := TX0) (N := 3) (ci := 0) (fs' := [.ref ra, .ref wa, .ref da]) C 2 in_X0 tyX0 tyX0_ok nmX0 rfl ddw1 (by decide) q163 (fun _ h9 => h9) rfl hnm rfl rfl rfl rfl (Nat.le_of_ble_eq_true rfl) rfl dX0_init_61) (fun N7 f7 => ?_)
  have h__38 := mp_got f7
  have h__39 := mp_keep f7 rrw1 ddw1 (by first | assumption | exact Ne.symm (by assumption) | (simp; done) | (simp; omega) | (intro h; simp at h; omega))
  have KK1 : Keep (fun la => la = (7, 0, 0)) D1 N7 := Keep.up f7 ddw1 rfl
  have XX1 : ExtB dx M N7 := (XX0.tr Z1.b).tr (ExtB.up f7)
  have T1b := T1.keep KK1 (fun la h z => by rw [z] at h; cases h)
  have R0d := (R0c.ext Z1).keep KK1 (fun la h z => by rw [z] at h; cases h)
  have R1d := (R1c.ext Z1).keep KK1 (fun la h z => by rw [z] at h; cases h)
  have R2d := (R2c.ext Z1).keep KK1 (fun la h z => by rw [z] at h; cases h)
  have T0c := (T0b.keep (Z1.keep (S := fun _ => False)) (fun _ _ => id)).keep KK1 (fun la h z => by rw [z] at h; cases h)
  refine V_vret C dX0_init_64 (by decide) (by decide) ⟨rfl, ⟨ra, wa, da, fun r => if r = 0 then p0 else if r = 1 then p1 else p2, ?_, T0c, T1b, fun r hr => ?_⟩, XX1⟩
  · refine ⟨h__38, ?_⟩
    rw [show (fun r => if r ≤ 2 then some ((fun r => if r = 0 then p0 else if r = 1 then p1 else p2) r) else none) = va_up (va_up (va_up (fun _ => none) 0 (some p0)) 1 (some p1)) 2 (some p2) from ?_]
    · exact h__39
    · funext r
      by_cases h2 : r = 2
      · subst h2; rw [va_up_self]; rfl
      · rw [va_up_ne _ _ h2]
        by_cases h1 : r = 1
        · subst h1; rw [va_up_self]; rfl
        · rw [va_up_ne _ _ h1]
          by_cases h0 : r = 0
          · subst h0; rw [va_up_self]; rfl
          · rw [va_up_ne _ _ h0, if_neg (by omega)]
  · rcases (show r = 0 ∨ r = 1 ∨ r = 2 by omega) with z | z | z
    · subst z; exact ⟨A0, R0d⟩
    · subst z; exact ⟨A1, R1d⟩
    · subst z; exact ⟨A2, R2d⟩

