set_option maxRecDepth 100000
/-! THE LAW, B: what holds at its start -/
theorem arr_prim {s : State} {A : Array Value} {ty : FieldType} (hp : ∀ C, ty ≠ .object C) (h : (Cond.arrayClass ty).before A s = true) : ∃ cA, ArrOfT s cA ty ∧ va_RA s cA ty := by
  obtain ⟨cA, kA, comp, h1, h2, h3⟩ := Cond.arrayClass_spec h
  refine ⟨cA, fun n z => ⟨fun k h => (by cases h), kA, h2, comp, h3⟩, ?_⟩
  cases ty with
  | object C => exact absurd rfl (hp C)
  | _ => exact h1
theorem arr_obj {s : State} {A : Array Value} {C : String} (h : (Cond.arrayOver (.object C)).before A s = true) : ∃ cA, ArrOfT s cA (.object C) ∧ va_RA s cA (.object C) := by
  obtain ⟨comp, cA, kA, h1, h2, h3, h4, h5⟩ := Cond.arrayOver_spec h
  exact ⟨cA, fun n z => ⟨fun k h => (by cases h), kA, h3, comp, h4⟩, kA, comp, h3, h4, h1, h5⟩
theorem sel_priv2 {s : State} {A : Array Value} {y z : MethodName} {C : String} (hy : y.cls ≠ "java/lang/invoke/MethodHandle" ∧ y.cls ≠ "java/lang/invoke/VarHandle") (hz : z.cls = y.cls) (hs : (Cond.selects C z z).before A s = true) (hpriv : (Cond.privateMethod y).before A s = true) (hinst : (Cond.instanceMethod y).before A s = true) : (Cond.selects C y y).before A s = true := by
  obtain ⟨c, r, m0, hc, hr, hm0, -, k, hk, hni⟩ := Cond.selects_spec hs
  obtain ⟨mk, methM, hnamed, hmethM, -, -⟩ := Cond.instanceMethod_spec hinst
  have hfound : s.methodFound? y.cls y.name y.desc = some mk := State.methodFound?_of_named hnamed hy
  have hcls : m0.cls = mk.cls := by
    have h1 := findClass_of_methodNamed hm0
    have h2 := findClass_of_methodNamed hnamed
    rw [hz] at h1
    exact Option.some.inj (h1.symm.trans h2)
  rw [hcls] at hk
  have hsel : selectMethod {} s.vm c mk = .method mk := selectMethod_private hmethM (Cond.privateMethod_at hpriv mk methM hnamed hmethM)
  simp only [Cond.before, Cond.holds, Cond.value, hc, hfound, hnamed, hsel, hk]
  simp; exact hni
theorem law_Ev {p : Program} {s : State} {m : MethodId} {meth : Method} {c : Code} {sb n : Nat} {xs : Nat → Int32} (C0 : lw_At p s m meth c sb n xs) : ∃ G : mp_G, Ev G s.heap.size s := by
  obtain ⟨hx, hb, hr, hml, hown, hts, hX, hbl, hlocks, hgv⟩ := C0
  have hs := flat_of_before _ hgv
  have hal : ∀ w ∈ lw_all, w.before #[Value.ref sb] s = true := fun w hw => hts w (lw_all_tbl hw)
  have hA : ∀ a : Nat, a < s.heap.size → ¬ (fun q => s.heap.size ≤ q) a := fun a h => Nat.not_le.mpr h
  obtain ⟨c0, i0, k0⟩ := u_known (C := RX0) (T := TX0) (N := 3) hal in_X0 (hal _ q59)
  obtain ⟨c1, i1, k1⟩ := u_known (C := RX1) (T := TX1) (N := 3) hal in_X1 (hal _ q68)
  obtain ⟨c2, i2, k2⟩ := u_known (C := RX2) (T := TX2) (N := 2) hal in_X2 (hal _ q74)
  obtain ⟨c3, i3, k3⟩ := u_known (C := RX3) (T := TX3) (N := 12) hal in_X3 (hal _ q816)
  obtain ⟨c4, i4, k4⟩ := u_known (C := RX4) (T := TX4) (N := 1) hal in_X4 (hal _ q394)
  obtain ⟨c5, i5, k5⟩ := u_known (C := RX5) (T := TX5) (N := 8) hal in_X5 (hal _ q468)
  obtain ⟨c6, i6, k6⟩ := u_known (C := RX6) (T := TX6) (N := 2) hal in_X6 (hal _ q515)
  obtain ⟨c7, i7, k7⟩ := u_known (C := RJ2) (T := TJ2) (N := 3) hal in_J2 (hal _ q90)
  obtain ⟨c8, i8, k8⟩ := u_known (C := RJ4) (T := TJ4) (N := 4) hal in_J4 (hal _ q129)
  obtain ⟨c9, i9, k9⟩ := u_known (C := RJ5) (T := TJ5) (N := 4) hal in_J5 (hal _ q400)
  obtain ⟨a0, ar0⟩ := arr_prim (ty := .int) (fun C h => by cases h) (hts (.arrayClass .int) (by decide +kernel))
  obtain ⟨a1, ar1⟩ := arr_prim (ty := .boolean) (fun C h => by cases h) (hts (.arrayClass .boolean) (by decide +kernel))
  obtain ⟨a2, ar2⟩ := arr_prim (ty := .byte) (fun C h => by cases h) (hts (.arrayClass .byte) (by decide +kernel))
  have ao3 : (Cond.arrayOver (.object "java/lang/Object")).before #[Value.ref sb] s = true := hts _ (by decide +kernel)
  obtain ⟨a3, ar3⟩ := arr_obj ao3
  have ao4 : (Cond.arrayOver (.object "ReplicaDocument$Item")).before #[Value.ref sb] s = true := hts _ (by decide +kernel)
  obtain ⟨a4, ar4⟩ := arr_obj ao4
  have ao5 : (Cond.arrayOver (.object "ReplicaDocument$Replica")).before #[Value.ref sb] s = true := hts _ (by decide +kernel)
  obtain ⟨a5, ar5⟩ := arr_obj ao5
  obtain ⟨mi, hmi⟩ := va_Mi.of (hs (.isRef (.mirror "[Ljava/lang/Object;")) (by decide +kernel))
  obtain ⟨t0, ht0, hT0⟩ := va_Tof (f := fun _ => .null) (N := 0) (A := fun q => s.heap.size ≤ q) (by decide) (hs (.arrayOf (.static "java/util/ArrayList" "DEFAULTCAPACITY_EMPTY_ELEMENTDATA" "[Ljava/lang/Object;") (.object "java/lang/Object")) (by decide +kernel)) (va_eqt (hs (.eq (.length (.static "java/util/ArrayList" "DEFAULTCAPACITY_EMPTY_ELEMENTDATA" "[Ljava/lang/Object;")) (.int 0)) (by decide +kernel))) (fun j hj => absurd hj (Nat.not_lt_zero _)) hA
  refine ⟨((fun k => [c0, c1, c2, c3, c4, c5, c6, c7, c8, c9].getD k c0, fun k => [i0, i1, i2, i3, i4, i5, i6, i7, i8, i9].getD k i0), (fun k => if k = 9 then mi else [a0, a1, a2, a3, a4, a5].getD k a0), t0), ⟨?_, ?_⟩, fun w hw => ?_, ?_, ?_⟩
  · intro k q hq
    match k, hq with
    | 0, hq => cases hq; exact k0
    | 1, hq => cases hq; exact k1
    | 2, hq => cases hq; exact k2
    | 3, hq => cases hq; exact k3
    | 4, hq => cases hq; exact k4
    | 5, hq => cases hq; exact k5
    | 6, hq => cases hq; exact k6
    | 7, hq => cases hq; exact k7
    | 8, hq => cases hq; exact k8
    | 9, hq => cases hq; exact k9
    | k + 10, hq => simp [clL] at hq
  · intro k q hq
    match k, hq with
    | 0, hq => cases hq; exact ar0
    | 1, hq => cases hq; exact ar1
    | 2, hq => cases hq; exact ar2
    | 3, hq => cases hq; exact ar3
    | 4, hq => cases hq; exact ar4
    | 5, hq => cases hq; exact ar5
    | k + 6, hq => simp [tyL] at hq
  · rcases evN_tbl w hw with h | h | h | h | h
    · exact va_any (ev_onT (evN_k w hw)) (hts w h)
    · subst h; exact va_any (ev_onT (evN_k _ hw)) (sel_priv2 (y := yJ3_ensureCapacityInternal) (z := yJ3_isLatin1) ⟨by decide, by decide⟩ rfl (hts _ (by decide +kernel)) (hts _ (by decide +kernel)) (hts _ (by decide +kernel)))
    · subst h; exact va_any (ev_onT (evN_k _ hw)) (sel_priv2 (y := yJ3_newCapacity) (z := yJ3_isLatin1) ⟨by decide, by decide⟩ rfl (hts _ (by decide +kernel)) (hts _ (by decide +kernel)) (hts _ (by decide +kernel)))
    · subst h; exact va_any (ev_onT (evN_k _ hw)) (sel_priv2 (y := yJ3_putStringAt) (z := yJ3_isLatin1) ⟨by decide, by decide⟩ rfl (hts _ (by decide +kernel)) (hts _ (by decide +kernel)) (hts _ (by decide +kernel)))
    · subst h; exact va_any (ev_onT (evN_k _ hw)) (sel_priv2 (y := yJ3_inflateIfNeededFor) (z := yJ3_isLatin1) ⟨by decide, by decide⟩ rfl (hts _ (by decide +kernel)) (hts _ (by decide +kernel)) (hts _ (by decide +kernel)))
  · exact ⟨va_Fw.of (hts _ (by decide +kernel)) (hts _ (by decide +kernel)) (hts _ (by decide +kernel)) (hts _ (by decide +kernel)) (hts _ (by decide +kernel)), va_Fw.of (hts _ (by decide +kernel)) (hts _ (by decide +kernel)) (hts _ (by decide +kernel)) (hts _ (by decide +kernel)) (hts _ (by decide +kernel)), va_Fw.of (hts _ (by decide +kernel)) (hts _ (by decide +kernel)) (hts _ (by decide +kernel)) (hts _ (by decide +kernel)) (hts _ (by decide +kernel)), va_Fw.of (hts _ (by decide +kernel)) (hts _ (by decide +kernel)) (hts _ (by decide +kernel)) (hts _ (by decide +kernel)) (hts _ (by decide +kernel)), va_AO.of ao3, va_AO.of ao4, va_AO.of ao5, va_Nc.of (hs (.not (.castable "ReplicaDocument$MapNode" "ReplicaDocument$ListNode")) (by decide +kernel)), va_Nc.of (hs (.not (.castable "ReplicaDocument$ListNode" "ReplicaDocument$MapNode")) (by decide +kernel)), hmi, va_Dc.of (hts _ (by decide +kernel))⟩
  · refine ⟨va_Zof (hts _ (by decide +kernel)) (hts _ (by decide +kernel)) (va_eqi (hs (.eq (.static "java/lang/String" "COMPACT_STRINGS" "Z") (.int 1)) (by decide +kernel))) hA, va_Zof (hts _ (by decide +kernel)) (hts _ (by decide +kernel)) ht0 hA, hT0, ?_⟩
    rcases va_Zqof (A := fun q => s.heap.size ≤ q) (hts (.laysStatic "jdk/internal/util/Preconditions" "SIOOBE_FORMATTER" "Ljava/util/function/BiFunction;") (by decide +kernel)) (hts (.initialized "jdk/internal/util/Preconditions") (by decide +kernel)) (hs (.isRef (.static "jdk/internal/util/Preconditions" "SIOOBE_FORMATTER" "Ljava/util/function/BiFunction;")) (by decide +kernel)) hA with z | ⟨t, z⟩
    · exact ⟨none, z⟩
    · exact ⟨some t, z⟩
theorem law_C {p : Program} {s : State} {m : MethodId} {meth : Method} {c : Code} {sb n : Nat} {xs : Nat → Int32} (C0 : lw_At p s m meth c sb n xs) : ∃ G : mp_G, CL p m meth c s sb G := by
  obtain ⟨G, hE⟩ := law_Ev C0
  obtain ⟨hx, hb, hr, hml, hown, hts, hX, hbl, hlocks, hgv⟩ := C0
  exact ⟨G, ⟨hx, hb, hml, hown, fun w hw => hts w (lw_all_tbl hw)⟩, hr, hlocks, hE, Nat.le_refl _⟩
