set_option maxRecDepth 100000
/-! THE COMPONENT, C: changes of a replica's cells -/
abbrev MutG (g : Nat) : mp_L → Prop := fun la => la.1 = g ∧ la.2.1 < 10
theorem AlAt.keep {S : mp_L → Prop} {G : mp_G} {M M1 : mp_M} {l1 l2 : mp_L} {a : Nat} {xs : List Nat} (h : AlAt G M l1 l2 a xs) (hK : Keep S M M1) (h1 : ¬ S l1) (h2 : ¬ S l2) : AlAt G M1 l1 l2 a xs := by
  obtain ⟨mo, ⟨e1, e2⟩ | ⟨arr, n, f, e1, e2, e3⟩⟩ := h
  · exact ⟨mo, Or.inl ⟨e1, hK _ _ _ e2 h1⟩⟩
  · exact ⟨mo, Or.inr ⟨arr, n, f, hK _ _ _ e1 h1, hK _ _ _ e2 h2, e3⟩⟩
/-- an item's cell is written -/
theorem rep_up {G : mp_G} {M M1 : mp_M} {g a ln : Nat} {lo : Nat → List Nat} {P : Nat → Int32} {hi : Nat → Option Nat} {sh fo : Nat → Bool} {ch : Nat → Nat → List Nat} {nx : Nat → Option Nat} {wt : List (List Nat)} {A : Nat → Nat → Nat} {wo : List Nat} (hR : RepAt G M g a ln lo P hi sh fo ch nx wt A wo) {k : Nat} (hk : k < ln) (hi' : Nat → Option Nat) (sh' fo' : Nat → Bool) (ch' : Nat → Nat → List Nat) (nx' : Nat → Option Nat) (e : M1 = mp_up M (A 0 k) ((g, 1, k), .inr (5, [.ref (A 1 k), .int (P k), .int (nI k), va_rf (nodeO lo A k), va_rf ((hi' k).map (A 2)), .int (bI (sh' k)), .int (bI (fo' k)), va_rf (nx' k)]))) (hoth : ∀ j, j ≠ k → hi' j = hi j ∧ sh' j = sh j ∧ fo' j = fo j ∧ nx' j = nx j) (hhd : ∀ m key, (ch' m key).head? = (ch m key).head?) (h9 : ∀ m key, m ≤ ln → ((isMap lo m ∧ key < 4) ∨ (isLst lo m ∧ key = 0)) → ChOk ln lo hi' nx' A m key (ch' m key)) (h11 : ∀ m, hi' k = some m → m ≤ ln ∧ (isMap lo m ∨ isLst lo m)) : RepAt G M1 g a ln lo P hi' sh' fo' ch' nx' wt A wo ∧ Keep (MutG g) M M1 := by
  obtain ⟨r1, r2, r3, r4, r5, r6, r7, r8, r9, r10, r11⟩ := hR
  have hk0 := r5 k hk
  have hK : Keep (fun la => la = (g, 1, k)) M M1 := Keep.up e hk0 rfl
  refine ⟨⟨hK _ _ _ r1 (by simp), r2.keep hK (by simp) (by simp), r3.keep hK (by simp) (by simp), ⟨r4.1, fun i hi0 => (r4.2 i hi0).keep hK (fun kd i h10 z => by simp at z; omega)⟩, fun j hj => ?_, fun j hj => (r6 j hj).keep hK (fun kd i h10 z => by simp at z; omega), fun m hm hmp => ?_, fun m hm hls => ?_, h9, r10, fun j m hj hm => ?_⟩, Keep.up e hk0 ⟨rfl, by simp⟩⟩
  · by_cases z : j = k
    · subst z
      exact mp_got e
    · obtain ⟨a1, a2, a3, a4⟩ := hoth j z
      rw [hK _ _ _ (r5 j hj) (by simp; omega), a1, a2, a3, a4]
  · obtain ⟨b1, b2⟩ := r7 m hm hmp
    refine ⟨hK _ _ _ b1 (by simp), ?_⟩
    rw [hK _ _ _ b2 (by simp), show (fun key => ((ch m key).head?).map (A 0)) = (fun key => ((ch' m key).head?).map (A 0)) from funext (fun key => by rw [hhd])]
  · rw [hK _ _ _ (r8 m hm hls) (by simp), hhd]
  · by_cases z : j = k
    · subst z
      exact h11 m hm
    · rw [(hoth j z).1] at hm
      exact r11 j m hj hm
/-- an entry of a map node is written -/
theorem rep_hd {G : mp_G} {M M1 : mp_M} {g a ln : Nat} {lo : Nat → List Nat} {P : Nat → Int32} {hi : Nat → Option Nat} {sh fo : Nat → Bool} {ch : Nat → Nat → List Nat} {nx : Nat → Option Nat} {wt : List (List Nat)} {A : Nat → Nat → Nat} {wo : List Nat} (hR : RepAt G M g a ln lo P hi sh fo ch nx wt A wo) {m0 key0 : Nat} (hm0 : m0 ≤ ln) (hmp0 : isMap lo m0) (ch' : Nat → Nat → List Nat) (e : M1 = mp_up M (A 3 m0) ((g, 2, m0), .inl (G.2.1 4, 4, .inr (.inr (.inr (.inr (va_up (fun key => ((ch m0 key).head?).map (A 0)) key0 (((ch' m0 key0).head?).map (A 0))))))))) (hoth : ∀ m key, ¬ (m = m0 ∧ key = key0) → ch' m key = ch m key) (h9 : ∀ m key, m ≤ ln → ((isMap lo m ∧ key < 4) ∨ (isLst lo m ∧ key = 0)) → ChOk ln lo hi nx A m key (ch' m key)) : RepAt G M1 g a ln lo P hi sh fo ch' nx wt A wo ∧ Keep (MutG g) M M1 := by
  obtain ⟨r1, r2, r3, r4, r5, r6, r7, r8, r9, r10, r11⟩ := hR
  have hk0 := (r7 m0 hm0 hmp0).2
  have hK : Keep (fun la => la = (g, 2, m0)) M M1 := Keep.up e hk0 rfl
  refine ⟨⟨hK _ _ _ r1 (by simp), r2.keep hK (by simp) (by simp), r3.keep hK (by simp) (by simp), ⟨r4.1, fun i hi0 => (r4.2 i hi0).keep hK (fun kd i h10 z => by simp at z; omega)⟩, fun j hj => hK _ _ _ (r5 j hj) (by simp), fun j hj => (r6 j hj).keep hK (fun kd i h10 z => by simp at z; omega), fun m hm hmp => ?_, fun m hm hls => ?_, h9, r10, r11⟩, Keep.up e hk0 ⟨rfl, by simp⟩⟩
  · obtain ⟨b1, b2⟩ := r7 m hm hmp
    refine ⟨hK _ _ _ b1 (by simp), ?_⟩
    by_cases z : m = m0
    · subst z
      have hf : va_up (fun key => ((ch m key).head?).map (A 0)) key0 (((ch' m key0).head?).map (A 0)) = (fun key => ((ch' m key).head?).map (A 0)) := by
        funext key
        by_cases z2 : key = key0
        · subst z2
          rw [va_up_self]
        · rw [va_up_ne _ _ z2, hoth m key (fun w => z2 w.2)]
      rw [mp_got e, hf]
    · rw [hK _ _ _ b2 (by simp; omega), show (fun key => ((ch m key).head?).map (A 0)) = (fun key => ((ch' m key).head?).map (A 0)) from funext (fun key => by rw [hoth m key (fun w => z w.1)])]
  · have hne : m ≠ m0 := fun z => by
      subst z
      rcases hmp0 with w | w
      · exact hls.1 w
      · have := hls.2; omega
    rw [hK _ _ _ (r8 m hm hls) (by simp), hoth m 0 (fun w => hne w.1)]
/-- the first item of a list node is written -/
theorem rep_fst {G : mp_G} {M M1 : mp_M} {g a ln : Nat} {lo : Nat → List Nat} {P : Nat → Int32} {hi : Nat → Option Nat} {sh fo : Nat → Bool} {ch : Nat → Nat → List Nat} {nx : Nat → Option Nat} {wt : List (List Nat)} {A : Nat → Nat → Nat} {wo : List Nat} (hR : RepAt G M g a ln lo P hi sh fo ch nx wt A wo) {m0 : Nat} (hm0 : m0 ≤ ln) (hls0 : isLst lo m0) (ch' : Nat → Nat → List Nat) (e : M1 = mp_up M (A 2 m0) ((g, 3, m0), .inr (6, [.ref (A 0 (m0 - 1)), va_rf (((ch' m0 0).head?).map (A 0))]))) (hoth : ∀ m key, ¬ (m = m0 ∧ key = 0) → ch' m key = ch m key) (h9 : ∀ m key, m ≤ ln → ((isMap lo m ∧ key < 4) ∨ (isLst lo m ∧ key = 0)) → ChOk ln lo hi nx A m key (ch' m key)) : RepAt G M1 g a ln lo P hi sh fo ch' nx wt A wo ∧ Keep (MutG g) M M1 := by
  obtain ⟨r1, r2, r3, r4, r5, r6, r7, r8, r9, r10, r11⟩ := hR
  have hk0 := r8 m0 hm0 hls0
  have hK : Keep (fun la => la = (g, 3, m0)) M M1 := Keep.up e hk0 rfl
  refine ⟨⟨hK _ _ _ r1 (by simp), r2.keep hK (by simp) (by simp), r3.keep hK (by simp) (by simp), ⟨r4.1, fun i hi0 => (r4.2 i hi0).keep hK (fun kd i h10 z => by simp at z; omega)⟩, fun j hj => hK _ _ _ (r5 j hj) (by simp), fun j hj => (r6 j hj).keep hK (fun kd i h10 z => by simp at z; omega), fun m hm hmp => ?_, fun m hm hls => ?_, h9, r10, r11⟩, Keep.up e hk0 ⟨rfl, by simp⟩⟩
  · obtain ⟨b1, b2⟩ := r7 m hm hmp
    have hne : m ≠ m0 := fun z => by
      subst z
      rcases hmp with w | w
      · exact hls0.1 w
      · have := hls0.2; omega
    refine ⟨hK _ _ _ b1 (by simp), ?_⟩
    rw [hK _ _ _ b2 (by simp), show (fun key => ((ch m key).head?).map (A 0)) = (fun key => ((ch' m key).head?).map (A 0)) from funext (fun key => by rw [hoth m key (fun w => hne w.1)])]
  · by_cases z : m = m0
    · subst z
      exact mp_got e
    · rw [hK _ _ _ (r8 m hm hls) (by simp; omega), hoth m 0 (fun w => z w.1)]
/-! chains under changes -/
def chU (ch : Nat → Nat → List Nat) (m key : Nat) (L : List Nat) : Nat → Nat → List Nat := fun m2 k2 => if m2 = m ∧ k2 = key then L else ch m2 k2
theorem chU_s (ch : Nat → Nat → List Nat) (m key : Nat) (L : List Nat) : chU ch m key L m key = L := if_pos ⟨rfl, rfl⟩
theorem chU_n {ch : Nat → Nat → List Nat} {m key m2 k2 : Nat} {L : List Nat} (h : ¬ (m2 = m ∧ k2 = key)) : chU ch m key L m2 k2 = ch m2 k2 := if_neg h
theorem chU_u (ch : Nat → Nat → List Nat) (m key : Nat) (L L2 : List Nat) : chU (chU ch m key L) m key L2 = chU ch m key L2 := by
  funext m2 k2
  unfold chU
  split
  · rfl
  · rfl
theorem chU_id (ch : Nat → Nat → List Nat) (m key : Nat) : chU ch m key (ch m key) = ch := by
  funext m2 k2
  unfold chU
  split
  · rename_i h; rw [h.1, h.2]
  · rfl
/-- an item that stands in a chain stands in no other -/
theorem ch_one {ln : Nat} {lo : Nat → List Nat} {hi nx : Nat → Option Nat} {A : Nat → Nat → Nat} {m key m2 key2 k : Nat} {L L2 : List Nat} (h : ChOk ln lo hi nx A m key L) (h2 : ChOk ln lo hi nx A m2 key2 L2) (hv : (isMap lo m ∧ key < 4) ∨ (isLst lo m ∧ key = 0)) (hv2 : (isMap lo m2 ∧ key2 < 4) ∨ (isLst lo m2 ∧ key2 = 0)) (hk : k ∈ L) (hk2 : k ∈ L2) : m = m2 ∧ key = key2 := by
  obtain ⟨i, hi1⟩ := List.getElem?_of_mem hk
  obtain ⟨i2, hi2⟩ := List.getElem?_of_mem hk2
  obtain ⟨-, a1, a2, -⟩ := h.2 i k hi1
  obtain ⟨-, b1, b2, -⟩ := h2.2 i2 k hi2
  have em : m = m2 := Option.some.inj (a1.symm.trans b1)
  subst em
  refine ⟨rfl, ?_⟩
  rcases hv with ⟨v1, v2⟩ | ⟨v1, v2⟩
  · rw [← a2 v1, ← b2 v1]
  · rcases hv2 with ⟨w1, w2⟩ | ⟨w1, w2⟩
    · rcases w1 with w | w
      · exact absurd w v1.1
      · have := v1.2; omega
    · omega
/-- other chains under a change of nx, hi at an item that isn't in them -/
theorem ch_off {ln : Nat} {lo : Nat → List Nat} {hi hi' nx nx' : Nat → Option Nat} {A : Nat → Nat → Nat} {m key k : Nat} {L : List Nat} (h : ChOk ln lo hi nx A m key L) (hk : k ∉ L) (ho : ∀ j, j ≠ k → hi' j = hi j ∧ nx' j = nx j) : ChOk ln lo hi' nx' A m key L := by
  refine ⟨h.1, fun i j hj => ?_⟩
  have hne : j ≠ k := fun z => hk (z ▸ List.mem_of_getElem? hj)
  rw [(ho j hne).1, (ho j hne).2]
  exact h.2 i j hj
theorem chok_cons {ln : Nat} {lo : Nat → List Nat} {hi nx : Nat → Option Nat} {A : Nat → Nat → Nat} {m key : Nat} {k : Nat} {T : List Nat} : ChOk ln lo hi nx A m key (k :: T) ↔ k ∉ T ∧ (k < ln ∧ hi k = some m ∧ (isMap lo m → oB (lo k) 3 = key)) ∧ nx k = (T.head?).map (A 0) ∧ ChOk ln lo hi nx A m key T := by
  constructor
  · rintro ⟨h1, h2⟩
    rw [List.nodup_cons] at h1
    obtain ⟨a1, a2, a3, a4⟩ := h2 0 k rfl
    refine ⟨h1.1, ⟨a1, a2, a3⟩, ?_, h1.2, fun i j hj => ?_⟩
    · rw [a4]
      cases T <;> rfl
    · exact h2 (i + 1) j (by rw [List.getElem?_cons_succ]; exact hj)
  · rintro ⟨h1, ⟨h2, h3, h4⟩, h5, h6⟩
    refine ⟨List.nodup_cons.mpr ⟨h1, h6.1⟩, fun i j hj => ?_⟩
    cases i with
    | zero =>
      cases hj
      refine ⟨h2, h3, h4, ?_⟩
      rw [h5]
      cases T <;> rfl
    | succ i =>
      rw [List.getElem?_cons_succ] at hj
      exact h6.2 i j hj
theorem chok_nil {ln : Nat} {lo : Nat → List Nat} {hi nx : Nat → Option Nat} {A : Nat → Nat → Nat} {m key : Nat} : ChOk ln lo hi nx A m key [] := ⟨List.nodup_nil, fun i k h => by simp at h⟩
theorem ch_del {ln : Nat} {lo : Nat → List Nat} {hi nx : Nat → Option Nat} {A : Nat → Nat → Nat} {m key : Nat} {kk k : Nat} {T : List Nat} {nx' : Nat → Option Nat} (hnx : nx' kk = (T.head?).map (A 0)) (ho : ∀ j, j ≠ kk → nx' j = nx j) : ∀ K0 : List Nat, ChOk ln lo hi nx A m key (K0 ++ kk :: k :: T) → ChOk ln lo hi nx' A m key (K0 ++ kk :: T) := by
  intro K0
  induction K0 with
  | nil =>
    intro h
    rw [List.nil_append] at h ⊢
    rw [chok_cons] at h
    obtain ⟨a1, a2, a3, a4⟩ := h
    rw [chok_cons] at a4
    obtain ⟨b1, b2, b3, b4⟩ := a4
    rw [chok_cons]
    refine ⟨fun z => a1 (List.mem_cons_of_mem _ z), a2, hnx, ch_off b4 (fun z => a1 (List.mem_cons_of_mem _ z)) (fun j hj => ⟨rfl, ho j hj⟩)⟩
  | cons x K0 ih =>
    intro h
    rw [List.cons_append, chok_cons] at h
    obtain ⟨a1, a2, a3, a4⟩ := h
    rw [List.cons_append, chok_cons]
    have hx : x ≠ kk := fun z => a1 (by rw [z]; simp)
    refine ⟨fun z => a1 ?_, a2, ?_, ih a4⟩
    · simp only [List.mem_append, List.mem_cons] at z ⊢
      rcases z with z | z | z
      · exact Or.inl z
      · exact Or.inr (Or.inl z)
      · exact Or.inr (Or.inr (Or.inr z))
    · rw [ho x hx, a3]
      cases K0 <;> rfl
theorem ch_ins {ln : Nat} {lo : Nat → List Nat} {hi nx : Nat → Option Nat} {A : Nat → Nat → Nat} {m key : Nat} {kk q : Nat} {T : List Nat} {hi' nx' : Nat → Option Nat} (hq : q < ln ∧ hi' q = some m ∧ (isMap lo m → oB (lo q) 3 = key)) (hnq : nx' q = (T.head?).map (A 0)) (hnk : nx' kk = some (A 0 q)) (ho : ∀ j, j ≠ kk → j ≠ q → nx' j = nx j) (hoh : ∀ j, j ≠ q → hi' j = hi j) : ∀ K0 : List Nat, ChOk ln lo hi nx A m key (K0 ++ kk :: T) → q ∉ K0 ++ kk :: T → ChOk ln lo hi' nx' A m key (K0 ++ kk :: q :: T) := by
  intro K0
  induction K0 with
  | nil =>
    intro h hn
    rw [List.nil_append] at h hn ⊢
    rw [chok_cons] at h
    obtain ⟨a1, a2, a3, a4⟩ := h
    have hkq : kk ≠ q := fun z => hn (by rw [z]; exact List.mem_cons_self)
    have hqT : q ∉ T := fun z => hn (List.mem_cons_of_mem _ z)
    rw [chok_cons, chok_cons]
    refine ⟨fun z => ?_, ⟨a2.1, by rw [hoh kk hkq]; exact a2.2.1, a2.2.2⟩, hnk, hqT, hq, hnq, a4.1, fun i j hj => ?_⟩
    · rcases List.mem_cons.mp z with w | w
      · exact hkq w
      · exact a1 w
    · have hjT := List.mem_of_getElem? hj
      have h1 : j ≠ kk := fun z => a1 (z ▸ hjT)
      have h2 : j ≠ q := fun z => hqT (z ▸ hjT)
      rw [ho j h1 h2, hoh j h2]
      exact a4.2 i j hj
  | cons x K0 ih =>
    intro h hn
    rw [List.cons_append, chok_cons] at h
    obtain ⟨a1, a2, a3, a4⟩ := h
    rw [List.cons_append] at hn
    rw [List.cons_append, chok_cons]
    have hx : x ≠ kk := fun z => a1 (by rw [z]; simp)
    have hxq : x ≠ q := fun z => hn (by rw [z]; exact List.mem_cons_self)
    refine ⟨fun z => ?_, ⟨a2.1, by rw [hoh x hxq]; exact a2.2.1, a2.2.2⟩, ?_, ih a4 (fun z => hn (List.mem_cons_of_mem _ z))⟩
    · simp only [List.mem_append, List.mem_cons] at z a1
      rcases z with z | z | z | z
      · exact a1 (Or.inl z)
      · exact a1 (Or.inr (Or.inl z))
      · exact hxq z
      · exact a1 (Or.inr (Or.inr z))
    · rw [ho x hx hxq, a3]
      cases K0 <;> rfl
theorem ch_ins0 {ln : Nat} {lo : Nat → List Nat} {hi nx : Nat → Option Nat} {A : Nat → Nat → Nat} {m key : Nat} {q : Nat} {T : List Nat} {hi' nx' : Nat → Option Nat} (hq : q < ln ∧ hi' q = some m ∧ (isMap lo m → oB (lo q) 3 = key)) (hnq : nx' q = (T.head?).map (A 0)) (ho : ∀ j, j ≠ q → nx' j = nx j) (hoh : ∀ j, j ≠ q → hi' j = hi j) (h : ChOk ln lo hi nx A m key T) (hn : q ∉ T) : ChOk ln lo hi' nx' A m key (q :: T) := by
  rw [chok_cons]
  refine ⟨hn, hq, hnq, h.1, fun i j hj => ?_⟩
  have h2 : j ≠ q := fun z => hn (z ▸ List.mem_of_getElem? hj)
  rw [ho j h2, hoh j h2]
  exact h.2 i j hj
/-! nodes made -/
theorem ct_X2_init (l : Launch) (G : mp_G) (b : Nat) (M : mp_M) (g m0 a : Nat) (mk : Option Nat) (ha : M a = some ((g, 13, m0), .inr (2, [.null, .null]))) : Ct l yX2_init cX2_init 2 (none) 1 1 4 G b ([.ref a, va_rf mk] : List Value) M (pV (fun M1 => ∃ w, M w = none ∧ w ≠ a ∧ M1 a = some ((g, 13, m0), .inr (2, [va_rf mk, .ref w])) ∧ M1 w = some ((g, 2, m0), .inl (G.2.1 4, 4, .inr (.inr (.inr (.inr (fun _ => none)))))) ∧ ExtB a M M1)) := by
  refine Ct.ofV (by decide) (vc_ref (vc_q vc_nil)) (Nat.le_of_ble_eq_true rfl) ?_
  intro p e s m below meth c C hnm
  refine V_L (L1 := [some (.ref a), some (va_rf mk)]) rfl ?_
  refine V_aload_n C dX2_init_0 rfl rfl ?_
  refine V_objInit C q78 q64 q65 dX2_init_1 (by decide) (Nat.le_of_ble_eq_true rfl) ?_
  refine V_aload_n C dX2_init_4 rfl rfl ?_
  refine V_iconst C 4 dX2_init_5 (by decide) ?_
  refine V_newq (ti := 4) C 4 (g, 2, m0) q79 C.2.2.2.1.2.2.1.2.2.2.2.2.1 rfl (by decide) (by decide) (by decide) (by first | decide | omega | (dsimp only [rmOf]; omega)) (by first | decide | omega | (dsimp only [rmOf]; omega)) dX2_init_6 (fun w0 hw => V_N (fun M1 e1 => ?_))
  have h__1 := mp_keepN e1 ha hw
  have h__2 := mp_got e1
  refine V_M (V_putF (host := "") (C0 := RX2) (T := TX2) (N := 2) (ci := 2) (fs' := [.null, .ref w0]) C 1 in_X2 tyX2 tyX2_ok nmX2 rfl h__1 (by decide) q82 (fun _ h9 => h9) rfl hnm rfl rfl rfl rfl (Nat.le_of_ble_eq_true rfl) rfl dX2_init_9) (fun M2 e2 => ?_)
  have h__3 := mp_got e2
  have h__4 := mp_keep e2 h__2 h__1 (by first | assumption | exact Ne.symm (by assumption) | simp | (intro h; simp at h; omega))
  refine V_aload_n C dX2_init_12 rfl rfl ?_
  refine V_aload_nq C dX2_init_13 rfl rfl ?_
  refine V_M (V_putF (host := "") (C0 := RX2) (T := TX2) (N := 2) (ci := 2) (fs' := [va_rf mk, .ref w0]) C 0 in_X2 tyX2 tyX2_ok nmX2 rfl h__3 (by decide) q81 (fun _ h9 => h9) rfl hnm rfl rfl (nq_nar _) (nq_fit _) (Nat.le_of_ble_eq_true rfl) rfl dX2_init_14) (fun M3 e3 => ?_)
  have h__5 := mp_got e3
  have h__6 := mp_keep e3 h__4 h__3 (by first | assumption | exact Ne.symm (by assumption) | simp | (intro h; simp at h; omega))
  exact V_vret C dX2_init_17 (by decide) (by decide) ⟨rfl, w0, hw, (fun z => by rw [z, ha] at hw; cases hw), h__5, h__6, (Ext.new e1 hw).b.tr ((ExtB.up e2).tr (ExtB.up e3))⟩
theorem ct_X6_init (l : Launch) (G : mp_G) (b : Nat) (M : mp_M) (a : Nat) (lab : mp_L) (mk : Option Nat) (ha : M a = some (lab, .inr (6, [.null, .null]))) : Ct l yX6_init cX6_init 2 (none) 1 0 0 G b ([.ref a, va_rf mk] : List Value) M (pV (fun M1 => M1 = mp_up M a (lab, .inr (6, [va_rf mk, .null])))) := by
  refine Ct.ofV (by decide) (vc_ref (vc_q vc_nil)) (Nat.le_of_ble_eq_true rfl) ?_
  intro p e s m below meth c C hnm
  refine V_L (L1 := [some (.ref a), some (va_rf mk)]) rfl ?_
  refine V_aload_n C dX6_init_0 rfl rfl ?_
  refine V_objInit C q519 q64 q65 dX6_init_1 (by decide) (Nat.le_of_ble_eq_true rfl) ?_
  refine V_aload_n C dX6_init_4 rfl rfl ?_
  refine V_aload_nq C dX6_init_5 rfl rfl ?_
  refine V_M (V_putF (host := "") (C0 := RX6) (T := TX6) (N := 2) (ci := 6) (fs' := [va_rf mk, .null]) C 0 in_X6 tyX6 tyX6_ok nmX6 rfl ha (by decide) q520 (fun _ h9 => h9) rfl hnm rfl rfl (nq_nar _) (nq_fit _) (Nat.le_of_ble_eq_true rfl) rfl dX6_init_6) (fun M__1 eM__1 => ?_)
  have h__2 := mp_got eM__1
  exact V_vret C dX6_init_9 (by decide) (by decide) ⟨rfl, eM__1⟩
theorem ct_X2_maker (l : Launch) (G : mp_G) (b : Nat) (M : mp_M) (a : Nat) (lab : mp_L) (mk : Option Nat) (v : Value) (ha : M a = some (lab, .inr (2, [va_rf mk, v]))) : Ct l yX2_maker cX2_maker 1 (some (.object "ReplicaDocument$Item")) 0 0 0 G b ([.ref a] : List Value) M (pR (fun y M1 => y = mk ∧ M1 = M)) := by
  refine Ct.ofV (by decide) (vc_ref vc_nil) (Nat.le_of_ble_eq_true rfl) ?_
  intro p e s m below meth c C hnm
  refine V_L (L1 := [some (.ref a)]) rfl ?_
  refine V_aload_n C dX2_maker_0 rfl rfl ?_
  refine V_get (C0 := RX2) (T := TX2) (N := 2) (ci := 2) C 0 in_X2 rfl ha (by decide) q81 (fun _ h9 => h9) rfl dX2_maker_1 ?_
  exact V_aret C (Or.inl ⟨_, rfl⟩) dX2_maker_4 (by decide) (by decide) ⟨_, rfl, rfl, rfl⟩
theorem ct_X6_maker (l : Launch) (G : mp_G) (b : Nat) (M : mp_M) (a : Nat) (lab : mp_L) (mk : Option Nat) (v : Value) (ha : M a = some (lab, .inr (6, [va_rf mk, v]))) : Ct l yX6_maker cX6_maker 1 (some (.object "ReplicaDocument$Item")) 0 0 0 G b ([.ref a] : List Value) M (pR (fun y M1 => y = mk ∧ M1 = M)) := by
  refine Ct.ofV (by decide) (vc_ref vc_nil) (Nat.le_of_ble_eq_true rfl) ?_
  intro p e s m below meth c C hnm
  refine V_L (L1 := [some (.ref a)]) rfl ?_
  refine V_aload_n C dX6_maker_0 rfl rfl ?_
  refine V_get (C0 := RX6) (T := TX6) (N := 2) (ci := 6) C 0 in_X6 rfl ha (by decide) q520 (fun _ h9 => h9) rfl dX6_maker_1 ?_
  exact V_aret C (Or.inl ⟨_, rfl⟩) dX6_maker_4 (by decide) (by decide) ⟨_, rfl, rfl, rfl⟩

