set_option maxRecDepth 100000
/-- what is known of the locals: the first list says no more than the second -/
def lsub (L1 L : List (Option Value)) : Prop := ∀ (i : Nat) (v : Value), L1[i]? = some (some v) → L[i]? = some (some v)
theorem ls_e : lsub [] [] := fun _ _ h => h
theorem ls_c {o o2 : Option Value} {xs ys : List (Option Value)} (h : ∀ v, o = some v → o2 = some v) (hr : lsub xs ys) : lsub (o :: xs) (o2 :: ys) := fun i v hi => by
  cases i with
  | zero => rw [List.getElem?_cons_zero] at hi ⊢; rw [h v (Option.some.inj hi)]
  | succ i => rw [List.getElem?_cons_succ] at hi ⊢; exact hr i v hi
theorem ls_n {o2 : Option Value} {xs ys : List (Option Value)} (hr : lsub xs ys) : lsub (none :: xs) (o2 :: ys) := ls_c (fun v h => by cases h) hr
theorem ls_s {v : Value} {xs ys : List (Option Value)} (hr : lsub xs ys) : lsub (some v :: xs) (some v :: ys) := ls_c (fun v h => h) hr
theorem ls_i {x y : Int32} {xs ys : List (Option Value)} (h : x = y) (hr : lsub xs ys) : lsub (some (.int y) :: xs) (some (.int x) :: ys) := ls_c (fun v z => by rw [h]; exact z) hr
theorem ls_v {v w : Value} {xs ys : List (Option Value)} (h : v = w) (hr : lsub xs ys) : lsub (some w :: xs) (some v :: ys) := ls_c (fun u z => by rw [h]; exact z) hr
section VNAT
variable {p : Program} {l : Launch} {e : Env} {R : Room} {s : State} {m : MethodId} {args : Array Value} {below : List Frame} {meth : Method} {c : Code} {Q : State → Prop} {G : mp_G} {b nL cells slots pc mc ms : Nat} {L : List (Option Value)} {st rest : List Value} {M : mp_M} {own : String} {cc : ByteArray} {ret : Option FieldType}
theorem V_nicmp_eq (C : Cx p m meth c s args G b own cc nL ret) {x y : Nat} {off : Int} (tgt : Nat) (hd : decode cc pc = .ok (.if_icmp .eq off, 3)) (ht : (pc : Int) + off = (tgt : Int)) (hx : x < 2 ^ 31) (hy : y < 2 ^ 31) (kt : x = y → V p l e R s m args below meth c Q G b nL cells slots tgt L rest M) (kf : ¬ x = y → V p l e R s m args below meth c Q G b nL cells slots (pc + 3) L rest M) : V p l e R s m args below meth c Q G b nL cells slots pc L (.int (nI y) :: .int (nI x) :: rest) M :=
  V_icmp_eq C tgt hd ht (fun h => kt ((nI_eq hx hy).mp h)) (fun h => kf (fun z => h ((nI_eq hx hy).mpr z)))
theorem V_nif_eq (C : Cx p m meth c s args G b own cc nL ret) {x : Nat} {off : Int} (tgt : Nat) (hd : decode cc pc = .ok (.ifCond .eq off, 3)) (ht : (pc : Int) + off = (tgt : Int)) (hx : x < 2 ^ 31) (kt : x = 0 → V p l e R s m args below meth c Q G b nL cells slots tgt L rest M) (kf : ¬ x = 0 → V p l e R s m args below meth c Q G b nL cells slots (pc + 3) L rest M) : V p l e R s m args below meth c Q G b nL cells slots pc L (.int (nI x) :: rest) M :=
  V_if_eq C tgt hd ht (fun h => kt ((nI_eq hx (by decide : (0:Nat) < 2 ^ 31)).mp h)) (fun h => kf (fun z => h ((nI_eq hx (by decide : (0:Nat) < 2 ^ 31)).mpr z)))
theorem V_nicmp_ne (C : Cx p m meth c s args G b own cc nL ret) {x y : Nat} {off : Int} (tgt : Nat) (hd : decode cc pc = .ok (.if_icmp .ne off, 3)) (ht : (pc : Int) + off = (tgt : Int)) (hx : x < 2 ^ 31) (hy : y < 2 ^ 31) (kt : ¬ x = y → V p l e R s m args below meth c Q G b nL cells slots tgt L rest M) (kf : x = y → V p l e R s m args below meth c Q G b nL cells slots (pc + 3) L rest M) : V p l e R s m args below meth c Q G b nL cells slots pc L (.int (nI y) :: .int (nI x) :: rest) M :=
  V_icmp_ne C tgt hd ht (fun h => kt (fun z => h ((nI_eq hx hy).mpr z))) (fun h => kf ((nI_eq hx hy).mp h))
theorem V_nif_ne (C : Cx p m meth c s args G b own cc nL ret) {x : Nat} {off : Int} (tgt : Nat) (hd : decode cc pc = .ok (.ifCond .ne off, 3)) (ht : (pc : Int) + off = (tgt : Int)) (hx : x < 2 ^ 31) (kt : ¬ x = 0 → V p l e R s m args below meth c Q G b nL cells slots tgt L rest M) (kf : x = 0 → V p l e R s m args below meth c Q G b nL cells slots (pc + 3) L rest M) : V p l e R s m args below meth c Q G b nL cells slots pc L (.int (nI x) :: rest) M :=
  V_if_ne C tgt hd ht (fun h => kt (fun z => h ((nI_eq hx (by decide : (0:Nat) < 2 ^ 31)).mpr z))) (fun h => kf ((nI_eq hx (by decide : (0:Nat) < 2 ^ 31)).mp h))
theorem V_nicmp_lt (C : Cx p m meth c s args G b own cc nL ret) {x y : Nat} {off : Int} (tgt : Nat) (hd : decode cc pc = .ok (.if_icmp .lt off, 3)) (ht : (pc : Int) + off = (tgt : Int)) (hx : x < 2 ^ 31) (hy : y < 2 ^ 31) (kt : x < y → V p l e R s m args below meth c Q G b nL cells slots tgt L rest M) (kf : y ≤ x → V p l e R s m args below meth c Q G b nL cells slots (pc + 3) L rest M) : V p l e R s m args below meth c Q G b nL cells slots pc L (.int (nI y) :: .int (nI x) :: rest) M :=
  V_icmp_lt C tgt hd ht (fun h => kt ((nI_ltI hx hy).mp h)) (fun h => kf (Nat.not_lt.mp (fun z => h ((nI_ltI hx hy).mpr z))))
theorem V_nif_lt (C : Cx p m meth c s args G b own cc nL ret) {x : Nat} {off : Int} (tgt : Nat) (hd : decode cc pc = .ok (.ifCond .lt off, 3)) (ht : (pc : Int) + off = (tgt : Int)) (hx : x < 2 ^ 31) (kt : x < 0 → V p l e R s m args below meth c Q G b nL cells slots tgt L rest M) (kf : 0 ≤ x → V p l e R s m args below meth c Q G b nL cells slots (pc + 3) L rest M) : V p l e R s m args below meth c Q G b nL cells slots pc L (.int (nI x) :: rest) M :=
  V_if_lt C tgt hd ht (fun h => kt ((nI_ltI hx (by decide : (0:Nat) < 2 ^ 31)).mp h)) (fun h => kf (Nat.not_lt.mp (fun z => h ((nI_ltI hx (by decide : (0:Nat) < 2 ^ 31)).mpr z))))
theorem V_nicmp_ge (C : Cx p m meth c s args G b own cc nL ret) {x y : Nat} {off : Int} (tgt : Nat) (hd : decode cc pc = .ok (.if_icmp .ge off, 3)) (ht : (pc : Int) + off = (tgt : Int)) (hx : x < 2 ^ 31) (hy : y < 2 ^ 31) (kt : y ≤ x → V p l e R s m args below meth c Q G b nL cells slots tgt L rest M) (kf : x < y → V p l e R s m args below meth c Q G b nL cells slots (pc + 3) L rest M) : V p l e R s m args below meth c Q G b nL cells slots pc L (.int (nI y) :: .int (nI x) :: rest) M :=
  V_icmp_ge C tgt hd ht (fun h => kt ((nI_leI hy hx).mp h)) (fun h => kf (Nat.not_le.mp (fun z => h ((nI_leI hy hx).mpr z))))
theorem V_nif_ge (C : Cx p m meth c s args G b own cc nL ret) {x : Nat} {off : Int} (tgt : Nat) (hd : decode cc pc = .ok (.ifCond .ge off, 3)) (ht : (pc : Int) + off = (tgt : Int)) (hx : x < 2 ^ 31) (kt : 0 ≤ x → V p l e R s m args below meth c Q G b nL cells slots tgt L rest M) (kf : x < 0 → V p l e R s m args below meth c Q G b nL cells slots (pc + 3) L rest M) : V p l e R s m args below meth c Q G b nL cells slots pc L (.int (nI x) :: rest) M :=
  V_if_ge C tgt hd ht (fun h => kt ((nI_leI (by decide : (0:Nat) < 2 ^ 31) hx).mp h)) (fun h => kf (Nat.not_le.mp (fun z => h ((nI_leI (by decide : (0:Nat) < 2 ^ 31) hx).mpr z))))
theorem V_nicmp_gt (C : Cx p m meth c s args G b own cc nL ret) {x y : Nat} {off : Int} (tgt : Nat) (hd : decode cc pc = .ok (.if_icmp .gt off, 3)) (ht : (pc : Int) + off = (tgt : Int)) (hx : x < 2 ^ 31) (hy : y < 2 ^ 31) (kt : y < x → V p l e R s m args below meth c Q G b nL cells slots tgt L rest M) (kf : x ≤ y → V p l e R s m args below meth c Q G b nL cells slots (pc + 3) L rest M) : V p l e R s m args below meth c Q G b nL cells slots pc L (.int (nI y) :: .int (nI x) :: rest) M :=
  V_icmp_gt C tgt hd ht (fun h => kt ((nI_ltI hy hx).mp h)) (fun h => kf (Nat.not_lt.mp (fun z => h ((nI_ltI hy hx).mpr z))))
theorem V_nif_gt (C : Cx p m meth c s args G b own cc nL ret) {x : Nat} {off : Int} (tgt : Nat) (hd : decode cc pc = .ok (.ifCond .gt off, 3)) (ht : (pc : Int) + off = (tgt : Int)) (hx : x < 2 ^ 31) (kt : 0 < x → V p l e R s m args below meth c Q G b nL cells slots tgt L rest M) (kf : x ≤ 0 → V p l e R s m args below meth c Q G b nL cells slots (pc + 3) L rest M) : V p l e R s m args below meth c Q G b nL cells slots pc L (.int (nI x) :: rest) M :=
  V_if_gt C tgt hd ht (fun h => kt ((nI_ltI (by decide : (0:Nat) < 2 ^ 31) hx).mp h)) (fun h => kf (Nat.not_lt.mp (fun z => h ((nI_ltI (by decide : (0:Nat) < 2 ^ 31) hx).mpr z))))
theorem V_nicmp_le (C : Cx p m meth c s args G b own cc nL ret) {x y : Nat} {off : Int} (tgt : Nat) (hd : decode cc pc = .ok (.if_icmp .le off, 3)) (ht : (pc : Int) + off = (tgt : Int)) (hx : x < 2 ^ 31) (hy : y < 2 ^ 31) (kt : x ≤ y → V p l e R s m args below meth c Q G b nL cells slots tgt L rest M) (kf : y < x → V p l e R s m args below meth c Q G b nL cells slots (pc + 3) L rest M) : V p l e R s m args below meth c Q G b nL cells slots pc L (.int (nI y) :: .int (nI x) :: rest) M :=
  V_icmp_le C tgt hd ht (fun h => kt ((nI_leI hx hy).mp h)) (fun h => kf (Nat.not_le.mp (fun z => h ((nI_leI hx hy).mpr z))))
theorem V_nif_le (C : Cx p m meth c s args G b own cc nL ret) {x : Nat} {off : Int} (tgt : Nat) (hd : decode cc pc = .ok (.ifCond .le off, 3)) (ht : (pc : Int) + off = (tgt : Int)) (hx : x < 2 ^ 31) (kt : x ≤ 0 → V p l e R s m args below meth c Q G b nL cells slots tgt L rest M) (kf : 0 < x → V p l e R s m args below meth c Q G b nL cells slots (pc + 3) L rest M) : V p l e R s m args below meth c Q G b nL cells slots pc L (.int (nI x) :: rest) M :=
  V_if_le C tgt hd ht (fun h => kt ((nI_leI hx (by decide : (0:Nat) < 2 ^ 31)).mp h)) (fun h => kf (Nat.not_le.mp (fun z => h ((nI_leI hx (by decide : (0:Nat) < 2 ^ 31)).mpr z))))
theorem V_ldcM (C : Cx p m meth c s args G b own cc nL ret) {index mi : Nat} {C0 : String} (hlink : Cond.classLink own index C0 ∈ lw_all) (hM : va_Mi C0 mi s) (hd : decode cc pc = .ok (.ldc index, 2)) (k : V p l e R s m args below meth c Q G b nL cells slots (pc + 2) L (.ref mi :: rest) M) : V p l e R s m args below meth c Q G b nL cells slots pc L rest M :=
  fun H locs ls h1 h2 h3 => va_ldcM C.1.1 C.1.2.1 C.1.2.2.2.1 (C.1.2.2.2.2 _ hlink) hM hd (k H locs ls h1 h2 h3)
theorem V_getC (C : Cx p m meth c s args G b own cc nL ret) {index mi a n : Nat} {f : Nat → Option Nat} {lab : mp_L} (hlink : Cond.methodLink own index ⟨"java/lang/Object", "getClass", "()Ljava/lang/Class;"⟩ ∈ lw_all) (hsel : Cond.selects "[Ljava/lang/Object;" ⟨"java/lang/Object", "getClass", "()Ljava/lang/Class;"⟩ ⟨"java/lang/Object", "getClass", "()Ljava/lang/Class;"⟩ ∈ lw_all) (hinst : Cond.instanceMethod ⟨"java/lang/Object", "getClass", "()Ljava/lang/Class;"⟩ ∈ lw_all) (hnat : Cond.native ⟨"java/lang/Object", "getClass", "()Ljava/lang/Class;"⟩ ∈ lw_all) (hMi : va_Mi "[Ljava/lang/Object;" mi s) (hM : M a = some (lab, .inl (G.2.1 3, n, .inr (.inr (.inr (.inr f)))))) (hframes : 1 ≤ R.frames) (hlocals : (rest.map fun v => v.category).sum + 14 ≤ R.locals) (hd : decode cc pc = .ok (.invokevirtual index, 3)) (k : V p l e R s m args below meth c Q G b nL cells slots (pc + 3) L (.ref mi :: rest) M) : V p l e R s m args below meth c Q G b nL cells slots pc L (.ref a :: rest) M := by
  intro H locs ls h1 h2 h3
  have h1' := h1
  obtain ⟨ws, g1, g2, g3⟩ := h1'
  obtain ⟨q0, hq⟩ := List.getElem?_of_mem (g3 a _ hM)
  exact va_getC C.1.1 C.1.2.1 (C.1.2.2.1.trans h3.1.symm) C.1.2.2.2.1 (C.1.2.2.2.2 _ hlink) (C.2.2.2.1.2.2.1.2.2.2.2.2.2.2.2.2.2).use (C.1.2.2.2.2 _ hsel) (C.1.2.2.2.2 _ hinst) (C.1.2.2.2.2 _ hnat) hMi ⟨_, g1 q0 _ hq, rfl, va_nmO (C.2.2.2.1.1.2 3 _ rfl).2 rfl⟩ hframes hlocals hd (k H locs ls h1 h2 h3)
theorem V_sub {L1 : List (Option Value)} (h : lsub L1 L) (k : V p l e R s m args below meth c Q G b nL cells slots pc L1 st M) : V p l e R s m args below meth c Q G b nL cells slots pc L st M :=
  fun H locs ls h1 h2 h3 => k H locs ls h1 h2 ⟨h3.1, h3.2.1, fun i v hi => h3.2.2 i v (h i v hi)⟩
end VNAT
theorem i2c_n {n : Nat} (h : n < 65536) : ((nI n).toUInt32 % 65536).toInt32 = nI n := by
  rw [pk_char, pk_tn (by omega), Nat.mod_eq_of_lt h]
/-- an option's number: -1, or the place -/
def oI (o : Option Nat) : Int32 := match o with | none => -1 | some j => nI j
theorem bt {x : Bool} (h : x = true) : (1 : Int32) = bI x := by rw [h]; rfl
theorem bf {x : Bool} (h : x = false) : (0 : Int32) = bI x := by rw [h]; rfl
theorem bI_ty (x : Bool) : vp_nar .boolean (bI x) = bI x := bI_vp x
/-! loops as functions -/
def lastI (P : Nat → Bool) : Nat → Option Nat
  | 0 => none
  | n + 1 => if P n = true then some n else lastI P n
theorem lastI_t {P : Nat → Bool} {n : Nat} (h : P n = true) : lastI P (n + 1) = some n := if_pos h
theorem lastI_f {P : Nat → Bool} {n : Nat} (h : P n = false) : lastI P (n + 1) = lastI P n := if_neg (by rw [h]; decide)
theorem lastI_some {P : Nat → Bool} {n j : Nat} (h : lastI P n = some j) : j < n ∧ P j = true := by
  induction n with
  | zero => cases h
  | succ n ih =>
    unfold lastI at h
    split at h
    · cases h
      exact ⟨Nat.lt_succ_self _, by assumption⟩
    · have := ih h
      exact ⟨by omega, this.2⟩
theorem lastI_none {P : Nat → Bool} {n : Nat} (h : lastI P n = none) : ∀ j, j < n → P j = false := by
  induction n with
  | zero => intro j hj; omega
  | succ n ih =>
    unfold lastI at h
    split at h
    · cases h
    · intro j hj
      rcases Nat.lt_or_ge j n with q | q
      · exact ih h j q
      · rw [show j = n by omega]
        exact Bool.eq_false_iff.mpr (by assumption)
theorem lastI_nn {P : Nat → Bool} {n : Nat} (h : ∀ j, j < n → P j = false) : lastI P n = none := by
  cases e : lastI P n with
  | none => rfl
  | some j =>
    obtain ⟨h1, h2⟩ := lastI_some e
    rw [h j h1] at h2
    cases h2
theorem lastI_un {P : Nat → Bool} {n j : Nat} (hj : j < n) (hp : P j = true) (hu : ∀ i, i < n → P i = true → i = j) : lastI P n = some j := by
  cases e : lastI P n with
  | none => rw [lastI_none e j hj] at hp; cases hp
  | some i =>
    obtain ⟨h1, h2⟩ := lastI_some e
    rw [hu i h1 h2]
theorem lastI_congr {P P2 : Nat → Bool} {n : Nat} (h : ∀ j, j < n → P j = P2 j) : lastI P n = lastI P2 n := by
  induction n with
  | zero => rfl
  | succ n ih =>
    unfold lastI
    rw [h n (Nat.lt_succ_self _), ih (fun j hj => h j (by omega))]
def anyI (P : Nat → Bool) : Nat → Bool
  | 0 => false
  | n + 1 => anyI P n || P n
theorem anyI_iff {P : Nat → Bool} {n : Nat} : anyI P n = true ↔ ∃ j, j < n ∧ P j = true := by
  induction n with
  | zero => simp [anyI]
  | succ n ih =>
    simp only [anyI, Bool.or_eq_true, ih]
    constructor
    · rintro (⟨j, h1, h2⟩ | h)
      · exact ⟨j, by omega, h2⟩
      · exact ⟨n, by omega, h⟩
    · rintro ⟨j, h1, h2⟩
      rcases Nat.lt_or_ge j n with q | q
      · exact Or.inl ⟨j, q, h2⟩
      · exact Or.inr (by rw [← show j = n by omega]; exact h2)
theorem anyI_no {P : Nat → Bool} {n : Nat} : anyI P n = false ↔ ∀ j, j < n → P j = false := by
  rw [← Bool.not_eq_true, anyI_iff]
  constructor
  · intro h j hj
    exact Bool.eq_false_iff.mpr (fun z => h ⟨j, hj, z⟩)
  · rintro h ⟨j, h1, h2⟩
    rw [h j h1] at h2
    cases h2
theorem anyI_s (P : Nat → Bool) (n : Nat) : anyI P (n + 1) = (anyI P n || P n) := rfl
theorem anyI_congr {P P2 : Nat → Bool} {n : Nat} (h : ∀ j, j < n → P j = P2 j) : anyI P n = anyI P2 n := by
  induction n with
  | zero => rfl
  | succ n ih => rw [anyI_s, anyI_s, h n (Nat.lt_succ_self _), ih (fun j hj => h j (by omega))]
def allI (P : Nat → Bool) : Nat → Bool
  | 0 => true
  | n + 1 => allI P n && P n
theorem allI_s (P : Nat → Bool) (n : Nat) : allI P (n + 1) = (allI P n && P n) := rfl
theorem allI_iff {P : Nat → Bool} {n : Nat} : allI P n = true ↔ ∀ j, j < n → P j = true := by
  induction n with
  | zero => simp [allI]
  | succ n ih =>
    simp only [allI, Bool.and_eq_true, ih]
    constructor
    · rintro ⟨h1, h2⟩ j hj
      rcases Nat.lt_or_ge j n with q | q
      · exact h1 j q
      · rw [show j = n by omega]; exact h2
    · intro h
      exact ⟨fun j hj => h j (by omega), h n (by omega)⟩
def cntI (P : Nat → Bool) : Nat → Nat
  | 0 => 0
  | n + 1 => if P n = true then cntI P n + 1 else cntI P n
theorem cntI_t {P : Nat → Bool} {n : Nat} (h : P n = true) : cntI P (n + 1) = cntI P n + 1 := if_pos h
theorem cntI_f {P : Nat → Bool} {n : Nat} (h : P n = false) : cntI P (n + 1) = cntI P n := if_neg (by rw [h]; decide)
theorem cntI_le (P : Nat → Bool) (n : Nat) : cntI P n ≤ n := by
  induction n with
  | zero => exact Nat.le_refl _
  | succ n ih => unfold cntI; split <;> omega
def iterI {σ : Type} (f : Nat → σ → σ) (x : σ) : Nat → σ
  | 0 => x
  | n + 1 => f n (iterI f x n)
theorem iterI_s {σ : Type} (f : Nat → σ → σ) (x : σ) (n : Nat) : iterI f x (n + 1) = f n (iterI f x n) := rfl
