set_option maxRecDepth 100000
section VHELP
variable {p : Program} {l : Launch} {e : Env} {R : Room} {s : State} {m : MethodId} {args : Array Value} {below : List Frame} {meth : Method} {c : Code} {Q : State → Prop} {G : mp_G} {b nL cells slots pc mc ms : Nat} {L : List (Option Value)} {st rest : List Value} {M : mp_M} {own : String} {cc : ByteArray} {ret : Option FieldType}
theorem V_L {L1 : List (Option Value)} (h : L = L1) (k : V p l e R s m args below meth c Q G b nL cells slots pc L1 st M) : V p l e R s m args below meth c Q G b nL cells slots pc L st M := h ▸ k
theorem V_M {X : mp_M} {goal : Prop} (h : V p l e R s m args below meth c Q G b nL cells slots pc L st X → goal) (k : ∀ M1 : mp_M, M1 = X → V p l e R s m args below meth c Q G b nL cells slots pc L st M1) : goal := h (k X rfl)
theorem V_N {a : Nat} {x : mp_L × va_E} (k : ∀ M1 : mp_M, M1 = mp_up M a x → V p l e R s m args below meth c Q G b nL cells slots pc L st M1) : V p l e R s m args below meth c Q G b nL cells slots pc L st (mp_up M a x) := k _ rfl
theorem V_eqM {M1 : mp_M} (h : M = M1) (k : V p l e R s m args below meth c Q G b nL cells slots pc L st M1) : V p l e R s m args below meth c Q G b nL cells slots pc L st M := h ▸ k
theorem V_ofIe {x : Int32} {av : Array Value} (h : VR p l e R s m args below meth c G b nL cells slots mc ms pc L st rest M (Qp G b (pI (fun r M1 => r = x ∧ M1 = M)) av)) (k : V p l e R s m args below meth c Q G b nL (cells + mc) (slots + ms) (pc + 3) L (.int x :: rest) M) : V p l e R s m args below meth c Q G b nL cells slots pc L st M :=
  V_ofI h (fun r M1 q => by obtain ⟨rfl, rfl⟩ := q; exact k)
theorem V_ofRe {x : Option Nat} {av : Array Value} (h : VR p l e R s m args below meth c G b nL cells slots mc ms pc L st rest M (Qp G b (pR (fun r M1 => r = x ∧ M1 = M)) av)) (k : V p l e R s m args below meth c Q G b nL (cells + mc) (slots + ms) (pc + 3) L (va_rf x :: rest) M) : V p l e R s m args below meth c Q G b nL cells slots pc L st M :=
  V_ofR h (fun r M1 q => by obtain ⟨rfl, rfl⟩ := q; exact k)
theorem V_ofVe {av : Array Value} (h : VR p l e R s m args below meth c G b nL cells slots mc ms pc L st rest M (Qp G b (pV (fun M1 => M1 = M)) av)) (k : V p l e R s m args below meth c Q G b nL (cells + mc) (slots + ms) (pc + 3) L rest M) : V p l e R s m args below meth c Q G b nL cells slots pc L st M :=
  V_ofV h (fun M1 q => by obtain rfl := q; exact k)
theorem V_ofI5e {x : Int32} {av : Array Value} (h : VR5 p l e R s m args below meth c G b nL cells slots mc ms pc L st rest M (Qp G b (pI (fun r M1 => r = x ∧ M1 = M)) av)) (k : V p l e R s m args below meth c Q G b nL (cells + mc) (slots + ms) (pc + 5) L (.int x :: rest) M) : V p l e R s m args below meth c Q G b nL cells slots pc L st M :=
  V_ofI5 h (fun r M1 q => by obtain ⟨rfl, rfl⟩ := q; exact k)
theorem V_ofR5e {x : Option Nat} {av : Array Value} (h : VR5 p l e R s m args below meth c G b nL cells slots mc ms pc L st rest M (Qp G b (pR (fun r M1 => r = x ∧ M1 = M)) av)) (k : V p l e R s m args below meth c Q G b nL (cells + mc) (slots + ms) (pc + 5) L (va_rf x :: rest) M) : V p l e R s m args below meth c Q G b nL cells slots pc L st M :=
  V_ofR5 h (fun r M1 q => by obtain ⟨rfl, rfl⟩ := q; exact k)
theorem V_ofV5e {av : Array Value} (h : VR5 p l e R s m args below meth c G b nL cells slots mc ms pc L st rest M (Qp G b (pV (fun M1 => M1 = M)) av)) (k : V p l e R s m args below meth c Q G b nL (cells + mc) (slots + ms) (pc + 5) L rest M) : V p l e R s m args below meth c Q G b nL cells slots pc L st M :=
  V_ofV5 h (fun M1 q => by obtain rfl := q; exact k)
theorem V_ifnull_N (C : Cx p m meth c s args G b own cc nL ret) {off : Int} (tgt : Nat) (hd : decode cc pc = .ok (.ifnull off, 3)) (ht : (pc : Int) + off = (tgt : Int)) (k : V p l e R s m args below meth c Q G b nL cells slots tgt L rest M) : V p l e R s m args below meth c Q G b nL cells slots pc L (.null :: rest) M := fun H locs ls h1 h2 h3 => lv_ifnullN C.1.1 C.1.2.1 hd ht (k H locs ls h1 h2 h3)
theorem V_ifnull_R (C : Cx p m meth c s args G b own cc nL ret) {off : Int} {a : Nat} (hd : decode cc pc = .ok (.ifnull off, 3)) (k : V p l e R s m args below meth c Q G b nL cells slots (pc + 3) L rest M) : V p l e R s m args below meth c Q G b nL cells slots pc L (.ref a :: rest) M := fun H locs ls h1 h2 h3 => lv_ifnull C.1.1 C.1.2.1 hd (k H locs ls h1 h2 h3)
theorem V_ifnonnull_N (C : Cx p m meth c s args G b own cc nL ret) {off : Int} (hd : decode cc pc = .ok (.ifnonnull off, 3)) (k : V p l e R s m args below meth c Q G b nL cells slots (pc + 3) L rest M) : V p l e R s m args below meth c Q G b nL cells slots pc L (.null :: rest) M := fun H locs ls h1 h2 h3 => lv_ifnonnullN C.1.1 C.1.2.1 hd (k H locs ls h1 h2 h3)
theorem V_ifnonnull_R (C : Cx p m meth c s args G b own cc nL ret) {off : Int} {a : Nat} (tgt : Nat) (hd : decode cc pc = .ok (.ifnonnull off, 3)) (ht : (pc : Int) + off = (tgt : Int)) (k : V p l e R s m args below meth c Q G b nL cells slots tgt L rest M) : V p l e R s m args below meth c Q G b nL cells slots pc L (.ref a :: rest) M := fun H locs ls h1 h2 h3 => lv_ifnonnull C.1.1 C.1.2.1 hd ht (k H locs ls h1 h2 h3)
/-- a flag on top, tested -/
theorem V_ifb_eq (C : Cx p m meth c s args G b own cc nL ret) {x : Bool} {off : Int} (tgt : Nat) (hd : decode cc pc = .ok (.ifCond .eq off, 3)) (ht : (pc : Int) + off = (tgt : Int)) (kt : x = false → V p l e R s m args below meth c Q G b nL cells slots tgt L rest M) (kf : x = true → V p l e R s m args below meth c Q G b nL cells slots (pc + 3) L rest M) : V p l e R s m args below meth c Q G b nL cells slots pc L (.int (bI x) :: rest) M :=
  V_if_eq C tgt hd ht (fun h => kt ((bI_z x).mp h)) (fun h => kf (by cases x; exact absurd rfl h; rfl))
theorem V_ifb_ne (C : Cx p m meth c s args G b own cc nL ret) {x : Bool} {off : Int} (tgt : Nat) (hd : decode cc pc = .ok (.ifCond .ne off, 3)) (ht : (pc : Int) + off = (tgt : Int)) (kt : x = true → V p l e R s m args below meth c Q G b nL cells slots tgt L rest M) (kf : x = false → V p l e R s m args below meth c Q G b nL cells slots (pc + 3) L rest M) : V p l e R s m args below meth c Q G b nL cells slots pc L (.int (bI x) :: rest) M :=
  V_if_ne C tgt hd ht (fun h => kt (by cases x; exact absurd rfl h; rfl)) (fun h => kf ((bI_z x).mp h))
end VHELP
theorem vc_nil : ∀ v ∈ ([] : List Value), v.category = 1 := fun v h => absurd h List.not_mem_nil
theorem vc_int {x : Int32} {l : List Value} (h : ∀ v ∈ l, v.category = 1) : ∀ v ∈ Value.int x :: l, v.category = 1 := List.forall_mem_cons.mpr ⟨rfl, h⟩
theorem vc_ref {x : Nat} {l : List Value} (h : ∀ v ∈ l, v.category = 1) : ∀ v ∈ Value.ref x :: l, v.category = 1 := List.forall_mem_cons.mpr ⟨rfl, h⟩
theorem vc_null {l : List Value} (h : ∀ v ∈ l, v.category = 1) : ∀ v ∈ Value.null :: l, v.category = 1 := List.forall_mem_cons.mpr ⟨rfl, h⟩
theorem vcat_rf (o : Option Nat) : (va_rf o).category = 1 := by cases o <;> rfl
theorem vc_q {o : Option Nat} {l : List Value} (h : ∀ v ∈ l, v.category = 1) : ∀ v ∈ va_rf o :: l, v.category = 1 := List.forall_mem_cons.mpr ⟨vcat_rf o, h⟩
theorem mp_keep {M M1 : mp_M} {q a : Nat} {x : mp_L × va_E} {la lb : mp_L} {y z : va_E} (e : M1 = mp_up M a x) (hq : M q = some (la, y)) (ha : M a = some (lb, z)) (hne : la ≠ lb) : M1 q = some (la, y) := by rw [e]; exact mp_lab hq ha hne
theorem mp_keepN {M M1 : mp_M} {q a : Nat} {x y : mp_L × va_E} (e : M1 = mp_up M a x) (hq : M q = some y) (ha : M a = none) : M1 q = some y := by rw [e]; exact mp_fresh hq ha
theorem mp_got {M M1 : mp_M} {a : Nat} {x : mp_L × va_E} (e : M1 = mp_up M a x) : M1 a = some x := by rw [e]; exact mp_self _ _ _
/-- what a method leaves: all cells but those whose labels are in S -/
def Keep (S : mp_L → Prop) (M M1 : mp_M) : Prop := ∀ (q : Nat) (la : mp_L) (y : va_E), M q = some (la, y) → ¬ S la → M1 q = some (la, y)
theorem Keep.rf {S : mp_L → Prop} {M : mp_M} : Keep S M M := fun _ _ _ h _ => h
theorem Keep.tr {S : mp_L → Prop} {M M1 M2 : mp_M} (h : Keep S M M1) (h2 : Keep S M1 M2) : Keep S M M2 := fun q la y hq hn => h2 q la y (h q la y hq hn) hn
theorem Keep.mono {S S2 : mp_L → Prop} {M M1 : mp_M} (h : Keep S M M1) (hs : ∀ la, S la → S2 la) : Keep S2 M M1 := fun q la y hq hn => h q la y hq (fun z => hn (hs la z))
theorem Keep.up {S : mp_L → Prop} {M M1 : mp_M} {a : Nat} {x : mp_L × va_E} {lb : mp_L} {z : va_E} (e : M1 = mp_up M a x) (ha : M a = some (lb, z)) (hs : S lb) : Keep S M M1 := fun q la y hq hn => mp_keep e hq ha (fun h => hn (h ▸ hs))
theorem Keep.new {S : mp_L → Prop} {M M1 : mp_M} {a : Nat} {x : mp_L × va_E} (e : M1 = mp_up M a x) (ha : M a = none) : Keep S M M1 := fun q la y hq _ => mp_keepN e hq ha
theorem bI_fit (q : Bool) : fits .boolean (.int (bI q)) = true := by cases q <;> rfl
theorem nq_nar {C0 : String} (o : Option Nat) : narrow (.object C0) (va_rf o) = va_rf o := by cases o <;> rfl
theorem nq_fit {C0 : String} (o : Option Nat) : fits (.object C0) (va_rf o) = true := by cases o <;> rfl
theorem lw_SU {own : String} {idx : Nat} {y : MethodName} {b : ByteArray} {L : Nat} {r : Option FieldType} (h1 : Cond.methodLink own idx y ∈ lw_all) (h2 : Cond.sameMethod y.cls y.cls y.name y.desc ∈ lw_all) (h3 : Cond.superclass own y.cls ∈ lw_all) (h4 : Cond.instanceMethod y ∈ lw_all) (h5 : Cond.initialized y.cls ∈ lw_all) (h6 : Cond.code y b L r ∈ lw_all) : GoodIn lw_all (va_wsSU own idx y (ws_ y b L r)) := by
  refine lw_app ?_ (lw_meth h6)
  intro w hw
  simp only [List.mem_cons, List.not_mem_nil, or_false] at hw
  rcases hw with e | e | e | e | e
  · rw [e]; exact h1
  · rw [e]; exact h2
  · rw [e]; exact h3
  · rw [e]; exact h4
  · rw [e]; exact h5
theorem lw_U {own : String} {idx : Nat} {C0 owner : String} {x y : MethodName} {b : ByteArray} {L : Nat} {r : Option FieldType} (h1 : Cond.methodLink own idx x ∈ lw_all) (h2 : Cond.sameMethod x.cls owner x.name x.desc ∈ lw_all) (h3 : Cond.selects C0 x y ∈ lw_all) (h4 : Cond.instanceMethod y ∈ lw_all) (h5 : Cond.initialized y.cls ∈ lw_all) (h6 : Cond.code y b L r ∈ lw_all) : GoodIn lw_all (va_wsU own idx C0 owner x y (ws_ y b L r)) := by
  refine lw_app ?_ (lw_meth h6)
  intro w hw
  simp only [List.mem_cons, List.not_mem_nil, or_false] at hw
  rcases hw with e | e | e | e | e
  · rw [e]; exact h1
  · rw [e]; exact h2
  · rw [e]; exact h3
  · rw [e]; exact h4
  · rw [e]; exact h5
theorem lw_F {own : String} {idx : Nat} {C0 : String} {x y : MethodName} {b : ByteArray} {L : Nat} {r : Option FieldType} (h1 : Cond.methodLink own idx x ∈ lw_all) (h3 : Cond.selects C0 x y ∈ lw_all) (h4 : Cond.instanceMethod y ∈ lw_all) (h5 : Cond.initialized y.cls ∈ lw_all) (h6 : Cond.code y b L r ∈ lw_all) : GoodIn lw_all (va_wsF own idx C0 x y (ws_ y b L r)) := by
  refine lw_app ?_ (lw_meth h6)
  intro w hw
  simp only [List.mem_cons, List.not_mem_nil, or_false] at hw
  rcases hw with e | e | e | e
  · rw [e]; exact h1
  · rw [e]; exact h3
  · rw [e]; exact h4
  · rw [e]; exact h5
theorem nd_J0_init : yJ0_init.cls ≠ "java/lang/invoke/MethodHandle" ∧ yJ0_init.cls ≠ "java/lang/invoke/VarHandle" ∧ (parseMethodDescriptor yJ0_init.desc).map (fun d => d.parameters.length) = some 0 := by decide +kernel
theorem nd_J10_max : yJ10_max.cls ≠ "java/lang/invoke/MethodHandle" ∧ yJ10_max.cls ≠ "java/lang/invoke/VarHandle" ∧ (parseMethodDescriptor yJ10_max.desc).map (fun d => d.parameters.length) = some 2 := by decide +kernel
theorem nd_J10_min : yJ10_min.cls ≠ "java/lang/invoke/MethodHandle" ∧ yJ10_min.cls ≠ "java/lang/invoke/VarHandle" ∧ (parseMethodDescriptor yJ10_min.desc).map (fun d => d.parameters.length) = some 2 := by decide +kernel
theorem nd_J11_hugeLength : yJ11_hugeLength.cls ≠ "java/lang/invoke/MethodHandle" ∧ yJ11_hugeLength.cls ≠ "java/lang/invoke/VarHandle" ∧ (parseMethodDescriptor yJ11_hugeLength.desc).map (fun d => d.parameters.length) = some 2 := by decide +kernel
theorem nd_J11_newLength : yJ11_newLength.cls ≠ "java/lang/invoke/MethodHandle" ∧ yJ11_newLength.cls ≠ "java/lang/invoke/VarHandle" ∧ (parseMethodDescriptor yJ11_newLength.desc).map (fun d => d.parameters.length) = some 3 := by decide +kernel
theorem nd_J12_checkLength : yJ12_checkLength.cls ≠ "java/lang/invoke/MethodHandle" ∧ yJ12_checkLength.cls ≠ "java/lang/invoke/VarHandle" ∧ (parseMethodDescriptor yJ12_checkLength.desc).map (fun d => d.parameters.length) = some 2 := by decide +kernel
theorem nd_J12_copyOf : yJ12_copyOf.cls ≠ "java/lang/invoke/MethodHandle" ∧ yJ12_copyOf.cls ≠ "java/lang/invoke/VarHandle" ∧ (parseMethodDescriptor yJ12_copyOf.desc).map (fun d => d.parameters.length) = some 2 := by decide +kernel
theorem nd_J12_copyOfRange : yJ12_copyOfRange.cls ≠ "java/lang/invoke/MethodHandle" ∧ yJ12_copyOfRange.cls ≠ "java/lang/invoke/VarHandle" ∧ (parseMethodDescriptor yJ12_copyOfRange.desc).map (fun d => d.parameters.length) = some 3 := by decide +kernel
theorem nd_J12_copyOfRangeByte : yJ12_copyOfRangeByte.cls ≠ "java/lang/invoke/MethodHandle" ∧ yJ12_copyOfRangeByte.cls ≠ "java/lang/invoke/VarHandle" ∧ (parseMethodDescriptor yJ12_copyOfRangeByte.desc).map (fun d => d.parameters.length) = some 3 := by decide +kernel
theorem nd_J12_copyOf_2 : yJ12_copyOf_2.cls ≠ "java/lang/invoke/MethodHandle" ∧ yJ12_copyOf_2.cls ≠ "java/lang/invoke/VarHandle" ∧ (parseMethodDescriptor yJ12_copyOf_2.desc).map (fun d => d.parameters.length) = some 2 := by decide +kernel
theorem nd_J12_copyOf_3 : yJ12_copyOf_3.cls ≠ "java/lang/invoke/MethodHandle" ∧ yJ12_copyOf_3.cls ≠ "java/lang/invoke/VarHandle" ∧ (parseMethodDescriptor yJ12_copyOf_3.desc).map (fun d => d.parameters.length) = some 3 := by decide +kernel
theorem nd_J12_fill : yJ12_fill.cls ≠ "java/lang/invoke/MethodHandle" ∧ yJ12_fill.cls ≠ "java/lang/invoke/VarHandle" ∧ (parseMethodDescriptor yJ12_fill.desc).map (fun d => d.parameters.length) = some 4 := by decide +kernel
theorem nd_J12_rangeCheck : yJ12_rangeCheck.cls ≠ "java/lang/invoke/MethodHandle" ∧ yJ12_rangeCheck.cls ≠ "java/lang/invoke/VarHandle" ∧ (parseMethodDescriptor yJ12_rangeCheck.desc).map (fun d => d.parameters.length) = some 3 := by decide +kernel
theorem nd_J13_init : yJ13_init.cls ≠ "java/lang/invoke/MethodHandle" ∧ yJ13_init.cls ≠ "java/lang/invoke/VarHandle" ∧ (parseMethodDescriptor yJ13_init.desc).map (fun d => d.parameters.length) = some 0 := by decide +kernel
theorem nd_J14_init : yJ14_init.cls ≠ "java/lang/invoke/MethodHandle" ∧ yJ14_init.cls ≠ "java/lang/invoke/VarHandle" ∧ (parseMethodDescriptor yJ14_init.desc).map (fun d => d.parameters.length) = some 0 := by decide +kernel
theorem nd_J1_init : yJ1_init.cls ≠ "java/lang/invoke/MethodHandle" ∧ yJ1_init.cls ≠ "java/lang/invoke/VarHandle" ∧ (parseMethodDescriptor yJ1_init.desc).map (fun d => d.parameters.length) = some 0 := by decide +kernel
theorem nd_J2_add : yJ2_add.cls ≠ "java/lang/invoke/MethodHandle" ∧ yJ2_add.cls ≠ "java/lang/invoke/VarHandle" ∧ (parseMethodDescriptor yJ2_add.desc).map (fun d => d.parameters.length) = some 1 := by decide +kernel
theorem nd_J2_add_2 : yJ2_add_2.cls ≠ "java/lang/invoke/MethodHandle" ∧ yJ2_add_2.cls ≠ "java/lang/invoke/VarHandle" ∧ (parseMethodDescriptor yJ2_add_2.desc).map (fun d => d.parameters.length) = some 3 := by decide +kernel
theorem nd_J2_elementData : yJ2_elementData.cls ≠ "java/lang/invoke/MethodHandle" ∧ yJ2_elementData.cls ≠ "java/lang/invoke/VarHandle" ∧ (parseMethodDescriptor yJ2_elementData.desc).map (fun d => d.parameters.length) = some 1 := by decide +kernel
theorem nd_J2_fastRemove : yJ2_fastRemove.cls ≠ "java/lang/invoke/MethodHandle" ∧ yJ2_fastRemove.cls ≠ "java/lang/invoke/VarHandle" ∧ (parseMethodDescriptor yJ2_fastRemove.desc).map (fun d => d.parameters.length) = some 2 := by decide +kernel
theorem nd_J2_get : yJ2_get.cls ≠ "java/lang/invoke/MethodHandle" ∧ yJ2_get.cls ≠ "java/lang/invoke/VarHandle" ∧ (parseMethodDescriptor yJ2_get.desc).map (fun d => d.parameters.length) = some 1 := by decide +kernel
theorem nd_J2_grow : yJ2_grow.cls ≠ "java/lang/invoke/MethodHandle" ∧ yJ2_grow.cls ≠ "java/lang/invoke/VarHandle" ∧ (parseMethodDescriptor yJ2_grow.desc).map (fun d => d.parameters.length) = some 0 := by decide +kernel
theorem nd_J2_grow_2 : yJ2_grow_2.cls ≠ "java/lang/invoke/MethodHandle" ∧ yJ2_grow_2.cls ≠ "java/lang/invoke/VarHandle" ∧ (parseMethodDescriptor yJ2_grow_2.desc).map (fun d => d.parameters.length) = some 1 := by decide +kernel
theorem nd_J2_init : yJ2_init.cls ≠ "java/lang/invoke/MethodHandle" ∧ yJ2_init.cls ≠ "java/lang/invoke/VarHandle" ∧ (parseMethodDescriptor yJ2_init.desc).map (fun d => d.parameters.length) = some 0 := by decide +kernel
theorem nd_J2_remove : yJ2_remove.cls ≠ "java/lang/invoke/MethodHandle" ∧ yJ2_remove.cls ≠ "java/lang/invoke/VarHandle" ∧ (parseMethodDescriptor yJ2_remove.desc).map (fun d => d.parameters.length) = some 1 := by decide +kernel
theorem nd_J2_size : yJ2_size.cls ≠ "java/lang/invoke/MethodHandle" ∧ yJ2_size.cls ≠ "java/lang/invoke/VarHandle" ∧ (parseMethodDescriptor yJ2_size.desc).map (fun d => d.parameters.length) = some 0 := by decide +kernel
theorem nd_J3_append : yJ3_append.cls ≠ "java/lang/invoke/MethodHandle" ∧ yJ3_append.cls ≠ "java/lang/invoke/VarHandle" ∧ (parseMethodDescriptor yJ3_append.desc).map (fun d => d.parameters.length) = some 1 := by decide +kernel
theorem ns_J3_append : yJ3_append.name ≠ "<init>" ∧ (parseMethodDescriptor yJ3_append.desc).map (fun d => d.parameters.length) = some 1 := by decide +kernel
theorem nd_J3_appendNull : yJ3_appendNull.cls ≠ "java/lang/invoke/MethodHandle" ∧ yJ3_appendNull.cls ≠ "java/lang/invoke/VarHandle" ∧ (parseMethodDescriptor yJ3_appendNull.desc).map (fun d => d.parameters.length) = some 0 := by decide +kernel
theorem ns_J3_appendNull : yJ3_appendNull.name ≠ "<init>" ∧ (parseMethodDescriptor yJ3_appendNull.desc).map (fun d => d.parameters.length) = some 0 := by decide +kernel
theorem nd_J3_append_2 : yJ3_append_2.cls ≠ "java/lang/invoke/MethodHandle" ∧ yJ3_append_2.cls ≠ "java/lang/invoke/VarHandle" ∧ (parseMethodDescriptor yJ3_append_2.desc).map (fun d => d.parameters.length) = some 1 := by decide +kernel
theorem ns_J3_append_2 : yJ3_append_2.name ≠ "<init>" ∧ (parseMethodDescriptor yJ3_append_2.desc).map (fun d => d.parameters.length) = some 1 := by decide +kernel
theorem nd_J3_charAt : yJ3_charAt.cls ≠ "java/lang/invoke/MethodHandle" ∧ yJ3_charAt.cls ≠ "java/lang/invoke/VarHandle" ∧ (parseMethodDescriptor yJ3_charAt.desc).map (fun d => d.parameters.length) = some 1 := by decide +kernel
theorem ns_J3_charAt : yJ3_charAt.name ≠ "<init>" ∧ (parseMethodDescriptor yJ3_charAt.desc).map (fun d => d.parameters.length) = some 1 := by decide +kernel
theorem nd_J3_ensureCapacityInternal : yJ3_ensureCapacityInternal.cls ≠ "java/lang/invoke/MethodHandle" ∧ yJ3_ensureCapacityInternal.cls ≠ "java/lang/invoke/VarHandle" ∧ (parseMethodDescriptor yJ3_ensureCapacityInternal.desc).map (fun d => d.parameters.length) = some 1 := by decide +kernel
theorem ns_J3_ensureCapacityInternal : yJ3_ensureCapacityInternal.name ≠ "<init>" ∧ (parseMethodDescriptor yJ3_ensureCapacityInternal.desc).map (fun d => d.parameters.length) = some 1 := by decide +kernel
theorem nd_J3_getValue : yJ3_getValue.cls ≠ "java/lang/invoke/MethodHandle" ∧ yJ3_getValue.cls ≠ "java/lang/invoke/VarHandle" ∧ (parseMethodDescriptor yJ3_getValue.desc).map (fun d => d.parameters.length) = some 0 := by decide +kernel
theorem ns_J3_getValue : yJ3_getValue.name ≠ "<init>" ∧ (parseMethodDescriptor yJ3_getValue.desc).map (fun d => d.parameters.length) = some 0 := by decide +kernel
theorem nd_J3_inflate : yJ3_inflate.cls ≠ "java/lang/invoke/MethodHandle" ∧ yJ3_inflate.cls ≠ "java/lang/invoke/VarHandle" ∧ (parseMethodDescriptor yJ3_inflate.desc).map (fun d => d.parameters.length) = some 0 := by decide +kernel
theorem ns_J3_inflate : yJ3_inflate.name ≠ "<init>" ∧ (parseMethodDescriptor yJ3_inflate.desc).map (fun d => d.parameters.length) = some 0 := by decide +kernel
theorem nd_J3_inflateIfNeededFor : yJ3_inflateIfNeededFor.cls ≠ "java/lang/invoke/MethodHandle" ∧ yJ3_inflateIfNeededFor.cls ≠ "java/lang/invoke/VarHandle" ∧ (parseMethodDescriptor yJ3_inflateIfNeededFor.desc).map (fun d => d.parameters.length) = some 1 := by decide +kernel
theorem ns_J3_inflateIfNeededFor : yJ3_inflateIfNeededFor.name ≠ "<init>" ∧ (parseMethodDescriptor yJ3_inflateIfNeededFor.desc).map (fun d => d.parameters.length) = some 1 := by decide +kernel
theorem nd_J3_init : yJ3_init.cls ≠ "java/lang/invoke/MethodHandle" ∧ yJ3_init.cls ≠ "java/lang/invoke/VarHandle" ∧ (parseMethodDescriptor yJ3_init.desc).map (fun d => d.parameters.length) = some 1 := by decide +kernel
theorem nd_J3_isLatin1 : yJ3_isLatin1.cls ≠ "java/lang/invoke/MethodHandle" ∧ yJ3_isLatin1.cls ≠ "java/lang/invoke/VarHandle" ∧ (parseMethodDescriptor yJ3_isLatin1.desc).map (fun d => d.parameters.length) = some 0 := by decide +kernel
theorem ns_J3_isLatin1 : yJ3_isLatin1.name ≠ "<init>" ∧ (parseMethodDescriptor yJ3_isLatin1.desc).map (fun d => d.parameters.length) = some 0 := by decide +kernel
theorem nd_J3_length : yJ3_length.cls ≠ "java/lang/invoke/MethodHandle" ∧ yJ3_length.cls ≠ "java/lang/invoke/VarHandle" ∧ (parseMethodDescriptor yJ3_length.desc).map (fun d => d.parameters.length) = some 0 := by decide +kernel
theorem ns_J3_length : yJ3_length.name ≠ "<init>" ∧ (parseMethodDescriptor yJ3_length.desc).map (fun d => d.parameters.length) = some 0 := by decide +kernel
theorem nd_J3_newCapacity : yJ3_newCapacity.cls ≠ "java/lang/invoke/MethodHandle" ∧ yJ3_newCapacity.cls ≠ "java/lang/invoke/VarHandle" ∧ (parseMethodDescriptor yJ3_newCapacity.desc).map (fun d => d.parameters.length) = some 1 := by decide +kernel
theorem ns_J3_newCapacity : yJ3_newCapacity.name ≠ "<init>" ∧ (parseMethodDescriptor yJ3_newCapacity.desc).map (fun d => d.parameters.length) = some 1 := by decide +kernel
theorem nd_J3_putStringAt : yJ3_putStringAt.cls ≠ "java/lang/invoke/MethodHandle" ∧ yJ3_putStringAt.cls ≠ "java/lang/invoke/VarHandle" ∧ (parseMethodDescriptor yJ3_putStringAt.desc).map (fun d => d.parameters.length) = some 2 := by decide +kernel
theorem ns_J3_putStringAt : yJ3_putStringAt.name ≠ "<init>" ∧ (parseMethodDescriptor yJ3_putStringAt.desc).map (fun d => d.parameters.length) = some 2 := by decide +kernel
theorem nd_J3_setCharAt : yJ3_setCharAt.cls ≠ "java/lang/invoke/MethodHandle" ∧ yJ3_setCharAt.cls ≠ "java/lang/invoke/VarHandle" ∧ (parseMethodDescriptor yJ3_setCharAt.desc).map (fun d => d.parameters.length) = some 2 := by decide +kernel
theorem ns_J3_setCharAt : yJ3_setCharAt.name ≠ "<init>" ∧ (parseMethodDescriptor yJ3_setCharAt.desc).map (fun d => d.parameters.length) = some 2 := by decide +kernel
theorem nd_J3_setLength : yJ3_setLength.cls ≠ "java/lang/invoke/MethodHandle" ∧ yJ3_setLength.cls ≠ "java/lang/invoke/VarHandle" ∧ (parseMethodDescriptor yJ3_setLength.desc).map (fun d => d.parameters.length) = some 1 := by decide +kernel
theorem ns_J3_setLength : yJ3_setLength.name ≠ "<init>" ∧ (parseMethodDescriptor yJ3_setLength.desc).map (fun d => d.parameters.length) = some 1 := by decide +kernel
theorem nd_J4_append : yJ4_append.cls ≠ "java/lang/invoke/MethodHandle" ∧ yJ4_append.cls ≠ "java/lang/invoke/VarHandle" ∧ (parseMethodDescriptor yJ4_append.desc).map (fun d => d.parameters.length) = some 1 := by decide +kernel
theorem nd_J4_append_2 : yJ4_append_2.cls ≠ "java/lang/invoke/MethodHandle" ∧ yJ4_append_2.cls ≠ "java/lang/invoke/VarHandle" ∧ (parseMethodDescriptor yJ4_append_2.desc).map (fun d => d.parameters.length) = some 1 := by decide +kernel
theorem nd_J4_charAt : yJ4_charAt.cls ≠ "java/lang/invoke/MethodHandle" ∧ yJ4_charAt.cls ≠ "java/lang/invoke/VarHandle" ∧ (parseMethodDescriptor yJ4_charAt.desc).map (fun d => d.parameters.length) = some 1 := by decide +kernel
theorem nd_J4_init : yJ4_init.cls ≠ "java/lang/invoke/MethodHandle" ∧ yJ4_init.cls ≠ "java/lang/invoke/VarHandle" ∧ (parseMethodDescriptor yJ4_init.desc).map (fun d => d.parameters.length) = some 0 := by decide +kernel
theorem nd_J4_length : yJ4_length.cls ≠ "java/lang/invoke/MethodHandle" ∧ yJ4_length.cls ≠ "java/lang/invoke/VarHandle" ∧ (parseMethodDescriptor yJ4_length.desc).map (fun d => d.parameters.length) = some 0 := by decide +kernel
theorem nd_J4_setCharAt : yJ4_setCharAt.cls ≠ "java/lang/invoke/MethodHandle" ∧ yJ4_setCharAt.cls ≠ "java/lang/invoke/VarHandle" ∧ (parseMethodDescriptor yJ4_setCharAt.desc).map (fun d => d.parameters.length) = some 2 := by decide +kernel
theorem nd_J4_setLength : yJ4_setLength.cls ≠ "java/lang/invoke/MethodHandle" ∧ yJ4_setLength.cls ≠ "java/lang/invoke/VarHandle" ∧ (parseMethodDescriptor yJ4_setLength.desc).map (fun d => d.parameters.length) = some 1 := by decide +kernel
theorem nd_J4_toString : yJ4_toString.cls ≠ "java/lang/invoke/MethodHandle" ∧ yJ4_toString.cls ≠ "java/lang/invoke/VarHandle" ∧ (parseMethodDescriptor yJ4_toString.desc).map (fun d => d.parameters.length) = some 0 := by decide +kernel
theorem nd_J5_charAt : yJ5_charAt.cls ≠ "java/lang/invoke/MethodHandle" ∧ yJ5_charAt.cls ≠ "java/lang/invoke/VarHandle" ∧ (parseMethodDescriptor yJ5_charAt.desc).map (fun d => d.parameters.length) = some 1 := by decide +kernel
theorem nd_J5_checkBoundsBeginEnd : yJ5_checkBoundsBeginEnd.cls ≠ "java/lang/invoke/MethodHandle" ∧ yJ5_checkBoundsBeginEnd.cls ≠ "java/lang/invoke/VarHandle" ∧ (parseMethodDescriptor yJ5_checkBoundsBeginEnd.desc).map (fun d => d.parameters.length) = some 3 := by decide +kernel
theorem nd_J5_checkBoundsOffCount : yJ5_checkBoundsOffCount.cls ≠ "java/lang/invoke/MethodHandle" ∧ yJ5_checkBoundsOffCount.cls ≠ "java/lang/invoke/VarHandle" ∧ (parseMethodDescriptor yJ5_checkBoundsOffCount.desc).map (fun d => d.parameters.length) = some 3 := by decide +kernel
theorem nd_J5_checkIndex : yJ5_checkIndex.cls ≠ "java/lang/invoke/MethodHandle" ∧ yJ5_checkIndex.cls ≠ "java/lang/invoke/VarHandle" ∧ (parseMethodDescriptor yJ5_checkIndex.desc).map (fun d => d.parameters.length) = some 2 := by decide +kernel
theorem nd_J5_coder : yJ5_coder.cls ≠ "java/lang/invoke/MethodHandle" ∧ yJ5_coder.cls ≠ "java/lang/invoke/VarHandle" ∧ (parseMethodDescriptor yJ5_coder.desc).map (fun d => d.parameters.length) = some 0 := by decide +kernel
theorem nd_J5_equals : yJ5_equals.cls ≠ "java/lang/invoke/MethodHandle" ∧ yJ5_equals.cls ≠ "java/lang/invoke/VarHandle" ∧ (parseMethodDescriptor yJ5_equals.desc).map (fun d => d.parameters.length) = some 1 := by decide +kernel
theorem nd_J5_getBytes : yJ5_getBytes.cls ≠ "java/lang/invoke/MethodHandle" ∧ yJ5_getBytes.cls ≠ "java/lang/invoke/VarHandle" ∧ (parseMethodDescriptor yJ5_getBytes.desc).map (fun d => d.parameters.length) = some 3 := by decide +kernel
theorem nd_J5_init : yJ5_init.cls ≠ "java/lang/invoke/MethodHandle" ∧ yJ5_init.cls ≠ "java/lang/invoke/VarHandle" ∧ (parseMethodDescriptor yJ5_init.desc).map (fun d => d.parameters.length) = some 1 := by decide +kernel
theorem nd_J5_init_2 : yJ5_init_2.cls ≠ "java/lang/invoke/MethodHandle" ∧ yJ5_init_2.cls ≠ "java/lang/invoke/VarHandle" ∧ (parseMethodDescriptor yJ5_init_2.desc).map (fun d => d.parameters.length) = some 2 := by decide +kernel
theorem nd_J5_isLatin1 : yJ5_isLatin1.cls ≠ "java/lang/invoke/MethodHandle" ∧ yJ5_isLatin1.cls ≠ "java/lang/invoke/VarHandle" ∧ (parseMethodDescriptor yJ5_isLatin1.desc).map (fun d => d.parameters.length) = some 0 := by decide +kernel
theorem nd_J5_length : yJ5_length.cls ≠ "java/lang/invoke/MethodHandle" ∧ yJ5_length.cls ≠ "java/lang/invoke/VarHandle" ∧ (parseMethodDescriptor yJ5_length.desc).map (fun d => d.parameters.length) = some 0 := by decide +kernel
theorem nd_J7_checkIndex : yJ7_checkIndex.cls ≠ "java/lang/invoke/MethodHandle" ∧ yJ7_checkIndex.cls ≠ "java/lang/invoke/VarHandle" ∧ (parseMethodDescriptor yJ7_checkIndex.desc).map (fun d => d.parameters.length) = some 2 := by decide +kernel
theorem nd_J8_checkFromIndexSize : yJ8_checkFromIndexSize.cls ≠ "java/lang/invoke/MethodHandle" ∧ yJ8_checkFromIndexSize.cls ≠ "java/lang/invoke/VarHandle" ∧ (parseMethodDescriptor yJ8_checkFromIndexSize.desc).map (fun d => d.parameters.length) = some 4 := by decide +kernel
theorem nd_J8_checkFromToIndex : yJ8_checkFromToIndex.cls ≠ "java/lang/invoke/MethodHandle" ∧ yJ8_checkFromToIndex.cls ≠ "java/lang/invoke/VarHandle" ∧ (parseMethodDescriptor yJ8_checkFromToIndex.desc).map (fun d => d.parameters.length) = some 4 := by decide +kernel
theorem nd_J8_checkIndex : yJ8_checkIndex.cls ≠ "java/lang/invoke/MethodHandle" ∧ yJ8_checkIndex.cls ≠ "java/lang/invoke/VarHandle" ∧ (parseMethodDescriptor yJ8_checkIndex.desc).map (fun d => d.parameters.length) = some 3 := by decide +kernel
theorem nd_J9_canEncode : yJ9_canEncode.cls ≠ "java/lang/invoke/MethodHandle" ∧ yJ9_canEncode.cls ≠ "java/lang/invoke/VarHandle" ∧ (parseMethodDescriptor yJ9_canEncode.desc).map (fun d => d.parameters.length) = some 1 := by decide +kernel
theorem nd_J9_charAt : yJ9_charAt.cls ≠ "java/lang/invoke/MethodHandle" ∧ yJ9_charAt.cls ≠ "java/lang/invoke/VarHandle" ∧ (parseMethodDescriptor yJ9_charAt.desc).map (fun d => d.parameters.length) = some 2 := by decide +kernel
theorem nd_J9_equals : yJ9_equals.cls ≠ "java/lang/invoke/MethodHandle" ∧ yJ9_equals.cls ≠ "java/lang/invoke/VarHandle" ∧ (parseMethodDescriptor yJ9_equals.desc).map (fun d => d.parameters.length) = some 2 := by decide +kernel
theorem nd_J9_fillNull : yJ9_fillNull.cls ≠ "java/lang/invoke/MethodHandle" ∧ yJ9_fillNull.cls ≠ "java/lang/invoke/VarHandle" ∧ (parseMethodDescriptor yJ9_fillNull.desc).map (fun d => d.parameters.length) = some 3 := by decide +kernel
theorem nd_J9_inflate : yJ9_inflate.cls ≠ "java/lang/invoke/MethodHandle" ∧ yJ9_inflate.cls ≠ "java/lang/invoke/VarHandle" ∧ (parseMethodDescriptor yJ9_inflate.desc).map (fun d => d.parameters.length) = some 5 := by decide +kernel
theorem nd_X0_alter : yX0_alter.cls ≠ "java/lang/invoke/MethodHandle" ∧ yX0_alter.cls ≠ "java/lang/invoke/VarHandle" ∧ (parseMethodDescriptor yX0_alter.desc).map (fun d => d.parameters.length) = some 2 := by decide +kernel
theorem nd_X0_cut : yX0_cut.cls ≠ "java/lang/invoke/MethodHandle" ∧ yX0_cut.cls ≠ "java/lang/invoke/VarHandle" ∧ (parseMethodDescriptor yX0_cut.desc).map (fun d => d.parameters.length) = some 1 := by decide +kernel
theorem nd_X0_depth : yX0_depth.cls ≠ "java/lang/invoke/MethodHandle" ∧ yX0_depth.cls ≠ "java/lang/invoke/VarHandle" ∧ (parseMethodDescriptor yX0_depth.desc).map (fun d => d.parameters.length) = some 2 := by decide +kernel
theorem nd_X0_edit : yX0_edit.cls ≠ "java/lang/invoke/MethodHandle" ∧ yX0_edit.cls ≠ "java/lang/invoke/VarHandle" ∧ (parseMethodDescriptor yX0_edit.desc).map (fun d => d.parameters.length) = some 5 := by decide +kernel
theorem nd_X0_element : yX0_element.cls ≠ "java/lang/invoke/MethodHandle" ∧ yX0_element.cls ≠ "java/lang/invoke/VarHandle" ∧ (parseMethodDescriptor yX0_element.desc).map (fun d => d.parameters.length) = some 3 := by decide +kernel
theorem nd_X0_emit : yX0_emit.cls ≠ "java/lang/invoke/MethodHandle" ∧ yX0_emit.cls ≠ "java/lang/invoke/VarHandle" ∧ (parseMethodDescriptor yX0_emit.desc).map (fun d => d.parameters.length) = some 2 := by decide +kernel
theorem nd_X0_entry : yX0_entry.cls ≠ "java/lang/invoke/MethodHandle" ∧ yX0_entry.cls ≠ "java/lang/invoke/VarHandle" ∧ (parseMethodDescriptor yX0_entry.desc).map (fun d => d.parameters.length) = some 4 := by decide +kernel
theorem nd_X0_heads : yX0_heads.cls ≠ "java/lang/invoke/MethodHandle" ∧ yX0_heads.cls ≠ "java/lang/invoke/VarHandle" ∧ (parseMethodDescriptor yX0_heads.desc).map (fun d => d.parameters.length) = some 1 := by decide +kernel
theorem nd_X0_held : yX0_held.cls ≠ "java/lang/invoke/MethodHandle" ∧ yX0_held.cls ≠ "java/lang/invoke/VarHandle" ∧ (parseMethodDescriptor yX0_held.desc).map (fun d => d.parameters.length) = some 1 := by decide +kernel
theorem nd_X0_init : yX0_init.cls ≠ "java/lang/invoke/MethodHandle" ∧ yX0_init.cls ≠ "java/lang/invoke/VarHandle" ∧ (parseMethodDescriptor yX0_init.desc).map (fun d => d.parameters.length) = some 0 := by decide +kernel
theorem nd_X0_isId : yX0_isId.cls ≠ "java/lang/invoke/MethodHandle" ∧ yX0_isId.cls ≠ "java/lang/invoke/VarHandle" ∧ (parseMethodDescriptor yX0_isId.desc).map (fun d => d.parameters.length) = some 1 := by decide +kernel
theorem nd_X0_isKey : yX0_isKey.cls ≠ "java/lang/invoke/MethodHandle" ∧ yX0_isKey.cls ≠ "java/lang/invoke/VarHandle" ∧ (parseMethodDescriptor yX0_isKey.desc).map (fun d => d.parameters.length) = some 1 := by decide +kernel
theorem nd_X0_level : yX0_level.cls ≠ "java/lang/invoke/MethodHandle" ∧ yX0_level.cls ≠ "java/lang/invoke/VarHandle" ∧ (parseMethodDescriptor yX0_level.desc).map (fun d => d.parameters.length) = some 2 := by decide +kernel
theorem nd_X0_log : yX0_log.cls ≠ "java/lang/invoke/MethodHandle" ∧ yX0_log.cls ≠ "java/lang/invoke/VarHandle" ∧ (parseMethodDescriptor yX0_log.desc).map (fun d => d.parameters.length) = some 2 := by decide +kernel
theorem nd_X0_past : yX0_past.cls ≠ "java/lang/invoke/MethodHandle" ∧ yX0_past.cls ≠ "java/lang/invoke/VarHandle" ∧ (parseMethodDescriptor yX0_past.desc).map (fun d => d.parameters.length) = some 3 := by decide +kernel
theorem nd_X0_receive : yX0_receive.cls ≠ "java/lang/invoke/MethodHandle" ∧ yX0_receive.cls ≠ "java/lang/invoke/VarHandle" ∧ (parseMethodDescriptor yX0_receive.desc).map (fun d => d.parameters.length) = some 1 := by decide +kernel
theorem nd_X0_replica : yX0_replica.cls ≠ "java/lang/invoke/MethodHandle" ∧ yX0_replica.cls ≠ "java/lang/invoke/VarHandle" ∧ (parseMethodDescriptor yX0_replica.desc).map (fun d => d.parameters.length) = some 1 := by decide +kernel
theorem nd_X0_says : yX0_says.cls ≠ "java/lang/invoke/MethodHandle" ∧ yX0_says.cls ≠ "java/lang/invoke/VarHandle" ∧ (parseMethodDescriptor yX0_says.desc).map (fun d => d.parameters.length) = some 1 := by decide +kernel
theorem nd_X0_stands : yX0_stands.cls ≠ "java/lang/invoke/MethodHandle" ∧ yX0_stands.cls ≠ "java/lang/invoke/VarHandle" ∧ (parseMethodDescriptor yX0_stands.desc).map (fun d => d.parameters.length) = some 2 := by decide +kernel
theorem nd_X0_sum : yX0_sum.cls ≠ "java/lang/invoke/MethodHandle" ∧ yX0_sum.cls ≠ "java/lang/invoke/VarHandle" ∧ (parseMethodDescriptor yX0_sum.desc).map (fun d => d.parameters.length) = some 1 := by decide +kernel
theorem nd_X0_value : yX0_value.cls ≠ "java/lang/invoke/MethodHandle" ∧ yX0_value.cls ≠ "java/lang/invoke/VarHandle" ∧ (parseMethodDescriptor yX0_value.desc).map (fun d => d.parameters.length) = some 2 := by decide +kernel
theorem nd_X0_wellFormed : yX0_wellFormed.cls ≠ "java/lang/invoke/MethodHandle" ∧ yX0_wellFormed.cls ≠ "java/lang/invoke/VarHandle" ∧ (parseMethodDescriptor yX0_wellFormed.desc).map (fun d => d.parameters.length) = some 1 := by decide +kernel
theorem nd_X0_wellShaped : yX0_wellShaped.cls ≠ "java/lang/invoke/MethodHandle" ∧ yX0_wellShaped.cls ≠ "java/lang/invoke/VarHandle" ∧ (parseMethodDescriptor yX0_wellShaped.desc).map (fun d => d.parameters.length) = some 4 := by decide +kernel
theorem nd_X0_wire : yX0_wire.cls ≠ "java/lang/invoke/MethodHandle" ∧ yX0_wire.cls ≠ "java/lang/invoke/VarHandle" ∧ (parseMethodDescriptor yX0_wire.desc).map (fun d => d.parameters.length) = some 1 := by decide +kernel
theorem nd_X1_apply : yX1_apply.cls ≠ "java/lang/invoke/MethodHandle" ∧ yX1_apply.cls ≠ "java/lang/invoke/VarHandle" ∧ (parseMethodDescriptor yX1_apply.desc).map (fun d => d.parameters.length) = some 1 := by decide +kernel
theorem nd_X1_change : yX1_change.cls ≠ "java/lang/invoke/MethodHandle" ∧ yX1_change.cls ≠ "java/lang/invoke/VarHandle" ∧ (parseMethodDescriptor yX1_change.desc).map (fun d => d.parameters.length) = some 1 := by decide +kernel
theorem nd_X1_element : yX1_element.cls ≠ "java/lang/invoke/MethodHandle" ∧ yX1_element.cls ≠ "java/lang/invoke/VarHandle" ∧ (parseMethodDescriptor yX1_element.desc).map (fun d => d.parameters.length) = some 1 := by decide +kernel
theorem nd_X1_fits : yX1_fits.cls ≠ "java/lang/invoke/MethodHandle" ∧ yX1_fits.cls ≠ "java/lang/invoke/VarHandle" ∧ (parseMethodDescriptor yX1_fits.desc).map (fun d => d.parameters.length) = some 3 := by decide +kernel
theorem nd_X1_greatestCount : yX1_greatestCount.cls ≠ "java/lang/invoke/MethodHandle" ∧ yX1_greatestCount.cls ≠ "java/lang/invoke/VarHandle" ∧ (parseMethodDescriptor yX1_greatestCount.desc).map (fun d => d.parameters.length) = some 0 := by decide +kernel
theorem nd_X1_held : yX1_held.cls ≠ "java/lang/invoke/MethodHandle" ∧ yX1_held.cls ≠ "java/lang/invoke/VarHandle" ∧ (parseMethodDescriptor yX1_held.desc).map (fun d => d.parameters.length) = some 1 := by decide +kernel
theorem nd_X1_init : yX1_init.cls ≠ "java/lang/invoke/MethodHandle" ∧ yX1_init.cls ≠ "java/lang/invoke/VarHandle" ∧ (parseMethodDescriptor yX1_init.desc).map (fun d => d.parameters.length) = some 0 := by decide +kernel
theorem nd_X1_item : yX1_item.cls ≠ "java/lang/invoke/MethodHandle" ∧ yX1_item.cls ≠ "java/lang/invoke/VarHandle" ∧ (parseMethodDescriptor yX1_item.desc).map (fun d => d.parameters.length) = some 1 := by decide +kernel
theorem nd_X1_leastReady : yX1_leastReady.cls ≠ "java/lang/invoke/MethodHandle" ∧ yX1_leastReady.cls ≠ "java/lang/invoke/VarHandle" ∧ (parseMethodDescriptor yX1_leastReady.desc).map (fun d => d.parameters.length) = some 0 := by decide +kernel
theorem nd_X1_node : yX1_node.cls ≠ "java/lang/invoke/MethodHandle" ∧ yX1_node.cls ≠ "java/lang/invoke/VarHandle" ∧ (parseMethodDescriptor yX1_node.desc).map (fun d => d.parameters.length) = some 1 := by decide +kernel
theorem nd_X1_place : yX1_place.cls ≠ "java/lang/invoke/MethodHandle" ∧ yX1_place.cls ≠ "java/lang/invoke/VarHandle" ∧ (parseMethodDescriptor yX1_place.desc).map (fun d => d.parameters.length) = some 1 := by decide +kernel
theorem nd_X1_ready : yX1_ready.cls ≠ "java/lang/invoke/MethodHandle" ∧ yX1_ready.cls ≠ "java/lang/invoke/VarHandle" ∧ (parseMethodDescriptor yX1_ready.desc).map (fun d => d.parameters.length) = some 1 := by decide +kernel
theorem nd_X1_settle : yX1_settle.cls ≠ "java/lang/invoke/MethodHandle" ∧ yX1_settle.cls ≠ "java/lang/invoke/VarHandle" ∧ (parseMethodDescriptor yX1_settle.desc).map (fun d => d.parameters.length) = some 0 := by decide +kernel
theorem nd_X1_size : yX1_size.cls ≠ "java/lang/invoke/MethodHandle" ∧ yX1_size.cls ≠ "java/lang/invoke/VarHandle" ∧ (parseMethodDescriptor yX1_size.desc).map (fun d => d.parameters.length) = some 0 := by decide +kernel
theorem nd_X2_add : yX2_add.cls ≠ "java/lang/invoke/MethodHandle" ∧ yX2_add.cls ≠ "java/lang/invoke/VarHandle" ∧ (parseMethodDescriptor yX2_add.desc).map (fun d => d.parameters.length) = some 2 := by decide +kernel
theorem nd_X2_drop : yX2_drop.cls ≠ "java/lang/invoke/MethodHandle" ∧ yX2_drop.cls ≠ "java/lang/invoke/VarHandle" ∧ (parseMethodDescriptor yX2_drop.desc).map (fun d => d.parameters.length) = some 2 := by decide +kernel
theorem nd_X2_init : yX2_init.cls ≠ "java/lang/invoke/MethodHandle" ∧ yX2_init.cls ≠ "java/lang/invoke/VarHandle" ∧ (parseMethodDescriptor yX2_init.desc).map (fun d => d.parameters.length) = some 1 := by decide +kernel
theorem nd_X2_maker : yX2_maker.cls ≠ "java/lang/invoke/MethodHandle" ∧ yX2_maker.cls ≠ "java/lang/invoke/VarHandle" ∧ (parseMethodDescriptor yX2_maker.desc).map (fun d => d.parameters.length) = some 0 := by decide +kernel
theorem nd_X2_sum : yX2_sum.cls ≠ "java/lang/invoke/MethodHandle" ∧ yX2_sum.cls ≠ "java/lang/invoke/VarHandle" ∧ (parseMethodDescriptor yX2_sum.desc).map (fun d => d.parameters.length) = some 1 := by decide +kernel
theorem nd_X3_ahead : yX3_ahead.cls ≠ "java/lang/invoke/MethodHandle" ∧ yX3_ahead.cls ≠ "java/lang/invoke/VarHandle" ∧ (parseMethodDescriptor yX3_ahead.desc).map (fun d => d.parameters.length) = some 2 := by decide +kernel
theorem nd_X3_alike : yX3_alike.cls ≠ "java/lang/invoke/MethodHandle" ∧ yX3_alike.cls ≠ "java/lang/invoke/VarHandle" ∧ (parseMethodDescriptor yX3_alike.desc).map (fun d => d.parameters.length) = some 2 := by decide +kernel
theorem nd_X3_alter : yX3_alter.cls ≠ "java/lang/invoke/MethodHandle" ∧ yX3_alter.cls ≠ "java/lang/invoke/VarHandle" ∧ (parseMethodDescriptor yX3_alter.desc).map (fun d => d.parameters.length) = some 2 := by decide +kernel
theorem nd_X3_apply : yX3_apply.cls ≠ "java/lang/invoke/MethodHandle" ∧ yX3_apply.cls ≠ "java/lang/invoke/VarHandle" ∧ (parseMethodDescriptor yX3_apply.desc).map (fun d => d.parameters.length) = some 1 := by decide +kernel
theorem nd_X3_cut : yX3_cut.cls ≠ "java/lang/invoke/MethodHandle" ∧ yX3_cut.cls ≠ "java/lang/invoke/VarHandle" ∧ (parseMethodDescriptor yX3_cut.desc).map (fun d => d.parameters.length) = some 1 := by decide +kernel
theorem nd_X3_depth : yX3_depth.cls ≠ "java/lang/invoke/MethodHandle" ∧ yX3_depth.cls ≠ "java/lang/invoke/VarHandle" ∧ (parseMethodDescriptor yX3_depth.desc).map (fun d => d.parameters.length) = some 2 := by decide +kernel
theorem nd_X3_done : yX3_done.cls ≠ "java/lang/invoke/MethodHandle" ∧ yX3_done.cls ≠ "java/lang/invoke/VarHandle" ∧ (parseMethodDescriptor yX3_done.desc).map (fun d => d.parameters.length) = some 1 := by decide +kernel
theorem nd_X3_edit : yX3_edit.cls ≠ "java/lang/invoke/MethodHandle" ∧ yX3_edit.cls ≠ "java/lang/invoke/VarHandle" ∧ (parseMethodDescriptor yX3_edit.desc).map (fun d => d.parameters.length) = some 5 := by decide +kernel
theorem nd_X3_element : yX3_element.cls ≠ "java/lang/invoke/MethodHandle" ∧ yX3_element.cls ≠ "java/lang/invoke/VarHandle" ∧ (parseMethodDescriptor yX3_element.desc).map (fun d => d.parameters.length) = some 3 := by decide +kernel
theorem nd_X3_elementPlace : yX3_elementPlace.cls ≠ "java/lang/invoke/MethodHandle" ∧ yX3_elementPlace.cls ≠ "java/lang/invoke/VarHandle" ∧ (parseMethodDescriptor yX3_elementPlace.desc).map (fun d => d.parameters.length) = some 2 := by decide +kernel
theorem nd_X3_emit : yX3_emit.cls ≠ "java/lang/invoke/MethodHandle" ∧ yX3_emit.cls ≠ "java/lang/invoke/VarHandle" ∧ (parseMethodDescriptor yX3_emit.desc).map (fun d => d.parameters.length) = some 2 := by decide +kernel
theorem nd_X3_entry : yX3_entry.cls ≠ "java/lang/invoke/MethodHandle" ∧ yX3_entry.cls ≠ "java/lang/invoke/VarHandle" ∧ (parseMethodDescriptor yX3_entry.desc).map (fun d => d.parameters.length) = some 4 := by decide +kernel
theorem nd_X3_entryPlace : yX3_entryPlace.cls ≠ "java/lang/invoke/MethodHandle" ∧ yX3_entryPlace.cls ≠ "java/lang/invoke/VarHandle" ∧ (parseMethodDescriptor yX3_entryPlace.desc).map (fun d => d.parameters.length) = some 3 := by decide +kernel
theorem nd_X3_find : yX3_find.cls ≠ "java/lang/invoke/MethodHandle" ∧ yX3_find.cls ≠ "java/lang/invoke/VarHandle" ∧ (parseMethodDescriptor yX3_find.desc).map (fun d => d.parameters.length) = some 2 := by decide +kernel
theorem nd_X3_fits : yX3_fits.cls ≠ "java/lang/invoke/MethodHandle" ∧ yX3_fits.cls ≠ "java/lang/invoke/VarHandle" ∧ (parseMethodDescriptor yX3_fits.desc).map (fun d => d.parameters.length) = some 3 := by decide +kernel
theorem nd_X3_gone : yX3_gone.cls ≠ "java/lang/invoke/MethodHandle" ∧ yX3_gone.cls ≠ "java/lang/invoke/VarHandle" ∧ (parseMethodDescriptor yX3_gone.desc).map (fun d => d.parameters.length) = some 1 := by decide +kernel
theorem nd_X3_has : yX3_has.cls ≠ "java/lang/invoke/MethodHandle" ∧ yX3_has.cls ≠ "java/lang/invoke/VarHandle" ∧ (parseMethodDescriptor yX3_has.desc).map (fun d => d.parameters.length) = some 2 := by decide +kernel
theorem nd_X3_heads : yX3_heads.cls ≠ "java/lang/invoke/MethodHandle" ∧ yX3_heads.cls ≠ "java/lang/invoke/VarHandle" ∧ (parseMethodDescriptor yX3_heads.desc).map (fun d => d.parameters.length) = some 1 := by decide +kernel
theorem nd_X3_held : yX3_held.cls ≠ "java/lang/invoke/MethodHandle" ∧ yX3_held.cls ≠ "java/lang/invoke/VarHandle" ∧ (parseMethodDescriptor yX3_held.desc).map (fun d => d.parameters.length) = some 1 := by decide +kernel
theorem nd_X3_init : yX3_init.cls ≠ "java/lang/invoke/MethodHandle" ∧ yX3_init.cls ≠ "java/lang/invoke/VarHandle" ∧ (parseMethodDescriptor yX3_init.desc).map (fun d => d.parameters.length) = some 0 := by decide +kernel
theorem nd_X3_isElement : yX3_isElement.cls ≠ "java/lang/invoke/MethodHandle" ∧ yX3_isElement.cls ≠ "java/lang/invoke/VarHandle" ∧ (parseMethodDescriptor yX3_isElement.desc).map (fun d => d.parameters.length) = some 2 := by decide +kernel
theorem nd_X3_isEntry : yX3_isEntry.cls ≠ "java/lang/invoke/MethodHandle" ∧ yX3_isEntry.cls ≠ "java/lang/invoke/VarHandle" ∧ (parseMethodDescriptor yX3_isEntry.desc).map (fun d => d.parameters.length) = some 1 := by decide +kernel
theorem nd_X3_isHead : yX3_isHead.cls ≠ "java/lang/invoke/MethodHandle" ∧ yX3_isHead.cls ≠ "java/lang/invoke/VarHandle" ∧ (parseMethodDescriptor yX3_isHead.desc).map (fun d => d.parameters.length) = some 1 := by decide +kernel
theorem nd_X3_isId : yX3_isId.cls ≠ "java/lang/invoke/MethodHandle" ∧ yX3_isId.cls ≠ "java/lang/invoke/VarHandle" ∧ (parseMethodDescriptor yX3_isId.desc).map (fun d => d.parameters.length) = some 1 := by decide +kernel
theorem nd_X3_isKind : yX3_isKind.cls ≠ "java/lang/invoke/MethodHandle" ∧ yX3_isKind.cls ≠ "java/lang/invoke/VarHandle" ∧ (parseMethodDescriptor yX3_isKind.desc).map (fun d => d.parameters.length) = some 2 := by decide +kernel
theorem nd_X3_isReplica : yX3_isReplica.cls ≠ "java/lang/invoke/MethodHandle" ∧ yX3_isReplica.cls ≠ "java/lang/invoke/VarHandle" ∧ (parseMethodDescriptor yX3_isReplica.desc).map (fun d => d.parameters.length) = some 1 := by decide +kernel
theorem nd_X3_level : yX3_level.cls ≠ "java/lang/invoke/MethodHandle" ∧ yX3_level.cls ≠ "java/lang/invoke/VarHandle" ∧ (parseMethodDescriptor yX3_level.desc).map (fun d => d.parameters.length) = some 2 := by decide +kernel
theorem nd_X3_listTotal : yX3_listTotal.cls ≠ "java/lang/invoke/MethodHandle" ∧ yX3_listTotal.cls ≠ "java/lang/invoke/VarHandle" ∧ (parseMethodDescriptor yX3_listTotal.desc).map (fun d => d.parameters.length) = some 1 := by decide +kernel
theorem nd_X3_log : yX3_log.cls ≠ "java/lang/invoke/MethodHandle" ∧ yX3_log.cls ≠ "java/lang/invoke/VarHandle" ∧ (parseMethodDescriptor yX3_log.desc).map (fun d => d.parameters.length) = some 2 := by decide +kernel
theorem nd_X3_mapTotal : yX3_mapTotal.cls ≠ "java/lang/invoke/MethodHandle" ∧ yX3_mapTotal.cls ≠ "java/lang/invoke/VarHandle" ∧ (parseMethodDescriptor yX3_mapTotal.desc).map (fun d => d.parameters.length) = some 1 := by decide +kernel
theorem nd_X3_part : yX3_part.cls ≠ "java/lang/invoke/MethodHandle" ∧ yX3_part.cls ≠ "java/lang/invoke/VarHandle" ∧ (parseMethodDescriptor yX3_part.desc).map (fun d => d.parameters.length) = some 2 := by decide +kernel
theorem nd_X3_past : yX3_past.cls ≠ "java/lang/invoke/MethodHandle" ∧ yX3_past.cls ≠ "java/lang/invoke/VarHandle" ∧ (parseMethodDescriptor yX3_past.desc).map (fun d => d.parameters.length) = some 3 := by decide +kernel
theorem nd_X3_ready : yX3_ready.cls ≠ "java/lang/invoke/MethodHandle" ∧ yX3_ready.cls ≠ "java/lang/invoke/VarHandle" ∧ (parseMethodDescriptor yX3_ready.desc).map (fun d => d.parameters.length) = some 1 := by decide +kernel
theorem nd_X3_receive : yX3_receive.cls ≠ "java/lang/invoke/MethodHandle" ∧ yX3_receive.cls ≠ "java/lang/invoke/VarHandle" ∧ (parseMethodDescriptor yX3_receive.desc).map (fun d => d.parameters.length) = some 1 := by decide +kernel
theorem nd_X3_sameAsLine : yX3_sameAsLine.cls ≠ "java/lang/invoke/MethodHandle" ∧ yX3_sameAsLine.cls ≠ "java/lang/invoke/VarHandle" ∧ (parseMethodDescriptor yX3_sameAsLine.desc).map (fun d => d.parameters.length) = some 1 := by decide +kernel
theorem nd_X3_says : yX3_says.cls ≠ "java/lang/invoke/MethodHandle" ∧ yX3_says.cls ≠ "java/lang/invoke/VarHandle" ∧ (parseMethodDescriptor yX3_says.desc).map (fun d => d.parameters.length) = some 1 := by decide +kernel
theorem nd_X3_settle : yX3_settle.cls ≠ "java/lang/invoke/MethodHandle" ∧ yX3_settle.cls ≠ "java/lang/invoke/VarHandle" ∧ (parseMethodDescriptor yX3_settle.desc).map (fun d => d.parameters.length) = some 0 := by decide +kernel
theorem nd_X3_steps : yX3_steps.cls ≠ "java/lang/invoke/MethodHandle" ∧ yX3_steps.cls ≠ "java/lang/invoke/VarHandle" ∧ (parseMethodDescriptor yX3_steps.desc).map (fun d => d.parameters.length) = some 1 := by decide +kernel
theorem nd_X3_study : yX3_study.cls ≠ "java/lang/invoke/MethodHandle" ∧ yX3_study.cls ≠ "java/lang/invoke/VarHandle" ∧ (parseMethodDescriptor yX3_study.desc).map (fun d => d.parameters.length) = some 1 := by decide +kernel
theorem nd_X3_sum : yX3_sum.cls ≠ "java/lang/invoke/MethodHandle" ∧ yX3_sum.cls ≠ "java/lang/invoke/VarHandle" ∧ (parseMethodDescriptor yX3_sum.desc).map (fun d => d.parameters.length) = some 1 := by decide +kernel
theorem nd_X3_up : yX3_up.cls ≠ "java/lang/invoke/MethodHandle" ∧ yX3_up.cls ≠ "java/lang/invoke/VarHandle" ∧ (parseMethodDescriptor yX3_up.desc).map (fun d => d.parameters.length) = some 2 := by decide +kernel
theorem nd_X3_value : yX3_value.cls ≠ "java/lang/invoke/MethodHandle" ∧ yX3_value.cls ≠ "java/lang/invoke/VarHandle" ∧ (parseMethodDescriptor yX3_value.desc).map (fun d => d.parameters.length) = some 2 := by decide +kernel
theorem nd_X3_wellFormed : yX3_wellFormed.cls ≠ "java/lang/invoke/MethodHandle" ∧ yX3_wellFormed.cls ≠ "java/lang/invoke/VarHandle" ∧ (parseMethodDescriptor yX3_wellFormed.desc).map (fun d => d.parameters.length) = some 0 := by decide +kernel
theorem nd_X3_widen : yX3_widen.cls ≠ "java/lang/invoke/MethodHandle" ∧ yX3_widen.cls ≠ "java/lang/invoke/VarHandle" ∧ (parseMethodDescriptor yX3_widen.desc).map (fun d => d.parameters.length) = some 1 := by decide +kernel
theorem nd_X3_wire : yX3_wire.cls ≠ "java/lang/invoke/MethodHandle" ∧ yX3_wire.cls ≠ "java/lang/invoke/VarHandle" ∧ (parseMethodDescriptor yX3_wire.desc).map (fun d => d.parameters.length) = some 1 := by decide +kernel
theorem nd_X4_before : yX4_before.cls ≠ "java/lang/invoke/MethodHandle" ∧ yX4_before.cls ≠ "java/lang/invoke/VarHandle" ∧ (parseMethodDescriptor yX4_before.desc).map (fun d => d.parameters.length) = some 1 := by decide +kernel
theorem nd_X4_bytes : yX4_bytes.cls ≠ "java/lang/invoke/MethodHandle" ∧ yX4_bytes.cls ≠ "java/lang/invoke/VarHandle" ∧ (parseMethodDescriptor yX4_bytes.desc).map (fun d => d.parameters.length) = some 0 := by decide +kernel
theorem nd_X4_id : yX4_id.cls ≠ "java/lang/invoke/MethodHandle" ∧ yX4_id.cls ≠ "java/lang/invoke/VarHandle" ∧ (parseMethodDescriptor yX4_id.desc).map (fun d => d.parameters.length) = some 0 := by decide +kernel
theorem nd_X4_init : yX4_init.cls ≠ "java/lang/invoke/MethodHandle" ∧ yX4_init.cls ≠ "java/lang/invoke/VarHandle" ∧ (parseMethodDescriptor yX4_init.desc).map (fun d => d.parameters.length) = some 1 := by decide +kernel
theorem nd_X4_isOnWire : yX4_isOnWire.cls ≠ "java/lang/invoke/MethodHandle" ∧ yX4_isOnWire.cls ≠ "java/lang/invoke/VarHandle" ∧ (parseMethodDescriptor yX4_isOnWire.desc).map (fun d => d.parameters.length) = some 1 := by decide +kernel
theorem nd_X4_kind : yX4_kind.cls ≠ "java/lang/invoke/MethodHandle" ∧ yX4_kind.cls ≠ "java/lang/invoke/VarHandle" ∧ (parseMethodDescriptor yX4_kind.desc).map (fun d => d.parameters.length) = some 0 := by decide +kernel
theorem nd_X4_many : yX4_many.cls ≠ "java/lang/invoke/MethodHandle" ∧ yX4_many.cls ≠ "java/lang/invoke/VarHandle" ∧ (parseMethodDescriptor yX4_many.desc).map (fun d => d.parameters.length) = some 0 := by decide +kernel
theorem nd_X4_slot : yX4_slot.cls ≠ "java/lang/invoke/MethodHandle" ∧ yX4_slot.cls ≠ "java/lang/invoke/VarHandle" ∧ (parseMethodDescriptor yX4_slot.desc).map (fun d => d.parameters.length) = some 0 := by decide +kernel
theorem nd_X4_target : yX4_target.cls ≠ "java/lang/invoke/MethodHandle" ∧ yX4_target.cls ≠ "java/lang/invoke/VarHandle" ∧ (parseMethodDescriptor yX4_target.desc).map (fun d => d.parameters.length) = some 0 := by decide +kernel
theorem nd_X4_value : yX4_value.cls ≠ "java/lang/invoke/MethodHandle" ∧ yX4_value.cls ≠ "java/lang/invoke/VarHandle" ∧ (parseMethodDescriptor yX4_value.desc).map (fun d => d.parameters.length) = some 0 := by decide +kernel
theorem nd_X5_init : yX5_init.cls ≠ "java/lang/invoke/MethodHandle" ∧ yX5_init.cls ≠ "java/lang/invoke/VarHandle" ∧ (parseMethodDescriptor yX5_init.desc).map (fun d => d.parameters.length) = some 3 := by decide +kernel
theorem nd_X6_add : yX6_add.cls ≠ "java/lang/invoke/MethodHandle" ∧ yX6_add.cls ≠ "java/lang/invoke/VarHandle" ∧ (parseMethodDescriptor yX6_add.desc).map (fun d => d.parameters.length) = some 2 := by decide +kernel
theorem nd_X6_init : yX6_init.cls ≠ "java/lang/invoke/MethodHandle" ∧ yX6_init.cls ≠ "java/lang/invoke/VarHandle" ∧ (parseMethodDescriptor yX6_init.desc).map (fun d => d.parameters.length) = some 1 := by decide +kernel
theorem nd_X6_maker : yX6_maker.cls ≠ "java/lang/invoke/MethodHandle" ∧ yX6_maker.cls ≠ "java/lang/invoke/VarHandle" ∧ (parseMethodDescriptor yX6_maker.desc).map (fun d => d.parameters.length) = some 0 := by decide +kernel
theorem nd_X6_sum : yX6_sum.cls ≠ "java/lang/invoke/MethodHandle" ∧ yX6_sum.cls ≠ "java/lang/invoke/VarHandle" ∧ (parseMethodDescriptor yX6_sum.desc).map (fun d => d.parameters.length) = some 1 := by decide +kernel
