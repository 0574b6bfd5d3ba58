set_option maxRecDepth 100000
section VCOPY
variable {p : Program} {l : Launch} {e : Env} {R : Room} {s : State} {m : MethodId} {args : Array Value} {below : List Frame} {meth : Method} {c : Code} {Q : State → Prop} {G : mp_G} {b nL cells slots pc mc ms : Nat} {L : List (Option Value)} {st rest : List Value} {M : mp_M} {own : String} {cc : ByteArray} {ret : Option FieldType}
theorem V_copyi (C : Cx p m meth c s args G b own cc nL ret) {index a0 a n0 n1 ti : Nat} {f g0 : Nat → Int32} {lab0 lab1 : mp_L} {ty : FieldType} {sp dp n : Int32} (hlink : Cond.methodLink own index arraycopyName ∈ lw_all) (hnat : Cond.native arraycopyName ∈ lw_all) (hstat : Cond.static arraycopyName ∈ lw_all) (hini : Cond.initialized "java/lang/System" ∈ lw_all) (ht : (tyL G)[ti]? = some (G.2.1 ti, ty)) (hprim : refKind ty = false) (hM0 : M a0 = some (lab0, .inl (G.2.1 ti, n0, .inl f))) (hM1 : M a = some (lab1, .inl (G.2.1 ti, n1, .inl g0))) (e1 : ¬ sp < 0) (e2 : ¬ dp < 0) (e3 : ¬ n < 0) (e4 : sp.toNatClampNeg + n.toNatClampNeg ≤ n0) (e5 : dp.toNatClampNeg + n.toNatClampNeg ≤ n1) (hfit : ∀ i, i < n.toNatClampNeg → fits ty (.int (f (sp.toNatClampNeg + i))) = true) (hframes : 1 ≤ R.frames) (hlocals : (rest.map fun v => v.category).sum + (nativeFrameWords "java/lang/System" "arraycopy" 5 + 11) ≤ R.locals) (hd : decode cc pc = .ok (.invokestatic index, 3)) (k : V p l e R s m args below meth c Q G b nL cells slots (pc + 3) L rest (mp_up M a (lab1, .inl (G.2.1 ti, n1, .inl (va_cpy f g0 sp.toNatClampNeg dp.toNatClampNeg n.toNatClampNeg))))) : V p l e R s m args below meth c Q G b nL cells slots pc L (.int n :: .int dp :: .ref a :: .int sp :: .ref a0 :: rest) M := by
  intro H locs ls h1 h2 h3
  obtain ⟨ws, g1, g2, g3⟩ := h1
  obtain ⟨q0, hq0⟩ := List.getElem?_of_mem (g3 a0 _ hM0)
  obtain ⟨q1, hq1⟩ := List.getElem?_of_mem (g3 a _ hM1)
  exact va_copyi C.1.1 C.1.2.1 (C.1.2.2.1.trans h3.1.symm) C.1.2.2.2.1 (C.1.2.2.2.2 _ hlink) (C.1.2.2.2.2 _ hnat) (C.1.2.2.2.2 _ hstat) (C.1.2.2.2.2 _ hini) C.2.2.2.1.1 g1 g2 h2 q0 q1 ti ti hq0 hq1 ht ht hprim e1 e2 e3 e4 e5 hfit hframes hlocals hd (fun H1 locs1 x1 x2 x3 => k H1 locs1 ls ⟨_, x1, x2, hd_set hq1 g3⟩ x3 h3)
theorem V_st {st1 : List Value} (h : st = st1) (k : V p l e R s m args below meth c Q G b nL cells slots pc L st1 M) : V p l e R s m args below meth c Q G b nL cells slots pc L st M := h ▸ k
theorem V_topq {o o1 : Option Nat} (h : o = o1) (k : V p l e R s m args below meth c Q G b nL cells slots pc L (va_rf o1 :: rest) M) : V p l e R s m args below meth c Q G b nL cells slots pc L (va_rf o :: rest) M := h ▸ k
/-- an object that may lie in an Object[] -/
def isObj (M : mp_M) (y : Nat) : Prop := ∃ (la : mp_L) (ci : Nat) (fs : List Value) (r : vw_C), M y = some (la, .inr (ci, fs)) ∧ clL[ci]? = some r ∧ Cond.castable r.1 "java/lang/Object" ∈ evN
theorem V_copyM (C : Cx p m meth c s args G b own cc nL ret) {index a0 a n0 n1 : Nat} {f g0 : Nat → Option Nat} {lab0 lab1 : mp_L} {sp dp n : Int32} (hlink : Cond.methodLink own index arraycopyName ∈ lw_all) (hnat : Cond.native arraycopyName ∈ lw_all) (hstat : Cond.static arraycopyName ∈ lw_all) (hini : Cond.initialized "java/lang/System" ∈ lw_all) (hM0 : M a0 = some (lab0, .inl (G.2.1 3, n0, .inr (.inr (.inr (.inr f)))))) (hM1 : M a = some (lab1, .inl (G.2.1 3, n1, .inr (.inr (.inr (.inr g0)))))) (e1 : ¬ sp < 0) (e2 : ¬ dp < 0) (e3 : ¬ n < 0) (e4 : sp.toNatClampNeg + n.toNatClampNeg ≤ n0) (e5 : dp.toNatClampNeg + n.toNatClampNeg ≤ n1) (hel : ∀ i : Nat, i < n.toNatClampNeg → ∀ y : Nat, f (sp.toNatClampNeg + i) = some y → isObj M y) (hframes : 1 ≤ R.frames) (hlocals : (rest.map fun v => v.category).sum + (nativeFrameWords "java/lang/System" "arraycopy" 5 + 11) ≤ R.locals) (hd : decode cc pc = .ok (.invokestatic index, 3)) (k : V p l e R s m args below meth c Q G b nL cells slots (pc + 3) L rest (mp_up M a (lab1, .inl (G.2.1 3, n1, .inr (.inr (.inr (.inr (va_cpy f g0 sp.toNatClampNeg dp.toNatClampNeg n.toNatClampNeg)))))))) : V p l e R s m args below meth c Q G b nL cells slots pc L (.int n :: .int dp :: .ref a :: .int sp :: .ref a0 :: rest) M := by
  intro H locs ls h1 h2 h3
  obtain ⟨ws, g1, g2, g3⟩ := h1
  obtain ⟨q0, hq0⟩ := List.getElem?_of_mem (g3 a0 _ hM0)
  obtain ⟨q1, hq1⟩ := List.getElem?_of_mem (g3 a _ hM1)
  refine va_copyM C.1.1 C.1.2.1 (C.1.2.2.1.trans h3.1.symm) C.1.2.2.2.1 (C.1.2.2.2.2 _ hlink) (C.1.2.2.2.2 _ hnat) (C.1.2.2.2.2 _ hstat) (C.1.2.2.2.2 _ hini) C.2.2.2.1.1 g1 g2 h2 q0 q1 3 3 hq0 hq1 rfl rfl e1 e2 e3 e4 e5 (fun i hi y hy => ?_) hframes hlocals hd (fun H1 locs1 x1 x2 x3 => k H1 locs1 ls ⟨_, x1, x2, hd_set hq1 g3⟩ x3 h3)
  obtain ⟨la, ci, fs, r, m1, m2, m3⟩ := hel i hi y hy
  obtain ⟨q2, hq2⟩ := List.getElem?_of_mem (g3 y _ m1)
  obtain ⟨c0, t0, f1, f2, f3⟩ := Cond.castable_spec (va_Nw.use (A := args) rfl (C.2.2.2.1.2.1 _ m3))
  exact va_rAny C.2.2.2.1.1 g1 hq2 m2 (fun comp c1 y1 y2 => by cases f1.symm.trans y2; cases f2.symm.trans y1; exact f3)
theorem V_tlen (C : Cx p m meth c s args G b own cc nL ret) {t N : Nat} {f : Nat → Value} {ty : FieldType} (hT : va_T ty t N f (fun q => b ≤ q) s s.heap) (hd : decode cc pc = .ok (.arraylength, 1)) (k : V p l e R s m args below meth c Q G b nL cells slots (pc + 1) L (.int (nI N) :: rest) M) : V p l e R s m args below meth c Q G b nL cells slots pc L (.ref t :: rest) M :=
  fun H locs ls h1 h2 h3 => va_tlen C.1.1 C.1.2.1 hT h2 rfl hd (k H locs ls h1 h2 h3)
theorem V_ldc (C : Cx p m meth c s args G b own cc nL ret) {index : Nat} {v : Int32} (hconst : Cond.constant own index v ∈ lw_all) (hd : decode cc pc = .ok (.ldc index, 2)) (k : V p l e R s m args below meth c Q G b nL cells slots (pc + 2) L (.int v :: rest) M) : V p l e R s m args below meth c Q G b nL cells slots pc L rest M :=
  fun H locs ls h1 h2 h3 => lv_ldc C.1.1 C.1.2.1 C.1.2.2.2.1 (C.1.2.2.2.2 _ hconst) hd (k H locs ls h1 h2 h3)
theorem V_mmax (C : Cx p m meth c s args G b own cc nL ret) {index : Nat} (hlink : Cond.methodLink own index Lib.Math.max.name ∈ lw_all) (hstat : Cond.static Lib.Math.max.name ∈ lw_all) (hini : Cond.initialized "java/lang/Math" ∈ lw_all) (hcode : Cond.code Lib.Math.max.name Lib.Math.max.code 2 (some .int) ∈ lw_all) (hframes : 1 ≤ R.frames) (hlocals : (rest.map fun v => v.category).sum + 13 ≤ R.locals) (hc : cells ≤ R.cells) (hs : slots ≤ R.slots) {x y : Int32} (hd : decode cc pc = .ok (.invokestatic index, 3)) (k : V p l e R s m args below meth c Q G b nL cells slots (pc + 3) L (.int (if x < y then y else x) :: rest) M) : V p l e R s m args below meth c Q G b nL cells slots pc L (.int y :: .int x :: rest) M :=
  fun H locs ls h1 h2 h3 => va_mmax C.1.1 C.1.2.1 (C.1.2.2.1.trans h3.1.symm) C.1.2.2.2.1 (C.1.2.2.2.2 _ hlink) (C.1.2.2.2.2 _ hstat) (C.1.2.2.2.2 _ hini) (C.1.2.2.2.2 _ hcode) hframes hlocals hc hs hd (k H locs ls h1 h2 h3)
theorem V_mmin (C : Cx p m meth c s args G b own cc nL ret) {index : Nat} (hlink : Cond.methodLink own index Lib.Math.min.name ∈ lw_all) (hstat : Cond.static Lib.Math.min.name ∈ lw_all) (hini : Cond.initialized "java/lang/Math" ∈ lw_all) (hcode : Cond.code Lib.Math.min.name Lib.Math.min.code 2 (some .int) ∈ lw_all) (hframes : 1 ≤ R.frames) (hlocals : (rest.map fun v => v.category).sum + 13 ≤ R.locals) (hc : cells ≤ R.cells) (hs : slots ≤ R.slots) {x y : Int32} (hd : decode cc pc = .ok (.invokestatic index, 3)) (k : V p l e R s m args below meth c Q G b nL cells slots (pc + 3) L (.int (if y < x then y else x) :: rest) M) : V p l e R s m args below meth c Q G b nL cells slots pc L (.int y :: .int x :: rest) M :=
  fun H locs ls h1 h2 h3 => va_mmin C.1.1 C.1.2.1 (C.1.2.2.1.trans h3.1.symm) C.1.2.2.2.1 (C.1.2.2.2.2 _ hlink) (C.1.2.2.2.2 _ hstat) (C.1.2.2.2.2 _ hini) (C.1.2.2.2.2 _ hcode) hframes hlocals hc hs hd (k H locs ls h1 h2 h3)
theorem mmax_q : (Cond.code Lib.Math.max.name Lib.Math.max.code 2 (some .int)) = Cond.code yJ10_max cJ10_max 2 (some .int) := by decide +kernel
theorem mmin_q : (Cond.code Lib.Math.min.name Lib.Math.min.code 2 (some .int)) = Cond.code yJ10_min cJ10_min 2 (some .int) := by decide +kernel
/-- invokevirtual of a method that the receiver's class overrides -/
theorem VR_O (C : Cx p m meth c s args G b own cc nL ret) {x y : MethodName} {bytes : ByteArray} {maxL index n d d1 mc1 ms1 a : Nat} {r2 : Option FieldType} {As : List Value} {post : Option Value → mp_M → Prop} {owner : String} {ci : Nat} {lab : mp_L} {fs : List Value} {r : vw_C} {b0 : ByteArray} {m0 : Nat} {r0 : Option FieldType} (hC : Ct l y bytes maxL r2 d mc ms G b (.ref a :: As) M post) (hM : M a = some (lab, .inr (ci, fs))) (hc : clL[ci]? = some r) (hw : GoodIn lw_all (va_wsO own index r.1 owner x y (ws_ y bytes maxL r2))) (h0 : Cond.code ⟨owner, x.name, x.desc⟩ b0 m0 r0 ∈ lw_all) (hnd : owner ≠ "java/lang/invoke/MethodHandle" ∧ owner ≠ "java/lang/invoke/VarHandle" ∧ (parseMethodDescriptor x.desc).map (fun d => d.parameters.length) = some n) (hn : As.length = n) (hdep : d + 1 ≤ d1) (hmL : maxL ≤ 45) (hd : decode cc pc = .ok (.invokevirtual index, 3)) (hst : st = As.reverse ++ .ref a :: rest) (hf : cells + mc ≤ mc1 ∧ slots + ms ≤ ms1) (hrest : (rest.map fun v => v.category).sum ≤ 8) : VR p l e (rmOf d1 mc1 ms1) s m args below meth c G b nL cells slots mc ms pc L st rest M (Qp G b post (Value.ref a :: As).toArray) := by
  intro H locs ls h1 h2 h3
  exact va_runU (As := As) (rest := rest) C.1 hC (va_cwO n C.1.2.2.2.2 hw rfl rfl rfl h0 hnd (rm_le hdep hmL)) ⟨PcV.blind, hd_recv C.2.2.2.1.1 h1 hM hc, pc_call C h1 h2⟩ rfl hn h3.1 hst (lv_room hrest) hd hf
theorem lw_O {own : String} {idx : Nat} {C0 owner : String} {x y : MethodName} {b : ByteArray} {L : Nat} {r : Option FieldType} (h1 : Cond.methodLink own idx x ∈ lw_all) (h2 : Cond.sameMethod x.cls owner x.name x.desc ∈ lw_all) (h2b : Cond.instanceMethod ⟨owner, x.name, x.desc⟩ ∈ lw_all) (h3 : Cond.selects C0 x y ∈ lw_all) (h4 : Cond.instanceMethod y ∈ lw_all) (h5 : Cond.initialized y.cls ∈ lw_all) (h6 : Cond.code y b L r ∈ lw_all) : GoodIn lw_all (va_wsO own idx C0 owner x y (ws_ y b L r)) := by
  refine lw_app ?_ (lw_meth h6)
  intro w hw
  simp only [List.mem_cons, List.not_mem_nil, or_false] at hw
  rcases hw with e | e | e | e | e | e
  · rw [e]; exact h1
  · rw [e]; exact h2
  · rw [e]; exact h2b
  · rw [e]; exact h3
  · rw [e]; exact h4
  · rw [e]; exact h5
end VCOPY
/-- a loop that counts up to N -/
theorem up_ind {P : Nat → Prop} (N : Nat) (h : ∀ k, k ≤ N → (k < N → P (k + 1)) → P k) : ∀ k, k ≤ N → P k := by
  intro k hk
  obtain ⟨d, hd⟩ : ∃ d, d = N - k := ⟨_, rfl⟩
  induction d generalizing k with
  | zero => exact h k hk (fun z => absurd z (by omega))
  | succ d ih => exact h k hk (fun z => ih (k + 1) (by omega) (by omega))
theorem tx_at {bs : List Nat} {f : Nat → Int32} (h : ∀ (j c : Nat), bs[j]? = some c → c < 256 ∧ f j = sb_b c) {j : Nat} (hj : j < bs.length) : bs[j] < 256 ∧ f j = sb_b bs[j] := h j _ (List.getElem?_eq_getElem hj)
theorem sb_b_inj {x y : Nat} (hx : x < 256) (hy : y < 256) (h : sb_b x = sb_b y) : x = y := by
  have h1 := (sb_byte x hx).1
  rw [h, (sb_byte y hy).1] at h1
  exact ((nI_eq (by omega) (by omega)).mp h1).symm
