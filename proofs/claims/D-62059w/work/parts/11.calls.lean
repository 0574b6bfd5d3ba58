set_option maxRecDepth 100000
section VCALL
variable {p : Program} {l : Launch} {e : Env} {R : Room} {s : State} {m : MethodId} {args : Array Value} {below : List Frame} {meth : Method} {c : Code} {Q : State → Prop} {G : mp_G} {b nL cells slots pc mc ms : Nat} {L : List (Option Value)} {st rest : List Value} {M : mp_M} {own : String} {cc : ByteArray} {ret : Option FieldType}
theorem V_ofI {post : Int32 → mp_M → Prop} {av : Array Value} (h : VR p l e R s m args below meth c G b nL cells slots mc ms pc L st rest M (Qp G b (pI post) av)) (k : ∀ (r : Int32) (M1 : mp_M), post r M1 → V p l e R s m args below meth c Q G b nL (cells + mc) (slots + ms) (pc + 3) L (.int r :: rest) M1) : V p l e R s m args below meth c Q G b nL cells slots pc L st M := by
  intro H locs ls h1 h2 h3 T hT X
  obtain ⟨v, st₀, t, T1, L1, h0, X1, hL, e1, e2, ⟨v1, M1, hv, ⟨r, hr, hp⟩, hH, hz, hk⟩, go⟩ := h H locs ls h1 h2 h3 T hT X
  cases hv
  subst hr
  rw [h0] at hz hk
  obtain ⟨t2, a1, b1⟩ := k r M1 hp T1.heap (locs ++ L1) ls (by rw [e1]; exact hH) ⟨Nat.le_trans h2.1 (by rw [e1]; exact hz), fun q g1 g2 => by rw [e1, hk q (Nat.lt_of_lt_of_le g1 h2.1) g2]; exact h2.2.1 q g1 g2, fun q hq => by
      rcases List.mem_append.mp hq with h | h
      · exact h2.2.2 q h
      · exact hL q h⟩ h3 T1 rfl X1
  exact ⟨t2, go t2 a1, b1⟩
theorem V_ofR {post : Option Nat → mp_M → Prop} {av : Array Value} (h : VR p l e R s m args below meth c G b nL cells slots mc ms pc L st rest M (Qp G b (pR post) av)) (k : ∀ (r : Option Nat) (M1 : mp_M), post r M1 → V p l e R s m args below meth c Q G b nL (cells + mc) (slots + ms) (pc + 3) L (va_rf r :: rest) M1) : V p l e R s m args below meth c Q G b nL cells slots pc L st M := by
  intro H locs ls h1 h2 h3 T hT X
  obtain ⟨v, st₀, t, T1, L1, h0, X1, hL, e1, e2, ⟨v1, M1, hv, ⟨r, hr, hp⟩, hH, hz, hk⟩, go⟩ := h H locs ls h1 h2 h3 T hT X
  cases hv
  subst hr
  rw [h0] at hz hk
  obtain ⟨t2, a1, b1⟩ := k r M1 hp T1.heap (locs ++ L1) ls (by rw [e1]; exact hH) ⟨Nat.le_trans h2.1 (by rw [e1]; exact hz), fun q g1 g2 => by rw [e1, hk q (Nat.lt_of_lt_of_le g1 h2.1) g2]; exact h2.2.1 q g1 g2, fun q hq => by
      rcases List.mem_append.mp hq with h | h
      · exact h2.2.2 q h
      · exact hL q h⟩ h3 T1 rfl X1
  exact ⟨t2, go t2 a1, b1⟩
theorem V_ofV {post : mp_M → Prop} {av : Array Value} (h : VR p l e R s m args below meth c G b nL cells slots mc ms pc L st rest M (Qp G b (pV post) av)) (k : ∀ (M1 : mp_M), post M1 → V p l e R s m args below meth c Q G b nL (cells + mc) (slots + ms) (pc + 3) L (rest) M1) : V p l e R s m args below meth c Q G b nL cells slots pc L st M := by
  intro H locs ls h1 h2 h3 T hT X
  obtain ⟨v, st₀, t, T1, L1, h0, X1, hL, e1, e2, ⟨v1, M1, hv, ⟨hr, hp⟩, hH, hz, hk⟩, go⟩ := h H locs ls h1 h2 h3 T hT X
  cases hv
  subst hr
  rw [h0] at hz hk
  obtain ⟨t2, a1, b1⟩ := k M1 hp T1.heap (locs ++ L1) ls (by rw [e1]; exact hH) ⟨Nat.le_trans h2.1 (by rw [e1]; exact hz), fun q g1 g2 => by rw [e1, hk q (Nat.lt_of_lt_of_le g1 h2.1) g2]; exact h2.2.1 q g1 g2, fun q hq => by
      rcases List.mem_append.mp hq with h | h
      · exact h2.2.2 q h
      · exact hL q h⟩ h3 T1 rfl X1
  exact ⟨t2, go t2 a1, b1⟩
def VR5 (p : Program) (l : Launch) (e : Env) (R : Room) (s : State) (m : MethodId) (args : Array Value) (below : List Frame) (meth : Method) (c : Code) (G : mp_G) (b nL cells slots mc ms pc : Nat) (L : List (Option Value)) (st rest : List Value) (M : mp_M) (Qa : State → Outcome → State → Prop) : Prop :=
  ∀ (H : Heap) (locs : List Loc) (ls : Array Slot), Hd G b M H → va_S (fun q => b ≤ q) s.heap H locs → vL ls nL L → va_Run5 p l e R s m args below meth c H locs cells slots mc ms (F0 m pc ls st) rest Qa (fun q => b ≤ q)
theorem V_ofI5 {post : Int32 → mp_M → Prop} {av : Array Value} (h : VR5 p l e R s m args below meth c G b nL cells slots mc ms pc L st rest M (Qp G b (pI post) av)) (k : ∀ (r : Int32) (M1 : mp_M), post r M1 → V p l e R s m args below meth c Q G b nL (cells + mc) (slots + ms) (pc + 5) L (.int r :: rest) M1) : V p l e R s m args below meth c Q G b nL cells slots pc L st M := by
  intro H locs ls h1 h2 h3 T hT X
  obtain ⟨v, st₀, t, T1, L1, h0, X1, hL, e1, e2, ⟨v1, M1, hv, ⟨r, hr, hp⟩, hH, hz, hk⟩, go⟩ := h H locs ls h1 h2 h3 T hT X
  cases hv
  subst hr
  rw [h0] at hz hk
  obtain ⟨t2, a1, b1⟩ := k r M1 hp T1.heap (locs ++ L1) ls (by rw [e1]; exact hH) ⟨Nat.le_trans h2.1 (by rw [e1]; exact hz), fun q g1 g2 => by rw [e1, hk q (Nat.lt_of_lt_of_le g1 h2.1) g2]; exact h2.2.1 q g1 g2, fun q hq => by
      rcases List.mem_append.mp hq with h | h
      · exact h2.2.2 q h
      · exact hL q h⟩ h3 T1 rfl X1
  exact ⟨t2, go t2 a1, b1⟩
theorem V_ofR5 {post : Option Nat → mp_M → Prop} {av : Array Value} (h : VR5 p l e R s m args below meth c G b nL cells slots mc ms pc L st rest M (Qp G b (pR post) av)) (k : ∀ (r : Option Nat) (M1 : mp_M), post r M1 → V p l e R s m args below meth c Q G b nL (cells + mc) (slots + ms) (pc + 5) L (va_rf r :: rest) M1) : V p l e R s m args below meth c Q G b nL cells slots pc L st M := by
  intro H locs ls h1 h2 h3 T hT X
  obtain ⟨v, st₀, t, T1, L1, h0, X1, hL, e1, e2, ⟨v1, M1, hv, ⟨r, hr, hp⟩, hH, hz, hk⟩, go⟩ := h H locs ls h1 h2 h3 T hT X
  cases hv
  subst hr
  rw [h0] at hz hk
  obtain ⟨t2, a1, b1⟩ := k r M1 hp T1.heap (locs ++ L1) ls (by rw [e1]; exact hH) ⟨Nat.le_trans h2.1 (by rw [e1]; exact hz), fun q g1 g2 => by rw [e1, hk q (Nat.lt_of_lt_of_le g1 h2.1) g2]; exact h2.2.1 q g1 g2, fun q hq => by
      rcases List.mem_append.mp hq with h | h
      · exact h2.2.2 q h
      · exact hL q h⟩ h3 T1 rfl X1
  exact ⟨t2, go t2 a1, b1⟩
theorem V_ofV5 {post : mp_M → Prop} {av : Array Value} (h : VR5 p l e R s m args below meth c G b nL cells slots mc ms pc L st rest M (Qp G b (pV post) av)) (k : ∀ (M1 : mp_M), post M1 → V p l e R s m args below meth c Q G b nL (cells + mc) (slots + ms) (pc + 5) L (rest) M1) : V p l e R s m args below meth c Q G b nL cells slots pc L st M := by
  intro H locs ls h1 h2 h3 T hT X
  obtain ⟨v, st₀, t, T1, L1, h0, X1, hL, e1, e2, ⟨v1, M1, hv, ⟨hr, hp⟩, hH, hz, hk⟩, go⟩ := h H locs ls h1 h2 h3 T hT X
  cases hv
  subst hr
  rw [h0] at hz hk
  obtain ⟨t2, a1, b1⟩ := k M1 hp T1.heap (locs ++ L1) ls (by rw [e1]; exact hH) ⟨Nat.le_trans h2.1 (by rw [e1]; exact hz), fun q g1 g2 => by rw [e1, hk q (Nat.lt_of_lt_of_le g1 h2.1) g2]; exact h2.2.1 q g1 g2, fun q hq => by
      rcases List.mem_append.mp hq with h | h
      · exact h2.2.2 q h
      · exact hL q h⟩ h3 T1 rfl X1
  exact ⟨t2, go t2 a1, b1⟩
/-- what the callee asks of its start, at the call -/
theorem pc_call (C : Cx p m meth c s args G b own cc nL ret) {av : List Value} {H : Heap} {locs : List Loc} (hH : Hd G b M H) (hS : va_S (fun q => b ≤ q) s.heap H locs) : ∀ U : State, U.heap = H → s.WarmedH U.vm → PcV G b av M av.toArray U := by
  intro U hU hW
  exact ⟨rfl, by rw [hU]; exact Nat.le_trans C.2.2.2.2 hS.1, by rw [hU]; exact hH, C.2.2.2.1.call hW hU hS⟩
theorem rm_le {d d1 maxL mc1 ms1 : Nat} (h : d + 1 ≤ d1) (hL : maxL ≤ 45) : (rmOf d mc ms).frames + 1 ≤ (rmOf d1 mc1 ms1).frames ∧ 8 + (maxL + 11) + (rmOf d mc ms).locals ≤ (rmOf d1 mc1 ms1).locals := ⟨h, by show 8 + (maxL + 11) + 64 * d ≤ 64 * d1; omega⟩
/-- invokevirtual of a method of the receiver's own class -/
theorem VR_V (C : Cx p m meth c s args G b own cc nL ret) {y : MethodName} {bytes : ByteArray} {maxL index n d d1 mc1 ms1 a : Nat} {r2 : Option FieldType} {As : List Value} {post : Option Value → mp_M → Prop} {ci : Nat} {lab : mp_L} {fs : List Value} {r : vw_C} (hC : Ct l y bytes maxL r2 d mc ms G b (.ref a :: As) M post) (hM : M a = some (lab, .inr (ci, fs))) (hc : clL[ci]? = some r) (hw : GoodIn lw_all (wsV own index r.1 y (ws_ y bytes maxL r2))) (hyc : y.cls = r.1) (hnd : y.cls ≠ "java/lang/invoke/MethodHandle" ∧ y.cls ≠ "java/lang/invoke/VarHandle" ∧ (parseMethodDescriptor y.desc).map (fun d => d.parameters.length) = some n) (hn : As.length = n) (hdep : d + 1 ≤ d1) (hmL : maxL ≤ 45) (hd : decode cc pc = .ok (.invokevirtual index, 3)) (hst : st = As.reverse ++ .ref a :: rest) (hf : cells + mc ≤ mc1 ∧ slots + ms ≤ ms1) (hrest : (rest.map fun v => v.category).sum ≤ 8) : VR p l e (rmOf d1 mc1 ms1) s m args below meth c G b nL cells slots mc ms pc L st rest M (Qp G b post (Value.ref a :: As).toArray) := by
  intro H locs ls h1 h2 h3
  exact va_runV (As := As) (rest := rest) C.1 hC (cwV n C.1.2.2.2.2 hw rfl rfl rfl ⟨hyc, hnd⟩ (rm_le hdep hmL)) ⟨PcV.blind, hd_recv C.2.2.2.1.1 h1 hM hc, pc_call C h1 h2⟩ rfl hn h3.1 hst (lv_room hrest) hd hf
/-- invokestatic -/
theorem VR_S (C : Cx p m meth c s args G b own cc nL ret) {y : MethodName} {bytes : ByteArray} {maxL index n d d1 mc1 ms1 : Nat} {r2 : Option FieldType} {As : List Value} {post : Option Value → mp_M → Prop} (hC : Ct l y bytes maxL r2 d mc ms G b As M post) (hw : GoodIn lw_all (va_wsS own index y (ws_ y bytes maxL r2))) (hnd : y.cls ≠ "java/lang/invoke/MethodHandle" ∧ y.cls ≠ "java/lang/invoke/VarHandle" ∧ (parseMethodDescriptor y.desc).map (fun d => d.parameters.length) = some n) (hn : As.length = n) (hdep : d + 1 ≤ d1) (hmL : maxL ≤ 45) (hd : decode cc pc = .ok (.invokestatic index, 3)) (hst : st = As.reverse ++ rest) (hf : cells + mc ≤ mc1 ∧ slots + ms ≤ ms1) (hrest : (rest.map fun v => v.category).sum ≤ 8) : VR p l e (rmOf d1 mc1 ms1) s m args below meth c G b nL cells slots mc ms pc L st rest M (Qp G b post As.toArray) := by
  intro H locs ls h1 h2 h3
  exact va_runS (As := As) (rest := rest) C.1 hC (va_cwS n C.1.2.2.2.2 hw rfl rfl rfl hnd (rm_le hdep hmL)) ⟨PcV.blind, pc_call C h1 h2⟩ rfl hn h3.1 hst (lv_room hrest) hd hf
/-- invokespecial <init> -/
theorem VR_I (C : Cx p m meth c s args G b own cc nL ret) {y : MethodName} {bytes : ByteArray} {maxL index n d d1 mc1 ms1 a : Nat} {As : List Value} {post : Option Value → mp_M → Prop} (hC : Ct l y bytes maxL none d mc ms G b (.ref a :: As) M post) (hw : GoodIn lw_all (ws_ y bytes maxL none)) (hini : Cond.initialized y.cls ∈ lw_all) (hlk : Cond.methodLink own index y ∈ lw_all) (hin : Cond.instanceMethod y ∈ lw_all) (hy1 : y.name = "<init>") (hnd : y.cls ≠ "java/lang/invoke/MethodHandle" ∧ y.cls ≠ "java/lang/invoke/VarHandle" ∧ (parseMethodDescriptor y.desc).map (fun d => d.parameters.length) = some n) (hn : As.length = n) (hdep : d + 1 ≤ d1) (hmL : maxL ≤ 45) (hd : decode cc pc = .ok (.invokespecial index, 3)) (hst : st = As.reverse ++ .ref a :: rest) (hf : cells + mc ≤ mc1 ∧ slots + ms ≤ ms1) (hrest : (rest.map fun v => v.category).sum ≤ 8) : VR p l e (rmOf d1 mc1 ms1) s m args below meth c G b nL cells slots mc ms pc L st rest M (Qp G b post (Value.ref a :: As).toArray) := by
  intro H locs ls h1 h2 h3
  exact va_runI (As := As) (rest := rest) C.1 hC (cwI n C.1.2.2.2.2 hw rfl rfl rfl (C.1.2.2.2.2 _ hini) (C.1.2.2.2.2 _ hlk) (C.1.2.2.2.2 _ hin) hy1 hnd (rm_le hdep hmL)) ⟨PcV.blind, pc_call C h1 h2⟩ rfl hn h3.1 hst (lv_room hrest) hd hf
/-- invokespecial of a nest mate's private <init> -/
theorem VR_IN (C : Cx p m meth c s args G b own cc nL ret) {y : MethodName} {bytes : ByteArray} {maxL index n d d1 mc1 ms1 a : Nat} {As : List Value} {post : Option Value → mp_M → Prop} {host : String} (hC : Ct l y bytes maxL none d mc ms G b (.ref a :: As) M post) (hw : GoodIn lw_all (ws_ y bytes maxL none)) (hini : Cond.initialized y.cls ∈ lw_all) (hlk : Cond.methodLinkNest own index y host ∈ evN) (hin : Cond.instanceMethod y ∈ lw_all) (hy1 : y.name = "<init>") (hnd : y.cls ≠ "java/lang/invoke/MethodHandle" ∧ y.cls ≠ "java/lang/invoke/VarHandle" ∧ (parseMethodDescriptor y.desc).map (fun d => d.parameters.length) = some n) (hn : As.length = n) (hdep : d + 1 ≤ d1) (hmL : maxL ≤ 45) (hd : decode cc pc = .ok (.invokespecial index, 3)) (hst : st = As.reverse ++ .ref a :: rest) (hf : cells + mc ≤ mc1 ∧ slots + ms ≤ ms1) (hrest : (rest.map fun v => v.category).sum ≤ 8) : VR p l e (rmOf d1 mc1 ms1) s m args below meth c G b nL cells slots mc ms pc L st rest M (Qp G b post (Value.ref a :: As).toArray) := by
  intro H locs ls h1 h2 h3
  exact va_runIN (As := As) (rest := rest) C.1 hC ⟨va_cnB n C.1.2.2.2.2 hw rfl rfl rfl (C.2.2.2.1.2.1 _ hlk) (C.1.2.2.2.2 _ hini) hnd (rm_le hdep hmL), hy1, C.1.2.2.2.2 _ hin⟩ ⟨PcV.blind, pc_call C h1 h2⟩ rfl hn h3.1 hst (lv_room hrest) hd hf
/-- invokespecial of a superclass's method -/
theorem VR_SU (C : Cx p m meth c s args G b own cc nL ret) {y : MethodName} {bytes : ByteArray} {maxL index n d d1 mc1 ms1 a : Nat} {r2 : Option FieldType} {As : List Value} {post : Option Value → mp_M → Prop} {ci : Nat} {lab : mp_L} {fs : List Value} {r : vw_C} (hC : Ct l y bytes maxL r2 d mc ms G b (.ref a :: As) M post) (hM : M a = some (lab, .inr (ci, fs))) (hc : clL[ci]? = some r) (hw : GoodIn lw_all (va_wsSU own index y (ws_ y bytes maxL r2))) (hnd : y.name ≠ "<init>" ∧ (parseMethodDescriptor y.desc).map (fun d => d.parameters.length) = some n) (hn : As.length = n) (hdep : d + 1 ≤ d1) (hmL : maxL ≤ 45) (hd : decode cc pc = .ok (.invokespecial index, 3)) (hst : st = As.reverse ++ .ref a :: rest) (hf : cells + mc ≤ mc1 ∧ slots + ms ≤ ms1) (hrest : (rest.map fun v => v.category).sum ≤ 8) : VR p l e (rmOf d1 mc1 ms1) s m args below meth c G b nL cells slots mc ms pc L st rest M (Qp G b post (Value.ref a :: As).toArray) := by
  intro H locs ls h1 h2 h3
  exact va_runSU (As := As) (rest := rest) (C.2.2.2.1.1.1 ci r hc).2 C.1 hC (va_cwSU n C.1.2.2.2.2 hw rfl rfl rfl hnd (rm_le hdep hmL)) ⟨PcV.blind, hd_recv C.2.2.2.1.1 h1 hM hc, pc_call C h1 h2⟩ rfl hn h3.1 hst (lv_room hrest) hd hf
/-- invokevirtual of an inherited method -/
theorem VR_U (C : Cx p m meth c s args G b own cc nL ret) {y : MethodName} {bytes : ByteArray} {maxL index n d d1 mc1 ms1 a : Nat} {r2 : Option FieldType} {As : List Value} {post : Option Value → mp_M → Prop} {x : MethodName} {owner : String} {ci : Nat} {lab : mp_L} {fs : List Value} {r : vw_C} (hC : Ct l y bytes maxL r2 d mc ms G b (.ref a :: As) M post) (hM : M a = some (lab, .inr (ci, fs))) (hc : clL[ci]? = some r) (hw : GoodIn lw_all (va_wsU own index r.1 owner x y (ws_ y bytes maxL r2))) (hyx : y = ⟨owner, x.name, x.desc⟩) (hnd : owner ≠ "java/lang/invoke/MethodHandle" ∧ owner ≠ "java/lang/invoke/VarHandle" ∧ (parseMethodDescriptor x.desc).map (fun d => d.parameters.length) = some n) (hn : As.length = n) (hdep : d + 1 ≤ d1) (hmL : maxL ≤ 45) (hd : decode cc pc = .ok (.invokevirtual index, 3)) (hst : st = As.reverse ++ .ref a :: rest) (hf : cells + mc ≤ mc1 ∧ slots + ms ≤ ms1) (hrest : (rest.map fun v => v.category).sum ≤ 8) : VR p l e (rmOf d1 mc1 ms1) s m args below meth c G b nL cells slots mc ms pc L st rest M (Qp G b post (Value.ref a :: As).toArray) := by
  intro H locs ls h1 h2 h3
  exact va_runU (As := As) (rest := rest) C.1 hC (va_cwU n C.1.2.2.2.2 hw rfl rfl rfl hyx hnd (rm_le hdep hmL)) ⟨PcV.blind, hd_recv C.2.2.2.1.1 h1 hM hc, pc_call C h1 h2⟩ rfl hn h3.1 hst (lv_room hrest) hd hf
theorem sel_priv {C0 : String} {y : MethodName} {n : Nat} (hins : (Cond.instantiable C0 n).before args s = true) (hpriv : (Cond.privateMethod y).before args s = true) (hinst : (Cond.instanceMethod y).before args s = true) (hsame : (Cond.sameMethod y.cls y.cls y.name y.desc).before args s = true) (hy : y.cls ≠ "java/lang/invoke/MethodHandle" ∧ y.cls ≠ "java/lang/invoke/VarHandle") : (Cond.selects C0 y y).before args s = true := by
  obtain ⟨c, k, hc, hk, -, -, -, -⟩ := Cond.instantiable_spec hins
  obtain ⟨mk, methM, hnamed, hmethM, -, -⟩ := Cond.instanceMethod_spec hinst
  obtain ⟨cn, ck, r1, hcn, hck, hni, hf, hn1⟩ := Cond.sameMethod_found hsame
  have hfound : s.methodFound? y.cls y.name y.desc = some mk := State.methodFound?_of_named hnamed hy
  have hcls : mk.cls = cn := Option.some.inj ((findClass_of_methodNamed hnamed).symm.trans hcn)
  have hsel : selectMethod {} s.vm c mk = .method mk := selectMethod_private hmethM (Cond.privateMethod_at hpriv mk methM hnamed hmethM)
  simp only [Cond.before, Cond.holds, Cond.value, hc, hfound, hnamed, hsel, hcls, hck]
  simp; exact hni
/-- invokevirtual of a superclass's private method, by that class's own code -/
theorem VR_P (C : Cx p m meth c s args G b own cc nL ret) {y : MethodName} {bytes : ByteArray} {maxL index n d d1 mc1 ms1 a : Nat} {r2 : Option FieldType} {As : List Value} {post : Option Value → mp_M → Prop} {ci : Nat} {lab : mp_L} {fs : List Value} {r : vw_C} (hC : Ct l y bytes maxL r2 d mc ms G b (.ref a :: As) M post) (hM : M a = some (lab, .inr (ci, fs))) (hc : clL[ci]? = some r) (hlk : Cond.methodLink own index y ∈ lw_all) (hsm : Cond.sameMethod y.cls y.cls y.name y.desc ∈ lw_all) (hse : Cond.selects r.1 y y ∈ evN) (him : Cond.instanceMethod y ∈ lw_all) (hini : Cond.initialized y.cls ∈ lw_all) (hco : Cond.code y bytes maxL r2 ∈ lw_all) (hnd : y.cls ≠ "java/lang/invoke/MethodHandle" ∧ y.cls ≠ "java/lang/invoke/VarHandle" ∧ (parseMethodDescriptor y.desc).map (fun d => d.parameters.length) = some n) (hn : As.length = n) (hdep : d + 1 ≤ d1) (hmL : maxL ≤ 45) (hd : decode cc pc = .ok (.invokevirtual index, 3)) (hst : st = As.reverse ++ .ref a :: rest) (hf : cells + mc ≤ mc1 ∧ slots + ms ≤ ms1) (hrest : (rest.map fun v => v.category).sum ≤ 8) : VR p l e (rmOf d1 mc1 ms1) s m args below meth c G b nL cells slots mc ms pc L st rest M (Qp G b post (Value.ref a :: As).toArray) := by
  intro H locs ls h1 h2 h3
  have hts := C.1.2.2.2.2
  exact va_runU (x := y) (owner := y.cls) (As := As) (rest := rest) C.1 hC ⟨⟨rfl, rfl, (rm_le (mc := mc) (ms := ms) (mc1 := mc1) (ms1 := ms1) hdep hmL).1, (rm_le (mc := mc) (ms := ms) (mc1 := mc1) (ms1 := ms1) hdep hmL).2, pay_in hts (lw_meth hco), List.mem_cons_self⟩, hts _ hco, hts _ hini, ⟨hnd.1, hnd.2.1⟩, fun sig h => by
    have h2 := hnd.2.2
    rw [h] at h2
    exact (Option.some.inj h2).symm, hts _ hlk, hts _ hsm, va_Decl.of (hts _ him) (hts _ hco), va_Nw.use rfl (C.2.2.2.1.2.1 _ hse), hts _ him⟩ ⟨PcV.blind, hd_recv C.2.2.2.1.1 h1 hM hc, pc_call C h1 h2⟩ rfl hn h3.1 hst (lv_room hrest) hd hf
/-- invokeinterface -/
theorem VR_F (C : Cx p m meth c s args G b own cc nL ret) {y : MethodName} {bytes : ByteArray} {maxL index n d d1 mc1 ms1 a : Nat} {r2 : Option FieldType} {As : List Value} {post : Option Value → mp_M → Prop} {x : MethodName} {count ci : Nat} {lab : mp_L} {fs : List Value} {r : vw_C} (hC : Ct l y bytes maxL r2 d mc ms G b (.ref a :: As) M post) (hM : M a = some (lab, .inr (ci, fs))) (hc : clL[ci]? = some r) (hF : va_Fw r.1 x y s) (hw : GoodIn lw_all (va_wsF own index r.1 x y (ws_ y bytes maxL r2))) (hnd : x.cls ≠ "java/lang/invoke/MethodHandle" ∧ x.cls ≠ "java/lang/invoke/VarHandle" ∧ (parseMethodDescriptor x.desc).map (fun d => d.parameters.length) = some n) (hn : As.length = n) (hdep : d + 1 ≤ d1) (hmL : maxL ≤ 45) (hd : decode cc pc = .ok (.invokeinterface index count, 5)) (hst : st = As.reverse ++ .ref a :: rest) (hf : cells + mc ≤ mc1 ∧ slots + ms ≤ ms1) (hrest : (rest.map fun v => v.category).sum ≤ 8) : VR5 p l e (rmOf d1 mc1 ms1) s m args below meth c G b nL cells slots mc ms pc L st rest M (Qp G b post (Value.ref a :: As).toArray) := by
  intro H locs ls h1 h2 h3
  exact va_runF (As := As) (rest := rest) (C.2.2.2.1.1.1 ci r hc).2 C.1 hC (va_cwF n C.1.2.2.2.2 hw rfl rfl rfl hF hnd (rm_le hdep hmL)) ⟨PcV.blind, hd_recv C.2.2.2.1.1 h1 hM hc, pc_call C h1 h2⟩ rfl hn h3.1 hst (lv_room hrest) hd hf
end VCALL
def bI (q : Bool) : Int32 := if q then 1 else 0
theorem bI_t : bI true = 1 := rfl
theorem bI_f : bI false = 0 := rfl
theorem bI_z (q : Bool) : bI q = 0 ↔ q = false := by cases q <;> decide
theorem bI_o (q : Bool) : bI q = 1 ↔ q = true := by cases q <;> decide
theorem bI_nar (q : Bool) : narrow .boolean (.int (bI q)) = .int (bI q) := by cases q <;> rfl
theorem bI_vp (q : Bool) : vp_nar .boolean (bI q) = bI q := by cases q <;> rfl
theorem bI_inj {q r : Bool} : bI q = bI r ↔ q = r := by cases q <;> cases r <;> decide
