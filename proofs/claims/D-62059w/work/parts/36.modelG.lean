set_option maxRecDepth 100000
/-! THE MODEL, G: well-formed lines, emit -/
def befB (wl : Nat → Nat) (i : Nat) : Bool := isIdB (wl (6 + i)) && (decide (i = 0) || decide (wl (5 + i) < wl (6 + i)))
def shB (k t s v : Nat) : Bool := decide (v ≤ (if k = 0 ∨ k = 3 then 99 else 0)) && (if k = 3 then isIdB t && (decide (s = 0) || isIdB s) else if k = 4 then isIdB t && decide (s = 0) else (decide (t = 0) || isIdB t) && decide (s ≤ 3))
def preB (mw : Nat) (wl : Nat → Nat) : Bool := decide (6 ≤ mw) && decide (wl 5 ≤ 6) && decide (mw = 6 + wl 5) && isIdB (wl 0) && decide (wl 1 ≤ 5)
def wfB (mw : Nat) (wl : Nat → Nat) : Bool := preB mw wl && allI (befB wl) (mw - 6) && shB (wl 1) (wl 2) (wl 3) (wl 4)
theorem allI_no {P : Nat → Bool} {n k : Nat} (hk : k < n) (h : P k = false) : allI P n = false := by
  rw [← Bool.not_eq_true, allI_iff]
  intro z
  rw [z k hk] at h
  cases h
theorem ct_X3_wellFormed (l : Launch) (G : mp_G) (b : Nat) (M : mp_M) (a : Nat) (ad : Nat → Nat) (S : Nat → Nat → Int32) (hS : MdAt G M a ad S) (mw : Nat) (wl : Nat → Nat) (hL : LnV S mw wl) : Ct l yX3_wellFormed cX3_wellFormed 3 (some .boolean) 1 0 0 G b ([.ref a] : List Value) M (pI (fun y M1 => y = bI (wfB mw wl) ∧ M1 = M)) := by
  have hmw := hL.1
  have w0 := hL.2.2.2 0
  have w1 := hL.2.2.2 1
  have w2 := hL.2.2.2 2
  have w3 := hL.2.2.2 3
  have w4 := hL.2.2.2 4
  have w5 := hL.2.2.2 5
  refine Ct.ofV (by decide) (vc_ref vc_nil) (Nat.le_of_ble_eq_true rfl) ?_
  intro p e s m below meth c C hnm
  refine V_L (L1 := [some (.ref a), none, none]) rfl ?_
  obtain ⟨hma, hm0, hm1, hm2, hm3, hm4, hm5, hm8, hm9, hm10, hm11⟩ := id hS
  rw [hL.2.1] at hma
  have tail : preB mw wl = true → 6 ≤ mw → allI (befB wl) (mw - 6) = true → V p l e (rmOf 1 0 0) s m ([.ref a] : List Value).toArray below meth c (MQ below (Qp G b (pI (fun y M1 => y = bI (wfB mw wl) ∧ M1 = M))) ([.ref a] : List Value).toArray s 0 0 (fun q => b ≤ q)) G b 3 0 0 114 [some (.ref a), none, none] [] M := by
    intro hpre h6 hall
    have hwf : wfB mw wl = shB (wl 1) (wl 2) (wl 3) (wl 4) := by unfold wfB; rw [hpre, hall]; rfl
    rw [hwf]
    have h15 : wl 1 ≤ 5 := by unfold preB at hpre; simp only [Bool.and_eq_true, decide_eq_true_eq] at hpre; exact hpre.2
    refine V_aload_n C dX3_wellFormed_114 rfl rfl ?_
    refine V_get (C0 := RX3) (T := TX3) (N := 12) (ci := 3) C 5 in_X3 rfl hma (by decide) q826 (fun _ h9 => h9) rfl dX3_wellFormed_115 ?_
    refine V_iconst C 1 dX3_wellFormed_118 (by decide) ?_
    refine V_iald C hm5 (pk_in 1 16 (by omega)) dX3_wellFormed_119 ?_
    refine V_top (y := (nI (wl 1))) (by rw [show (1 : Int32).toNatClampNeg = 1 from by decide]; exact (hL.2.2.1 1 (by omega))) ?_
    refine V_istore_n (L' := [some (.ref a), some (.int (nI (wl 1))), none]) C dX3_wellFormed_120 rfl (by decide) rfl ?_
    refine V_iload_n C dX3_wellFormed_121 rfl rfl ?_
    refine V_nif_eq (x := wl 1) C 130 dX3_wellFormed_122 (by decide) (by omega) (fun q122 => ?_) (fun q122 => ?_)
    · refine V_iconst C 1 dX3_wellFormed_130 (by decide) ?_
      refine V_goto C 135 dX3_wellFormed_131 (by decide) ?_
      refine V_istore_n (L' := [some (.ref a), some (.int (nI (wl 1))), some (.int 1)]) C dX3_wellFormed_135 rfl (by decide) rfl ?_
      refine V_aload_n C dX3_wellFormed_136 rfl rfl ?_
      refine V_get (C0 := RX3) (T := TX3) (N := 12) (ci := 3) C 5 in_X3 rfl hma (by decide) q826 (fun _ h9 => h9) rfl dX3_wellFormed_137 ?_
      refine V_iconst C 4 dX3_wellFormed_140 (by decide) ?_
      refine V_iald C hm5 (pk_in 4 16 (by omega)) dX3_wellFormed_141 ?_
      refine V_top (y := (nI (wl 4))) (by rw [show (4 : Int32).toNatClampNeg = 4 from by decide]; exact (hL.2.2.1 4 (by omega))) ?_
      refine V_iload_n C dX3_wellFormed_142 rfl rfl ?_
      refine V_if_eq C 151 dX3_wellFormed_143 (by decide) (fun h => absurd h (by decide)) (fun _ => ?_)
      refine V_bipush C 99 dX3_wellFormed_146 (by decide) ?_
      refine V_goto C 152 dX3_wellFormed_148 (by decide) ?_
      refine V_nicmp_le (x := wl 4) (y := 99) C 157 dX3_wellFormed_152 (by decide) (by omega) (by omega) (fun q152 => ?_) (fun q152 => ?_)
      · refine V_iload_n C dX3_wellFormed_157 rfl rfl ?_
        refine V_iconst C 3 dX3_wellFormed_158 (by decide) ?_
        refine V_nicmp_ne (x := wl 1) (y := 3) C 201 dX3_wellFormed_159 (by decide) (by omega) (by omega) (fun q159 => ?_) (fun q159 => ?_)
        · refine V_iload_n C dX3_wellFormed_201 rfl rfl ?_
          refine V_iconst C 4 dX3_wellFormed_202 (by decide) ?_
          refine V_nicmp_ne (x := wl 1) (y := 4) C 233 dX3_wellFormed_203 (by decide) (by omega) (by omega) (fun q203 => ?_) (fun q203 => ?_)
          · refine V_aload_n C dX3_wellFormed_233 rfl rfl ?_
            refine V_get (C0 := RX3) (T := TX3) (N := 12) (ci := 3) C 5 in_X3 rfl hma (by decide) q826 (fun _ h9 => h9) rfl dX3_wellFormed_234 ?_
            refine V_iconst C 2 dX3_wellFormed_237 (by decide) ?_
            refine V_iald C hm5 (pk_in 2 16 (by omega)) dX3_wellFormed_238 ?_
            refine V_top (y := (nI (wl 2))) (by rw [show (2 : Int32).toNatClampNeg = 2 from by decide]; exact (hL.2.2.1 2 (by omega))) ?_
            refine V_nif_eq (x := wl 2) C 254 dX3_wellFormed_239 (by decide) (by omega) (fun q239 => ?_) (fun q239 => ?_)
            · refine V_aload_n C dX3_wellFormed_254 rfl rfl ?_
              refine V_get (C0 := RX3) (T := TX3) (N := 12) (ci := 3) C 5 in_X3 rfl hma (by decide) q826 (fun _ h9 => h9) rfl dX3_wellFormed_255 ?_
              refine V_iconst C 3 dX3_wellFormed_258 (by decide) ?_
              refine V_iald C hm5 (pk_in 3 16 (by omega)) dX3_wellFormed_259 ?_
              refine V_top (y := (nI (wl 3))) (by rw [show (3 : Int32).toNatClampNeg = 3 from by decide]; exact (hL.2.2.1 3 (by omega))) ?_
              refine V_iconst C 3 dX3_wellFormed_260 (by decide) ?_
              refine V_nicmp_gt (x := wl 3) (y := 3) C 268 dX3_wellFormed_261 (by decide) (by omega) (by omega) (fun q261 => ?_) (fun q261 => ?_)
              · refine V_iconst C 0 dX3_wellFormed_268 (by decide) ?_
                exact V_zret C rfl dX3_wellFormed_269 (by decide) (by decide) ⟨_, rfl, by first | (refine bt ?_; unfold shB; simp [*]; done) | (refine bf ?_; unfold shB; simp [*]; done) | (refine bt ?_; unfold shB; simp [*]; omega) | (refine bf ?_; unfold shB; simp [*]; omega), rfl⟩
              · refine V_iconst C 1 dX3_wellFormed_264 (by decide) ?_
                refine V_goto C 269 dX3_wellFormed_265 (by decide) ?_
                exact V_zret C rfl dX3_wellFormed_269 (by decide) (by decide) ⟨_, rfl, by first | (refine bt ?_; unfold shB; simp [*]; done) | (refine bf ?_; unfold shB; simp [*]; done) | (refine bt ?_; unfold shB; simp [*]; omega) | (refine bf ?_; unfold shB; simp [*]; omega), rfl⟩
            · refine V_aload_n C dX3_wellFormed_242 rfl rfl ?_
              refine V_get (C0 := RX3) (T := TX3) (N := 12) (ci := 3) C 5 in_X3 rfl hma (by decide) q826 (fun _ h9 => h9) rfl dX3_wellFormed_243 ?_
              refine V_iconst C 2 dX3_wellFormed_246 (by decide) ?_
              refine V_iald C hm5 (pk_in 2 16 (by omega)) dX3_wellFormed_247 ?_
              refine V_top (y := (nI (wl 2))) (by rw [show (2 : Int32).toNatClampNeg = 2 from by decide]; exact (hL.2.2.1 2 (by omega))) ?_
              refine V_ofIe (VR_S (As := [.int (nI (wl 2))]) (rest := []) C (ct_X3_isId l G b M (wl 2) (by omega)) (lw_S q935 q936 q46 q937) nd_X3_isId rfl (by decide) (by decide) dX3_wellFormed_248 rfl ⟨by decide, by decide⟩ (Nat.le_of_ble_eq_true rfl)) ?_
              refine V_ifb_eq C 268 dX3_wellFormed_251 (by decide) (fun q251 => ?_) (fun q251 => ?_)
              · refine V_iconst C 0 dX3_wellFormed_268 (by decide) ?_
                exact V_zret C rfl dX3_wellFormed_269 (by decide) (by decide) ⟨_, rfl, by first | (refine bt ?_; unfold shB; simp [*]; done) | (refine bf ?_; unfold shB; simp [*]; done) | (refine bt ?_; unfold shB; simp [*]; omega) | (refine bf ?_; unfold shB; simp [*]; omega), rfl⟩
              · refine V_aload_n C dX3_wellFormed_254 rfl rfl ?_
                refine V_get (C0 := RX3) (T := TX3) (N := 12) (ci := 3) C 5 in_X3 rfl hma (by decide) q826 (fun _ h9 => h9) rfl dX3_wellFormed_255 ?_
                refine V_iconst C 3 dX3_wellFormed_258 (by decide) ?_
                refine V_iald C hm5 (pk_in 3 16 (by omega)) dX3_wellFormed_259 ?_
                refine V_top (y := (nI (wl 3))) (by rw [show (3 : Int32).toNatClampNeg = 3 from by decide]; exact (hL.2.2.1 3 (by omega))) ?_
                refine V_iconst C 3 dX3_wellFormed_260 (by decide) ?_
                refine V_nicmp_gt (x := wl 3) (y := 3) C 268 dX3_wellFormed_261 (by decide) (by omega) (by omega) (fun q261 => ?_) (fun q261 => ?_)
                · refine V_iconst C 0 dX3_wellFormed_268 (by decide) ?_
                  exact V_zret C rfl dX3_wellFormed_269 (by decide) (by decide) ⟨_, rfl, by first | (refine bt ?_; unfold shB; simp [*]; done) | (refine bf ?_; unfold shB; simp [*]; done) | (refine bt ?_; unfold shB; simp [*]; omega) | (refine bf ?_; unfold shB; simp [*]; omega), rfl⟩
                · refine V_iconst C 1 dX3_wellFormed_264 (by decide) ?_
                  refine V_goto C 269 dX3_wellFormed_265 (by decide) ?_
                  exact V_zret C rfl dX3_wellFormed_269 (by decide) (by decide) ⟨_, rfl, by first | (refine bt ?_; unfold shB; simp [*]; done) | (refine bf ?_; unfold shB; simp [*]; done) | (refine bt ?_; unfold shB; simp [*]; omega) | (refine bf ?_; unfold shB; simp [*]; omega), rfl⟩
          · refine V_aload_n C dX3_wellFormed_206 rfl rfl ?_
            refine V_get (C0 := RX3) (T := TX3) (N := 12) (ci := 3) C 5 in_X3 rfl hma (by decide) q826 (fun _ h9 => h9) rfl dX3_wellFormed_207 ?_
            refine V_iconst C 2 dX3_wellFormed_210 (by decide) ?_
            refine V_iald C hm5 (pk_in 2 16 (by omega)) dX3_wellFormed_211 ?_
            refine V_top (y := (nI (wl 2))) (by rw [show (2 : Int32).toNatClampNeg = 2 from by decide]; exact (hL.2.2.1 2 (by omega))) ?_
            refine V_ofIe (VR_S (As := [.int (nI (wl 2))]) (rest := []) C (ct_X3_isId l G b M (wl 2) (by omega)) (lw_S q935 q936 q46 q937) nd_X3_isId rfl (by decide) (by decide) dX3_wellFormed_212 rfl ⟨by decide, by decide⟩ (Nat.le_of_ble_eq_true rfl)) ?_
            refine V_ifb_eq C 231 dX3_wellFormed_215 (by decide) (fun q215 => ?_) (fun q215 => ?_)
            · refine V_iconst C 0 dX3_wellFormed_231 (by decide) ?_
              exact V_zret C rfl dX3_wellFormed_232 (by decide) (by decide) ⟨_, rfl, by first | (refine bt ?_; unfold shB; simp [*]; done) | (refine bf ?_; unfold shB; simp [*]; done) | (refine bt ?_; unfold shB; simp [*]; omega) | (refine bf ?_; unfold shB; simp [*]; omega), rfl⟩
            · refine V_aload_n C dX3_wellFormed_218 rfl rfl ?_
              refine V_get (C0 := RX3) (T := TX3) (N := 12) (ci := 3) C 5 in_X3 rfl hma (by decide) q826 (fun _ h9 => h9) rfl dX3_wellFormed_219 ?_
              refine V_iconst C 3 dX3_wellFormed_222 (by decide) ?_
              refine V_iald C hm5 (pk_in 3 16 (by omega)) dX3_wellFormed_223 ?_
              refine V_top (y := (nI (wl 3))) (by rw [show (3 : Int32).toNatClampNeg = 3 from by decide]; exact (hL.2.2.1 3 (by omega))) ?_
              refine V_nif_ne (x := wl 3) C 231 dX3_wellFormed_224 (by decide) (by omega) (fun q224 => ?_) (fun q224 => ?_)
              · refine V_iconst C 0 dX3_wellFormed_231 (by decide) ?_
                exact V_zret C rfl dX3_wellFormed_232 (by decide) (by decide) ⟨_, rfl, by first | (refine bt ?_; unfold shB; simp [*]; done) | (refine bf ?_; unfold shB; simp [*]; done) | (refine bt ?_; unfold shB; simp [*]; omega) | (refine bf ?_; unfold shB; simp [*]; omega), rfl⟩
              · refine V_iconst C 1 dX3_wellFormed_227 (by decide) ?_
                refine V_goto C 232 dX3_wellFormed_228 (by decide) ?_
                exact V_zret C rfl dX3_wellFormed_232 (by decide) (by decide) ⟨_, rfl, by first | (refine bt ?_; unfold shB; simp [*]; done) | (refine bf ?_; unfold shB; simp [*]; done) | (refine bt ?_; unfold shB; simp [*]; omega) | (refine bf ?_; unfold shB; simp [*]; omega), rfl⟩
        · refine V_aload_n C dX3_wellFormed_162 rfl rfl ?_
          refine V_get (C0 := RX3) (T := TX3) (N := 12) (ci := 3) C 5 in_X3 rfl hma (by decide) q826 (fun _ h9 => h9) rfl dX3_wellFormed_163 ?_
          refine V_iconst C 2 dX3_wellFormed_166 (by decide) ?_
          refine V_iald C hm5 (pk_in 2 16 (by omega)) dX3_wellFormed_167 ?_
          refine V_top (y := (nI (wl 2))) (by rw [show (2 : Int32).toNatClampNeg = 2 from by decide]; exact (hL.2.2.1 2 (by omega))) ?_
          refine V_ofIe (VR_S (As := [.int (nI (wl 2))]) (rest := []) C (ct_X3_isId l G b M (wl 2) (by omega)) (lw_S q935 q936 q46 q937) nd_X3_isId rfl (by decide) (by decide) dX3_wellFormed_168 rfl ⟨by decide, by decide⟩ (Nat.le_of_ble_eq_true rfl)) ?_
          refine V_ifb_eq C 199 dX3_wellFormed_171 (by decide) (fun q171 => ?_) (fun q171 => ?_)
          · refine V_iconst C 0 dX3_wellFormed_199 (by decide) ?_
            exact V_zret C rfl dX3_wellFormed_200 (by decide) (by decide) ⟨_, rfl, by first | (refine bt ?_; unfold shB; simp [*]; done) | (refine bf ?_; unfold shB; simp [*]; done) | (refine bt ?_; unfold shB; simp [*]; omega) | (refine bf ?_; unfold shB; simp [*]; omega), rfl⟩
          · refine V_aload_n C dX3_wellFormed_174 rfl rfl ?_
            refine V_get (C0 := RX3) (T := TX3) (N := 12) (ci := 3) C 5 in_X3 rfl hma (by decide) q826 (fun _ h9 => h9) rfl dX3_wellFormed_175 ?_
            refine V_iconst C 3 dX3_wellFormed_178 (by decide) ?_
            refine V_iald C hm5 (pk_in 3 16 (by omega)) dX3_wellFormed_179 ?_
            refine V_top (y := (nI (wl 3))) (by rw [show (3 : Int32).toNatClampNeg = 3 from by decide]; exact (hL.2.2.1 3 (by omega))) ?_
            refine V_nif_eq (x := wl 3) C 195 dX3_wellFormed_180 (by decide) (by omega) (fun q180 => ?_) (fun q180 => ?_)
            · refine V_iconst C 1 dX3_wellFormed_195 (by decide) ?_
              refine V_goto C 200 dX3_wellFormed_196 (by decide) ?_
              exact V_zret C rfl dX3_wellFormed_200 (by decide) (by decide) ⟨_, rfl, by first | (refine bt ?_; unfold shB; simp [*]; done) | (refine bf ?_; unfold shB; simp [*]; done) | (refine bt ?_; unfold shB; simp [*]; omega) | (refine bf ?_; unfold shB; simp [*]; omega), rfl⟩
            · refine V_aload_n C dX3_wellFormed_183 rfl rfl ?_
              refine V_get (C0 := RX3) (T := TX3) (N := 12) (ci := 3) C 5 in_X3 rfl hma (by decide) q826 (fun _ h9 => h9) rfl dX3_wellFormed_184 ?_
              refine V_iconst C 3 dX3_wellFormed_187 (by decide) ?_
              refine V_iald C hm5 (pk_in 3 16 (by omega)) dX3_wellFormed_188 ?_
              refine V_top (y := (nI (wl 3))) (by rw [show (3 : Int32).toNatClampNeg = 3 from by decide]; exact (hL.2.2.1 3 (by omega))) ?_
              refine V_ofIe (VR_S (As := [.int (nI (wl 3))]) (rest := []) C (ct_X3_isId l G b M (wl 3) (by omega)) (lw_S q935 q936 q46 q937) nd_X3_isId rfl (by decide) (by decide) dX3_wellFormed_189 rfl ⟨by decide, by decide⟩ (Nat.le_of_ble_eq_true rfl)) ?_
              refine V_ifb_eq C 199 dX3_wellFormed_192 (by decide) (fun q192 => ?_) (fun q192 => ?_)
              · refine V_iconst C 0 dX3_wellFormed_199 (by decide) ?_
                exact V_zret C rfl dX3_wellFormed_200 (by decide) (by decide) ⟨_, rfl, by first | (refine bt ?_; unfold shB; simp [*]; done) | (refine bf ?_; unfold shB; simp [*]; done) | (refine bt ?_; unfold shB; simp [*]; omega) | (refine bf ?_; unfold shB; simp [*]; omega), rfl⟩
              · refine V_iconst C 1 dX3_wellFormed_195 (by decide) ?_
                refine V_goto C 200 dX3_wellFormed_196 (by decide) ?_
                exact V_zret C rfl dX3_wellFormed_200 (by decide) (by decide) ⟨_, rfl, by first | (refine bt ?_; unfold shB; simp [*]; done) | (refine bf ?_; unfold shB; simp [*]; done) | (refine bt ?_; unfold shB; simp [*]; omega) | (refine bf ?_; unfold shB; simp [*]; omega), rfl⟩
      · refine V_iconst C 0 dX3_wellFormed_155 (by decide) ?_
        exact V_zret C rfl dX3_wellFormed_156 (by decide) (by decide) ⟨_, rfl, by first | (refine bt ?_; unfold shB; simp [*]; done) | (refine bf ?_; unfold shB; simp [*]; done) | (refine bt ?_; unfold shB; simp [*]; omega) | (refine bf ?_; unfold shB; simp [*]; omega), rfl⟩
    · refine V_iload_n C dX3_wellFormed_125 rfl rfl ?_
      refine V_iconst C 3 dX3_wellFormed_126 (by decide) ?_
      refine V_nicmp_ne (x := wl 1) (y := 3) C 134 dX3_wellFormed_127 (by decide) (by omega) (by omega) (fun q127 => ?_) (fun q127 => ?_)
      · refine V_iconst C 0 dX3_wellFormed_134 (by decide) ?_
        refine V_istore_n (L' := [some (.ref a), some (.int (nI (wl 1))), some (.int 0)]) C dX3_wellFormed_135 rfl (by decide) rfl ?_
        refine V_aload_n C dX3_wellFormed_136 rfl rfl ?_
        refine V_get (C0 := RX3) (T := TX3) (N := 12) (ci := 3) C 5 in_X3 rfl hma (by decide) q826 (fun _ h9 => h9) rfl dX3_wellFormed_137 ?_
        refine V_iconst C 4 dX3_wellFormed_140 (by decide) ?_
        refine V_iald C hm5 (pk_in 4 16 (by omega)) dX3_wellFormed_141 ?_
        refine V_top (y := (nI (wl 4))) (by rw [show (4 : Int32).toNatClampNeg = 4 from by decide]; exact (hL.2.2.1 4 (by omega))) ?_
        refine V_iload_n C dX3_wellFormed_142 rfl rfl ?_
        refine V_if_eq C 151 dX3_wellFormed_143 (by decide) (fun _ => ?_) (fun h => absurd (by decide) h)
        refine V_iconst C 0 dX3_wellFormed_151 (by decide) ?_
        refine V_nicmp_le (x := wl 4) (y := 0) C 157 dX3_wellFormed_152 (by decide) (by omega) (by omega) (fun q152 => ?_) (fun q152 => ?_)
        · refine V_iload_n C dX3_wellFormed_157 rfl rfl ?_
          refine V_iconst C 3 dX3_wellFormed_158 (by decide) ?_
          refine V_nicmp_ne (x := wl 1) (y := 3) C 201 dX3_wellFormed_159 (by decide) (by omega) (by omega) (fun q159 => ?_) (fun q159 => ?_)
          · refine V_iload_n C dX3_wellFormed_201 rfl rfl ?_
            refine V_iconst C 4 dX3_wellFormed_202 (by decide) ?_
            refine V_nicmp_ne (x := wl 1) (y := 4) C 233 dX3_wellFormed_203 (by decide) (by omega) (by omega) (fun q203 => ?_) (fun q203 => ?_)
            · refine V_aload_n C dX3_wellFormed_233 rfl rfl ?_
              refine V_get (C0 := RX3) (T := TX3) (N := 12) (ci := 3) C 5 in_X3 rfl hma (by decide) q826 (fun _ h9 => h9) rfl dX3_wellFormed_234 ?_
              refine V_iconst C 2 dX3_wellFormed_237 (by decide) ?_
              refine V_iald C hm5 (pk_in 2 16 (by omega)) dX3_wellFormed_238 ?_
              refine V_top (y := (nI (wl 2))) (by rw [show (2 : Int32).toNatClampNeg = 2 from by decide]; exact (hL.2.2.1 2 (by omega))) ?_
              refine V_nif_eq (x := wl 2) C 254 dX3_wellFormed_239 (by decide) (by omega) (fun q239 => ?_) (fun q239 => ?_)
              · refine V_aload_n C dX3_wellFormed_254 rfl rfl ?_
                refine V_get (C0 := RX3) (T := TX3) (N := 12) (ci := 3) C 5 in_X3 rfl hma (by decide) q826 (fun _ h9 => h9) rfl dX3_wellFormed_255 ?_
                refine V_iconst C 3 dX3_wellFormed_258 (by decide) ?_
                refine V_iald C hm5 (pk_in 3 16 (by omega)) dX3_wellFormed_259 ?_
                refine V_top (y := (nI (wl 3))) (by rw [show (3 : Int32).toNatClampNeg = 3 from by decide]; exact (hL.2.2.1 3 (by omega))) ?_
                refine V_iconst C 3 dX3_wellFormed_260 (by decide) ?_
                refine V_nicmp_gt (x := wl 3) (y := 3) C 268 dX3_wellFormed_261 (by decide) (by omega) (by omega) (fun q261 => ?_) (fun q261 => ?_)
                · refine V_iconst C 0 dX3_wellFormed_268 (by decide) ?_
                  exact V_zret C rfl dX3_wellFormed_269 (by decide) (by decide) ⟨_, rfl, by first | (refine bt ?_; unfold shB; simp [*]; done) | (refine bf ?_; unfold shB; simp [*]; done) | (refine bt ?_; unfold shB; simp [*]; omega) | (refine bf ?_; unfold shB; simp [*]; omega), rfl⟩
                · refine V_iconst C 1 dX3_wellFormed_264 (by decide) ?_
                  refine V_goto C 269 dX3_wellFormed_265 (by decide) ?_
                  exact V_zret C rfl dX3_wellFormed_269 (by decide) (by decide) ⟨_, rfl, by first | (refine bt ?_; unfold shB; simp [*]; done) | (refine bf ?_; unfold shB; simp [*]; done) | (refine bt ?_; unfold shB; simp [*]; omega) | (refine bf ?_; unfold shB; simp [*]; omega), rfl⟩
              · refine V_aload_n C dX3_wellFormed_242 rfl rfl ?_
                refine V_get (C0 := RX3) (T := TX3) (N := 12) (ci := 3) C 5 in_X3 rfl hma (by decide) q826 (fun _ h9 => h9) rfl dX3_wellFormed_243 ?_
                refine V_iconst C 2 dX3_wellFormed_246 (by decide) ?_
                refine V_iald C hm5 (pk_in 2 16 (by omega)) dX3_wellFormed_247 ?_
                refine V_top (y := (nI (wl 2))) (by rw [show (2 : Int32).toNatClampNeg = 2 from by decide]; exact (hL.2.2.1 2 (by omega))) ?_
                refine V_ofIe (VR_S (As := [.int (nI (wl 2))]) (rest := []) C (ct_X3_isId l G b M (wl 2) (by omega)) (lw_S q935 q936 q46 q937) nd_X3_isId rfl (by decide) (by decide) dX3_wellFormed_248 rfl ⟨by decide, by decide⟩ (Nat.le_of_ble_eq_true rfl)) ?_
                refine V_ifb_eq C 268 dX3_wellFormed_251 (by decide) (fun q251 => ?_) (fun q251 => ?_)
                · refine V_iconst C 0 dX3_wellFormed_268 (by decide) ?_
                  exact V_zret C rfl dX3_wellFormed_269 (by decide) (by decide) ⟨_, rfl, by first | (refine bt ?_; unfold shB; simp [*]; done) | (refine bf ?_; unfold shB; simp [*]; done) | (refine bt ?_; unfold shB; simp [*]; omega) | (refine bf ?_; unfold shB; simp [*]; omega), rfl⟩
                · refine V_aload_n C dX3_wellFormed_254 rfl rfl ?_
                  refine V_get (C0 := RX3) (T := TX3) (N := 12) (ci := 3) C 5 in_X3 rfl hma (by decide) q826 (fun _ h9 => h9) rfl dX3_wellFormed_255 ?_
                  refine V_iconst C 3 dX3_wellFormed_258 (by decide) ?_
                  refine V_iald C hm5 (pk_in 3 16 (by omega)) dX3_wellFormed_259 ?_
                  refine V_top (y := (nI (wl 3))) (by rw [show (3 : Int32).toNatClampNeg = 3 from by decide]; exact (hL.2.2.1 3 (by omega))) ?_
                  refine V_iconst C 3 dX3_wellFormed_260 (by decide) ?_
                  refine V_nicmp_gt (x := wl 3) (y := 3) C 268 dX3_wellFormed_261 (by decide) (by omega) (by omega) (fun q261 => ?_) (fun q261 => ?_)
                  · refine V_iconst C 0 dX3_wellFormed_268 (by decide) ?_
                    exact V_zret C rfl dX3_wellFormed_269 (by decide) (by decide) ⟨_, rfl, by first | (refine bt ?_; unfold shB; simp [*]; done) | (refine bf ?_; unfold shB; simp [*]; done) | (refine bt ?_; unfold shB; simp [*]; omega) | (refine bf ?_; unfold shB; simp [*]; omega), rfl⟩
                  · refine V_iconst C 1 dX3_wellFormed_264 (by decide) ?_
                    refine V_goto C 269 dX3_wellFormed_265 (by decide) ?_
                    exact V_zret C rfl dX3_wellFormed_269 (by decide) (by decide) ⟨_, rfl, by first | (refine bt ?_; unfold shB; simp [*]; done) | (refine bf ?_; unfold shB; simp [*]; done) | (refine bt ?_; unfold shB; simp [*]; omega) | (refine bf ?_; unfold shB; simp [*]; omega), rfl⟩
            · refine V_aload_n C dX3_wellFormed_206 rfl rfl ?_
              refine V_get (C0 := RX3) (T := TX3) (N := 12) (ci := 3) C 5 in_X3 rfl hma (by decide) q826 (fun _ h9 => h9) rfl dX3_wellFormed_207 ?_
              refine V_iconst C 2 dX3_wellFormed_210 (by decide) ?_
              refine V_iald C hm5 (pk_in 2 16 (by omega)) dX3_wellFormed_211 ?_
              refine V_top (y := (nI (wl 2))) (by rw [show (2 : Int32).toNatClampNeg = 2 from by decide]; exact (hL.2.2.1 2 (by omega))) ?_
              refine V_ofIe (VR_S (As := [.int (nI (wl 2))]) (rest := []) C (ct_X3_isId l G b M (wl 2) (by omega)) (lw_S q935 q936 q46 q937) nd_X3_isId rfl (by decide) (by decide) dX3_wellFormed_212 rfl ⟨by decide, by decide⟩ (Nat.le_of_ble_eq_true rfl)) ?_
              refine V_ifb_eq C 231 dX3_wellFormed_215 (by decide) (fun q215 => ?_) (fun q215 => ?_)
              · refine V_iconst C 0 dX3_wellFormed_231 (by decide) ?_
                exact V_zret C rfl dX3_wellFormed_232 (by decide) (by decide) ⟨_, rfl, by first | (refine bt ?_; unfold shB; simp [*]; done) | (refine bf ?_; unfold shB; simp [*]; done) | (refine bt ?_; unfold shB; simp [*]; omega) | (refine bf ?_; unfold shB; simp [*]; omega), rfl⟩
              · refine V_aload_n C dX3_wellFormed_218 rfl rfl ?_
                refine V_get (C0 := RX3) (T := TX3) (N := 12) (ci := 3) C 5 in_X3 rfl hma (by decide) q826 (fun _ h9 => h9) rfl dX3_wellFormed_219 ?_
                refine V_iconst C 3 dX3_wellFormed_222 (by decide) ?_
                refine V_iald C hm5 (pk_in 3 16 (by omega)) dX3_wellFormed_223 ?_
                refine V_top (y := (nI (wl 3))) (by rw [show (3 : Int32).toNatClampNeg = 3 from by decide]; exact (hL.2.2.1 3 (by omega))) ?_
                refine V_nif_ne (x := wl 3) C 231 dX3_wellFormed_224 (by decide) (by omega) (fun q224 => ?_) (fun q224 => ?_)
                · refine V_iconst C 0 dX3_wellFormed_231 (by decide) ?_
                  exact V_zret C rfl dX3_wellFormed_232 (by decide) (by decide) ⟨_, rfl, by first | (refine bt ?_; unfold shB; simp [*]; done) | (refine bf ?_; unfold shB; simp [*]; done) | (refine bt ?_; unfold shB; simp [*]; omega) | (refine bf ?_; unfold shB; simp [*]; omega), rfl⟩
                · refine V_iconst C 1 dX3_wellFormed_227 (by decide) ?_
                  refine V_goto C 232 dX3_wellFormed_228 (by decide) ?_
                  exact V_zret C rfl dX3_wellFormed_232 (by decide) (by decide) ⟨_, rfl, by first | (refine bt ?_; unfold shB; simp [*]; done) | (refine bf ?_; unfold shB; simp [*]; done) | (refine bt ?_; unfold shB; simp [*]; omega) | (refine bf ?_; unfold shB; simp [*]; omega), rfl⟩
          · refine V_aload_n C dX3_wellFormed_162 rfl rfl ?_
            refine V_get (C0 := RX3) (T := TX3) (N := 12) (ci := 3) C 5 in_X3 rfl hma (by decide) q826 (fun _ h9 => h9) rfl dX3_wellFormed_163 ?_
            refine V_iconst C 2 dX3_wellFormed_166 (by decide) ?_
            refine V_iald C hm5 (pk_in 2 16 (by omega)) dX3_wellFormed_167 ?_
            refine V_top (y := (nI (wl 2))) (by rw [show (2 : Int32).toNatClampNeg = 2 from by decide]; exact (hL.2.2.1 2 (by omega))) ?_
            refine V_ofIe (VR_S (As := [.int (nI (wl 2))]) (rest := []) C (ct_X3_isId l G b M (wl 2) (by omega)) (lw_S q935 q936 q46 q937) nd_X3_isId rfl (by decide) (by decide) dX3_wellFormed_168 rfl ⟨by decide, by decide⟩ (Nat.le_of_ble_eq_true rfl)) ?_
            refine V_ifb_eq C 199 dX3_wellFormed_171 (by decide) (fun q171 => ?_) (fun q171 => ?_)
            · refine V_iconst C 0 dX3_wellFormed_199 (by decide) ?_
              exact V_zret C rfl dX3_wellFormed_200 (by decide) (by decide) ⟨_, rfl, by first | (refine bt ?_; unfold shB; simp [*]; done) | (refine bf ?_; unfold shB; simp [*]; done) | (refine bt ?_; unfold shB; simp [*]; omega) | (refine bf ?_; unfold shB; simp [*]; omega), rfl⟩
            · refine V_aload_n C dX3_wellFormed_174 rfl rfl ?_
              refine V_get (C0 := RX3) (T := TX3) (N := 12) (ci := 3) C 5 in_X3 rfl hma (by decide) q826 (fun _ h9 => h9) rfl dX3_wellFormed_175 ?_
              refine V_iconst C 3 dX3_wellFormed_178 (by decide) ?_
              refine V_iald C hm5 (pk_in 3 16 (by omega)) dX3_wellFormed_179 ?_
              refine V_top (y := (nI (wl 3))) (by rw [show (3 : Int32).toNatClampNeg = 3 from by decide]; exact (hL.2.2.1 3 (by omega))) ?_
              refine V_nif_eq (x := wl 3) C 195 dX3_wellFormed_180 (by decide) (by omega) (fun q180 => ?_) (fun q180 => ?_)
              · refine V_iconst C 1 dX3_wellFormed_195 (by decide) ?_
                refine V_goto C 200 dX3_wellFormed_196 (by decide) ?_
                exact V_zret C rfl dX3_wellFormed_200 (by decide) (by decide) ⟨_, rfl, by first | (refine bt ?_; unfold shB; simp [*]; done) | (refine bf ?_; unfold shB; simp [*]; done) | (refine bt ?_; unfold shB; simp [*]; omega) | (refine bf ?_; unfold shB; simp [*]; omega), rfl⟩
              · refine V_aload_n C dX3_wellFormed_183 rfl rfl ?_
                refine V_get (C0 := RX3) (T := TX3) (N := 12) (ci := 3) C 5 in_X3 rfl hma (by decide) q826 (fun _ h9 => h9) rfl dX3_wellFormed_184 ?_
                refine V_iconst C 3 dX3_wellFormed_187 (by decide) ?_
                refine V_iald C hm5 (pk_in 3 16 (by omega)) dX3_wellFormed_188 ?_
                refine V_top (y := (nI (wl 3))) (by rw [show (3 : Int32).toNatClampNeg = 3 from by decide]; exact (hL.2.2.1 3 (by omega))) ?_
                refine V_ofIe (VR_S (As := [.int (nI (wl 3))]) (rest := []) C (ct_X3_isId l G b M (wl 3) (by omega)) (lw_S q935 q936 q46 q937) nd_X3_isId rfl (by decide) (by decide) dX3_wellFormed_189 rfl ⟨by decide, by decide⟩ (Nat.le_of_ble_eq_true rfl)) ?_
                refine V_ifb_eq C 199 dX3_wellFormed_192 (by decide) (fun q192 => ?_) (fun q192 => ?_)
                · refine V_iconst C 0 dX3_wellFormed_199 (by decide) ?_
                  exact V_zret C rfl dX3_wellFormed_200 (by decide) (by decide) ⟨_, rfl, by first | (refine bt ?_; unfold shB; simp [*]; done) | (refine bf ?_; unfold shB; simp [*]; done) | (refine bt ?_; unfold shB; simp [*]; omega) | (refine bf ?_; unfold shB; simp [*]; omega), rfl⟩
                · refine V_iconst C 1 dX3_wellFormed_195 (by decide) ?_
                  refine V_goto C 200 dX3_wellFormed_196 (by decide) ?_
                  exact V_zret C rfl dX3_wellFormed_200 (by decide) (by decide) ⟨_, rfl, by first | (refine bt ?_; unfold shB; simp [*]; done) | (refine bf ?_; unfold shB; simp [*]; done) | (refine bt ?_; unfold shB; simp [*]; omega) | (refine bf ?_; unfold shB; simp [*]; omega), rfl⟩
        · refine V_iconst C 0 dX3_wellFormed_155 (by decide) ?_
          exact V_zret C rfl dX3_wellFormed_156 (by decide) (by decide) ⟨_, rfl, by first | (refine bt ?_; unfold shB; simp [*]; done) | (refine bf ?_; unfold shB; simp [*]; done) | (refine bt ?_; unfold shB; simp [*]; omega) | (refine bf ?_; unfold shB; simp [*]; omega), rfl⟩
      · refine V_iconst C 1 dX3_wellFormed_130 (by decide) ?_
        refine V_goto C 135 dX3_wellFormed_131 (by decide) ?_
        refine V_istore_n (L' := [some (.ref a), some (.int (nI (wl 1))), some (.int 1)]) C dX3_wellFormed_135 rfl (by decide) rfl ?_
        refine V_aload_n C dX3_wellFormed_136 rfl rfl ?_
        refine V_get (C0 := RX3) (T := TX3) (N := 12) (ci := 3) C 5 in_X3 rfl hma (by decide) q826 (fun _ h9 => h9) rfl dX3_wellFormed_137 ?_
        refine V_iconst C 4 dX3_wellFormed_140 (by decide) ?_
        refine V_iald C hm5 (pk_in 4 16 (by omega)) dX3_wellFormed_141 ?_
        refine V_top (y := (nI (wl 4))) (by rw [show (4 : Int32).toNatClampNeg = 4 from by decide]; exact (hL.2.2.1 4 (by omega))) ?_
        refine V_iload_n C dX3_wellFormed_142 rfl rfl ?_
        refine V_if_eq C 151 dX3_wellFormed_143 (by decide) (fun h => absurd h (by decide)) (fun _ => ?_)
        refine V_bipush C 99 dX3_wellFormed_146 (by decide) ?_
        refine V_goto C 152 dX3_wellFormed_148 (by decide) ?_
        refine V_nicmp_le (x := wl 4) (y := 99) C 157 dX3_wellFormed_152 (by decide) (by omega) (by omega) (fun q152 => ?_) (fun q152 => ?_)
        · refine V_iload_n C dX3_wellFormed_157 rfl rfl ?_
          refine V_iconst C 3 dX3_wellFormed_158 (by decide) ?_
          refine V_nicmp_ne (x := wl 1) (y := 3) C 201 dX3_wellFormed_159 (by decide) (by omega) (by omega) (fun q159 => ?_) (fun q159 => ?_)
          · refine V_iload_n C dX3_wellFormed_201 rfl rfl ?_
            refine V_iconst C 4 dX3_wellFormed_202 (by decide) ?_
            refine V_nicmp_ne (x := wl 1) (y := 4) C 233 dX3_wellFormed_203 (by decide) (by omega) (by omega) (fun q203 => ?_) (fun q203 => ?_)
            · refine V_aload_n C dX3_wellFormed_233 rfl rfl ?_
              refine V_get (C0 := RX3) (T := TX3) (N := 12) (ci := 3) C 5 in_X3 rfl hma (by decide) q826 (fun _ h9 => h9) rfl dX3_wellFormed_234 ?_
              refine V_iconst C 2 dX3_wellFormed_237 (by decide) ?_
              refine V_iald C hm5 (pk_in 2 16 (by omega)) dX3_wellFormed_238 ?_
              refine V_top (y := (nI (wl 2))) (by rw [show (2 : Int32).toNatClampNeg = 2 from by decide]; exact (hL.2.2.1 2 (by omega))) ?_
              refine V_nif_eq (x := wl 2) C 254 dX3_wellFormed_239 (by decide) (by omega) (fun q239 => ?_) (fun q239 => ?_)
              · refine V_aload_n C dX3_wellFormed_254 rfl rfl ?_
                refine V_get (C0 := RX3) (T := TX3) (N := 12) (ci := 3) C 5 in_X3 rfl hma (by decide) q826 (fun _ h9 => h9) rfl dX3_wellFormed_255 ?_
                refine V_iconst C 3 dX3_wellFormed_258 (by decide) ?_
                refine V_iald C hm5 (pk_in 3 16 (by omega)) dX3_wellFormed_259 ?_
                refine V_top (y := (nI (wl 3))) (by rw [show (3 : Int32).toNatClampNeg = 3 from by decide]; exact (hL.2.2.1 3 (by omega))) ?_
                refine V_iconst C 3 dX3_wellFormed_260 (by decide) ?_
                refine V_nicmp_gt (x := wl 3) (y := 3) C 268 dX3_wellFormed_261 (by decide) (by omega) (by omega) (fun q261 => ?_) (fun q261 => ?_)
                · refine V_iconst C 0 dX3_wellFormed_268 (by decide) ?_
                  exact V_zret C rfl dX3_wellFormed_269 (by decide) (by decide) ⟨_, rfl, by first | (refine bt ?_; unfold shB; simp [*]; done) | (refine bf ?_; unfold shB; simp [*]; done) | (refine bt ?_; unfold shB; simp [*]; omega) | (refine bf ?_; unfold shB; simp [*]; omega), rfl⟩
                · refine V_iconst C 1 dX3_wellFormed_264 (by decide) ?_
                  refine V_goto C 269 dX3_wellFormed_265 (by decide) ?_
                  exact V_zret C rfl dX3_wellFormed_269 (by decide) (by decide) ⟨_, rfl, by first | (refine bt ?_; unfold shB; simp [*]; done) | (refine bf ?_; unfold shB; simp [*]; done) | (refine bt ?_; unfold shB; simp [*]; omega) | (refine bf ?_; unfold shB; simp [*]; omega), rfl⟩
              · refine V_aload_n C dX3_wellFormed_242 rfl rfl ?_
                refine V_get (C0 := RX3) (T := TX3) (N := 12) (ci := 3) C 5 in_X3 rfl hma (by decide) q826 (fun _ h9 => h9) rfl dX3_wellFormed_243 ?_
                refine V_iconst C 2 dX3_wellFormed_246 (by decide) ?_
                refine V_iald C hm5 (pk_in 2 16 (by omega)) dX3_wellFormed_247 ?_
                refine V_top (y := (nI (wl 2))) (by rw [show (2 : Int32).toNatClampNeg = 2 from by decide]; exact (hL.2.2.1 2 (by omega))) ?_
                refine V_ofIe (VR_S (As := [.int (nI (wl 2))]) (rest := []) C (ct_X3_isId l G b M (wl 2) (by omega)) (lw_S q935 q936 q46 q937) nd_X3_isId rfl (by decide) (by decide) dX3_wellFormed_248 rfl ⟨by decide, by decide⟩ (Nat.le_of_ble_eq_true rfl)) ?_
                refine V_ifb_eq C 268 dX3_wellFormed_251 (by decide) (fun q251 => ?_) (fun q251 => ?_)
                · refine V_iconst C 0 dX3_wellFormed_268 (by decide) ?_
                  exact V_zret C rfl dX3_wellFormed_269 (by decide) (by decide) ⟨_, rfl, by first | (refine bt ?_; unfold shB; simp [*]; done) | (refine bf ?_; unfold shB; simp [*]; done) | (refine bt ?_; unfold shB; simp [*]; omega) | (refine bf ?_; unfold shB; simp [*]; omega), rfl⟩
                · refine V_aload_n C dX3_wellFormed_254 rfl rfl ?_
                  refine V_get (C0 := RX3) (T := TX3) (N := 12) (ci := 3) C 5 in_X3 rfl hma (by decide) q826 (fun _ h9 => h9) rfl dX3_wellFormed_255 ?_
                  refine V_iconst C 3 dX3_wellFormed_258 (by decide) ?_
                  refine V_iald C hm5 (pk_in 3 16 (by omega)) dX3_wellFormed_259 ?_
                  refine V_top (y := (nI (wl 3))) (by rw [show (3 : Int32).toNatClampNeg = 3 from by decide]; exact (hL.2.2.1 3 (by omega))) ?_
                  refine V_iconst C 3 dX3_wellFormed_260 (by decide) ?_
                  refine V_nicmp_gt (x := wl 3) (y := 3) C 268 dX3_wellFormed_261 (by decide) (by omega) (by omega) (fun q261 => ?_) (fun q261 => ?_)
                  · refine V_iconst C 0 dX3_wellFormed_268 (by decide) ?_
                    exact V_zret C rfl dX3_wellFormed_269 (by decide) (by decide) ⟨_, rfl, by first | (refine bt ?_; unfold shB; simp [*]; done) | (refine bf ?_; unfold shB; simp [*]; done) | (refine bt ?_; unfold shB; simp [*]; omega) | (refine bf ?_; unfold shB; simp [*]; omega), rfl⟩
                  · refine V_iconst C 1 dX3_wellFormed_264 (by decide) ?_
                    refine V_goto C 269 dX3_wellFormed_265 (by decide) ?_
                    exact V_zret C rfl dX3_wellFormed_269 (by decide) (by decide) ⟨_, rfl, by first | (refine bt ?_; unfold shB; simp [*]; done) | (refine bf ?_; unfold shB; simp [*]; done) | (refine bt ?_; unfold shB; simp [*]; omega) | (refine bf ?_; unfold shB; simp [*]; omega), rfl⟩
            · refine V_aload_n C dX3_wellFormed_206 rfl rfl ?_
              refine V_get (C0 := RX3) (T := TX3) (N := 12) (ci := 3) C 5 in_X3 rfl hma (by decide) q826 (fun _ h9 => h9) rfl dX3_wellFormed_207 ?_
              refine V_iconst C 2 dX3_wellFormed_210 (by decide) ?_
              refine V_iald C hm5 (pk_in 2 16 (by omega)) dX3_wellFormed_211 ?_
              refine V_top (y := (nI (wl 2))) (by rw [show (2 : Int32).toNatClampNeg = 2 from by decide]; exact (hL.2.2.1 2 (by omega))) ?_
              refine V_ofIe (VR_S (As := [.int (nI (wl 2))]) (rest := []) C (ct_X3_isId l G b M (wl 2) (by omega)) (lw_S q935 q936 q46 q937) nd_X3_isId rfl (by decide) (by decide) dX3_wellFormed_212 rfl ⟨by decide, by decide⟩ (Nat.le_of_ble_eq_true rfl)) ?_
              refine V_ifb_eq C 231 dX3_wellFormed_215 (by decide) (fun q215 => ?_) (fun q215 => ?_)
              · refine V_iconst C 0 dX3_wellFormed_231 (by decide) ?_
                exact V_zret C rfl dX3_wellFormed_232 (by decide) (by decide) ⟨_, rfl, by first | (refine bt ?_; unfold shB; simp [*]; done) | (refine bf ?_; unfold shB; simp [*]; done) | (refine bt ?_; unfold shB; simp [*]; omega) | (refine bf ?_; unfold shB; simp [*]; omega), rfl⟩
              · refine V_aload_n C dX3_wellFormed_218 rfl rfl ?_
                refine V_get (C0 := RX3) (T := TX3) (N := 12) (ci := 3) C 5 in_X3 rfl hma (by decide) q826 (fun _ h9 => h9) rfl dX3_wellFormed_219 ?_
                refine V_iconst C 3 dX3_wellFormed_222 (by decide) ?_
                refine V_iald C hm5 (pk_in 3 16 (by omega)) dX3_wellFormed_223 ?_
                refine V_top (y := (nI (wl 3))) (by rw [show (3 : Int32).toNatClampNeg = 3 from by decide]; exact (hL.2.2.1 3 (by omega))) ?_
                refine V_nif_ne (x := wl 3) C 231 dX3_wellFormed_224 (by decide) (by omega) (fun q224 => ?_) (fun q224 => ?_)
                · refine V_iconst C 0 dX3_wellFormed_231 (by decide) ?_
                  exact V_zret C rfl dX3_wellFormed_232 (by decide) (by decide) ⟨_, rfl, by first | (refine bt ?_; unfold shB; simp [*]; done) | (refine bf ?_; unfold shB; simp [*]; done) | (refine bt ?_; unfold shB; simp [*]; omega) | (refine bf ?_; unfold shB; simp [*]; omega), rfl⟩
                · refine V_iconst C 1 dX3_wellFormed_227 (by decide) ?_
                  refine V_goto C 232 dX3_wellFormed_228 (by decide) ?_
                  exact V_zret C rfl dX3_wellFormed_232 (by decide) (by decide) ⟨_, rfl, by first | (refine bt ?_; unfold shB; simp [*]; done) | (refine bf ?_; unfold shB; simp [*]; done) | (refine bt ?_; unfold shB; simp [*]; omega) | (refine bf ?_; unfold shB; simp [*]; omega), rfl⟩
          · refine V_aload_n C dX3_wellFormed_162 rfl rfl ?_
            refine V_get (C0 := RX3) (T := TX3) (N := 12) (ci := 3) C 5 in_X3 rfl hma (by decide) q826 (fun _ h9 => h9) rfl dX3_wellFormed_163 ?_
            refine V_iconst C 2 dX3_wellFormed_166 (by decide) ?_
            refine V_iald C hm5 (pk_in 2 16 (by omega)) dX3_wellFormed_167 ?_
            refine V_top (y := (nI (wl 2))) (by rw [show (2 : Int32).toNatClampNeg = 2 from by decide]; exact (hL.2.2.1 2 (by omega))) ?_
            refine V_ofIe (VR_S (As := [.int (nI (wl 2))]) (rest := []) C (ct_X3_isId l G b M (wl 2) (by omega)) (lw_S q935 q936 q46 q937) nd_X3_isId rfl (by decide) (by decide) dX3_wellFormed_168 rfl ⟨by decide, by decide⟩ (Nat.le_of_ble_eq_true rfl)) ?_
            refine V_ifb_eq C 199 dX3_wellFormed_171 (by decide) (fun q171 => ?_) (fun q171 => ?_)
            · refine V_iconst C 0 dX3_wellFormed_199 (by decide) ?_
              exact V_zret C rfl dX3_wellFormed_200 (by decide) (by decide) ⟨_, rfl, by first | (refine bt ?_; unfold shB; simp [*]; done) | (refine bf ?_; unfold shB; simp [*]; done) | (refine bt ?_; unfold shB; simp [*]; omega) | (refine bf ?_; unfold shB; simp [*]; omega), rfl⟩
            · refine V_aload_n C dX3_wellFormed_174 rfl rfl ?_
              refine V_get (C0 := RX3) (T := TX3) (N := 12) (ci := 3) C 5 in_X3 rfl hma (by decide) q826 (fun _ h9 => h9) rfl dX3_wellFormed_175 ?_
              refine V_iconst C 3 dX3_wellFormed_178 (by decide) ?_
              refine V_iald C hm5 (pk_in 3 16 (by omega)) dX3_wellFormed_179 ?_
              refine V_top (y := (nI (wl 3))) (by rw [show (3 : Int32).toNatClampNeg = 3 from by decide]; exact (hL.2.2.1 3 (by omega))) ?_
              refine V_nif_eq (x := wl 3) C 195 dX3_wellFormed_180 (by decide) (by omega) (fun q180 => ?_) (fun q180 => ?_)
              · refine V_iconst C 1 dX3_wellFormed_195 (by decide) ?_
                refine V_goto C 200 dX3_wellFormed_196 (by decide) ?_
                exact V_zret C rfl dX3_wellFormed_200 (by decide) (by decide) ⟨_, rfl, by first | (refine bt ?_; unfold shB; simp [*]; done) | (refine bf ?_; unfold shB; simp [*]; done) | (refine bt ?_; unfold shB; simp [*]; omega) | (refine bf ?_; unfold shB; simp [*]; omega), rfl⟩
              · refine V_aload_n C dX3_wellFormed_183 rfl rfl ?_
                refine V_get (C0 := RX3) (T := TX3) (N := 12) (ci := 3) C 5 in_X3 rfl hma (by decide) q826 (fun _ h9 => h9) rfl dX3_wellFormed_184 ?_
                refine V_iconst C 3 dX3_wellFormed_187 (by decide) ?_
                refine V_iald C hm5 (pk_in 3 16 (by omega)) dX3_wellFormed_188 ?_
                refine V_top (y := (nI (wl 3))) (by rw [show (3 : Int32).toNatClampNeg = 3 from by decide]; exact (hL.2.2.1 3 (by omega))) ?_
                refine V_ofIe (VR_S (As := [.int (nI (wl 3))]) (rest := []) C (ct_X3_isId l G b M (wl 3) (by omega)) (lw_S q935 q936 q46 q937) nd_X3_isId rfl (by decide) (by decide) dX3_wellFormed_189 rfl ⟨by decide, by decide⟩ (Nat.le_of_ble_eq_true rfl)) ?_
                refine V_ifb_eq C 199 dX3_wellFormed_192 (by decide) (fun q192 => ?_) (fun q192 => ?_)
                · refine V_iconst C 0 dX3_wellFormed_199 (by decide) ?_
                  exact V_zret C rfl dX3_wellFormed_200 (by decide) (by decide) ⟨_, rfl, by first | (refine bt ?_; unfold shB; simp [*]; done) | (refine bf ?_; unfold shB; simp [*]; done) | (refine bt ?_; unfold shB; simp [*]; omega) | (refine bf ?_; unfold shB; simp [*]; omega), rfl⟩
                · refine V_iconst C 1 dX3_wellFormed_195 (by decide) ?_
                  refine V_goto C 200 dX3_wellFormed_196 (by decide) ?_
                  exact V_zret C rfl dX3_wellFormed_200 (by decide) (by decide) ⟨_, rfl, by first | (refine bt ?_; unfold shB; simp [*]; done) | (refine bf ?_; unfold shB; simp [*]; done) | (refine bt ?_; unfold shB; simp [*]; omega) | (refine bf ?_; unfold shB; simp [*]; omega), rfl⟩
        · refine V_iconst C 0 dX3_wellFormed_155 (by decide) ?_
          exact V_zret C rfl dX3_wellFormed_156 (by decide) (by decide) ⟨_, rfl, by first | (refine bt ?_; unfold shB; simp [*]; done) | (refine bf ?_; unfold shB; simp [*]; done) | (refine bt ?_; unfold shB; simp [*]; omega) | (refine bf ?_; unfold shB; simp [*]; omega), rfl⟩
  have loop : preB mw wl = true → 6 ≤ mw → ∀ k, k ≤ mw - 6 → (∀ i, i < k → befB wl i = true) → V p l e (rmOf 1 0 0) s m ([.ref a] : List Value).toArray below meth c (MQ below (Qp G b (pI (fun y M1 => y = bI (wfB mw wl) ∧ M1 = M))) ([.ref a] : List Value).toArray s 0 0 (fun q => b ≤ q)) G b 3 0 0 63 [some (.ref a), some (.int (nI (6 + k))), none] [] M := by
    intro hpre h6
    refine up_ind (mw - 6) ?_
    intro k hk ih hb
    have wk := hL.2.2.2 (6 + k)
    have wk1 := hL.2.2.2 (6 + k - 1)
    refine V_iload_n C dX3_wellFormed_63 rfl rfl ?_
    refine V_aload_n C dX3_wellFormed_64 rfl rfl ?_
    refine V_get (C0 := RX3) (T := TX3) (N := 12) (ci := 3) C 6 in_X3 rfl hma (by decide) q827 (fun _ h9 => h9) rfl dX3_wellFormed_65 ?_
    refine V_nicmp_ge (x := 6 + k) (y := mw) C 114 dX3_wellFormed_68 (by decide) (by omega) (by omega) (fun q68 => ?_) (fun q68 => ?_)
    · refine V_sub ?_ (tail hpre h6 (allI_iff.mpr (fun i hi => hb i (by omega))))
      repeat' (first | exact ls_e | refine ls_n ?_ | refine ls_s ?_ | refine ls_i ?_ ?_ | refine ls_v ?_ ?_)
    · refine V_aload_n C dX3_wellFormed_71 rfl rfl ?_
      refine V_get (C0 := RX3) (T := TX3) (N := 12) (ci := 3) C 5 in_X3 rfl hma (by decide) q826 (fun _ h9 => h9) rfl dX3_wellFormed_72 ?_
      refine V_iload_n C dX3_wellFormed_75 rfl rfl ?_
      refine V_iald C hm5 (pk_in (6 + k) 16 (by omega)) dX3_wellFormed_76 ?_
      refine V_top (y := (nI (wl (6 + k)))) (by rw [nI_clamp (n := 6 + k) (by omega)]; exact (hL.2.2.1 (6 + k) (by omega))) ?_
      refine V_ofIe (VR_S (As := [.int (nI (wl (6 + k)))]) (rest := []) C (ct_X3_isId l G b M (wl (6 + k)) (by omega)) (lw_S q935 q936 q46 q937) nd_X3_isId rfl (by decide) (by decide) dX3_wellFormed_77 rfl ⟨by decide, by decide⟩ (Nat.le_of_ble_eq_true rfl)) ?_
      refine V_ifb_eq C 106 dX3_wellFormed_80 (by decide) (fun q80 => ?_) (fun q80 => ?_)
      · refine V_iconst C 0 dX3_wellFormed_106 (by decide) ?_
        exact V_zret C rfl dX3_wellFormed_107 (by decide) (by decide) ⟨_, rfl, by refine bf ?_; unfold wfB; rw [allI_no (P := befB wl) (k := k) (n := mw - 6) (by omega) (by unfold befB; first | (simp [*]; done) | (rw [show 6 + k - 1 = 5 + k by omega] at *; simp [*]; omega))]; simp, rfl⟩
      · refine V_iload_n C dX3_wellFormed_83 rfl rfl ?_
        refine V_bipush C 6 dX3_wellFormed_84 (by decide) ?_
        refine V_nicmp_le (x := 6 + k) (y := 6) C 108 dX3_wellFormed_86 (by decide) (by omega) (by omega) (fun q86 => ?_) (fun q86 => ?_)
        · refine V_iinc (v := (nI ((6 + k) + 1))) (L' := [some (.ref a), some (.int (nI ((6 + k) + 1))), none]) C dX3_wellFormed_108 rfl (nI_1 _) (by decide) rfl ?_
          refine V_goto C 63 dX3_wellFormed_111 (by decide) ?_
          refine V_sub ?_ (ih (by omega) (fun i hi => by rcases Nat.lt_or_ge i k with z | z; exact hb i z; rw [show i = k by omega]; unfold befB; first | (rw [show 6 + k - 1 = 5 + k by omega] at *; simp [*]; done) | (simp [*]; omega)))
          repeat' (first | exact ls_e | refine ls_n ?_ | refine ls_s ?_ | refine ls_i ?_ ?_ | refine ls_v ?_ ?_)
        · refine V_aload_n C dX3_wellFormed_89 rfl rfl ?_
          refine V_get (C0 := RX3) (T := TX3) (N := 12) (ci := 3) C 5 in_X3 rfl hma (by decide) q826 (fun _ h9 => h9) rfl dX3_wellFormed_90 ?_
          refine V_iload_n C dX3_wellFormed_93 rfl rfl ?_
          refine V_iald C hm5 (pk_in (6 + k) 16 (by omega)) dX3_wellFormed_94 ?_
          refine V_top (y := (nI (wl (6 + k)))) (by rw [nI_clamp (n := 6 + k) (by omega)]; exact (hL.2.2.1 (6 + k) (by omega))) ?_
          refine V_aload_n C dX3_wellFormed_95 rfl rfl ?_
          refine V_get (C0 := RX3) (T := TX3) (N := 12) (ci := 3) C 5 in_X3 rfl hma (by decide) q826 (fun _ h9 => h9) rfl dX3_wellFormed_96 ?_
          refine V_iload_n C dX3_wellFormed_99 rfl rfl ?_
          refine V_iconst C 1 dX3_wellFormed_100 (by decide) ?_
          refine V_isub C dX3_wellFormed_101 ?_
          refine V_top (y := (nI (6 + k - 1))) (pk_sub (a := 6 + k) (b := 1) (by omega)) ?_
          refine V_iald C hm5 (pk_in (6 + k - 1) 16 (by omega)) dX3_wellFormed_102 ?_
          refine V_top (y := (nI (wl (6 + k - 1)))) (by rw [nI_clamp (n := 6 + k - 1) (by omega)]; exact (hL.2.2.1 (6 + k - 1) (by omega))) ?_
          refine V_nicmp_gt (x := wl (6 + k)) (y := wl (6 + k - 1)) C 108 dX3_wellFormed_103 (by decide) (by omega) (by omega) (fun q103 => ?_) (fun q103 => ?_)
          · refine V_iinc (v := (nI ((6 + k) + 1))) (L' := [some (.ref a), some (.int (nI ((6 + k) + 1))), none]) C dX3_wellFormed_108 rfl (nI_1 _) (by decide) rfl ?_
            refine V_goto C 63 dX3_wellFormed_111 (by decide) ?_
            refine V_sub ?_ (ih (by omega) (fun i hi => by rcases Nat.lt_or_ge i k with z | z; exact hb i z; rw [show i = k by omega]; unfold befB; first | (rw [show 6 + k - 1 = 5 + k by omega] at *; simp [*]; done) | (simp [*]; omega)))
            repeat' (first | exact ls_e | refine ls_n ?_ | refine ls_s ?_ | refine ls_i ?_ ?_ | refine ls_v ?_ ?_)
          · refine V_iconst C 0 dX3_wellFormed_106 (by decide) ?_
            exact V_zret C rfl dX3_wellFormed_107 (by decide) (by decide) ⟨_, rfl, by refine bf ?_; unfold wfB; rw [allI_no (P := befB wl) (k := k) (n := mw - 6) (by omega) (by unfold befB; first | (simp [*]; done) | (rw [show 6 + k - 1 = 5 + k by omega] at *; simp [*]; omega))]; simp, rfl⟩
  refine V_aload_n C dX3_wellFormed_0 rfl rfl ?_
  refine V_get (C0 := RX3) (T := TX3) (N := 12) (ci := 3) C 6 in_X3 rfl hma (by decide) q827 (fun _ h9 => h9) rfl dX3_wellFormed_1 ?_
  refine V_bipush C 6 dX3_wellFormed_4 (by decide) ?_
  refine V_nicmp_lt (x := mw) (y := 6) C 58 dX3_wellFormed_6 (by decide) (by omega) (by omega) (fun q6 => ?_) (fun q6 => ?_)
  · refine V_iconst C 0 dX3_wellFormed_58 (by decide) ?_
    exact V_zret C rfl dX3_wellFormed_59 (by decide) (by decide) ⟨_, rfl, by refine bf ?_; unfold wfB preB; first | (simp [*]; done) | (simp [*]; omega), rfl⟩
  · refine V_aload_n C dX3_wellFormed_9 rfl rfl ?_
    refine V_get (C0 := RX3) (T := TX3) (N := 12) (ci := 3) C 5 in_X3 rfl hma (by decide) q826 (fun _ h9 => h9) rfl dX3_wellFormed_10 ?_
    refine V_iconst C 5 dX3_wellFormed_13 (by decide) ?_
    refine V_iald C hm5 (pk_in 5 16 (by omega)) dX3_wellFormed_14 ?_
    refine V_top (y := (nI (wl 5))) (by rw [show (5 : Int32).toNatClampNeg = 5 from by decide]; exact (hL.2.2.1 5 (by omega))) ?_
    refine V_bipush C 6 dX3_wellFormed_15 (by decide) ?_
    refine V_nicmp_gt (x := wl 5) (y := 6) C 58 dX3_wellFormed_17 (by decide) (by omega) (by omega) (fun q17 => ?_) (fun q17 => ?_)
    · refine V_iconst C 0 dX3_wellFormed_58 (by decide) ?_
      exact V_zret C rfl dX3_wellFormed_59 (by decide) (by decide) ⟨_, rfl, by refine bf ?_; unfold wfB preB; first | (simp [*]; done) | (simp [*]; omega), rfl⟩
    · refine V_aload_n C dX3_wellFormed_20 rfl rfl ?_
      refine V_get (C0 := RX3) (T := TX3) (N := 12) (ci := 3) C 6 in_X3 rfl hma (by decide) q827 (fun _ h9 => h9) rfl dX3_wellFormed_21 ?_
      refine V_bipush C 6 dX3_wellFormed_24 (by decide) ?_
      refine V_aload_n C dX3_wellFormed_26 rfl rfl ?_
      refine V_get (C0 := RX3) (T := TX3) (N := 12) (ci := 3) C 5 in_X3 rfl hma (by decide) q826 (fun _ h9 => h9) rfl dX3_wellFormed_27 ?_
      refine V_iconst C 5 dX3_wellFormed_30 (by decide) ?_
      refine V_iald C hm5 (pk_in 5 16 (by omega)) dX3_wellFormed_31 ?_
      refine V_top (y := (nI (wl 5))) (by rw [show (5 : Int32).toNatClampNeg = 5 from by decide]; exact (hL.2.2.1 5 (by omega))) ?_
      refine V_iadd C dX3_wellFormed_32 ?_
      refine V_top (y := (nI (6 + (wl 5)))) (nI_add 6 (wl 5)) ?_
      refine V_nicmp_ne (x := mw) (y := 6 + (wl 5)) C 58 dX3_wellFormed_33 (by decide) (by omega) (by omega) (fun q33 => ?_) (fun q33 => ?_)
      · refine V_iconst C 0 dX3_wellFormed_58 (by decide) ?_
        exact V_zret C rfl dX3_wellFormed_59 (by decide) (by decide) ⟨_, rfl, by refine bf ?_; unfold wfB preB; first | (simp [*]; done) | (simp [*]; omega), rfl⟩
      · refine V_aload_n C dX3_wellFormed_36 rfl rfl ?_
        refine V_get (C0 := RX3) (T := TX3) (N := 12) (ci := 3) C 5 in_X3 rfl hma (by decide) q826 (fun _ h9 => h9) rfl dX3_wellFormed_37 ?_
        refine V_iconst C 0 dX3_wellFormed_40 (by decide) ?_
        refine V_iald C hm5 (pk_in 0 16 (by omega)) dX3_wellFormed_41 ?_
        refine V_top (y := (nI (wl 0))) (by rw [show (0 : Int32).toNatClampNeg = 0 from by decide]; exact (hL.2.2.1 0 (by omega))) ?_
        refine V_ofIe (VR_S (As := [.int (nI (wl 0))]) (rest := []) C (ct_X3_isId l G b M (wl 0) (by omega)) (lw_S q935 q936 q46 q937) nd_X3_isId rfl (by decide) (by decide) dX3_wellFormed_42 rfl ⟨by decide, by decide⟩ (Nat.le_of_ble_eq_true rfl)) ?_
        refine V_ifb_eq C 58 dX3_wellFormed_45 (by decide) (fun q45 => ?_) (fun q45 => ?_)
        · refine V_iconst C 0 dX3_wellFormed_58 (by decide) ?_
          exact V_zret C rfl dX3_wellFormed_59 (by decide) (by decide) ⟨_, rfl, by refine bf ?_; unfold wfB preB; first | (simp [*]; done) | (simp [*]; omega), rfl⟩
        · refine V_aload_n C dX3_wellFormed_48 rfl rfl ?_
          refine V_get (C0 := RX3) (T := TX3) (N := 12) (ci := 3) C 5 in_X3 rfl hma (by decide) q826 (fun _ h9 => h9) rfl dX3_wellFormed_49 ?_
          refine V_iconst C 1 dX3_wellFormed_52 (by decide) ?_
          refine V_iald C hm5 (pk_in 1 16 (by omega)) dX3_wellFormed_53 ?_
          refine V_top (y := (nI (wl 1))) (by rw [show (1 : Int32).toNatClampNeg = 1 from by decide]; exact (hL.2.2.1 1 (by omega))) ?_
          refine V_iconst C 5 dX3_wellFormed_54 (by decide) ?_
          refine V_nicmp_le (x := wl 1) (y := 5) C 60 dX3_wellFormed_55 (by decide) (by omega) (by omega) (fun q55 => ?_) (fun q55 => ?_)
          · refine V_bipush C 6 dX3_wellFormed_60 (by decide) ?_
            refine V_istore_n (L' := [some (.ref a), some (.int 6), none]) C dX3_wellFormed_62 rfl (by decide) rfl ?_
            refine V_sub ?_ (loop (by unfold preB; simp [*]) (by omega) 0 (Nat.zero_le _) (fun i hi => absurd hi (Nat.not_lt_zero _)))
            repeat' (first | exact ls_e | refine ls_n ?_ | refine ls_s ?_ | refine ls_i ?_ ?_ | refine ls_v ?_ ?_)
            all_goals rfl
          · refine V_iconst C 0 dX3_wellFormed_58 (by decide) ?_
            exact V_zret C rfl dX3_wellFormed_59 (by decide) (by decide) ⟨_, rfl, by refine bf ?_; unfold wfB preB; first | (simp [*]; done) | (simp [*]; omega), rfl⟩
def saK (po : Nat → Nat → Nat) (wl : Nat → Nat) (j k : Nat) : Bool := decide (po j 5 = wl 5) && allI (fun i => decide (po j i = wl i)) k
theorem saK_s (po : Nat → Nat → Nat) (wl : Nat → Nat) (j k : Nat) : saK po wl j (k + 1) = (saK po wl j k && decide (po j k = wl k)) := by
  unfold saK
  rw [allI_s, Bool.and_assoc]
theorem saK_f {po : Nat → Nat → Nat} {wl : Nat → Nat} {j k n : Nat} (hk : k ≤ n) (h : saK po wl j k = false) : saK po wl j n = false := by
  induction n with
  | zero => rw [show k = 0 by omega] at h; exact h
  | succ n ih =>
    rcases Nat.lt_or_ge n k with z | z
    · rw [show n + 1 = k by omega]; exact h
    · rw [saK_s, ih z]; rfl
theorem saK_5 {po : Nat → Nat → Nat} {wl : Nat → Nat} {j k : Nat} (h : saK po wl j k = true) : po j 5 = wl 5 := by
  unfold saK at h
  simp only [Bool.and_eq_true, decide_eq_true_eq] at h
  exact h.1
theorem ct_X3_sameAsLine (l : Launch) (G : mp_G) (b : Nat) (M : mp_M) (a : Nat) (ad : Nat → Nat) (S : Nat → Nat → Int32) (r n : Nat) (po : Nat → Nat → Nat) (ap : Nat → Bool) (hS : MdAt G M a ad S) (hme : S 7 0 = nI r) (hV : Vw S r n po ap) (mw : Nat) (wl : Nat → Nat) (hL : LnV S mw wl) (hmw : mw = 6 + wl 5) (j : Nat) (hj : j < n) : Ct l yX3_sameAsLine cX3_sameAsLine 4 (some .boolean) 1 0 0 G b ([.ref a, .int (nI j)] : List Value) M (pI (fun y M1 => y = bI (saK po wl j mw) ∧ M1 = M)) := by
  have hmw1 := hL.1
  have hr := hV.1
  have hn := hV.2.1
  have w5 := hL.2.2.2 5
  refine Ct.ofV (by decide) (vc_ref (vc_int vc_nil)) (Nat.le_of_ble_eq_true rfl) ?_
  intro p e s m below meth c C hnm
  refine V_L (L1 := [some (.ref a), some (.int (nI j)), none, none]) rfl ?_
  obtain ⟨hma, hm0, hm1, hm2, hm3, hm4, hm5, hm8, hm9, hm10, hm11⟩ := id hS
  rw [hme] at hma
  rw [hL.2.1] at hma
  have loop : ∀ k, k ≤ mw → V p l e (rmOf 1 0 0) s m ([.ref a, .int (nI j)] : List Value).toArray below meth c (MQ below (Qp G b (pI (fun y M1 => y = bI (saK po wl j mw) ∧ M1 = M))) ([.ref a, .int (nI j)] : List Value).toArray s 0 0 (fun q => b ≤ q)) G b 4 0 0 23 [some (.ref a), some (.int (nI j)), some (.int (bI (saK po wl j k))), some (.int (nI k))] [] M := by
    refine up_ind mw ?_
    intro k hk ih
    have wk := hL.2.2.2 k
    refine V_iload_n C dX3_sameAsLine_23 rfl rfl ?_
    refine V_aload_n C dX3_sameAsLine_24 rfl rfl ?_
    refine V_get (C0 := RX3) (T := TX3) (N := 12) (ci := 3) C 6 in_X3 rfl hma (by decide) q827 (fun _ h9 => h9) rfl dX3_sameAsLine_25 ?_
    refine V_nicmp_ge (x := k) (y := mw) C 62 dX3_sameAsLine_28 (by decide) (by omega) (by omega) (fun q28 => ?_) (fun q28 => ?_)
    · refine V_iload_n C dX3_sameAsLine_62 rfl rfl ?_
      exact V_zret C (bI_nar _) dX3_sameAsLine_63 (by decide) (by decide) ⟨_, rfl, by first | rw [← show k = mw by omega] | rw [q32, saK_f hk q32], rfl⟩
    · refine V_iload_n C dX3_sameAsLine_31 rfl rfl ?_
      refine V_ifb_eq C 62 dX3_sameAsLine_32 (by decide) (fun q32 => ?_) (fun q32 => ?_)
      · refine V_iload_n C dX3_sameAsLine_62 rfl rfl ?_
        exact V_zret C (bI_nar _) dX3_sameAsLine_63 (by decide) (by decide) ⟨_, rfl, by first | rw [← show k = mw by omega] | rw [q32, saK_f hk q32], rfl⟩
      · have h5 := saK_5 q32
        refine V_aload_n C dX3_sameAsLine_35 rfl rfl ?_
        refine V_iload_n C dX3_sameAsLine_36 rfl rfl ?_
        refine V_iload_n C dX3_sameAsLine_37 rfl rfl ?_
        refine V_ofIe (VR_V (As := [.int (nI j), .int (nI k)]) (rest := []) C (ct_X3_part l G b M a ad S r n po ap hS hme hV j k (by omega) (by omega)) hma rfl (lw_V q875 q877 qs11 q46 q878) rfl nd_X3_part rfl (by decide) (by decide) dX3_sameAsLine_38 rfl ⟨by decide, by decide⟩ (Nat.le_of_ble_eq_true rfl)) ?_
        have hp38 := hV.2.2.2.2.2.1 j k
        refine V_aload_n C dX3_sameAsLine_41 rfl rfl ?_
        refine V_get (C0 := RX3) (T := TX3) (N := 12) (ci := 3) C 5 in_X3 rfl hma (by decide) q826 (fun _ h9 => h9) rfl dX3_sameAsLine_42 ?_
        refine V_iload_n C dX3_sameAsLine_45 rfl rfl ?_
        refine V_iald C hm5 (pk_in k 16 (by omega)) dX3_sameAsLine_46 ?_
        refine V_top (y := (nI (wl k))) (by rw [nI_clamp (n := k) (by omega)]; exact (hL.2.2.1 k (by omega))) ?_
        refine V_nicmp_ne (x := po j k) (y := wl k) C 54 dX3_sameAsLine_47 (by decide) (by omega) (by omega) (fun q47 => ?_) (fun q47 => ?_)
        · refine V_iconst C 0 dX3_sameAsLine_54 (by decide) ?_
          refine V_istore_n (L' := [some (.ref a), some (.int (nI j)), some (.int 0), some (.int (nI k))]) C dX3_sameAsLine_55 rfl (by decide) rfl ?_
          refine V_iinc (v := (nI (k + 1))) (L' := [some (.ref a), some (.int (nI j)), some (.int 0), some (.int (nI (k + 1)))]) C dX3_sameAsLine_56 rfl (nI_1 _) (by decide) rfl ?_
          refine V_goto C 23 dX3_sameAsLine_59 (by decide) ?_
          refine V_sub ?_ (ih (by omega))
          repeat' (first | exact ls_e | refine ls_n ?_ | refine ls_s ?_ | refine ls_i ?_ ?_ | refine ls_v ?_ ?_)
          rw [saK_s, q32]
          first | (refine bt ?_; simp [*]; done) | (refine bf ?_; simp [*]; done)
        · refine V_iconst C 1 dX3_sameAsLine_50 (by decide) ?_
          refine V_goto C 55 dX3_sameAsLine_51 (by decide) ?_
          refine V_istore_n (L' := [some (.ref a), some (.int (nI j)), some (.int 1), some (.int (nI k))]) C dX3_sameAsLine_55 rfl (by decide) rfl ?_
          refine V_iinc (v := (nI (k + 1))) (L' := [some (.ref a), some (.int (nI j)), some (.int 1), some (.int (nI (k + 1)))]) C dX3_sameAsLine_56 rfl (nI_1 _) (by decide) rfl ?_
          refine V_goto C 23 dX3_sameAsLine_59 (by decide) ?_
          refine V_sub ?_ (ih (by omega))
          repeat' (first | exact ls_e | refine ls_n ?_ | refine ls_s ?_ | refine ls_i ?_ ?_ | refine ls_v ?_ ?_)
          rw [saK_s, q32]
          first | (refine bt ?_; simp [*]; done) | (refine bf ?_; simp [*]; done)
  refine V_aload_n C dX3_sameAsLine_0 rfl rfl ?_
  refine V_iload_n C dX3_sameAsLine_1 rfl rfl ?_
  refine V_iconst C 5 dX3_sameAsLine_2 (by decide) ?_
  refine V_ofIe (VR_V (As := [.int (nI j), .int 5]) (rest := []) C (ct_X3_part l G b M a ad S r n po ap hS hme hV j 5 (by omega) (by omega)) hma rfl (lw_V q875 q877 qs11 q46 q878) rfl nd_X3_part rfl (by decide) (by decide) dX3_sameAsLine_3 rfl ⟨by decide, by decide⟩ (Nat.le_of_ble_eq_true rfl)) ?_
  have hp3 := hV.2.2.2.2.2.1 j 5
  refine V_aload_n C dX3_sameAsLine_6 rfl rfl ?_
  refine V_get (C0 := RX3) (T := TX3) (N := 12) (ci := 3) C 5 in_X3 rfl hma (by decide) q826 (fun _ h9 => h9) rfl dX3_sameAsLine_7 ?_
  refine V_iconst C 5 dX3_sameAsLine_10 (by decide) ?_
  refine V_iald C hm5 (pk_in 5 16 (by omega)) dX3_sameAsLine_11 ?_
  refine V_top (y := (nI (wl 5))) (by rw [show (5 : Int32).toNatClampNeg = 5 from by decide]; exact (hL.2.2.1 5 (by omega))) ?_
  refine V_nicmp_ne (x := po j 5) (y := wl 5) C 19 dX3_sameAsLine_12 (by decide) (by omega) (by omega) (fun q12 => ?_) (fun q12 => ?_)
  · refine V_iconst C 0 dX3_sameAsLine_19 (by decide) ?_
    refine V_istore_n (L' := [some (.ref a), some (.int (nI j)), some (.int 0), none]) C dX3_sameAsLine_20 rfl (by decide) rfl ?_
    refine V_iconst C 0 dX3_sameAsLine_21 (by decide) ?_
    refine V_istore_n (L' := [some (.ref a), some (.int (nI j)), some (.int 0), some (.int 0)]) C dX3_sameAsLine_22 rfl (by decide) rfl ?_
    refine V_sub ?_ (loop 0 (Nat.zero_le _))
    repeat' (first | exact ls_e | refine ls_n ?_ | refine ls_s ?_ | refine ls_i ?_ ?_ | refine ls_v ?_ ?_)
    first | rfl | (refine bt ?_; unfold saK; simp [*, allI]; done) | (refine bf ?_; unfold saK; simp [*, allI]; done)
  · refine V_iconst C 1 dX3_sameAsLine_15 (by decide) ?_
    refine V_goto C 20 dX3_sameAsLine_16 (by decide) ?_
    refine V_istore_n (L' := [some (.ref a), some (.int (nI j)), some (.int 1), none]) C dX3_sameAsLine_20 rfl (by decide) rfl ?_
    refine V_iconst C 0 dX3_sameAsLine_21 (by decide) ?_
    refine V_istore_n (L' := [some (.ref a), some (.int (nI j)), some (.int 1), some (.int 0)]) C dX3_sameAsLine_22 rfl (by decide) rfl ?_
    refine V_sub ?_ (loop 0 (Nat.zero_le _))
    repeat' (first | exact ls_e | refine ls_n ?_ | refine ls_s ?_ | refine ls_i ?_ ?_ | refine ls_v ?_ ?_)
    first | rfl | (refine bt ?_; unfold saK; simp [*, allI]; done) | (refine bf ?_; unfold saK; simp [*, allI]; done)
theorem isRep_t {r : Nat} (h : r ≤ 2) : isRepB (nI r) = true := by
  unfold isRepB
  rw [decide_eq_true (nI_pos (n := r) (by omega)), decide_eq_true (show nI r ≤ 2 from nI_le h (by decide))]
  rfl
theorem isRep_of {x : Int32} (h : isRepB x = true) : ∃ r, r ≤ 2 ∧ x = nI r := by
  unfold isRepB at h
  simp only [Bool.and_eq_true, decide_eq_true_eq] at h
  obtain ⟨r, h1, h2⟩ := nI_of2 (M := 2) (n := 2) (by decide) h.1 h.2
  exact ⟨r, h1, h2⟩
theorem ct_X3_emit_bad (l : Launch) (G : mp_G) (b : Nat) (M : mp_M) (a : Nat) (x xi : Int32) (hx : isRepB x = false) : Ct l yX3_emit cX3_emit 5 (some .int) 2 0 0 G b ([.ref a, .int x, .int xi] : List Value) M (pI (fun y M1 => y = -1 ∧ M1 = M)) := by
  refine Ct.ofV (by decide) (vc_ref (vc_int (vc_int vc_nil))) (Nat.le_of_ble_eq_true rfl) ?_
  intro p e s m below meth c C hnm
  refine V_L (L1 := [some (.ref a), some (.int x), some (.int xi), none, none]) rfl ?_
  refine V_iload_n C dX3_emit_0 rfl rfl ?_
  refine V_ofIe (VR_S (As := [.int x]) (rest := []) C (ct_X3_isReplica l G b M x) (lw_S q864 q865 q46 q866) nd_X3_isReplica rfl (by decide) (by decide) dX3_emit_1 rfl ⟨by decide, by decide⟩ (Nat.le_of_ble_eq_true rfl)) ?_
  refine V_ifb_ne C 9 dX3_emit_4 (by decide) (fun q4 => ?_) (fun q4 => ?_)
  · exact absurd q4 (by rw [hx]; decide)
  · refine V_iconst C (-1) dX3_emit_7 (by decide) ?_
    exact V_iret C dX3_emit_8 (by decide) (by decide) ⟨_, rfl, rfl, rfl⟩
theorem ct_X3_emit (l : Launch) (G : mp_G) (b : Nat) (M : mp_M) (a : Nat) (ad : Nat → Nat) (S : Nat → Nat → Int32) (r n : Nat) (po : Nat → Nat → Nat) (ap : Nat → Bool) (hS : MdAt G M a ad S) (hV : Vw S r n po ap) (xi : Int32) : Ct l yX3_emit cX3_emit 5 (some .int) 2 0 0 G b ([.ref a, .int (nI r), .int xi] : List Value) M (pI (fun y M1 => match mfind n po ap xi false with | none => y = -1 ∧ ∃ S1, MdAt G M1 a ad S1 ∧ Ag [7] S S1 ∧ KeepG 9 M M1 | some j => y = nI (6 + po j 5) ∧ ∃ S1, MdAt G M1 a ad S1 ∧ Ag [5, 6, 7] S S1 ∧ LnV S1 (6 + po j 5) (po j) ∧ KeepG 9 M M1)) := by
  have hr := hV.1
  have hn := hV.2.1
  refine Ct.ofV (by decide) (vc_ref (vc_int (vc_int vc_nil))) (Nat.le_of_ble_eq_true rfl) ?_
  intro p e s m below meth c C hnm
  refine V_L (L1 := [some (.ref a), some (.int (nI r)), some (.int xi), none, none]) rfl ?_
  obtain ⟨hma, hm0, hm1, hm2, hm3, hm4, hm5, hm8, hm9, hm10, hm11⟩ := id hS
  refine V_iload_n C dX3_emit_0 rfl rfl ?_
  refine V_ofIe (VR_S (As := [.int (nI r)]) (rest := []) C (ct_X3_isReplica l G b M (nI r)) (lw_S q864 q865 q46 q866) nd_X3_isReplica rfl (by decide) (by decide) dX3_emit_1 rfl ⟨by decide, by decide⟩ (Nat.le_of_ble_eq_true rfl)) ?_
  refine V_ifb_ne C 9 dX3_emit_4 (by decide) (fun h => ?_) (fun h => ?_)
  · skip
    refine V_aload_n C dX3_emit_9 rfl rfl ?_
    refine V_iload_n C dX3_emit_10 rfl rfl ?_
    refine V_M (V_put (host := "") (C0 := RX3) (T := TX3) (N := 12) (ci := 3) (fs' := [.ref (ad 0), .ref (ad 1), .ref (ad 2), .ref (ad 3), .ref (ad 4), .ref (ad 5), .int (S 6 0), .int (nI r), .ref (ad 8), .ref (ad 9), .ref (ad 10), .ref (ad 11)]) C 7 in_X3 tyX3 tyX3_ok nmX3 rfl hma (by decide) q828 (fun _ h9 => h9) rfl rfl rfl rfl (Nat.le_of_ble_eq_true rfl) rfl dX3_emit_11) (fun M1 e1 => ?_)
    have h__1 := mp_got e1
    have h__2 := mp_keep e1 hm0 hma (by first | assumption | exact Ne.symm (by assumption) | simp | (intro h; simp at h; omega))
    have h__3 := mp_keep e1 hm1 hma (by first | assumption | exact Ne.symm (by assumption) | simp | (intro h; simp at h; omega))
    have h__4 := mp_keep e1 hm2 hma (by first | assumption | exact Ne.symm (by assumption) | simp | (intro h; simp at h; omega))
    have h__5 := mp_keep e1 hm3 hma (by first | assumption | exact Ne.symm (by assumption) | simp | (intro h; simp at h; omega))
    have h__6 := mp_keep e1 hm4 hma (by first | assumption | exact Ne.symm (by assumption) | simp | (intro h; simp at h; omega))
    have h__7 := mp_keep e1 hm5 hma (by first | assumption | exact Ne.symm (by assumption) | simp | (intro h; simp at h; omega))
    have h__8 := mp_keep e1 hm8 hma (by first | assumption | exact Ne.symm (by assumption) | simp | (intro h; simp at h; omega))
    have h__9 := mp_keep e1 hm9 hma (by first | assumption | exact Ne.symm (by assumption) | simp | (intro h; simp at h; omega))
    have h__10 := mp_keep e1 hm10 hma (by first | assumption | exact Ne.symm (by assumption) | simp | (intro h; simp at h; omega))
    have h__11 := mp_keep e1 hm11 hma (by first | assumption | exact Ne.symm (by assumption) | simp | (intro h; simp at h; omega))
    obtain ⟨hS1, hK1⟩ := md_f7 hS e1
    have hV1 := hV.ag (S1 := sF S 7 (fun _ => nI r)) rfl rfl rfl
    have hme1 : (sF S 7 (fun _ => nI r)) 7 0 = nI r := rfl
    obtain ⟨hmua, hmu0, hmu1, hmu2, hmu3, hmu4, hmu5, hmu8, hmu9, hmu10, hmu11⟩ := id hS1
    rw [hme1] at hmua
    have mid : ∀ (j : Nat) {M2 : mp_M}, j < n → po j 5 ≤ 6 → mfind n po ap xi false = some j → MdAt G M2 a ad (sF (sF S 7 (fun _ => nI r)) 6 (fun _ => nI (6 + po j 5))) → KeepG 9 M1 M2 → V p l e (rmOf 2 0 0) s m ([.ref a, .int (nI r), .int xi] : List Value).toArray below meth c (MQ below (Qp G b (pI (fun y M1 => match (some j) with | none => y = -1 ∧ ∃ S1, MdAt G M1 a ad S1 ∧ Ag [7] S S1 ∧ KeepG 9 M M1 | some j => y = nI (6 + po j 5) ∧ ∃ S1, MdAt G M1 a ad S1 ∧ Ag [5, 6, 7] S S1 ∧ LnV S1 (6 + po j 5) (po j) ∧ KeepG 9 M M1))) ([.ref a, .int (nI r), .int xi] : List Value).toArray s 0 0 (fun q => b ≤ q)) G b 5 0 0 40 [some (.ref a), some (.int (nI r)), some (.int xi), some (.int (nI j)), none] [] M2 := by
      intro j M2 hj hj6 hfj hS2 hK2
      refine V_iconst C 0 dX3_emit_40 (by decide) ?_
      refine V_istore (L' := [some (.ref a), some (.int (nI r)), some (.int xi), some (.int (nI j)), some (.int 0)]) C dX3_emit_41 (by decide) rfl ?_
      have loop : ∀ k, k ≤ 6 + po j 5 → ∀ M3 S3, MdAt G M3 a ad S3 → Ag [5, 6, 7] S S3 → S3 6 0 = nI (6 + po j 5) → S3 7 0 = nI r → (∀ i, i < k → S3 5 i = nI (po j i)) → KeepG 9 M M3 → V p l e (rmOf 2 0 0) s m ([.ref a, .int (nI r), .int xi] : List Value).toArray below meth c (MQ below (Qp G b (pI (fun y M1 => match (some j) with | none => y = -1 ∧ ∃ S1, MdAt G M1 a ad S1 ∧ Ag [7] S S1 ∧ KeepG 9 M M1 | some j => y = nI (6 + po j 5) ∧ ∃ S1, MdAt G M1 a ad S1 ∧ Ag [5, 6, 7] S S1 ∧ LnV S1 (6 + po j 5) (po j) ∧ KeepG 9 M M1))) ([.ref a, .int (nI r), .int xi] : List Value).toArray s 0 0 (fun q => b ≤ q)) G b 5 0 0 43 [some (.ref a), some (.int (nI r)), some (.int xi), some (.int (nI j)), some (.int (nI k))] [] M3 := by
        refine up_ind (6 + po j 5) ?_
        intro k hk ih M3 S3 hS3 hA3 h63 hme3 h53 hK3
        have hV3 := hV.ag (hA3 0 (by decide)) (hA3 1 (by decide)) (hA3 2 (by decide))
        obtain ⟨hmva, hmv0, hmv1, hmv2, hmv3, hmv4, hmv5, hmv8, hmv9, hmv10, hmv11⟩ := id hS3
        rw [hme3] at hmva
        rw [h63] at hmva
        refine V_iload C dX3_emit_43 rfl ?_
        refine V_aload_n C dX3_emit_45 rfl rfl ?_
        refine V_get (C0 := RX3) (T := TX3) (N := 12) (ci := 3) C 6 in_X3 rfl hmva (by decide) q827 (fun _ h9 => h9) rfl dX3_emit_46 ?_
        refine V_nicmp_ge (x := k) (y := 6 + po j 5) C 72 dX3_emit_49 (by decide) (by omega) (by omega) (fun q49 => ?_) (fun q49 => ?_)
        · refine V_aload_n C dX3_emit_72 rfl rfl ?_
          refine V_get (C0 := RX3) (T := TX3) (N := 12) (ci := 3) C 6 in_X3 rfl hmva (by decide) q827 (fun _ h9 => h9) rfl dX3_emit_73 ?_
          exact V_iret C dX3_emit_76 (by decide) (by decide) ⟨_, rfl, rfl, S3, hS3, hA3, ⟨by omega, h63, fun i hi => h53 i (by omega), fun i => hV.2.2.2.2.2.1 j i⟩, hK3⟩
        · refine V_aload_n C dX3_emit_52 rfl rfl ?_
          refine V_get (C0 := RX3) (T := TX3) (N := 12) (ci := 3) C 5 in_X3 rfl hmva (by decide) q826 (fun _ h9 => h9) rfl dX3_emit_53 ?_
          refine V_iload C dX3_emit_56 rfl ?_
          refine V_aload_n C dX3_emit_58 rfl rfl ?_
          refine V_iload_n C dX3_emit_59 rfl rfl ?_
          refine V_iload C dX3_emit_60 rfl ?_
          refine V_ofIe (VR_V (As := [.int (nI j), .int (nI k)]) (rest := [.int (nI k), .ref (ad 5)]) C (ct_X3_part l G b M3 a ad S3 r n po ap hS3 hme3 hV3 j k (by omega) (by omega)) hmva rfl (lw_V q875 q877 qs11 q46 q878) rfl nd_X3_part rfl (by decide) (by decide) dX3_emit_62 rfl ⟨by decide, by decide⟩ (Nat.le_of_ble_eq_true rfl)) ?_
          have hp62 := hV3.2.2.2.2.2.1 j k
          refine V_M (V_iast C hmv5 (pk_in k 16 (by omega)) dX3_emit_65) (fun M__12 eM__12 => ?_)
          rw [nI_clamp (n := k) (by omega)] at eM__12
          have h__13 := mp_got eM__12
          have h__14 := mp_keep eM__12 hmva hmv5 (by first | assumption | exact Ne.symm (by assumption) | simp | (intro h; simp at h; omega))
          have h__15 := mp_keep eM__12 hmv0 hmv5 (by first | assumption | exact Ne.symm (by assumption) | simp | (intro h; simp at h; omega))
          have h__16 := mp_keep eM__12 hmv1 hmv5 (by first | assumption | exact Ne.symm (by assumption) | simp | (intro h; simp at h; omega))
          have h__17 := mp_keep eM__12 hmv2 hmv5 (by first | assumption | exact Ne.symm (by assumption) | simp | (intro h; simp at h; omega))
          have h__18 := mp_keep eM__12 hmv3 hmv5 (by first | assumption | exact Ne.symm (by assumption) | simp | (intro h; simp at h; omega))
          have h__19 := mp_keep eM__12 hmv4 hmv5 (by first | assumption | exact Ne.symm (by assumption) | simp | (intro h; simp at h; omega))
          have h__20 := mp_keep eM__12 hmv8 hmv5 (by first | assumption | exact Ne.symm (by assumption) | simp | (intro h; simp at h; omega))
          have h__21 := mp_keep eM__12 hmv9 hmv5 (by first | assumption | exact Ne.symm (by assumption) | simp | (intro h; simp at h; omega))
          have h__22 := mp_keep eM__12 hmv10 hmv5 (by first | assumption | exact Ne.symm (by assumption) | simp | (intro h; simp at h; omega))
          have h__23 := mp_keep eM__12 hmv11 hmv5 (by first | assumption | exact Ne.symm (by assumption) | simp | (intro h; simp at h; omega))
          refine V_iinc (v := (nI (k + 1))) (L' := [some (.ref a), some (.int (nI r)), some (.int xi), some (.int (nI j)), some (.int (nI (k + 1)))]) C dX3_emit_66 rfl (nI_1 _) (by decide) rfl ?_
          refine V_goto C 43 dX3_emit_69 (by decide) ?_
          obtain ⟨hS4, hK4⟩ := md_f5 hS3 eM__12
          refine V_sub ?_ (ih (by omega) _ _ hS4 (hA3.tr (Ag.f (by decide))) h63 hme3 (fun i hi => ?_) (hK3.tr hK4))
          · repeat' (first | exact ls_e | refine ls_n ?_ | refine ls_s ?_ | refine ls_i ?_ ?_ | refine ls_v ?_ ?_)
          · rw [sF_eq]; unfold upd; split; (rename_i z; rw [z]); (rename_i z; exact h53 i (by omega))
      refine V_sub ?_ (loop 0 (Nat.zero_le _) _ _ hS2 ((Ag.f (by decide)).tr (Ag.f (by decide))) rfl rfl (fun i hi => absurd hi (Nat.not_lt_zero _)) (hK1.tr hK2))
      repeat' (first | exact ls_e | refine ls_n ?_ | refine ls_s ?_ | refine ls_i ?_ ?_ | refine ls_v ?_ ?_)
      all_goals rfl
    refine V_aload_n C dX3_emit_14 rfl rfl ?_
    refine V_iload_n C dX3_emit_15 rfl rfl ?_
    refine V_iconst C 0 dX3_emit_16 (by decide) ?_
    refine V_ofIe (VR_V (As := [.int xi, .int 0]) (rest := []) C (ct_X3_find l G b M1 a ad _ r n po ap hS1 hme1 hV1 xi false) hmua rfl (lw_V q883 q885 qs13 q46 q886) rfl nd_X3_find rfl (by decide) (by decide) dX3_emit_17 rfl ⟨by decide, by decide⟩ (Nat.le_of_ble_eq_true rfl)) ?_
    rcases o17 : mfind n po ap xi false with _ | j17
    · refine V_top (y := -1) rfl ?_
      refine V_istore_n (L' := [some (.ref a), some (.int (nI r)), some (.int xi), some (.int (-1)), none]) C dX3_emit_20 rfl (by decide) rfl ?_
      refine V_iload_n C dX3_emit_21 rfl rfl ?_
      refine V_if_ge C 27 dX3_emit_22 (by decide) (fun h => absurd h (by decide)) (fun _ => ?_)
      refine V_iconst C (-1) dX3_emit_25 (by decide) ?_
      exact V_iret C dX3_emit_26 (by decide) (by decide) ⟨_, rfl, rfl, _, hS1, Ag.f (by decide), hK1⟩
    · have hj17 := (lastI_some o17).1
      have hk17 := hV.2.2.2.2.1 j17 hj17
      refine V_top (y := nI j17) rfl ?_
      refine V_istore_n (L' := [some (.ref a), some (.int (nI r)), some (.int xi), some (.int (nI j17)), none]) C dX3_emit_20 rfl (by decide) rfl ?_
      refine V_iload_n C dX3_emit_21 rfl rfl ?_
      refine V_if_ge C 27 dX3_emit_22 (by decide) (fun _ => ?_) (fun h => absurd (nI_pos' (n := j17) (by omega)) h)
      refine V_aload_n C dX3_emit_27 rfl rfl ?_
      refine V_bipush C 6 dX3_emit_28 (by decide) ?_
      refine V_aload_n C dX3_emit_30 rfl rfl ?_
      refine V_iload_n C dX3_emit_31 rfl rfl ?_
      refine V_iconst C 5 dX3_emit_32 (by decide) ?_
      refine V_ofIe (VR_V (As := [.int (nI j17), .int 5]) (rest := [.int 6, .ref a]) C (ct_X3_part l G b M1 a ad (sF S 7 (fun _ => nI r)) r n po ap hS1 hme1 hV1 j17 5 (by omega) (by omega)) hmua rfl (lw_V q875 q877 qs11 q46 q878) rfl nd_X3_part rfl (by decide) (by decide) dX3_emit_33 rfl ⟨by decide, by decide⟩ (Nat.le_of_ble_eq_true rfl)) ?_
      have hp33 := hV1.2.2.2.2.2.1 j17 5
      refine V_iadd C dX3_emit_36 ?_
      refine V_top (y := (nI (6 + (po j17 5)))) (nI_add 6 (po j17 5)) ?_
      refine V_M (V_put (host := "") (C0 := RX3) (T := TX3) (N := 12) (ci := 3) (fs' := [.ref (ad 0), .ref (ad 1), .ref (ad 2), .ref (ad 3), .ref (ad 4), .ref (ad 5), .int (nI (6 + (po j17 5))), .int (nI r), .ref (ad 8), .ref (ad 9), .ref (ad 10), .ref (ad 11)]) C 6 in_X3 tyX3 tyX3_ok nmX3 rfl hmua (by decide) q827 (fun _ h9 => h9) rfl rfl rfl rfl (Nat.le_of_ble_eq_true rfl) rfl dX3_emit_37) (fun M__24 eM__24 => ?_)
      have h__25 := mp_got eM__24
      have h__26 := mp_keep eM__24 hmu0 hmua (by first | assumption | exact Ne.symm (by assumption) | simp | (intro h; simp at h; omega))
      have h__27 := mp_keep eM__24 hmu1 hmua (by first | assumption | exact Ne.symm (by assumption) | simp | (intro h; simp at h; omega))
      have h__28 := mp_keep eM__24 hmu2 hmua (by first | assumption | exact Ne.symm (by assumption) | simp | (intro h; simp at h; omega))
      have h__29 := mp_keep eM__24 hmu3 hmua (by first | assumption | exact Ne.symm (by assumption) | simp | (intro h; simp at h; omega))
      have h__30 := mp_keep eM__24 hmu4 hmua (by first | assumption | exact Ne.symm (by assumption) | simp | (intro h; simp at h; omega))
      have h__31 := mp_keep eM__24 hmu5 hmua (by first | assumption | exact Ne.symm (by assumption) | simp | (intro h; simp at h; omega))
      have h__32 := mp_keep eM__24 hmu8 hmua (by first | assumption | exact Ne.symm (by assumption) | simp | (intro h; simp at h; omega))
      have h__33 := mp_keep eM__24 hmu9 hmua (by first | assumption | exact Ne.symm (by assumption) | simp | (intro h; simp at h; omega))
      have h__34 := mp_keep eM__24 hmu10 hmua (by first | assumption | exact Ne.symm (by assumption) | simp | (intro h; simp at h; omega))
      have h__35 := mp_keep eM__24 hmu11 hmua (by first | assumption | exact Ne.symm (by assumption) | simp | (intro h; simp at h; omega))
      obtain ⟨hS2, hK2⟩ := md_f6 hS1 hme1 eM__24
      exact mid j17 hj17 hk17 o17 hS2 hK2
  · exact absurd (isRep_t hr) (by rw [h]; decide)

