set_option maxRecDepth 100000
/-! THE COMPONENT, J: the document's questions -/
def DocAt (G : mp_G) (M : mp_M) (dx ra wa da : Nat) (rp : Nat → Nat) : Prop := M dx = some ((7, 0, 0), .inr (0, [.ref ra, .ref wa, .ref da])) ∧ M ra = some ((7, 1, 0), .inl (G.2.1 5, 3, .inr (.inr (.inr (.inr (fun r => if r ≤ 2 then some (rp r) else none))))))
def isIdI (x : Int32) : Bool := decide (¬ x < 4) && decide (x < 163) && decide (¬ x - x / 4 * 4 = 3)
theorem isIdI_n {v : Nat} (h : v < 256) : isIdI (nI v) = isIdB v := by
  unfold isIdI isIdB
  have e1 : (nI v < 4) ↔ v < 4 := nI_ltI (b := 4) (by omega) (by decide)
  have e2 : (nI v < 163) ↔ v < 163 := nI_ltI (b := 163) (by omega) (by decide)
  have e3 : (nI v - nI v / 4 * 4 = 3) ↔ v % 4 = 3 := by
    rw [show nI v - nI v / 4 * 4 = nI (v % 4) from pk_rem (a := v) (d := 4) (by omega) (by decide) (by decide)]
    exact nI_eq (b := 3) (by omega) (by decide)
  rw [show decide (¬ nI v < 4) = decide (4 ≤ v) from decide_eq_decide.mpr (by rw [e1]; omega), show decide (nI v < 163) = decide (v ≤ 162) from decide_eq_decide.mpr (by rw [e2]; omega), show decide (¬ nI v - nI v / 4 * 4 = 3) = decide (v % 4 ≠ 3) from decide_eq_decide.mpr (by rw [e3])]
theorem isIdI_a {x : Int32} (h : x < 4) : isIdI x = false := by unfold isIdI; rw [decide_eq_false (fun z => z h)]; rfl
theorem isIdI_b {x : Int32} (h : 163 ≤ x) : isIdI x = false := by unfold isIdI; rw [decide_eq_false (p := x < 163) (Int32.not_lt.mpr h)]; simp
theorem isIdI_c {x : Int32} (h : x - x / 4 * 4 = 3) : isIdI x = false := by unfold isIdI; rw [decide_eq_false (p := ¬ x - x / 4 * 4 = 3) (fun z => z h)]; simp
theorem isIdI_t {x : Int32} (h : ¬ x < 4) (h2 : ¬ 163 ≤ x) (h3 : ¬ x - x / 4 * 4 = 3) : isIdI x = true := by unfold isIdI; rw [decide_eq_true h, decide_eq_true (p := x < 163) (Int32.not_le.mp h2), decide_eq_true h3]; rfl
theorem ct_X0_isId (l : Launch) (G : mp_G) (b : Nat) (M : mp_M) (x : Int32) : Ct l yX0_isId cX0_isId 1 (some .boolean) 0 0 0 G b ([.int x] : List Value) M (pI (fun y M1 => y = bI (isIdI x) ∧ M1 = M)) := by
  refine Ct.ofV (by decide) (vc_int vc_nil) (Nat.le_of_ble_eq_true rfl) ?_
  intro p e s m below meth c C hnm
  refine V_L (L1 := [some (.int x)]) rfl ?_
  refine V_iload_n C dX0_isId_0 rfl rfl ?_
  refine V_iconst C 4 dX0_isId_1 (by decide) ?_
  refine V_icmp_lt C 23 dX0_isId_2 (by decide) (fun k2 => ?_) (fun k2 => ?_)
  · refine V_iconst C 0 dX0_isId_23 (by decide) ?_
    exact V_zret C rfl dX0_isId_24 (by decide) (by decide) ⟨_, rfl, by first | exact bt (isIdI_t k2 k9 k16) | exact bf (isIdI_c k16) | exact bf (isIdI_b k9) | exact bf (isIdI_a k2), rfl⟩
  · refine V_iload_n C dX0_isId_5 rfl rfl ?_
    refine V_sipush C 163 dX0_isId_6 (by decide) ?_
    refine V_icmp_ge C 23 dX0_isId_9 (by decide) (fun k9 => ?_) (fun k9 => ?_)
    · refine V_iconst C 0 dX0_isId_23 (by decide) ?_
      exact V_zret C rfl dX0_isId_24 (by decide) (by decide) ⟨_, rfl, by first | exact bt (isIdI_t k2 k9 k16) | exact bf (isIdI_c k16) | exact bf (isIdI_b k9) | exact bf (isIdI_a k2), rfl⟩
    · refine V_iload_n C dX0_isId_12 rfl rfl ?_
      refine V_iconst C 4 dX0_isId_13 (by decide) ?_
      refine V_irem C dX0_isId_14 (by decide) ?_
      refine V_iconst C 3 dX0_isId_15 (by decide) ?_
      refine V_icmp_eq C 23 dX0_isId_16 (by decide) (fun k16 => ?_) (fun k16 => ?_)
      · refine V_iconst C 0 dX0_isId_23 (by decide) ?_
        exact V_zret C rfl dX0_isId_24 (by decide) (by decide) ⟨_, rfl, by first | exact bt (isIdI_t k2 k9 k16) | exact bf (isIdI_c k16) | exact bf (isIdI_b k9) | exact bf (isIdI_a k2), rfl⟩
      · refine V_iconst C 1 dX0_isId_19 (by decide) ?_
        refine V_goto C 24 dX0_isId_20 (by decide) ?_
        exact V_zret C rfl dX0_isId_24 (by decide) (by decide) ⟨_, rfl, by first | exact bt (isIdI_t k2 k9 k16) | exact bf (isIdI_c k16) | exact bf (isIdI_b k9) | exact bf (isIdI_a k2), rfl⟩
def isKeyI (x : Int32) : Bool := decide (¬ x < 0) && decide (x ≤ 3)
theorem isKeyI_a {x : Int32} (h : x < 0) : isKeyI x = false := by unfold isKeyI; rw [decide_eq_false (fun z => z h)]; rfl
theorem isKeyI_b {x : Int32} (h : 3 < x) : isKeyI x = false := by unfold isKeyI; rw [decide_eq_false (p := x ≤ 3) (Int32.not_le.mpr h)]; simp
theorem isKeyI_t {x : Int32} (h : ¬ x < 0) (h2 : ¬ 3 < x) : isKeyI x = true := by unfold isKeyI; rw [decide_eq_true h, decide_eq_true (p := x ≤ 3) (Int32.not_lt.mp h2)]; rfl
theorem ct_X0_isKey (l : Launch) (G : mp_G) (b : Nat) (M : mp_M) (x : Int32) : Ct l yX0_isKey cX0_isKey 1 (some .boolean) 0 0 0 G b ([.int x] : List Value) M (pI (fun y M1 => y = bI (isKeyI x) ∧ M1 = M)) := by
  refine Ct.ofV (by decide) (vc_int vc_nil) (Nat.le_of_ble_eq_true rfl) ?_
  intro p e s m below meth c C hnm
  refine V_L (L1 := [some (.int x)]) rfl ?_
  refine V_iload_n C dX0_isKey_0 rfl rfl ?_
  refine V_if_lt C 13 dX0_isKey_1 (by decide) (fun k1 => ?_) (fun k1 => ?_)
  · refine V_iconst C 0 dX0_isKey_13 (by decide) ?_
    exact V_zret C rfl dX0_isKey_14 (by decide) (by decide) ⟨_, rfl, by first | exact bt (isKeyI_t k1 k6) | exact bf (isKeyI_b k6) | exact bf (isKeyI_a k1), rfl⟩
  · refine V_iload_n C dX0_isKey_4 rfl rfl ?_
    refine V_iconst C 3 dX0_isKey_5 (by decide) ?_
    refine V_icmp_gt C 13 dX0_isKey_6 (by decide) (fun k6 => ?_) (fun k6 => ?_)
    · refine V_iconst C 0 dX0_isKey_13 (by decide) ?_
      exact V_zret C rfl dX0_isKey_14 (by decide) (by decide) ⟨_, rfl, by first | exact bt (isKeyI_t k1 k6) | exact bf (isKeyI_b k6) | exact bf (isKeyI_a k1), rfl⟩
    · refine V_iconst C 1 dX0_isKey_9 (by decide) ?_
      refine V_goto C 14 dX0_isKey_10 (by decide) ?_
      exact V_zret C rfl dX0_isKey_14 (by decide) (by decide) ⟨_, rfl, by first | exact bt (isKeyI_t k1 k6) | exact bf (isKeyI_b k6) | exact bf (isKeyI_a k1), rfl⟩
def shI (kd tg sl vl : Int32) : Bool :=
  if kd = 0 then (decide (tg = 0) || isIdI tg) && isKeyI sl && decide (¬ vl < 0) && decide (¬ 99 < vl)
  else if kd = 1 ∨ kd = 2 ∨ kd = 5 then (decide (tg = 0) || isIdI tg) && isKeyI sl && decide (vl = 0)
  else if kd = 3 then isIdI tg && (decide (sl = 0) || isIdI sl) && decide (¬ vl < 0) && decide (¬ 99 < vl)
  else if kd = 4 then isIdI tg && decide (sl = 0) && decide (vl = 0)
  else false
theorem ct_X0_wellShaped (l : Launch) (G : mp_G) (b : Nat) (M : mp_M) (kd tg sl vl : Int32) : Ct l yX0_wellShaped cX0_wellShaped 4 (some .boolean) 1 0 0 G b ([.int kd, .int tg, .int sl, .int vl] : List Value) M (pI (fun y M1 => y = bI (shI kd tg sl vl) ∧ M1 = M)) := by
  refine Ct.ofV (by decide) (vc_int (vc_int (vc_int (vc_int vc_nil)))) (Nat.le_of_ble_eq_true rfl) ?_
  intro p e s m below meth c C hnm
  refine V_L (L1 := [some (.int kd), some (.int tg), some (.int sl), some (.int vl)]) rfl ?_
  refine V_iload_n C dX0_wellShaped_0 rfl rfl ?_
  by_cases h6 : ¬ kd < 0 ∧ kd ≤ 5
  · rcases kd_6 h6.1 h6.2 with e | e | e | e | e | e
    · skip
      refine V_top (y := 0) e ?_
      refine V_tableIn (off := 39) C 40 dX0_wellShaped_1 (by decide) (by decide) (by decide) (by decide) ?_
      refine V_iload_n C dX0_wellShaped_40 rfl rfl ?_
      refine V_if_eq C 51 dX0_wellShaped_41 (by decide) (fun k41 => ?_) (fun k41 => ?_)
      · refine V_iload_n C dX0_wellShaped_51 rfl rfl ?_
        refine V_ofIe (VR_S (As := [.int sl]) (rest := []) C (ct_X0_isKey l G b M sl) (lw_S q185 q186 q36 q187) nd_X0_isKey rfl (by decide) (by decide) dX0_wellShaped_52 rfl ⟨by decide, by decide⟩ (Nat.le_of_ble_eq_true rfl)) ?_
        refine V_ifb_eq C 72 dX0_wellShaped_55 (by decide) (fun k55 => ?_) (fun k55 => ?_)
        · refine V_iconst C 0 dX0_wellShaped_72 (by decide) ?_
          exact V_zret C rfl dX0_wellShaped_73 (by decide) (by decide) ⟨_, rfl, by rw [e]; unfold shI; rw [if_pos rfl]; first | (refine bt ?_; simp [*]; done) | (refine bf ?_; simp [*]; done), rfl⟩
        · refine V_iload_n C dX0_wellShaped_58 rfl rfl ?_
          refine V_if_lt C 72 dX0_wellShaped_59 (by decide) (fun k59 => ?_) (fun k59 => ?_)
          · refine V_iconst C 0 dX0_wellShaped_72 (by decide) ?_
            exact V_zret C rfl dX0_wellShaped_73 (by decide) (by decide) ⟨_, rfl, by rw [e]; unfold shI; rw [if_pos rfl]; first | (refine bt ?_; simp [*]; done) | (refine bf ?_; simp [*]; done), rfl⟩
          · refine V_iload_n C dX0_wellShaped_62 rfl rfl ?_
            refine V_bipush C 99 dX0_wellShaped_63 (by decide) ?_
            refine V_icmp_gt C 72 dX0_wellShaped_65 (by decide) (fun k65 => ?_) (fun k65 => ?_)
            · refine V_iconst C 0 dX0_wellShaped_72 (by decide) ?_
              exact V_zret C rfl dX0_wellShaped_73 (by decide) (by decide) ⟨_, rfl, by rw [e]; unfold shI; rw [if_pos rfl]; first | (refine bt ?_; simp [*]; done) | (refine bf ?_; simp [*]; done), rfl⟩
            · refine V_iconst C 1 dX0_wellShaped_68 (by decide) ?_
              refine V_goto C 73 dX0_wellShaped_69 (by decide) ?_
              exact V_zret C rfl dX0_wellShaped_73 (by decide) (by decide) ⟨_, rfl, by rw [e]; unfold shI; rw [if_pos rfl]; first | (refine bt ?_; simp [*]; done) | (refine bf ?_; simp [*]; done), rfl⟩
      · refine V_iload_n C dX0_wellShaped_44 rfl rfl ?_
        refine V_ofIe (VR_S (As := [.int tg]) (rest := []) C (ct_X0_isId l G b M tg) (lw_S q182 q183 q36 q184) nd_X0_isId rfl (by decide) (by decide) dX0_wellShaped_45 rfl ⟨by decide, by decide⟩ (Nat.le_of_ble_eq_true rfl)) ?_
        refine V_ifb_eq C 72 dX0_wellShaped_48 (by decide) (fun k48 => ?_) (fun k48 => ?_)
        · refine V_iconst C 0 dX0_wellShaped_72 (by decide) ?_
          exact V_zret C rfl dX0_wellShaped_73 (by decide) (by decide) ⟨_, rfl, by rw [e]; unfold shI; rw [if_pos rfl]; first | (refine bt ?_; simp [*]; done) | (refine bf ?_; simp [*]; done), rfl⟩
        · refine V_iload_n C dX0_wellShaped_51 rfl rfl ?_
          refine V_ofIe (VR_S (As := [.int sl]) (rest := []) C (ct_X0_isKey l G b M sl) (lw_S q185 q186 q36 q187) nd_X0_isKey rfl (by decide) (by decide) dX0_wellShaped_52 rfl ⟨by decide, by decide⟩ (Nat.le_of_ble_eq_true rfl)) ?_
          refine V_ifb_eq C 72 dX0_wellShaped_55 (by decide) (fun k55 => ?_) (fun k55 => ?_)
          · refine V_iconst C 0 dX0_wellShaped_72 (by decide) ?_
            exact V_zret C rfl dX0_wellShaped_73 (by decide) (by decide) ⟨_, rfl, by rw [e]; unfold shI; rw [if_pos rfl]; first | (refine bt ?_; simp [*]; done) | (refine bf ?_; simp [*]; done), rfl⟩
          · refine V_iload_n C dX0_wellShaped_58 rfl rfl ?_
            refine V_if_lt C 72 dX0_wellShaped_59 (by decide) (fun k59 => ?_) (fun k59 => ?_)
            · refine V_iconst C 0 dX0_wellShaped_72 (by decide) ?_
              exact V_zret C rfl dX0_wellShaped_73 (by decide) (by decide) ⟨_, rfl, by rw [e]; unfold shI; rw [if_pos rfl]; first | (refine bt ?_; simp [*]; done) | (refine bf ?_; simp [*]; done), rfl⟩
            · refine V_iload_n C dX0_wellShaped_62 rfl rfl ?_
              refine V_bipush C 99 dX0_wellShaped_63 (by decide) ?_
              refine V_icmp_gt C 72 dX0_wellShaped_65 (by decide) (fun k65 => ?_) (fun k65 => ?_)
              · refine V_iconst C 0 dX0_wellShaped_72 (by decide) ?_
                exact V_zret C rfl dX0_wellShaped_73 (by decide) (by decide) ⟨_, rfl, by rw [e]; unfold shI; rw [if_pos rfl]; first | (refine bt ?_; simp [*]; done) | (refine bf ?_; simp [*]; done), rfl⟩
              · refine V_iconst C 1 dX0_wellShaped_68 (by decide) ?_
                refine V_goto C 73 dX0_wellShaped_69 (by decide) ?_
                exact V_zret C rfl dX0_wellShaped_73 (by decide) (by decide) ⟨_, rfl, by rw [e]; unfold shI; rw [if_pos rfl]; first | (refine bt ?_; simp [*]; done) | (refine bf ?_; simp [*]; done), rfl⟩
    · skip
      refine V_top (y := 1) e ?_
      refine V_tableIn (off := 73) C 74 dX0_wellShaped_1 (by decide) (by decide) (by decide) (by decide) ?_
      refine V_iload_n C dX0_wellShaped_74 rfl rfl ?_
      refine V_if_eq C 85 dX0_wellShaped_75 (by decide) (fun k75 => ?_) (fun k75 => ?_)
      · refine V_iload_n C dX0_wellShaped_85 rfl rfl ?_
        refine V_ofIe (VR_S (As := [.int sl]) (rest := []) C (ct_X0_isKey l G b M sl) (lw_S q185 q186 q36 q187) nd_X0_isKey rfl (by decide) (by decide) dX0_wellShaped_86 rfl ⟨by decide, by decide⟩ (Nat.le_of_ble_eq_true rfl)) ?_
        refine V_ifb_eq C 100 dX0_wellShaped_89 (by decide) (fun k89 => ?_) (fun k89 => ?_)
        · refine V_iconst C 0 dX0_wellShaped_100 (by decide) ?_
          exact V_zret C rfl dX0_wellShaped_101 (by decide) (by decide) ⟨_, rfl, by rw [e]; unfold shI; rw [if_neg (by decide), if_pos (by decide)]; first | (refine bt ?_; simp [*]; done) | (refine bf ?_; simp [*]; done), rfl⟩
        · refine V_iload_n C dX0_wellShaped_92 rfl rfl ?_
          refine V_if_ne C 100 dX0_wellShaped_93 (by decide) (fun k93 => ?_) (fun k93 => ?_)
          · refine V_iconst C 0 dX0_wellShaped_100 (by decide) ?_
            exact V_zret C rfl dX0_wellShaped_101 (by decide) (by decide) ⟨_, rfl, by rw [e]; unfold shI; rw [if_neg (by decide), if_pos (by decide)]; first | (refine bt ?_; simp [*]; done) | (refine bf ?_; simp [*]; done), rfl⟩
          · refine V_iconst C 1 dX0_wellShaped_96 (by decide) ?_
            refine V_goto C 101 dX0_wellShaped_97 (by decide) ?_
            exact V_zret C rfl dX0_wellShaped_101 (by decide) (by decide) ⟨_, rfl, by rw [e]; unfold shI; rw [if_neg (by decide), if_pos (by decide)]; first | (refine bt ?_; simp [*]; done) | (refine bf ?_; simp [*]; done), rfl⟩
      · refine V_iload_n C dX0_wellShaped_78 rfl rfl ?_
        refine V_ofIe (VR_S (As := [.int tg]) (rest := []) C (ct_X0_isId l G b M tg) (lw_S q182 q183 q36 q184) nd_X0_isId rfl (by decide) (by decide) dX0_wellShaped_79 rfl ⟨by decide, by decide⟩ (Nat.le_of_ble_eq_true rfl)) ?_
        refine V_ifb_eq C 100 dX0_wellShaped_82 (by decide) (fun k82 => ?_) (fun k82 => ?_)
        · refine V_iconst C 0 dX0_wellShaped_100 (by decide) ?_
          exact V_zret C rfl dX0_wellShaped_101 (by decide) (by decide) ⟨_, rfl, by rw [e]; unfold shI; rw [if_neg (by decide), if_pos (by decide)]; first | (refine bt ?_; simp [*]; done) | (refine bf ?_; simp [*]; done), rfl⟩
        · refine V_iload_n C dX0_wellShaped_85 rfl rfl ?_
          refine V_ofIe (VR_S (As := [.int sl]) (rest := []) C (ct_X0_isKey l G b M sl) (lw_S q185 q186 q36 q187) nd_X0_isKey rfl (by decide) (by decide) dX0_wellShaped_86 rfl ⟨by decide, by decide⟩ (Nat.le_of_ble_eq_true rfl)) ?_
          refine V_ifb_eq C 100 dX0_wellShaped_89 (by decide) (fun k89 => ?_) (fun k89 => ?_)
          · refine V_iconst C 0 dX0_wellShaped_100 (by decide) ?_
            exact V_zret C rfl dX0_wellShaped_101 (by decide) (by decide) ⟨_, rfl, by rw [e]; unfold shI; rw [if_neg (by decide), if_pos (by decide)]; first | (refine bt ?_; simp [*]; done) | (refine bf ?_; simp [*]; done), rfl⟩
          · refine V_iload_n C dX0_wellShaped_92 rfl rfl ?_
            refine V_if_ne C 100 dX0_wellShaped_93 (by decide) (fun k93 => ?_) (fun k93 => ?_)
            · refine V_iconst C 0 dX0_wellShaped_100 (by decide) ?_
              exact V_zret C rfl dX0_wellShaped_101 (by decide) (by decide) ⟨_, rfl, by rw [e]; unfold shI; rw [if_neg (by decide), if_pos (by decide)]; first | (refine bt ?_; simp [*]; done) | (refine bf ?_; simp [*]; done), rfl⟩
            · refine V_iconst C 1 dX0_wellShaped_96 (by decide) ?_
              refine V_goto C 101 dX0_wellShaped_97 (by decide) ?_
              exact V_zret C rfl dX0_wellShaped_101 (by decide) (by decide) ⟨_, rfl, by rw [e]; unfold shI; rw [if_neg (by decide), if_pos (by decide)]; first | (refine bt ?_; simp [*]; done) | (refine bf ?_; simp [*]; done), rfl⟩
    · skip
      refine V_top (y := 2) e ?_
      refine V_tableIn (off := 73) C 74 dX0_wellShaped_1 (by decide) (by decide) (by decide) (by decide) ?_
      refine V_iload_n C dX0_wellShaped_74 rfl rfl ?_
      refine V_if_eq C 85 dX0_wellShaped_75 (by decide) (fun k75 => ?_) (fun k75 => ?_)
      · refine V_iload_n C dX0_wellShaped_85 rfl rfl ?_
        refine V_ofIe (VR_S (As := [.int sl]) (rest := []) C (ct_X0_isKey l G b M sl) (lw_S q185 q186 q36 q187) nd_X0_isKey rfl (by decide) (by decide) dX0_wellShaped_86 rfl ⟨by decide, by decide⟩ (Nat.le_of_ble_eq_true rfl)) ?_
        refine V_ifb_eq C 100 dX0_wellShaped_89 (by decide) (fun k89 => ?_) (fun k89 => ?_)
        · refine V_iconst C 0 dX0_wellShaped_100 (by decide) ?_
          exact V_zret C rfl dX0_wellShaped_101 (by decide) (by decide) ⟨_, rfl, by rw [e]; unfold shI; rw [if_neg (by decide), if_pos (by decide)]; first | (refine bt ?_; simp [*]; done) | (refine bf ?_; simp [*]; done), rfl⟩
        · refine V_iload_n C dX0_wellShaped_92 rfl rfl ?_
          refine V_if_ne C 100 dX0_wellShaped_93 (by decide) (fun k93 => ?_) (fun k93 => ?_)
          · refine V_iconst C 0 dX0_wellShaped_100 (by decide) ?_
            exact V_zret C rfl dX0_wellShaped_101 (by decide) (by decide) ⟨_, rfl, by rw [e]; unfold shI; rw [if_neg (by decide), if_pos (by decide)]; first | (refine bt ?_; simp [*]; done) | (refine bf ?_; simp [*]; done), rfl⟩
          · refine V_iconst C 1 dX0_wellShaped_96 (by decide) ?_
            refine V_goto C 101 dX0_wellShaped_97 (by decide) ?_
            exact V_zret C rfl dX0_wellShaped_101 (by decide) (by decide) ⟨_, rfl, by rw [e]; unfold shI; rw [if_neg (by decide), if_pos (by decide)]; first | (refine bt ?_; simp [*]; done) | (refine bf ?_; simp [*]; done), rfl⟩
      · refine V_iload_n C dX0_wellShaped_78 rfl rfl ?_
        refine V_ofIe (VR_S (As := [.int tg]) (rest := []) C (ct_X0_isId l G b M tg) (lw_S q182 q183 q36 q184) nd_X0_isId rfl (by decide) (by decide) dX0_wellShaped_79 rfl ⟨by decide, by decide⟩ (Nat.le_of_ble_eq_true rfl)) ?_
        refine V_ifb_eq C 100 dX0_wellShaped_82 (by decide) (fun k82 => ?_) (fun k82 => ?_)
        · refine V_iconst C 0 dX0_wellShaped_100 (by decide) ?_
          exact V_zret C rfl dX0_wellShaped_101 (by decide) (by decide) ⟨_, rfl, by rw [e]; unfold shI; rw [if_neg (by decide), if_pos (by decide)]; first | (refine bt ?_; simp [*]; done) | (refine bf ?_; simp [*]; done), rfl⟩
        · refine V_iload_n C dX0_wellShaped_85 rfl rfl ?_
          refine V_ofIe (VR_S (As := [.int sl]) (rest := []) C (ct_X0_isKey l G b M sl) (lw_S q185 q186 q36 q187) nd_X0_isKey rfl (by decide) (by decide) dX0_wellShaped_86 rfl ⟨by decide, by decide⟩ (Nat.le_of_ble_eq_true rfl)) ?_
          refine V_ifb_eq C 100 dX0_wellShaped_89 (by decide) (fun k89 => ?_) (fun k89 => ?_)
          · refine V_iconst C 0 dX0_wellShaped_100 (by decide) ?_
            exact V_zret C rfl dX0_wellShaped_101 (by decide) (by decide) ⟨_, rfl, by rw [e]; unfold shI; rw [if_neg (by decide), if_pos (by decide)]; first | (refine bt ?_; simp [*]; done) | (refine bf ?_; simp [*]; done), rfl⟩
          · refine V_iload_n C dX0_wellShaped_92 rfl rfl ?_
            refine V_if_ne C 100 dX0_wellShaped_93 (by decide) (fun k93 => ?_) (fun k93 => ?_)
            · refine V_iconst C 0 dX0_wellShaped_100 (by decide) ?_
              exact V_zret C rfl dX0_wellShaped_101 (by decide) (by decide) ⟨_, rfl, by rw [e]; unfold shI; rw [if_neg (by decide), if_pos (by decide)]; first | (refine bt ?_; simp [*]; done) | (refine bf ?_; simp [*]; done), rfl⟩
            · refine V_iconst C 1 dX0_wellShaped_96 (by decide) ?_
              refine V_goto C 101 dX0_wellShaped_97 (by decide) ?_
              exact V_zret C rfl dX0_wellShaped_101 (by decide) (by decide) ⟨_, rfl, by rw [e]; unfold shI; rw [if_neg (by decide), if_pos (by decide)]; first | (refine bt ?_; simp [*]; done) | (refine bf ?_; simp [*]; done), rfl⟩
    · skip
      refine V_top (y := 3) e ?_
      refine V_tableIn (off := 101) C 102 dX0_wellShaped_1 (by decide) (by decide) (by decide) (by decide) ?_
      refine V_iload_n C dX0_wellShaped_102 rfl rfl ?_
      refine V_ofIe (VR_S (As := [.int tg]) (rest := []) C (ct_X0_isId l G b M tg) (lw_S q182 q183 q36 q184) nd_X0_isId rfl (by decide) (by decide) dX0_wellShaped_103 rfl ⟨by decide, by decide⟩ (Nat.le_of_ble_eq_true rfl)) ?_
      refine V_ifb_eq C 134 dX0_wellShaped_106 (by decide) (fun k106 => ?_) (fun k106 => ?_)
      · refine V_iconst C 0 dX0_wellShaped_134 (by decide) ?_
        exact V_zret C rfl dX0_wellShaped_135 (by decide) (by decide) ⟨_, rfl, by rw [e]; unfold shI; rw [if_neg (by decide), if_neg (by decide), if_pos rfl]; first | (refine bt ?_; simp [*]; done) | (refine bf ?_; simp [*]; done), rfl⟩
      · refine V_iload_n C dX0_wellShaped_109 rfl rfl ?_
        refine V_if_eq C 120 dX0_wellShaped_110 (by decide) (fun k110 => ?_) (fun k110 => ?_)
        · refine V_iload_n C dX0_wellShaped_120 rfl rfl ?_
          refine V_if_lt C 134 dX0_wellShaped_121 (by decide) (fun k121 => ?_) (fun k121 => ?_)
          · refine V_iconst C 0 dX0_wellShaped_134 (by decide) ?_
            exact V_zret C rfl dX0_wellShaped_135 (by decide) (by decide) ⟨_, rfl, by rw [e]; unfold shI; rw [if_neg (by decide), if_neg (by decide), if_pos rfl]; first | (refine bt ?_; simp [*]; done) | (refine bf ?_; simp [*]; done), rfl⟩
          · refine V_iload_n C dX0_wellShaped_124 rfl rfl ?_
            refine V_bipush C 99 dX0_wellShaped_125 (by decide) ?_
            refine V_icmp_gt C 134 dX0_wellShaped_127 (by decide) (fun k127 => ?_) (fun k127 => ?_)
            · refine V_iconst C 0 dX0_wellShaped_134 (by decide) ?_
              exact V_zret C rfl dX0_wellShaped_135 (by decide) (by decide) ⟨_, rfl, by rw [e]; unfold shI; rw [if_neg (by decide), if_neg (by decide), if_pos rfl]; first | (refine bt ?_; simp [*]; done) | (refine bf ?_; simp [*]; done), rfl⟩
            · refine V_iconst C 1 dX0_wellShaped_130 (by decide) ?_
              refine V_goto C 135 dX0_wellShaped_131 (by decide) ?_
              exact V_zret C rfl dX0_wellShaped_135 (by decide) (by decide) ⟨_, rfl, by rw [e]; unfold shI; rw [if_neg (by decide), if_neg (by decide), if_pos rfl]; first | (refine bt ?_; simp [*]; done) | (refine bf ?_; simp [*]; done), rfl⟩
        · refine V_iload_n C dX0_wellShaped_113 rfl rfl ?_
          refine V_ofIe (VR_S (As := [.int sl]) (rest := []) C (ct_X0_isId l G b M sl) (lw_S q182 q183 q36 q184) nd_X0_isId rfl (by decide) (by decide) dX0_wellShaped_114 rfl ⟨by decide, by decide⟩ (Nat.le_of_ble_eq_true rfl)) ?_
          refine V_ifb_eq C 134 dX0_wellShaped_117 (by decide) (fun k117 => ?_) (fun k117 => ?_)
          · refine V_iconst C 0 dX0_wellShaped_134 (by decide) ?_
            exact V_zret C rfl dX0_wellShaped_135 (by decide) (by decide) ⟨_, rfl, by rw [e]; unfold shI; rw [if_neg (by decide), if_neg (by decide), if_pos rfl]; first | (refine bt ?_; simp [*]; done) | (refine bf ?_; simp [*]; done), rfl⟩
          · refine V_iload_n C dX0_wellShaped_120 rfl rfl ?_
            refine V_if_lt C 134 dX0_wellShaped_121 (by decide) (fun k121 => ?_) (fun k121 => ?_)
            · refine V_iconst C 0 dX0_wellShaped_134 (by decide) ?_
              exact V_zret C rfl dX0_wellShaped_135 (by decide) (by decide) ⟨_, rfl, by rw [e]; unfold shI; rw [if_neg (by decide), if_neg (by decide), if_pos rfl]; first | (refine bt ?_; simp [*]; done) | (refine bf ?_; simp [*]; done), rfl⟩
            · refine V_iload_n C dX0_wellShaped_124 rfl rfl ?_
              refine V_bipush C 99 dX0_wellShaped_125 (by decide) ?_
              refine V_icmp_gt C 134 dX0_wellShaped_127 (by decide) (fun k127 => ?_) (fun k127 => ?_)
              · refine V_iconst C 0 dX0_wellShaped_134 (by decide) ?_
                exact V_zret C rfl dX0_wellShaped_135 (by decide) (by decide) ⟨_, rfl, by rw [e]; unfold shI; rw [if_neg (by decide), if_neg (by decide), if_pos rfl]; first | (refine bt ?_; simp [*]; done) | (refine bf ?_; simp [*]; done), rfl⟩
              · refine V_iconst C 1 dX0_wellShaped_130 (by decide) ?_
                refine V_goto C 135 dX0_wellShaped_131 (by decide) ?_
                exact V_zret C rfl dX0_wellShaped_135 (by decide) (by decide) ⟨_, rfl, by rw [e]; unfold shI; rw [if_neg (by decide), if_neg (by decide), if_pos rfl]; first | (refine bt ?_; simp [*]; done) | (refine bf ?_; simp [*]; done), rfl⟩
    · skip
      refine V_top (y := 4) e ?_
      refine V_tableIn (off := 135) C 136 dX0_wellShaped_1 (by decide) (by decide) (by decide) (by decide) ?_
      refine V_iload_n C dX0_wellShaped_136 rfl rfl ?_
      refine V_ofIe (VR_S (As := [.int tg]) (rest := []) C (ct_X0_isId l G b M tg) (lw_S q182 q183 q36 q184) nd_X0_isId rfl (by decide) (by decide) dX0_wellShaped_137 rfl ⟨by decide, by decide⟩ (Nat.le_of_ble_eq_true rfl)) ?_
      refine V_ifb_eq C 155 dX0_wellShaped_140 (by decide) (fun k140 => ?_) (fun k140 => ?_)
      · refine V_iconst C 0 dX0_wellShaped_155 (by decide) ?_
        exact V_zret C rfl dX0_wellShaped_156 (by decide) (by decide) ⟨_, rfl, by rw [e]; unfold shI; rw [if_neg (by decide), if_neg (by decide), if_neg (by decide), if_pos rfl]; first | (refine bt ?_; simp [*]; done) | (refine bf ?_; simp [*]; done), rfl⟩
      · refine V_iload_n C dX0_wellShaped_143 rfl rfl ?_
        refine V_if_ne C 155 dX0_wellShaped_144 (by decide) (fun k144 => ?_) (fun k144 => ?_)
        · refine V_iconst C 0 dX0_wellShaped_155 (by decide) ?_
          exact V_zret C rfl dX0_wellShaped_156 (by decide) (by decide) ⟨_, rfl, by rw [e]; unfold shI; rw [if_neg (by decide), if_neg (by decide), if_neg (by decide), if_pos rfl]; first | (refine bt ?_; simp [*]; done) | (refine bf ?_; simp [*]; done), rfl⟩
        · refine V_iload_n C dX0_wellShaped_147 rfl rfl ?_
          refine V_if_ne C 155 dX0_wellShaped_148 (by decide) (fun k148 => ?_) (fun k148 => ?_)
          · refine V_iconst C 0 dX0_wellShaped_155 (by decide) ?_
            exact V_zret C rfl dX0_wellShaped_156 (by decide) (by decide) ⟨_, rfl, by rw [e]; unfold shI; rw [if_neg (by decide), if_neg (by decide), if_neg (by decide), if_pos rfl]; first | (refine bt ?_; simp [*]; done) | (refine bf ?_; simp [*]; done), rfl⟩
          · refine V_iconst C 1 dX0_wellShaped_151 (by decide) ?_
            refine V_goto C 156 dX0_wellShaped_152 (by decide) ?_
            exact V_zret C rfl dX0_wellShaped_156 (by decide) (by decide) ⟨_, rfl, by rw [e]; unfold shI; rw [if_neg (by decide), if_neg (by decide), if_neg (by decide), if_pos rfl]; first | (refine bt ?_; simp [*]; done) | (refine bf ?_; simp [*]; done), rfl⟩
    · skip
      refine V_top (y := 5) e ?_
      refine V_tableIn (off := 73) C 74 dX0_wellShaped_1 (by decide) (by decide) (by decide) (by decide) ?_
      refine V_iload_n C dX0_wellShaped_74 rfl rfl ?_
      refine V_if_eq C 85 dX0_wellShaped_75 (by decide) (fun k75 => ?_) (fun k75 => ?_)
      · refine V_iload_n C dX0_wellShaped_85 rfl rfl ?_
        refine V_ofIe (VR_S (As := [.int sl]) (rest := []) C (ct_X0_isKey l G b M sl) (lw_S q185 q186 q36 q187) nd_X0_isKey rfl (by decide) (by decide) dX0_wellShaped_86 rfl ⟨by decide, by decide⟩ (Nat.le_of_ble_eq_true rfl)) ?_
        refine V_ifb_eq C 100 dX0_wellShaped_89 (by decide) (fun k89 => ?_) (fun k89 => ?_)
        · refine V_iconst C 0 dX0_wellShaped_100 (by decide) ?_
          exact V_zret C rfl dX0_wellShaped_101 (by decide) (by decide) ⟨_, rfl, by rw [e]; unfold shI; rw [if_neg (by decide), if_pos (by decide)]; first | (refine bt ?_; simp [*]; done) | (refine bf ?_; simp [*]; done), rfl⟩
        · refine V_iload_n C dX0_wellShaped_92 rfl rfl ?_
          refine V_if_ne C 100 dX0_wellShaped_93 (by decide) (fun k93 => ?_) (fun k93 => ?_)
          · refine V_iconst C 0 dX0_wellShaped_100 (by decide) ?_
            exact V_zret C rfl dX0_wellShaped_101 (by decide) (by decide) ⟨_, rfl, by rw [e]; unfold shI; rw [if_neg (by decide), if_pos (by decide)]; first | (refine bt ?_; simp [*]; done) | (refine bf ?_; simp [*]; done), rfl⟩
          · refine V_iconst C 1 dX0_wellShaped_96 (by decide) ?_
            refine V_goto C 101 dX0_wellShaped_97 (by decide) ?_
            exact V_zret C rfl dX0_wellShaped_101 (by decide) (by decide) ⟨_, rfl, by rw [e]; unfold shI; rw [if_neg (by decide), if_pos (by decide)]; first | (refine bt ?_; simp [*]; done) | (refine bf ?_; simp [*]; done), rfl⟩
      · refine V_iload_n C dX0_wellShaped_78 rfl rfl ?_
        refine V_ofIe (VR_S (As := [.int tg]) (rest := []) C (ct_X0_isId l G b M tg) (lw_S q182 q183 q36 q184) nd_X0_isId rfl (by decide) (by decide) dX0_wellShaped_79 rfl ⟨by decide, by decide⟩ (Nat.le_of_ble_eq_true rfl)) ?_
        refine V_ifb_eq C 100 dX0_wellShaped_82 (by decide) (fun k82 => ?_) (fun k82 => ?_)
        · refine V_iconst C 0 dX0_wellShaped_100 (by decide) ?_
          exact V_zret C rfl dX0_wellShaped_101 (by decide) (by decide) ⟨_, rfl, by rw [e]; unfold shI; rw [if_neg (by decide), if_pos (by decide)]; first | (refine bt ?_; simp [*]; done) | (refine bf ?_; simp [*]; done), rfl⟩
        · refine V_iload_n C dX0_wellShaped_85 rfl rfl ?_
          refine V_ofIe (VR_S (As := [.int sl]) (rest := []) C (ct_X0_isKey l G b M sl) (lw_S q185 q186 q36 q187) nd_X0_isKey rfl (by decide) (by decide) dX0_wellShaped_86 rfl ⟨by decide, by decide⟩ (Nat.le_of_ble_eq_true rfl)) ?_
          refine V_ifb_eq C 100 dX0_wellShaped_89 (by decide) (fun k89 => ?_) (fun k89 => ?_)
          · refine V_iconst C 0 dX0_wellShaped_100 (by decide) ?_
            exact V_zret C rfl dX0_wellShaped_101 (by decide) (by decide) ⟨_, rfl, by rw [e]; unfold shI; rw [if_neg (by decide), if_pos (by decide)]; first | (refine bt ?_; simp [*]; done) | (refine bf ?_; simp [*]; done), rfl⟩
          · refine V_iload_n C dX0_wellShaped_92 rfl rfl ?_
            refine V_if_ne C 100 dX0_wellShaped_93 (by decide) (fun k93 => ?_) (fun k93 => ?_)
            · refine V_iconst C 0 dX0_wellShaped_100 (by decide) ?_
              exact V_zret C rfl dX0_wellShaped_101 (by decide) (by decide) ⟨_, rfl, by rw [e]; unfold shI; rw [if_neg (by decide), if_pos (by decide)]; first | (refine bt ?_; simp [*]; done) | (refine bf ?_; simp [*]; done), rfl⟩
            · refine V_iconst C 1 dX0_wellShaped_96 (by decide) ?_
              refine V_goto C 101 dX0_wellShaped_97 (by decide) ?_
              exact V_zret C rfl dX0_wellShaped_101 (by decide) (by decide) ⟨_, rfl, by rw [e]; unfold shI; rw [if_neg (by decide), if_pos (by decide)]; first | (refine bt ?_; simp [*]; done) | (refine bf ?_; simp [*]; done), rfl⟩
  · skip
    have ho : kd.toInt < 0 ∨ 5 < kd.toInt := by
      by_cases z : kd < 0
      · left; rw [Int32.lt_iff_toInt_lt] at z; exact z
      · right
        have z2 : ¬ kd ≤ 5 := fun w => h6 ⟨z, w⟩
        rw [Int32.le_iff_toInt_le] at z2
        have : (5 : Int32).toInt = 5 := by decide
        omega
    refine V_tableOut C 157 dX0_wellShaped_1 ho (by decide) ?_
    refine V_iconst C 0 dX0_wellShaped_157 (by decide) ?_
    exact V_zret C rfl dX0_wellShaped_158 (by decide) (by decide) ⟨_, rfl, by unfold shI; rw [if_neg (fun z => h6 (by rw [z]; decide)), if_neg (fun z => h6 (by rcases z with z | z | z <;> (rw [z]; decide))), if_neg (fun z => h6 (by rw [z]; decide)), if_neg (fun z => h6 (by rw [z]; decide))]; rfl, rfl⟩
theorem shI_n {k t s v : Nat} (hk : k < 256) (ht : t < 256) (hs : s < 256) (hv : v < 256) : shI (nI k) (nI t) (nI s) (nI v) = (decide (k ≤ 5) && shB k t s v) := by
  have ek : ∀ j : Nat, j < 6 → (nI k = nI j ↔ k = j) := fun j hj => nI_eq (by omega) (by omega)
  have e0 := ek 0 (by decide)
  have e1 := ek 1 (by decide)
  have e2 := ek 2 (by decide)
  have e3 := ek 3 (by decide)
  have e4 := ek 4 (by decide)
  have e5 := ek 5 (by decide)
  have z0 : ∀ x : Nat, x < 256 → (nI x = 0 ↔ x = 0) := fun x hx => nI_eq (b := 0) (by omega) (by decide)
  have zl : ∀ x : Nat, x < 256 → ¬ nI x < 0 := fun x hx => nI_pos (by omega)
  have z99 : (99 < nI v) ↔ 99 < v := nI_ltI (a := 99) (by decide) (by omega)
  have z3 : (nI s ≤ 3) ↔ s ≤ 3 := nI_leI (b := 3) (by omega) (by decide)
  unfold shI shB isKeyI
  rw [isIdI_n ht, isIdI_n hs]
  change nI k = 0 ↔ k = 0 at e0
  change nI k = 1 ↔ k = 1 at e1
  change nI k = 2 ↔ k = 2 at e2
  change nI k = 3 ↔ k = 3 at e3
  change nI k = 4 ↔ k = 4 at e4
  change nI k = 5 ↔ k = 5 at e5
  simp only [e0, e1, e2, e3, e4, e5, z0 t ht, z0 s hs, z0 v hv, z3, z99, zl v hv, zl s hs, not_false_eq_true, decide_true, Bool.true_and, Bool.and_true]
  by_cases k0 : k = 0
  · subst k0; simp; cases isIdB t <;> simp <;> (try omega) <;> by_cases q1 : t = 0 <;> by_cases q2 : s ≤ 3 <;> by_cases q3 : v ≤ 99 <;> simp [*] <;> omega
  · by_cases k1 : k = 1 ∨ k = 2 ∨ k = 5
    · rw [if_neg k0, if_pos k1]
      have : k ≤ 5 ∧ k ≠ 3 ∧ k ≠ 4 := by omega
      simp [this.1, this.2.1, this.2.2, k0]
      by_cases q1 : t = 0 <;> by_cases q2 : s ≤ 3 <;> by_cases q3 : v = 0 <;> cases isIdB t <;> simp [*]
    · by_cases k3 : k = 3
      · subst k3; simp; by_cases q2 : s = 0 <;> by_cases q3 : v ≤ 99 <;> cases isIdB t <;> cases isIdB s <;> simp [*] <;> omega
      · by_cases k4 : k = 4
        · subst k4; simp; by_cases q2 : s = 0 <;> by_cases q3 : v = 0 <;> cases isIdB t <;> simp [*]
        · rw [if_neg k0, if_neg k1, if_neg k3, if_neg k4]
          have : ¬ k ≤ 5 := by omega
          simp [this]

