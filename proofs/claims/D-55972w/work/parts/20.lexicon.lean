/-! Lexicon -/
set_option maxRecDepth 100000
theorem gx_fu_s {f g : Nat → Int} {k z : Nat} (h : ∀ j, j < k → f j = g j) (hz : z = k) : ∀ j, j < k + 1 → gx_fu f z (g z) j = g j := by
  intro j hj
  unfold gx_fu
  by_cases ej : j = z
  · rw [if_pos ej, ej]
  · rw [if_neg ej]
    exact h j (by omega)
section LEX
variable {l : Launch} {D : gx_D} {T G Y : gx_H} {nx : Nat} {a : Nat} {S : gs_S}
theorem m_X3_init {γ : Nat → gs_G} (h : G a (gx_O 2 fdX3)) (ha : nx = a + 1) : gx_Met l yX3_init (ws_ yX3_init cX3_init 1 none) 2 2 16 D (fun q => q = a) T G nx [.ref a] (fun w G' nx' => w = none ∧ nx' = nx + 2 ∧ gx_lx D G' a (0, 0, fun _ => 0, fun _ => 0, γ)) gx_no := by
  subst ha
  refine gx_start (by decide) (Nat.le_of_ble_eq_true rfl) rfl (fun p e s m args below meth c hC hlt => ?_)
  refine gx_aload_n hC dX3_init_0 rfl rfl (by first | rfl | exact gx_isr_rf _ | exact gx_isr_rn _) ?_
  refine gx_oinit hC q151 q137 q138 dX3_init_1 (Nat.le_of_ble_eq_true rfl) (Nat.le_of_ble_eq_true rfl) ?_
  refine gx_aload_n hC dX3_init_4 rfl rfl (by first | rfl | exact gx_isr_rf _ | exact gx_isr_rn _) ?_
  refine gx_bipush hC dX3_init_5 rfl ?_
  refine gx_newa hC (atype := .int) (t := 0) (ty := .int) (N := 8) (x := (8, .inl (fun _ => iz 0))) q169 rfl rfl rfl (fun _ => rfl) dX3_init_7 (by first | rfl | omega) (by first | decide | omega) ?_
  refine gx_putF hC (C := RX3) (Tf := TX3) (N := 4) (ci := 2) (k := 0) rfl in_X3 (by decide) tyX3 tyX3_ok nmX3 q152 (fun _ h9 => h9) rfl rfl rfl dX3_init_9 (by first | exact gx_us | assumption | (repeat (first | exact gx_us | assumption | refine gx_un (by omega) ?_))) (by first | exact Or.inl rfl | exact Or.inl (Or.inl rfl) | exact Or.inl (Or.inr rfl) | exact Or.inr (by omega) | assumption | (simp only [gx_A, *]; omega)) (Nat.le_of_ble_eq_true rfl) (by first | rfl | (unfold gx_rn; split <;> rfl) | (cases ‹Option Nat› <;> rfl) | simp [narrow]) (by first | rfl | (unfold gx_rn; split <;> rfl) | (cases ‹Option Nat› <;> rfl) | simp [fits]) ?_
  refine gx_aload_n hC dX3_init_12 rfl rfl (by first | rfl | exact gx_isr_rf _ | exact gx_isr_rn _) ?_
  refine gx_bipush hC dX3_init_13 rfl ?_
  refine gx_newa hC (atype := .int) (t := 0) (ty := .int) (N := 8) (x := (8, .inl (fun _ => iz 0))) q169 rfl rfl rfl (fun _ => rfl) dX3_init_15 (by first | rfl | omega) (by first | decide | omega) ?_
  refine gx_putF hC (C := RX3) (Tf := TX3) (N := 4) (ci := 2) (k := 1) rfl in_X3 (by decide) tyX3 tyX3_ok nmX3 q153 (fun _ h9 => h9) rfl rfl rfl dX3_init_17 (by first | exact gx_us | assumption | (repeat (first | exact gx_us | assumption | refine gx_un (by omega) ?_))) (by first | exact Or.inl rfl | exact Or.inl (Or.inl rfl) | exact Or.inl (Or.inr rfl) | exact Or.inr (by omega) | assumption | (simp only [gx_A, *]; omega)) (Nat.le_of_ble_eq_true rfl) (by first | rfl | (unfold gx_rn; split <;> rfl) | (cases ‹Option Nat› <;> rfl) | simp [narrow]) (by first | rfl | (unfold gx_rn; split <;> rfl) | (cases ‹Option Nat› <;> rfl) | simp [fits]) ?_
  exact gx_vret hC rfl rfl rfl dX3_init_20 (fun G' hG => ⟨rfl, rfl, hG _ _ gx_us, ⟨_, hG _ _ (gx_un (by omega) (gx_un (by omega) (gx_un (by omega) gx_us))), fun _ _ => rfl⟩, ⟨_, hG _ _ (gx_un (by omega) gx_us), fun _ _ => rfl⟩⟩)
theorem m_X3_gender {i : Int} (h : gx_lx D (gx_TG T G) a S) (hi : gx_rg i) (hn : 0 ≤ S.nn ∧ S.nn ≤ 8) : gx_Met l yX3_gender (ws_ yX3_gender cX3_gender 2 (some .int)) 12 1 6 D gx_M0 T G nx [.ref a, .int (iz i)] (fun w G' nx' => w = some (.int (iz (S.nf i.toNat))) ∧ nx' = nx ∧ (0 ≤ i ∧ i < S.nn)) (fun E _ _ _ => E = gx_IOB ∧ ¬ (0 ≤ i ∧ i < S.nn)) := by
  obtain ⟨h1, ⟨f, h2, h3⟩, -⟩ := h
  refine gx_start (by decide) (Nat.le_of_ble_eq_true rfl) rfl (fun p e s m args below meth c hC hlt => ?_)
  refine gx_iload_n hC dX3_gender_0 rfl rfl ?_
  refine gx_aload_n hC dX3_gender_1 rfl rfl (by first | rfl | exact gx_isr_rf _ | exact gx_isr_rn _) ?_
  refine gx_get hC (C := RX3) (Tf := TX3) (N := 4) (ci := 2) (k := 2) rfl in_X3 (by decide) q154 (fun _ h9 => h9) dX3_gender_2 (by repeat (first | assumption | exact Or.inr gx_us | exact Or.inr (by assumption) | exact Or.inl (by assumption) | refine gx_tu (by omega) ?_)) rfl ?_
  refine gx_callSN (nA := 2) hC (m_X1_checkIndex (i := i) (n := S.nn) hi (by unfold gx_rg; omega) (by omega)) (lw_meth q1012) q76 q1010 q1011 (by decide +kernel) dX3_gender_5 rfl ⟨Nat.le_of_ble_eq_true rfl, Nat.le_of_ble_eq_true rfl⟩ gx_in.id0 rfl (by first | exact Nat.le_of_ble_eq_true rfl | simp [gx_cat_rf, Value.category]) (fun E9 q9 G9 nx9 hp9 hf9 hle9 hlt9 => gx_out hC rfl rfl (by first | (intro x9 h9; cases h9) | decide) (fun G' hG => hp9)) (fun v2 G2 nx2 hp hf hle hlt2 => ?_)
  obtain ⟨hi2, rfl, rfl⟩ := hp
  have k1 := h1.imp id (fun h => hf _ _ h (fun q => q))
  have k2 := h2.imp id (fun h => hf _ _ h (fun q => q))
  refine gx_aload_n hC dX3_gender_8 rfl rfl (by first | rfl | exact gx_isr_rf _ | exact gx_isr_rn _) ?_
  refine gx_get hC (C := RX3) (Tf := TX3) (N := 4) (ci := 2) (k := 0) rfl in_X3 (by decide) q152 (fun _ h9 => h9) dX3_gender_9 (by repeat (first | assumption | exact Or.inr gx_us | exact Or.inr (by assumption) | exact Or.inl (by assumption) | refine gx_tu (by omega) ?_)) rfl ?_
  refine gx_iload_n hC dX3_gender_12 rfl rfl ?_
  refine gx_iald hC (t := 0) rfl dX3_gender_13 (by repeat (first | assumption | exact Or.inr gx_us | exact Or.inr (by assumption) | exact Or.inl (by assumption) | refine gx_tu (by omega) ?_)) (by omega) ?_
  rw [h3 _ (by omega)]
  exact gx_iret hC rfl rfl rfl dX3_gender_14 (fun G' hG => ⟨rfl, rfl, hi2⟩)
theorem m_X3_objectCase {i : Int} (h : gx_lx D (gx_TG T G) a S) (hi : gx_rg i) (hn : 0 ≤ S.vn ∧ S.vn ≤ 8) : gx_Met l yX3_objectCase (ws_ yX3_objectCase cX3_objectCase 2 (some .int)) 12 1 6 D gx_M0 T G nx [.ref a, .int (iz i)] (fun w G' nx' => w = some (.int (iz (S.vf i.toNat))) ∧ nx' = nx ∧ (0 ≤ i ∧ i < S.vn)) (fun E _ _ _ => E = gx_IOB ∧ ¬ (0 ≤ i ∧ i < S.vn)) := by
  obtain ⟨h1, -, ⟨f, h2, h3⟩⟩ := h
  refine gx_start (by decide) (Nat.le_of_ble_eq_true rfl) rfl (fun p e s m args below meth c hC hlt => ?_)
  refine gx_iload_n hC dX3_objectCase_0 rfl rfl ?_
  refine gx_aload_n hC dX3_objectCase_1 rfl rfl (by first | rfl | exact gx_isr_rf _ | exact gx_isr_rn _) ?_
  refine gx_get hC (C := RX3) (Tf := TX3) (N := 4) (ci := 2) (k := 3) rfl in_X3 (by decide) q157 (fun _ h9 => h9) dX3_objectCase_2 (by repeat (first | assumption | exact Or.inr gx_us | exact Or.inr (by assumption) | exact Or.inl (by assumption) | refine gx_tu (by omega) ?_)) rfl ?_
  refine gx_callSN (nA := 2) hC (m_X1_checkIndex (i := i) (n := S.vn) hi (by unfold gx_rg; omega) (by omega)) (lw_meth q1012) q76 q1010 q1011 (by decide +kernel) dX3_objectCase_5 rfl ⟨Nat.le_of_ble_eq_true rfl, Nat.le_of_ble_eq_true rfl⟩ gx_in.id0 rfl (by first | exact Nat.le_of_ble_eq_true rfl | simp [gx_cat_rf, Value.category]) (fun E9 q9 G9 nx9 hp9 hf9 hle9 hlt9 => gx_out hC rfl rfl (by first | (intro x9 h9; cases h9) | decide) (fun G' hG => hp9)) (fun v2 G2 nx2 hp hf hle hlt2 => ?_)
  obtain ⟨hi2, rfl, rfl⟩ := hp
  have k1 := h1.imp id (fun h => hf _ _ h (fun q => q))
  have k2 := h2.imp id (fun h => hf _ _ h (fun q => q))
  refine gx_aload_n hC dX3_objectCase_8 rfl rfl (by first | rfl | exact gx_isr_rf _ | exact gx_isr_rn _) ?_
  refine gx_get hC (C := RX3) (Tf := TX3) (N := 4) (ci := 2) (k := 1) rfl in_X3 (by decide) q153 (fun _ h9 => h9) dX3_objectCase_9 (by repeat (first | assumption | exact Or.inr gx_us | exact Or.inr (by assumption) | exact Or.inl (by assumption) | refine gx_tu (by omega) ?_)) rfl ?_
  refine gx_iload_n hC dX3_objectCase_12 rfl rfl ?_
  refine gx_iald hC (t := 0) rfl dX3_objectCase_13 (by repeat (first | assumption | exact Or.inr gx_us | exact Or.inr (by assumption) | exact Or.inl (by assumption) | refine gx_tu (by omega) ?_)) (by omega) ?_
  rw [h3 _ (by omega)]
  exact gx_iret hC rfl rfl rfl dX3_objectCase_14 (fun G' hG => ⟨rfl, rfl, hi2⟩)
theorem gx_ia.fu {D : gx_D} {X : gx_H} {a n : Nat} {F f : Nat → Int} {k : Nat} {x : Int} (h : ∀ j, j < n → f j = F j) (hX : X a (gx_I D 0 n (gx_fu f k x))) : gx_ia D X a n (gx_fu F k x) := ⟨_, hX, fun j hj => by unfold gx_fu; split <;> first | rfl | exact h j hj⟩
theorem m_X3_addNoun {i : Int} (h : gx_lx D G a S) (hi : gx_rg i) (hn : 0 ≤ S.nn ∧ S.nn ≤ 8) : gx_Met l yX3_addNoun (ws_ yX3_addNoun cX3_addNoun 2 (some .int)) 12 2 12 D (gx_gM a) T G nx [.ref a, .int (iz i)] (fun w G' nx' => w = some (.int (iz S.nn)) ∧ nx' = nx ∧ (0 ≤ i ∧ i ≤ 2) ∧ S.nn < 8 ∧ gx_lx D G' a (S.nn + 1, S.vn, gx_fu S.nf S.nn.toNat i, S.vf, S.gt)) (fun E _ _ _ => (E = gx_IAE ∧ ¬ (0 ≤ i ∧ i ≤ 2)) ∨ (E = gx_ISE ∧ (0 ≤ i ∧ i ≤ 2) ∧ S.nn = 8)) := by
  obtain ⟨h1, ⟨f, h2, h3⟩, ⟨f4, h4, h5⟩⟩ := h
  refine gx_start (by decide) (Nat.le_of_ble_eq_true rfl) rfl (fun p e s m args below meth c hC hlt => ?_)
  refine gx_iload_n hC dX3_addNoun_0 rfl rfl ?_
  refine gx_iconst hC dX3_addNoun_1 ?_
  refine gx_iconst hC dX3_addNoun_2 ?_
  refine gx_callSN (nA := 3) hC (m_X1_isBetween (v := i) (lo := 0) (hi := 2) hi (by unfold gx_rg; omega) (by unfold gx_rg; omega)) (lw_meth q1015) q76 q1577 q1014 (by decide +kernel) dX3_addNoun_3 rfl ⟨Nat.le_of_ble_eq_true rfl, Nat.le_of_ble_eq_true rfl⟩ gx_in.id0 rfl (by first | exact Nat.le_of_ble_eq_true rfl | simp [gx_cat_rf, Value.category]) gx_kno (gx_kp1 ?_)
  refine gx_callSN (nA := 1) hC (m_X1_checkArgument gx_bR) (lw_meth q1580) q76 q1578 q1579 (by decide +kernel) dX3_addNoun_6 rfl ⟨Nat.le_of_ble_eq_true rfl, Nat.le_of_ble_eq_true rfl⟩ gx_in.id0 rfl (by first | exact Nat.le_of_ble_eq_true rfl | simp [gx_cat_rf, Value.category]) (fun E9 q9 G9 nx9 hp9 hf9 hle9 hlt9 => gx_out hC rfl rfl (by first | (intro x9 h9; cases h9) | decide) (fun G' hG => (Or.inl ⟨hp9.1, gx_be.mp hp9.2⟩))) (fun v2 G2 nx2 hp hf hle hlt2 => ?_)
  obtain ⟨hi2, rfl, rfl⟩ := hp
  rw [gx_bn] at hi2
  have k1 := hf _ _ h1 (fun q => q)
  have k2 := hf _ _ h2 (fun q => q)
  have k4 := hf _ _ h4 (fun q => q)
  refine gx_aload_n hC dX3_addNoun_9 rfl rfl (by first | rfl | exact gx_isr_rf _ | exact gx_isr_rn _) ?_
  refine gx_get hC (C := RX3) (Tf := TX3) (N := 4) (ci := 2) (k := 2) rfl in_X3 (by decide) q154 (fun _ h9 => h9) dX3_addNoun_10 (by repeat (first | assumption | exact Or.inr gx_us | exact Or.inr (by assumption) | exact Or.inl (by assumption) | refine gx_tu (by omega) ?_)) rfl ?_
  refine gx_bipush hC dX3_addNoun_13 rfl ?_
  refine gx_icmp_ge hC dX3_addNoun_15 (tgt := 22) (by decide) (by unfold gx_rg; omega) (by unfold gx_rg; omega) (fun c15 => ?_) (fun c15 => ?_)
  · refine gx_iconst hC dX3_addNoun_22 ?_
    refine gx_callSN (nA := 1) hC (m_X1_checkState (b := 0) gx_rg0) (lw_meth q1588) q76 q1586 q1587 (by decide +kernel) dX3_addNoun_23 rfl ⟨Nat.le_of_ble_eq_true rfl, Nat.le_of_ble_eq_true rfl⟩ gx_in.id0 rfl (by first | exact Nat.le_of_ble_eq_true rfl | simp [gx_cat_rf, Value.category]) (fun E9 q9 G9 nx9 hp9 hf9 hle9 hlt9 => gx_out hC rfl rfl (by first | (intro x9 h9; cases h9) | decide) (fun G' hG => (Or.inr ⟨hp9.1, hi2, by omega⟩))) (fun v3 G3 nx3 hp hf3 hle3 hlt3 => ?_)
    exact absurd rfl hp.1
  · refine gx_iconst hC dX3_addNoun_18 ?_
    refine gx_goto hC dX3_addNoun_19 (tgt := 23) (by decide) ?_
    refine gx_callSN (nA := 1) hC (m_X1_checkState (b := 1) (by unfold gx_rg; omega)) (lw_meth q1588) q76 q1586 q1587 (by decide +kernel) dX3_addNoun_23 rfl ⟨Nat.le_of_ble_eq_true rfl, Nat.le_of_ble_eq_true rfl⟩ gx_in.id0 rfl (by first | exact Nat.le_of_ble_eq_true rfl | simp [gx_cat_rf, Value.category]) (fun E9 q9 G9 nx9 hp9 hf9 hle9 hlt9 => gx_out hC rfl rfl (by first | (intro x9 h9; cases h9) | decide) (fun G' hG => (by have := hp9.2; omega))) (fun v3 G3 nx3 hp hf3 hle3 hlt3 => ?_)
    obtain ⟨-, rfl, rfl⟩ := hp
    have q1 := hf3 _ _ k1 (fun q => q)
    have q2 := hf3 _ _ k2 (fun q => q)
    have q4 := hf3 _ _ k4 (fun q => q)
    refine gx_aload_n hC dX3_addNoun_26 rfl rfl (by first | rfl | exact gx_isr_rf _ | exact gx_isr_rn _) ?_
    refine gx_get hC (C := RX3) (Tf := TX3) (N := 4) (ci := 2) (k := 0) rfl in_X3 (by decide) q152 (fun _ h9 => h9) dX3_addNoun_27 (by repeat (first | assumption | exact Or.inr gx_us | exact Or.inr (by assumption) | exact Or.inl (by assumption) | refine gx_tu (by omega) ?_)) rfl ?_
    refine gx_aload_n hC dX3_addNoun_30 rfl rfl (by first | rfl | exact gx_isr_rf _ | exact gx_isr_rn _) ?_
    refine gx_get hC (C := RX3) (Tf := TX3) (N := 4) (ci := 2) (k := 2) rfl in_X3 (by decide) q154 (fun _ h9 => h9) dX3_addNoun_31 (by repeat (first | assumption | exact Or.inr gx_us | exact Or.inr (by assumption) | exact Or.inl (by assumption) | refine gx_tu (by omega) ?_)) rfl ?_
    refine gx_iload_n hC dX3_addNoun_34 rfl rfl ?_
    refine gx_iast hC (t := 0) rfl dX3_addNoun_35 (by first | exact gx_us | assumption | (repeat (first | exact gx_us | assumption | refine gx_un (by omega) ?_))) (by exact Or.inl ⟨by omega, by omega⟩) (by omega) ?_
    refine gx_aload_n hC dX3_addNoun_36 rfl rfl (by first | rfl | exact gx_isr_rf _ | exact gx_isr_rn _) ?_
    refine gx_dup hC dX3_addNoun_37 (by first | rfl | exact gx_cat_rf _ | exact gx_cat_rn _) ?_
    refine gx_get hC (C := RX3) (Tf := TX3) (N := 4) (ci := 2) (k := 2) rfl in_X3 (by decide) q154 (fun _ h9 => h9) dX3_addNoun_38 (by repeat (first | assumption | exact Or.inr gx_us | exact Or.inr (by assumption) | exact Or.inl (by assumption) | refine gx_tu (by omega) ?_)) rfl ?_
    refine gx_iconst hC dX3_addNoun_41 ?_
    refine gx_iadd hC dX3_addNoun_42 ?_
    refine gx_put hC (C := RX3) (Tf := TX3) (N := 4) (ci := 2) (k := 2) rfl in_X3 (by decide) tyX3 tyX3_ok nmX3 q154 (fun _ h9 => h9) rfl dX3_addNoun_43 (by first | exact gx_us | assumption | (repeat (first | exact gx_us | assumption | refine gx_un (by omega) ?_))) (by exact Or.inl ⟨by omega, by omega⟩) (Nat.le_of_ble_eq_true rfl) (by first | rfl | (unfold gx_rn; split <;> rfl) | (cases ‹Option Nat› <;> rfl) | simp [narrow]) (by first | rfl | (unfold gx_rn; split <;> rfl) | (cases ‹Option Nat› <;> rfl) | simp [fits]) ?_
    refine gx_aload_n hC dX3_addNoun_46 rfl rfl (by first | rfl | exact gx_isr_rf _ | exact gx_isr_rn _) ?_
    refine gx_get hC (C := RX3) (Tf := TX3) (N := 4) (ci := 2) (k := 2) rfl in_X3 (by decide) q154 (fun _ h9 => h9) dX3_addNoun_47 (by repeat (first | assumption | exact Or.inr gx_us | exact Or.inr (by assumption) | exact Or.inl (by assumption) | refine gx_tu (by omega) ?_)) rfl ?_
    refine gx_iconst hC dX3_addNoun_50 ?_
    refine gx_isub hC dX3_addNoun_51 ?_
    exact gx_iret hC rfl rfl rfl dX3_addNoun_52 (fun G' hG => ⟨by congr 3; omega, rfl, hi2, by omega, hG _ _ gx_us, gx_ia.fu h3 (hG _ _ (gx_un (by omega) gx_us)), ⟨_, hG _ _ (gx_un (by omega) (gx_un (by omega) q4)), h5⟩⟩)
theorem m_X3_addVerb {i : Int} (h : gx_lx D G a S) (hi : gx_rg i) (hn : 0 ≤ S.vn ∧ S.vn ≤ 8) : gx_Met l yX3_addVerb (ws_ yX3_addVerb cX3_addVerb 2 (some .int)) 12 2 12 D (gx_gM a) T G nx [.ref a, .int (iz i)] (fun w G' nx' => w = some (.int (iz S.vn)) ∧ nx' = nx ∧ (0 ≤ i ∧ i ≤ 3) ∧ S.vn < 8 ∧ gx_lx D G' a (S.nn, S.vn + 1, S.nf, gx_fu S.vf S.vn.toNat i, S.gt)) (fun E _ _ _ => (E = gx_IAE ∧ ¬ (0 ≤ i ∧ i ≤ 3)) ∨ (E = gx_ISE ∧ (0 ≤ i ∧ i ≤ 3) ∧ S.vn = 8)) := by
  obtain ⟨h1, ⟨f, h2, h3⟩, ⟨f4, h4, h5⟩⟩ := h
  refine gx_start (by decide) (Nat.le_of_ble_eq_true rfl) rfl (fun p e s m args below meth c hC hlt => ?_)
  refine gx_iload_n hC dX3_addVerb_0 rfl rfl ?_
  refine gx_iconst hC dX3_addVerb_1 ?_
  refine gx_iconst hC dX3_addVerb_2 ?_
  refine gx_callSN (nA := 3) hC (m_X1_isBetween (v := i) (lo := 0) (hi := 3) hi (by unfold gx_rg; omega) (by unfold gx_rg; omega)) (lw_meth q1015) q76 q1577 q1014 (by decide +kernel) dX3_addVerb_3 rfl ⟨Nat.le_of_ble_eq_true rfl, Nat.le_of_ble_eq_true rfl⟩ gx_in.id0 rfl (by first | exact Nat.le_of_ble_eq_true rfl | simp [gx_cat_rf, Value.category]) gx_kno (gx_kp1 ?_)
  refine gx_callSN (nA := 1) hC (m_X1_checkArgument gx_bR) (lw_meth q1580) q76 q1578 q1579 (by decide +kernel) dX3_addVerb_6 rfl ⟨Nat.le_of_ble_eq_true rfl, Nat.le_of_ble_eq_true rfl⟩ gx_in.id0 rfl (by first | exact Nat.le_of_ble_eq_true rfl | simp [gx_cat_rf, Value.category]) (fun E9 q9 G9 nx9 hp9 hf9 hle9 hlt9 => gx_out hC rfl rfl (by first | (intro x9 h9; cases h9) | decide) (fun G' hG => (Or.inl ⟨hp9.1, gx_be.mp hp9.2⟩))) (fun v2 G2 nx2 hp hf hle hlt2 => ?_)
  obtain ⟨hi2, rfl, rfl⟩ := hp
  rw [gx_bn] at hi2
  have k1 := hf _ _ h1 (fun q => q)
  have k2 := hf _ _ h2 (fun q => q)
  have k4 := hf _ _ h4 (fun q => q)
  refine gx_aload_n hC dX3_addVerb_9 rfl rfl (by first | rfl | exact gx_isr_rf _ | exact gx_isr_rn _) ?_
  refine gx_get hC (C := RX3) (Tf := TX3) (N := 4) (ci := 2) (k := 3) rfl in_X3 (by decide) q157 (fun _ h9 => h9) dX3_addVerb_10 (by repeat (first | assumption | exact Or.inr gx_us | exact Or.inr (by assumption) | exact Or.inl (by assumption) | refine gx_tu (by omega) ?_)) rfl ?_
  refine gx_bipush hC dX3_addVerb_13 rfl ?_
  refine gx_icmp_ge hC dX3_addVerb_15 (tgt := 22) (by decide) (by unfold gx_rg; omega) (by unfold gx_rg; omega) (fun c15 => ?_) (fun c15 => ?_)
  · refine gx_iconst hC dX3_addVerb_22 ?_
    refine gx_callSN (nA := 1) hC (m_X1_checkState (b := 0) gx_rg0) (lw_meth q1588) q76 q1586 q1587 (by decide +kernel) dX3_addVerb_23 rfl ⟨Nat.le_of_ble_eq_true rfl, Nat.le_of_ble_eq_true rfl⟩ gx_in.id0 rfl (by first | exact Nat.le_of_ble_eq_true rfl | simp [gx_cat_rf, Value.category]) (fun E9 q9 G9 nx9 hp9 hf9 hle9 hlt9 => gx_out hC rfl rfl (by first | (intro x9 h9; cases h9) | decide) (fun G' hG => (Or.inr ⟨hp9.1, hi2, by omega⟩))) (fun v3 G3 nx3 hp hf3 hle3 hlt3 => ?_)
    exact absurd rfl hp.1
  · refine gx_iconst hC dX3_addVerb_18 ?_
    refine gx_goto hC dX3_addVerb_19 (tgt := 23) (by decide) ?_
    refine gx_callSN (nA := 1) hC (m_X1_checkState (b := 1) (by unfold gx_rg; omega)) (lw_meth q1588) q76 q1586 q1587 (by decide +kernel) dX3_addVerb_23 rfl ⟨Nat.le_of_ble_eq_true rfl, Nat.le_of_ble_eq_true rfl⟩ gx_in.id0 rfl (by first | exact Nat.le_of_ble_eq_true rfl | simp [gx_cat_rf, Value.category]) (fun E9 q9 G9 nx9 hp9 hf9 hle9 hlt9 => gx_out hC rfl rfl (by first | (intro x9 h9; cases h9) | decide) (fun G' hG => (by have := hp9.2; omega))) (fun v3 G3 nx3 hp hf3 hle3 hlt3 => ?_)
    obtain ⟨-, rfl, rfl⟩ := hp
    have q1 := hf3 _ _ k1 (fun q => q)
    have q2 := hf3 _ _ k2 (fun q => q)
    have q4 := hf3 _ _ k4 (fun q => q)
    refine gx_aload_n hC dX3_addVerb_26 rfl rfl (by first | rfl | exact gx_isr_rf _ | exact gx_isr_rn _) ?_
    refine gx_get hC (C := RX3) (Tf := TX3) (N := 4) (ci := 2) (k := 1) rfl in_X3 (by decide) q153 (fun _ h9 => h9) dX3_addVerb_27 (by repeat (first | assumption | exact Or.inr gx_us | exact Or.inr (by assumption) | exact Or.inl (by assumption) | refine gx_tu (by omega) ?_)) rfl ?_
    refine gx_aload_n hC dX3_addVerb_30 rfl rfl (by first | rfl | exact gx_isr_rf _ | exact gx_isr_rn _) ?_
    refine gx_get hC (C := RX3) (Tf := TX3) (N := 4) (ci := 2) (k := 3) rfl in_X3 (by decide) q157 (fun _ h9 => h9) dX3_addVerb_31 (by repeat (first | assumption | exact Or.inr gx_us | exact Or.inr (by assumption) | exact Or.inl (by assumption) | refine gx_tu (by omega) ?_)) rfl ?_
    refine gx_iload_n hC dX3_addVerb_34 rfl rfl ?_
    refine gx_iast hC (t := 0) rfl dX3_addVerb_35 (by first | exact gx_us | assumption | (repeat (first | exact gx_us | assumption | refine gx_un (by omega) ?_))) (by exact Or.inl ⟨by omega, by omega⟩) (by omega) ?_
    refine gx_aload_n hC dX3_addVerb_36 rfl rfl (by first | rfl | exact gx_isr_rf _ | exact gx_isr_rn _) ?_
    refine gx_dup hC dX3_addVerb_37 (by first | rfl | exact gx_cat_rf _ | exact gx_cat_rn _) ?_
    refine gx_get hC (C := RX3) (Tf := TX3) (N := 4) (ci := 2) (k := 3) rfl in_X3 (by decide) q157 (fun _ h9 => h9) dX3_addVerb_38 (by repeat (first | assumption | exact Or.inr gx_us | exact Or.inr (by assumption) | exact Or.inl (by assumption) | refine gx_tu (by omega) ?_)) rfl ?_
    refine gx_iconst hC dX3_addVerb_41 ?_
    refine gx_iadd hC dX3_addVerb_42 ?_
    refine gx_put hC (C := RX3) (Tf := TX3) (N := 4) (ci := 2) (k := 3) rfl in_X3 (by decide) tyX3 tyX3_ok nmX3 q157 (fun _ h9 => h9) rfl dX3_addVerb_43 (by first | exact gx_us | assumption | (repeat (first | exact gx_us | assumption | refine gx_un (by omega) ?_))) (by exact Or.inl ⟨by omega, by omega⟩) (Nat.le_of_ble_eq_true rfl) (by first | rfl | (unfold gx_rn; split <;> rfl) | (cases ‹Option Nat› <;> rfl) | simp [narrow]) (by first | rfl | (unfold gx_rn; split <;> rfl) | (cases ‹Option Nat› <;> rfl) | simp [fits]) ?_
    refine gx_aload_n hC dX3_addVerb_46 rfl rfl (by first | rfl | exact gx_isr_rf _ | exact gx_isr_rn _) ?_
    refine gx_get hC (C := RX3) (Tf := TX3) (N := 4) (ci := 2) (k := 3) rfl in_X3 (by decide) q157 (fun _ h9 => h9) dX3_addVerb_47 (by repeat (first | assumption | exact Or.inr gx_us | exact Or.inr (by assumption) | exact Or.inl (by assumption) | refine gx_tu (by omega) ?_)) rfl ?_
    refine gx_iconst hC dX3_addVerb_50 ?_
    refine gx_isub hC dX3_addVerb_51 ?_
    exact gx_iret hC rfl rfl rfl dX3_addVerb_52 (fun G' hG => ⟨by congr 3; omega, rfl, hi2, by omega, hG _ _ gx_us, ⟨_, hG _ _ (gx_un (by omega) (gx_un (by omega) q2)), h3⟩, gx_ia.fu h5 (hG _ _ (gx_un (by omega) gx_us))⟩)
theorem m_X3_setObjectCase {i x : Int} (h : gx_lx D G a S) (hi : gx_rg i) (hx : gx_rg x) (hn : 0 ≤ S.vn ∧ S.vn ≤ 8) : gx_Met l yX3_setObjectCase (ws_ yX3_setObjectCase cX3_setObjectCase 4 (some .int)) 12 2 12 D (gx_gM a) T G nx [.ref a, .int (iz i), .int (iz x)] (fun w G' nx' => w = some (.int (iz (S.vf i.toNat))) ∧ nx' = nx ∧ (0 ≤ i ∧ i < S.vn) ∧ (0 ≤ x ∧ x ≤ 3) ∧ gx_lx D G' a (S.nn, S.vn, S.nf, gx_fu S.vf i.toNat x, S.gt)) (fun E _ _ _ => (E = gx_IOB ∧ ¬ (0 ≤ i ∧ i < S.vn)) ∨ (E = gx_IAE ∧ (0 ≤ i ∧ i < S.vn) ∧ ¬ (0 ≤ x ∧ x ≤ 3))) := by
  obtain ⟨h1, ⟨f, h2, h3⟩, ⟨f4, h4, h5⟩⟩ := h
  refine gx_start (by decide) (Nat.le_of_ble_eq_true rfl) rfl (fun p e s m args below meth c hC hlt => ?_)
  refine gx_iload_n hC dX3_setObjectCase_0 rfl rfl ?_
  refine gx_aload_n hC dX3_setObjectCase_1 rfl rfl (by first | rfl | exact gx_isr_rf _ | exact gx_isr_rn _) ?_
  refine gx_get hC (C := RX3) (Tf := TX3) (N := 4) (ci := 2) (k := 3) rfl in_X3 (by decide) q157 (fun _ h9 => h9) dX3_setObjectCase_2 (by repeat (first | assumption | exact Or.inr gx_us | exact Or.inr (by assumption) | exact Or.inl (by assumption) | refine gx_tu (by omega) ?_)) rfl ?_
  refine gx_callSN (nA := 2) hC (m_X1_checkIndex (i := i) (n := S.vn) hi (by unfold gx_rg; omega) (by omega)) (lw_meth q1012) q76 q1010 q1011 (by decide +kernel) dX3_setObjectCase_5 rfl ⟨Nat.le_of_ble_eq_true rfl, Nat.le_of_ble_eq_true rfl⟩ gx_in.id0 rfl (by first | exact Nat.le_of_ble_eq_true rfl | simp [gx_cat_rf, Value.category]) (fun E9 q9 G9 nx9 hp9 hf9 hle9 hlt9 => gx_out hC rfl rfl (by first | (intro x9 h9; cases h9) | decide) (fun G' hG => (Or.inl hp9))) (fun v2 G2 nx2 hp hf hle hlt2 => ?_)
  obtain ⟨hi2, rfl, rfl⟩ := hp
  have k1 := hf _ _ h1 (fun q => q)
  have k2 := hf _ _ h2 (fun q => q)
  have k4 := hf _ _ h4 (fun q => q)
  refine gx_iload_n hC dX3_setObjectCase_8 rfl rfl ?_
  refine gx_iconst hC dX3_setObjectCase_9 ?_
  refine gx_iconst hC dX3_setObjectCase_10 ?_
  refine gx_callSN (nA := 3) hC (m_X1_isBetween (v := x) (lo := 0) (hi := 3) hx (by unfold gx_rg; omega) (by unfold gx_rg; omega)) (lw_meth q1015) q76 q1577 q1014 (by decide +kernel) dX3_setObjectCase_11 rfl ⟨Nat.le_of_ble_eq_true rfl, Nat.le_of_ble_eq_true rfl⟩ gx_in.id0 rfl (by first | exact Nat.le_of_ble_eq_true rfl | simp [gx_cat_rf, Value.category]) gx_kno (gx_kp1 ?_)
  refine gx_callSN (nA := 1) hC (m_X1_checkArgument gx_bR) (lw_meth q1580) q76 q1578 q1579 (by decide +kernel) dX3_setObjectCase_14 rfl ⟨Nat.le_of_ble_eq_true rfl, Nat.le_of_ble_eq_true rfl⟩ gx_in.id0 rfl (by first | exact Nat.le_of_ble_eq_true rfl | simp [gx_cat_rf, Value.category]) (fun E9 q9 G9 nx9 hp9 hf9 hle9 hlt9 => gx_out hC rfl rfl (by first | (intro x9 h9; cases h9) | decide) (fun G' hG => (Or.inr ⟨hp9.1, hi2, gx_be.mp hp9.2⟩))) (fun v3 G3 nx3 hp hf3 hle3 hlt3 => ?_)
  obtain ⟨hx2, rfl, rfl⟩ := hp
  rw [gx_bn] at hx2
  have q1 := hf3 _ _ k1 (fun q => q)
  have q2 := hf3 _ _ k2 (fun q => q)
  have q4 := hf3 _ _ k4 (fun q => q)
  refine gx_aload_n hC dX3_setObjectCase_17 rfl rfl (by first | rfl | exact gx_isr_rf _ | exact gx_isr_rn _) ?_
  refine gx_get hC (C := RX3) (Tf := TX3) (N := 4) (ci := 2) (k := 1) rfl in_X3 (by decide) q153 (fun _ h9 => h9) dX3_setObjectCase_18 (by repeat (first | assumption | exact Or.inr gx_us | exact Or.inr (by assumption) | exact Or.inl (by assumption) | refine gx_tu (by omega) ?_)) rfl ?_
  refine gx_iload_n hC dX3_setObjectCase_21 rfl rfl ?_
  refine gx_iald hC (t := 0) rfl dX3_setObjectCase_22 (by repeat (first | assumption | exact Or.inr gx_us | exact Or.inr (by assumption) | exact Or.inl (by assumption) | refine gx_tu (by omega) ?_)) (by omega) ?_
  refine gx_istore_n hC dX3_setObjectCase_23 rfl (by decide) (by first | rfl | simp [gx_ck, gx_lk, gx_cat_rf, gx_cat_rn]) ?_
  refine gx_aload_n hC dX3_setObjectCase_24 rfl rfl (by first | rfl | exact gx_isr_rf _ | exact gx_isr_rn _) ?_
  refine gx_get hC (C := RX3) (Tf := TX3) (N := 4) (ci := 2) (k := 1) rfl in_X3 (by decide) q153 (fun _ h9 => h9) dX3_setObjectCase_25 (by repeat (first | assumption | exact Or.inr gx_us | exact Or.inr (by assumption) | exact Or.inl (by assumption) | refine gx_tu (by omega) ?_)) rfl ?_
  refine gx_iload_n hC dX3_setObjectCase_28 rfl rfl ?_
  refine gx_iload_n hC dX3_setObjectCase_29 rfl rfl ?_
  refine gx_iast hC (t := 0) rfl dX3_setObjectCase_30 (by first | exact gx_us | assumption | (repeat (first | exact gx_us | assumption | refine gx_un (by omega) ?_))) (by exact Or.inl ⟨by omega, by omega⟩) (by omega) ?_
  refine gx_iload_n hC dX3_setObjectCase_31 rfl rfl ?_
  rw [h5 _ (by omega)]
  exact gx_iret hC rfl rfl rfl dX3_setObjectCase_32 (fun G' hG => ⟨rfl, rfl, hi2, hx2, hG _ _ (gx_un (by omega) q1), ⟨_, hG _ _ (gx_un (by omega) q2), h3⟩, gx_ia.fu h5 (hG _ _ gx_us)⟩)
/-- the letters -/
def gs_ends : List Int := gs_strs.getD 9 []
theorem m_X3_ending {i x : Int} (h : gx_lx D (gx_TG T G) a S) (hk : gx_kn D (gx_TG T G)) (hi : gx_rg i) (hx : gx_rg x) (hn : 0 ≤ S.nn ∧ S.nn ≤ 8) (hg : ∀ j, 0 ≤ S.nf j ∧ S.nf j ≤ 2) : gx_Met l yX3_ending (ws_ yX3_ending cX3_ending 4 (some .char)) 13 2 12 D gx_M0 T G nx [.ref a, .int (iz i), .int (iz x)] (fun w G' nx' => w = some (.int (iz (gs_ends.getD (4 * S.nf i.toNat + x).toNat 0))) ∧ nx' = nx ∧ (0 ≤ i ∧ i < S.nn) ∧ (0 ≤ x ∧ x ≤ 3)) (fun E _ _ _ => (E = gx_IOB ∧ ¬ (0 ≤ i ∧ i < S.nn)) ∨ (E = gx_IAE ∧ (0 ≤ i ∧ i < S.nn) ∧ ¬ (0 ≤ x ∧ x ≤ 3))) := by
  have h0 := h
  refine gx_start (by decide) (Nat.le_of_ble_eq_true rfl) rfl (fun p e s m args below meth c hC hlt => ?_)
  refine gx_aload_n hC dX3_ending_0 rfl rfl (by first | rfl | exact gx_isr_rf _ | exact gx_isr_rn _) ?_
  refine gx_iload_n hC dX3_ending_1 rfl rfl ?_
  refine gx_callV (nA := 1) hC (m_X3_gender h0 hi hn) (C := RX3) (Tf := TX3) (Nf := 4) (ci := 2) rfl (by first | ((repeat (first | assumption | exact Or.inr gx_us | exact Or.inr (by assumption) | exact Or.inl (by assumption) | refine gx_tu (by omega) ?_)); done) | exact gx_AL.rc (by assumption) | exact gx_AL.rg (by assumption) | exact gx_AL.rt (by assumption) | exact gx_DQ.rc (by assumption) | exact gx_DQ.rg (by assumption) | exact gx_SB.rc (by assumption) | exact gx_SB.rg (by assumption) | exact gx_Sx.rc (by assumption) | exact gx_Sx.rg (by assumption) | exact gx_IT.rc (by assumption) | exact gx_IT.rg (by assumption) | exact gx_gt.rc (by assumption) | exact gx_gt.rg (by assumption) | exact gx_lx.rc (by assumption) | exact gx_lx.rg (by assumption) | exact gx_sst.rc (by assumption) | exact gx_sst.rg (by assumption)) (lw_V q1679 q1658 q1659 q78 q1660) (by decide +kernel) dX3_ending_2 rfl ⟨Nat.le_of_ble_eq_true rfl, Nat.le_of_ble_eq_true rfl⟩ gx_in.id0 rfl (by first | exact Nat.le_of_ble_eq_true rfl | simp [gx_cat_rf, Value.category]) (fun E9 q9 G9 nx9 hp9 hf9 hle9 hlt9 => gx_out hC rfl rfl (by first | (intro x9 h9; cases h9) | decide) (fun G' hG => (Or.inl hp9))) (fun v2 G2 nx2 hp hf hle hlt2 => ?_)
  obtain ⟨rfl, rfl, hi2⟩ := hp
  refine gx_istore_n hC dX3_ending_5 rfl (by decide) (by first | rfl | simp [gx_ck, gx_lk, gx_cat_rf, gx_cat_rn]) ?_
  refine gx_iload_n hC dX3_ending_6 rfl rfl ?_
  refine gx_iconst hC dX3_ending_7 ?_
  refine gx_iconst hC dX3_ending_8 ?_
  refine gx_callSN (nA := 3) hC (m_X1_isBetween (v := x) (lo := 0) (hi := 3) hx (by unfold gx_rg; omega) (by unfold gx_rg; omega)) (lw_meth q1015) q76 q1577 q1014 (by decide +kernel) dX3_ending_9 rfl ⟨Nat.le_of_ble_eq_true rfl, Nat.le_of_ble_eq_true rfl⟩ gx_in.id0 rfl (by first | exact Nat.le_of_ble_eq_true rfl | simp [gx_cat_rf, Value.category]) gx_kno (gx_kp1 ?_)
  refine gx_callSN (nA := 1) hC (m_X1_checkArgument gx_bR) (lw_meth q1580) q76 q1578 q1579 (by decide +kernel) dX3_ending_12 rfl ⟨Nat.le_of_ble_eq_true rfl, Nat.le_of_ble_eq_true rfl⟩ gx_in.id0 rfl (by first | exact Nat.le_of_ble_eq_true rfl | simp [gx_cat_rf, Value.category]) (fun E9 q9 G9 nx9 hp9 hf9 hle9 hlt9 => gx_out hC rfl rfl (by first | (intro x9 h9; cases h9) | decide) (fun G' hG => (Or.inr ⟨hp9.1, hi2, gx_be.mp hp9.2⟩))) (fun v3 G3 nx3 hp hf3 hle3 hlt3 => ?_)
  obtain ⟨hx2, rfl, rfl⟩ := hp
  rw [gx_bn] at hx2
  have hkS : gx_kS D (gx_TG T G3) 9 := (hk.2.2.1 9 (by omega)).mono (fun _ _ h => h.imp id (fun h => hf3 _ _ (hf _ _ h (fun q => q)) (fun q => q)))
  have hsx := hkS.sx (by omega)
  have hgx := hg i.toNat
  refine gx_ldcS hC (List.mem_cons_of_mem _ (List.mem_cons_of_mem _ (List.mem_cons_of_mem _ (List.mem_cons_of_mem _ (List.mem_cons_of_mem _ (List.mem_cons_of_mem _ (List.mem_cons_of_mem _ (List.mem_cons_of_mem _ (List.mem_cons_of_mem _ List.mem_cons_self))))))))) dX3_ending_15 ?_
  refine gx_iconst hC dX3_ending_17 ?_
  refine gx_iload_n hC dX3_ending_18 rfl rfl ?_
  refine gx_imul hC dX3_ending_19 ?_
  refine gx_iload_n hC dX3_ending_20 rfl rfl ?_
  refine gx_iadd hC dX3_ending_21 ?_
  refine gx_callV (nA := 1) hC (m_J9_charAt (i := 4 * S.nf i.toNat + x) hsx ⟨by omega, by show _ < ((12 : Nat) : Int); omega⟩) (C := RJ9) (Tf := TJ9) (Nf := 4) (ci := 21) rfl (by first | ((repeat (first | assumption | exact Or.inr gx_us | exact Or.inr (by assumption) | exact Or.inl (by assumption) | refine gx_tu (by omega) ?_)); done) | exact gx_AL.rc (by assumption) | exact gx_AL.rg (by assumption) | exact gx_AL.rt (by assumption) | exact gx_DQ.rc (by assumption) | exact gx_DQ.rg (by assumption) | exact gx_SB.rc (by assumption) | exact gx_SB.rg (by assumption) | exact gx_Sx.rc (by assumption) | exact gx_Sx.rg (by assumption) | exact gx_IT.rc (by assumption) | exact gx_IT.rg (by assumption) | exact gx_gt.rc (by assumption) | exact gx_gt.rg (by assumption) | exact gx_lx.rc (by assumption) | exact gx_lx.rg (by assumption) | exact gx_sst.rc (by assumption) | exact gx_sst.rg (by assumption)) (lw_V q1681 q1682 q1683 q88 q1684) (by decide +kernel) dX3_ending_22 rfl ⟨Nat.le_of_ble_eq_true rfl, Nat.le_of_ble_eq_true rfl⟩ gx_in.id0 rfl (by first | exact Nat.le_of_ble_eq_true rfl | simp [gx_cat_rf, Value.category]) gx_kno (gx_kp1 ?_)
  exact gx_zret hC rfl rfl rfl (gx_cnar (hsx.2.2.1 _ (gx_gmI (by show _ < 12; omega)))) dX3_ending_25 (fun G' hG => ⟨rfl, rfl, hi2, hx2⟩)
theorem m_X3_copy (h : gx_lx D (gx_TG T G) a S) : gx_Met l yX3_copy (ws_ yX3_copy cX3_copy 3 (some (.object "GateGrammar$Lexicon"))) 4 3 20 D gx_M0 T G nx [.ref a] (fun w G' nx' => w = some (.ref nx) ∧ nx' = nx + 3 ∧ gx_lx D G' nx S) gx_no := by
  obtain ⟨h1, ⟨f, h2, h3⟩, ⟨f4, h4, h5⟩⟩ := h
  refine gx_start (by decide) (Nat.le_of_ble_eq_true rfl) rfl (fun p e s m args below meth c hC hlt => ?_)
  have hax := hC.tl hlt h1
  have ha1 := hC.tl hlt h2
  have ha2 := hC.tl hlt h4
  refine gx_new hC (C := RX3) (Tf := TX3) (N := 4) (ci := 2) (fs := fdX3) rfl in_X3 tyX3 tyX3_ok q1549 q147 q78 dvX3 dX3_copy_0 ?_
  refine gx_dup hC dX3_copy_3 (by first | rfl | exact gx_cat_rf _ | exact gx_cat_rn _) ?_
  refine gx_callI (nA := 0) hC (m_X3_init (γ := S.gt) gx_us rfl) (lw_meth q150) q78 q1550 q149 rfl (by decide +kernel) dX3_copy_4 rfl ⟨Nat.le_of_ble_eq_true rfl, Nat.le_of_ble_eq_true rfl⟩ (gx_in.id hC (fun q hq => Or.inr (by omega))) rfl (by first | exact Nat.le_of_ble_eq_true rfl | simp [gx_cat_rf, Value.category]) gx_kno (fun v2 G2 nx2 hp hf hle hlt2 => ?_)
  obtain ⟨rfl, rfl, k1, ⟨f7, k2, -⟩, ⟨f8, k3, -⟩⟩ := hp
  have kG : gx_le G G2 := fun x e9 hx => hf _ _ (gx_un (by have := hlt _ _ hx; omega) hx) (by have := hlt _ _ hx; omega)
  refine gx_astore_n hC dX3_copy_7 rfl (by decide) (by first | rfl | simp [gx_ck, gx_lk, gx_cat_rf, gx_cat_rn]) (by first | rfl | exact gx_isr_rf _ | exact gx_isr_rn _) ?_
  refine gx_iconst hC dX3_copy_8 ?_
  refine gx_istore_n hC dX3_copy_9 rfl (by decide) (by first | rfl | simp [gx_ck, gx_lk, gx_cat_rf, gx_cat_rn]) ?_
  refine gx_loc (M := [(2, some (.int (iz ((0 : Nat) : Int)))), (1, some (.ref nx)), (0, some (.ref a))]) (by repeat (first | exact trivial | refine ⟨rfl, ?_⟩)) ?_
  refine gx_loop (σ := Nat × (Nat → Int) × (Nat → Int) × gx_H) (fun z => z.1 ≤ 8 ∧ gx_le G z.2.2.2 ∧ z.2.2.2 nx (gx_O 2 [.ref (nx + 1), .ref (nx + 1 + 1), .int (iz 0), .int (iz 0)]) ∧ z.2.2.2 (nx + 1) (gx_I D 0 8 z.2.1) ∧ z.2.2.2 (nx + 1 + 1) (gx_I D 0 8 z.2.2.1) ∧ (∀ j, j < z.1 → z.2.1 j = f j) ∧ (∀ j, j < z.1 → z.2.2.1 j = f4 j)) (fun z => 8 - z.1) (fun z => z.2.2.2) (fun _ => nx + 1 + 2) (fun _ => 0) (fun _ => 0) (fun z => [(2, some (.int (iz (z.1 : Int)))), (1, some (.ref nx)), (0, some (.ref a))]) (0, f7, f8, G2) ⟨by omega, kG, k1, k2, k3, fun j hj => by omega, fun j hj => by omega⟩ ?_
  rintro ⟨k, f7, f8, G9⟩ ⟨p0, p1, p2, p3, p4, p5, p6⟩ ih
  dsimp only at p0 p1 p2 p3 p4 p5 p6 ⊢
  have q1 := p1.tg (T := T) h1
  have q2 := p1.tg (T := T) h2
  have q4 := p1.tg (T := T) h4
  refine gx_iload_n hC dX3_copy_10 rfl rfl ?_
  refine gx_bipush hC dX3_copy_11 rfl ?_
  refine gx_icmp_ge hC dX3_copy_13 (tgt := 46) (by decide) (by unfold gx_rg; omega) (by unfold gx_rg; omega) (fun c13 => ?_) (fun c13 => ?_)
  · refine gx_aload_n hC dX3_copy_46 rfl rfl (by first | rfl | exact gx_isr_rf _ | exact gx_isr_rn _) ?_
    refine gx_aload_n hC dX3_copy_47 rfl rfl (by first | rfl | exact gx_isr_rf _ | exact gx_isr_rn _) ?_
    refine gx_get hC (C := RX3) (Tf := TX3) (N := 4) (ci := 2) (k := 2) rfl in_X3 (by decide) q154 (fun _ h9 => h9) dX3_copy_48 (by repeat (first | assumption | exact Or.inr gx_us | exact Or.inr (by assumption) | exact Or.inl (by assumption) | refine gx_tu (by omega) ?_)) rfl ?_
    refine gx_put hC (C := RX3) (Tf := TX3) (N := 4) (ci := 2) (k := 2) rfl in_X3 (by decide) tyX3 tyX3_ok nmX3 q154 (fun _ h9 => h9) rfl dX3_copy_51 (by first | exact gx_us | assumption | (repeat (first | exact gx_us | assumption | refine gx_un (by omega) ?_))) (by first | exact Or.inl rfl | exact Or.inl (Or.inl rfl) | exact Or.inl (Or.inr rfl) | exact Or.inr (by omega) | assumption | (simp only [gx_A, *]; omega)) (Nat.le_of_ble_eq_true rfl) (by first | rfl | (unfold gx_rn; split <;> rfl) | (cases ‹Option Nat› <;> rfl) | simp [narrow]) (by first | rfl | (unfold gx_rn; split <;> rfl) | (cases ‹Option Nat› <;> rfl) | simp [fits]) ?_
    refine gx_aload_n hC dX3_copy_54 rfl rfl (by first | rfl | exact gx_isr_rf _ | exact gx_isr_rn _) ?_
    refine gx_aload_n hC dX3_copy_55 rfl rfl (by first | rfl | exact gx_isr_rf _ | exact gx_isr_rn _) ?_
    refine gx_get hC (C := RX3) (Tf := TX3) (N := 4) (ci := 2) (k := 3) rfl in_X3 (by decide) q157 (fun _ h9 => h9) dX3_copy_56 (by repeat (first | assumption | exact Or.inr gx_us | exact Or.inr (by assumption) | exact Or.inl (by assumption) | refine gx_tu (by omega) ?_)) rfl ?_
    refine gx_put hC (C := RX3) (Tf := TX3) (N := 4) (ci := 2) (k := 3) rfl in_X3 (by decide) tyX3 tyX3_ok nmX3 q157 (fun _ h9 => h9) rfl dX3_copy_59 (by first | exact gx_us | assumption | (repeat (first | exact gx_us | assumption | refine gx_un (by omega) ?_))) (by first | exact Or.inl rfl | exact Or.inl (Or.inl rfl) | exact Or.inl (Or.inr rfl) | exact Or.inr (by omega) | assumption | (simp only [gx_A, *]; omega)) (Nat.le_of_ble_eq_true rfl) (by first | rfl | (unfold gx_rn; split <;> rfl) | (cases ‹Option Nat› <;> rfl) | simp [narrow]) (by first | rfl | (unfold gx_rn; split <;> rfl) | (cases ‹Option Nat› <;> rfl) | simp [fits]) ?_
    refine gx_aload_n hC dX3_copy_62 rfl rfl (by first | rfl | exact gx_isr_rf _ | exact gx_isr_rn _) ?_
    exact gx_aret hC rfl rfl rfl (by first | exact Or.inl ⟨_, rfl⟩ | exact Or.inr ⟨_, rfl⟩) (by first | rfl | exact gx_isr_rf _ | exact gx_isr_rn _) dX3_copy_63 (fun G' hG => ⟨rfl, rfl, hG _ _ gx_us, ⟨_, hG _ _ (gx_un (by omega) (gx_un (by omega) p3)), fun j hj => by rw [p5 j (by omega), h3 j hj]⟩, ⟨_, hG _ _ (gx_un (by omega) (gx_un (by omega) p4)), fun j hj => by rw [p6 j (by omega), h5 j hj]⟩⟩)
  · refine gx_aload_n hC dX3_copy_16 rfl rfl (by first | rfl | exact gx_isr_rf _ | exact gx_isr_rn _) ?_
    refine gx_get hC (C := RX3) (Tf := TX3) (N := 4) (ci := 2) (k := 0) rfl in_X3 (by decide) q152 (fun _ h9 => h9) dX3_copy_17 (by repeat (first | assumption | exact Or.inr gx_us | exact Or.inr (by assumption) | exact Or.inl (by assumption) | refine gx_tu (by omega) ?_)) rfl ?_
    refine gx_iload_n hC dX3_copy_20 rfl rfl ?_
    refine gx_aload_n hC dX3_copy_21 rfl rfl (by first | rfl | exact gx_isr_rf _ | exact gx_isr_rn _) ?_
    refine gx_get hC (C := RX3) (Tf := TX3) (N := 4) (ci := 2) (k := 0) rfl in_X3 (by decide) q152 (fun _ h9 => h9) dX3_copy_22 (by repeat (first | assumption | exact Or.inr gx_us | exact Or.inr (by assumption) | exact Or.inl (by assumption) | refine gx_tu (by omega) ?_)) rfl ?_
    refine gx_iload_n hC dX3_copy_25 rfl rfl ?_
    refine gx_iald hC (t := 0) rfl dX3_copy_26 (by repeat (first | assumption | exact Or.inr gx_us | exact Or.inr (by assumption) | exact Or.inl (by assumption) | refine gx_tu (by omega) ?_)) (by omega) ?_
    refine gx_iast hC (t := 0) rfl dX3_copy_27 (by first | exact gx_us | assumption | (repeat (first | exact gx_us | assumption | refine gx_un (by omega) ?_))) (by first | exact Or.inl rfl | exact Or.inl (Or.inl rfl) | exact Or.inl (Or.inr rfl) | exact Or.inr (by omega) | assumption | (simp only [gx_A, *]; omega)) (by omega) ?_
    refine gx_aload_n hC dX3_copy_28 rfl rfl (by first | rfl | exact gx_isr_rf _ | exact gx_isr_rn _) ?_
    refine gx_get hC (C := RX3) (Tf := TX3) (N := 4) (ci := 2) (k := 1) rfl in_X3 (by decide) q153 (fun _ h9 => h9) dX3_copy_29 (by repeat (first | assumption | exact Or.inr gx_us | exact Or.inr (by assumption) | exact Or.inl (by assumption) | refine gx_tu (by omega) ?_)) rfl ?_
    refine gx_iload_n hC dX3_copy_32 rfl rfl ?_
    refine gx_aload_n hC dX3_copy_33 rfl rfl (by first | rfl | exact gx_isr_rf _ | exact gx_isr_rn _) ?_
    refine gx_get hC (C := RX3) (Tf := TX3) (N := 4) (ci := 2) (k := 1) rfl in_X3 (by decide) q153 (fun _ h9 => h9) dX3_copy_34 (by repeat (first | assumption | exact Or.inr gx_us | exact Or.inr (by assumption) | exact Or.inl (by assumption) | refine gx_tu (by omega) ?_)) rfl ?_
    refine gx_iload_n hC dX3_copy_37 rfl rfl ?_
    refine gx_iald hC (t := 0) rfl dX3_copy_38 (by repeat (first | assumption | exact Or.inr gx_us | exact Or.inr (by assumption) | exact Or.inl (by assumption) | refine gx_tu (by omega) ?_)) (by omega) ?_
    refine gx_iast hC (t := 0) rfl dX3_copy_39 (by first | exact gx_us | assumption | (repeat (first | exact gx_us | assumption | refine gx_un (by omega) ?_))) (by first | exact Or.inl rfl | exact Or.inl (Or.inl rfl) | exact Or.inl (Or.inr rfl) | exact Or.inr (by omega) | assumption | (simp only [gx_A, *]; omega)) (by omega) ?_
    refine gx_iinc hC dX3_copy_40 rfl (by decide) (by first | rfl | simp [gx_ck, gx_lk, gx_cat_rf, gx_cat_rn]) ?_
    refine gx_goto hC dX3_copy_43 (tgt := 10) (by decide) ?_
    refine gx_loc (M := [(2, some (.int (iz ((k + 1 : Nat) : Int)))), (1, some (.ref nx)), (0, some (.ref a))]) (by repeat (first | exact trivial | refine ⟨rfl, ?_⟩)) ?_
    refine ih (k + 1, _, _, _) ⟨by omega, (p1.up hlt (by omega)).up hlt (by omega), gx_un (by omega) (gx_un (by omega) p2), gx_un (by omega) gx_us, gx_us, gx_fu_s p5 (Int.toNat_natCast k), gx_fu_s p6 (Int.toNat_natCast k)⟩ (by dsimp only; omega)
end LEX

