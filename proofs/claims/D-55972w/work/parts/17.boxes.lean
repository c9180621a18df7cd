/-! Integers; the two exceptions of the parsers, made without a trace -/
set_option maxRecDepth 100000
/-- the cache of small Integers -/
def gx_ic (D : gx_D) (T : gx_H) : Prop := T (D.2.2 2) (gx_Q D 7 256 (fun j => some (D.2.2 (10 + j)))) ∧ ∀ j, j < 256 → T (D.2.2 (10 + j)) (gx_O 22 [.int (iz ((j : Int) - 128))])
/-- the box of a small number -/
def gx_bx (D : gx_D) (i : Int) : Nat := D.2.2 (10 + (i + 128).toNat)
section INT
variable {l : Launch} {D : gx_D} {T G : gx_H} {nx : Nat} {a : Nat}
theorem m_J17_valueOf {i : Int} (h : gx_ic D (gx_TG T G)) (hi : 0 ≤ i ∧ i < 100) : gx_Met l yJ17_valueOf (ws_ yJ17_valueOf cJ17_valueOf 1 (some (.object "java/lang/Integer"))) 1 0 0 D gx_M0 T G nx [.int (iz i)] (gx_P (some (.ref (gx_bx D i))) nx) gx_no := by
  have h1 := h.1
  refine gx_start (by decide) (Nat.le_of_ble_eq_true rfl) rfl (fun p e s m args below meth c hC hlt => ?_)
  refine gx_iload_n hC dJ17_valueOf_0 rfl rfl ?_
  refine gx_bipush hC dJ17_valueOf_1 rfl ?_
  refine gx_icmp_lt hC dJ17_valueOf_3 (tgt := 23) (by decide) (by unfold gx_rg; omega) (by unfold gx_rg; omega) (fun c3 => ?_) (fun c3 => ?_)
  · omega
  · refine gx_iload_n hC dJ17_valueOf_6 rfl rfl ?_
    refine gx_gets hC (List.mem_cons_of_mem _ (List.mem_cons_of_mem _ (List.mem_cons_of_mem _ List.mem_cons_self))) q1235 (fun _ h9 => h9) dJ17_valueOf_7 ?_
    refine gx_icmp_gt hC dJ17_valueOf_10 (tgt := 23) (by decide) (by unfold gx_rg; omega) (by unfold gx_rg; omega) (fun c10 => ?_) (fun c10 => ?_)
    · omega
    · refine gx_gets hC (List.mem_cons_of_mem _ (List.mem_cons_of_mem _ List.mem_cons_self)) q1237 (fun _ h9 => h9) dJ17_valueOf_13 ?_
      refine gx_iload_n hC dJ17_valueOf_16 rfl rfl ?_
      refine gx_sipush hC dJ17_valueOf_17 rfl ?_
      refine gx_iadd hC dJ17_valueOf_20 ?_
      refine gx_aald hC (t := 7) rfl dJ17_valueOf_21 h1 (by omega) (v := .ref (gx_bx D i)) rfl ?_
      exact gx_aret hC rfl rfl rfl (by first | exact Or.inl ⟨_, rfl⟩ | exact Or.inr ⟨_, rfl⟩) (by first | rfl | exact gx_isr_rf _ | exact gx_isr_rn _) dJ17_valueOf_22 (fun G' hG => ⟨rfl, rfl⟩)
theorem m_J17_intValue {i : Int} (h : gx_TG T G a (gx_O 22 [.int (iz i)])) : gx_Met l yJ17_intValue (ws_ yJ17_intValue cJ17_intValue 1 (some .int)) 1 0 0 D gx_M0 T G nx [.ref a] (gx_P (some (.int (iz i))) nx) gx_no := by
  refine gx_start (by decide) (Nat.le_of_ble_eq_true rfl) rfl (fun p e s m args below meth c hC hlt => ?_)
  refine gx_aload_n hC dJ17_intValue_0 rfl rfl (by first | rfl | exact gx_isr_rf _ | exact gx_isr_rn _) ?_
  refine gx_get hC (C := RJ17) (Tf := TJ17) (N := 1) (ci := 22) (k := 0) rfl in_J17 (by decide) q1248 (fun _ h9 => h9) dJ17_intValue_1 (by repeat (first | assumption | exact Or.inr gx_us | exact Or.inr (by assumption) | exact Or.inl (by assumption) | refine gx_tu (by omega) ?_)) rfl ?_
  exact gx_iret hC rfl rfl rfl dJ17_intValue_4 (fun G' hG => ⟨rfl, rfl⟩)
theorem gx_ic.int {T : gx_H} (h : gx_ic D T) {i : Int} (hi : 0 ≤ i ∧ i < 100) : T (gx_bx D i) (gx_O 22 [.int (iz i)]) := by
  have := h.2 (i + 128).toNat (by omega)
  rw [show (((i + 128).toNat : Nat) : Int) - 128 = i by omega] at this
  exact this
theorem m_J3_init_X10 (h : G a (gx_O 9 fdX10)) : gx_Met l yJ3_init_4 (ws_ yJ3_init_4 cJ3_init_4 5 none) 3 0 0 D (fun q => q = a) T G nx [.ref a, .null, .null, .int (iz 0), .int (iz 0)] (fun w G' nx' => w = none ∧ nx' = nx ∧ G' a (gx_O 9 fdX10)) gx_no := by
  refine gx_start (by decide) (Nat.le_of_ble_eq_true rfl) rfl (fun p e s m args below meth c hC hlt => ?_)
  refine gx_aload_n hC dJ3_init_4_0 rfl rfl (by first | rfl | exact gx_isr_rf _ | exact gx_isr_rn _) ?_
  refine gx_oinit hC q215 q137 q138 dJ3_init_4_1 (Nat.le_of_ble_eq_true rfl) (Nat.le_of_ble_eq_true rfl) ?_
  refine gx_aload_n hC dJ3_init_4_4 rfl rfl (by first | rfl | exact gx_isr_rf _ | exact gx_isr_rn _) ?_
  refine gx_aload_n hC dJ3_init_4_5 rfl rfl (by first | rfl | exact gx_isr_rf _ | exact gx_isr_rn _) ?_
  refine gx_put hC (C := RX10) (Tf := TX10) (N := 7) (ci := 9) (k := 0) rfl in_X10 (by decide) tyX10 tyX10_ok nmX10 q473 (fun _ h9 => h9) rfl dJ3_init_4_6 (by first | exact gx_us | assumption | (repeat (first | exact gx_us | assumption | refine gx_un (by omega) ?_))) (by first | exact Or.inl rfl | exact Or.inl (Or.inl rfl) | exact Or.inl (Or.inr rfl) | exact Or.inr (by omega) | assumption | (simp only [gx_A, *]; omega)) (Nat.le_of_ble_eq_true rfl) (by first | rfl | (unfold gx_rn; split <;> rfl) | (cases ‹Option Nat› <;> rfl) | simp [narrow]) (by first | rfl | (unfold gx_rn; split <;> rfl) | (cases ‹Option Nat› <;> rfl) | simp [fits]) ?_
  refine gx_aload_n hC dJ3_init_4_9 rfl rfl (by first | rfl | exact gx_isr_rf _ | exact gx_isr_rn _) ?_
  refine gx_gets hC (List.mem_cons_of_mem _ (List.mem_cons_of_mem _ (List.mem_cons_of_mem _ (List.mem_cons_of_mem _ (List.mem_cons_of_mem _ (List.mem_cons_of_mem _ (List.mem_cons_of_mem _ (List.mem_cons_of_mem _ List.mem_cons_self)))))))) q216 (fun _ h9 => h9) dJ3_init_4_10 ?_
  refine gx_put hC (C := RX10) (Tf := TX10) (N := 7) (ci := 9) (k := 1) rfl in_X10 (by decide) tyX10 tyX10_ok nmX10 q474 (fun _ h9 => h9) rfl dJ3_init_4_13 (by first | exact gx_us | assumption | (repeat (first | exact gx_us | assumption | refine gx_un (by omega) ?_))) (by first | exact Or.inl rfl | exact Or.inl (Or.inl rfl) | exact Or.inl (Or.inr rfl) | exact Or.inr (by omega) | assumption | (simp only [gx_A, *]; omega)) (Nat.le_of_ble_eq_true rfl) (by first | rfl | (unfold gx_rn; split <;> rfl) | (cases ‹Option Nat› <;> rfl) | simp [narrow]) (by first | rfl | (unfold gx_rn; split <;> rfl) | (cases ‹Option Nat› <;> rfl) | simp [fits]) ?_
  refine gx_aload_n hC dJ3_init_4_16 rfl rfl (by first | rfl | exact gx_isr_rf _ | exact gx_isr_rn _) ?_
  refine gx_gets hC (List.mem_cons_of_mem _ (List.mem_cons_of_mem _ (List.mem_cons_of_mem _ (List.mem_cons_of_mem _ (List.mem_cons_of_mem _ (List.mem_cons_of_mem _ (List.mem_cons_of_mem _ (List.mem_cons_of_mem _ (List.mem_cons_of_mem _ List.mem_cons_self))))))))) q218 (fun _ h9 => h9) dJ3_init_4_17 ?_
  refine gx_put hC (C := RX10) (Tf := TX10) (N := 7) (ci := 9) (k := 2) rfl in_X10 (by decide) tyX10 tyX10_ok nmX10 q475 (fun _ h9 => h9) rfl dJ3_init_4_20 (by first | exact gx_us | assumption | (repeat (first | exact gx_us | assumption | refine gx_un (by omega) ?_))) (by first | exact Or.inl rfl | exact Or.inl (Or.inl rfl) | exact Or.inl (Or.inr rfl) | exact Or.inr (by omega) | assumption | (simp only [gx_A, *]; omega)) (Nat.le_of_ble_eq_true rfl) (by first | rfl | (unfold gx_rn; split <;> rfl) | (cases ‹Option Nat› <;> rfl) | simp [narrow]) (by first | rfl | (unfold gx_rn; split <;> rfl) | (cases ‹Option Nat› <;> rfl) | simp [fits]) ?_
  refine gx_iload hC dJ3_init_4_23 rfl ?_
  refine gx_if_eq hC dJ3_init_4_25 (tgt := 36) (by decide) (by unfold gx_rg; omega) (fun c25 => ?_) (fun c25 => ?_)
  · refine gx_aload_n hC dJ3_init_4_36 rfl rfl (by first | rfl | exact gx_isr_rf _ | exact gx_isr_rn _) ?_
    refine gx_null hC dJ3_init_4_37 ?_
    refine gx_put hC (C := RX10) (Tf := TX10) (N := 7) (ci := 9) (k := 1) rfl in_X10 (by decide) tyX10 tyX10_ok nmX10 q474 (fun _ h9 => h9) rfl dJ3_init_4_38 (by first | exact gx_us | assumption | (repeat (first | exact gx_us | assumption | refine gx_un (by omega) ?_))) (by first | exact Or.inl rfl | exact Or.inl (Or.inl rfl) | exact Or.inl (Or.inr rfl) | exact Or.inr (by omega) | assumption | (simp only [gx_A, *]; omega)) (Nat.le_of_ble_eq_true rfl) (by first | rfl | (unfold gx_rn; split <;> rfl) | (cases ‹Option Nat› <;> rfl) | simp [narrow]) (by first | rfl | (unfold gx_rn; split <;> rfl) | (cases ‹Option Nat› <;> rfl) | simp [fits]) ?_
    refine gx_aload_n hC dJ3_init_4_41 rfl rfl (by first | rfl | exact gx_isr_rf _ | exact gx_isr_rn _) ?_
    refine gx_aload_n hC dJ3_init_4_42 rfl rfl (by first | rfl | exact gx_isr_rf _ | exact gx_isr_rn _) ?_
    refine gx_put hC (C := RX10) (Tf := TX10) (N := 7) (ci := 9) (k := 3) rfl in_X10 (by decide) tyX10 tyX10_ok nmX10 q472 (fun _ h9 => h9) rfl dJ3_init_4_43 (by first | exact gx_us | assumption | (repeat (first | exact gx_us | assumption | refine gx_un (by omega) ?_))) (by first | exact Or.inl rfl | exact Or.inl (Or.inl rfl) | exact Or.inl (Or.inr rfl) | exact Or.inr (by omega) | assumption | (simp only [gx_A, *]; omega)) (Nat.le_of_ble_eq_true rfl) (by first | rfl | (unfold gx_rn; split <;> rfl) | (cases ‹Option Nat› <;> rfl) | simp [narrow]) (by first | rfl | (unfold gx_rn; split <;> rfl) | (cases ‹Option Nat› <;> rfl) | simp [fits]) ?_
    refine gx_aload_n hC dJ3_init_4_46 rfl rfl (by first | rfl | exact gx_isr_rf _ | exact gx_isr_rn _) ?_
    refine gx_aload_n hC dJ3_init_4_47 rfl rfl (by first | rfl | exact gx_isr_rf _ | exact gx_isr_rn _) ?_
    refine gx_put hC (C := RX10) (Tf := TX10) (N := 7) (ci := 9) (k := 0) rfl in_X10 (by decide) tyX10 tyX10_ok nmX10 q473 (fun _ h9 => h9) rfl dJ3_init_4_48 (by first | exact gx_us | assumption | (repeat (first | exact gx_us | assumption | refine gx_un (by omega) ?_))) (by first | exact Or.inl rfl | exact Or.inl (Or.inl rfl) | exact Or.inl (Or.inr rfl) | exact Or.inr (by omega) | assumption | (simp only [gx_A, *]; omega)) (Nat.le_of_ble_eq_true rfl) (by first | rfl | (unfold gx_rn; split <;> rfl) | (cases ‹Option Nat› <;> rfl) | simp [narrow]) (by first | rfl | (unfold gx_rn; split <;> rfl) | (cases ‹Option Nat› <;> rfl) | simp [fits]) ?_
    refine gx_iload_n hC dJ3_init_4_51 rfl rfl ?_
    refine gx_if_ne hC dJ3_init_4_52 (tgt := 60) (by decide) (by unfold gx_rg; omega) (fun c52 => ?_) (fun c52 => ?_)
    · exact absurd rfl c52
    · refine gx_aload_n hC dJ3_init_4_55 rfl rfl (by first | rfl | exact gx_isr_rf _ | exact gx_isr_rn _) ?_
      refine gx_null hC dJ3_init_4_56 ?_
      refine gx_put hC (C := RX10) (Tf := TX10) (N := 7) (ci := 9) (k := 2) rfl in_X10 (by decide) tyX10 tyX10_ok nmX10 q475 (fun _ h9 => h9) rfl dJ3_init_4_57 (by first | exact gx_us | assumption | (repeat (first | exact gx_us | assumption | refine gx_un (by omega) ?_))) (by first | exact Or.inl rfl | exact Or.inl (Or.inl rfl) | exact Or.inl (Or.inr rfl) | exact Or.inr (by omega) | assumption | (simp only [gx_A, *]; omega)) (Nat.le_of_ble_eq_true rfl) (by first | rfl | (unfold gx_rn; split <;> rfl) | (cases ‹Option Nat› <;> rfl) | simp [narrow]) (by first | rfl | (unfold gx_rn; split <;> rfl) | (cases ‹Option Nat› <;> rfl) | simp [fits]) ?_
      exact gx_vret hC rfl rfl rfl dJ3_init_4_60 (fun G' hG => ⟨rfl, rfl, hG _ _ gx_us⟩)
  · exact absurd rfl c25
theorem m_J4_init_X10 (h : G a (gx_O 9 fdX10)) : gx_Met l yJ4_init_4 (ws_ yJ4_init_4 cJ4_init_4 5 none) 4 0 0 D (fun q => q = a) T G nx [.ref a, .null, .null, .int (iz 0), .int (iz 0)] (fun w G' nx' => w = none ∧ nx' = nx ∧ G' a (gx_O 9 fdX10)) gx_no := by
  refine gx_start (by decide) (Nat.le_of_ble_eq_true rfl) rfl (fun p e s m args below meth c hC hlt => ?_)
  refine gx_aload_n hC dJ4_init_4_0 rfl rfl (by first | rfl | exact gx_isr_rf _ | exact gx_isr_rn _) ?_
  refine gx_aload_n hC dJ4_init_4_1 rfl rfl (by first | rfl | exact gx_isr_rf _ | exact gx_isr_rn _) ?_
  refine gx_aload_n hC dJ4_init_4_2 rfl rfl (by first | rfl | exact gx_isr_rf _ | exact gx_isr_rn _) ?_
  refine gx_iload_n hC dJ4_init_4_3 rfl rfl ?_
  refine gx_iload hC dJ4_init_4_4 rfl ?_
  refine gx_callI (nA := 4) hC (m_J3_init_X10 h) (lw_meth q1225) q82 q1223 q1224 rfl (by decide +kernel) dJ4_init_4_6 rfl ⟨Nat.le_of_ble_eq_true rfl, Nat.le_of_ble_eq_true rfl⟩ (gx_in.id hC (fun q hq => Or.inl hq)) rfl (by first | exact Nat.le_of_ble_eq_true rfl | simp [gx_cat_rf, Value.category]) gx_kno (fun v2 G2 nx2 hp hf hle hlt2 => ?_)
  obtain ⟨rfl, rfl, q⟩ := hp
  exact gx_vret hC rfl rfl rfl dJ4_init_4_9 (fun G' hG => ⟨rfl, rfl, hG _ _ q⟩)
/-- such an exception, with its place -/
abbrev gx_xX10 (i : Int) : gx_E := gx_O 9 [.null, .null, .null, .null, .null, .int (iz 0), .int (iz i)]
theorem m_X10_init {i : Int} (h : G a (gx_O 9 fdX10)) : gx_Met l yX10_init (ws_ yX10_init cX10_init 2 none) 5 0 0 D (fun q => q = a) T G nx [.ref a, .int (iz i)] (fun w G' nx' => w = none ∧ nx' = nx ∧ G' a (gx_xX10 i)) gx_no := by
  refine gx_start (by decide) (Nat.le_of_ble_eq_true rfl) rfl (fun p e s m args below meth c hC hlt => ?_)
  refine gx_aload_n hC dX10_init_0 rfl rfl (by first | rfl | exact gx_isr_rf _ | exact gx_isr_rn _) ?_
  refine gx_null hC dX10_init_1 ?_
  refine gx_null hC dX10_init_2 ?_
  refine gx_iconst hC dX10_init_3 ?_
  refine gx_iconst hC dX10_init_4 ?_
  refine gx_callI (nA := 4) hC (m_J4_init_X10 h) (lw_meth q1222) q83 q1220 q1221 rfl (by decide +kernel) dX10_init_5 rfl ⟨Nat.le_of_ble_eq_true rfl, Nat.le_of_ble_eq_true rfl⟩ (gx_in.id hC (fun q hq => Or.inl hq)) rfl (by first | exact Nat.le_of_ble_eq_true rfl | simp [gx_cat_rf, Value.category]) gx_kno (fun v2 G2 nx2 hp hf hle hlt2 => ?_)
  obtain ⟨rfl, rfl, q⟩ := hp
  refine gx_aload_n hC dX10_init_8 rfl rfl (by first | rfl | exact gx_isr_rf _ | exact gx_isr_rn _) ?_
  refine gx_iload_n hC dX10_init_9 rfl rfl ?_
  refine gx_putF hC (C := RX10) (Tf := TX10) (N := 7) (ci := 9) (k := 6) rfl in_X10 (by decide) tyX10 tyX10_ok nmX10 q1226 (fun _ h9 => h9) rfl rfl rfl dX10_init_10 (by first | exact gx_us | assumption | (repeat (first | exact gx_us | assumption | refine gx_un (by omega) ?_))) (by first | exact Or.inl rfl | exact Or.inl (Or.inl rfl) | exact Or.inl (Or.inr rfl) | exact Or.inr (by omega) | assumption | (simp only [gx_A, *]; omega)) (Nat.le_of_ble_eq_true rfl) (by first | rfl | (unfold gx_rn; split <;> rfl) | (cases ‹Option Nat› <;> rfl) | simp [narrow]) (by first | rfl | (unfold gx_rn; split <;> rfl) | (cases ‹Option Nat› <;> rfl) | simp [fits]) ?_
  exact gx_vret hC rfl rfl rfl dX10_init_13 (fun G' hG => ⟨rfl, rfl, hG _ _ gx_us⟩)
theorem m_J3_init_X18 (h : G a (gx_O 17 fdX18)) : gx_Met l yJ3_init_4 (ws_ yJ3_init_4 cJ3_init_4 5 none) 3 0 0 D (fun q => q = a) T G nx [.ref a, .null, .null, .int (iz 0), .int (iz 0)] (fun w G' nx' => w = none ∧ nx' = nx ∧ G' a (gx_O 17 fdX18)) gx_no := by
  refine gx_start (by decide) (Nat.le_of_ble_eq_true rfl) rfl (fun p e s m args below meth c hC hlt => ?_)
  refine gx_aload_n hC dJ3_init_4_0 rfl rfl (by first | rfl | exact gx_isr_rf _ | exact gx_isr_rn _) ?_
  refine gx_oinit hC q215 q137 q138 dJ3_init_4_1 (Nat.le_of_ble_eq_true rfl) (Nat.le_of_ble_eq_true rfl) ?_
  refine gx_aload_n hC dJ3_init_4_4 rfl rfl (by first | rfl | exact gx_isr_rf _ | exact gx_isr_rn _) ?_
  refine gx_aload_n hC dJ3_init_4_5 rfl rfl (by first | rfl | exact gx_isr_rf _ | exact gx_isr_rn _) ?_
  refine gx_put hC (C := RX18) (Tf := TX18) (N := 7) (ci := 17) (k := 0) rfl in_X18 (by decide) tyX18 tyX18_ok nmX18 q473 (fun _ h9 => h9) rfl dJ3_init_4_6 (by first | exact gx_us | assumption | (repeat (first | exact gx_us | assumption | refine gx_un (by omega) ?_))) (by first | exact Or.inl rfl | exact Or.inl (Or.inl rfl) | exact Or.inl (Or.inr rfl) | exact Or.inr (by omega) | assumption | (simp only [gx_A, *]; omega)) (Nat.le_of_ble_eq_true rfl) (by first | rfl | (unfold gx_rn; split <;> rfl) | (cases ‹Option Nat› <;> rfl) | simp [narrow]) (by first | rfl | (unfold gx_rn; split <;> rfl) | (cases ‹Option Nat› <;> rfl) | simp [fits]) ?_
  refine gx_aload_n hC dJ3_init_4_9 rfl rfl (by first | rfl | exact gx_isr_rf _ | exact gx_isr_rn _) ?_
  refine gx_gets hC (List.mem_cons_of_mem _ (List.mem_cons_of_mem _ (List.mem_cons_of_mem _ (List.mem_cons_of_mem _ (List.mem_cons_of_mem _ (List.mem_cons_of_mem _ (List.mem_cons_of_mem _ (List.mem_cons_of_mem _ List.mem_cons_self)))))))) q216 (fun _ h9 => h9) dJ3_init_4_10 ?_
  refine gx_put hC (C := RX18) (Tf := TX18) (N := 7) (ci := 17) (k := 1) rfl in_X18 (by decide) tyX18 tyX18_ok nmX18 q474 (fun _ h9 => h9) rfl dJ3_init_4_13 (by first | exact gx_us | assumption | (repeat (first | exact gx_us | assumption | refine gx_un (by omega) ?_))) (by first | exact Or.inl rfl | exact Or.inl (Or.inl rfl) | exact Or.inl (Or.inr rfl) | exact Or.inr (by omega) | assumption | (simp only [gx_A, *]; omega)) (Nat.le_of_ble_eq_true rfl) (by first | rfl | (unfold gx_rn; split <;> rfl) | (cases ‹Option Nat› <;> rfl) | simp [narrow]) (by first | rfl | (unfold gx_rn; split <;> rfl) | (cases ‹Option Nat› <;> rfl) | simp [fits]) ?_
  refine gx_aload_n hC dJ3_init_4_16 rfl rfl (by first | rfl | exact gx_isr_rf _ | exact gx_isr_rn _) ?_
  refine gx_gets hC (List.mem_cons_of_mem _ (List.mem_cons_of_mem _ (List.mem_cons_of_mem _ (List.mem_cons_of_mem _ (List.mem_cons_of_mem _ (List.mem_cons_of_mem _ (List.mem_cons_of_mem _ (List.mem_cons_of_mem _ (List.mem_cons_of_mem _ List.mem_cons_self))))))))) q218 (fun _ h9 => h9) dJ3_init_4_17 ?_
  refine gx_put hC (C := RX18) (Tf := TX18) (N := 7) (ci := 17) (k := 2) rfl in_X18 (by decide) tyX18 tyX18_ok nmX18 q475 (fun _ h9 => h9) rfl dJ3_init_4_20 (by first | exact gx_us | assumption | (repeat (first | exact gx_us | assumption | refine gx_un (by omega) ?_))) (by first | exact Or.inl rfl | exact Or.inl (Or.inl rfl) | exact Or.inl (Or.inr rfl) | exact Or.inr (by omega) | assumption | (simp only [gx_A, *]; omega)) (Nat.le_of_ble_eq_true rfl) (by first | rfl | (unfold gx_rn; split <;> rfl) | (cases ‹Option Nat› <;> rfl) | simp [narrow]) (by first | rfl | (unfold gx_rn; split <;> rfl) | (cases ‹Option Nat› <;> rfl) | simp [fits]) ?_
  refine gx_iload hC dJ3_init_4_23 rfl ?_
  refine gx_if_eq hC dJ3_init_4_25 (tgt := 36) (by decide) (by unfold gx_rg; omega) (fun c25 => ?_) (fun c25 => ?_)
  · refine gx_aload_n hC dJ3_init_4_36 rfl rfl (by first | rfl | exact gx_isr_rf _ | exact gx_isr_rn _) ?_
    refine gx_null hC dJ3_init_4_37 ?_
    refine gx_put hC (C := RX18) (Tf := TX18) (N := 7) (ci := 17) (k := 1) rfl in_X18 (by decide) tyX18 tyX18_ok nmX18 q474 (fun _ h9 => h9) rfl dJ3_init_4_38 (by first | exact gx_us | assumption | (repeat (first | exact gx_us | assumption | refine gx_un (by omega) ?_))) (by first | exact Or.inl rfl | exact Or.inl (Or.inl rfl) | exact Or.inl (Or.inr rfl) | exact Or.inr (by omega) | assumption | (simp only [gx_A, *]; omega)) (Nat.le_of_ble_eq_true rfl) (by first | rfl | (unfold gx_rn; split <;> rfl) | (cases ‹Option Nat› <;> rfl) | simp [narrow]) (by first | rfl | (unfold gx_rn; split <;> rfl) | (cases ‹Option Nat› <;> rfl) | simp [fits]) ?_
    refine gx_aload_n hC dJ3_init_4_41 rfl rfl (by first | rfl | exact gx_isr_rf _ | exact gx_isr_rn _) ?_
    refine gx_aload_n hC dJ3_init_4_42 rfl rfl (by first | rfl | exact gx_isr_rf _ | exact gx_isr_rn _) ?_
    refine gx_put hC (C := RX18) (Tf := TX18) (N := 7) (ci := 17) (k := 3) rfl in_X18 (by decide) tyX18 tyX18_ok nmX18 q472 (fun _ h9 => h9) rfl dJ3_init_4_43 (by first | exact gx_us | assumption | (repeat (first | exact gx_us | assumption | refine gx_un (by omega) ?_))) (by first | exact Or.inl rfl | exact Or.inl (Or.inl rfl) | exact Or.inl (Or.inr rfl) | exact Or.inr (by omega) | assumption | (simp only [gx_A, *]; omega)) (Nat.le_of_ble_eq_true rfl) (by first | rfl | (unfold gx_rn; split <;> rfl) | (cases ‹Option Nat› <;> rfl) | simp [narrow]) (by first | rfl | (unfold gx_rn; split <;> rfl) | (cases ‹Option Nat› <;> rfl) | simp [fits]) ?_
    refine gx_aload_n hC dJ3_init_4_46 rfl rfl (by first | rfl | exact gx_isr_rf _ | exact gx_isr_rn _) ?_
    refine gx_aload_n hC dJ3_init_4_47 rfl rfl (by first | rfl | exact gx_isr_rf _ | exact gx_isr_rn _) ?_
    refine gx_put hC (C := RX18) (Tf := TX18) (N := 7) (ci := 17) (k := 0) rfl in_X18 (by decide) tyX18 tyX18_ok nmX18 q473 (fun _ h9 => h9) rfl dJ3_init_4_48 (by first | exact gx_us | assumption | (repeat (first | exact gx_us | assumption | refine gx_un (by omega) ?_))) (by first | exact Or.inl rfl | exact Or.inl (Or.inl rfl) | exact Or.inl (Or.inr rfl) | exact Or.inr (by omega) | assumption | (simp only [gx_A, *]; omega)) (Nat.le_of_ble_eq_true rfl) (by first | rfl | (unfold gx_rn; split <;> rfl) | (cases ‹Option Nat› <;> rfl) | simp [narrow]) (by first | rfl | (unfold gx_rn; split <;> rfl) | (cases ‹Option Nat› <;> rfl) | simp [fits]) ?_
    refine gx_iload_n hC dJ3_init_4_51 rfl rfl ?_
    refine gx_if_ne hC dJ3_init_4_52 (tgt := 60) (by decide) (by unfold gx_rg; omega) (fun c52 => ?_) (fun c52 => ?_)
    · exact absurd rfl c52
    · refine gx_aload_n hC dJ3_init_4_55 rfl rfl (by first | rfl | exact gx_isr_rf _ | exact gx_isr_rn _) ?_
      refine gx_null hC dJ3_init_4_56 ?_
      refine gx_put hC (C := RX18) (Tf := TX18) (N := 7) (ci := 17) (k := 2) rfl in_X18 (by decide) tyX18 tyX18_ok nmX18 q475 (fun _ h9 => h9) rfl dJ3_init_4_57 (by first | exact gx_us | assumption | (repeat (first | exact gx_us | assumption | refine gx_un (by omega) ?_))) (by first | exact Or.inl rfl | exact Or.inl (Or.inl rfl) | exact Or.inl (Or.inr rfl) | exact Or.inr (by omega) | assumption | (simp only [gx_A, *]; omega)) (Nat.le_of_ble_eq_true rfl) (by first | rfl | (unfold gx_rn; split <;> rfl) | (cases ‹Option Nat› <;> rfl) | simp [narrow]) (by first | rfl | (unfold gx_rn; split <;> rfl) | (cases ‹Option Nat› <;> rfl) | simp [fits]) ?_
      exact gx_vret hC rfl rfl rfl dJ3_init_4_60 (fun G' hG => ⟨rfl, rfl, hG _ _ gx_us⟩)
  · exact absurd rfl c25
theorem m_J4_init_X18 (h : G a (gx_O 17 fdX18)) : gx_Met l yJ4_init_4 (ws_ yJ4_init_4 cJ4_init_4 5 none) 4 0 0 D (fun q => q = a) T G nx [.ref a, .null, .null, .int (iz 0), .int (iz 0)] (fun w G' nx' => w = none ∧ nx' = nx ∧ G' a (gx_O 17 fdX18)) gx_no := by
  refine gx_start (by decide) (Nat.le_of_ble_eq_true rfl) rfl (fun p e s m args below meth c hC hlt => ?_)
  refine gx_aload_n hC dJ4_init_4_0 rfl rfl (by first | rfl | exact gx_isr_rf _ | exact gx_isr_rn _) ?_
  refine gx_aload_n hC dJ4_init_4_1 rfl rfl (by first | rfl | exact gx_isr_rf _ | exact gx_isr_rn _) ?_
  refine gx_aload_n hC dJ4_init_4_2 rfl rfl (by first | rfl | exact gx_isr_rf _ | exact gx_isr_rn _) ?_
  refine gx_iload_n hC dJ4_init_4_3 rfl rfl ?_
  refine gx_iload hC dJ4_init_4_4 rfl ?_
  refine gx_callI (nA := 4) hC (m_J3_init_X18 h) (lw_meth q1225) q82 q1223 q1224 rfl (by decide +kernel) dJ4_init_4_6 rfl ⟨Nat.le_of_ble_eq_true rfl, Nat.le_of_ble_eq_true rfl⟩ (gx_in.id hC (fun q hq => Or.inl hq)) rfl (by first | exact Nat.le_of_ble_eq_true rfl | simp [gx_cat_rf, Value.category]) gx_kno (fun v2 G2 nx2 hp hf hle hlt2 => ?_)
  obtain ⟨rfl, rfl, q⟩ := hp
  exact gx_vret hC rfl rfl rfl dJ4_init_4_9 (fun G' hG => ⟨rfl, rfl, hG _ _ q⟩)
/-- such an exception, with its place -/
abbrev gx_xX18 (i : Int) : gx_E := gx_O 17 [.null, .null, .null, .null, .null, .int (iz 0), .int (iz i)]
theorem m_X18_init {i : Int} (h : G a (gx_O 17 fdX18)) : gx_Met l yX18_init (ws_ yX18_init cX18_init 2 none) 5 0 0 D (fun q => q = a) T G nx [.ref a, .int (iz i)] (fun w G' nx' => w = none ∧ nx' = nx ∧ G' a (gx_xX18 i)) gx_no := by
  refine gx_start (by decide) (Nat.le_of_ble_eq_true rfl) rfl (fun p e s m args below meth c hC hlt => ?_)
  refine gx_aload_n hC dX18_init_0 rfl rfl (by first | rfl | exact gx_isr_rf _ | exact gx_isr_rn _) ?_
  refine gx_null hC dX18_init_1 ?_
  refine gx_null hC dX18_init_2 ?_
  refine gx_iconst hC dX18_init_3 ?_
  refine gx_iconst hC dX18_init_4 ?_
  refine gx_callI (nA := 4) hC (m_J4_init_X18 h) (lw_meth q1222) q83 q2187 q1221 rfl (by decide +kernel) dX18_init_5 rfl ⟨Nat.le_of_ble_eq_true rfl, Nat.le_of_ble_eq_true rfl⟩ (gx_in.id hC (fun q hq => Or.inl hq)) rfl (by first | exact Nat.le_of_ble_eq_true rfl | simp [gx_cat_rf, Value.category]) gx_kno (fun v2 G2 nx2 hp hf hle hlt2 => ?_)
  obtain ⟨rfl, rfl, q⟩ := hp
  refine gx_aload_n hC dX18_init_8 rfl rfl (by first | rfl | exact gx_isr_rf _ | exact gx_isr_rn _) ?_
  refine gx_iload_n hC dX18_init_9 rfl rfl ?_
  refine gx_putF hC (C := RX18) (Tf := TX18) (N := 7) (ci := 17) (k := 6) rfl in_X18 (by decide) tyX18 tyX18_ok nmX18 q2188 (fun _ h9 => h9) rfl rfl rfl dX18_init_10 (by first | exact gx_us | assumption | (repeat (first | exact gx_us | assumption | refine gx_un (by omega) ?_))) (by first | exact Or.inl rfl | exact Or.inl (Or.inl rfl) | exact Or.inl (Or.inr rfl) | exact Or.inr (by omega) | assumption | (simp only [gx_A, *]; omega)) (Nat.le_of_ble_eq_true rfl) (by first | rfl | (unfold gx_rn; split <;> rfl) | (cases ‹Option Nat› <;> rfl) | simp [narrow]) (by first | rfl | (unfold gx_rn; split <;> rfl) | (cases ‹Option Nat› <;> rfl) | simp [fits]) ?_
  exact gx_vret hC rfl rfl rfl dX18_init_13 (fun G' hG => ⟨rfl, rfl, hG _ _ gx_us⟩)
end INT

