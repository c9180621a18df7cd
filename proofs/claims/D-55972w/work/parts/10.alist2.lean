/-! java.util.ArrayList: its making, its end, its iterator -/
set_option maxRecDepth 100000
section ALN
variable {l : Launch} {D : gx_D} {T G : gx_H} {nx : Nat} {a ed cap v : Nat} {mc : Int} {xs : List Nat}
theorem m_J0_init {w : Value} (hw : gx_isr w = true) {o : Nat} (ho : w = .ref o) : gx_Met l yJ0_init (ws_ yJ0_init cJ0_init 1 none) 2 0 0 D gx_M0 T G nx [w] (gx_P none nx) gx_no := by
  subst ho
  refine gx_start (by decide) (Nat.le_of_ble_eq_true rfl) rfl (fun p e s m args below meth c hC hlt => ?_)
  refine gx_aload_n hC dJ0_init_0 rfl rfl (by first | rfl | exact gx_isr_rf _) ?_
  refine gx_oinit hC q185 q137 q138 dJ0_init_1 (Nat.le_of_ble_eq_true rfl) (Nat.le_of_ble_eq_true rfl) ?_
  exact gx_vret hC rfl rfl rfl dJ0_init_4 (fun G' hG => ⟨rfl, rfl⟩)
theorem m_J1_init {x y : Value} (h : G a (gx_O 19 [.int (iz 0), x, y])) : gx_Met l yJ1_init (ws_ yJ1_init cJ1_init 1 none) 4 0 0 D (fun q => q = a) T G nx [.ref a] (fun w G' nx' => w = none ∧ nx' = nx ∧ G' a (gx_O 19 [.int (iz 0), x, y])) gx_no := by
  refine gx_start (by decide) (Nat.le_of_ble_eq_true rfl) rfl (fun p e s m args below meth c hC hlt => ?_)
  refine gx_aload_n hC dJ1_init_0 rfl rfl (by first | rfl | exact gx_isr_rf _) ?_
  refine gx_callI (nA := 0) hC (m_J0_init (w := .ref a) rfl rfl) (lw_meth q184) q79 q182 q183 rfl (by decide +kernel) dJ1_init_1 rfl ⟨Nat.le_of_ble_eq_true rfl, Nat.le_of_ble_eq_true rfl⟩ gx_in.id0 rfl (by first | exact Nat.le_of_ble_eq_true rfl | simp [gx_cat_rf, Value.category]) gx_kno (gx_kp0 ?_)
  refine gx_aload_n hC dJ1_init_4 rfl rfl (by first | rfl | exact gx_isr_rf _) ?_
  refine gx_iconst hC dJ1_init_5 ?_
  refine gx_put hC (C := RJ2) (Tf := TJ2) (N := 3) (ci := 19) (k := 0) rfl in_J2 (by decide) tyJ2 tyJ2_ok nmJ2 q515 (fun _ h9 => h9) rfl dJ1_init_6 (by first | exact gx_us | assumption | (repeat (first | exact gx_us | assumption | refine gx_un (by omega) ?_))) (by first | exact Or.inl rfl | exact Or.inl (Or.inl rfl) | exact Or.inl (Or.inr rfl) | exact Or.inr (by omega) | assumption | (simp only [gx_A, *]; omega)) (Nat.le_of_ble_eq_true rfl) (by first | rfl | (cases ‹Option Nat› <;> rfl) | simp [narrow]) (by first | rfl | (cases ‹Option Nat› <;> rfl) | simp [fits]) ?_
  exact gx_vret hC rfl rfl rfl dJ1_init_9 (fun G' hG => ⟨rfl, rfl, hG _ _ gx_us⟩)
theorem m_J2_init (h : G a (gx_O 19 fdJ2)) (h0 : 0 < cap) (h6 : cap ≤ 60) : gx_Met l yJ2_init (ws_ yJ2_init cJ2_init 2 none) 6 1 60 D (fun q => q = a) T G nx [.ref a, .int (iz cap)] (fun w G' nx' => w = none ∧ nx' = nx + 1 ∧ gx_AL D G' a nx 0 cap []) gx_no := by
  refine gx_start (by decide) (Nat.le_of_ble_eq_true rfl) rfl (fun p e s m args below meth c hC hlt => ?_)
  have hax := hlt _ _ h
  refine gx_aload_n hC dJ2_init_0 rfl rfl (by first | rfl | exact gx_isr_rf _) ?_
  refine gx_callI (nA := 0) hC (m_J1_init h) (lw_meth q181) q80 q179 q180 rfl (by decide +kernel) dJ2_init_1 rfl ⟨Nat.le_of_ble_eq_true rfl, Nat.le_of_ble_eq_true rfl⟩ (gx_in.id hC (fun q hq => Or.inl hq)) rfl (by first | exact Nat.le_of_ble_eq_true rfl | simp [gx_cat_rf, Value.category]) gx_kno (fun v2 G2 nx2 hp hf hle hlt2 => ?_)
  obtain ⟨rfl, rfl, h2⟩ := hp
  refine gx_iload_n hC dJ2_init_4 rfl rfl ?_
  refine gx_if_le hC dJ2_init_5 (tgt := 19) (by decide) (by unfold gx_rg; omega) (fun c5 => ?_) (fun c5 => ?_)
  · omega
  · refine gx_bud (bc' := 0 + 1) (bs' := (60 - cap) + cap) (by omega) (by omega) ?_
    refine gx_aload_n hC dJ2_init_8 rfl rfl (by first | rfl | exact gx_isr_rf _) ?_
    refine gx_iload_n hC dJ2_init_9 rfl rfl ?_
    refine gx_newq hC (t := 2) (C := "java/lang/Object") (N := cap) q186 q187 rfl dJ2_init_10 (by first | rfl | omega) (by first | decide | omega) ?_
    refine gx_put hC (C := RJ2) (Tf := TJ2) (N := 3) (ci := 19) (k := 1) rfl in_J2 (by decide) tyJ2 tyJ2_ok nmJ2 q511 (fun _ h9 => h9) rfl dJ2_init_13 (by first | exact gx_us | assumption | (repeat (first | exact gx_us | assumption | refine gx_un (by omega) ?_))) (by first | exact Or.inl rfl | exact Or.inl (Or.inl rfl) | exact Or.inl (Or.inr rfl) | exact Or.inr (by omega) | assumption | (simp only [gx_A, *]; omega)) (Nat.le_of_ble_eq_true rfl) (by first | rfl | (cases ‹Option Nat› <;> rfl) | simp [narrow]) (by first | rfl | (cases ‹Option Nat› <;> rfl) | simp [fits]) ?_
    refine gx_goto hC dJ2_init_16 (tgt := 60) (by decide) ?_
    exact gx_vret hC rfl rfl rfl dJ2_init_60 (fun G' hG => ⟨rfl, rfl, gx_AL.mk (n := 0) rfl (hG _ _ gx_us) (hG _ _ (gx_un (by omega) gx_us)) (fun j hj => by simp at hj) (by simp) (by omega) (by omega)⟩)
/-- a list that is empty, its array the one that all share -/
theorem m_J2_init_2 (h : G a (gx_O 19 fdJ2)) : gx_Met l yJ2_init_2 (ws_ yJ2_init_2 cJ2_init_2 1 none) 6 0 0 D (fun q => q = a) T G nx [.ref a] (fun w G' nx' => w = none ∧ nx' = nx ∧ G' a (gx_O 19 [.int (iz 0), .ref (D.2.2 1), .int (iz 0)])) gx_no := by
  refine gx_start (by decide) (Nat.le_of_ble_eq_true rfl) rfl (fun p e s m args below meth c hC hlt => ?_)
  refine gx_aload_n hC dJ2_init_2_0 rfl rfl (by first | rfl | exact gx_isr_rf _) ?_
  refine gx_callI (nA := 0) hC (m_J1_init h) (lw_meth q181) q80 q179 q180 rfl (by decide +kernel) dJ2_init_2_1 rfl ⟨Nat.le_of_ble_eq_true rfl, Nat.le_of_ble_eq_true rfl⟩ (gx_in.id hC (fun q hq => Or.inl hq)) rfl (by first | exact Nat.le_of_ble_eq_true rfl | simp [gx_cat_rf, Value.category]) gx_kno (fun v2 G2 nx2 hp hf hle hlt2 => ?_)
  obtain ⟨rfl, rfl, h2⟩ := hp
  refine gx_aload_n hC dJ2_init_2_4 rfl rfl (by first | rfl | exact gx_isr_rf _) ?_
  refine gx_gets hC (List.mem_cons_of_mem _ List.mem_cons_self) q579 (fun _ h9 => h9) dJ2_init_2_5 ?_
  refine gx_put hC (C := RJ2) (Tf := TJ2) (N := 3) (ci := 19) (k := 1) rfl in_J2 (by decide) tyJ2 tyJ2_ok nmJ2 q511 (fun _ h9 => h9) rfl dJ2_init_2_8 (by first | exact gx_us | assumption | (repeat (first | exact gx_us | assumption | refine gx_un (by omega) ?_))) (by first | exact Or.inl rfl | exact Or.inl (Or.inl rfl) | exact Or.inl (Or.inr rfl) | exact Or.inr (by omega) | assumption | (simp only [gx_A, *]; omega)) (Nat.le_of_ble_eq_true rfl) (by first | rfl | (cases ‹Option Nat› <;> rfl) | simp [narrow]) (by first | rfl | (cases ‹Option Nat› <;> rfl) | simp [fits]) ?_
  exact gx_vret hC rfl rfl rfl dJ2_init_2_11 (fun G' hG => ⟨rfl, rfl, hG _ _ gx_us⟩)
theorem gx_al_pop {f : Nat → Option Nat} {xs : List Nat} {k : Nat} (h : ∀ j, j < xs.length → f j = some (xs.getD j 0)) (hk : k = xs.length - 1) : ∀ j, j < xs.dropLast.length → gx_fq f k none j = some (xs.dropLast.getD j 0) := by
  intro j hj
  simp only [List.length_dropLast] at hj
  unfold gx_fq
  rw [if_neg (by omega), h j (by omega)]
  simp [List.getD_eq_getElem?_getD, List.getElem?_dropLast, hj]
  rw [List.getElem?_eq_getElem (by omega)]
  rfl
theorem m_J2_fastRemove (h : gx_AL D G a ed mc cap xs) (hl : 0 < xs.length) : gx_Met l yJ2_fastRemove (ws_ yJ2_fastRemove cJ2_fastRemove 4 none) 1 0 0 D (fun q => q = a ∨ q = ed) T G nx [.ref a, .ref ed, .int (iz (xs.length - 1))] (fun w G' nx' => w = none ∧ nx' = nx ∧ gx_AL D G' a ed (mc + 1) cap xs.dropLast) gx_no := by
  obtain ⟨h1, ⟨f, h2, h3⟩, h4, h5, h6⟩ := h
  refine gx_start (by decide) (Nat.le_of_ble_eq_true rfl) rfl (fun p e s m args below meth c hC hlt => ?_)
  refine gx_aload_n hC dJ2_fastRemove_0 rfl rfl (by first | rfl | exact gx_isr_rf _) ?_
  refine gx_dup hC dJ2_fastRemove_1 (by first | rfl | exact gx_cat_rf _) ?_
  refine gx_get hC (C := RJ2) (Tf := TJ2) (N := 3) (ci := 19) (k := 0) rfl in_J2 (by decide) q522 (fun x9 h9 => u_same (hC.ts _ q519) x9 h9) dJ2_fastRemove_2 (by repeat (first | assumption | exact Or.inr gx_us | exact Or.inr (by assumption) | exact Or.inl (by assumption) | refine gx_tu (by omega) ?_)) rfl ?_
  refine gx_iconst hC dJ2_fastRemove_5 ?_
  refine gx_iadd hC dJ2_fastRemove_6 ?_
  refine gx_put hC (C := RJ2) (Tf := TJ2) (N := 3) (ci := 19) (k := 0) rfl in_J2 (by decide) tyJ2 tyJ2_ok nmJ2 q522 (fun x9 h9 => u_same (hC.ts _ q519) x9 h9) rfl dJ2_fastRemove_7 (by first | exact gx_us | assumption | (repeat (first | exact gx_us | assumption | refine gx_un (by omega) ?_))) (by first | exact Or.inl rfl | exact Or.inl (Or.inl rfl) | exact Or.inl (Or.inr rfl) | exact Or.inr (by omega) | assumption | (simp only [gx_A, *]; omega)) (Nat.le_of_ble_eq_true rfl) (by first | rfl | (cases ‹Option Nat› <;> rfl) | simp [narrow]) (by first | rfl | (cases ‹Option Nat› <;> rfl) | simp [fits]) ?_
  refine gx_aload_n hC dJ2_fastRemove_10 rfl rfl (by first | rfl | exact gx_isr_rf _) ?_
  refine gx_get hC (C := RJ2) (Tf := TJ2) (N := 3) (ci := 19) (k := 2) rfl in_J2 (by decide) q514 (fun _ h9 => h9) dJ2_fastRemove_11 (by repeat (first | assumption | exact Or.inr gx_us | exact Or.inr (by assumption) | exact Or.inl (by assumption) | refine gx_tu (by omega) ?_)) rfl ?_
  refine gx_iconst hC dJ2_fastRemove_14 ?_
  refine gx_isub hC dJ2_fastRemove_15 ?_
  refine gx_dup hC dJ2_fastRemove_16 (by first | rfl | exact gx_cat_rf _) ?_
  refine gx_istore_n hC dJ2_fastRemove_17 rfl (by decide) (by first | rfl | simp [gx_ck, gx_lk, gx_cat_rf]) ?_
  refine gx_iload_n hC dJ2_fastRemove_18 rfl rfl ?_
  refine gx_icmp_le hC dJ2_fastRemove_19 (tgt := 34) (by decide) (by unfold gx_rg; omega) (by unfold gx_rg; omega) (fun c19 => ?_) (fun c19 => ?_)
  · refine gx_aload_n hC dJ2_fastRemove_34 rfl rfl (by first | rfl | exact gx_isr_rf _) ?_
    refine gx_aload_n hC dJ2_fastRemove_35 rfl rfl (by first | rfl | exact gx_isr_rf _) ?_
    refine gx_iload_n hC dJ2_fastRemove_36 rfl rfl ?_
    refine gx_dup_x1 hC dJ2_fastRemove_37 (by first | rfl | exact gx_cat_rf _) (by first | rfl | exact gx_cat_rf _) ?_
    refine gx_put hC (C := RJ2) (Tf := TJ2) (N := 3) (ci := 19) (k := 2) rfl in_J2 (by decide) tyJ2 tyJ2_ok nmJ2 q514 (fun _ h9 => h9) rfl dJ2_fastRemove_38 (by first | exact gx_us | assumption | (repeat (first | exact gx_us | assumption | refine gx_un (by omega) ?_))) (by first | exact Or.inl rfl | exact Or.inl (Or.inl rfl) | exact Or.inl (Or.inr rfl) | exact Or.inr (by omega) | assumption | (simp only [gx_A, *]; omega)) (Nat.le_of_ble_eq_true rfl) (by first | rfl | (cases ‹Option Nat› <;> rfl) | simp [narrow]) (by first | rfl | (cases ‹Option Nat› <;> rfl) | simp [fits]) ?_
    refine gx_null hC dJ2_fastRemove_41 ?_
    refine gx_aastN hC (t := 2) rfl dJ2_fastRemove_42 (by first | exact gx_us | assumption | (repeat (first | exact gx_us | assumption | refine gx_un (by omega) ?_))) (by first | exact Or.inl rfl | exact Or.inl (Or.inl rfl) | exact Or.inl (Or.inr rfl) | exact Or.inr (by omega) | assumption | (simp only [gx_A, *]; omega)) (by omega) ?_
    exact gx_vret hC rfl rfl rfl dJ2_fastRemove_43 (fun G' hG => ⟨rfl, rfl, gx_AL.mk (n := xs.length - 1) (by simp; omega) (hG _ _ (gx_un (by omega) gx_us)) (hG _ _ gx_us) (gx_al_pop h3 (by omega)) (by simp; omega) h5 h6⟩)
  · omega
theorem m_J2_remove (h : gx_AL D G a ed mc cap xs) (hl : 0 < xs.length) : gx_Met l yJ2_remove (ws_ yJ2_remove cJ2_remove 4 (some (.object "java/lang/Object"))) 5 0 0 D (fun q => q = a ∨ q = ed) T G nx [.ref a, .int (iz (xs.length - 1))] (fun w G' nx' => w = some (.ref (xs.getD (xs.length - 1) 0)) ∧ nx' = nx ∧ gx_AL D G' a ed (mc + 1) cap xs.dropLast) gx_no := by
  have h0 := h
  obtain ⟨h1, ⟨f, h2, h3⟩, h4, h5, h6⟩ := h
  refine gx_start (by decide) (Nat.le_of_ble_eq_true rfl) rfl (fun p e s m args below meth c hC hlt => ?_)
  refine gx_iload_n hC dJ2_remove_0 rfl rfl ?_
  refine gx_aload_n hC dJ2_remove_1 rfl rfl (by first | rfl | exact gx_isr_rf _) ?_
  refine gx_get hC (C := RJ2) (Tf := TJ2) (N := 3) (ci := 19) (k := 2) rfl in_J2 (by decide) q514 (fun _ h9 => h9) dJ2_remove_2 (by repeat (first | assumption | exact Or.inr gx_us | exact Or.inr (by assumption) | exact Or.inl (by assumption) | refine gx_tu (by omega) ?_)) rfl ?_
  refine gx_callS (nA := 2) hC (m_J21_checkIndex (by unfold gx_rg; omega) (by unfold gx_rg; omega) (by omega)) (lw_S q791 q792 q103 q793) (by decide +kernel) dJ2_remove_5 rfl ⟨Nat.le_of_ble_eq_true rfl, Nat.le_of_ble_eq_true rfl⟩ gx_in.id0 rfl (by first | exact Nat.le_of_ble_eq_true rfl | simp [gx_cat_rf, Value.category]) gx_kno (gx_kp1 ?_)
  refine gx_pop hC dJ2_remove_8 (by first | rfl | exact gx_cat_rf _) ?_
  refine gx_aload_n hC dJ2_remove_9 rfl rfl (by first | rfl | exact gx_isr_rf _) ?_
  refine gx_get hC (C := RJ2) (Tf := TJ2) (N := 3) (ci := 19) (k := 1) rfl in_J2 (by decide) q511 (fun _ h9 => h9) dJ2_remove_10 (by repeat (first | assumption | exact Or.inr gx_us | exact Or.inr (by assumption) | exact Or.inl (by assumption) | refine gx_tu (by omega) ?_)) rfl ?_
  refine gx_astore_n hC dJ2_remove_13 rfl (by decide) (by first | rfl | simp [gx_ck, gx_lk, gx_cat_rf]) (by first | rfl | exact gx_isr_rf _) ?_
  refine gx_aload_n hC dJ2_remove_14 rfl rfl (by first | rfl | exact gx_isr_rf _) ?_
  refine gx_iload_n hC dJ2_remove_15 rfl rfl ?_
  refine gx_aald hC (t := 2) rfl dJ2_remove_16 (Or.inr h2) (by omega) (v := .ref (xs.getD (xs.length - 1) 0)) (by rw [show ((xs.length : Int) - 1).toNat = xs.length - 1 by omega, h3 _ (by omega)]; rfl) ?_
  refine gx_astore_n hC dJ2_remove_17 rfl (by decide) (by first | rfl | simp [gx_ck, gx_lk, gx_cat_rf]) (by first | rfl | exact gx_isr_rf _) ?_
  refine gx_aload_n hC dJ2_remove_18 rfl rfl (by first | rfl | exact gx_isr_rf _) ?_
  refine gx_aload_n hC dJ2_remove_19 rfl rfl (by first | rfl | exact gx_isr_rf _) ?_
  refine gx_iload_n hC dJ2_remove_20 rfl rfl ?_
  refine gx_callV (nA := 2) hC (m_J2_fastRemove h0 hl) (C := RJ2) (Tf := TJ2) (Nf := 3) (ci := 19) rfl (by repeat (first | assumption | exact Or.inr gx_us | exact Or.inr (by assumption) | exact Or.inl (by assumption) | refine gx_tu (by omega) ?_)) (lw_V q1809 q1811 qs24 q81 q1812) (by decide +kernel) dJ2_remove_21 rfl ⟨Nat.le_of_ble_eq_true rfl, Nat.le_of_ble_eq_true rfl⟩ (gx_in.id hC (fun q hq => Or.inl hq)) rfl (by first | exact Nat.le_of_ble_eq_true rfl | simp [gx_cat_rf, Value.category]) gx_kno (fun v2 G2 nx2 hp hf hle hlt2 => ?_)
  obtain ⟨rfl, rfl, q⟩ := hp
  refine gx_aload_n hC dJ2_remove_24 rfl rfl (by first | rfl | exact gx_isr_rf _) ?_
  exact gx_aret hC rfl rfl rfl (by first | exact Or.inl ⟨_, rfl⟩ | exact Or.inr ⟨_, rfl⟩) (by first | rfl | exact gx_isr_rf _) dJ2_remove_25 (fun G' hG => ⟨rfl, rfl, q.mono (hG _) (hG _)⟩)
theorem m_J2_clear (h : gx_AL D G a ed mc cap xs) : gx_Met l yJ2_clear (ws_ yJ2_clear cJ2_clear 4 none) 1 0 0 D (fun q => q = a ∨ q = ed) T G nx [.ref a] (fun w G' nx' => w = none ∧ nx' = nx ∧ gx_AL D G' a ed (mc + 1) cap []) gx_no := by
  obtain ⟨h1, ⟨f, h2, h3⟩, h4, h5, h6⟩ := h
  refine gx_start (by decide) (Nat.le_of_ble_eq_true rfl) rfl (fun p e s m args below meth c hC hlt => ?_)
  refine gx_aload_n hC dJ2_clear_0 rfl rfl (by first | rfl | exact gx_isr_rf _) ?_
  refine gx_dup hC dJ2_clear_1 (by first | rfl | exact gx_cat_rf _) ?_
  refine gx_get hC (C := RJ2) (Tf := TJ2) (N := 3) (ci := 19) (k := 0) rfl in_J2 (by decide) q522 (fun x9 h9 => u_same (hC.ts _ q519) x9 h9) dJ2_clear_2 (by repeat (first | assumption | exact Or.inr gx_us | exact Or.inr (by assumption) | exact Or.inl (by assumption) | refine gx_tu (by omega) ?_)) rfl ?_
  refine gx_iconst hC dJ2_clear_5 ?_
  refine gx_iadd hC dJ2_clear_6 ?_
  refine gx_put hC (C := RJ2) (Tf := TJ2) (N := 3) (ci := 19) (k := 0) rfl in_J2 (by decide) tyJ2 tyJ2_ok nmJ2 q522 (fun x9 h9 => u_same (hC.ts _ q519) x9 h9) rfl dJ2_clear_7 (by first | exact gx_us | assumption | (repeat (first | exact gx_us | assumption | refine gx_un (by omega) ?_))) (by first | exact Or.inl rfl | exact Or.inl (Or.inl rfl) | exact Or.inl (Or.inr rfl) | exact Or.inr (by omega) | assumption | (simp only [gx_A, *]; omega)) (Nat.le_of_ble_eq_true rfl) (by first | rfl | (cases ‹Option Nat› <;> rfl) | simp [narrow]) (by first | rfl | (cases ‹Option Nat› <;> rfl) | simp [fits]) ?_
  refine gx_aload_n hC dJ2_clear_10 rfl rfl (by first | rfl | exact gx_isr_rf _) ?_
  refine gx_get hC (C := RJ2) (Tf := TJ2) (N := 3) (ci := 19) (k := 1) rfl in_J2 (by decide) q511 (fun _ h9 => h9) dJ2_clear_11 (by repeat (first | assumption | exact Or.inr gx_us | exact Or.inr (by assumption) | exact Or.inl (by assumption) | refine gx_tu (by omega) ?_)) rfl ?_
  refine gx_astore_n hC dJ2_clear_14 rfl (by decide) (by first | rfl | simp [gx_ck, gx_lk, gx_cat_rf]) (by first | rfl | exact gx_isr_rf _) ?_
  refine gx_aload_n hC dJ2_clear_15 rfl rfl (by first | rfl | exact gx_isr_rf _) ?_
  refine gx_get hC (C := RJ2) (Tf := TJ2) (N := 3) (ci := 19) (k := 2) rfl in_J2 (by decide) q514 (fun _ h9 => h9) dJ2_clear_16 (by repeat (first | assumption | exact Or.inr gx_us | exact Or.inr (by assumption) | exact Or.inl (by assumption) | refine gx_tu (by omega) ?_)) rfl ?_
  refine gx_istore_n hC dJ2_clear_19 rfl (by decide) (by first | rfl | simp [gx_ck, gx_lk, gx_cat_rf]) ?_
  refine gx_aload_n hC dJ2_clear_20 rfl rfl (by first | rfl | exact gx_isr_rf _) ?_
  refine gx_iconst hC dJ2_clear_21 ?_
  refine gx_dup_x1 hC dJ2_clear_22 (by first | rfl | exact gx_cat_rf _) (by first | rfl | exact gx_cat_rf _) ?_
  refine gx_put hC (C := RJ2) (Tf := TJ2) (N := 3) (ci := 19) (k := 2) rfl in_J2 (by decide) tyJ2 tyJ2_ok nmJ2 q514 (fun _ h9 => h9) rfl dJ2_clear_23 (by first | exact gx_us | assumption | (repeat (first | exact gx_us | assumption | refine gx_un (by omega) ?_))) (by first | exact Or.inl rfl | exact Or.inl (Or.inl rfl) | exact Or.inl (Or.inr rfl) | exact Or.inr (by omega) | assumption | (simp only [gx_A, *]; omega)) (Nat.le_of_ble_eq_true rfl) (by first | rfl | (cases ‹Option Nat› <;> rfl) | simp [narrow]) (by first | rfl | (cases ‹Option Nat› <;> rfl) | simp [fits]) ?_
  refine gx_istore_n hC dJ2_clear_26 rfl (by decide) (by first | rfl | simp [gx_ck, gx_lk, gx_cat_rf]) ?_
  refine gx_loc (M := [(3, some (.int (iz 0))), (2, some (.int (iz xs.length))), (1, some (.ref ed)), (0, some (.ref a))]) (by repeat (first | exact trivial | refine ⟨rfl, ?_⟩)) ?_
  refine gx_loop (σ := Nat × gx_H × (Nat → Option Nat)) (fun x => x.1 ≤ xs.length ∧ x.2.1 a (gx_O 19 [.int (iz (mc + 1)), .ref ed, .int (iz 0)]) ∧ x.2.1 ed (gx_Q D 2 cap x.2.2)) (fun x => xs.length - x.1) (fun x => x.2.1) (fun _ => nx) (fun _ => 0) (fun _ => 0) (fun x => [(3, some (.int (iz x.1))), (2, some (.int (iz xs.length))), (1, some (.ref ed)), (0, some (.ref a))]) (0, _, f) ⟨Nat.zero_le _, gx_us, gx_un (by omega) (gx_un (by omega) h2)⟩ ?_
  rintro ⟨i, G1, f1⟩ ⟨hi, q1, q2⟩ ih
  dsimp only at hi q1 q2 ⊢
  refine gx_iload_n hC dJ2_clear_27 rfl rfl ?_
  refine gx_iload_n hC dJ2_clear_28 rfl rfl ?_
  refine gx_icmp_ge hC dJ2_clear_29 (tgt := 42) (by decide) (by unfold gx_rg; omega) (by unfold gx_rg; omega) (fun c29 => ?_) (fun c29 => ?_)
  · exact gx_vret hC rfl rfl rfl dJ2_clear_42 (fun G' hG => ⟨rfl, rfl, gx_AL.mk (n := 0) rfl (hG _ _ q1) (hG _ _ q2) (fun j hj => by simp at hj) (by simp) h5 h6⟩)
  · refine gx_aload_n hC dJ2_clear_32 rfl rfl (by first | rfl | exact gx_isr_rf _) ?_
    refine gx_iload_n hC dJ2_clear_33 rfl rfl ?_
    refine gx_null hC dJ2_clear_34 ?_
    refine gx_aastN hC (t := 2) rfl dJ2_clear_35 (by first | exact gx_us | assumption | (repeat (first | exact gx_us | assumption | refine gx_un (by omega) ?_))) (by first | exact Or.inl rfl | exact Or.inl (Or.inl rfl) | exact Or.inl (Or.inr rfl) | exact Or.inr (by omega) | assumption | (simp only [gx_A, *]; omega)) (by omega) ?_
    refine gx_iinc hC dJ2_clear_36 rfl (by decide) (by first | rfl | simp [gx_ck, gx_lk, gx_cat_rf]) ?_
    refine gx_goto hC dJ2_clear_39 (tgt := 27) (by decide) ?_
    refine gx_loc (M := [(3, some (.int (iz ((i + 1 : Nat) : Int)))), (2, some (.int (iz xs.length))), (1, some (.ref ed)), (0, some (.ref a))]) ⟨rfl, rfl, rfl, rfl, trivial⟩ ?_
    exact ih (i + 1, _, _) ⟨by omega, gx_un (by omega) q1, gx_us⟩ (by dsimp only; omega)
/-- an iterator at it over the list at a, before element i -/
def gx_IT (X : gx_H) (it a : Nat) (mc : Int) (i : Nat) : Prop := ∃ lr : Int, X it (gx_O 24 [.int (iz i), .int (iz lr), .int (iz mc), .ref a])
theorem gx_IT.mono {X Y : gx_H} {it a i : Nat} {mc : Int} (h : gx_IT X it a mc i) (hd : ∀ e, X it e → Y it e) : gx_IT Y it a mc i := ⟨h.choose, hd _ h.choose_spec⟩
theorem m_J19_init {it : Nat} (hi : G it (gx_O 24 fdJ19)) (h : gx_AL D (gx_TG T G) a ed mc cap xs) (hne : a ≠ it) : gx_Met l yJ19_init (ws_ yJ19_init cJ19_init 2 none) 2 0 0 D (fun q => q = it) T G nx [.ref it, .ref a] (fun w G' nx' => w = none ∧ nx' = nx ∧ gx_IT G' it a mc 0) gx_no := by
  obtain ⟨h1, ⟨f, h2, h3⟩, h4, h5, h6⟩ := h
  refine gx_start (by decide) (Nat.le_of_ble_eq_true rfl) rfl (fun p e s m args below meth c hC hlt => ?_)
  refine gx_aload_n hC dJ19_init_0 rfl rfl (by first | rfl | exact gx_isr_rf _) ?_
  refine gx_aload_n hC dJ19_init_1 rfl rfl (by first | rfl | exact gx_isr_rf _) ?_
  refine gx_putF hC (C := RJ19) (Tf := TJ19) (N := 4) (ci := 24) (k := 3) rfl in_J19 (by decide) tyJ19 tyJ19_ok nmJ19 q683 (fun _ h9 => h9) rfl rfl rfl dJ19_init_2 (by first | exact gx_us | assumption | (repeat (first | exact gx_us | assumption | refine gx_un (by omega) ?_))) (by first | exact Or.inl rfl | exact Or.inl (Or.inl rfl) | exact Or.inl (Or.inr rfl) | exact Or.inr (by omega) | assumption | (simp only [gx_A, *]; omega)) (Nat.le_of_ble_eq_true rfl) (by first | rfl | (cases ‹Option Nat› <;> rfl) | simp [narrow]) (by first | rfl | (cases ‹Option Nat› <;> rfl) | simp [fits]) ?_
  refine gx_aload_n hC dJ19_init_5 rfl rfl (by first | rfl | exact gx_isr_rf _) ?_
  refine gx_oinit hC q677 q137 q138 dJ19_init_6 (Nat.le_of_ble_eq_true rfl) (Nat.le_of_ble_eq_true rfl) ?_
  refine gx_aload_n hC dJ19_init_9 rfl rfl (by first | rfl | exact gx_isr_rf _) ?_
  refine gx_iconst hC dJ19_init_10 ?_
  refine gx_put hC (C := RJ19) (Tf := TJ19) (N := 4) (ci := 24) (k := 1) rfl in_J19 (by decide) tyJ19 tyJ19_ok nmJ19 q681 (fun _ h9 => h9) rfl dJ19_init_11 (by first | exact gx_us | assumption | (repeat (first | exact gx_us | assumption | refine gx_un (by omega) ?_))) (by first | exact Or.inl rfl | exact Or.inl (Or.inl rfl) | exact Or.inl (Or.inr rfl) | exact Or.inr (by omega) | assumption | (simp only [gx_A, *]; omega)) (Nat.le_of_ble_eq_true rfl) (by first | rfl | (cases ‹Option Nat› <;> rfl) | simp [narrow]) (by first | rfl | (cases ‹Option Nat› <;> rfl) | simp [fits]) ?_
  refine gx_aload_n hC dJ19_init_14 rfl rfl (by first | rfl | exact gx_isr_rf _) ?_
  refine gx_aload_n hC dJ19_init_15 rfl rfl (by first | rfl | exact gx_isr_rf _) ?_
  refine gx_get hC (C := RJ19) (Tf := TJ19) (N := 4) (ci := 24) (k := 3) rfl in_J19 (by decide) q683 (fun _ h9 => h9) dJ19_init_16 (by repeat (first | assumption | exact Or.inr gx_us | exact Or.inr (by assumption) | exact Or.inl (by assumption) | refine gx_tu (by omega) ?_)) rfl ?_
  refine gx_get hC (C := RJ2) (Tf := TJ2) (N := 3) (ci := 19) (k := 0) rfl in_J2 (by decide) q518 (fun x9 h9 => u_same (hC.ts _ q519) x9 h9) dJ19_init_19 (by repeat (first | assumption | exact Or.inr gx_us | exact Or.inr (by assumption) | exact Or.inl (by assumption) | refine gx_tu (by omega) ?_)) rfl ?_
  refine gx_put hC (C := RJ19) (Tf := TJ19) (N := 4) (ci := 24) (k := 2) rfl in_J19 (by decide) tyJ19 tyJ19_ok nmJ19 q682 (fun _ h9 => h9) rfl dJ19_init_22 (by first | exact gx_us | assumption | (repeat (first | exact gx_us | assumption | refine gx_un (by omega) ?_))) (by first | exact Or.inl rfl | exact Or.inl (Or.inl rfl) | exact Or.inl (Or.inr rfl) | exact Or.inr (by omega) | assumption | (simp only [gx_A, *]; omega)) (Nat.le_of_ble_eq_true rfl) (by first | rfl | (cases ‹Option Nat› <;> rfl) | simp [narrow]) (by first | rfl | (cases ‹Option Nat› <;> rfl) | simp [fits]) ?_
  exact gx_vret hC rfl rfl rfl dJ19_init_25 (fun G' hG => ⟨rfl, rfl, -1, hG _ _ gx_us⟩)
theorem m_J2_iterator (h : gx_AL D (gx_TG T G) a ed mc cap xs) (hne : a < nx) : gx_Met l yJ2_iterator (ws_ yJ2_iterator cJ2_iterator 1 (some (.object "java/util/Iterator"))) 3 1 4 D gx_M0 T G nx [.ref a] (fun w G' nx' => w = some (.ref nx) ∧ nx' = nx + 1 ∧ gx_IT G' nx a mc 0) gx_no := by
  have h0 := h
  obtain ⟨h1, ⟨f, h2, h3⟩, h4, h5, h6⟩ := h
  refine gx_start (by decide) (Nat.le_of_ble_eq_true rfl) rfl (fun p e s m args below meth c hC hlt => ?_)
  refine gx_new hC (C := RJ19) (Tf := TJ19) (N := 4) (ci := 24) (fs := fdJ19) rfl in_J19 tyJ19 tyJ19_ok q672 q673 q101 dvJ19 dJ2_iterator_0 ?_
  refine gx_dup hC dJ2_iterator_3 (by first | rfl | exact gx_cat_rf _) ?_
  refine gx_aload_n hC dJ2_iterator_4 rfl rfl (by first | rfl | exact gx_isr_rf _) ?_
  have hAL : ∀ e, gx_TG T G ed e → ed ≠ nx → gx_TG T (gx_up G nx (gx_O 24 fdJ19)) ed e := fun e he hn => gx_tu hn he
  by_cases hed : ed = nx
  · subst hed
    have hT2 : T ed (gx_Q D 2 cap f) := by
      rcases h2 with h2 | h2
      · exact h2
      · exact absurd (hlt _ _ h2) (by omega)
    refine gx_callI (nA := 1) hC (m_J19_init (mc := mc) (ed := ed) (cap := cap) (xs := xs) gx_us ⟨gx_tu (by omega) h1, ⟨f, Or.inl hT2, h3⟩, h4, h5, h6⟩ (by omega)) (lw_meth q676) q101 q674 q675 rfl (by decide +kernel) dJ2_iterator_5 rfl ⟨Nat.le_of_ble_eq_true rfl, Nat.le_of_ble_eq_true rfl⟩ (gx_in.id hC (fun q hq => Or.inr (by omega))) rfl (by first | exact Nat.le_of_ble_eq_true rfl | simp [gx_cat_rf, Value.category]) gx_kno (fun v2 G2 nx2 hp hf hle hlt2 => ?_)
    obtain ⟨rfl, rfl, q⟩ := hp
    exact gx_aret hC rfl rfl rfl (by first | exact Or.inl ⟨_, rfl⟩ | exact Or.inr ⟨_, rfl⟩) (by first | rfl | exact gx_isr_rf _) dJ2_iterator_8 (fun G' hG => ⟨rfl, rfl, q.mono (hG _)⟩)
  · refine gx_callI (nA := 1) hC (m_J19_init (mc := mc) (ed := ed) (cap := cap) (xs := xs) gx_us ⟨gx_tu (by omega) h1, ⟨f, gx_tu hed h2, h3⟩, h4, h5, h6⟩ (by omega)) (lw_meth q676) q101 q674 q675 rfl (by decide +kernel) dJ2_iterator_5 rfl ⟨Nat.le_of_ble_eq_true rfl, Nat.le_of_ble_eq_true rfl⟩ (gx_in.id hC (fun q hq => Or.inr (by omega))) rfl (by first | exact Nat.le_of_ble_eq_true rfl | simp [gx_cat_rf, Value.category]) gx_kno (fun v2 G2 nx2 hp hf hle hlt2 => ?_)
    obtain ⟨rfl, rfl, q⟩ := hp
    exact gx_aret hC rfl rfl rfl (by first | exact Or.inl ⟨_, rfl⟩ | exact Or.inr ⟨_, rfl⟩) (by first | rfl | exact gx_isr_rf _) dJ2_iterator_8 (fun G' hG => ⟨rfl, rfl, q.mono (hG _)⟩)
theorem m_J19_hasNext {it i : Nat} (hi : gx_IT (gx_TG T G) it a mc i) (h : gx_AL D (gx_TG T G) a ed mc cap xs) (hl : i ≤ xs.length) : gx_Met l yJ19_hasNext (ws_ yJ19_hasNext cJ19_hasNext 1 (some .boolean)) 1 0 0 D gx_M0 T G nx [.ref it] (gx_P (some (.int (iz (gx_b (i < xs.length))))) nx) gx_no := by
  obtain ⟨h1, ⟨f, h2, h3⟩, h4, h5, h6⟩ := h
  obtain ⟨lr, hi⟩ := hi
  refine gx_start (by decide) (Nat.le_of_ble_eq_true rfl) rfl (fun p e s m args below meth c hC hlt => ?_)
  refine gx_aload_n hC dJ19_hasNext_0 rfl rfl (by first | rfl | exact gx_isr_rf _) ?_
  refine gx_get hC (C := RJ19) (Tf := TJ19) (N := 4) (ci := 24) (k := 0) rfl in_J19 (by decide) q680 (fun _ h9 => h9) dJ19_hasNext_1 (by repeat (first | assumption | exact Or.inr gx_us | exact Or.inr (by assumption) | exact Or.inl (by assumption) | refine gx_tu (by omega) ?_)) rfl ?_
  refine gx_aload_n hC dJ19_hasNext_4 rfl rfl (by first | rfl | exact gx_isr_rf _) ?_
  refine gx_get hC (C := RJ19) (Tf := TJ19) (N := 4) (ci := 24) (k := 3) rfl in_J19 (by decide) q683 (fun _ h9 => h9) dJ19_hasNext_5 (by repeat (first | assumption | exact Or.inr gx_us | exact Or.inr (by assumption) | exact Or.inl (by assumption) | refine gx_tu (by omega) ?_)) rfl ?_
  refine gx_getN hC (C := RJ2) (Tf := TJ2) (N := 3) (ci := 19) (k := 2) rfl in_J2 (by decide) q513 (fun _ h9 => h9) dJ19_hasNext_8 (by repeat (first | assumption | exact Or.inr gx_us | exact Or.inr (by assumption) | exact Or.inl (by assumption) | refine gx_tu (by omega) ?_)) rfl ?_
  refine gx_icmp_eq hC dJ19_hasNext_11 (tgt := 18) (by decide) (by unfold gx_rg; omega) (by unfold gx_rg; omega) (fun c11 => ?_) (fun c11 => ?_)
  · refine gx_iconst hC dJ19_hasNext_18 ?_
    exact gx_zret hC rfl rfl rfl (by first | rfl | (split <;> rfl) | simp [narrow, *]) dJ19_hasNext_19 (fun G' hG => ⟨gx_bF (by omega), rfl⟩)
  · refine gx_iconst hC dJ19_hasNext_14 ?_
    refine gx_goto hC dJ19_hasNext_15 (tgt := 19) (by decide) ?_
    exact gx_zret hC rfl rfl rfl (by first | rfl | (split <;> rfl) | simp [narrow, *]) dJ19_hasNext_19 (fun G' hG => ⟨gx_bT (by omega), rfl⟩)
theorem m_J19_check {it i : Nat} (hi : gx_IT (gx_TG T G) it a mc i) (h : gx_AL D (gx_TG T G) a ed mc cap xs) : gx_Met l yJ19_checkForComodification (ws_ yJ19_checkForComodification cJ19_checkForComodification 1 none) 1 0 0 D gx_M0 T G nx [.ref it] (gx_P none nx) gx_no := by
  obtain ⟨h1, ⟨f, h2, h3⟩, h4, h5, h6⟩ := h
  obtain ⟨lr, hi⟩ := hi
  refine gx_start (by decide) (Nat.le_of_ble_eq_true rfl) rfl (fun p e s m args below meth c hC hlt => ?_)
  refine gx_aload_n hC dJ19_checkForComodification_0 rfl rfl (by first | rfl | exact gx_isr_rf _) ?_
  refine gx_get hC (C := RJ19) (Tf := TJ19) (N := 4) (ci := 24) (k := 3) rfl in_J19 (by decide) q683 (fun _ h9 => h9) dJ19_checkForComodification_1 (by repeat (first | assumption | exact Or.inr gx_us | exact Or.inr (by assumption) | exact Or.inl (by assumption) | refine gx_tu (by omega) ?_)) rfl ?_
  refine gx_get hC (C := RJ2) (Tf := TJ2) (N := 3) (ci := 19) (k := 0) rfl in_J2 (by decide) q518 (fun x9 h9 => u_same (hC.ts _ q519) x9 h9) dJ19_checkForComodification_4 (by repeat (first | assumption | exact Or.inr gx_us | exact Or.inr (by assumption) | exact Or.inl (by assumption) | refine gx_tu (by omega) ?_)) rfl ?_
  refine gx_aload_n hC dJ19_checkForComodification_7 rfl rfl (by first | rfl | exact gx_isr_rf _) ?_
  refine gx_get hC (C := RJ19) (Tf := TJ19) (N := 4) (ci := 24) (k := 2) rfl in_J19 (by decide) q682 (fun _ h9 => h9) dJ19_checkForComodification_8 (by repeat (first | assumption | exact Or.inr gx_us | exact Or.inr (by assumption) | exact Or.inl (by assumption) | refine gx_tu (by omega) ?_)) rfl ?_
  refine gx_icmp_eqS hC dJ19_checkForComodification_11 (tgt := 22) (by decide) ?_
  exact gx_vret hC rfl rfl rfl dJ19_checkForComodification_22 (fun G' hG => ⟨rfl, rfl⟩)
theorem m_J19_next {it i : Nat} (hi : gx_IT G it a mc i) (h : gx_AL D (gx_TG T G) a ed mc cap xs) (hl : i < xs.length) (hn1 : a ≠ it) (hn2 : ed ≠ it) : gx_Met l yJ19_next (ws_ yJ19_next cJ19_next 3 (some (.object "java/lang/Object"))) 3 0 0 D (fun q => q = it) T G nx [.ref it] (fun w G' nx' => w = some (.ref (xs.getD i 0)) ∧ nx' = nx ∧ gx_IT G' it a mc (i + 1)) gx_no := by
  have h0 := h
  have hi0 := hi
  obtain ⟨h1, ⟨f, h2, h3⟩, h4, h5, h6⟩ := h
  obtain ⟨lr, hi⟩ := hi
  refine gx_start (by decide) (Nat.le_of_ble_eq_true rfl) rfl (fun p e s m args below meth c hC hlt => ?_)
  refine gx_aload_n hC dJ19_next_0 rfl rfl (by first | rfl | exact gx_isr_rf _) ?_
  refine gx_callV (nA := 0) hC (m_J19_check (hi0.mono (fun e he => Or.inr he)) h0) (C := RJ19) (Tf := TJ19) (Nf := 4) (ci := 24) rfl (by repeat (first | assumption | exact Or.inr gx_us | exact Or.inr (by assumption) | exact Or.inl (by assumption) | refine gx_tu (by omega) ?_)) (lw_V q955 q956 q957 q101 q960) (by decide +kernel) dJ19_next_1 rfl ⟨Nat.le_of_ble_eq_true rfl, Nat.le_of_ble_eq_true rfl⟩ gx_in.id0 rfl (by first | exact Nat.le_of_ble_eq_true rfl | simp [gx_cat_rf, Value.category]) gx_kno (gx_kp0 ?_)
  refine gx_aload_n hC dJ19_next_4 rfl rfl (by first | rfl | exact gx_isr_rf _) ?_
  refine gx_get hC (C := RJ19) (Tf := TJ19) (N := 4) (ci := 24) (k := 0) rfl in_J19 (by decide) q680 (fun _ h9 => h9) dJ19_next_5 (by repeat (first | assumption | exact Or.inr gx_us | exact Or.inr (by assumption) | exact Or.inl (by assumption) | refine gx_tu (by omega) ?_)) rfl ?_
  refine gx_istore_n hC dJ19_next_8 rfl (by decide) (by first | rfl | simp [gx_ck, gx_lk, gx_cat_rf]) ?_
  refine gx_iload_n hC dJ19_next_9 rfl rfl ?_
  refine gx_aload_n hC dJ19_next_10 rfl rfl (by first | rfl | exact gx_isr_rf _) ?_
  refine gx_get hC (C := RJ19) (Tf := TJ19) (N := 4) (ci := 24) (k := 3) rfl in_J19 (by decide) q683 (fun _ h9 => h9) dJ19_next_11 (by repeat (first | assumption | exact Or.inr gx_us | exact Or.inr (by assumption) | exact Or.inl (by assumption) | refine gx_tu (by omega) ?_)) rfl ?_
  refine gx_getN hC (C := RJ2) (Tf := TJ2) (N := 3) (ci := 19) (k := 2) rfl in_J2 (by decide) q513 (fun _ h9 => h9) dJ19_next_14 (by repeat (first | assumption | exact Or.inr gx_us | exact Or.inr (by assumption) | exact Or.inl (by assumption) | refine gx_tu (by omega) ?_)) rfl ?_
  refine gx_icmp_lt hC dJ19_next_17 (tgt := 28) (by decide) (by unfold gx_rg; omega) (by unfold gx_rg; omega) (fun c17 => ?_) (fun c17 => ?_)
  · refine gx_aload_n hC dJ19_next_28 rfl rfl (by first | rfl | exact gx_isr_rf _) ?_
    refine gx_get hC (C := RJ19) (Tf := TJ19) (N := 4) (ci := 24) (k := 3) rfl in_J19 (by decide) q683 (fun _ h9 => h9) dJ19_next_29 (by repeat (first | assumption | exact Or.inr gx_us | exact Or.inr (by assumption) | exact Or.inl (by assumption) | refine gx_tu (by omega) ?_)) rfl ?_
    refine gx_get hC (C := RJ2) (Tf := TJ2) (N := 3) (ci := 19) (k := 1) rfl in_J2 (by decide) q512 (fun _ h9 => h9) dJ19_next_32 (by repeat (first | assumption | exact Or.inr gx_us | exact Or.inr (by assumption) | exact Or.inl (by assumption) | refine gx_tu (by omega) ?_)) rfl ?_
    refine gx_astore_n hC dJ19_next_35 rfl (by decide) (by first | rfl | simp [gx_ck, gx_lk, gx_cat_rf]) (by first | rfl | exact gx_isr_rf _) ?_
    refine gx_iload_n hC dJ19_next_36 rfl rfl ?_
    refine gx_aload_n hC dJ19_next_37 rfl rfl (by first | rfl | exact gx_isr_rf _) ?_
    refine gx_alen hC (t := 2) rfl dJ19_next_38 (by repeat (first | assumption | exact Or.inr gx_us | exact Or.inr (by assumption) | exact Or.inl (by assumption) | refine gx_tu (by omega) ?_)) ?_
    refine gx_icmp_lt hC dJ19_next_39 (tgt := 50) (by decide) (by unfold gx_rg; omega) (by unfold gx_rg; omega) (fun c39 => ?_) (fun c39 => ?_)
    · refine gx_aload_n hC dJ19_next_50 rfl rfl (by first | rfl | exact gx_isr_rf _) ?_
      refine gx_iload_n hC dJ19_next_51 rfl rfl ?_
      refine gx_iconst hC dJ19_next_52 ?_
      refine gx_iadd hC dJ19_next_53 ?_
      refine gx_put hC (C := RJ19) (Tf := TJ19) (N := 4) (ci := 24) (k := 0) rfl in_J19 (by decide) tyJ19 tyJ19_ok nmJ19 q680 (fun _ h9 => h9) rfl dJ19_next_54 (by first | exact gx_us | assumption | (repeat (first | exact gx_us | assumption | refine gx_un (by omega) ?_))) (by first | exact Or.inl rfl | exact Or.inl (Or.inl rfl) | exact Or.inl (Or.inr rfl) | exact Or.inr (by omega) | assumption | (simp only [gx_A, *]; omega)) (Nat.le_of_ble_eq_true rfl) (by first | rfl | (cases ‹Option Nat› <;> rfl) | simp [narrow]) (by first | rfl | (cases ‹Option Nat› <;> rfl) | simp [fits]) ?_
      refine gx_aload_n hC dJ19_next_57 rfl rfl (by first | rfl | exact gx_isr_rf _) ?_
      refine gx_aload_n hC dJ19_next_58 rfl rfl (by first | rfl | exact gx_isr_rf _) ?_
      refine gx_iload_n hC dJ19_next_59 rfl rfl ?_
      refine gx_dup_x1 hC dJ19_next_60 (by first | rfl | exact gx_cat_rf _) (by first | rfl | exact gx_cat_rf _) ?_
      refine gx_put hC (C := RJ19) (Tf := TJ19) (N := 4) (ci := 24) (k := 1) rfl in_J19 (by decide) tyJ19 tyJ19_ok nmJ19 q681 (fun _ h9 => h9) rfl dJ19_next_61 (by first | exact gx_us | assumption | (repeat (first | exact gx_us | assumption | refine gx_un (by omega) ?_))) (by first | exact Or.inl rfl | exact Or.inl (Or.inl rfl) | exact Or.inl (Or.inr rfl) | exact Or.inr (by omega) | assumption | (simp only [gx_A, *]; omega)) (Nat.le_of_ble_eq_true rfl) (by first | rfl | (cases ‹Option Nat› <;> rfl) | simp [narrow]) (by first | rfl | (cases ‹Option Nat› <;> rfl) | simp [fits]) ?_
      refine gx_aald hC (t := 2) rfl dJ19_next_64 (gx_tu hn2 (gx_tu hn2 h2)) (by omega) (v := .ref (xs.getD i 0)) (by rw [show ((i : Int)).toNat = i from rfl, h3 _ (by omega)]; rfl) ?_
      exact gx_aret hC rfl rfl rfl (by first | exact Or.inl ⟨_, rfl⟩ | exact Or.inr ⟨_, rfl⟩) (by first | rfl | exact gx_isr_rf _) dJ19_next_65 (fun G' hG => ⟨rfl, rfl, i, hG _ _ gx_us⟩)
    · omega
  · omega
end ALN

