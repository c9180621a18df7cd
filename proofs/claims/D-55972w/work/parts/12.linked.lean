/-! java.util.LinkedList: its making, addLast, isEmpty, removeFirst -/
set_option maxRecDepth 100000
/-- what stands behind node j -/
def gx_lnx (n : Nat) (nd : Nat → Nat) (j : Nat) : Option Nat := if j < n then some (nd j) else none
/-- a LinkedList at a: its nodes nd 0, nd 1 .., each with an item of xs -/
def gx_LL (X : gx_H) (a : Nat) (nd : Nat → Nat) (xs : List Nat) : Prop :=
  (∃ mc : Int, X a (gx_O 25 [.int (iz mc), .int (iz xs.length), va_rf (gx_lnx xs.length nd 0), va_rf (if xs.length = 0 then none else some (nd (xs.length - 1)))])) ∧
  (∀ j, j < xs.length → ∃ pv : Value, X (nd j) (gx_O 26 [.ref (xs.getD j 0), va_rf (gx_lnx xs.length nd (j + 1)), pv])) ∧ (∀ j, j < xs.length → a < nd j) ∧ (∀ i j, i < j → j < xs.length → nd i < nd j) ∧ xs.length < 1000000
theorem gx_LL.mk {X : gx_H} {a : Nat} {nd : Nat → Nat} {xs : List Nat} {mc n : Int} {v w : Value} (hn : n = (xs.length : Int)) (hv : v = va_rf (gx_lnx xs.length nd 0)) (hw : w = va_rf (if xs.length = 0 then none else some (nd (xs.length - 1)))) (h1 : X a (gx_O 25 [.int (iz mc), .int (iz n), v, w])) (h2 : ∀ j, j < xs.length → ∃ pv : Value, X (nd j) (gx_O 26 [.ref (xs.getD j 0), va_rf (gx_lnx xs.length nd (j + 1)), pv])) (h3 : ∀ j, j < xs.length → a < nd j) (h4 : ∀ i j, i < j → j < xs.length → nd i < nd j) (h5 : xs.length < 1000000) : gx_LL X a nd xs := by
  subst hn hv hw
  exact ⟨⟨mc, h1⟩, h2, h3, h4, h5⟩
theorem gx_LL.mono {X Y : gx_H} {a : Nat} {nd : Nat → Nat} {xs : List Nat} (h : gx_LL X a nd xs) (hd : ∀ q e, (q = a ∨ ∃ j, j < xs.length ∧ q = nd j) → X q e → Y q e) : gx_LL Y a nd xs := by
  obtain ⟨⟨mc, h1⟩, h2, h3⟩ := h
  refine ⟨⟨mc, hd _ _ (Or.inl rfl) h1⟩, fun j hj => ?_, h3⟩
  obtain ⟨pv, q⟩ := h2 j hj
  exact ⟨pv, hd _ _ (Or.inr ⟨j, hj, rfl⟩) q⟩
section LL
variable {l : Launch} {D : gx_D} {T G : gx_H} {nx : Nat} {a v : Nat} {nd : Nat → Nat} {xs : List Nat}
theorem m_J1_initL {x y z : Value} (h : G a (gx_O 25 [.int (iz 0), x, y, z])) : gx_Met l yJ1_init (ws_ yJ1_init cJ1_init 1 none) 4 0 0 D (fun q => q = a) T G nx [.ref a] (fun w G' nx' => w = none ∧ nx' = nx ∧ G' a (gx_O 25 [.int (iz 0), x, y, z])) gx_no := by
  refine gx_start (by decide) (Nat.le_of_ble_eq_true rfl) rfl (fun p e s m args below meth c hC hlt => ?_)
  refine gx_aload_n hC dJ1_init_0 rfl rfl (by first | rfl | exact gx_isr_rf _) ?_
  refine gx_callI (nA := 0) hC (m_J0_init (w := .ref a) rfl rfl) (lw_meth q184) q79 q182 q183 rfl (by decide +kernel) dJ1_init_1 rfl ⟨Nat.le_of_ble_eq_true rfl, Nat.le_of_ble_eq_true rfl⟩ gx_in.id0 rfl (by first | exact Nat.le_of_ble_eq_true rfl | simp [gx_cat_rf, Value.category]) gx_kno (gx_kp0 ?_)
  refine gx_aload_n hC dJ1_init_4 rfl rfl (by first | rfl | exact gx_isr_rf _) ?_
  refine gx_iconst hC dJ1_init_5 ?_
  refine gx_put hC (C := RJ30) (Tf := TJ30) (N := 4) (ci := 25) (k := 0) rfl in_J30 (by decide) tyJ30 tyJ30_ok nmJ30 q515 (fun _ h9 => h9) rfl dJ1_init_6 (by first | exact gx_us | assumption | (repeat (first | exact gx_us | assumption | refine gx_un (by omega) ?_))) (by first | exact Or.inl rfl | exact Or.inl (Or.inl rfl) | exact Or.inl (Or.inr rfl) | exact Or.inr (by omega) | assumption | (simp only [gx_A, *]; omega)) (Nat.le_of_ble_eq_true rfl) (by first | rfl | (cases ‹Option Nat› <;> rfl) | simp [narrow]) (by first | rfl | (cases ‹Option Nat› <;> rfl) | simp [fits]) ?_
  exact gx_vret hC rfl rfl rfl dJ1_init_9 (fun G' hG => ⟨rfl, rfl, hG _ _ gx_us⟩)
theorem m_J29_init {x y z : Value} (h : G a (gx_O 25 [.int (iz 0), x, y, z])) : gx_Met l yJ29_init (ws_ yJ29_init cJ29_init 1 none) 5 0 0 D (fun q => q = a) T G nx [.ref a] (fun w G' nx' => w = none ∧ nx' = nx ∧ G' a (gx_O 25 [.int (iz 0), x, y, z])) gx_no := by
  refine gx_start (by decide) (Nat.le_of_ble_eq_true rfl) rfl (fun p e s m args below meth c hC hlt => ?_)
  refine gx_aload_n hC dJ29_init_0 rfl rfl (by first | rfl | exact gx_isr_rf _) ?_
  refine gx_callI (nA := 0) hC (m_J1_initL h) (lw_meth q181) q80 q2126 q180 rfl (by decide +kernel) dJ29_init_1 rfl ⟨Nat.le_of_ble_eq_true rfl, Nat.le_of_ble_eq_true rfl⟩ (gx_in.id hC (fun q hq => Or.inl hq)) rfl (by first | exact Nat.le_of_ble_eq_true rfl | simp [gx_cat_rf, Value.category]) gx_kno (fun v2 G2 nx2 hp hf hle hlt2 => ?_)
  obtain ⟨rfl, rfl, q⟩ := hp
  exact gx_vret hC rfl rfl rfl dJ29_init_4 (fun G' hG => ⟨rfl, rfl, hG _ _ q⟩)
theorem m_J30_init (h : G a (gx_O 25 fdJ30)) : gx_Met l yJ30_init (ws_ yJ30_init cJ30_init 1 none) 6 0 0 D (fun q => q = a) T G nx [.ref a] (fun w G' nx' => w = none ∧ nx' = nx ∧ gx_LL G' a nd []) gx_no := by
  refine gx_start (by decide) (Nat.le_of_ble_eq_true rfl) rfl (fun p e s m args below meth c hC hlt => ?_)
  refine gx_aload_n hC dJ30_init_0 rfl rfl (by first | rfl | exact gx_isr_rf _) ?_
  refine gx_callI (nA := 0) hC (m_J29_init h) (lw_meth q2125) q125 q2123 q2124 rfl (by decide +kernel) dJ30_init_1 rfl ⟨Nat.le_of_ble_eq_true rfl, Nat.le_of_ble_eq_true rfl⟩ (gx_in.id hC (fun q hq => Or.inl hq)) rfl (by first | exact Nat.le_of_ble_eq_true rfl | simp [gx_cat_rf, Value.category]) gx_kno (fun v2 G2 nx2 hp hf hle hlt2 => ?_)
  obtain ⟨rfl, rfl, q⟩ := hp
  refine gx_aload_n hC dJ30_init_4 rfl rfl (by first | rfl | exact gx_isr_rf _) ?_
  refine gx_iconst hC dJ30_init_5 ?_
  refine gx_put hC (C := RJ30) (Tf := TJ30) (N := 4) (ci := 25) (k := 1) rfl in_J30 (by decide) tyJ30 tyJ30_ok nmJ30 q2127 (fun _ h9 => h9) rfl dJ30_init_6 (by first | exact gx_us | assumption | (repeat (first | exact gx_us | assumption | refine gx_un (by omega) ?_))) (by first | exact Or.inl rfl | exact Or.inl (Or.inl rfl) | exact Or.inl (Or.inr rfl) | exact Or.inr (by omega) | assumption | (simp only [gx_A, *]; omega)) (Nat.le_of_ble_eq_true rfl) (by first | rfl | (cases ‹Option Nat› <;> rfl) | simp [narrow]) (by first | rfl | (cases ‹Option Nat› <;> rfl) | simp [fits]) ?_
  exact gx_vret hC rfl rfl rfl dJ30_init_9 (fun G' hG => ⟨rfl, rfl, gx_LL.mk (mc := 0) (n := 0) rfl rfl rfl (hG _ _ gx_us) (fun j hj => by simp at hj) (fun j hj => by simp at hj) (fun i j hi hj => by simp at hj) (by simp)⟩)
theorem m_J30_size (h : gx_LL (gx_TG T G) a nd xs) : gx_Met l yJ30_size (ws_ yJ30_size cJ30_size 1 (some .int)) 1 0 0 D gx_M0 T G nx [.ref a] (gx_P (some (.int (iz xs.length))) nx) gx_no := by
  obtain ⟨⟨mc, h1⟩, h2, h3, h4, h5⟩ := h
  refine gx_start (by decide) (Nat.le_of_ble_eq_true rfl) rfl (fun p e s m args below meth c hC hlt => ?_)
  refine gx_aload_n hC dJ30_size_0 rfl rfl (by first | rfl | exact gx_isr_rf _) ?_
  refine gx_get hC (C := RJ30) (Tf := TJ30) (N := 4) (ci := 25) (k := 1) rfl in_J30 (by decide) q2127 (fun _ h9 => h9) dJ30_size_1 (by repeat (first | assumption | exact Or.inr gx_us | exact Or.inr (by assumption) | exact Or.inl (by assumption) | refine gx_tu (by omega) ?_)) rfl ?_
  exact gx_iret hC rfl rfl rfl dJ30_size_4 (fun G' hG => ⟨rfl, rfl⟩)
theorem m_J0_isEmptyL (h : gx_LL (gx_TG T G) a nd xs) : gx_Met l yJ0_isEmpty (ws_ yJ0_isEmpty cJ0_isEmpty 1 (some .boolean)) 3 0 0 D gx_M0 T G nx [.ref a] (gx_P (some (.int (iz (gx_b (xs.length = 0))))) nx) gx_no := by
  have h0 := h
  obtain ⟨⟨mc, h1⟩, h2, h3, h4, h5⟩ := h
  refine gx_start (by decide) (Nat.le_of_ble_eq_true rfl) rfl (fun p e s m args below meth c hC hlt => ?_)
  refine gx_aload_n hC dJ0_isEmpty_0 rfl rfl (by first | rfl | exact gx_isr_rf _) ?_
  refine gx_callA (nA := 0) (owner := "java/util/AbstractCollection") hC (m_J30_size h0) (C := RJ30) (Tf := TJ30) (Nf := 4) (ci := 25) rfl (by repeat (first | assumption | exact Or.inr gx_us | exact Or.inr (by assumption) | exact Or.inl (by assumption) | refine gx_tu (by omega) ?_)) (lw_app (List.forall_mem_cons.mpr ⟨q2255, (List.forall_mem_cons.mpr ⟨q3027, (List.forall_mem_cons.mpr ⟨q3030, (List.forall_mem_cons.mpr ⟨q720, (List.forall_mem_cons.mpr ⟨q126, (fun _ h9 => absurd h9 List.not_mem_nil)⟩)⟩)⟩)⟩)⟩) (lw_meth q721)) q715 (by decide +kernel) dJ0_isEmpty_1 rfl ⟨Nat.le_of_ble_eq_true rfl, Nat.le_of_ble_eq_true rfl⟩ gx_in.id0 rfl (by first | exact Nat.le_of_ble_eq_true rfl | simp [gx_cat_rf, Value.category]) gx_kno (gx_kp1 ?_)
  refine gx_if_ne hC dJ0_isEmpty_4 (tgt := 11) (by decide) (by unfold gx_rg; omega) (fun c4 => ?_) (fun c4 => ?_)
  · refine gx_iconst hC dJ0_isEmpty_11 ?_
    exact gx_zret hC rfl rfl rfl (by first | rfl | (split <;> rfl) | simp [narrow, *]) dJ0_isEmpty_12 (fun G' hG => ⟨gx_bF (by omega), rfl⟩)
  · refine gx_iconst hC dJ0_isEmpty_7 ?_
    refine gx_goto hC dJ0_isEmpty_8 (tgt := 12) (by decide) ?_
    exact gx_zret hC rfl rfl rfl (by first | rfl | (split <;> rfl) | simp [narrow, *]) dJ0_isEmpty_12 (fun G' hG => ⟨gx_bT (by omega), rfl⟩)
theorem m_J25_init {pr nt : Option Nat} {x : Nat} (h : G a (gx_O 26 fdJ25)) : gx_Met l yJ25_init (ws_ yJ25_init cJ25_init 4 none) 2 0 0 D (fun q => q = a) T G nx [.ref a, va_rf pr, .ref x, va_rf nt] (fun w G' nx' => w = none ∧ nx' = nx ∧ G' a (gx_O 26 [.ref x, va_rf nt, va_rf pr])) gx_no := by
  cases pr with
  | none =>
    cases nt with
    | none =>
      refine gx_start (by decide) (Nat.le_of_ble_eq_true rfl) rfl (fun p e s m args below meth c hC hlt => ?_)
      refine gx_aload_n hC dJ25_init_0 rfl rfl (by first | rfl | exact gx_isr_rf _) ?_
      refine gx_oinit hC q1170 q137 q138 dJ25_init_1 (Nat.le_of_ble_eq_true rfl) (Nat.le_of_ble_eq_true rfl) ?_
      refine gx_aload_n hC dJ25_init_4 rfl rfl (by first | rfl | exact gx_isr_rf _) ?_
      refine gx_aload_n hC dJ25_init_5 rfl rfl (by first | rfl | exact gx_isr_rf _) ?_
      refine gx_put hC (C := RJ25) (Tf := TJ25) (N := 3) (ci := 26) (k := 0) rfl in_J25 (by decide) tyJ25 tyJ25_ok nmJ25 q1171 (fun _ h9 => h9) rfl dJ25_init_6 (by first | exact gx_us | assumption | (repeat (first | exact gx_us | assumption | refine gx_un (by omega) ?_))) (by first | exact Or.inl rfl | exact Or.inl (Or.inl rfl) | exact Or.inl (Or.inr rfl) | exact Or.inr (by omega) | assumption | (simp only [gx_A, *]; omega)) (Nat.le_of_ble_eq_true rfl) (by first | rfl | (cases ‹Option Nat› <;> rfl) | simp [narrow]) (by first | rfl | (cases ‹Option Nat› <;> rfl) | simp [fits]) ?_
      refine gx_aload_n hC dJ25_init_9 rfl rfl (by first | rfl | exact gx_isr_rf _) ?_
      refine gx_aload_n hC dJ25_init_10 rfl rfl (by first | rfl | exact gx_isr_rf _) ?_
      refine gx_put hC (C := RJ25) (Tf := TJ25) (N := 3) (ci := 26) (k := 1) rfl in_J25 (by decide) tyJ25 tyJ25_ok nmJ25 q1174 (fun _ h9 => h9) rfl dJ25_init_11 (by first | exact gx_us | assumption | (repeat (first | exact gx_us | assumption | refine gx_un (by omega) ?_))) (by first | exact Or.inl rfl | exact Or.inl (Or.inl rfl) | exact Or.inl (Or.inr rfl) | exact Or.inr (by omega) | assumption | (simp only [gx_A, *]; omega)) (Nat.le_of_ble_eq_true rfl) (by first | rfl | (cases ‹Option Nat› <;> rfl) | simp [narrow]) (by first | rfl | (cases ‹Option Nat› <;> rfl) | simp [fits]) ?_
      refine gx_aload_n hC dJ25_init_14 rfl rfl (by first | rfl | exact gx_isr_rf _) ?_
      refine gx_aload_n hC dJ25_init_15 rfl rfl (by first | rfl | exact gx_isr_rf _) ?_
      refine gx_put hC (C := RJ25) (Tf := TJ25) (N := 3) (ci := 26) (k := 2) rfl in_J25 (by decide) tyJ25 tyJ25_ok nmJ25 q1177 (fun _ h9 => h9) rfl dJ25_init_16 (by first | exact gx_us | assumption | (repeat (first | exact gx_us | assumption | refine gx_un (by omega) ?_))) (by first | exact Or.inl rfl | exact Or.inl (Or.inl rfl) | exact Or.inl (Or.inr rfl) | exact Or.inr (by omega) | assumption | (simp only [gx_A, *]; omega)) (Nat.le_of_ble_eq_true rfl) (by first | rfl | (cases ‹Option Nat› <;> rfl) | simp [narrow]) (by first | rfl | (cases ‹Option Nat› <;> rfl) | simp [fits]) ?_
      exact gx_vret hC rfl rfl rfl dJ25_init_19 (fun G' hG => ⟨rfl, rfl, hG _ _ gx_us⟩)
    | some n =>
      refine gx_start (by decide) (Nat.le_of_ble_eq_true rfl) rfl (fun p e s m args below meth c hC hlt => ?_)
      refine gx_aload_n hC dJ25_init_0 rfl rfl (by first | rfl | exact gx_isr_rf _) ?_
      refine gx_oinit hC q1170 q137 q138 dJ25_init_1 (Nat.le_of_ble_eq_true rfl) (Nat.le_of_ble_eq_true rfl) ?_
      refine gx_aload_n hC dJ25_init_4 rfl rfl (by first | rfl | exact gx_isr_rf _) ?_
      refine gx_aload_n hC dJ25_init_5 rfl rfl (by first | rfl | exact gx_isr_rf _) ?_
      refine gx_put hC (C := RJ25) (Tf := TJ25) (N := 3) (ci := 26) (k := 0) rfl in_J25 (by decide) tyJ25 tyJ25_ok nmJ25 q1171 (fun _ h9 => h9) rfl dJ25_init_6 (by first | exact gx_us | assumption | (repeat (first | exact gx_us | assumption | refine gx_un (by omega) ?_))) (by first | exact Or.inl rfl | exact Or.inl (Or.inl rfl) | exact Or.inl (Or.inr rfl) | exact Or.inr (by omega) | assumption | (simp only [gx_A, *]; omega)) (Nat.le_of_ble_eq_true rfl) (by first | rfl | (cases ‹Option Nat› <;> rfl) | simp [narrow]) (by first | rfl | (cases ‹Option Nat› <;> rfl) | simp [fits]) ?_
      refine gx_aload_n hC dJ25_init_9 rfl rfl (by first | rfl | exact gx_isr_rf _) ?_
      refine gx_aload_n hC dJ25_init_10 rfl rfl (by first | rfl | exact gx_isr_rf _) ?_
      refine gx_put hC (C := RJ25) (Tf := TJ25) (N := 3) (ci := 26) (k := 1) rfl in_J25 (by decide) tyJ25 tyJ25_ok nmJ25 q1174 (fun _ h9 => h9) rfl dJ25_init_11 (by first | exact gx_us | assumption | (repeat (first | exact gx_us | assumption | refine gx_un (by omega) ?_))) (by first | exact Or.inl rfl | exact Or.inl (Or.inl rfl) | exact Or.inl (Or.inr rfl) | exact Or.inr (by omega) | assumption | (simp only [gx_A, *]; omega)) (Nat.le_of_ble_eq_true rfl) (by first | rfl | (cases ‹Option Nat› <;> rfl) | simp [narrow]) (by first | rfl | (cases ‹Option Nat› <;> rfl) | simp [fits]) ?_
      refine gx_aload_n hC dJ25_init_14 rfl rfl (by first | rfl | exact gx_isr_rf _) ?_
      refine gx_aload_n hC dJ25_init_15 rfl rfl (by first | rfl | exact gx_isr_rf _) ?_
      refine gx_put hC (C := RJ25) (Tf := TJ25) (N := 3) (ci := 26) (k := 2) rfl in_J25 (by decide) tyJ25 tyJ25_ok nmJ25 q1177 (fun _ h9 => h9) rfl dJ25_init_16 (by first | exact gx_us | assumption | (repeat (first | exact gx_us | assumption | refine gx_un (by omega) ?_))) (by first | exact Or.inl rfl | exact Or.inl (Or.inl rfl) | exact Or.inl (Or.inr rfl) | exact Or.inr (by omega) | assumption | (simp only [gx_A, *]; omega)) (Nat.le_of_ble_eq_true rfl) (by first | rfl | (cases ‹Option Nat› <;> rfl) | simp [narrow]) (by first | rfl | (cases ‹Option Nat› <;> rfl) | simp [fits]) ?_
      exact gx_vret hC rfl rfl rfl dJ25_init_19 (fun G' hG => ⟨rfl, rfl, hG _ _ gx_us⟩)
  | some k =>
    cases nt with
    | none =>
      refine gx_start (by decide) (Nat.le_of_ble_eq_true rfl) rfl (fun p e s m args below meth c hC hlt => ?_)
      refine gx_aload_n hC dJ25_init_0 rfl rfl (by first | rfl | exact gx_isr_rf _) ?_
      refine gx_oinit hC q1170 q137 q138 dJ25_init_1 (Nat.le_of_ble_eq_true rfl) (Nat.le_of_ble_eq_true rfl) ?_
      refine gx_aload_n hC dJ25_init_4 rfl rfl (by first | rfl | exact gx_isr_rf _) ?_
      refine gx_aload_n hC dJ25_init_5 rfl rfl (by first | rfl | exact gx_isr_rf _) ?_
      refine gx_put hC (C := RJ25) (Tf := TJ25) (N := 3) (ci := 26) (k := 0) rfl in_J25 (by decide) tyJ25 tyJ25_ok nmJ25 q1171 (fun _ h9 => h9) rfl dJ25_init_6 (by first | exact gx_us | assumption | (repeat (first | exact gx_us | assumption | refine gx_un (by omega) ?_))) (by first | exact Or.inl rfl | exact Or.inl (Or.inl rfl) | exact Or.inl (Or.inr rfl) | exact Or.inr (by omega) | assumption | (simp only [gx_A, *]; omega)) (Nat.le_of_ble_eq_true rfl) (by first | rfl | (cases ‹Option Nat› <;> rfl) | simp [narrow]) (by first | rfl | (cases ‹Option Nat› <;> rfl) | simp [fits]) ?_
      refine gx_aload_n hC dJ25_init_9 rfl rfl (by first | rfl | exact gx_isr_rf _) ?_
      refine gx_aload_n hC dJ25_init_10 rfl rfl (by first | rfl | exact gx_isr_rf _) ?_
      refine gx_put hC (C := RJ25) (Tf := TJ25) (N := 3) (ci := 26) (k := 1) rfl in_J25 (by decide) tyJ25 tyJ25_ok nmJ25 q1174 (fun _ h9 => h9) rfl dJ25_init_11 (by first | exact gx_us | assumption | (repeat (first | exact gx_us | assumption | refine gx_un (by omega) ?_))) (by first | exact Or.inl rfl | exact Or.inl (Or.inl rfl) | exact Or.inl (Or.inr rfl) | exact Or.inr (by omega) | assumption | (simp only [gx_A, *]; omega)) (Nat.le_of_ble_eq_true rfl) (by first | rfl | (cases ‹Option Nat› <;> rfl) | simp [narrow]) (by first | rfl | (cases ‹Option Nat› <;> rfl) | simp [fits]) ?_
      refine gx_aload_n hC dJ25_init_14 rfl rfl (by first | rfl | exact gx_isr_rf _) ?_
      refine gx_aload_n hC dJ25_init_15 rfl rfl (by first | rfl | exact gx_isr_rf _) ?_
      refine gx_put hC (C := RJ25) (Tf := TJ25) (N := 3) (ci := 26) (k := 2) rfl in_J25 (by decide) tyJ25 tyJ25_ok nmJ25 q1177 (fun _ h9 => h9) rfl dJ25_init_16 (by first | exact gx_us | assumption | (repeat (first | exact gx_us | assumption | refine gx_un (by omega) ?_))) (by first | exact Or.inl rfl | exact Or.inl (Or.inl rfl) | exact Or.inl (Or.inr rfl) | exact Or.inr (by omega) | assumption | (simp only [gx_A, *]; omega)) (Nat.le_of_ble_eq_true rfl) (by first | rfl | (cases ‹Option Nat› <;> rfl) | simp [narrow]) (by first | rfl | (cases ‹Option Nat› <;> rfl) | simp [fits]) ?_
      exact gx_vret hC rfl rfl rfl dJ25_init_19 (fun G' hG => ⟨rfl, rfl, hG _ _ gx_us⟩)
    | some n =>
      refine gx_start (by decide) (Nat.le_of_ble_eq_true rfl) rfl (fun p e s m args below meth c hC hlt => ?_)
      refine gx_aload_n hC dJ25_init_0 rfl rfl (by first | rfl | exact gx_isr_rf _) ?_
      refine gx_oinit hC q1170 q137 q138 dJ25_init_1 (Nat.le_of_ble_eq_true rfl) (Nat.le_of_ble_eq_true rfl) ?_
      refine gx_aload_n hC dJ25_init_4 rfl rfl (by first | rfl | exact gx_isr_rf _) ?_
      refine gx_aload_n hC dJ25_init_5 rfl rfl (by first | rfl | exact gx_isr_rf _) ?_
      refine gx_put hC (C := RJ25) (Tf := TJ25) (N := 3) (ci := 26) (k := 0) rfl in_J25 (by decide) tyJ25 tyJ25_ok nmJ25 q1171 (fun _ h9 => h9) rfl dJ25_init_6 (by first | exact gx_us | assumption | (repeat (first | exact gx_us | assumption | refine gx_un (by omega) ?_))) (by first | exact Or.inl rfl | exact Or.inl (Or.inl rfl) | exact Or.inl (Or.inr rfl) | exact Or.inr (by omega) | assumption | (simp only [gx_A, *]; omega)) (Nat.le_of_ble_eq_true rfl) (by first | rfl | (cases ‹Option Nat› <;> rfl) | simp [narrow]) (by first | rfl | (cases ‹Option Nat› <;> rfl) | simp [fits]) ?_
      refine gx_aload_n hC dJ25_init_9 rfl rfl (by first | rfl | exact gx_isr_rf _) ?_
      refine gx_aload_n hC dJ25_init_10 rfl rfl (by first | rfl | exact gx_isr_rf _) ?_
      refine gx_put hC (C := RJ25) (Tf := TJ25) (N := 3) (ci := 26) (k := 1) rfl in_J25 (by decide) tyJ25 tyJ25_ok nmJ25 q1174 (fun _ h9 => h9) rfl dJ25_init_11 (by first | exact gx_us | assumption | (repeat (first | exact gx_us | assumption | refine gx_un (by omega) ?_))) (by first | exact Or.inl rfl | exact Or.inl (Or.inl rfl) | exact Or.inl (Or.inr rfl) | exact Or.inr (by omega) | assumption | (simp only [gx_A, *]; omega)) (Nat.le_of_ble_eq_true rfl) (by first | rfl | (cases ‹Option Nat› <;> rfl) | simp [narrow]) (by first | rfl | (cases ‹Option Nat› <;> rfl) | simp [fits]) ?_
      refine gx_aload_n hC dJ25_init_14 rfl rfl (by first | rfl | exact gx_isr_rf _) ?_
      refine gx_aload_n hC dJ25_init_15 rfl rfl (by first | rfl | exact gx_isr_rf _) ?_
      refine gx_put hC (C := RJ25) (Tf := TJ25) (N := 3) (ci := 26) (k := 2) rfl in_J25 (by decide) tyJ25 tyJ25_ok nmJ25 q1177 (fun _ h9 => h9) rfl dJ25_init_16 (by first | exact gx_us | assumption | (repeat (first | exact gx_us | assumption | refine gx_un (by omega) ?_))) (by first | exact Or.inl rfl | exact Or.inl (Or.inl rfl) | exact Or.inl (Or.inr rfl) | exact Or.inr (by omega) | assumption | (simp only [gx_A, *]; omega)) (Nat.le_of_ble_eq_true rfl) (by first | rfl | (cases ‹Option Nat› <;> rfl) | simp [narrow]) (by first | rfl | (cases ‹Option Nat› <;> rfl) | simp [fits]) ?_
      exact gx_vret hC rfl rfl rfl dJ25_init_19 (fun G' hG => ⟨rfl, rfl, hG _ _ gx_us⟩)
/-- the nodes, with one more at the end -/
def gx_ndp (n : Nat) (nd : Nat → Nat) (q : Nat) : Nat → Nat := fun j => if j = n then q else nd j
theorem gx_ndp_s {n q : Nat} {nd : Nat → Nat} : gx_ndp n nd q n = q := if_pos rfl
theorem gx_ndp_n {n q j : Nat} {nd : Nat → Nat} (h : j ≠ n) : gx_ndp n nd q j = nd j := if_neg h
theorem m_J30_linkLast (h : gx_LL G a nd xs) (hl : xs.length < 1000) (hnd : ∀ j, j < xs.length → nd j < nx) (ha : a < nx) : gx_Met l yJ30_linkLast (ws_ yJ30_linkLast cJ30_linkLast 4 none) 4 1 3 D (fun q => q = a ∨ ∃ j, j < xs.length ∧ q = nd j) T G nx [.ref a, .ref v] (fun w G' nx' => w = none ∧ nx' = nx + 1 ∧ gx_LL G' a (gx_ndp xs.length nd nx) (xs ++ [v])) gx_no := by
  obtain ⟨⟨mc, h1⟩, h2, h3, h4, h5⟩ := h
  have e1 : (xs ++ [v]).length = xs.length + 1 := by simp
  have fin : ∀ (G2 G' : gx_H) (mc2 : Int) (z : Nat), G2 a (gx_O 25 [.int (iz mc2), .int (iz ((xs.length : Int) + 1)), .ref z, .ref nx]) → G2 nx (gx_O 26 [.ref v, .null, va_rf (if xs.length = 0 then none else some (nd (xs.length - 1)))]) → z = (if xs.length = 0 then nx else nd 0) → (∀ j, j < xs.length → ∃ pv : Value, G2 (nd j) (gx_O 26 [.ref (xs.getD j 0), va_rf (gx_lnx (xs.length + 1) (gx_ndp xs.length nd nx) (j + 1)), pv])) → gx_le G2 G' → gx_LL G' a (gx_ndp xs.length nd nx) (xs ++ [v]) := by
    intro G2 G' mc2 z q1 q2 qz q3 hG
    refine gx_LL.mk (mc := mc2) (n := (xs.length : Int) + 1) (by rw [e1]; omega) ?_ ?_ (hG _ _ q1) (fun j hj => ?_) (fun j hj => ?_) (fun i j hi hj => ?_) (by omega)
    · rw [e1]
      subst qz
      unfold gx_lnx gx_ndp
      rw [if_pos (show 0 < xs.length + 1 by omega)]
      by_cases e : xs.length = 0
      · rw [if_pos e, if_pos e.symm]
        rfl
      · rw [if_neg e, if_neg (fun q => e q.symm)]
        rfl
    · rw [e1, if_neg (by omega), show xs.length + 1 - 1 = xs.length by omega, gx_ndp_s]
      rfl
    · rw [e1] at hj
      by_cases e : j = xs.length
      · subst e
        rw [gx_ndp_s]
        refine ⟨va_rf (if xs.length = 0 then none else some (nd (xs.length - 1))), ?_⟩
        have := hG _ _ q2
        rw [show (xs ++ [v]).getD xs.length 0 = v by simp]
        unfold gx_lnx
        rw [if_neg (by omega)]
        exact this
      · rw [gx_ndp_n e]
        obtain ⟨pv, q⟩ := q3 j (by omega)
        refine ⟨pv, ?_⟩
        rw [show (xs ++ [v]).getD j 0 = xs.getD j 0 by simp [List.getD_eq_getElem?_getD, List.getElem?_append_left (show j < xs.length by omega)], e1]
        exact hG _ _ q
    · rw [e1] at hj
      by_cases e : j = xs.length
      · subst e
        rw [gx_ndp_s]
        exact ha
      · rw [gx_ndp_n e]
        exact h3 j (by omega)
    · rw [e1] at hj
      rw [gx_ndp_n (show i ≠ xs.length by omega)]
      by_cases e : j = xs.length
      · subst e
        rw [gx_ndp_s]
        exact hnd i (by omega)
      · rw [gx_ndp_n e]
        exact h4 i j hi (by omega)
  refine gx_start (by decide) (Nat.le_of_ble_eq_true rfl) rfl (fun p e s m args below meth c hC hlt => ?_)
  refine gx_aload_n hC dJ30_linkLast_0 rfl rfl (by first | rfl | exact gx_isr_rf _) ?_
  refine gx_get hC (C := RJ30) (Tf := TJ30) (N := 4) (ci := 25) (k := 3) rfl in_J30 (by decide) q2130 (fun _ h9 => h9) dJ30_linkLast_1 (by repeat (first | assumption | exact Or.inr gx_us | exact Or.inr (by assumption) | exact Or.inl (by assumption) | refine gx_tu (by omega) ?_)) rfl ?_
  refine gx_astore_n hC dJ30_linkLast_4 rfl (by decide) (by first | rfl | simp [gx_ck, gx_lk, gx_cat_rf]) (by first | rfl | exact gx_isr_rf _) ?_
  refine gx_new hC (C := RJ25) (Tf := TJ25) (N := 3) (ci := 26) (fs := fdJ25) rfl in_J25 tyJ25 tyJ25_ok q1165 q1166 q111 dvJ25 dJ30_linkLast_5 ?_
  refine gx_dup hC dJ30_linkLast_8 (by first | rfl | exact gx_cat_rf _) ?_
  refine gx_aload_n hC dJ30_linkLast_9 rfl rfl (by first | rfl | exact gx_isr_rf _) ?_
  refine gx_aload_n hC dJ30_linkLast_10 rfl rfl (by first | rfl | exact gx_isr_rf _) ?_
  refine gx_null hC dJ30_linkLast_11 ?_
  refine gx_callI (nA := 3) hC (m_J25_init (pr := if xs.length = 0 then none else some (nd (xs.length - 1))) (nt := none) (x := v) gx_us) (lw_meth q1169) q111 q1167 q1168 rfl (by decide +kernel) dJ30_linkLast_12 rfl ⟨Nat.le_of_ble_eq_true rfl, Nat.le_of_ble_eq_true rfl⟩ (gx_in.id hC (fun q hq => Or.inr (by omega))) rfl (by first | exact Nat.le_of_ble_eq_true rfl | simp [gx_cat_rf, Value.category]) gx_kno (fun v2 G2 nx2 hp hf hle hlt2 => ?_)
  obtain ⟨rfl, rfl, q⟩ := hp
  have q1 := hf _ _ (gx_un (by omega) h1) (by omega)
  have q2 : ∀ j, j < xs.length → ∃ pv : Value, G2 (nd j) (gx_O 26 [.ref (xs.getD j 0), va_rf (gx_lnx xs.length nd (j + 1)), pv]) := fun j hj => by
    obtain ⟨pv, q⟩ := h2 j hj
    have := hnd j hj
    exact ⟨pv, hf _ _ (gx_un (by omega) q) (by omega)⟩
  by_cases e : xs.length = 0
  · rw [if_pos e] at q1 q ⊢
    refine gx_astore_n hC dJ30_linkLast_15 rfl (by decide) (by first | rfl | simp [gx_ck, gx_lk, gx_cat_rf]) (by first | rfl | exact gx_isr_rf _) ?_
    refine gx_aload_n hC dJ30_linkLast_16 rfl rfl (by first | rfl | exact gx_isr_rf _) ?_
    refine gx_aload_n hC dJ30_linkLast_17 rfl rfl (by first | rfl | exact gx_isr_rf _) ?_
    refine gx_put hC (C := RJ30) (Tf := TJ30) (N := 4) (ci := 25) (k := 3) rfl in_J30 (by decide) tyJ30 tyJ30_ok nmJ30 q2130 (fun _ h9 => h9) rfl dJ30_linkLast_18 (by first | exact gx_us | assumption | (repeat (first | exact gx_us | assumption | refine gx_un (by omega) ?_))) (by first | exact Or.inl rfl | exact Or.inl (Or.inl rfl) | exact Or.inl (Or.inr rfl) | exact Or.inr (by omega) | assumption | (simp only [gx_A, *]; omega)) (Nat.le_of_ble_eq_true rfl) (by first | rfl | (cases ‹Option Nat› <;> rfl) | simp [narrow]) (by first | rfl | (cases ‹Option Nat› <;> rfl) | simp [fits]) ?_
    refine gx_aload_n hC dJ30_linkLast_21 rfl rfl (by first | rfl | exact gx_isr_rf _) ?_
    refine gx_ifnonnullN hC dJ30_linkLast_22 ?_
    refine gx_aload_n hC dJ30_linkLast_25 rfl rfl (by first | rfl | exact gx_isr_rf _) ?_
    refine gx_aload_n hC dJ30_linkLast_26 rfl rfl (by first | rfl | exact gx_isr_rf _) ?_
    refine gx_put hC (C := RJ30) (Tf := TJ30) (N := 4) (ci := 25) (k := 2) rfl in_J30 (by decide) tyJ30 tyJ30_ok nmJ30 q2129 (fun _ h9 => h9) rfl dJ30_linkLast_27 (by first | exact gx_us | assumption | (repeat (first | exact gx_us | assumption | refine gx_un (by omega) ?_))) (by first | exact Or.inl rfl | exact Or.inl (Or.inl rfl) | exact Or.inl (Or.inr rfl) | exact Or.inr (by omega) | assumption | (simp only [gx_A, *]; omega)) (Nat.le_of_ble_eq_true rfl) (by first | rfl | (cases ‹Option Nat› <;> rfl) | simp [narrow]) (by first | rfl | (cases ‹Option Nat› <;> rfl) | simp [fits]) ?_
    refine gx_goto hC dJ30_linkLast_30 (tgt := 38) (by decide) ?_
    refine gx_aload_n hC dJ30_linkLast_38 rfl rfl (by first | rfl | exact gx_isr_rf _) ?_
    refine gx_dup hC dJ30_linkLast_39 (by first | rfl | exact gx_cat_rf _) ?_
    refine gx_get hC (C := RJ30) (Tf := TJ30) (N := 4) (ci := 25) (k := 1) rfl in_J30 (by decide) q2127 (fun _ h9 => h9) dJ30_linkLast_40 (by repeat (first | assumption | exact Or.inr gx_us | exact Or.inr (by assumption) | exact Or.inl (by assumption) | refine gx_tu (by omega) ?_)) rfl ?_
    refine gx_iconst hC dJ30_linkLast_43 ?_
    refine gx_iadd hC dJ30_linkLast_44 ?_
    refine gx_put hC (C := RJ30) (Tf := TJ30) (N := 4) (ci := 25) (k := 1) rfl in_J30 (by decide) tyJ30 tyJ30_ok nmJ30 q2127 (fun _ h9 => h9) rfl dJ30_linkLast_45 (by first | exact gx_us | assumption | (repeat (first | exact gx_us | assumption | refine gx_un (by omega) ?_))) (by first | exact Or.inl rfl | exact Or.inl (Or.inl rfl) | exact Or.inl (Or.inr rfl) | exact Or.inr (by omega) | assumption | (simp only [gx_A, *]; omega)) (Nat.le_of_ble_eq_true rfl) (by first | rfl | (cases ‹Option Nat› <;> rfl) | simp [narrow]) (by first | rfl | (cases ‹Option Nat› <;> rfl) | simp [fits]) ?_
    refine gx_aload_n hC dJ30_linkLast_48 rfl rfl (by first | rfl | exact gx_isr_rf _) ?_
    refine gx_dup hC dJ30_linkLast_49 (by first | rfl | exact gx_cat_rf _) ?_
    refine gx_get hC (C := RJ30) (Tf := TJ30) (N := 4) (ci := 25) (k := 0) rfl in_J30 (by decide) q521 (fun x9 h9 => u_same (hC.ts _ q517) x9 h9) dJ30_linkLast_50 (by repeat (first | assumption | exact Or.inr gx_us | exact Or.inr (by assumption) | exact Or.inl (by assumption) | refine gx_tu (by omega) ?_)) rfl ?_
    refine gx_iconst hC dJ30_linkLast_53 ?_
    refine gx_iadd hC dJ30_linkLast_54 ?_
    refine gx_put hC (C := RJ30) (Tf := TJ30) (N := 4) (ci := 25) (k := 0) rfl in_J30 (by decide) tyJ30 tyJ30_ok nmJ30 q521 (fun x9 h9 => u_same (hC.ts _ q517) x9 h9) rfl dJ30_linkLast_55 (by first | exact gx_us | assumption | (repeat (first | exact gx_us | assumption | refine gx_un (by omega) ?_))) (by first | exact Or.inl rfl | exact Or.inl (Or.inl rfl) | exact Or.inl (Or.inr rfl) | exact Or.inr (by omega) | assumption | (simp only [gx_A, *]; omega)) (Nat.le_of_ble_eq_true rfl) (by first | rfl | (cases ‹Option Nat› <;> rfl) | simp [narrow]) (by first | rfl | (cases ‹Option Nat› <;> rfl) | simp [fits]) ?_
    exact gx_vret hC rfl rfl rfl dJ30_linkLast_58 (fun G' hG => ⟨rfl, rfl, fin _ G' (mc + 1) nx gx_us (gx_un (by omega) (by rw [if_pos e]; exact gx_un (by omega) (gx_un (by omega) (gx_un (by omega) q)))) (by rw [if_pos e]) (fun j hj => by omega) hG⟩)
  · rw [if_neg e] at q1 q ⊢
    obtain ⟨pv, q3⟩ := q2 (xs.length - 1) (by omega)
    have hq := hnd (xs.length - 1) (by omega)
    have hq2 := h3 (xs.length - 1) (by omega)
    refine gx_astore_n hC dJ30_linkLast_15 rfl (by decide) (by first | rfl | simp [gx_ck, gx_lk, gx_cat_rf]) (by first | rfl | exact gx_isr_rf _) ?_
    refine gx_aload_n hC dJ30_linkLast_16 rfl rfl (by first | rfl | exact gx_isr_rf _) ?_
    refine gx_aload_n hC dJ30_linkLast_17 rfl rfl (by first | rfl | exact gx_isr_rf _) ?_
    refine gx_put hC (C := RJ30) (Tf := TJ30) (N := 4) (ci := 25) (k := 3) rfl in_J30 (by decide) tyJ30 tyJ30_ok nmJ30 q2130 (fun _ h9 => h9) rfl dJ30_linkLast_18 (by first | exact gx_us | assumption | (repeat (first | exact gx_us | assumption | refine gx_un (by omega) ?_))) (by first | exact Or.inl rfl | exact Or.inl (Or.inl rfl) | exact Or.inl (Or.inr rfl) | exact Or.inr (by omega) | assumption | (simp only [gx_A, *]; omega)) (Nat.le_of_ble_eq_true rfl) (by first | rfl | (cases ‹Option Nat› <;> rfl) | simp [narrow]) (by first | rfl | (cases ‹Option Nat› <;> rfl) | simp [fits]) ?_
    refine gx_aload_n hC dJ30_linkLast_21 rfl rfl (by first | rfl | exact gx_isr_rf _) ?_
    refine gx_ifnonnullR hC dJ30_linkLast_22 (tgt := 33) (by decide) ?_
    refine gx_aload_n hC dJ30_linkLast_33 rfl rfl (by first | rfl | exact gx_isr_rf _) ?_
    refine gx_aload_n hC dJ30_linkLast_34 rfl rfl (by first | rfl | exact gx_isr_rf _) ?_
    refine gx_put hC (C := RJ25) (Tf := TJ25) (N := 3) (ci := 26) (k := 1) rfl in_J25 (by decide) tyJ25 tyJ25_ok nmJ25 q1176 (fun _ h9 => h9) rfl dJ30_linkLast_35 (by first | exact gx_us | assumption | (repeat (first | exact gx_us | assumption | refine gx_un (by omega) ?_))) (by exact Or.inl (Or.inr ⟨xs.length - 1, by omega, rfl⟩)) (Nat.le_of_ble_eq_true rfl) (by first | rfl | (cases ‹Option Nat› <;> rfl) | simp [narrow]) (by first | rfl | (cases ‹Option Nat› <;> rfl) | simp [fits]) ?_
    refine gx_aload_n hC dJ30_linkLast_38 rfl rfl (by first | rfl | exact gx_isr_rf _) ?_
    refine gx_dup hC dJ30_linkLast_39 (by first | rfl | exact gx_cat_rf _) ?_
    refine gx_get hC (C := RJ30) (Tf := TJ30) (N := 4) (ci := 25) (k := 1) rfl in_J30 (by decide) q2127 (fun _ h9 => h9) dJ30_linkLast_40 (by repeat (first | assumption | exact Or.inr gx_us | exact Or.inr (by assumption) | exact Or.inl (by assumption) | refine gx_tu (by omega) ?_)) rfl ?_
    refine gx_iconst hC dJ30_linkLast_43 ?_
    refine gx_iadd hC dJ30_linkLast_44 ?_
    refine gx_put hC (C := RJ30) (Tf := TJ30) (N := 4) (ci := 25) (k := 1) rfl in_J30 (by decide) tyJ30 tyJ30_ok nmJ30 q2127 (fun _ h9 => h9) rfl dJ30_linkLast_45 (by first | exact gx_us | assumption | (repeat (first | exact gx_us | assumption | refine gx_un (by omega) ?_))) (by first | exact Or.inl rfl | exact Or.inl (Or.inl rfl) | exact Or.inl (Or.inr rfl) | exact Or.inr (by omega) | assumption | (simp only [gx_A, *]; omega)) (Nat.le_of_ble_eq_true rfl) (by first | rfl | (cases ‹Option Nat› <;> rfl) | simp [narrow]) (by first | rfl | (cases ‹Option Nat› <;> rfl) | simp [fits]) ?_
    refine gx_aload_n hC dJ30_linkLast_48 rfl rfl (by first | rfl | exact gx_isr_rf _) ?_
    refine gx_dup hC dJ30_linkLast_49 (by first | rfl | exact gx_cat_rf _) ?_
    refine gx_get hC (C := RJ30) (Tf := TJ30) (N := 4) (ci := 25) (k := 0) rfl in_J30 (by decide) q521 (fun x9 h9 => u_same (hC.ts _ q517) x9 h9) dJ30_linkLast_50 (by repeat (first | assumption | exact Or.inr gx_us | exact Or.inr (by assumption) | exact Or.inl (by assumption) | refine gx_tu (by omega) ?_)) rfl ?_
    refine gx_iconst hC dJ30_linkLast_53 ?_
    refine gx_iadd hC dJ30_linkLast_54 ?_
    refine gx_put hC (C := RJ30) (Tf := TJ30) (N := 4) (ci := 25) (k := 0) rfl in_J30 (by decide) tyJ30 tyJ30_ok nmJ30 q521 (fun x9 h9 => u_same (hC.ts _ q517) x9 h9) rfl dJ30_linkLast_55 (by first | exact gx_us | assumption | (repeat (first | exact gx_us | assumption | refine gx_un (by omega) ?_))) (by first | exact Or.inl rfl | exact Or.inl (Or.inl rfl) | exact Or.inl (Or.inr rfl) | exact Or.inr (by omega) | assumption | (simp only [gx_A, *]; omega)) (Nat.le_of_ble_eq_true rfl) (by first | rfl | (cases ‹Option Nat› <;> rfl) | simp [narrow]) (by first | rfl | (cases ‹Option Nat› <;> rfl) | simp [fits]) ?_
    have e0 : gx_lnx xs.length nd 0 = some (nd 0) := if_pos (by omega)
    rw [e0]
    refine gx_lt (fun hlt3 => ?_)
    refine gx_vret hC rfl rfl rfl dJ30_linkLast_58 (fun G' hG => ⟨rfl, rfl, fin _ G' (mc + 1) (nd 0) gx_us (by rw [if_neg e]; exact gx_un (by omega) (gx_un (by omega) (gx_un (by omega) (gx_un (by omega) q)))) (by rw [if_neg e]) (fun j hj => ?_) hG⟩)
    by_cases ej : j = xs.length - 1
    · subst ej
      refine ⟨pv, gx_un (by omega) (gx_un (by omega) ?_)⟩
      rw [show xs.length - 1 + 1 = xs.length by omega]
      rw [show gx_lnx (xs.length + 1) (gx_ndp xs.length nd nx) xs.length = some nx by unfold gx_lnx; rw [if_pos (show xs.length < xs.length + 1 by omega), gx_ndp_s]]
      exact gx_us
    · obtain ⟨pv4, q4⟩ := q2 j hj
      have hj3 := h3 j hj
      have hj4 := h4 j (xs.length - 1) (by omega) (by omega)
      have hj5 := hnd j hj
      refine ⟨pv4, gx_un (by omega) (gx_un (by omega) (gx_un (by omega) (gx_un (by omega) ?_)))⟩
      unfold gx_lnx at q4 ⊢
      rw [if_pos (by omega)] at q4
      rw [if_pos (by omega), gx_ndp_n (by omega)]
      exact q4
theorem m_J30_addLast (h : gx_LL G a nd xs) (hl : xs.length < 1000) (hnd : ∀ j, j < xs.length → nd j < nx) (ha : a < nx) : gx_Met l yJ30_addLast (ws_ yJ30_addLast cJ30_addLast 2 none) 5 1 3 D (fun q => q = a ∨ ∃ j, j < xs.length ∧ q = nd j) T G nx [.ref a, .ref v] (fun w G' nx' => w = none ∧ nx' = nx + 1 ∧ gx_LL G' a (gx_ndp xs.length nd nx) (xs ++ [v])) gx_no := by
  have h0 := h
  obtain ⟨⟨mc, h1⟩, h2, h3, h4, h5⟩ := h
  refine gx_start (by decide) (Nat.le_of_ble_eq_true rfl) rfl (fun p e s m args below meth c hC hlt => ?_)
  refine gx_aload_n hC dJ30_addLast_0 rfl rfl (by first | rfl | exact gx_isr_rf _) ?_
  refine gx_aload_n hC dJ30_addLast_1 rfl rfl (by first | rfl | exact gx_isr_rf _) ?_
  refine gx_callV (nA := 1) hC (m_J30_linkLast h0 hl hnd ha) (C := RJ30) (Tf := TJ30) (Nf := 4) (ci := 25) rfl (by repeat (first | assumption | exact Or.inr gx_us | exact Or.inr (by assumption) | exact Or.inl (by assumption) | refine gx_tu (by omega) ?_)) (lw_V q1161 q1162 q1163 q126 q1164) (by decide +kernel) dJ30_addLast_2 rfl ⟨Nat.le_of_ble_eq_true rfl, Nat.le_of_ble_eq_true rfl⟩ (gx_in.id hC (fun q hq => Or.inl hq)) rfl (by first | exact Nat.le_of_ble_eq_true rfl | simp [gx_cat_rf, Value.category]) gx_kno (fun v2 G2 nx2 hp hf hle hlt2 => ?_)
  obtain ⟨rfl, rfl, q⟩ := hp
  exact gx_vret hC rfl rfl rfl dJ30_addLast_5 (fun G' hG => ⟨rfl, rfl, q.mono (fun x e _ => hG _ _)⟩)
theorem m_J30_unlinkFirst {xs : List Nat} (h : gx_LL G a nd (v :: xs)) : gx_Met l yJ30_unlinkFirst (ws_ yJ30_unlinkFirst cJ30_unlinkFirst 4 (some (.object "java/lang/Object"))) 1 0 0 D (fun q => q = a ∨ ∃ j, j < xs.length + 1 ∧ q = nd j) T G nx [.ref a, .ref (nd 0)] (fun w G' nx' => w = some (.ref v) ∧ nx' = nx ∧ gx_LL G' a (fun j => nd (j + 1)) xs) gx_no := by
  obtain ⟨⟨mc, h1⟩, h2, h3, h4, h5⟩ := h
  rw [List.length_cons] at h1 h2 h3 h4 h5
  obtain ⟨pv, q0⟩ := h2 0 (by omega)
  have ha0 := h3 0 (by omega)
  have fin : ∀ (G2 G' : gx_H) (mc2 : Int) (z : Value), G2 a (gx_O 25 [.int (iz mc2), .int (iz ((xs.length : Int) + 1 - 1)), va_rf (gx_lnx (xs.length + 1) nd 1), z]) → z = va_rf (if xs.length = 0 then none else some (nd xs.length)) → (∀ j, j < xs.length → ∃ pv : Value, G2 (nd (j + 1)) (gx_O 26 [.ref (xs.getD j 0), va_rf (gx_lnx (xs.length + 1) nd (j + 1 + 1)), pv])) → gx_le G2 G' → gx_LL G' a (fun j => nd (j + 1)) xs := by
    intro G2 G' mc2 z q1 qz q3 hG
    refine gx_LL.mk (mc := mc2) (n := (xs.length : Int) + 1 - 1) (by omega) ?_ ?_ (hG _ _ q1) (fun j hj => ?_) (fun j hj => h3 _ (by omega)) (fun i j hi hj => h4 _ _ (by omega) (by omega)) (by omega)
    · unfold gx_lnx
      by_cases e : 0 < xs.length
      · rw [if_pos e, if_pos (by omega)]
      · rw [if_neg e, if_neg (by omega)]
    · rw [qz]
      by_cases e : xs.length = 0
      · rw [if_pos e, if_pos e]
      · rw [if_neg e, if_neg e, show xs.length - 1 + 1 = xs.length by omega]
    · obtain ⟨pv, q⟩ := q3 j hj
      refine ⟨pv, ?_⟩
      have e : gx_lnx xs.length (fun j => nd (j + 1)) (j + 1) = gx_lnx (xs.length + 1) nd (j + 1 + 1) := by
        unfold gx_lnx
        by_cases e : j + 1 < xs.length
        · rw [if_pos e, if_pos (by omega)]
        · rw [if_neg e, if_neg (by omega)]
      rw [e]
      exact hG _ _ q
  have hrest : ∀ j, j < xs.length → ∃ pv : Value, G (nd (j + 1)) (gx_O 26 [.ref (xs.getD j 0), va_rf (gx_lnx (xs.length + 1) nd (j + 1 + 1)), pv]) := fun j hj => h2 (j + 1) (by omega)
  have hm0 : gx_A (fun q => q = a ∨ ∃ j, j < xs.length + 1 ∧ q = nd j) nx (nd 0) := Or.inl (Or.inr ⟨0, by omega, rfl⟩)
  rw [show gx_lnx (xs.length + 1) nd 0 = some (nd 0) from if_pos (by omega)] at h1
  by_cases ez : xs.length = 0
  · have e1 : gx_lnx (xs.length + 1) nd (0 + 1) = none := if_neg (by omega)
    rw [e1] at q0
    refine gx_start (by decide) (Nat.le_of_ble_eq_true rfl) rfl (fun p e s m args below meth c hC hlt => ?_)
    refine gx_aload_n hC dJ30_unlinkFirst_0 rfl rfl (by first | rfl | exact gx_isr_rf _) ?_
    refine gx_get hC (C := RJ25) (Tf := TJ25) (N := 3) (ci := 26) (k := 0) rfl in_J25 (by decide) q1173 (fun _ h9 => h9) dJ30_unlinkFirst_1 (by repeat (first | assumption | exact Or.inr gx_us | exact Or.inr (by assumption) | exact Or.inl (by assumption) | refine gx_tu (by omega) ?_)) rfl ?_
    refine gx_astore_n hC dJ30_unlinkFirst_4 rfl (by decide) (by first | rfl | simp [gx_ck, gx_lk, gx_cat_rf]) (by first | rfl | exact gx_isr_rf _) ?_
    refine gx_aload_n hC dJ30_unlinkFirst_5 rfl rfl (by first | rfl | exact gx_isr_rf _) ?_
    refine gx_get hC (C := RJ25) (Tf := TJ25) (N := 3) (ci := 26) (k := 1) rfl in_J25 (by decide) q1176 (fun _ h9 => h9) dJ30_unlinkFirst_6 (by repeat (first | assumption | exact Or.inr gx_us | exact Or.inr (by assumption) | exact Or.inl (by assumption) | refine gx_tu (by omega) ?_)) rfl ?_
    refine gx_astore_n hC dJ30_unlinkFirst_9 rfl (by decide) (by first | rfl | simp [gx_ck, gx_lk, gx_cat_rf]) (by first | rfl | exact gx_isr_rf _) ?_
    refine gx_aload_n hC dJ30_unlinkFirst_10 rfl rfl (by first | rfl | exact gx_isr_rf _) ?_
    refine gx_null hC dJ30_unlinkFirst_11 ?_
    refine gx_put hC (C := RJ25) (Tf := TJ25) (N := 3) (ci := 26) (k := 0) rfl in_J25 (by decide) tyJ25 tyJ25_ok nmJ25 q1173 (fun _ h9 => h9) rfl dJ30_unlinkFirst_12 (by first | exact gx_us | assumption | (repeat (first | exact gx_us | assumption | refine gx_un (by omega) ?_))) (by first | exact Or.inl rfl | exact Or.inl (Or.inl rfl) | exact Or.inl (Or.inr rfl) | exact Or.inr (by omega) | assumption | (simp only [gx_A, *]; omega)) (Nat.le_of_ble_eq_true rfl) (by first | rfl | (cases ‹Option Nat› <;> rfl) | simp [narrow]) (by first | rfl | (cases ‹Option Nat› <;> rfl) | simp [fits]) ?_
    refine gx_aload_n hC dJ30_unlinkFirst_15 rfl rfl (by first | rfl | exact gx_isr_rf _) ?_
    refine gx_null hC dJ30_unlinkFirst_16 ?_
    refine gx_put hC (C := RJ25) (Tf := TJ25) (N := 3) (ci := 26) (k := 1) rfl in_J25 (by decide) tyJ25 tyJ25_ok nmJ25 q1176 (fun _ h9 => h9) rfl dJ30_unlinkFirst_17 (by first | exact gx_us | assumption | (repeat (first | exact gx_us | assumption | refine gx_un (by omega) ?_))) (by first | exact Or.inl rfl | exact Or.inl (Or.inl rfl) | exact Or.inl (Or.inr rfl) | exact Or.inr (by omega) | assumption | (simp only [gx_A, *]; omega)) (Nat.le_of_ble_eq_true rfl) (by first | rfl | (cases ‹Option Nat› <;> rfl) | simp [narrow]) (by first | rfl | (cases ‹Option Nat› <;> rfl) | simp [fits]) ?_
    refine gx_aload_n hC dJ30_unlinkFirst_20 rfl rfl (by first | rfl | exact gx_isr_rf _) ?_
    refine gx_aload_n hC dJ30_unlinkFirst_21 rfl rfl (by first | rfl | exact gx_isr_rf _) ?_
    refine gx_put hC (C := RJ30) (Tf := TJ30) (N := 4) (ci := 25) (k := 2) rfl in_J30 (by decide) tyJ30 tyJ30_ok nmJ30 q2129 (fun _ h9 => h9) rfl dJ30_unlinkFirst_22 (by first | exact gx_us | assumption | (repeat (first | exact gx_us | assumption | refine gx_un (by omega) ?_))) (by first | exact Or.inl rfl | exact Or.inl (Or.inl rfl) | exact Or.inl (Or.inr rfl) | exact Or.inr (by omega) | assumption | (simp only [gx_A, *]; omega)) (Nat.le_of_ble_eq_true rfl) (by first | rfl | (cases ‹Option Nat› <;> rfl) | simp [narrow]) (by first | rfl | (cases ‹Option Nat› <;> rfl) | simp [fits]) ?_
    refine gx_aload_n hC dJ30_unlinkFirst_25 rfl rfl (by first | rfl | exact gx_isr_rf _) ?_
    refine gx_ifnonnullN hC dJ30_unlinkFirst_26 ?_
    refine gx_aload_n hC dJ30_unlinkFirst_29 rfl rfl (by first | rfl | exact gx_isr_rf _) ?_
    refine gx_null hC dJ30_unlinkFirst_30 ?_
    refine gx_put hC (C := RJ30) (Tf := TJ30) (N := 4) (ci := 25) (k := 3) rfl in_J30 (by decide) tyJ30 tyJ30_ok nmJ30 q2130 (fun _ h9 => h9) rfl dJ30_unlinkFirst_31 (by first | exact gx_us | assumption | (repeat (first | exact gx_us | assumption | refine gx_un (by omega) ?_))) (by first | exact Or.inl rfl | exact Or.inl (Or.inl rfl) | exact Or.inl (Or.inr rfl) | exact Or.inr (by omega) | assumption | (simp only [gx_A, *]; omega)) (Nat.le_of_ble_eq_true rfl) (by first | rfl | (cases ‹Option Nat› <;> rfl) | simp [narrow]) (by first | rfl | (cases ‹Option Nat› <;> rfl) | simp [fits]) ?_
    refine gx_goto hC dJ30_unlinkFirst_34 (tgt := 42) (by decide) ?_
    refine gx_aload_n hC dJ30_unlinkFirst_42 rfl rfl (by first | rfl | exact gx_isr_rf _) ?_
    refine gx_dup hC dJ30_unlinkFirst_43 (by first | rfl | exact gx_cat_rf _) ?_
    refine gx_get hC (C := RJ30) (Tf := TJ30) (N := 4) (ci := 25) (k := 1) rfl in_J30 (by decide) q2127 (fun _ h9 => h9) dJ30_unlinkFirst_44 (by repeat (first | assumption | exact Or.inr gx_us | exact Or.inr (by assumption) | exact Or.inl (by assumption) | refine gx_tu (by omega) ?_)) rfl ?_
    refine gx_iconst hC dJ30_unlinkFirst_47 ?_
    refine gx_isub hC dJ30_unlinkFirst_48 ?_
    refine gx_put hC (C := RJ30) (Tf := TJ30) (N := 4) (ci := 25) (k := 1) rfl in_J30 (by decide) tyJ30 tyJ30_ok nmJ30 q2127 (fun _ h9 => h9) rfl dJ30_unlinkFirst_49 (by first | exact gx_us | assumption | (repeat (first | exact gx_us | assumption | refine gx_un (by omega) ?_))) (by first | exact Or.inl rfl | exact Or.inl (Or.inl rfl) | exact Or.inl (Or.inr rfl) | exact Or.inr (by omega) | assumption | (simp only [gx_A, *]; omega)) (Nat.le_of_ble_eq_true rfl) (by first | rfl | (cases ‹Option Nat› <;> rfl) | simp [narrow]) (by first | rfl | (cases ‹Option Nat› <;> rfl) | simp [fits]) ?_
    refine gx_aload_n hC dJ30_unlinkFirst_52 rfl rfl (by first | rfl | exact gx_isr_rf _) ?_
    refine gx_dup hC dJ30_unlinkFirst_53 (by first | rfl | exact gx_cat_rf _) ?_
    refine gx_get hC (C := RJ30) (Tf := TJ30) (N := 4) (ci := 25) (k := 0) rfl in_J30 (by decide) q521 (fun x9 h9 => u_same (hC.ts _ q517) x9 h9) dJ30_unlinkFirst_54 (by repeat (first | assumption | exact Or.inr gx_us | exact Or.inr (by assumption) | exact Or.inl (by assumption) | refine gx_tu (by omega) ?_)) rfl ?_
    refine gx_iconst hC dJ30_unlinkFirst_57 ?_
    refine gx_iadd hC dJ30_unlinkFirst_58 ?_
    refine gx_put hC (C := RJ30) (Tf := TJ30) (N := 4) (ci := 25) (k := 0) rfl in_J30 (by decide) tyJ30 tyJ30_ok nmJ30 q521 (fun x9 h9 => u_same (hC.ts _ q517) x9 h9) rfl dJ30_unlinkFirst_59 (by first | exact gx_us | assumption | (repeat (first | exact gx_us | assumption | refine gx_un (by omega) ?_))) (by first | exact Or.inl rfl | exact Or.inl (Or.inl rfl) | exact Or.inl (Or.inr rfl) | exact Or.inr (by omega) | assumption | (simp only [gx_A, *]; omega)) (Nat.le_of_ble_eq_true rfl) (by first | rfl | (cases ‹Option Nat› <;> rfl) | simp [narrow]) (by first | rfl | (cases ‹Option Nat› <;> rfl) | simp [fits]) ?_
    refine gx_aload_n hC dJ30_unlinkFirst_62 rfl rfl (by first | rfl | exact gx_isr_rf _) ?_
    rw [if_neg (show ¬ xs.length + 1 = 0 by omega)]
    exact gx_aret hC rfl rfl rfl (by first | exact Or.inl ⟨_, rfl⟩ | exact Or.inr ⟨_, rfl⟩) (by first | rfl | exact gx_isr_rf _) dJ30_unlinkFirst_63 (fun G' hG => ⟨rfl, rfl, fin _ G' (mc + 1) .null (by rw [e1]; exact gx_us) (by rw [if_pos ez]; rfl) (fun j hj => by omega) hG⟩)
  · have e1 : gx_lnx (xs.length + 1) nd (0 + 1) = some (nd 1) := if_pos (by omega)
    rw [e1] at q0
    obtain ⟨pv1, q1⟩ := h2 1 (by omega)
    have ha1 := h3 1 (by omega)
    have h01 := h4 0 1 (by omega) (by omega)
    have hm1 : gx_A (fun q => q = a ∨ ∃ j, j < xs.length + 1 ∧ q = nd j) nx (nd 1) := Or.inl (Or.inr ⟨1, by omega, rfl⟩)
    refine gx_start (by decide) (Nat.le_of_ble_eq_true rfl) rfl (fun p e s m args below meth c hC hlt => ?_)
    refine gx_aload_n hC dJ30_unlinkFirst_0 rfl rfl (by first | rfl | exact gx_isr_rf _) ?_
    refine gx_get hC (C := RJ25) (Tf := TJ25) (N := 3) (ci := 26) (k := 0) rfl in_J25 (by decide) q1173 (fun _ h9 => h9) dJ30_unlinkFirst_1 (by repeat (first | assumption | exact Or.inr gx_us | exact Or.inr (by assumption) | exact Or.inl (by assumption) | refine gx_tu (by omega) ?_)) rfl ?_
    refine gx_astore_n hC dJ30_unlinkFirst_4 rfl (by decide) (by first | rfl | simp [gx_ck, gx_lk, gx_cat_rf]) (by first | rfl | exact gx_isr_rf _) ?_
    refine gx_aload_n hC dJ30_unlinkFirst_5 rfl rfl (by first | rfl | exact gx_isr_rf _) ?_
    refine gx_get hC (C := RJ25) (Tf := TJ25) (N := 3) (ci := 26) (k := 1) rfl in_J25 (by decide) q1176 (fun _ h9 => h9) dJ30_unlinkFirst_6 (by repeat (first | assumption | exact Or.inr gx_us | exact Or.inr (by assumption) | exact Or.inl (by assumption) | refine gx_tu (by omega) ?_)) rfl ?_
    refine gx_astore_n hC dJ30_unlinkFirst_9 rfl (by decide) (by first | rfl | simp [gx_ck, gx_lk, gx_cat_rf]) (by first | rfl | exact gx_isr_rf _) ?_
    refine gx_aload_n hC dJ30_unlinkFirst_10 rfl rfl (by first | rfl | exact gx_isr_rf _) ?_
    refine gx_null hC dJ30_unlinkFirst_11 ?_
    refine gx_put hC (C := RJ25) (Tf := TJ25) (N := 3) (ci := 26) (k := 0) rfl in_J25 (by decide) tyJ25 tyJ25_ok nmJ25 q1173 (fun _ h9 => h9) rfl dJ30_unlinkFirst_12 (by first | exact gx_us | assumption | (repeat (first | exact gx_us | assumption | refine gx_un (by omega) ?_))) (by first | exact Or.inl rfl | exact Or.inl (Or.inl rfl) | exact Or.inl (Or.inr rfl) | exact Or.inr (by omega) | assumption | (simp only [gx_A, *]; omega)) (Nat.le_of_ble_eq_true rfl) (by first | rfl | (cases ‹Option Nat› <;> rfl) | simp [narrow]) (by first | rfl | (cases ‹Option Nat› <;> rfl) | simp [fits]) ?_
    refine gx_aload_n hC dJ30_unlinkFirst_15 rfl rfl (by first | rfl | exact gx_isr_rf _) ?_
    refine gx_null hC dJ30_unlinkFirst_16 ?_
    refine gx_put hC (C := RJ25) (Tf := TJ25) (N := 3) (ci := 26) (k := 1) rfl in_J25 (by decide) tyJ25 tyJ25_ok nmJ25 q1176 (fun _ h9 => h9) rfl dJ30_unlinkFirst_17 (by first | exact gx_us | assumption | (repeat (first | exact gx_us | assumption | refine gx_un (by omega) ?_))) (by first | exact Or.inl rfl | exact Or.inl (Or.inl rfl) | exact Or.inl (Or.inr rfl) | exact Or.inr (by omega) | assumption | (simp only [gx_A, *]; omega)) (Nat.le_of_ble_eq_true rfl) (by first | rfl | (cases ‹Option Nat› <;> rfl) | simp [narrow]) (by first | rfl | (cases ‹Option Nat› <;> rfl) | simp [fits]) ?_
    refine gx_aload_n hC dJ30_unlinkFirst_20 rfl rfl (by first | rfl | exact gx_isr_rf _) ?_
    refine gx_aload_n hC dJ30_unlinkFirst_21 rfl rfl (by first | rfl | exact gx_isr_rf _) ?_
    refine gx_put hC (C := RJ30) (Tf := TJ30) (N := 4) (ci := 25) (k := 2) rfl in_J30 (by decide) tyJ30 tyJ30_ok nmJ30 q2129 (fun _ h9 => h9) rfl dJ30_unlinkFirst_22 (by first | exact gx_us | assumption | (repeat (first | exact gx_us | assumption | refine gx_un (by omega) ?_))) (by first | exact Or.inl rfl | exact Or.inl (Or.inl rfl) | exact Or.inl (Or.inr rfl) | exact Or.inr (by omega) | assumption | (simp only [gx_A, *]; omega)) (Nat.le_of_ble_eq_true rfl) (by first | rfl | (cases ‹Option Nat› <;> rfl) | simp [narrow]) (by first | rfl | (cases ‹Option Nat› <;> rfl) | simp [fits]) ?_
    refine gx_aload_n hC dJ30_unlinkFirst_25 rfl rfl (by first | rfl | exact gx_isr_rf _) ?_
    refine gx_ifnonnullR hC dJ30_unlinkFirst_26 (tgt := 37) (by decide) ?_
    refine gx_aload_n hC dJ30_unlinkFirst_37 rfl rfl (by first | rfl | exact gx_isr_rf _) ?_
    refine gx_null hC dJ30_unlinkFirst_38 ?_
    refine gx_put hC (C := RJ25) (Tf := TJ25) (N := 3) (ci := 26) (k := 2) rfl in_J25 (by decide) tyJ25 tyJ25_ok nmJ25 q1178 (fun _ h9 => h9) rfl dJ30_unlinkFirst_39 (by first | exact gx_us | assumption | (repeat (first | exact gx_us | assumption | refine gx_un (by omega) ?_))) (by first | exact Or.inl rfl | exact Or.inl (Or.inl rfl) | exact Or.inl (Or.inr rfl) | exact Or.inr (by omega) | assumption | (simp only [gx_A, *]; omega)) (Nat.le_of_ble_eq_true rfl) (by first | rfl | (cases ‹Option Nat› <;> rfl) | simp [narrow]) (by first | rfl | (cases ‹Option Nat› <;> rfl) | simp [fits]) ?_
    refine gx_aload_n hC dJ30_unlinkFirst_42 rfl rfl (by first | rfl | exact gx_isr_rf _) ?_
    refine gx_dup hC dJ30_unlinkFirst_43 (by first | rfl | exact gx_cat_rf _) ?_
    refine gx_get hC (C := RJ30) (Tf := TJ30) (N := 4) (ci := 25) (k := 1) rfl in_J30 (by decide) q2127 (fun _ h9 => h9) dJ30_unlinkFirst_44 (by repeat (first | assumption | exact Or.inr gx_us | exact Or.inr (by assumption) | exact Or.inl (by assumption) | refine gx_tu (by omega) ?_)) rfl ?_
    refine gx_iconst hC dJ30_unlinkFirst_47 ?_
    refine gx_isub hC dJ30_unlinkFirst_48 ?_
    refine gx_put hC (C := RJ30) (Tf := TJ30) (N := 4) (ci := 25) (k := 1) rfl in_J30 (by decide) tyJ30 tyJ30_ok nmJ30 q2127 (fun _ h9 => h9) rfl dJ30_unlinkFirst_49 (by first | exact gx_us | assumption | (repeat (first | exact gx_us | assumption | refine gx_un (by omega) ?_))) (by first | exact Or.inl rfl | exact Or.inl (Or.inl rfl) | exact Or.inl (Or.inr rfl) | exact Or.inr (by omega) | assumption | (simp only [gx_A, *]; omega)) (Nat.le_of_ble_eq_true rfl) (by first | rfl | (cases ‹Option Nat› <;> rfl) | simp [narrow]) (by first | rfl | (cases ‹Option Nat› <;> rfl) | simp [fits]) ?_
    refine gx_aload_n hC dJ30_unlinkFirst_52 rfl rfl (by first | rfl | exact gx_isr_rf _) ?_
    refine gx_dup hC dJ30_unlinkFirst_53 (by first | rfl | exact gx_cat_rf _) ?_
    refine gx_get hC (C := RJ30) (Tf := TJ30) (N := 4) (ci := 25) (k := 0) rfl in_J30 (by decide) q521 (fun x9 h9 => u_same (hC.ts _ q517) x9 h9) dJ30_unlinkFirst_54 (by repeat (first | assumption | exact Or.inr gx_us | exact Or.inr (by assumption) | exact Or.inl (by assumption) | refine gx_tu (by omega) ?_)) rfl ?_
    refine gx_iconst hC dJ30_unlinkFirst_57 ?_
    refine gx_iadd hC dJ30_unlinkFirst_58 ?_
    refine gx_put hC (C := RJ30) (Tf := TJ30) (N := 4) (ci := 25) (k := 0) rfl in_J30 (by decide) tyJ30 tyJ30_ok nmJ30 q521 (fun x9 h9 => u_same (hC.ts _ q517) x9 h9) rfl dJ30_unlinkFirst_59 (by first | exact gx_us | assumption | (repeat (first | exact gx_us | assumption | refine gx_un (by omega) ?_))) (by first | exact Or.inl rfl | exact Or.inl (Or.inl rfl) | exact Or.inl (Or.inr rfl) | exact Or.inr (by omega) | assumption | (simp only [gx_A, *]; omega)) (Nat.le_of_ble_eq_true rfl) (by first | rfl | (cases ‹Option Nat› <;> rfl) | simp [narrow]) (by first | rfl | (cases ‹Option Nat› <;> rfl) | simp [fits]) ?_
    refine gx_aload_n hC dJ30_unlinkFirst_62 rfl rfl (by first | rfl | exact gx_isr_rf _) ?_
    refine gx_aret hC rfl rfl rfl (by first | exact Or.inl ⟨_, rfl⟩ | exact Or.inr ⟨_, rfl⟩) (by first | rfl | exact gx_isr_rf _) dJ30_unlinkFirst_63 (fun G' hG => ⟨rfl, rfl, fin _ G' (mc + 1) _ (by rw [e1]; exact gx_us) (by rw [if_neg (show ¬ xs.length + 1 = 0 by omega), if_neg ez]; rfl) (fun j hj => ?_) hG⟩)
    by_cases ej : j = 0
    · subst ej
      have hz1 : nd (0 + 1) = nd 1 := rfl
      exact ⟨_, gx_un (by omega) (gx_un (by omega) gx_us)⟩
    · obtain ⟨pv4, q4⟩ := hrest j hj
      have hj1 := h4 1 (j + 1) (by omega) (by omega)
      have hj2 := h3 (j + 1) (by omega)
      exact ⟨pv4, gx_un (by omega) (gx_un (by omega) (gx_un (by omega) (gx_un (by omega) (gx_un (by omega) (gx_un (by omega) q4)))))⟩
theorem m_J30_removeFirst {xs : List Nat} (h : gx_LL G a nd (v :: xs)) : gx_Met l yJ30_removeFirst (ws_ yJ30_removeFirst cJ30_removeFirst 2 (some (.object "java/lang/Object"))) 3 0 0 D (fun q => q = a ∨ ∃ j, j < xs.length + 1 ∧ q = nd j) T G nx [.ref a] (fun w G' nx' => w = some (.ref v) ∧ nx' = nx ∧ gx_LL G' a (fun j => nd (j + 1)) xs) gx_no := by
  have h0 := h
  obtain ⟨⟨mc, h1⟩, h2, h3, h4, h5⟩ := h
  rw [show gx_lnx (v :: xs).length nd 0 = some (nd 0) from if_pos (by simp)] at h1
  refine gx_start (by decide) (Nat.le_of_ble_eq_true rfl) rfl (fun p e s m args below meth c hC hlt => ?_)
  refine gx_aload_n hC dJ30_removeFirst_0 rfl rfl (by first | rfl | exact gx_isr_rf _) ?_
  refine gx_get hC (C := RJ30) (Tf := TJ30) (N := 4) (ci := 25) (k := 2) rfl in_J30 (by decide) q2129 (fun _ h9 => h9) dJ30_removeFirst_1 (by repeat (first | assumption | exact Or.inr gx_us | exact Or.inr (by assumption) | exact Or.inl (by assumption) | refine gx_tu (by omega) ?_)) rfl ?_
  refine gx_astore_n hC dJ30_removeFirst_4 rfl (by decide) (by first | rfl | simp [gx_ck, gx_lk, gx_cat_rf]) (by first | rfl | exact gx_isr_rf _) ?_
  refine gx_aload_n hC dJ30_removeFirst_5 rfl rfl (by first | rfl | exact gx_isr_rf _) ?_
  refine gx_ifnonnullR hC dJ30_removeFirst_6 (tgt := 17) (by decide) ?_
  refine gx_aload_n hC dJ30_removeFirst_17 rfl rfl (by first | rfl | exact gx_isr_rf _) ?_
  refine gx_aload_n hC dJ30_removeFirst_18 rfl rfl (by first | rfl | exact gx_isr_rf _) ?_
  refine gx_callV (nA := 1) hC (m_J30_unlinkFirst h0) (C := RJ30) (Tf := TJ30) (Nf := 4) (ci := 25) rfl (by repeat (first | assumption | exact Or.inr gx_us | exact Or.inr (by assumption) | exact Or.inl (by assumption) | refine gx_tu (by omega) ?_)) (lw_V q2262 q2264 qs34 q126 q2265) (by decide +kernel) dJ30_removeFirst_19 rfl ⟨Nat.le_of_ble_eq_true rfl, Nat.le_of_ble_eq_true rfl⟩ (gx_in.id hC (fun q hq => Or.inl hq)) rfl (by first | exact Nat.le_of_ble_eq_true rfl | simp [gx_cat_rf, Value.category]) gx_kno (fun v2 G2 nx2 hp hf hle hlt2 => ?_)
  obtain ⟨rfl, rfl, q⟩ := hp
  exact gx_aret hC rfl rfl rfl (by first | exact Or.inl ⟨_, rfl⟩ | exact Or.inr ⟨_, rfl⟩) (by first | rfl | exact gx_isr_rf _) dJ30_removeFirst_22 (fun G' hG => ⟨rfl, rfl, q.mono (fun x e _ => hG _ _)⟩)
end LL

