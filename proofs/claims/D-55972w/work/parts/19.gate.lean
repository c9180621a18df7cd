/-! Token, Gate -/
set_option maxRecDepth 100000
theorem gx_gD_app {α : Type} {xs ys : List α} {d : α} {j : Nat} : (xs ++ ys).getD j d = if j < xs.length then xs.getD j d else ys.getD (j - xs.length) d := by
  by_cases h : j < xs.length
  · rw [if_pos h]
    simp [List.getD_eq_getElem?_getD, List.getElem?_append_left h]
  · rw [if_neg h]
    simp [List.getD_eq_getElem?_getD, List.getElem?_append_right (Nat.le_of_not_lt h)]
theorem gx_gD_drop {α : Type} {xs : List α} {d : α} {n j : Nat} : (xs.drop n).getD j d = xs.getD (n + j) d := by
  simp [List.getD_eq_getElem?_getD, List.getElem?_drop]
theorem gx_gD_take {α : Type} {xs : List α} {d : α} {n j : Nat} (h : j < n) : (xs.take n).getD j d = xs.getD j d := by
  simp [List.getD_eq_getElem?_getD, List.getElem?_take, h]
theorem gx_tks.app {Y : gx_H} {xs ys : List Nat} {tk uk : List gs_T} (h1 : gx_tks Y xs tk) (h2 : gx_tks Y ys uk) : gx_tks Y (xs ++ ys) (tk ++ uk) := by
  refine ⟨by simp [h1.1, h2.1], fun j hj => ?_⟩
  rw [List.length_append] at hj
  unfold gs_tk
  rw [gx_gD_app, gx_gD_app, h1.1]
  by_cases e : j < tk.length
  · rw [if_pos e, if_pos e]
    exact h1.2 j e
  · rw [if_neg e, if_neg e]
    exact h2.2 _ (by omega)
theorem gx_tks.drop {Y : gx_H} {xs : List Nat} {tk : List gs_T} (h : gx_tks Y xs tk) (n : Nat) : gx_tks Y (xs.drop n) (tk.drop n) := by
  refine ⟨by simp [h.1], fun j hj => ?_⟩
  rw [List.length_drop] at hj
  unfold gs_tk
  rw [gx_gD_drop, gx_gD_drop]
  exact h.2 _ (by omega)
theorem gx_tks.take {Y : gx_H} {xs : List Nat} {tk : List gs_T} (h : gx_tks Y xs tk) (n : Nat) : gx_tks Y (xs.take n) (tk.take n) := by
  refine ⟨by simp [h.1], fun j hj => ?_⟩
  rw [List.length_take] at hj
  unfold gs_tk
  rw [gx_gD_take (by omega), gx_gD_take (by omega)]
  exact h.2 _ (by omega)
theorem gx_dt_s {xs : List Nat} {n k : Nat} (h : n ≤ k) (hk : k < xs.length) : (xs.take (k + 1)).drop n = (xs.take k).drop n ++ [xs.getD k 0] := by
  rw [gx_take_s hk, List.drop_append_of_le_length (by rw [List.length_take]; omega)]
/-- the tokens from st on, a conjunction, and those in front of it -/
def gs_rot (tk : List gs_T) (st : Nat) : List gs_T := tk.drop st ++ ((4, 0, 0) :: tk.take (st - 1))
theorem gs_rot_len {tk : List gs_T} {st : Nat} (h : 1 ≤ st) (h2 : st ≤ tk.length) : (gs_rot tk st).length = tk.length := by
  unfold gs_rot
  simp
  omega
section GAT
variable {l : Launch} {D : gx_D} {T G Y : gx_H} {nx : Nat} {a : Nat} {g : Int} {Ga : gs_G}
theorem m_X7_init {x y z : Int} (h : G a (gx_O 6 fdX7)) : gx_Met l yX7_init (ws_ yX7_init cX7_init 4 none) 1 0 0 D (fun q => q = a) T G nx [.ref a, .int (iz x), .int (iz y), .int (iz z)] (fun w G' nx' => w = none ∧ nx' = nx ∧ G' a (gx_tok (x, y, z))) gx_no := by
  refine gx_start (by decide) (Nat.le_of_ble_eq_true rfl) rfl (fun p e s m args below meth c hC hlt => ?_)
  refine gx_aload_n hC dX7_init_0 rfl rfl (by first | rfl | exact gx_isr_rf _ | exact gx_isr_rn _) ?_
  refine gx_oinit hC q1722 q137 q138 dX7_init_1 (Nat.le_of_ble_eq_true rfl) (Nat.le_of_ble_eq_true rfl) ?_
  refine gx_aload_n hC dX7_init_4 rfl rfl (by first | rfl | exact gx_isr_rf _ | exact gx_isr_rn _) ?_
  refine gx_iload_n hC dX7_init_5 rfl rfl ?_
  refine gx_putF hC (C := RX7) (Tf := TX7) (N := 3) (ci := 6) (k := 0) rfl in_X7 (by decide) tyX7 tyX7_ok nmX7 q1723 (fun _ h9 => h9) rfl rfl rfl dX7_init_6 (by first | exact gx_us | assumption | (repeat (first | exact gx_us | assumption | refine gx_un (by omega) ?_))) (by first | exact Or.inl rfl | exact Or.inl (Or.inl rfl) | exact Or.inl (Or.inr rfl) | exact Or.inr (by omega) | assumption | (simp only [gx_A, *]; omega)) (Nat.le_of_ble_eq_true rfl) (by first | rfl | (unfold gx_rn; split <;> rfl) | (cases ‹Option Nat› <;> rfl) | simp [narrow]) (by first | rfl | (unfold gx_rn; split <;> rfl) | (cases ‹Option Nat› <;> rfl) | simp [fits]) ?_
  refine gx_aload_n hC dX7_init_9 rfl rfl (by first | rfl | exact gx_isr_rf _ | exact gx_isr_rn _) ?_
  refine gx_iload_n hC dX7_init_10 rfl rfl ?_
  refine gx_putF hC (C := RX7) (Tf := TX7) (N := 3) (ci := 6) (k := 1) rfl in_X7 (by decide) tyX7 tyX7_ok nmX7 q1728 (fun _ h9 => h9) rfl rfl rfl dX7_init_11 (by first | exact gx_us | assumption | (repeat (first | exact gx_us | assumption | refine gx_un (by omega) ?_))) (by first | exact Or.inl rfl | exact Or.inl (Or.inl rfl) | exact Or.inl (Or.inr rfl) | exact Or.inr (by omega) | assumption | (simp only [gx_A, *]; omega)) (Nat.le_of_ble_eq_true rfl) (by first | rfl | (unfold gx_rn; split <;> rfl) | (cases ‹Option Nat› <;> rfl) | simp [narrow]) (by first | rfl | (unfold gx_rn; split <;> rfl) | (cases ‹Option Nat› <;> rfl) | simp [fits]) ?_
  refine gx_aload_n hC dX7_init_14 rfl rfl (by first | rfl | exact gx_isr_rf _ | exact gx_isr_rn _) ?_
  refine gx_iload_n hC dX7_init_15 rfl rfl ?_
  refine gx_putF hC (C := RX7) (Tf := TX7) (N := 3) (ci := 6) (k := 2) rfl in_X7 (by decide) tyX7 tyX7_ok nmX7 q1730 (fun _ h9 => h9) rfl rfl rfl dX7_init_16 (by first | exact gx_us | assumption | (repeat (first | exact gx_us | assumption | refine gx_un (by omega) ?_))) (by first | exact Or.inl rfl | exact Or.inl (Or.inl rfl) | exact Or.inl (Or.inr rfl) | exact Or.inr (by omega) | assumption | (simp only [gx_A, *]; omega)) (Nat.le_of_ble_eq_true rfl) (by first | rfl | (unfold gx_rn; split <;> rfl) | (cases ‹Option Nat› <;> rfl) | simp [narrow]) (by first | rfl | (unfold gx_rn; split <;> rfl) | (cases ‹Option Nat› <;> rfl) | simp [fits]) ?_
  exact gx_vret hC rfl rfl rfl dX7_init_19 (fun G' hG => ⟨rfl, rfl, hG _ _ gx_us⟩)
theorem m_X7_init_2 {x : Int} (h : G a (gx_O 6 fdX7)) : gx_Met l yX7_init_2 (ws_ yX7_init_2 cX7_init_2 2 none) 2 0 0 D (fun q => q = a) T G nx [.ref a, .int (iz x)] (fun w G' nx' => w = none ∧ nx' = nx ∧ G' a (gx_tok (x, 0, 0))) gx_no := by
  refine gx_start (by decide) (Nat.le_of_ble_eq_true rfl) rfl (fun p e s m args below meth c hC hlt => ?_)
  refine gx_aload_n hC dX7_init_2_0 rfl rfl (by first | rfl | exact gx_isr_rf _ | exact gx_isr_rn _) ?_
  refine gx_iload_n hC dX7_init_2_1 rfl rfl ?_
  refine gx_iconst hC dX7_init_2_2 ?_
  refine gx_iconst hC dX7_init_2_3 ?_
  refine gx_callI (nA := 3) hC (m_X7_init h) (lw_meth q1721) q108 q1775 q1720 rfl (by decide +kernel) dX7_init_2_4 rfl ⟨Nat.le_of_ble_eq_true rfl, Nat.le_of_ble_eq_true rfl⟩ (gx_in.id hC (fun q hq => Or.inl hq)) rfl (by first | exact Nat.le_of_ble_eq_true rfl | simp [gx_cat_rf, Value.category]) gx_kno (fun v2 G2 nx2 hp hf hle hlt2 => ?_)
  obtain ⟨rfl, rfl, q⟩ := hp
  exact gx_vret hC rfl rfl rfl dX7_init_2_7 (fun G' hG => ⟨rfl, rfl, hG _ _ q⟩)
theorem m_X4_init (h : G a (gx_O 3 fdX4)) (ha : nx = a + 1) : gx_Met l yX4_init (ws_ yX4_init cX4_init 2 none) 7 2 63 D (fun q => q = a) T G nx [.ref a, .int (iz g)] (fun w G' nx' => w = none ∧ nx' = nx + 2 ∧ gx_gt D G' Y a g ([], 0)) gx_no := by
  subst ha
  refine gx_start (by decide) (Nat.le_of_ble_eq_true rfl) rfl (fun p e s m args below meth c hC hlt => ?_)
  refine gx_aload_n hC dX4_init_0 rfl rfl (by first | rfl | exact gx_isr_rf _ | exact gx_isr_rn _) ?_
  refine gx_oinit hC q544 q137 q138 dX4_init_1 (Nat.le_of_ble_eq_true rfl) (Nat.le_of_ble_eq_true rfl) ?_
  refine gx_aload_n hC dX4_init_4 rfl rfl (by first | rfl | exact gx_isr_rf _ | exact gx_isr_rn _) ?_
  refine gx_new hC (C := RJ2) (Tf := TJ2) (N := 3) (ci := 19) (fs := fdJ2) rfl in_J2 tyJ2 tyJ2_ok q545 q175 q81 dvJ2 dX4_init_5 ?_
  refine gx_dup hC dX4_init_8 (by first | rfl | exact gx_cat_rf _ | exact gx_cat_rn _) ?_
  refine gx_bipush hC dX4_init_9 rfl ?_
  refine gx_callI (nA := 1) hC (m_J2_init (cap := 24) gx_us (by omega) (by omega)) (lw_meth q178) q81 q546 q177 rfl (by decide +kernel) dX4_init_11 rfl ⟨Nat.le_of_ble_eq_true rfl, Nat.le_of_ble_eq_true rfl⟩ (gx_in.id hC (fun q hq => Or.inr (by omega))) rfl (by first | exact Nat.le_of_ble_eq_true rfl | simp [gx_cat_rf, Value.category]) gx_kno (fun v2 G2 nx2 hp hf hle hlt2 => ?_)
  obtain ⟨rfl, rfl, q⟩ := hp
  have q1 := hf _ _ (gx_un (by omega) h) (by omega)
  refine gx_putF hC (C := RX4) (Tf := TX4) (N := 3) (ci := 3) (k := 1) rfl in_X4 (by decide) tyX4 tyX4_ok nmX4 q549 (fun _ h9 => h9) rfl rfl rfl dX4_init_14 (by first | exact gx_us | assumption | (repeat (first | exact gx_us | assumption | refine gx_un (by omega) ?_))) (by first | exact Or.inl rfl | exact Or.inl (Or.inl rfl) | exact Or.inl (Or.inr rfl) | exact Or.inr (by omega) | assumption | (simp only [gx_A, *]; omega)) (Nat.le_of_ble_eq_true rfl) (by first | rfl | (unfold gx_rn; split <;> rfl) | (cases ‹Option Nat› <;> rfl) | simp [narrow]) (by first | rfl | (unfold gx_rn; split <;> rfl) | (cases ‹Option Nat› <;> rfl) | simp [fits]) ?_
  refine gx_aload_n hC dX4_init_17 rfl rfl (by first | rfl | exact gx_isr_rf _ | exact gx_isr_rn _) ?_
  refine gx_iload_n hC dX4_init_18 rfl rfl ?_
  refine gx_putF hC (C := RX4) (Tf := TX4) (N := 3) (ci := 3) (k := 0) rfl in_X4 (by decide) tyX4 tyX4_ok nmX4 q547 (fun _ h9 => h9) rfl rfl rfl dX4_init_19 (by first | exact gx_us | assumption | (repeat (first | exact gx_us | assumption | refine gx_un (by omega) ?_))) (by first | exact Or.inl rfl | exact Or.inl (Or.inl rfl) | exact Or.inl (Or.inr rfl) | exact Or.inr (by omega) | assumption | (simp only [gx_A, *]; omega)) (Nat.le_of_ble_eq_true rfl) (by first | rfl | (unfold gx_rn; split <;> rfl) | (cases ‹Option Nat› <;> rfl) | simp [narrow]) (by first | rfl | (unfold gx_rn; split <;> rfl) | (cases ‹Option Nat› <;> rfl) | simp [fits]) ?_
  exact gx_vret hC rfl rfl rfl dX4_init_22 (fun G' hG => ⟨rfl, rfl, hG _ _ gx_us, 0, [], q.mono (fun e h => hG _ _ (gx_un (by omega) (gx_un (by omega) h))) (fun e h => hG _ _ (gx_un (by omega) (gx_un (by omega) h))), rfl, fun j hj => absurd hj (Nat.not_lt_zero j)⟩)
theorem m_X4_checkRoom (h : gx_gt D (gx_TG T G) Y a g Ga) (hl : Ga.tk.length ≤ 24) : gx_Met l yX4_checkRoom (ws_ yX4_checkRoom cX4_checkRoom 1 none) 12 1 6 D gx_M0 T G nx [.ref a] (fun w G' nx' => w = none ∧ nx' = nx ∧ Ga.tk.length < 24) (fun E _ _ _ => E = gx_ISE ∧ Ga.tk.length = 24) := by
  obtain ⟨h1, mc, xs, h2, h3, h4⟩ := h
  refine gx_start (by decide) (Nat.le_of_ble_eq_true rfl) rfl (fun p e s m args below meth c hC hlt => ?_)
  refine gx_aload_n hC dX4_checkRoom_0 rfl rfl (by first | rfl | exact gx_isr_rf _ | exact gx_isr_rn _) ?_
  refine gx_get hC (C := RX4) (Tf := TX4) (N := 3) (ci := 3) (k := 1) rfl in_X4 (by decide) q549 (fun _ h9 => h9) dX4_checkRoom_1 (by repeat (first | assumption | exact Or.inr gx_us | exact Or.inr (by assumption) | exact Or.inl (by assumption) | refine gx_tu (by omega) ?_)) rfl ?_
  refine gx_callV (nA := 0) hC (m_J2_size h2) (C := RJ2) (Tf := TJ2) (Nf := 3) (ci := 19) rfl (by first | ((repeat (first | assumption | exact Or.inr gx_us | exact Or.inr (by assumption) | exact Or.inl (by assumption) | refine gx_tu (by omega) ?_)); done) | exact gx_AL.rc (by assumption) | exact gx_AL.rg (by assumption) | exact gx_AL.rt (by assumption) | exact gx_DQ.rc (by assumption) | exact gx_DQ.rg (by assumption) | exact gx_SB.rc (by assumption) | exact gx_SB.rg (by assumption) | exact gx_Sx.rc (by assumption) | exact gx_Sx.rg (by assumption) | exact gx_IT.rc (by assumption) | exact gx_IT.rg (by assumption) | exact gx_gt.rc (by assumption) | exact gx_gt.rg (by assumption) | exact gx_lx.rc (by assumption) | exact gx_lx.rg (by assumption) | exact gx_sst.rc (by assumption) | exact gx_sst.rg (by assumption)) (lw_V q1748 q717 q3022 q81 q718) (by decide +kernel) dX4_checkRoom_4 rfl ⟨Nat.le_of_ble_eq_true rfl, Nat.le_of_ble_eq_true rfl⟩ gx_in.id0 rfl (by first | exact Nat.le_of_ble_eq_true rfl | simp [gx_cat_rf, Value.category]) gx_kno (gx_kp1 ?_)
  refine gx_bipush hC dX4_checkRoom_7 rfl ?_
  refine gx_icmp_ge hC dX4_checkRoom_9 (tgt := 16) (by decide) (by unfold gx_rg; omega) (by unfold gx_rg; omega) (fun c9 => ?_) (fun c9 => ?_)
  · refine gx_iconst hC dX4_checkRoom_16 ?_
    refine gx_callSN (nA := 1) hC (m_X1_checkState (b := 0) gx_rg0) (lw_meth q1588) q76 q1749 q1587 (by decide +kernel) dX4_checkRoom_17 rfl ⟨Nat.le_of_ble_eq_true rfl, Nat.le_of_ble_eq_true rfl⟩ gx_in.id0 rfl (by first | exact Nat.le_of_ble_eq_true rfl | simp [gx_cat_rf, Value.category]) (fun E9 q9 G9 nx9 hp9 hf9 hle9 hlt9 => gx_out hC rfl rfl (by first | (intro x9 h9; cases h9) | decide) (fun G' hG => ⟨hp9.1, by omega⟩)) (fun v2 G2 nx2 hp hf hle hlt2 => ?_)
    exact absurd rfl hp.1
  · refine gx_iconst hC dX4_checkRoom_12 ?_
    refine gx_goto hC dX4_checkRoom_13 (tgt := 17) (by decide) ?_
    refine gx_callSN (nA := 1) hC (m_X1_checkState (b := 1) (by unfold gx_rg; omega)) (lw_meth q1588) q76 q1749 q1587 (by decide +kernel) dX4_checkRoom_17 rfl ⟨Nat.le_of_ble_eq_true rfl, Nat.le_of_ble_eq_true rfl⟩ gx_in.id0 rfl (by first | exact Nat.le_of_ble_eq_true rfl | simp [gx_cat_rf, Value.category]) (fun E9 q9 G9 nx9 hp9 hf9 hle9 hlt9 => gx_out hC rfl rfl (by first | (intro x9 h9; cases h9) | decide) (fun G' hG => (by have := hp9.2; omega))) (fun v2 G2 nx2 hp hf hle hlt2 => ?_)
    obtain ⟨-, rfl, rfl⟩ := hp
    exact gx_vret hC rfl rfl rfl dX4_checkRoom_20 (fun G' hG => ⟨rfl, rfl, by omega⟩)
/-- a gate's cells that its changes reach -/
def gx_gM (a : Nat) : Nat → Prop := fun q => a ≤ q ∧ q < a + 3
theorem m_X4_add {v : Nat} {t : gs_T} (h : gx_gt D G Y a g Ga) (hl : Ga.tk.length ≤ 24) (hv : gx_TG T G v (gx_tok t)) (hv2 : ¬ gx_gM a v) (hY : ∀ x t, Y x (gx_tok t) → gx_TG T G x (gx_tok t)) : gx_Met l yX4_add (ws_ yX4_add cX4_add 2 (some .int)) 13 1 6 D (gx_gM a) T G nx [.ref a, .ref v] (fun w G' nx' => w = some (.int (iz (Ga.tk.length + 1))) ∧ nx' = nx ∧ Ga.tk.length < 24 ∧ gx_gt D G' (fun x e => Y x e ∨ (x = v ∧ e = gx_tok t)) a g (Ga.tk ++ [t], Ga.wk)) (fun E _ _ _ => E = gx_ISE ∧ Ga.tk.length = 24) := by
  have h0 : gx_gt D (gx_TG T G) Y a g Ga := h.mono (fun _ _ _ _ => Or.inr) (fun _ _ h => h)
  obtain ⟨h1, mc, xs, h2, h3⟩ := h
  refine gx_start (by decide) (Nat.le_of_ble_eq_true rfl) rfl (fun p e s m args below meth c hC hlt => ?_)
  refine gx_aload_n hC dX4_add_0 rfl rfl (by first | rfl | exact gx_isr_rf _ | exact gx_isr_rn _) ?_
  refine gx_callV (nA := 0) hC (m_X4_checkRoom h0 hl) (C := RX4) (Tf := TX4) (Nf := 3) (ci := 3) rfl (by first | ((repeat (first | assumption | exact Or.inr gx_us | exact Or.inr (by assumption) | exact Or.inl (by assumption) | refine gx_tu (by omega) ?_)); done) | exact gx_AL.rc (by assumption) | exact gx_AL.rg (by assumption) | exact gx_AL.rt (by assumption) | exact gx_DQ.rc (by assumption) | exact gx_DQ.rg (by assumption) | exact gx_SB.rc (by assumption) | exact gx_SB.rg (by assumption) | exact gx_Sx.rc (by assumption) | exact gx_Sx.rg (by assumption) | exact gx_IT.rc (by assumption) | exact gx_IT.rg (by assumption) | exact gx_gt.rc (by assumption) | exact gx_gt.rg (by assumption) | exact gx_lx.rc (by assumption) | exact gx_lx.rg (by assumption) | exact gx_sst.rc (by assumption) | exact gx_sst.rg (by assumption)) (lw_V q1744 q1745 q1746 q98 q1747) (by decide +kernel) dX4_add_1 rfl ⟨Nat.le_of_ble_eq_true rfl, Nat.le_of_ble_eq_true rfl⟩ gx_in.id0 rfl (by first | exact Nat.le_of_ble_eq_true rfl | simp [gx_cat_rf, Value.category]) (fun E9 q9 G9 nx9 hp9 hf9 hle9 hlt9 => gx_out hC rfl rfl (by first | (intro x9 h9; cases h9) | decide) (fun G' hG => hp9)) (fun v2 G2 nx2 hp hf hle hlt2 => ?_)
  obtain ⟨rfl, rfl, hl2⟩ := hp
  have k1 := hf _ _ h1 (fun q => q)
  have k2 : gx_AL D G2 (a + 1) (a + 2) mc 24 xs := h2.mono (fun _ h => hf _ _ h (fun q => q)) (fun _ h => hf _ _ h (fun q => q))
  have kv : gx_TG T G2 v (gx_tok t) := hv.imp id (fun h => hf _ _ h (fun q => q))
  have hob : gx_ob (gx_TG T G2) v := ⟨6, _, _, _, _, rfl, kv, q3056⟩
  refine gx_aload_n hC dX4_add_4 rfl rfl (by first | rfl | exact gx_isr_rf _ | exact gx_isr_rn _) ?_
  refine gx_get hC (C := RX4) (Tf := TX4) (N := 3) (ci := 3) (k := 1) rfl in_X4 (by decide) q549 (fun _ h9 => h9) dX4_add_5 (by repeat (first | assumption | exact Or.inr gx_us | exact Or.inr (by assumption) | exact Or.inl (by assumption) | refine gx_tu (by omega) ?_)) rfl ?_
  refine gx_aload_n hC dX4_add_8 rfl rfl (by first | rfl | exact gx_isr_rf _ | exact gx_isr_rn _) ?_
  refine gx_callV (nA := 1) hC (m_J2_add k2 hob (by rw [h3.1]; exact hl2) (fun e9 => hv2 ⟨by omega, by omega⟩)) (C := RJ2) (Tf := TJ2) (Nf := 3) (ci := 19) rfl (by first | ((repeat (first | assumption | exact Or.inr gx_us | exact Or.inr (by assumption) | exact Or.inl (by assumption) | refine gx_tu (by omega) ?_)); done) | exact gx_AL.rc (by assumption) | exact gx_AL.rg (by assumption) | exact gx_AL.rt (by assumption) | exact gx_DQ.rc (by assumption) | exact gx_DQ.rg (by assumption) | exact gx_SB.rc (by assumption) | exact gx_SB.rg (by assumption) | exact gx_Sx.rc (by assumption) | exact gx_Sx.rg (by assumption) | exact gx_IT.rc (by assumption) | exact gx_IT.rg (by assumption) | exact gx_gt.rc (by assumption) | exact gx_gt.rg (by assumption) | exact gx_lx.rc (by assumption) | exact gx_lx.rg (by assumption) | exact gx_sst.rc (by assumption) | exact gx_sst.rg (by assumption)) (lw_V q1563 q564 q565 q81 q566) (by decide +kernel) dX4_add_9 rfl ⟨Nat.le_of_ble_eq_true rfl, Nat.le_of_ble_eq_true rfl⟩ (gx_in.id hC (fun q hq => Or.inl ⟨by omega, by omega⟩)) rfl (by first | exact Nat.le_of_ble_eq_true rfl | simp [gx_cat_rf, Value.category]) gx_kno (fun v3 G3 nx3 hp hf3 hle3 hlt3 => ?_)
  obtain ⟨rfl, rfl, k3⟩ := hp
  have k4 := hf3 _ _ k1 (by omega)
  have k5 : gx_AL D (gx_TG T G3) (a + 1) (a + 2) (mc + 1) 24 (xs ++ [v]) := k3.mono (fun _ => Or.inr) (fun _ => Or.inr)
  refine gx_pop hC dX4_add_12 (by first | rfl | exact gx_cat_rf _ | exact gx_cat_rn _) ?_
  refine gx_aload_n hC dX4_add_13 rfl rfl (by first | rfl | exact gx_isr_rf _ | exact gx_isr_rn _) ?_
  refine gx_get hC (C := RX4) (Tf := TX4) (N := 3) (ci := 3) (k := 1) rfl in_X4 (by decide) q549 (fun _ h9 => h9) dX4_add_14 (by repeat (first | assumption | exact Or.inr gx_us | exact Or.inr (by assumption) | exact Or.inl (by assumption) | refine gx_tu (by omega) ?_)) rfl ?_
  refine gx_callV (nA := 0) hC (m_J2_size k5) (C := RJ2) (Tf := TJ2) (Nf := 3) (ci := 19) rfl (by first | ((repeat (first | assumption | exact Or.inr gx_us | exact Or.inr (by assumption) | exact Or.inl (by assumption) | refine gx_tu (by omega) ?_)); done) | exact gx_AL.rc (by assumption) | exact gx_AL.rg (by assumption) | exact gx_AL.rt (by assumption) | exact gx_DQ.rc (by assumption) | exact gx_DQ.rg (by assumption) | exact gx_SB.rc (by assumption) | exact gx_SB.rg (by assumption) | exact gx_Sx.rc (by assumption) | exact gx_Sx.rg (by assumption) | exact gx_IT.rc (by assumption) | exact gx_IT.rg (by assumption) | exact gx_gt.rc (by assumption) | exact gx_gt.rg (by assumption) | exact gx_lx.rc (by assumption) | exact gx_lx.rg (by assumption) | exact gx_sst.rc (by assumption) | exact gx_sst.rg (by assumption)) (lw_V q1748 q717 q3022 q81 q718) (by decide +kernel) dX4_add_17 rfl ⟨Nat.le_of_ble_eq_true rfl, Nat.le_of_ble_eq_true rfl⟩ gx_in.id0 rfl (by first | exact Nat.le_of_ble_eq_true rfl | simp [gx_cat_rf, Value.category]) gx_kno (gx_kp1 ?_)
  exact gx_iret hC rfl rfl rfl dX4_add_20 (fun G' hG => ⟨by rw [List.length_append, h3.1]; rfl, rfl, hl2, hG _ _ k4, _, _, k3.mono (hG _) (hG _), (h3.mono (fun _ _ h => Or.inl h)).push (Or.inr ⟨rfl, rfl⟩)⟩)
theorem m_X4_removeLast (h : gx_gt D G Y a g Ga) (hl : Ga.tk.length ≤ 24) (hY : gx_yok T G (gx_gM a) Y) : gx_Met l yX4_removeLast (ws_ yX4_removeLast cX4_removeLast 1 (some .int)) 12 1 6 D (gx_gM a) T G nx [.ref a] (fun w G' nx' => w = some (.int (iz (gs_tk Ga.tk (Ga.tk.length - 1)).k)) ∧ nx' = nx ∧ 0 < Ga.tk.length ∧ gx_gt D G' Y a g (Ga.tk.dropLast, Ga.wk)) (fun E _ _ _ => E = gx_ISE ∧ Ga.tk.length = 0) := by
  obtain ⟨h1, mc, xs, h2, h3⟩ := h
  have h2' : gx_AL D (gx_TG T G) (a + 1) (a + 2) mc 24 xs := h2.mono (fun _ => Or.inr) (fun _ => Or.inr)
  have h31 := h3.1
  refine gx_start (by decide) (Nat.le_of_ble_eq_true rfl) rfl (fun p e s m args below meth c hC hlt => ?_)
  refine gx_aload_n hC dX4_removeLast_0 rfl rfl (by first | rfl | exact gx_isr_rf _ | exact gx_isr_rn _) ?_
  refine gx_get hC (C := RX4) (Tf := TX4) (N := 3) (ci := 3) (k := 1) rfl in_X4 (by decide) q549 (fun _ h9 => h9) dX4_removeLast_1 (by repeat (first | assumption | exact Or.inr gx_us | exact Or.inr (by assumption) | exact Or.inl (by assumption) | refine gx_tu (by omega) ?_)) rfl ?_
  refine gx_callV (nA := 0) hC (m_J2_isEmpty h2') (C := RJ2) (Tf := TJ2) (Nf := 3) (ci := 19) rfl (by first | ((repeat (first | assumption | exact Or.inr gx_us | exact Or.inr (by assumption) | exact Or.inl (by assumption) | refine gx_tu (by omega) ?_)); done) | exact gx_AL.rc (by assumption) | exact gx_AL.rg (by assumption) | exact gx_AL.rt (by assumption) | exact gx_DQ.rc (by assumption) | exact gx_DQ.rg (by assumption) | exact gx_SB.rc (by assumption) | exact gx_SB.rg (by assumption) | exact gx_Sx.rc (by assumption) | exact gx_Sx.rg (by assumption) | exact gx_IT.rc (by assumption) | exact gx_IT.rg (by assumption) | exact gx_gt.rc (by assumption) | exact gx_gt.rg (by assumption) | exact gx_lx.rc (by assumption) | exact gx_lx.rg (by assumption) | exact gx_sst.rc (by assumption) | exact gx_sst.rg (by assumption)) (lw_V q1801 q1802 q1803 q81 q1804) (by decide +kernel) dX4_removeLast_4 rfl ⟨Nat.le_of_ble_eq_true rfl, Nat.le_of_ble_eq_true rfl⟩ gx_in.id0 rfl (by first | exact Nat.le_of_ble_eq_true rfl | simp [gx_cat_rf, Value.category]) gx_kno (gx_kp1 ?_)
  by_cases e0 : xs = []
  · rw [gx_b1 e0]
    refine gx_if_ne hC dX4_removeLast_7 (tgt := 14) (by decide) (by unfold gx_rg; omega) (fun c7 => ?_) (fun c7 => ?_)
    · refine gx_iconst hC dX4_removeLast_14 ?_
      refine gx_callSN (nA := 1) hC (m_X1_checkState (b := 0) gx_rg0) (lw_meth q1588) q76 q1749 q1587 (by decide +kernel) dX4_removeLast_15 rfl ⟨Nat.le_of_ble_eq_true rfl, Nat.le_of_ble_eq_true rfl⟩ gx_in.id0 rfl (by first | exact Nat.le_of_ble_eq_true rfl | simp [gx_cat_rf, Value.category]) (fun E9 q9 G9 nx9 hp9 hf9 hle9 hlt9 => gx_out hC rfl rfl (by first | (intro x9 h9; cases h9) | decide) (fun G' hG => ⟨hp9.1, by rw [← h31, e0]; rfl⟩)) (fun v2 G2 nx2 hp hf hle hlt2 => ?_)
      exact absurd rfl hp.1
    · omega
  · rw [gx_b0 e0]
    have hpos : 0 < xs.length := List.length_pos_iff.mpr e0
    refine gx_if_ne hC dX4_removeLast_7 (tgt := 14) (by decide) (by unfold gx_rg; omega) (fun c7 => ?_) (fun c7 => ?_)
    · omega
    · refine gx_iconst hC dX4_removeLast_10 ?_
      refine gx_goto hC dX4_removeLast_11 (tgt := 15) (by decide) ?_
      refine gx_callSN (nA := 1) hC (m_X1_checkState (b := 1) (by unfold gx_rg; omega)) (lw_meth q1588) q76 q1749 q1587 (by decide +kernel) dX4_removeLast_15 rfl ⟨Nat.le_of_ble_eq_true rfl, Nat.le_of_ble_eq_true rfl⟩ gx_in.id0 rfl (by first | exact Nat.le_of_ble_eq_true rfl | simp [gx_cat_rf, Value.category]) (fun E9 q9 G9 nx9 hp9 hf9 hle9 hlt9 => gx_out hC rfl rfl (by first | (intro x9 h9; cases h9) | decide) (fun G' hG => (by have := hp9.2; omega))) (fun v2 G2 nx2 hp hf hle hlt2 => ?_)
      obtain ⟨-, rfl, rfl⟩ := hp
      have k1 := hf _ _ h1 (fun q => q)
      have k2 : gx_AL D G2 (a + 1) (a + 2) mc 24 xs := h2.mono (fun _ h => hf _ _ h (fun q => q)) (fun _ h => hf _ _ h (fun q => q))
      have k2' : gx_AL D (gx_TG T G2) (a + 1) (a + 2) mc 24 xs := k2.mono (fun _ => Or.inr) (fun _ => Or.inr)
      refine gx_aload_n hC dX4_removeLast_18 rfl rfl (by first | rfl | exact gx_isr_rf _ | exact gx_isr_rn _) ?_
      refine gx_get hC (C := RX4) (Tf := TX4) (N := 3) (ci := 3) (k := 1) rfl in_X4 (by decide) q549 (fun _ h9 => h9) dX4_removeLast_19 (by repeat (first | assumption | exact Or.inr gx_us | exact Or.inr (by assumption) | exact Or.inl (by assumption) | refine gx_tu (by omega) ?_)) rfl ?_
      refine gx_aload_n hC dX4_removeLast_22 rfl rfl (by first | rfl | exact gx_isr_rf _ | exact gx_isr_rn _) ?_
      refine gx_get hC (C := RX4) (Tf := TX4) (N := 3) (ci := 3) (k := 1) rfl in_X4 (by decide) q549 (fun _ h9 => h9) dX4_removeLast_23 (by repeat (first | assumption | exact Or.inr gx_us | exact Or.inr (by assumption) | exact Or.inl (by assumption) | refine gx_tu (by omega) ?_)) rfl ?_
      refine gx_callV (nA := 0) hC (m_J2_size k2') (C := RJ2) (Tf := TJ2) (Nf := 3) (ci := 19) rfl (by first | ((repeat (first | assumption | exact Or.inr gx_us | exact Or.inr (by assumption) | exact Or.inl (by assumption) | refine gx_tu (by omega) ?_)); done) | exact gx_AL.rc (by assumption) | exact gx_AL.rg (by assumption) | exact gx_AL.rt (by assumption) | exact gx_DQ.rc (by assumption) | exact gx_DQ.rg (by assumption) | exact gx_SB.rc (by assumption) | exact gx_SB.rg (by assumption) | exact gx_Sx.rc (by assumption) | exact gx_Sx.rg (by assumption) | exact gx_IT.rc (by assumption) | exact gx_IT.rg (by assumption) | exact gx_gt.rc (by assumption) | exact gx_gt.rg (by assumption) | exact gx_lx.rc (by assumption) | exact gx_lx.rg (by assumption) | exact gx_sst.rc (by assumption) | exact gx_sst.rg (by assumption)) (lw_V q1748 q717 q3022 q81 q718) (by decide +kernel) dX4_removeLast_26 rfl ⟨Nat.le_of_ble_eq_true rfl, Nat.le_of_ble_eq_true rfl⟩ gx_in.id0 rfl (by first | exact Nat.le_of_ble_eq_true rfl | simp [gx_cat_rf, Value.category]) gx_kno (gx_kp1 ?_)
      refine gx_iconst hC dX4_removeLast_29 ?_
      refine gx_isub hC dX4_removeLast_30 ?_
      refine gx_callV (nA := 1) hC (m_J2_remove k2 hpos) (C := RJ2) (Tf := TJ2) (Nf := 3) (ci := 19) rfl (by first | ((repeat (first | assumption | exact Or.inr gx_us | exact Or.inr (by assumption) | exact Or.inl (by assumption) | refine gx_tu (by omega) ?_)); done) | exact gx_AL.rc (by assumption) | exact gx_AL.rg (by assumption) | exact gx_AL.rt (by assumption) | exact gx_DQ.rc (by assumption) | exact gx_DQ.rg (by assumption) | exact gx_SB.rc (by assumption) | exact gx_SB.rg (by assumption) | exact gx_Sx.rc (by assumption) | exact gx_Sx.rg (by assumption) | exact gx_IT.rc (by assumption) | exact gx_IT.rg (by assumption) | exact gx_gt.rc (by assumption) | exact gx_gt.rg (by assumption) | exact gx_lx.rc (by assumption) | exact gx_lx.rg (by assumption) | exact gx_sst.rc (by assumption) | exact gx_sst.rg (by assumption)) (lw_V q1805 q1806 q1807 q81 q1808) (by decide +kernel) dX4_removeLast_31 rfl ⟨Nat.le_of_ble_eq_true rfl, Nat.le_of_ble_eq_true rfl⟩ (gx_in.id hC (fun q hq => Or.inl ⟨by omega, by omega⟩)) rfl (by first | exact Nat.le_of_ble_eq_true rfl | simp [gx_cat_rf, Value.category]) gx_kno (fun v3 G3 nx3 hp hf3 hle3 hlt3 => ?_)
      obtain ⟨rfl, rfl, k3⟩ := hp
      have k4 := hf3 _ _ k1 (by omega)
      have ht := h3.2 (xs.length - 1) (by omega)
      obtain ⟨ht2, ht3⟩ := hY _ _ ht
      have ht4 : gx_TG T G3 (xs.getD (xs.length - 1) 0) (gx_tok (gs_tk Ga.tk (xs.length - 1))) := ht2.imp id (fun h => hf3 _ _ (hf _ _ h (fun q => q)) (fun q => ht3 ⟨by omega, by omega⟩))
      refine gx_castE hC (C := RX7) (Tf := TX7) (N := 3) (ci := 6) rfl q1562 dX4_removeLast_34 (by repeat (first | assumption | exact Or.inr gx_us | exact Or.inr (by assumption) | exact Or.inl (by assumption) | refine gx_tu (by omega) ?_)) ?_
      refine gx_getN hC (C := RX7) (Tf := TX7) (N := 3) (ci := 6) (k := 0) rfl in_X7 (by decide) q1725 (fun _ h9 => h9) dX4_removeLast_37 (by repeat (first | assumption | exact Or.inr gx_us | exact Or.inr (by assumption) | exact Or.inl (by assumption) | refine gx_tu (by omega) ?_)) rfl ?_
      exact gx_iret hC rfl rfl rfl dX4_removeLast_40 (fun G' hG => ⟨by rw [h31], rfl, by omega, hG _ _ k4, _, _, k3.mono (hG _) (hG _), h3.pop⟩)
theorem m_X4_clear (h : gx_gt D G Y a g Ga) (hl : Ga.tk.length ≤ 24) : gx_Met l yX4_clear (ws_ yX4_clear cX4_clear 2 (some .int)) 5 0 0 D (gx_gM a) T G nx [.ref a] (fun w G' nx' => w = some (.int (iz Ga.tk.length)) ∧ nx' = nx ∧ gx_gt D G' Y a g ([], Ga.wk)) gx_no := by
  obtain ⟨h1, mc, xs, h2, h3⟩ := h
  have h2' : gx_AL D (gx_TG T G) (a + 1) (a + 2) mc 24 xs := h2.mono (fun _ => Or.inr) (fun _ => Or.inr)
  have h31 := h3.1
  refine gx_start (by decide) (Nat.le_of_ble_eq_true rfl) rfl (fun p e s m args below meth c hC hlt => ?_)
  refine gx_aload_n hC dX4_clear_0 rfl rfl (by first | rfl | exact gx_isr_rf _ | exact gx_isr_rn _) ?_
  refine gx_get hC (C := RX4) (Tf := TX4) (N := 3) (ci := 3) (k := 1) rfl in_X4 (by decide) q549 (fun _ h9 => h9) dX4_clear_1 (by repeat (first | assumption | exact Or.inr gx_us | exact Or.inr (by assumption) | exact Or.inl (by assumption) | refine gx_tu (by omega) ?_)) rfl ?_
  refine gx_callV (nA := 0) hC (m_J2_size h2') (C := RJ2) (Tf := TJ2) (Nf := 3) (ci := 19) rfl (by first | ((repeat (first | assumption | exact Or.inr gx_us | exact Or.inr (by assumption) | exact Or.inl (by assumption) | refine gx_tu (by omega) ?_)); done) | exact gx_AL.rc (by assumption) | exact gx_AL.rg (by assumption) | exact gx_AL.rt (by assumption) | exact gx_DQ.rc (by assumption) | exact gx_DQ.rg (by assumption) | exact gx_SB.rc (by assumption) | exact gx_SB.rg (by assumption) | exact gx_Sx.rc (by assumption) | exact gx_Sx.rg (by assumption) | exact gx_IT.rc (by assumption) | exact gx_IT.rg (by assumption) | exact gx_gt.rc (by assumption) | exact gx_gt.rg (by assumption) | exact gx_lx.rc (by assumption) | exact gx_lx.rg (by assumption) | exact gx_sst.rc (by assumption) | exact gx_sst.rg (by assumption)) (lw_V q1748 q717 q3022 q81 q718) (by decide +kernel) dX4_clear_4 rfl ⟨Nat.le_of_ble_eq_true rfl, Nat.le_of_ble_eq_true rfl⟩ gx_in.id0 rfl (by first | exact Nat.le_of_ble_eq_true rfl | simp [gx_cat_rf, Value.category]) gx_kno (gx_kp1 ?_)
  refine gx_istore_n hC dX4_clear_7 rfl (by decide) (by first | rfl | simp [gx_ck, gx_lk, gx_cat_rf, gx_cat_rn]) ?_
  refine gx_aload_n hC dX4_clear_8 rfl rfl (by first | rfl | exact gx_isr_rf _ | exact gx_isr_rn _) ?_
  refine gx_get hC (C := RX4) (Tf := TX4) (N := 3) (ci := 3) (k := 1) rfl in_X4 (by decide) q549 (fun _ h9 => h9) dX4_clear_9 (by repeat (first | assumption | exact Or.inr gx_us | exact Or.inr (by assumption) | exact Or.inl (by assumption) | refine gx_tu (by omega) ?_)) rfl ?_
  refine gx_callV (nA := 0) hC (m_J2_clear h2) (C := RJ2) (Tf := TJ2) (Nf := 3) (ci := 19) rfl (by first | ((repeat (first | assumption | exact Or.inr gx_us | exact Or.inr (by assumption) | exact Or.inl (by assumption) | refine gx_tu (by omega) ?_)); done) | exact gx_AL.rc (by assumption) | exact gx_AL.rg (by assumption) | exact gx_AL.rt (by assumption) | exact gx_DQ.rc (by assumption) | exact gx_DQ.rg (by assumption) | exact gx_SB.rc (by assumption) | exact gx_SB.rg (by assumption) | exact gx_Sx.rc (by assumption) | exact gx_Sx.rg (by assumption) | exact gx_IT.rc (by assumption) | exact gx_IT.rg (by assumption) | exact gx_gt.rc (by assumption) | exact gx_gt.rg (by assumption) | exact gx_lx.rc (by assumption) | exact gx_lx.rg (by assumption) | exact gx_sst.rc (by assumption) | exact gx_sst.rg (by assumption)) (lw_V q1825 q1826 q1827 q81 q1828) (by decide +kernel) dX4_clear_12 rfl ⟨Nat.le_of_ble_eq_true rfl, Nat.le_of_ble_eq_true rfl⟩ (gx_in.id hC (fun q hq => Or.inl ⟨by omega, by omega⟩)) rfl (by first | exact Nat.le_of_ble_eq_true rfl | simp [gx_cat_rf, Value.category]) gx_kno (fun v3 G3 nx3 hp hf3 hle3 hlt3 => ?_)
  obtain ⟨rfl, rfl, k3⟩ := hp
  have k4 := hf3 _ _ h1 (by omega)
  refine gx_iload_n hC dX4_clear_15 rfl rfl ?_
  exact gx_iret hC rfl rfl rfl dX4_clear_16 (fun G' hG => ⟨by rw [h31], rfl, hG _ _ k4, _, _, k3.mono (hG _) (hG _), gx_tks.nil⟩)
theorem m_X4_copy (h : gx_gt D (gx_TG T G) Y a g Ga) (hl : Ga.tk.length ≤ 24) (hY : gx_yok T G gx_M0 Y) : gx_Met l yX4_copy (ws_ yX4_copy cX4_copy 4 (some (.object "GateGrammar$Gate"))) 9 4 70 D gx_M0 T G nx [.ref a] (fun w G' nx' => w = some (.ref nx) ∧ nx' = nx + 4 ∧ gx_gt D G' Y nx g Ga) gx_no := by
  obtain ⟨h1, mc, xs, h2, h3⟩ := h
  have h31 := h3.1
  refine gx_start (by decide) (Nat.le_of_ble_eq_true rfl) rfl (fun p e s m args below meth c hC hlt => ?_)
  have hax := hC.tl hlt h1
  have ha1 := hC.tl hlt h2.1
  obtain ⟨f2, hf2, -⟩ := h2.2.1
  have ha2 := hC.tl hlt hf2
  refine gx_new hC (C := RX4) (Tf := TX4) (N := 3) (ci := 3) (fs := fdX4) rfl in_X4 tyX4 tyX4_ok q1555 q540 q98 dvX4 dX4_copy_0 ?_
  refine gx_dup hC dX4_copy_3 (by first | rfl | exact gx_cat_rf _ | exact gx_cat_rn _) ?_
  refine gx_aload_n hC dX4_copy_4 rfl rfl (by first | rfl | exact gx_isr_rf _ | exact gx_isr_rn _) ?_
  refine gx_get hC (C := RX4) (Tf := TX4) (N := 3) (ci := 3) (k := 0) rfl in_X4 (by decide) q547 (fun _ h9 => h9) dX4_copy_5 (by repeat (first | assumption | exact Or.inr gx_us | exact Or.inr (by assumption) | exact Or.inl (by assumption) | refine gx_tu (by omega) ?_)) rfl ?_
  refine gx_callI (nA := 1) hC (m_X4_init (Y := Y) (g := g) gx_us rfl) (lw_meth q543) q98 q1556 q542 rfl (by decide +kernel) dX4_copy_8 rfl ⟨Nat.le_of_ble_eq_true rfl, Nat.le_of_ble_eq_true rfl⟩ (gx_in.id hC (fun q hq => Or.inr (by omega))) rfl (by first | exact Nat.le_of_ble_eq_true rfl | simp [gx_cat_rf, Value.category]) gx_kno (fun v2 G2 nx2 hp hf hle hlt2 => ?_)
  obtain ⟨rfl, rfl, k1, mc2, ys, k2, k3⟩ := hp
  have kG : gx_le G G2 := fun x e9 hx => hf _ _ (gx_un (by have := hlt _ _ hx; omega) hx) (by have := hlt _ _ hx; omega)
  have hys : ys = [] := List.length_eq_zero_iff.mp k3.1
  subst hys
  have h1a := kG.tg h1
  have h2a : gx_AL D (gx_TG T G2) (a + 1) (a + 2) mc 24 xs := h2.mono (fun _ => kG.tg) (fun _ => kG.tg)
  refine gx_astore_n hC dX4_copy_11 rfl (by decide) (by first | rfl | simp [gx_ck, gx_lk, gx_cat_rf, gx_cat_rn]) (by first | rfl | exact gx_isr_rf _ | exact gx_isr_rn _) ?_
  refine gx_aload_n hC dX4_copy_12 rfl rfl (by first | rfl | exact gx_isr_rf _ | exact gx_isr_rn _) ?_
  refine gx_get hC (C := RX4) (Tf := TX4) (N := 3) (ci := 3) (k := 1) rfl in_X4 (by decide) q549 (fun _ h9 => h9) dX4_copy_13 (by repeat (first | assumption | exact Or.inr gx_us | exact Or.inr (by assumption) | exact Or.inl (by assumption) | refine gx_tu (by omega) ?_)) rfl ?_
  refine gx_callV (nA := 0) hC (m_J2_iterator h2a (by omega)) (C := RJ2) (Tf := TJ2) (Nf := 3) (ci := 19) rfl (by first | ((repeat (first | assumption | exact Or.inr gx_us | exact Or.inr (by assumption) | exact Or.inl (by assumption) | refine gx_tu (by omega) ?_)); done) | exact gx_AL.rc (by assumption) | exact gx_AL.rg (by assumption) | exact gx_AL.rt (by assumption) | exact gx_DQ.rc (by assumption) | exact gx_DQ.rg (by assumption) | exact gx_SB.rc (by assumption) | exact gx_SB.rg (by assumption) | exact gx_Sx.rc (by assumption) | exact gx_Sx.rg (by assumption) | exact gx_IT.rc (by assumption) | exact gx_IT.rg (by assumption) | exact gx_gt.rc (by assumption) | exact gx_gt.rg (by assumption) | exact gx_lx.rc (by assumption) | exact gx_lx.rg (by assumption) | exact gx_sst.rc (by assumption) | exact gx_sst.rg (by assumption)) (lw_V q1557 q669 q670 q81 q671) (by decide +kernel) dX4_copy_16 rfl ⟨Nat.le_of_ble_eq_true rfl, Nat.le_of_ble_eq_true rfl⟩ gx_in.id0 rfl (by first | exact Nat.le_of_ble_eq_true rfl | simp [gx_cat_rf, Value.category]) gx_kno (fun v3 G3 nx3 hp hf3 hle3 hlt3 => ?_)
  obtain ⟨rfl, rfl, kit⟩ := hp
  have kG3 : gx_le G G3 := fun x e9 hx => hf3 _ _ (kG _ _ hx) (fun q => q)
  have k1' := hf3 _ _ k1 (fun q => q)
  have k2' : gx_AL D G3 (nx + 1) (nx + 2) mc2 24 [] := k2.mono (fun _ h => hf3 _ _ h (fun q => q)) (fun _ h => hf3 _ _ h (fun q => q))
  refine gx_astore_n hC dX4_copy_19 rfl (by decide) (by first | rfl | simp [gx_ck, gx_lk, gx_cat_rf, gx_cat_rn]) (by first | rfl | exact gx_isr_rf _ | exact gx_isr_rn _) ?_
  refine gx_loc (M := [(2, some (.ref (nx + 1 + 2))), (1, some (.ref nx)), (0, some (.ref a))]) (by repeat (first | exact trivial | refine ⟨rfl, ?_⟩)) ?_
  refine gx_loop (σ := Nat × Int × gx_H) (fun z => z.1 ≤ xs.length ∧ gx_le G z.2.2 ∧ z.2.2 nx (gx_O 3 [.int (iz g), .ref (nx + 1), .int (iz 0)]) ∧ gx_AL D z.2.2 (nx + 1) (nx + 2) z.2.1 24 (xs.take z.1) ∧ gx_IT z.2.2 (nx + 1 + 2) (a + 1) mc z.1) (fun z => xs.length - z.1) (fun z => z.2.2) (fun _ => nx + 1 + 2 + 1) (fun _ => 0) (fun _ => 0) (fun _ => [(2, some (.ref (nx + 1 + 2))), (1, some (.ref nx)), (0, some (.ref a))]) (0, mc2, G3) ⟨by omega, kG3, k1', k2', kit⟩ ?_
  rintro ⟨i, mc9, G9⟩ ⟨p1, p2, p3, p4, p5⟩ ih
  dsimp only at p1 p2 p3 p4 p5 ⊢
  have q1 := p2.tg h1
  have q2 : gx_AL D (gx_TG T G9) (a + 1) (a + 2) mc 24 xs := h2.mono (fun _ => p2.tg) (fun _ => p2.tg)
  have q5 : gx_IT (gx_TG T G9) (nx + 1 + 2) (a + 1) mc i := p5.mono (fun _ => Or.inr)
  refine gx_aload_n hC dX4_copy_20 rfl rfl (by first | rfl | exact gx_isr_rf _ | exact gx_isr_rn _) ?_
  refine gx_callF (nA := 0) hC (m_J19_hasNext q5 q2 p1) (C := RJ19) (Tf := TJ19) (Nf := 4) (ci := 24) rfl (by first | ((repeat (first | assumption | exact Or.inr gx_us | exact Or.inr (by assumption) | exact Or.inl (by assumption) | refine gx_tu (by omega) ?_)); done) | exact gx_AL.rc (by assumption) | exact gx_AL.rg (by assumption) | exact gx_AL.rt (by assumption) | exact gx_DQ.rc (by assumption) | exact gx_DQ.rg (by assumption) | exact gx_SB.rc (by assumption) | exact gx_SB.rg (by assumption) | exact gx_Sx.rc (by assumption) | exact gx_Sx.rg (by assumption) | exact gx_IT.rc (by assumption) | exact gx_IT.rg (by assumption) | exact gx_gt.rc (by assumption) | exact gx_gt.rg (by assumption) | exact gx_lx.rc (by assumption) | exact gx_lx.rg (by assumption) | exact gx_sst.rc (by assumption) | exact gx_sst.rg (by assumption)) (lw_app (List.forall_mem_cons.mpr ⟨q1559, (List.forall_mem_cons.mpr ⟨q723, (List.forall_mem_cons.mpr ⟨q725, (List.forall_mem_cons.mpr ⟨q101, (fun _ h9 => absurd h9 List.not_mem_nil)⟩)⟩)⟩)⟩) (lw_meth q727)) q696 q695 q726 q724 q722 (by decide +kernel) dX4_copy_21 rfl ⟨Nat.le_of_ble_eq_true rfl, Nat.le_of_ble_eq_true rfl⟩ gx_in.id0 rfl (by first | exact Nat.le_of_ble_eq_true rfl | simp [gx_cat_rf, Value.category]) gx_kno (gx_kp1 ?_)
  refine gx_if_eq hC dX4_copy_26 (tgt := 51) (by decide) gx_bR (fun c26 => ?_) (fun c26 => ?_)
  · rw [gx_be] at c26
    have e9 : i = xs.length := by omega
    subst e9
    rw [List.take_length] at p4
    refine gx_aload_n hC dX4_copy_51 rfl rfl (by first | rfl | exact gx_isr_rf _ | exact gx_isr_rn _) ?_
    refine gx_aload_n hC dX4_copy_52 rfl rfl (by first | rfl | exact gx_isr_rf _ | exact gx_isr_rn _) ?_
    refine gx_get hC (C := RX4) (Tf := TX4) (N := 3) (ci := 3) (k := 2) rfl in_X4 (by decide) q554 (fun _ h9 => h9) dX4_copy_53 (by repeat (first | assumption | exact Or.inr gx_us | exact Or.inr (by assumption) | exact Or.inl (by assumption) | refine gx_tu (by omega) ?_)) rfl ?_
    refine gx_put hC (C := RX4) (Tf := TX4) (N := 3) (ci := 3) (k := 2) rfl in_X4 (by decide) tyX4 tyX4_ok nmX4 q554 (fun _ h9 => h9) rfl dX4_copy_56 (by first | exact gx_us | assumption | (repeat (first | exact gx_us | assumption | refine gx_un (by omega) ?_))) (by first | exact Or.inl rfl | exact Or.inl (Or.inl rfl) | exact Or.inl (Or.inr rfl) | exact Or.inr (by omega) | assumption | (simp only [gx_A, *]; omega)) (Nat.le_of_ble_eq_true rfl) (by first | rfl | (unfold gx_rn; split <;> rfl) | (cases ‹Option Nat› <;> rfl) | simp [narrow]) (by first | rfl | (unfold gx_rn; split <;> rfl) | (cases ‹Option Nat› <;> rfl) | simp [fits]) ?_
    refine gx_aload_n hC dX4_copy_59 rfl rfl (by first | rfl | exact gx_isr_rf _ | exact gx_isr_rn _) ?_
    exact gx_aret hC rfl rfl rfl (by first | exact Or.inl ⟨_, rfl⟩ | exact Or.inr ⟨_, rfl⟩) (by first | rfl | exact gx_isr_rf _ | exact gx_isr_rn _) dX4_copy_60 (fun G' hG => ⟨rfl, rfl, hG _ _ gx_us, _, _, p4.mono (fun _ h => hG _ _ (gx_un (by omega) h)) (fun _ h => hG _ _ (gx_un (by omega) h)), h3⟩)
  · rw [gx_bn] at c26
    refine gx_aload_n hC dX4_copy_29 rfl rfl (by first | rfl | exact gx_isr_rf _ | exact gx_isr_rn _) ?_
    refine gx_callF (nA := 0) hC (m_J19_next p5 q2 c26 (by omega) (by omega)) (C := RJ19) (Tf := TJ19) (Nf := 4) (ci := 24) rfl (by first | ((repeat (first | assumption | exact Or.inr gx_us | exact Or.inr (by assumption) | exact Or.inl (by assumption) | refine gx_tu (by omega) ?_)); done) | exact gx_AL.rc (by assumption) | exact gx_AL.rg (by assumption) | exact gx_AL.rt (by assumption) | exact gx_DQ.rc (by assumption) | exact gx_DQ.rg (by assumption) | exact gx_SB.rc (by assumption) | exact gx_SB.rg (by assumption) | exact gx_Sx.rc (by assumption) | exact gx_Sx.rg (by assumption) | exact gx_IT.rc (by assumption) | exact gx_IT.rg (by assumption) | exact gx_gt.rc (by assumption) | exact gx_gt.rg (by assumption) | exact gx_lx.rc (by assumption) | exact gx_lx.rg (by assumption) | exact gx_sst.rc (by assumption) | exact gx_sst.rg (by assumption)) (lw_app (List.forall_mem_cons.mpr ⟨q1561, (List.forall_mem_cons.mpr ⟨q950, (List.forall_mem_cons.mpr ⟨q952, (List.forall_mem_cons.mpr ⟨q101, (fun _ h9 => absurd h9 List.not_mem_nil)⟩)⟩)⟩)⟩) (lw_meth q954)) q740 q739 q953 q951 q722 (by decide +kernel) dX4_copy_30 rfl ⟨Nat.le_of_ble_eq_true rfl, Nat.le_of_ble_eq_true rfl⟩ (gx_in.id hC (fun q hq => Or.inr (by omega))) rfl (by first | exact Nat.le_of_ble_eq_true rfl | simp [gx_cat_rf, Value.category]) gx_kno (fun v4 G4 nx4 hp hf4 hle4 hlt4 => ?_)
    obtain ⟨rfl, rfl, r1⟩ := hp
    have r2 : gx_le G G4 := fun x e9 hx => hf4 _ _ (p2 _ _ hx) (by have := hlt _ _ hx; omega)
    have r3 := hf4 _ _ p3 (by omega)
    have r4 : gx_AL D G4 (nx + 1) (nx + 2) mc9 24 (xs.take i) := p4.mono (fun _ h => hf4 _ _ h (by omega)) (fun _ h => hf4 _ _ h (by omega))
    have ht := (hY _ _ (h3.2 i (by omega))).1
    have ht2 := r2.tg ht
    have hvl := hC.tl hlt ht
    refine gx_castE hC (C := RX7) (Tf := TX7) (N := 3) (ci := 6) rfl q1562 dX4_copy_35 (by repeat (first | assumption | exact Or.inr gx_us | exact Or.inr (by assumption) | exact Or.inl (by assumption) | refine gx_tu (by omega) ?_)) ?_
    refine gx_astore_n hC dX4_copy_38 rfl (by decide) (by first | rfl | simp [gx_ck, gx_lk, gx_cat_rf, gx_cat_rn]) (by first | rfl | exact gx_isr_rf _ | exact gx_isr_rn _) ?_
    refine gx_aload_n hC dX4_copy_39 rfl rfl (by first | rfl | exact gx_isr_rf _ | exact gx_isr_rn _) ?_
    refine gx_get hC (C := RX4) (Tf := TX4) (N := 3) (ci := 3) (k := 1) rfl in_X4 (by decide) q549 (fun _ h9 => h9) dX4_copy_40 (by repeat (first | assumption | exact Or.inr gx_us | exact Or.inr (by assumption) | exact Or.inl (by assumption) | refine gx_tu (by omega) ?_)) rfl ?_
    refine gx_aload_n hC dX4_copy_43 rfl rfl (by first | rfl | exact gx_isr_rf _ | exact gx_isr_rn _) ?_
    refine gx_callV (nA := 1) hC (m_J2_add r4 ⟨6, _, _, _, _, rfl, ht2, q3056⟩ (by rw [List.length_take]; omega) (by omega)) (C := RJ2) (Tf := TJ2) (Nf := 3) (ci := 19) rfl (by first | ((repeat (first | assumption | exact Or.inr gx_us | exact Or.inr (by assumption) | exact Or.inl (by assumption) | refine gx_tu (by omega) ?_)); done) | exact gx_AL.rc (by assumption) | exact gx_AL.rg (by assumption) | exact gx_AL.rt (by assumption) | exact gx_DQ.rc (by assumption) | exact gx_DQ.rg (by assumption) | exact gx_SB.rc (by assumption) | exact gx_SB.rg (by assumption) | exact gx_Sx.rc (by assumption) | exact gx_Sx.rg (by assumption) | exact gx_IT.rc (by assumption) | exact gx_IT.rg (by assumption) | exact gx_gt.rc (by assumption) | exact gx_gt.rg (by assumption) | exact gx_lx.rc (by assumption) | exact gx_lx.rg (by assumption) | exact gx_sst.rc (by assumption) | exact gx_sst.rg (by assumption)) (lw_V q1563 q564 q565 q81 q566) (by decide +kernel) dX4_copy_44 rfl ⟨Nat.le_of_ble_eq_true rfl, Nat.le_of_ble_eq_true rfl⟩ (gx_in.id hC (fun q hq => Or.inr (by omega))) rfl (by first | exact Nat.le_of_ble_eq_true rfl | simp [gx_cat_rf, Value.category]) gx_kno (fun v5 G5 nx5 hp hf5 hle5 hlt5 => ?_)
    obtain ⟨rfl, rfl, s1⟩ := hp
    refine gx_pop hC dX4_copy_47 (by first | rfl | exact gx_cat_rf _ | exact gx_cat_rn _) ?_
    refine gx_goto hC dX4_copy_48 (tgt := 20) (by decide) ?_
    refine gx_loc (M := [(2, some (.ref (nx + 1 + 2))), (1, some (.ref nx)), (0, some (.ref a))]) (by repeat (first | exact trivial | refine ⟨rfl, ?_⟩)) ?_
    refine ih (i + 1, mc9 + 1, G5) ⟨by omega, fun x e9 hx => hf5 _ _ (r2 _ _ hx) (by have := hlt _ _ hx; omega), hf5 _ _ r3 (by omega), ?_, r1.mono (fun _ h => hf5 _ _ h (by omega))⟩ (by dsimp only; omega)
    rw [gx_take_s c26]
    exact s1
theorem m_X4_rotate {st : Nat} (h : gx_gt D G Y a g Ga) (hl : Ga.tk.length ≤ 24) (hs : 1 ≤ st ∧ st ≤ Ga.tk.length) (hY : gx_yok T G (gx_gM a) Y) : gx_Met l yX4_rotate (ws_ yX4_rotate cX4_rotate 5 none) 7 4 70 D (gx_gM a) T G nx [.ref a, .int (iz st)] (fun w G' nx' => w = none ∧ nx' = nx + 4 ∧ G' (nx + 2) (gx_tok (4, 0, 0)) ∧ gx_gt D G' (fun x e => Y x e ∨ (x = nx + 2 ∧ e = gx_tok (4, 0, 0))) a g (gs_rot Ga.tk st, Ga.wk)) gx_no := by
  obtain ⟨h1, mc, xs, h2, h3⟩ := h
  have h31 := h3.1
  refine gx_start (by decide) (Nat.le_of_ble_eq_true rfl) rfl (fun p e s m args below meth c hC hlt => ?_)
  have hax := hlt _ _ h1
  have ha1 := hlt _ _ h2.1
  obtain ⟨f2, hf2, -⟩ := h2.2.1
  have ha2 := hlt _ _ hf2
  have hv : ∀ i, i < xs.length → gx_TG T G (xs.getD i 0) (gx_tok (gs_tk Ga.tk i)) ∧ ¬ gx_gM a (xs.getD i 0) := fun i hi => hY _ _ (h3.2 i (by omega))
  refine gx_new hC (C := RJ2) (Tf := TJ2) (N := 3) (ci := 19) (fs := fdJ2) rfl in_J2 tyJ2 tyJ2_ok q545 q175 q81 dvJ2 dX4_rotate_0 ?_
  refine gx_dup hC dX4_rotate_3 (by first | rfl | exact gx_cat_rf _ | exact gx_cat_rn _) ?_
  refine gx_bipush hC dX4_rotate_4 rfl ?_
  refine gx_callI (nA := 1) hC (m_J2_init (cap := 24) gx_us (by omega) (by omega)) (lw_meth q178) q81 q546 q177 rfl (by decide +kernel) dX4_rotate_6 rfl ⟨Nat.le_of_ble_eq_true rfl, Nat.le_of_ble_eq_true rfl⟩ (gx_in.id hC (fun q hq => Or.inr (by omega))) rfl (by first | exact Nat.le_of_ble_eq_true rfl | simp [gx_cat_rf, Value.category]) gx_kno (fun v2 G2 nx2 hp hf hle hlt2 => ?_)
  obtain ⟨rfl, rfl, k1⟩ := hp
  have kG : gx_le G G2 := fun x e9 hx => hf _ _ (gx_un (by have := hlt _ _ hx; omega) hx) (by have := hlt _ _ hx; omega)
  refine gx_astore_n hC dX4_rotate_9 rfl (by decide) (by first | rfl | simp [gx_ck, gx_lk, gx_cat_rf, gx_cat_rn]) (by first | rfl | exact gx_isr_rf _ | exact gx_isr_rn _) ?_
  refine gx_iload_n hC dX4_rotate_10 rfl rfl ?_
  refine gx_istore_n hC dX4_rotate_11 rfl (by decide) (by first | rfl | simp [gx_ck, gx_lk, gx_cat_rf, gx_cat_rn]) ?_
  refine gx_loc (M := [(3, some (.int (iz (st : Int)))), (2, some (.ref nx)), (1, some (.int (iz st))), (0, some (.ref a))]) (by repeat (first | exact trivial | refine ⟨rfl, ?_⟩)) ?_
  refine gx_loop (σ := Nat × Int × gx_H) (fun z => st ≤ z.1 ∧ z.1 ≤ xs.length ∧ gx_le G z.2.2 ∧ gx_AL D z.2.2 nx (nx + 1) z.2.1 24 ((xs.take z.1).drop st)) (fun z => xs.length - z.1) (fun z => z.2.2) (fun _ => nx + 1 + 1) (fun _ => 2) (fun _ => 7) (fun z => [(3, some (.int (iz (z.1 : Int)))), (2, some (.ref nx)), (1, some (.int (iz st))), (0, some (.ref a))]) (st, 0, G2) ⟨by omega, by omega, kG, by rw [List.drop_eq_nil_of_le (by rw [List.length_take]; omega)]; exact k1⟩ ?_
  rintro ⟨k, mc9, G9⟩ ⟨p0, p1, p2, p3⟩ ih
  dsimp only at p0 p1 p2 p3 ⊢
  have q1 := p2.tg (T := T) (Or.inr h1)
  have q2 : gx_AL D (gx_TG T G9) (a + 1) (a + 2) mc 24 xs := h2.mono (fun _ h => p2.tg (Or.inr h)) (fun _ h => p2.tg (Or.inr h))
  refine gx_iload_n hC dX4_rotate_12 rfl rfl ?_
  refine gx_aload_n hC dX4_rotate_13 rfl rfl (by first | rfl | exact gx_isr_rf _ | exact gx_isr_rn _) ?_
  refine gx_get hC (C := RX4) (Tf := TX4) (N := 3) (ci := 3) (k := 1) rfl in_X4 (by decide) q549 (fun _ h9 => h9) dX4_rotate_14 (by repeat (first | assumption | exact Or.inr gx_us | exact Or.inr (by assumption) | exact Or.inl (by assumption) | refine gx_tu (by omega) ?_)) rfl ?_
  refine gx_callV (nA := 0) hC (m_J2_size q2) (C := RJ2) (Tf := TJ2) (Nf := 3) (ci := 19) rfl (by first | ((repeat (first | assumption | exact Or.inr gx_us | exact Or.inr (by assumption) | exact Or.inl (by assumption) | refine gx_tu (by omega) ?_)); done) | exact gx_AL.rc (by assumption) | exact gx_AL.rg (by assumption) | exact gx_AL.rt (by assumption) | exact gx_DQ.rc (by assumption) | exact gx_DQ.rg (by assumption) | exact gx_SB.rc (by assumption) | exact gx_SB.rg (by assumption) | exact gx_Sx.rc (by assumption) | exact gx_Sx.rg (by assumption) | exact gx_IT.rc (by assumption) | exact gx_IT.rg (by assumption) | exact gx_gt.rc (by assumption) | exact gx_gt.rg (by assumption) | exact gx_lx.rc (by assumption) | exact gx_lx.rg (by assumption) | exact gx_sst.rc (by assumption) | exact gx_sst.rg (by assumption)) (lw_V q1748 q717 q3022 q81 q718) (by decide +kernel) dX4_rotate_17 rfl ⟨Nat.le_of_ble_eq_true rfl, Nat.le_of_ble_eq_true rfl⟩ gx_in.id0 rfl (by first | exact Nat.le_of_ble_eq_true rfl | simp [gx_cat_rf, Value.category]) gx_kno (gx_kp1 ?_)
  refine gx_icmp_ge hC dX4_rotate_20 (tgt := 45) (by decide) (by unfold gx_rg; omega) (by unfold gx_rg; omega) (fun c20 => ?_) (fun c20 => ?_)
  · have e9 : k = xs.length := by omega
    subst e9
    rw [List.take_length] at p3
    refine gx_aload_n hC dX4_rotate_45 rfl rfl (by first | rfl | exact gx_isr_rf _ | exact gx_isr_rn _) ?_
    refine gx_new hC (C := RX7) (Tf := TX7) (N := 3) (ci := 6) (fs := fdX7) rfl in_X7 tyX7 tyX7_ok q1562 q1718 q108 dvX7 dX4_rotate_46 ?_
    refine gx_dup hC dX4_rotate_49 (by first | rfl | exact gx_cat_rf _ | exact gx_cat_rn _) ?_
    refine gx_iconst hC dX4_rotate_50 ?_
    refine gx_callI (nA := 1) hC (m_X7_init_2 (x := 4) gx_us) (lw_meth q1774) q108 q1847 q1773 rfl (by decide +kernel) dX4_rotate_51 rfl ⟨Nat.le_of_ble_eq_true rfl, Nat.le_of_ble_eq_true rfl⟩ (gx_in.id hC (fun q hq => Or.inr (by omega))) rfl (by first | exact Nat.le_of_ble_eq_true rfl | simp [gx_cat_rf, Value.category]) gx_kno (fun v4 G4 nx4 hp hf4 hle4 hlt4 => ?_)
    obtain ⟨rfl, rfl, r1⟩ := hp
    have r2 : gx_le G G4 := fun x e9 hx => hf4 _ _ (gx_un (by have := hlt _ _ hx; omega) (p2 _ _ hx)) (by have := hlt _ _ hx; omega)
    have r3 : gx_AL D G4 nx (nx + 1) mc9 24 (xs.drop st) := p3.mono (fun _ h => hf4 _ _ (gx_un (by omega) h) (by omega)) (fun _ h => hf4 _ _ (gx_un (by omega) h) (by omega))
    refine gx_callV (nA := 1) hC (m_J2_add r3 ⟨6, _, _, _, _, rfl, Or.inr r1, q3056⟩ (by rw [List.length_drop]; omega) (by omega)) (C := RJ2) (Tf := TJ2) (Nf := 3) (ci := 19) rfl (by first | ((repeat (first | assumption | exact Or.inr gx_us | exact Or.inr (by assumption) | exact Or.inl (by assumption) | refine gx_tu (by omega) ?_)); done) | exact gx_AL.rc (by assumption) | exact gx_AL.rg (by assumption) | exact gx_AL.rt (by assumption) | exact gx_DQ.rc (by assumption) | exact gx_DQ.rg (by assumption) | exact gx_SB.rc (by assumption) | exact gx_SB.rg (by assumption) | exact gx_Sx.rc (by assumption) | exact gx_Sx.rg (by assumption) | exact gx_IT.rc (by assumption) | exact gx_IT.rg (by assumption) | exact gx_gt.rc (by assumption) | exact gx_gt.rg (by assumption) | exact gx_lx.rc (by assumption) | exact gx_lx.rg (by assumption) | exact gx_sst.rc (by assumption) | exact gx_sst.rg (by assumption)) (lw_V q1563 q564 q565 q81 q566) (by decide +kernel) dX4_rotate_54 rfl ⟨Nat.le_of_ble_eq_true rfl, Nat.le_of_ble_eq_true rfl⟩ (gx_in.id hC (fun q hq => Or.inr (by omega))) rfl (by first | exact Nat.le_of_ble_eq_true rfl | simp [gx_cat_rf, Value.category]) gx_kno (fun v5 G5 nx5 hp hf5 hle5 hlt5 => ?_)
    obtain ⟨rfl, rfl, s1⟩ := hp
    have s2 : gx_le G G5 := fun x e9 hx => hf5 _ _ (r2 _ _ hx) (by have := hlt _ _ hx; omega)
    have s3 := hf5 _ _ r1 (by omega)
    refine gx_pop hC dX4_rotate_57 (by first | rfl | exact gx_cat_rf _ | exact gx_cat_rn _) ?_
    refine gx_iconst hC dX4_rotate_58 ?_
    refine gx_istore_n hC dX4_rotate_59 rfl (by decide) (by first | rfl | simp [gx_ck, gx_lk, gx_cat_rf, gx_cat_rn]) ?_
    refine gx_loc (M := [(3, some (.int (iz ((0 : Nat) : Int)))), (2, some (.ref nx)), (1, some (.int (iz st))), (0, some (.ref a))]) (by repeat (first | exact trivial | refine ⟨rfl, ?_⟩)) ?_
    refine gx_loop (σ := Nat × Int × gx_H) (fun z => z.1 ≤ st - 1 ∧ gx_le G z.2.2 ∧ z.2.2 (nx + 2) (gx_tok (4, 0, 0)) ∧ gx_AL D z.2.2 nx (nx + 1) z.2.1 24 (xs.drop st ++ [nx + 2] ++ xs.take z.1)) (fun z => st - z.1) (fun z => z.2.2) (fun _ => nx + 1 + 1 + 1) (fun _ => 1) (fun _ => 4) (fun z => [(3, some (.int (iz (z.1 : Int)))), (2, some (.ref nx)), (1, some (.int (iz st))), (0, some (.ref a))]) (0, mc9 + 1, G5) ⟨by omega, s2, s3, by simpa using s1⟩ ?_
    rintro ⟨k, mc8, G8⟩ ⟨t0, t1, t2, t3⟩ ih2
    dsimp only at t0 t1 t2 t3 ⊢
    have u1 := t1.tg (T := T) (Or.inr h1)
    have u2 : gx_AL D (gx_TG T G8) (a + 1) (a + 2) mc 24 xs := h2.mono (fun _ h => t1.tg (Or.inr h)) (fun _ h => t1.tg (Or.inr h))
    refine gx_iload_n hC dX4_rotate_60 rfl rfl ?_
    refine gx_iload_n hC dX4_rotate_61 rfl rfl ?_
    refine gx_iconst hC dX4_rotate_62 ?_
    refine gx_isub hC dX4_rotate_63 ?_
    refine gx_icmp_ge hC dX4_rotate_64 (tgt := 89) (by decide) (by unfold gx_rg; omega) (by unfold gx_rg; omega) (fun c64 => ?_) (fun c64 => ?_)
    · have e9 : k = st - 1 := by omega
      subst e9
      have w1 := t1 _ _ h1
      have w2 : gx_AL D G8 (a + 1) (a + 2) mc 24 xs := h2.mono (fun _ h => t1 _ _ h) (fun _ h => t1 _ _ h)
      refine gx_aload_n hC dX4_rotate_89 rfl rfl (by first | rfl | exact gx_isr_rf _ | exact gx_isr_rn _) ?_
      refine gx_get hC (C := RX4) (Tf := TX4) (N := 3) (ci := 3) (k := 1) rfl in_X4 (by decide) q549 (fun _ h9 => h9) dX4_rotate_90 (by repeat (first | assumption | exact Or.inr gx_us | exact Or.inr (by assumption) | exact Or.inl (by assumption) | refine gx_tu (by omega) ?_)) rfl ?_
      refine gx_callV (nA := 0) hC (m_J2_clear w2) (C := RJ2) (Tf := TJ2) (Nf := 3) (ci := 19) rfl (by first | ((repeat (first | assumption | exact Or.inr gx_us | exact Or.inr (by assumption) | exact Or.inl (by assumption) | refine gx_tu (by omega) ?_)); done) | exact gx_AL.rc (by assumption) | exact gx_AL.rg (by assumption) | exact gx_AL.rt (by assumption) | exact gx_DQ.rc (by assumption) | exact gx_DQ.rg (by assumption) | exact gx_SB.rc (by assumption) | exact gx_SB.rg (by assumption) | exact gx_Sx.rc (by assumption) | exact gx_Sx.rg (by assumption) | exact gx_IT.rc (by assumption) | exact gx_IT.rg (by assumption) | exact gx_gt.rc (by assumption) | exact gx_gt.rg (by assumption) | exact gx_lx.rc (by assumption) | exact gx_lx.rg (by assumption) | exact gx_sst.rc (by assumption) | exact gx_sst.rg (by assumption)) (lw_V q1825 q1826 q1827 q81 q1828) (by decide +kernel) dX4_rotate_93 rfl ⟨Nat.le_of_ble_eq_true rfl, Nat.le_of_ble_eq_true rfl⟩ (gx_in.id hC (fun q hq => Or.inl ⟨by omega, by omega⟩)) rfl (by first | exact Nat.le_of_ble_eq_true rfl | simp [gx_cat_rf, Value.category]) gx_kno (fun v6 G6 nx6 hp hf6 hle6 hlt6 => ?_)
      obtain ⟨rfl, rfl, w3⟩ := hp
      have w4 : ∀ x e9, G x e9 → ¬ gx_gM a x → G6 x e9 := fun x e9 hx hn => hf6 _ _ (t1 _ _ hx) (fun q => hn ⟨by omega, by omega⟩)
      have w5 := hf6 _ _ t2 (by omega)
      have w6 := hf6 _ _ w1 (by omega)
      obtain ⟨zs, hzs⟩ : ∃ zs, zs = xs.drop st ++ [nx + 2] ++ xs.take (st - 1) := ⟨_, rfl⟩
      rw [← hzs] at t3
      have w7 : gx_AL D G6 nx (nx + 1) mc8 24 zs := t3.mono (fun _ h => hf6 _ _ h (by omega)) (fun _ h => hf6 _ _ h (by omega))
      have w7' : gx_AL D (gx_TG T G6) nx (nx + 1) mc8 24 zs := w7.mono (fun _ => Or.inr) (fun _ => Or.inr)
      have hzt : gx_tks (fun x e => Y x e ∨ (x = nx + 2 ∧ e = gx_tok (4, 0, 0))) zs (gs_rot Ga.tk st) := by
        rw [hzs]
        unfold gs_rot
        rw [List.append_assoc]
        refine ((h3.drop st).mono (fun _ _ h => Or.inl h)).app ?_
        exact gx_tks.app (tk := [(4, 0, 0)]) ⟨rfl, fun j hj => by
          have e9 : j = 0 := by simp at hj; omega
          subst e9
          exact Or.inr ⟨rfl, rfl⟩⟩ ((h3.take (st - 1)).mono (fun _ _ h => Or.inl h))
      have hzl : zs.length = xs.length := by
        rw [hzt.1, gs_rot_len hs.1 hs.2, h31]
      have hzo : ∀ (G' : gx_H), (∀ x e9, G x e9 → ¬ gx_gM a x → G' x e9) → G' (nx + 2) (gx_tok (4, 0, 0)) → ∀ i, i < zs.length → ∃ t, gx_TG T G' (zs.getD i 0) (gx_tok t) ∧ ¬ gx_gM a (zs.getD i 0) ∧ zs.getD i 0 < nx + 3 ∧ zs.getD i 0 ≠ nx ∧ zs.getD i 0 ≠ nx + 1 := by
        intro G' hG1 hG2 i hi
        have := hzt.2 i (by rw [← hzt.1]; exact hi)
        rcases this with h9 | ⟨h9, h8⟩
        · obtain ⟨h6, h7⟩ := hY _ _ h9
          have h5 := hC.tl hlt h6
          exact ⟨_, h6.imp id (fun h => hG1 _ _ h h7), h7, by omega, by omega, by omega⟩
        · rw [h9]
          exact ⟨_, Or.inr hG2, fun q => by have := q.2; omega, by omega, by omega, by omega⟩
      refine gx_aload_n hC dX4_rotate_96 rfl rfl (by first | rfl | exact gx_isr_rf _ | exact gx_isr_rn _) ?_
      refine gx_callV (nA := 0) hC (m_J2_iterator w7' (by omega)) (C := RJ2) (Tf := TJ2) (Nf := 3) (ci := 19) rfl (by first | ((repeat (first | assumption | exact Or.inr gx_us | exact Or.inr (by assumption) | exact Or.inl (by assumption) | refine gx_tu (by omega) ?_)); done) | exact gx_AL.rc (by assumption) | exact gx_AL.rg (by assumption) | exact gx_AL.rt (by assumption) | exact gx_DQ.rc (by assumption) | exact gx_DQ.rg (by assumption) | exact gx_SB.rc (by assumption) | exact gx_SB.rg (by assumption) | exact gx_Sx.rc (by assumption) | exact gx_Sx.rg (by assumption) | exact gx_IT.rc (by assumption) | exact gx_IT.rg (by assumption) | exact gx_gt.rc (by assumption) | exact gx_gt.rg (by assumption) | exact gx_lx.rc (by assumption) | exact gx_lx.rg (by assumption) | exact gx_sst.rc (by assumption) | exact gx_sst.rg (by assumption)) (lw_V q1557 q669 q670 q81 q671) (by decide +kernel) dX4_rotate_97 rfl ⟨Nat.le_of_ble_eq_true rfl, Nat.le_of_ble_eq_true rfl⟩ gx_in.id0 rfl (by first | exact Nat.le_of_ble_eq_true rfl | simp [gx_cat_rf, Value.category]) gx_kno (fun v7 G7 nx7 hp hf7 hle7 hlt7 => ?_)
      obtain ⟨rfl, rfl, kit⟩ := hp
      have x1 := hf7 _ _ w6 (fun q => q)
      have x2 : gx_AL D G7 (a + 1) (a + 2) (mc + 1) 24 [] := w3.mono (fun _ h => hf7 _ _ h (fun q => q)) (fun _ h => hf7 _ _ h (fun q => q))
      have x3 : gx_AL D G7 nx (nx + 1) mc8 24 zs := w7.mono (fun _ h => hf7 _ _ h (fun q => q)) (fun _ h => hf7 _ _ h (fun q => q))
      refine gx_astore_n hC dX4_rotate_100 rfl (by decide) (by first | rfl | simp [gx_ck, gx_lk, gx_cat_rf, gx_cat_rn]) (by first | rfl | exact gx_isr_rf _ | exact gx_isr_rn _) ?_
      refine gx_loc (M := [(3, some (.ref (nx + 1 + 1 + 1))), (0, some (.ref a))]) (by repeat (first | exact trivial | refine ⟨rfl, ?_⟩)) ?_
      refine gx_loop (σ := Nat × Int × gx_H) (fun z => z.1 ≤ zs.length ∧ (∀ x e9, G x e9 → ¬ gx_gM a x → z.2.2 x e9) ∧ z.2.2 (nx + 2) (gx_tok (4, 0, 0)) ∧ z.2.2 a (gx_O 3 [.int (iz g), .ref (a + 1), .int (iz Ga.wk)]) ∧ gx_AL D z.2.2 (a + 1) (a + 2) z.2.1 24 (zs.take z.1) ∧ gx_AL D z.2.2 nx (nx + 1) mc8 24 zs ∧ gx_IT z.2.2 (nx + 1 + 1 + 1) nx mc8 z.1) (fun z => zs.length - z.1) (fun z => z.2.2) (fun _ => nx + 1 + 1 + 1 + 1) (fun _ => 0) (fun _ => 0) (fun _ => [(3, some (.ref (nx + 1 + 1 + 1))), (0, some (.ref a))]) (0, mc + 1, G7) ⟨by omega, fun x e9 hx hn => hf7 _ _ (w4 _ _ hx hn) (fun q => q), hf7 _ _ w5 (fun q => q), x1, x2, x3, kit⟩ ?_
      rintro ⟨i, mc7, Gb⟩ ⟨y0, y1, y2, y3, y4, y5, y6⟩ ih3
      dsimp only at y0 y1 y2 y3 y4 y5 y6 ⊢
      have y5' : gx_AL D (gx_TG T Gb) nx (nx + 1) mc8 24 zs := y5.mono (fun _ => Or.inr) (fun _ => Or.inr)
      have y6' : gx_IT (gx_TG T Gb) (nx + 1 + 1 + 1) nx mc8 i := y6.mono (fun _ => Or.inr)
      refine gx_aload_n hC dX4_rotate_101 rfl rfl (by first | rfl | exact gx_isr_rf _ | exact gx_isr_rn _) ?_
      refine gx_callF (nA := 0) hC (m_J19_hasNext y6' y5' y0) (C := RJ19) (Tf := TJ19) (Nf := 4) (ci := 24) rfl (by first | ((repeat (first | assumption | exact Or.inr gx_us | exact Or.inr (by assumption) | exact Or.inl (by assumption) | refine gx_tu (by omega) ?_)); done) | exact gx_AL.rc (by assumption) | exact gx_AL.rg (by assumption) | exact gx_AL.rt (by assumption) | exact gx_DQ.rc (by assumption) | exact gx_DQ.rg (by assumption) | exact gx_SB.rc (by assumption) | exact gx_SB.rg (by assumption) | exact gx_Sx.rc (by assumption) | exact gx_Sx.rg (by assumption) | exact gx_IT.rc (by assumption) | exact gx_IT.rg (by assumption) | exact gx_gt.rc (by assumption) | exact gx_gt.rg (by assumption) | exact gx_lx.rc (by assumption) | exact gx_lx.rg (by assumption) | exact gx_sst.rc (by assumption) | exact gx_sst.rg (by assumption)) (lw_app (List.forall_mem_cons.mpr ⟨q1559, (List.forall_mem_cons.mpr ⟨q723, (List.forall_mem_cons.mpr ⟨q725, (List.forall_mem_cons.mpr ⟨q101, (fun _ h9 => absurd h9 List.not_mem_nil)⟩)⟩)⟩)⟩) (lw_meth q727)) q696 q695 q726 q724 q722 (by decide +kernel) dX4_rotate_102 rfl ⟨Nat.le_of_ble_eq_true rfl, Nat.le_of_ble_eq_true rfl⟩ gx_in.id0 rfl (by first | exact Nat.le_of_ble_eq_true rfl | simp [gx_cat_rf, Value.category]) gx_kno (gx_kp1 ?_)
      refine gx_if_eq hC dX4_rotate_107 (tgt := 134) (by decide) gx_bR (fun c107 => ?_) (fun c107 => ?_)
      · rw [gx_be] at c107
        have e9 : i = zs.length := by omega
        subst e9
        rw [List.take_length] at y4
        exact gx_vret hC rfl rfl rfl dX4_rotate_134 (fun G' hG => ⟨rfl, rfl, hG _ _ y2, hG _ _ y3, _, _, y4.mono (hG _) (hG _), hzt⟩)
      · rw [gx_bn] at c107
        refine gx_aload_n hC dX4_rotate_110 rfl rfl (by first | rfl | exact gx_isr_rf _ | exact gx_isr_rn _) ?_
        refine gx_callF (nA := 0) hC (m_J19_next y6 y5' c107 (by omega) (by omega)) (C := RJ19) (Tf := TJ19) (Nf := 4) (ci := 24) rfl (by first | ((repeat (first | assumption | exact Or.inr gx_us | exact Or.inr (by assumption) | exact Or.inl (by assumption) | refine gx_tu (by omega) ?_)); done) | exact gx_AL.rc (by assumption) | exact gx_AL.rg (by assumption) | exact gx_AL.rt (by assumption) | exact gx_DQ.rc (by assumption) | exact gx_DQ.rg (by assumption) | exact gx_SB.rc (by assumption) | exact gx_SB.rg (by assumption) | exact gx_Sx.rc (by assumption) | exact gx_Sx.rg (by assumption) | exact gx_IT.rc (by assumption) | exact gx_IT.rg (by assumption) | exact gx_gt.rc (by assumption) | exact gx_gt.rg (by assumption) | exact gx_lx.rc (by assumption) | exact gx_lx.rg (by assumption) | exact gx_sst.rc (by assumption) | exact gx_sst.rg (by assumption)) (lw_app (List.forall_mem_cons.mpr ⟨q1561, (List.forall_mem_cons.mpr ⟨q950, (List.forall_mem_cons.mpr ⟨q952, (List.forall_mem_cons.mpr ⟨q101, (fun _ h9 => absurd h9 List.not_mem_nil)⟩)⟩)⟩)⟩) (lw_meth q954)) q740 q739 q953 q951 q722 (by decide +kernel) dX4_rotate_111 rfl ⟨Nat.le_of_ble_eq_true rfl, Nat.le_of_ble_eq_true rfl⟩ (gx_in.id hC (fun q hq => Or.inr (by omega))) rfl (by first | exact Nat.le_of_ble_eq_true rfl | simp [gx_cat_rf, Value.category]) gx_kno (fun va Ga2 nxa hp hfa hlea hlta => ?_)
        obtain ⟨rfl, rfl, z1⟩ := hp
        obtain ⟨t9, o1, o2, o3, o4, o5⟩ := hzo Gb y1 y2 i c107
        have o6 : gx_TG T Ga2 (zs.getD i 0) (gx_tok t9) := o1.imp id (fun h => hfa _ _ h (by omega))
        have z2 := hfa _ _ y3 (by omega)
        have z3 : gx_AL D Ga2 (a + 1) (a + 2) mc7 24 (zs.take i) := y4.mono (fun _ h => hfa _ _ h (by omega)) (fun _ h => hfa _ _ h (by omega))
        have z4 : gx_AL D Ga2 nx (nx + 1) mc8 24 zs := y5.mono (fun _ h => hfa _ _ h (by omega)) (fun _ h => hfa _ _ h (by omega))
        have o7 : zs.getD i 0 ≠ a + 1 := fun q => o2 ⟨by omega, by omega⟩
        refine gx_castE hC (C := RX7) (Tf := TX7) (N := 3) (ci := 6) rfl q1562 dX4_rotate_116 (by repeat (first | assumption | exact Or.inr gx_us | exact Or.inr (by assumption) | exact Or.inl (by assumption) | refine gx_tu (by omega) ?_)) ?_
        refine gx_astore hC dX4_rotate_119 (by decide) (by first | rfl | simp [gx_ck, gx_lk, gx_cat_rf, gx_cat_rn]) (by first | rfl | exact gx_isr_rf _ | exact gx_isr_rn _) ?_
        refine gx_aload_n hC dX4_rotate_121 rfl rfl (by first | rfl | exact gx_isr_rf _ | exact gx_isr_rn _) ?_
        refine gx_get hC (C := RX4) (Tf := TX4) (N := 3) (ci := 3) (k := 1) rfl in_X4 (by decide) q549 (fun _ h9 => h9) dX4_rotate_122 (by repeat (first | assumption | exact Or.inr gx_us | exact Or.inr (by assumption) | exact Or.inl (by assumption) | refine gx_tu (by omega) ?_)) rfl ?_
        refine gx_aload hC dX4_rotate_125 rfl (by first | rfl | exact gx_isr_rf _ | exact gx_isr_rn _) ?_
        refine gx_callV (nA := 1) hC (m_J2_add z3 ⟨6, _, _, _, _, rfl, o6, q3056⟩ (by rw [List.length_take]; omega) o7) (C := RJ2) (Tf := TJ2) (Nf := 3) (ci := 19) rfl (by first | ((repeat (first | assumption | exact Or.inr gx_us | exact Or.inr (by assumption) | exact Or.inl (by assumption) | refine gx_tu (by omega) ?_)); done) | exact gx_AL.rc (by assumption) | exact gx_AL.rg (by assumption) | exact gx_AL.rt (by assumption) | exact gx_DQ.rc (by assumption) | exact gx_DQ.rg (by assumption) | exact gx_SB.rc (by assumption) | exact gx_SB.rg (by assumption) | exact gx_Sx.rc (by assumption) | exact gx_Sx.rg (by assumption) | exact gx_IT.rc (by assumption) | exact gx_IT.rg (by assumption) | exact gx_gt.rc (by assumption) | exact gx_gt.rg (by assumption) | exact gx_lx.rc (by assumption) | exact gx_lx.rg (by assumption) | exact gx_sst.rc (by assumption) | exact gx_sst.rg (by assumption)) (lw_V q1563 q564 q565 q81 q566) (by decide +kernel) dX4_rotate_127 rfl ⟨Nat.le_of_ble_eq_true rfl, Nat.le_of_ble_eq_true rfl⟩ (gx_in.id hC (fun q hq => Or.inl ⟨by omega, by omega⟩)) rfl (by first | exact Nat.le_of_ble_eq_true rfl | simp [gx_cat_rf, Value.category]) gx_kno (fun vb Gc nxb hp hfb hleb hltb => ?_)
        obtain ⟨rfl, rfl, z5⟩ := hp
        refine gx_pop hC dX4_rotate_130 (by first | rfl | exact gx_cat_rf _ | exact gx_cat_rn _) ?_
        refine gx_goto hC dX4_rotate_131 (tgt := 101) (by decide) ?_
        refine gx_loc (M := [(3, some (.ref (nx + 1 + 1 + 1))), (0, some (.ref a))]) (by repeat (first | exact trivial | refine ⟨rfl, ?_⟩)) ?_
        refine ih3 (i + 1, mc7 + 1, Gc) ⟨by omega, fun x e9 hx hn => hfb _ _ (hfa _ _ (y1 _ _ hx hn) (by have := hlt _ _ hx; omega)) (fun q => hn ⟨by omega, by omega⟩), hfb _ _ (hfa _ _ y2 (by omega)) (by omega), hfb _ _ z2 (by omega), ?_, z4.mono (fun _ h => hfb _ _ h (by omega)) (fun _ h => hfb _ _ h (by omega)), z1.mono (fun _ h => hfb _ _ h (by omega))⟩ (by dsimp only; omega)
        rw [gx_take_s c107]
        exact z5
    · refine gx_aload_n hC dX4_rotate_67 rfl rfl (by first | rfl | exact gx_isr_rf _ | exact gx_isr_rn _) ?_
      refine gx_aload_n hC dX4_rotate_68 rfl rfl (by first | rfl | exact gx_isr_rf _ | exact gx_isr_rn _) ?_
      refine gx_get hC (C := RX4) (Tf := TX4) (N := 3) (ci := 3) (k := 1) rfl in_X4 (by decide) q549 (fun _ h9 => h9) dX4_rotate_69 (by repeat (first | assumption | exact Or.inr gx_us | exact Or.inr (by assumption) | exact Or.inl (by assumption) | refine gx_tu (by omega) ?_)) rfl ?_
      refine gx_iload_n hC dX4_rotate_72 rfl rfl ?_
      obtain ⟨o1, o2⟩ := hv k (by omega)
      have o3 := hC.tl hlt o1
      have o4 := t1.tg o1
      refine gx_callV (nA := 1) hC (m_J2_get u2 (i := k) (by omega)) (C := RJ2) (Tf := TJ2) (Nf := 3) (ci := 19) rfl (by first | ((repeat (first | assumption | exact Or.inr gx_us | exact Or.inr (by assumption) | exact Or.inl (by assumption) | refine gx_tu (by omega) ?_)); done) | exact gx_AL.rc (by assumption) | exact gx_AL.rg (by assumption) | exact gx_AL.rt (by assumption) | exact gx_DQ.rc (by assumption) | exact gx_DQ.rg (by assumption) | exact gx_SB.rc (by assumption) | exact gx_SB.rg (by assumption) | exact gx_Sx.rc (by assumption) | exact gx_Sx.rg (by assumption) | exact gx_IT.rc (by assumption) | exact gx_IT.rg (by assumption) | exact gx_gt.rc (by assumption) | exact gx_gt.rg (by assumption) | exact gx_lx.rc (by assumption) | exact gx_lx.rg (by assumption) | exact gx_sst.rc (by assumption) | exact gx_sst.rg (by assumption)) (lw_V q1846 q788 q789 q81 q790) (by decide +kernel) dX4_rotate_73 rfl ⟨Nat.le_of_ble_eq_true rfl, Nat.le_of_ble_eq_true rfl⟩ gx_in.id0 rfl (by first | exact Nat.le_of_ble_eq_true rfl | simp [gx_cat_rf, Value.category]) gx_kno (gx_kp1 ?_)
      refine gx_castE hC (C := RX7) (Tf := TX7) (N := 3) (ci := 6) rfl q1562 dX4_rotate_76 (by repeat (first | assumption | exact Or.inr gx_us | exact Or.inr (by assumption) | exact Or.inl (by assumption) | refine gx_tu (by omega) ?_)) ?_
      refine gx_callV (nA := 1) hC (m_J2_add t3 ⟨6, _, _, _, _, rfl, o4, q3056⟩ (by simp; omega) (by omega)) (C := RJ2) (Tf := TJ2) (Nf := 3) (ci := 19) rfl (by first | ((repeat (first | assumption | exact Or.inr gx_us | exact Or.inr (by assumption) | exact Or.inl (by assumption) | refine gx_tu (by omega) ?_)); done) | exact gx_AL.rc (by assumption) | exact gx_AL.rg (by assumption) | exact gx_AL.rt (by assumption) | exact gx_DQ.rc (by assumption) | exact gx_DQ.rg (by assumption) | exact gx_SB.rc (by assumption) | exact gx_SB.rg (by assumption) | exact gx_Sx.rc (by assumption) | exact gx_Sx.rg (by assumption) | exact gx_IT.rc (by assumption) | exact gx_IT.rg (by assumption) | exact gx_gt.rc (by assumption) | exact gx_gt.rg (by assumption) | exact gx_lx.rc (by assumption) | exact gx_lx.rg (by assumption) | exact gx_sst.rc (by assumption) | exact gx_sst.rg (by assumption)) (lw_V q1563 q564 q565 q81 q566) (by decide +kernel) dX4_rotate_79 rfl ⟨Nat.le_of_ble_eq_true rfl, Nat.le_of_ble_eq_true rfl⟩ (gx_in.id hC (fun q hq => Or.inr (by omega))) rfl (by first | exact Nat.le_of_ble_eq_true rfl | simp [gx_cat_rf, Value.category]) gx_kno (fun v6 G6 nx6 hp hf6 hle6 hlt6 => ?_)
      obtain ⟨rfl, rfl, w1⟩ := hp
      refine gx_pop hC dX4_rotate_82 (by first | rfl | exact gx_cat_rf _ | exact gx_cat_rn _) ?_
      refine gx_iinc hC dX4_rotate_83 rfl (by decide) (by first | rfl | simp [gx_ck, gx_lk, gx_cat_rf, gx_cat_rn]) ?_
      refine gx_goto hC dX4_rotate_86 (tgt := 60) (by decide) ?_
      refine gx_loc (M := [(3, some (.int (iz ((k + 1 : Nat) : Int)))), (2, some (.ref nx)), (1, some (.int (iz st))), (0, some (.ref a))]) (by repeat (first | exact trivial | refine ⟨rfl, ?_⟩)) ?_
      refine ih2 (k + 1, mc8 + 1, G6) ⟨by omega, fun x e9 hx => hf6 _ _ (t1 _ _ hx) (by have := hlt _ _ hx; omega), hf6 _ _ t2 (by omega), ?_⟩ (by dsimp only; omega)
      rw [gx_take_s (show k < xs.length by omega), ← List.append_assoc]
      exact w1
  · obtain ⟨o1, o2⟩ := hv k (by omega)
    have o3 := hC.tl hlt o1
    have o4 := p2.tg o1
    refine gx_aload_n hC dX4_rotate_23 rfl rfl (by first | rfl | exact gx_isr_rf _ | exact gx_isr_rn _) ?_
    refine gx_aload_n hC dX4_rotate_24 rfl rfl (by first | rfl | exact gx_isr_rf _ | exact gx_isr_rn _) ?_
    refine gx_get hC (C := RX4) (Tf := TX4) (N := 3) (ci := 3) (k := 1) rfl in_X4 (by decide) q549 (fun _ h9 => h9) dX4_rotate_25 (by repeat (first | assumption | exact Or.inr gx_us | exact Or.inr (by assumption) | exact Or.inl (by assumption) | refine gx_tu (by omega) ?_)) rfl ?_
    refine gx_iload_n hC dX4_rotate_28 rfl rfl ?_
    refine gx_callV (nA := 1) hC (m_J2_get q2 (i := k) (by omega)) (C := RJ2) (Tf := TJ2) (Nf := 3) (ci := 19) rfl (by first | ((repeat (first | assumption | exact Or.inr gx_us | exact Or.inr (by assumption) | exact Or.inl (by assumption) | refine gx_tu (by omega) ?_)); done) | exact gx_AL.rc (by assumption) | exact gx_AL.rg (by assumption) | exact gx_AL.rt (by assumption) | exact gx_DQ.rc (by assumption) | exact gx_DQ.rg (by assumption) | exact gx_SB.rc (by assumption) | exact gx_SB.rg (by assumption) | exact gx_Sx.rc (by assumption) | exact gx_Sx.rg (by assumption) | exact gx_IT.rc (by assumption) | exact gx_IT.rg (by assumption) | exact gx_gt.rc (by assumption) | exact gx_gt.rg (by assumption) | exact gx_lx.rc (by assumption) | exact gx_lx.rg (by assumption) | exact gx_sst.rc (by assumption) | exact gx_sst.rg (by assumption)) (lw_V q1846 q788 q789 q81 q790) (by decide +kernel) dX4_rotate_29 rfl ⟨Nat.le_of_ble_eq_true rfl, Nat.le_of_ble_eq_true rfl⟩ gx_in.id0 rfl (by first | exact Nat.le_of_ble_eq_true rfl | simp [gx_cat_rf, Value.category]) gx_kno (gx_kp1 ?_)
    refine gx_castE hC (C := RX7) (Tf := TX7) (N := 3) (ci := 6) rfl q1562 dX4_rotate_32 (by repeat (first | assumption | exact Or.inr gx_us | exact Or.inr (by assumption) | exact Or.inl (by assumption) | refine gx_tu (by omega) ?_)) ?_
    refine gx_callV (nA := 1) hC (m_J2_add p3 ⟨6, _, _, _, _, rfl, o4, q3056⟩ (by simp; omega) (by omega)) (C := RJ2) (Tf := TJ2) (Nf := 3) (ci := 19) rfl (by first | ((repeat (first | assumption | exact Or.inr gx_us | exact Or.inr (by assumption) | exact Or.inl (by assumption) | refine gx_tu (by omega) ?_)); done) | exact gx_AL.rc (by assumption) | exact gx_AL.rg (by assumption) | exact gx_AL.rt (by assumption) | exact gx_DQ.rc (by assumption) | exact gx_DQ.rg (by assumption) | exact gx_SB.rc (by assumption) | exact gx_SB.rg (by assumption) | exact gx_Sx.rc (by assumption) | exact gx_Sx.rg (by assumption) | exact gx_IT.rc (by assumption) | exact gx_IT.rg (by assumption) | exact gx_gt.rc (by assumption) | exact gx_gt.rg (by assumption) | exact gx_lx.rc (by assumption) | exact gx_lx.rg (by assumption) | exact gx_sst.rc (by assumption) | exact gx_sst.rg (by assumption)) (lw_V q1563 q564 q565 q81 q566) (by decide +kernel) dX4_rotate_35 rfl ⟨Nat.le_of_ble_eq_true rfl, Nat.le_of_ble_eq_true rfl⟩ (gx_in.id hC (fun q hq => Or.inr (by omega))) rfl (by first | exact Nat.le_of_ble_eq_true rfl | simp [gx_cat_rf, Value.category]) gx_kno (fun v6 G6 nx6 hp hf6 hle6 hlt6 => ?_)
    obtain ⟨rfl, rfl, w1⟩ := hp
    refine gx_pop hC dX4_rotate_38 (by first | rfl | exact gx_cat_rf _ | exact gx_cat_rn _) ?_
    refine gx_iinc hC dX4_rotate_39 rfl (by decide) (by first | rfl | simp [gx_ck, gx_lk, gx_cat_rf, gx_cat_rn]) ?_
    refine gx_goto hC dX4_rotate_42 (tgt := 12) (by decide) ?_
    refine gx_loc (M := [(3, some (.int (iz ((k + 1 : Nat) : Int)))), (2, some (.ref nx)), (1, some (.int (iz st))), (0, some (.ref a))]) (by repeat (first | exact trivial | refine ⟨rfl, ?_⟩)) ?_
    refine ih (k + 1, mc9 + 1, G6) ⟨by omega, by omega, fun x e9 hx => hf6 _ _ (p2 _ _ hx) (by have := hlt _ _ hx; omega), ?_⟩ (by dsimp only; omega)
    rw [gx_dt_s p0 (show k < xs.length by omega)]
    exact w1
end GAT

