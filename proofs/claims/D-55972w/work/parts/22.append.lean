/-! State: its making, its appends; History -/
set_option maxRecDepth 100000
section STB
variable {l : Launch} {D : gx_D} {T G Y : gx_H} {nx : Nat} {b w : Nat} {S : gs_S} {B : Int}
theorem m_X2_init (h : G b (gx_O 1 fdX2)) (ha : nx = b + 1) : gx_Met l yX2_init (ws_ yX2_init cX2_init 2 none) 9 17 347 D (fun q => q = b) T G nx [.ref b] (fun v G' nx' => v = none ∧ nx' = b + 18 ∧ gx_sst D G' Y b 0 (0, 0, fun _ => 0, fun _ => 0, fun _ => ([], 0))) gx_no := by
  subst ha
  refine gx_start (by decide) (Nat.le_of_ble_eq_true rfl) rfl (fun p e s m args below meth c hC hlt => ?_)
  refine gx_aload_n hC dX2_init_0 rfl rfl (by first | rfl | exact gx_isr_rf _ | exact gx_isr_rn _) ?_
  refine gx_new hC (C := RX3) (Tf := TX3) (N := 4) (ci := 2) (fs := fdX3) rfl in_X3 tyX3 tyX3_ok q146 q147 q78 dvX3 dX2_init_1 ?_
  refine gx_dup hC dX2_init_4 (by first | rfl | exact gx_cat_rf _ | exact gx_cat_rn _) ?_
  refine gx_callIN (nA := 0) hC (m_X3_init (γ := fun _ => ([], 0)) gx_us rfl) (lw_meth q150) q78 q148 q149 rfl (by decide +kernel) dX2_init_5 rfl ⟨Nat.le_of_ble_eq_true rfl, Nat.le_of_ble_eq_true rfl⟩ (gx_in.id hC (fun q hq => Or.inr (by omega))) rfl (by first | exact Nat.le_of_ble_eq_true rfl | simp [gx_cat_rf, Value.category]) gx_kno (fun v2 G2 nx2 hp hf hle hlt2 => ?_)
  obtain ⟨rfl, rfl, k2⟩ := hp
  have k1 := hf _ _ (gx_un (by omega) h) (by omega)
  refine gx_callI (nA := 1) hC (m_X2_init_2 k1 rfl) (lw_meth q172) q77 q170 q171 rfl (by decide +kernel) dX2_init_8 rfl ⟨Nat.le_of_ble_eq_true rfl, Nat.le_of_ble_eq_true rfl⟩ (gx_in.id hC (fun q hq => Or.inl hq)) rfl (by first | exact Nat.le_of_ble_eq_true rfl | simp [gx_cat_rf, Value.category]) gx_kno (fun v3 G3 nx3 hp hf3 hle3 hlt3 => ?_)
  obtain ⟨rfl, rfl, r1, r2⟩ := hp
  have r3 : gx_lx D G3 (b + 1) (0, 0, fun _ => 0, fun _ => 0, fun _ => ([], 0)) := k2.mono (fun q e9 _ _ h => hf3 _ _ h (by omega))
  refine gx_iconst hC dX2_init_11 ?_
  refine gx_istore_n hC dX2_init_12 rfl (by decide) (by first | rfl | simp [gx_ck, gx_lk, gx_cat_rf, gx_cat_rn]) ?_
  refine gx_loc (M := [(1, some (.int (iz ((0 : Nat) : Int)))), (0, some (.ref b))]) (by repeat (first | exact trivial | refine ⟨rfl, ?_⟩)) ?_
  refine gx_bud (bc' := 3 * (4 - 0)) (bs' := 66 * (4 - 0)) (by omega) (by omega) ?_
  refine gx_loop (σ := Nat × Int × gx_H) (fun z => z.1 ≤ 4 ∧ z.2.2 b (gx_O 1 [.ref (b + 1), .ref (b + 4)]) ∧ gx_lx D z.2.2 (b + 1) (0, 0, fun _ => 0, fun _ => 0, fun _ => ([], 0)) ∧ gx_AL D z.2.2 (b + 4) (b + 5) z.2.1 4 ([gx_ga b 0 0, gx_ga b 0 1, gx_ga b 0 2, gx_ga b 0 3].take z.1) ∧ ∀ g, g < z.1 → gx_gt D z.2.2 Y (gx_ga b 0 g) g ([], 0)) (fun z => 4 - z.1) (fun z => z.2.2) (fun z => b + 6 + 3 * z.1) (fun z => 3 * (4 - z.1)) (fun z => 66 * (4 - z.1)) (fun z => [(1, some (.int (iz (z.1 : Int)))), (0, some (.ref b))]) (0, 0, G3) ⟨by omega, r1, r3, r2, fun g hg => absurd hg (Nat.not_lt_zero g)⟩ ?_
  rintro ⟨k, mc9, G9⟩ ⟨p0, p2, p3, p4, p6⟩ ih
  dsimp only at p0 p2 p3 p4 p6 ⊢
  refine gx_iload_n hC dX2_init_13 rfl rfl ?_
  refine gx_iconst hC dX2_init_14 ?_
  refine gx_icmp_ge hC dX2_init_15 (tgt := 40) (by decide) (by unfold gx_rg; omega) (by unfold gx_rg; omega) (fun c15 => ?_) (fun c15 => ?_)
  · have e9 : k = 4 := by omega
    subst e9
    exact gx_vret hC rfl rfl rfl dX2_init_40 (fun G' hG => ⟨rfl, by omega, by omega, hG _ _ p2, p3.mono (fun q e9 _ _ h => hG _ _ h), ⟨mc9, p4.mono (fun _ h => hG _ _ h) (fun _ h => hG _ _ h)⟩, fun g hg => (p6 g hg).mono (fun q e9 _ _ h => hG _ _ h) (fun _ _ h => h)⟩)
  · have hk4 : k < 4 := by omega
    refine gx_bud (bc' := 3 * (4 - (k + 1)) + 2 + 1) (bs' := 66 * (4 - (k + 1)) + 63 + 3) (by show _ ≤ 3 * (4 - k); omega) (by show _ ≤ 66 * (4 - k); omega) ?_
    refine gx_lt (fun hlt9 => ?_)
    refine gx_aload_n hC dX2_init_18 rfl rfl (by first | rfl | exact gx_isr_rf _ | exact gx_isr_rn _) ?_
    refine gx_get hC (C := RX2) (Tf := TX2) (N := 2) (ci := 1) (k := 1) rfl in_X2 (by decide) q532 (fun _ h9 => h9) dX2_init_19 (by repeat (first | assumption | exact Or.inr gx_us | exact Or.inr (by assumption) | exact Or.inl (by assumption) | refine gx_tu (by omega) ?_)) rfl ?_
    refine gx_new hC (C := RX4) (Tf := TX4) (N := 3) (ci := 3) (fs := fdX4) rfl in_X4 tyX4 tyX4_ok q539 q540 q98 dvX4 dX2_init_22 ?_
    refine gx_dup hC dX2_init_25 (by first | rfl | exact gx_cat_rf _ | exact gx_cat_rn _) ?_
    refine gx_iload_n hC dX2_init_26 rfl rfl ?_
    refine gx_callI (nA := 1) hC (m_X4_init (Y := Y) (g := k) gx_us rfl) (lw_meth q543) q98 q541 q542 rfl (by decide +kernel) dX2_init_27 rfl ⟨Nat.le_of_ble_eq_true rfl, Nat.le_of_ble_eq_true rfl⟩ (gx_in.id hC (fun q hq => Or.inr (by omega))) rfl (by first | exact Nat.le_of_ble_eq_true rfl | simp [gx_cat_rf, Value.category]) gx_kno (fun v6 G6 nx6 hp hf6 hle6 hlt6 => ?_)
    obtain ⟨rfl, rfl, t1⟩ := hp
    have e8 : b + 6 + 3 * k = gx_ga b 0 k := gx_ga0.symm
    rw [e8] at t1 hf6 ⊢
    have sG : ∀ x e9, G9 x e9 → x < gx_ga b 0 k → G6 x e9 := fun x e9 hx hl => hf6 _ _ (gx_un (by omega) hx) (by omega)
    have e7 : b + 6 ≤ gx_ga b 0 k := by rw [gx_ga0]; omega
    have t2 : gx_AL D G6 (b + 4) (b + 5) mc9 4 ([gx_ga b 0 0, gx_ga b 0 1, gx_ga b 0 2, gx_ga b 0 3].take k) := p4.mono (fun _ h => sG _ _ h (by omega)) (fun _ h => sG _ _ h (by omega))
    have hob : gx_ob (gx_TG T G6) (gx_ga b 0 k) := ⟨3, _, _, _, _, rfl, Or.inr t1.1, q3047⟩
    refine gx_callV (nA := 1) hC (m_J2_add t2 hob (by rw [List.length_take]; show min k 4 < 4; omega) (by omega)) (C := RJ2) (Tf := TJ2) (Nf := 3) (ci := 19) rfl (by first | ((repeat (first | assumption | exact Or.inr gx_us | exact Or.inr (by assumption) | exact Or.inl (by assumption) | refine gx_tu (by omega) ?_)); done) | exact gx_AL.rc (by assumption) | exact gx_AL.rg (by assumption) | exact gx_AL.rt (by assumption) | exact gx_DQ.rc (by assumption) | exact gx_DQ.rg (by assumption) | exact gx_SB.rc (by assumption) | exact gx_SB.rg (by assumption) | exact gx_Sx.rc (by assumption) | exact gx_Sx.rg (by assumption) | exact gx_IT.rc (by assumption) | exact gx_IT.rg (by assumption) | exact gx_gt.rc (by assumption) | exact gx_gt.rg (by assumption) | exact gx_lx.rc (by assumption) | exact gx_lx.rg (by assumption) | exact gx_sst.rc (by assumption) | exact gx_sst.rg (by assumption)) (lw_V q563 q564 q565 q81 q566) (by decide +kernel) dX2_init_30 rfl ⟨Nat.le_of_ble_eq_true rfl, Nat.le_of_ble_eq_true rfl⟩ (gx_in.id hC (fun q hq => Or.inr (by omega))) rfl (by first | exact Nat.le_of_ble_eq_true rfl | simp [gx_cat_rf, Value.category]) gx_kno (fun v7 G7 nx7 hp hf7 hle7 hlt7 => ?_)
    obtain ⟨rfl, rfl, u1⟩ := hp
    rw [← gx_gal_take hk4] at u1
    refine gx_pop hC dX2_init_33 (by first | rfl | exact gx_cat_rf _ | exact gx_cat_rn _) ?_
    refine gx_iinc hC dX2_init_34 rfl (by decide) (by first | rfl | simp [gx_ck, gx_lk, gx_cat_rf, gx_cat_rn]) ?_
    refine gx_goto hC dX2_init_37 (tgt := 13) (by decide) ?_
    refine gx_loc (M := [(1, some (.int (iz ((k + 1 : Nat) : Int)))), (0, some (.ref b))]) (by repeat (first | exact trivial | refine ⟨rfl, ?_⟩)) ?_
    rw [show gx_ga b 0 k + 1 + 2 = b + 6 + 3 * (k + 1) by rw [gx_ga0]; omega]
    refine ih (k + 1, mc9 + 1, G7) ⟨by omega, hf7 _ _ (sG _ _ p2 (by omega)) (by omega), p3.mono (fun q e9 _ _ h => hf7 _ _ (sG _ _ h (by omega)) (by omega)), u1, fun g hg => ?_⟩ (by dsimp only; omega)
    by_cases ej : g = k
    · subst ej
      exact t1.mono (fun q e9 h8 _ h => hf7 _ _ h (by omega)) (fun _ _ h => h)
    · have hga : gx_ga b 0 g + 3 ≤ gx_ga b 0 k := gx_ga_lt (by omega)
      exact (p6 g (by omega)).mono (fun q e9 h8 h7 h => hf7 _ _ (sG _ _ h (by omega)) (by rw [gx_ga0] at h8; omega)) (fun _ _ h => h)
theorem m_X2_appendNoun {g i x : Int} (h : gx_sst D G Y b w S) (hok : gs_okS B S) (hY : gx_yok T G (gx_rg1 b w) Y) (hg : gx_rg g) (hi : gx_rg i) (hx : gx_rg x) : gx_Met l yX2_appendNoun (ws_ yX2_appendNoun cX2_appendNoun 5 (some .int)) 14 5 27 D (gx_rg1 b w) T G nx [.ref b, .int (iz g), .int (iz i), .int (iz x)] (fun v G' nx' => v = some (.int (iz ((S.gt g.toNat).tk.length + 1))) ∧ nx' = nx + 1 ∧ (0 ≤ g ∧ g < 4) ∧ (0 ≤ i ∧ i < S.nn) ∧ (0 ≤ x ∧ x ≤ 3) ∧ (S.gt g.toNat).tk.length < 24 ∧ G' nx (gx_tok (0, i, x)) ∧ gx_sst D G' (fun a e => Y a e ∨ (a = nx ∧ e = gx_tok (0, i, x))) b w (gs_sg S g.toNat ((S.gt g.toNat).tk ++ [(0, i, x)], (S.gt g.toNat).wk))) (fun E _ _ _ => (E = gx_IOB ∧ (¬ (0 ≤ g ∧ g < 4) ∨ ¬ (0 ≤ i ∧ i < S.nn))) ∨ ((0 ≤ g ∧ g < 4) ∧ (0 ≤ i ∧ i < S.nn) ∧ ((E = gx_IAE ∧ ¬ (0 ≤ x ∧ x ≤ 3)) ∨ (E = gx_ISE ∧ (0 ≤ x ∧ x ≤ 3) ∧ (S.gt g.toNat).tk.length = 24)))) := by
  have h' : gx_sst D (gx_TG T G) Y b w S := h.mono (fun _ _ _ => Or.inr) (fun _ _ h => h)
  have hw := h.1
  have hn := hok.1
  have hn2 := hok.2.1
  refine gx_start (by decide) (Nat.le_of_ble_eq_true rfl) rfl (fun p e s m args below meth c hC hlt => ?_)
  have hbx := hlt _ _ h.2.1
  refine gx_aload_n hC dX2_appendNoun_0 rfl rfl (by first | rfl | exact gx_isr_rf _ | exact gx_isr_rn _) ?_
  refine gx_iload_n hC dX2_appendNoun_1 rfl rfl ?_
  refine gx_callV (nA := 1) hC (m_X2_gate h' hg) (C := RX2) (Tf := TX2) (Nf := 2) (ci := 1) rfl (by first | ((repeat (first | assumption | exact Or.inr gx_us | exact Or.inr (by assumption) | exact Or.inl (by assumption) | refine gx_tu (by omega) ?_)); done) | exact gx_AL.rc (by assumption) | exact gx_AL.rg (by assumption) | exact gx_AL.rt (by assumption) | exact gx_DQ.rc (by assumption) | exact gx_DQ.rg (by assumption) | exact gx_SB.rc (by assumption) | exact gx_SB.rg (by assumption) | exact gx_Sx.rc (by assumption) | exact gx_Sx.rg (by assumption) | exact gx_IT.rc (by assumption) | exact gx_IT.rg (by assumption) | exact gx_gt.rc (by assumption) | exact gx_gt.rg (by assumption) | exact gx_lx.rc (by assumption) | exact gx_lx.rg (by assumption) | exact gx_sst.rc (by assumption) | exact gx_sst.rg (by assumption)) (lw_V q1714 q1339 q1340 q77 q1341) (by decide +kernel) dX2_appendNoun_2 rfl ⟨Nat.le_of_ble_eq_true rfl, Nat.le_of_ble_eq_true rfl⟩ gx_in.id0 rfl (by first | exact Nat.le_of_ble_eq_true rfl | simp [gx_cat_rf, Value.category]) (fun E9 q9 G9 nx9 hp9 hf9 hle9 hlt9 => gx_out hC rfl rfl (by first | (intro x9 h9; cases h9) | decide) (fun G' hG => (Or.inl ⟨hp9.1, Or.inl hp9.2⟩))) (fun v2 G2 nx2 hp hf hle hlt2 => ?_)
  obtain ⟨hg2, rfl, rfl⟩ := hp
  obtain ⟨k, rfl⟩ : ∃ k : Nat, g = k := ⟨g.toNat, by omega⟩
  rw [Int.toNat_natCast]
  have hk4 : k < 4 := by omega
  have kG : gx_le G G2 := fun x e9 hx => hf _ _ hx (fun q => q)
  have k0 : gx_sst D G2 Y b w S := h.mono (fun q e9 _ h => kG _ _ h) (fun _ _ h => h)
  have k1 := k0.2.1
  have k2 := k0.2.2.1.1
  have k3 := (k0.gate hk4)
  have k4 := k3.1
  refine gx_astore hC dX2_appendNoun_5 (by decide) (by first | rfl | simp [gx_ck, gx_lk, gx_cat_rf, gx_cat_rn]) (by first | rfl | exact gx_isr_rf _ | exact gx_isr_rn _) ?_
  refine gx_iload_n hC dX2_appendNoun_7 rfl rfl ?_
  refine gx_aload_n hC dX2_appendNoun_8 rfl rfl (by first | rfl | exact gx_isr_rf _ | exact gx_isr_rn _) ?_
  refine gx_get hC (C := RX2) (Tf := TX2) (N := 2) (ci := 1) (k := 0) rfl in_X2 (by decide) q530 (fun _ h9 => h9) dX2_appendNoun_9 (by repeat (first | assumption | exact Or.inr gx_us | exact Or.inr (by assumption) | exact Or.inl (by assumption) | refine gx_tu (by omega) ?_)) rfl ?_
  refine gx_getN hC (C := RX3) (Tf := TX3) (N := 4) (ci := 2) (k := 2) rfl in_X3 (by decide) q155 (fun _ h9 => h9) dX2_appendNoun_12 (by repeat (first | assumption | exact Or.inr gx_us | exact Or.inr (by assumption) | exact Or.inl (by assumption) | refine gx_tu (by omega) ?_)) rfl ?_
  refine gx_callSN (nA := 2) hC (m_X1_checkIndex (i := i) (n := S.nn) hi (by unfold gx_rg; omega) (by omega)) (lw_meth q1012) q76 q1342 q1011 (by decide +kernel) dX2_appendNoun_15 rfl ⟨Nat.le_of_ble_eq_true rfl, Nat.le_of_ble_eq_true rfl⟩ gx_in.id0 rfl (by first | exact Nat.le_of_ble_eq_true rfl | simp [gx_cat_rf, Value.category]) (fun E9 q9 G9 nx9 hp9 hf9 hle9 hlt9 => gx_out hC rfl rfl (by first | (intro x9 h9; cases h9) | decide) (fun G' hG => (Or.inl ⟨hp9.1, Or.inr hp9.2⟩))) (fun v3 G3 nx3 hp hf3 hle3 hlt3 => ?_)
  obtain ⟨hi2, rfl, rfl⟩ := hp
  refine gx_iload_n hC dX2_appendNoun_18 rfl rfl ?_
  refine gx_iconst hC dX2_appendNoun_19 ?_
  refine gx_iconst hC dX2_appendNoun_20 ?_
  refine gx_callSN (nA := 3) hC (m_X1_isBetween (v := x) (lo := 0) (hi := 3) hx (by unfold gx_rg; omega) (by unfold gx_rg; omega)) (lw_meth q1015) q76 q1715 q1014 (by decide +kernel) dX2_appendNoun_21 rfl ⟨Nat.le_of_ble_eq_true rfl, Nat.le_of_ble_eq_true rfl⟩ gx_in.id0 rfl (by first | exact Nat.le_of_ble_eq_true rfl | simp [gx_cat_rf, Value.category]) gx_kno (gx_kp1 ?_)
  refine gx_callSN (nA := 1) hC (m_X1_checkArgument gx_bR) (lw_meth q1580) q76 q1716 q1579 (by decide +kernel) dX2_appendNoun_24 rfl ⟨Nat.le_of_ble_eq_true rfl, Nat.le_of_ble_eq_true rfl⟩ gx_in.id0 rfl (by first | exact Nat.le_of_ble_eq_true rfl | simp [gx_cat_rf, Value.category]) (fun E9 q9 G9 nx9 hp9 hf9 hle9 hlt9 => gx_out hC rfl rfl (by first | (intro x9 h9; cases h9) | decide) (fun G' hG => (Or.inr ⟨hg2, hi2, Or.inl ⟨hp9.1, gx_be.mp hp9.2⟩⟩))) (fun v4 G4 nx4 hp hf4 hle4 hlt4 => ?_)
  obtain ⟨hx2, rfl, rfl⟩ := hp
  rw [gx_bn] at hx2
  have rG : gx_le G G4 := fun x e9 hx => hf4 _ _ (hf3 _ _ (kG _ _ hx) (fun q => q)) (fun q => q)
  refine gx_aload hC dX2_appendNoun_27 rfl (by first | rfl | exact gx_isr_rf _ | exact gx_isr_rn _) ?_
  refine gx_new hC (C := RX7) (Tf := TX7) (N := 3) (ci := 6) (fs := fdX7) rfl in_X7 tyX7 tyX7_ok q1717 q1718 q108 dvX7 dX2_appendNoun_29 ?_
  refine gx_dup hC dX2_appendNoun_32 (by first | rfl | exact gx_cat_rf _ | exact gx_cat_rn _) ?_
  refine gx_iconst hC dX2_appendNoun_33 ?_
  refine gx_iload_n hC dX2_appendNoun_34 rfl rfl ?_
  refine gx_iload_n hC dX2_appendNoun_35 rfl rfl ?_
  refine gx_callI (nA := 3) hC (m_X7_init (x := 0) (y := i) (z := x) gx_us) (lw_meth q1721) q108 q1719 q1720 rfl (by decide +kernel) dX2_appendNoun_36 rfl ⟨Nat.le_of_ble_eq_true rfl, Nat.le_of_ble_eq_true rfl⟩ (gx_in.id hC (fun q hq => Or.inr (by omega))) rfl (by first | exact Nat.le_of_ble_eq_true rfl | simp [gx_cat_rf, Value.category]) gx_kno (fun v5 G5 nx5 hp hf5 hle5 hlt5 => ?_)
  obtain ⟨rfl, rfl, r1⟩ := hp
  have sG : gx_le G G5 := fun x e9 hx => hf5 _ _ (gx_un (by have := hlt _ _ hx; omega) (rG _ _ hx)) (by have := hlt _ _ hx; omega)
  have s0 : gx_sst D G5 Y b w S := h.mono (fun q e9 _ h => sG _ _ h) (fun _ _ h => h)
  have s1 := s0.gate hk4
  have hga := gx_ga_rg (b := b) hw hk4
  have hgl := hlt _ _ (h.gate hk4).1
  obtain ⟨f2, hf2, -⟩ := (h.gate hk4).2.choose_spec.choose_spec.1.2.1
  have hgl2 := hlt _ _ hf2
  have hvM : ¬ gx_gM (gx_ga b w k) nx4 := fun q => by have := q.2; omega
  have hY5 : ∀ x t, Y x (gx_tok t) → gx_TG T G5 x (gx_tok t) := fun x t h => sG.tg (hY x t h).1
  refine gx_callV (nA := 1) hC (m_X4_add s1 (hok.2.2.2.2 k hk4).1 (Or.inr r1) hvM hY5) (C := RX4) (Tf := TX4) (Nf := 3) (ci := 3) rfl (by first | ((repeat (first | assumption | exact Or.inr gx_us | exact Or.inr (by assumption) | exact Or.inl (by assumption) | refine gx_tu (by omega) ?_)); done) | exact gx_AL.rc (by assumption) | exact gx_AL.rg (by assumption) | exact gx_AL.rt (by assumption) | exact gx_DQ.rc (by assumption) | exact gx_DQ.rg (by assumption) | exact gx_SB.rc (by assumption) | exact gx_SB.rg (by assumption) | exact gx_Sx.rc (by assumption) | exact gx_Sx.rg (by assumption) | exact gx_IT.rc (by assumption) | exact gx_IT.rg (by assumption) | exact gx_gt.rc (by assumption) | exact gx_gt.rg (by assumption) | exact gx_lx.rc (by assumption) | exact gx_lx.rg (by assumption) | exact gx_sst.rc (by assumption) | exact gx_sst.rg (by assumption)) (lw_V q1740 q1741 q1742 q98 q1743) (by decide +kernel) dX2_appendNoun_39 rfl ⟨Nat.le_of_ble_eq_true rfl, Nat.le_of_ble_eq_true rfl⟩ (gx_in.id hC (fun q hq => Or.inl (gx_rg1_g hw hk4 hq))) rfl (by first | exact Nat.le_of_ble_eq_true rfl | simp [gx_cat_rf, Value.category]) (fun E9 q9 G9 nx9 hp9 hf9 hle9 hlt9 => gx_out hC rfl rfl (by first | (intro x9 h9; cases h9) | decide) (fun G' hG => (Or.inr ⟨hg2, hi2, Or.inr ⟨hp9.1, hx2, hp9.2⟩⟩))) (fun v6 G6 nx6 hp hf6 hle6 hlt6 => ?_)
  obtain ⟨rfl, rfl, hl2, t1⟩ := hp
  exact gx_iret hC rfl rfl rfl dX2_appendNoun_42 (fun G' hG => ⟨rfl, rfl, hg2, hi2, hx2, hl2, hG _ _ (hf6 _ _ r1 hvM), (s0.sg hk4 t1 (fun q e9 h8 h7 => hf6 _ _ h8 h7) (fun a t h => Or.inl h)).mono (fun _ _ _ h => hG _ _ h) (fun _ _ h => h)⟩)
theorem m_X2_appendVerb {g i x : Int} (h : gx_sst D G Y b w S) (hok : gs_okS B S) (hY : gx_yok T G (gx_rg1 b w) Y) (hg : gx_rg g) (hi : gx_rg i) (hx : gx_rg x) : gx_Met l yX2_appendVerb (ws_ yX2_appendVerb cX2_appendVerb 5 (some .int)) 14 5 27 D (gx_rg1 b w) T G nx [.ref b, .int (iz g), .int (iz i), .int (iz x)] (fun v G' nx' => v = some (.int (iz ((S.gt g.toNat).tk.length + 1))) ∧ nx' = nx + 1 ∧ (0 ≤ g ∧ g < 4) ∧ (0 ≤ i ∧ i < S.vn) ∧ (0 ≤ x ∧ x ≤ 2) ∧ (S.gt g.toNat).tk.length < 24 ∧ G' nx (gx_tok (1, i, x)) ∧ gx_sst D G' (fun a e => Y a e ∨ (a = nx ∧ e = gx_tok (1, i, x))) b w (gs_sg S g.toNat ((S.gt g.toNat).tk ++ [(1, i, x)], (S.gt g.toNat).wk))) (fun E _ _ _ => (E = gx_IOB ∧ (¬ (0 ≤ g ∧ g < 4) ∨ ¬ (0 ≤ i ∧ i < S.vn))) ∨ ((0 ≤ g ∧ g < 4) ∧ (0 ≤ i ∧ i < S.vn) ∧ ((E = gx_IAE ∧ ¬ (0 ≤ x ∧ x ≤ 2)) ∨ (E = gx_ISE ∧ (0 ≤ x ∧ x ≤ 2) ∧ (S.gt g.toNat).tk.length = 24)))) := by
  have h' : gx_sst D (gx_TG T G) Y b w S := h.mono (fun _ _ _ => Or.inr) (fun _ _ h => h)
  have hw := h.1
  have hn := hok.1
  have hn2 := hok.2.1
  refine gx_start (by decide) (Nat.le_of_ble_eq_true rfl) rfl (fun p e s m args below meth c hC hlt => ?_)
  have hbx := hlt _ _ h.2.1
  refine gx_aload_n hC dX2_appendVerb_0 rfl rfl (by first | rfl | exact gx_isr_rf _ | exact gx_isr_rn _) ?_
  refine gx_iload_n hC dX2_appendVerb_1 rfl rfl ?_
  refine gx_callV (nA := 1) hC (m_X2_gate h' hg) (C := RX2) (Tf := TX2) (Nf := 2) (ci := 1) rfl (by first | ((repeat (first | assumption | exact Or.inr gx_us | exact Or.inr (by assumption) | exact Or.inl (by assumption) | refine gx_tu (by omega) ?_)); done) | exact gx_AL.rc (by assumption) | exact gx_AL.rg (by assumption) | exact gx_AL.rt (by assumption) | exact gx_DQ.rc (by assumption) | exact gx_DQ.rg (by assumption) | exact gx_SB.rc (by assumption) | exact gx_SB.rg (by assumption) | exact gx_Sx.rc (by assumption) | exact gx_Sx.rg (by assumption) | exact gx_IT.rc (by assumption) | exact gx_IT.rg (by assumption) | exact gx_gt.rc (by assumption) | exact gx_gt.rg (by assumption) | exact gx_lx.rc (by assumption) | exact gx_lx.rg (by assumption) | exact gx_sst.rc (by assumption) | exact gx_sst.rg (by assumption)) (lw_V q1714 q1339 q1340 q77 q1341) (by decide +kernel) dX2_appendVerb_2 rfl ⟨Nat.le_of_ble_eq_true rfl, Nat.le_of_ble_eq_true rfl⟩ gx_in.id0 rfl (by first | exact Nat.le_of_ble_eq_true rfl | simp [gx_cat_rf, Value.category]) (fun E9 q9 G9 nx9 hp9 hf9 hle9 hlt9 => gx_out hC rfl rfl (by first | (intro x9 h9; cases h9) | decide) (fun G' hG => (Or.inl ⟨hp9.1, Or.inl hp9.2⟩))) (fun v2 G2 nx2 hp hf hle hlt2 => ?_)
  obtain ⟨hg2, rfl, rfl⟩ := hp
  obtain ⟨k, rfl⟩ : ∃ k : Nat, g = k := ⟨g.toNat, by omega⟩
  rw [Int.toNat_natCast]
  have hk4 : k < 4 := by omega
  have kG : gx_le G G2 := fun x e9 hx => hf _ _ hx (fun q => q)
  have k0 : gx_sst D G2 Y b w S := h.mono (fun q e9 _ h => kG _ _ h) (fun _ _ h => h)
  have k1 := k0.2.1
  have k2 := k0.2.2.1.1
  have k3 := (k0.gate hk4)
  have k4 := k3.1
  refine gx_astore hC dX2_appendVerb_5 (by decide) (by first | rfl | simp [gx_ck, gx_lk, gx_cat_rf, gx_cat_rn]) (by first | rfl | exact gx_isr_rf _ | exact gx_isr_rn _) ?_
  refine gx_iload_n hC dX2_appendVerb_7 rfl rfl ?_
  refine gx_aload_n hC dX2_appendVerb_8 rfl rfl (by first | rfl | exact gx_isr_rf _ | exact gx_isr_rn _) ?_
  refine gx_get hC (C := RX2) (Tf := TX2) (N := 2) (ci := 1) (k := 0) rfl in_X2 (by decide) q530 (fun _ h9 => h9) dX2_appendVerb_9 (by repeat (first | assumption | exact Or.inr gx_us | exact Or.inr (by assumption) | exact Or.inl (by assumption) | refine gx_tu (by omega) ?_)) rfl ?_
  refine gx_getN hC (C := RX3) (Tf := TX3) (N := 4) (ci := 2) (k := 3) rfl in_X3 (by decide) q158 (fun _ h9 => h9) dX2_appendVerb_12 (by repeat (first | assumption | exact Or.inr gx_us | exact Or.inr (by assumption) | exact Or.inl (by assumption) | refine gx_tu (by omega) ?_)) rfl ?_
  refine gx_callSN (nA := 2) hC (m_X1_checkIndex (i := i) (n := S.vn) hi (by unfold gx_rg; omega) (by omega)) (lw_meth q1012) q76 q1342 q1011 (by decide +kernel) dX2_appendVerb_15 rfl ⟨Nat.le_of_ble_eq_true rfl, Nat.le_of_ble_eq_true rfl⟩ gx_in.id0 rfl (by first | exact Nat.le_of_ble_eq_true rfl | simp [gx_cat_rf, Value.category]) (fun E9 q9 G9 nx9 hp9 hf9 hle9 hlt9 => gx_out hC rfl rfl (by first | (intro x9 h9; cases h9) | decide) (fun G' hG => (Or.inl ⟨hp9.1, Or.inr hp9.2⟩))) (fun v3 G3 nx3 hp hf3 hle3 hlt3 => ?_)
  obtain ⟨hi2, rfl, rfl⟩ := hp
  refine gx_iload_n hC dX2_appendVerb_18 rfl rfl ?_
  refine gx_iconst hC dX2_appendVerb_19 ?_
  refine gx_iconst hC dX2_appendVerb_20 ?_
  refine gx_callSN (nA := 3) hC (m_X1_isBetween (v := x) (lo := 0) (hi := 2) hx (by unfold gx_rg; omega) (by unfold gx_rg; omega)) (lw_meth q1015) q76 q1715 q1014 (by decide +kernel) dX2_appendVerb_21 rfl ⟨Nat.le_of_ble_eq_true rfl, Nat.le_of_ble_eq_true rfl⟩ gx_in.id0 rfl (by first | exact Nat.le_of_ble_eq_true rfl | simp [gx_cat_rf, Value.category]) gx_kno (gx_kp1 ?_)
  refine gx_callSN (nA := 1) hC (m_X1_checkArgument gx_bR) (lw_meth q1580) q76 q1716 q1579 (by decide +kernel) dX2_appendVerb_24 rfl ⟨Nat.le_of_ble_eq_true rfl, Nat.le_of_ble_eq_true rfl⟩ gx_in.id0 rfl (by first | exact Nat.le_of_ble_eq_true rfl | simp [gx_cat_rf, Value.category]) (fun E9 q9 G9 nx9 hp9 hf9 hle9 hlt9 => gx_out hC rfl rfl (by first | (intro x9 h9; cases h9) | decide) (fun G' hG => (Or.inr ⟨hg2, hi2, Or.inl ⟨hp9.1, gx_be.mp hp9.2⟩⟩))) (fun v4 G4 nx4 hp hf4 hle4 hlt4 => ?_)
  obtain ⟨hx2, rfl, rfl⟩ := hp
  rw [gx_bn] at hx2
  have rG : gx_le G G4 := fun x e9 hx => hf4 _ _ (hf3 _ _ (kG _ _ hx) (fun q => q)) (fun q => q)
  refine gx_aload hC dX2_appendVerb_27 rfl (by first | rfl | exact gx_isr_rf _ | exact gx_isr_rn _) ?_
  refine gx_new hC (C := RX7) (Tf := TX7) (N := 3) (ci := 6) (fs := fdX7) rfl in_X7 tyX7 tyX7_ok q1717 q1718 q108 dvX7 dX2_appendVerb_29 ?_
  refine gx_dup hC dX2_appendVerb_32 (by first | rfl | exact gx_cat_rf _ | exact gx_cat_rn _) ?_
  refine gx_iconst hC dX2_appendVerb_33 ?_
  refine gx_iload_n hC dX2_appendVerb_34 rfl rfl ?_
  refine gx_iload_n hC dX2_appendVerb_35 rfl rfl ?_
  refine gx_callI (nA := 3) hC (m_X7_init (x := 1) (y := i) (z := x) gx_us) (lw_meth q1721) q108 q1719 q1720 rfl (by decide +kernel) dX2_appendVerb_36 rfl ⟨Nat.le_of_ble_eq_true rfl, Nat.le_of_ble_eq_true rfl⟩ (gx_in.id hC (fun q hq => Or.inr (by omega))) rfl (by first | exact Nat.le_of_ble_eq_true rfl | simp [gx_cat_rf, Value.category]) gx_kno (fun v5 G5 nx5 hp hf5 hle5 hlt5 => ?_)
  obtain ⟨rfl, rfl, r1⟩ := hp
  have sG : gx_le G G5 := fun x e9 hx => hf5 _ _ (gx_un (by have := hlt _ _ hx; omega) (rG _ _ hx)) (by have := hlt _ _ hx; omega)
  have s0 : gx_sst D G5 Y b w S := h.mono (fun q e9 _ h => sG _ _ h) (fun _ _ h => h)
  have s1 := s0.gate hk4
  have hga := gx_ga_rg (b := b) hw hk4
  have hgl := hlt _ _ (h.gate hk4).1
  obtain ⟨f2, hf2, -⟩ := (h.gate hk4).2.choose_spec.choose_spec.1.2.1
  have hgl2 := hlt _ _ hf2
  have hvM : ¬ gx_gM (gx_ga b w k) nx4 := fun q => by have := q.2; omega
  have hY5 : ∀ x t, Y x (gx_tok t) → gx_TG T G5 x (gx_tok t) := fun x t h => sG.tg (hY x t h).1
  refine gx_callV (nA := 1) hC (m_X4_add s1 (hok.2.2.2.2 k hk4).1 (Or.inr r1) hvM hY5) (C := RX4) (Tf := TX4) (Nf := 3) (ci := 3) rfl (by first | ((repeat (first | assumption | exact Or.inr gx_us | exact Or.inr (by assumption) | exact Or.inl (by assumption) | refine gx_tu (by omega) ?_)); done) | exact gx_AL.rc (by assumption) | exact gx_AL.rg (by assumption) | exact gx_AL.rt (by assumption) | exact gx_DQ.rc (by assumption) | exact gx_DQ.rg (by assumption) | exact gx_SB.rc (by assumption) | exact gx_SB.rg (by assumption) | exact gx_Sx.rc (by assumption) | exact gx_Sx.rg (by assumption) | exact gx_IT.rc (by assumption) | exact gx_IT.rg (by assumption) | exact gx_gt.rc (by assumption) | exact gx_gt.rg (by assumption) | exact gx_lx.rc (by assumption) | exact gx_lx.rg (by assumption) | exact gx_sst.rc (by assumption) | exact gx_sst.rg (by assumption)) (lw_V q1740 q1741 q1742 q98 q1743) (by decide +kernel) dX2_appendVerb_39 rfl ⟨Nat.le_of_ble_eq_true rfl, Nat.le_of_ble_eq_true rfl⟩ (gx_in.id hC (fun q hq => Or.inl (gx_rg1_g hw hk4 hq))) rfl (by first | exact Nat.le_of_ble_eq_true rfl | simp [gx_cat_rf, Value.category]) (fun E9 q9 G9 nx9 hp9 hf9 hle9 hlt9 => gx_out hC rfl rfl (by first | (intro x9 h9; cases h9) | decide) (fun G' hG => (Or.inr ⟨hg2, hi2, Or.inr ⟨hp9.1, hx2, hp9.2⟩⟩))) (fun v6 G6 nx6 hp hf6 hle6 hlt6 => ?_)
  obtain ⟨rfl, rfl, hl2, t1⟩ := hp
  exact gx_iret hC rfl rfl rfl dX2_appendVerb_42 (fun G' hG => ⟨rfl, rfl, hg2, hi2, hx2, hl2, hG _ _ (hf6 _ _ r1 hvM), (s0.sg hk4 t1 (fun q e9 h8 h7 => hf6 _ _ h8 h7) (fun a t h => Or.inl h)).mono (fun _ _ _ h => hG _ _ h) (fun _ _ h => h)⟩)
theorem m_X2_appendMark {g x : Int} (h : gx_sst D G Y b w S) (hok : gs_okS B S) (hY : gx_yok T G (gx_rg1 b w) Y) (hg : gx_rg g) : gx_Met l yX2_appendMark (ws_ yX2_appendMark cX2_appendMark 3 (some .int)) 14 4 21 D (gx_rg1 b w) T G nx [.ref b, .int (iz g), .int (iz x)] (fun v G' nx' => v = some (.int (iz ((S.gt g.toNat).tk.length + 1))) ∧ nx' = nx + 1 ∧ (0 ≤ g ∧ g < 4) ∧ (S.gt g.toNat).tk.length < 24 ∧ G' nx (gx_tok (x, 0, 0)) ∧ gx_sst D G' (fun a e => Y a e ∨ (a = nx ∧ e = gx_tok (x, 0, 0))) b w (gs_sg S g.toNat ((S.gt g.toNat).tk ++ [(x, 0, 0)], (S.gt g.toNat).wk))) (fun E _ _ _ => (E = gx_IOB ∧ ¬ (0 ≤ g ∧ g < 4)) ∨ ((0 ≤ g ∧ g < 4) ∧ E = gx_ISE ∧ (S.gt g.toNat).tk.length = 24)) := by
  have h' : gx_sst D (gx_TG T G) Y b w S := h.mono (fun _ _ _ => Or.inr) (fun _ _ h => h)
  have hw := h.1
  refine gx_start (by decide) (Nat.le_of_ble_eq_true rfl) rfl (fun p e s m args below meth c hC hlt => ?_)
  have hbx := hlt _ _ h.2.1
  refine gx_aload_n hC dX2_appendMark_0 rfl rfl (by first | rfl | exact gx_isr_rf _ | exact gx_isr_rn _) ?_
  refine gx_iload_n hC dX2_appendMark_1 rfl rfl ?_
  refine gx_callV (nA := 1) hC (m_X2_gate h' hg) (C := RX2) (Tf := TX2) (Nf := 2) (ci := 1) rfl (by first | ((repeat (first | assumption | exact Or.inr gx_us | exact Or.inr (by assumption) | exact Or.inl (by assumption) | refine gx_tu (by omega) ?_)); done) | exact gx_AL.rc (by assumption) | exact gx_AL.rg (by assumption) | exact gx_AL.rt (by assumption) | exact gx_DQ.rc (by assumption) | exact gx_DQ.rg (by assumption) | exact gx_SB.rc (by assumption) | exact gx_SB.rg (by assumption) | exact gx_Sx.rc (by assumption) | exact gx_Sx.rg (by assumption) | exact gx_IT.rc (by assumption) | exact gx_IT.rg (by assumption) | exact gx_gt.rc (by assumption) | exact gx_gt.rg (by assumption) | exact gx_lx.rc (by assumption) | exact gx_lx.rg (by assumption) | exact gx_sst.rc (by assumption) | exact gx_sst.rg (by assumption)) (lw_V q1714 q1339 q1340 q77 q1341) (by decide +kernel) dX2_appendMark_2 rfl ⟨Nat.le_of_ble_eq_true rfl, Nat.le_of_ble_eq_true rfl⟩ gx_in.id0 rfl (by first | exact Nat.le_of_ble_eq_true rfl | simp [gx_cat_rf, Value.category]) (fun E9 q9 G9 nx9 hp9 hf9 hle9 hlt9 => gx_out hC rfl rfl (by first | (intro x9 h9; cases h9) | decide) (fun G' hG => (Or.inl ⟨hp9.1, hp9.2⟩))) (fun v2 G2 nx2 hp hf hle hlt2 => ?_)
  obtain ⟨hg2, rfl, rfl⟩ := hp
  obtain ⟨k, rfl⟩ : ∃ k : Nat, g = k := ⟨g.toNat, by omega⟩
  rw [Int.toNat_natCast]
  have hk4 : k < 4 := by omega
  have rG : gx_le G G2 := fun x e9 hx => hf _ _ hx (fun q => q)
  refine gx_new hC (C := RX7) (Tf := TX7) (N := 3) (ci := 6) (fs := fdX7) rfl in_X7 tyX7 tyX7_ok q1717 q1718 q108 dvX7 dX2_appendMark_5 ?_
  refine gx_dup hC dX2_appendMark_8 (by first | rfl | exact gx_cat_rf _ | exact gx_cat_rn _) ?_
  refine gx_iload_n hC dX2_appendMark_9 rfl rfl ?_
  refine gx_callI (nA := 1) hC (m_X7_init_2 (x := x) gx_us) (lw_meth q1774) q108 q1772 q1773 rfl (by decide +kernel) dX2_appendMark_10 rfl ⟨Nat.le_of_ble_eq_true rfl, Nat.le_of_ble_eq_true rfl⟩ (gx_in.id hC (fun q hq => Or.inr (by omega))) rfl (by first | exact Nat.le_of_ble_eq_true rfl | simp [gx_cat_rf, Value.category]) gx_kno (fun v5 G5 nx5 hp hf5 hle5 hlt5 => ?_)
  obtain ⟨rfl, rfl, r1⟩ := hp
  have sG : gx_le G G5 := fun x e9 hx => hf5 _ _ (gx_un (by have := hlt _ _ hx; omega) (rG _ _ hx)) (by have := hlt _ _ hx; omega)
  have s0 : gx_sst D G5 Y b w S := h.mono (fun q e9 _ h => sG _ _ h) (fun _ _ h => h)
  have s1 := s0.gate hk4
  have hga := gx_ga_rg (b := b) hw hk4
  have hgl := hlt _ _ (h.gate hk4).1
  obtain ⟨f2, hf2, -⟩ := (h.gate hk4).2.choose_spec.choose_spec.1.2.1
  have hgl2 := hlt _ _ hf2
  have hvM : ¬ gx_gM (gx_ga b w k) nx2 := fun q => by have := q.2; omega
  have hY5 : ∀ x t, Y x (gx_tok t) → gx_TG T G5 x (gx_tok t) := fun x t h => sG.tg (hY x t h).1
  refine gx_callV (nA := 1) hC (m_X4_add s1 (hok.2.2.2.2 k hk4).1 (Or.inr r1) hvM hY5) (C := RX4) (Tf := TX4) (Nf := 3) (ci := 3) rfl (by first | ((repeat (first | assumption | exact Or.inr gx_us | exact Or.inr (by assumption) | exact Or.inl (by assumption) | refine gx_tu (by omega) ?_)); done) | exact gx_AL.rc (by assumption) | exact gx_AL.rg (by assumption) | exact gx_AL.rt (by assumption) | exact gx_DQ.rc (by assumption) | exact gx_DQ.rg (by assumption) | exact gx_SB.rc (by assumption) | exact gx_SB.rg (by assumption) | exact gx_Sx.rc (by assumption) | exact gx_Sx.rg (by assumption) | exact gx_IT.rc (by assumption) | exact gx_IT.rg (by assumption) | exact gx_gt.rc (by assumption) | exact gx_gt.rg (by assumption) | exact gx_lx.rc (by assumption) | exact gx_lx.rg (by assumption) | exact gx_sst.rc (by assumption) | exact gx_sst.rg (by assumption)) (lw_V q1740 q1741 q1742 q98 q1743) (by decide +kernel) dX2_appendMark_13 rfl ⟨Nat.le_of_ble_eq_true rfl, Nat.le_of_ble_eq_true rfl⟩ (gx_in.id hC (fun q hq => Or.inl (gx_rg1_g hw hk4 hq))) rfl (by first | exact Nat.le_of_ble_eq_true rfl | simp [gx_cat_rf, Value.category]) (fun E9 q9 G9 nx9 hp9 hf9 hle9 hlt9 => gx_out hC rfl rfl (by first | (intro x9 h9; cases h9) | decide) (fun G' hG => (Or.inr ⟨hg2, hp9⟩))) (fun v6 G6 nx6 hp hf6 hle6 hlt6 => ?_)
  obtain ⟨rfl, rfl, hl2, t1⟩ := hp
  exact gx_iret hC rfl rfl rfl dX2_appendMark_16 (fun G' hG => ⟨rfl, rfl, hg2, hl2, hG _ _ (hf6 _ _ r1 hvM), (s0.sg hk4 t1 (fun q e9 h8 h7 => hf6 _ _ h8 h7) (fun a t h => Or.inl h)).mono (fun _ _ _ h => hG _ _ h) (fun _ _ h => h)⟩)
end STB
section HIS
variable {l : Launch} {D : gx_D} {T G : gx_H} {nx : Nat} {a d ed v : Nat} {xs : List Nat}
/-- a History at a, its deque at d, ed -/
def gx_hi (D : gx_D) (X : gx_H) (a d ed : Nat) (xs : List Nat) : Prop := X a (gx_O 4 [.ref d, .int (iz 8)]) ∧ gx_DQ D X d ed xs ∧ a ≠ d ∧ a ≠ ed
theorem gx_hi.mono {X X' : gx_H} (h : gx_hi D X a d ed xs) (hd : ∀ q e, (q = a ∨ q = d ∨ q = ed) → X q e → X' q e) : gx_hi D X' a d ed xs := ⟨hd _ _ (Or.inl rfl) h.1, h.2.1.mono (hd _ · (Or.inr (Or.inl rfl))) (hd _ · (Or.inr (Or.inr rfl))), h.2.2⟩
theorem m_X5_init (h : G a (gx_O 4 fdX5)) : gx_Met l yX5_init (ws_ yX5_init cX5_init 2 none) 6 2 20 D (fun q => q = a) T G nx [.ref a, .int (iz 8)] (fun w G' nx' => w = none ∧ nx' = nx + 2 ∧ gx_hi D G' a nx (nx + 1) []) gx_no := by
  refine gx_start (by decide) (Nat.le_of_ble_eq_true rfl) rfl (fun p e s m args below meth c hC hlt => ?_)
  have hax := hlt _ _ h
  refine gx_aload_n hC dX5_init_0 rfl rfl (by first | rfl | exact gx_isr_rf _ | exact gx_isr_rn _) ?_
  refine gx_oinit hC q638 q137 q138 dX5_init_1 (Nat.le_of_ble_eq_true rfl) (Nat.le_of_ble_eq_true rfl) ?_
  refine gx_aload_n hC dX5_init_4 rfl rfl (by first | rfl | exact gx_isr_rf _ | exact gx_isr_rn _) ?_
  refine gx_new hC (C := RJ18) (Tf := TJ18) (N := 3) (ci := 23) (fs := fdJ18) rfl in_J18 tyJ18 tyJ18_ok q639 q640 q100 dvJ18 dX5_init_5 ?_
  refine gx_dup hC dX5_init_8 (by first | rfl | exact gx_cat_rf _ | exact gx_cat_rn _) ?_
  refine gx_callI (nA := 0) hC (m_J18_init gx_us) (lw_meth q643) q100 q641 q642 rfl (by decide +kernel) dX5_init_9 rfl ⟨Nat.le_of_ble_eq_true rfl, Nat.le_of_ble_eq_true rfl⟩ (gx_in.id hC (fun q hq => Or.inr (by omega))) rfl (by first | exact Nat.le_of_ble_eq_true rfl | simp [gx_cat_rf, Value.category]) gx_kno (fun v2 G2 nx2 hp hf hle hlt2 => ?_)
  obtain ⟨rfl, rfl, q⟩ := hp
  have q1 := hf _ _ (gx_un (by omega) h) (by omega)
  refine gx_putF hC (C := RX5) (Tf := TX5) (N := 2) (ci := 4) (k := 0) rfl in_X5 (by decide) tyX5 tyX5_ok nmX5 q656 (fun _ h9 => h9) rfl rfl rfl dX5_init_12 (by first | exact gx_us | assumption | (repeat (first | exact gx_us | assumption | refine gx_un (by omega) ?_))) (by first | exact Or.inl rfl | exact Or.inl (Or.inl rfl) | exact Or.inl (Or.inr rfl) | exact Or.inr (by omega) | assumption | (simp only [gx_A, *]; omega)) (Nat.le_of_ble_eq_true rfl) (by first | rfl | (unfold gx_rn; split <;> rfl) | (cases ‹Option Nat› <;> rfl) | simp [narrow]) (by first | rfl | (unfold gx_rn; split <;> rfl) | (cases ‹Option Nat› <;> rfl) | simp [fits]) ?_
  refine gx_aload_n hC dX5_init_15 rfl rfl (by first | rfl | exact gx_isr_rf _ | exact gx_isr_rn _) ?_
  refine gx_iload_n hC dX5_init_16 rfl rfl ?_
  refine gx_putF hC (C := RX5) (Tf := TX5) (N := 2) (ci := 4) (k := 1) rfl in_X5 (by decide) tyX5 tyX5_ok nmX5 q657 (fun _ h9 => h9) rfl rfl rfl dX5_init_17 (by first | exact gx_us | assumption | (repeat (first | exact gx_us | assumption | refine gx_un (by omega) ?_))) (by first | exact Or.inl rfl | exact Or.inl (Or.inl rfl) | exact Or.inl (Or.inr rfl) | exact Or.inr (by omega) | assumption | (simp only [gx_A, *]; omega)) (Nat.le_of_ble_eq_true rfl) (by first | rfl | (unfold gx_rn; split <;> rfl) | (cases ‹Option Nat› <;> rfl) | simp [narrow]) (by first | rfl | (unfold gx_rn; split <;> rfl) | (cases ‹Option Nat› <;> rfl) | simp [fits]) ?_
  exact gx_vret hC rfl rfl rfl dX5_init_20 (fun G' hG => ⟨rfl, rfl, hG _ _ gx_us, q.mono (fun e h => hG _ _ (gx_un (by omega) (gx_un (by omega) h))) (fun e h => hG _ _ (gx_un (by omega) (gx_un (by omega) h))), by omega, by omega⟩)
/-- the latest eight -/
def gs_push {α : Type} (xs : List α) (v : α) : List α := if 8 < (xs ++ [v]).length then (xs ++ [v]).tail else xs ++ [v]
theorem m_X5_push (h : gx_hi D G a d ed xs) (hv : gx_ob (gx_TG T G) v) (hvO : ∃ fs, gx_TG T G v (gx_O 1 fs)) (hxs : ∀ x ∈ xs, ∃ fs, gx_TG T G x (gx_O 1 fs)) (hne : ∀ x, (x = v ∨ x ∈ xs) → x ≠ d ∧ x ≠ ed) (hl : xs.length ≤ 8) : gx_Met l yX5_push (ws_ yX5_push cX5_push 3 none) 7 0 0 D (fun q => q = d ∨ q = ed) T G nx [.ref a, .ref v] (fun w G' nx' => w = none ∧ nx' = nx ∧ gx_hi D G' a d ed (gs_push xs v)) gx_no := by
  obtain ⟨h1, h2, h3, h4⟩ := h
  refine gx_start (by decide) (Nat.le_of_ble_eq_true rfl) rfl (fun p e s m args below meth c hC hlt => ?_)
  refine gx_aload_n hC dX5_push_0 rfl rfl (by first | rfl | exact gx_isr_rf _ | exact gx_isr_rn _) ?_
  refine gx_get hC (C := RX5) (Tf := TX5) (N := 2) (ci := 4) (k := 0) rfl in_X5 (by decide) q656 (fun _ h9 => h9) dX5_push_1 (by repeat (first | assumption | exact Or.inr gx_us | exact Or.inr (by assumption) | exact Or.inl (by assumption) | refine gx_tu (by omega) ?_)) rfl ?_
  refine gx_aload_n hC dX5_push_4 rfl rfl (by first | rfl | exact gx_isr_rf _ | exact gx_isr_rn _) ?_
  refine gx_callV (nA := 1) hC (m_J18_addLast h2 hv (by omega) (hne v (Or.inl rfl)).1 (hne v (Or.inl rfl)).2) (C := RJ18) (Tf := TJ18) (Nf := 3) (ci := 23) rfl (by first | ((repeat (first | assumption | exact Or.inr gx_us | exact Or.inr (by assumption) | exact Or.inl (by assumption) | refine gx_tu (by omega) ?_)); done) | exact gx_AL.rc (by assumption) | exact gx_AL.rg (by assumption) | exact gx_AL.rt (by assumption) | exact gx_DQ.rc (by assumption) | exact gx_DQ.rg (by assumption) | exact gx_SB.rc (by assumption) | exact gx_SB.rg (by assumption) | exact gx_Sx.rc (by assumption) | exact gx_Sx.rg (by assumption) | exact gx_IT.rc (by assumption) | exact gx_IT.rg (by assumption) | exact gx_gt.rc (by assumption) | exact gx_gt.rg (by assumption) | exact gx_lx.rc (by assumption) | exact gx_lx.rg (by assumption) | exact gx_sst.rc (by assumption) | exact gx_sst.rg (by assumption)) (lw_V q1602 q1517 q1518 q100 q1519) (by decide +kernel) dX5_push_5 rfl ⟨Nat.le_of_ble_eq_true rfl, Nat.le_of_ble_eq_true rfl⟩ (gx_in.id hC (fun q hq => Or.inl hq)) rfl (by first | exact Nat.le_of_ble_eq_true rfl | simp [gx_cat_rf, Value.category]) gx_kno (fun v2 G2 nx2 hp hf hle hlt2 => ?_)
  obtain ⟨rfl, rfl, k1⟩ := hp
  have k2 := hf _ _ h1 (by omega)
  have k1' : gx_DQ D (gx_TG T G2) d ed (xs ++ [v]) := k1.mono (fun _ => Or.inr) (fun _ => Or.inr)
  refine gx_aload_n hC dX5_push_8 rfl rfl (by first | rfl | exact gx_isr_rf _ | exact gx_isr_rn _) ?_
  refine gx_get hC (C := RX5) (Tf := TX5) (N := 2) (ci := 4) (k := 0) rfl in_X5 (by decide) q656 (fun _ h9 => h9) dX5_push_9 (by repeat (first | assumption | exact Or.inr gx_us | exact Or.inr (by assumption) | exact Or.inl (by assumption) | refine gx_tu (by omega) ?_)) rfl ?_
  refine gx_callV (nA := 0) hC (m_J18_size k1') (C := RJ18) (Tf := TJ18) (Nf := 3) (ci := 23) rfl (by first | ((repeat (first | assumption | exact Or.inr gx_us | exact Or.inr (by assumption) | exact Or.inl (by assumption) | refine gx_tu (by omega) ?_)); done) | exact gx_AL.rc (by assumption) | exact gx_AL.rg (by assumption) | exact gx_AL.rt (by assumption) | exact gx_DQ.rc (by assumption) | exact gx_DQ.rg (by assumption) | exact gx_SB.rc (by assumption) | exact gx_SB.rg (by assumption) | exact gx_Sx.rc (by assumption) | exact gx_Sx.rg (by assumption) | exact gx_IT.rc (by assumption) | exact gx_IT.rg (by assumption) | exact gx_gt.rc (by assumption) | exact gx_gt.rg (by assumption) | exact gx_lx.rc (by assumption) | exact gx_lx.rg (by assumption) | exact gx_sst.rc (by assumption) | exact gx_sst.rg (by assumption)) (lw_V q1603 q1604 q1605 q100 q1606) (by decide +kernel) dX5_push_12 rfl ⟨Nat.le_of_ble_eq_true rfl, Nat.le_of_ble_eq_true rfl⟩ gx_in.id0 rfl (by first | exact Nat.le_of_ble_eq_true rfl | simp [gx_cat_rf, Value.category]) gx_kno (gx_kp1 ?_)
  refine gx_aload_n hC dX5_push_15 rfl rfl (by first | rfl | exact gx_isr_rf _ | exact gx_isr_rn _) ?_
  refine gx_get hC (C := RX5) (Tf := TX5) (N := 2) (ci := 4) (k := 1) rfl in_X5 (by decide) q657 (fun _ h9 => h9) dX5_push_16 (by repeat (first | assumption | exact Or.inr gx_us | exact Or.inr (by assumption) | exact Or.inl (by assumption) | refine gx_tu (by omega) ?_)) rfl ?_
  have hl9 : (xs ++ [v]).length = xs.length + 1 := by simp
  refine gx_icmp_le hC dX5_push_19 (tgt := 33) (by decide) (by unfold gx_rg; omega) (by unfold gx_rg; omega) (fun c19 => ?_) (fun c19 => ?_)
  · exact gx_vret hC rfl rfl rfl dX5_push_33 (fun G' hG => ⟨rfl, rfl, hG _ _ k2, by unfold gs_push; rw [if_neg (by omega)]; exact k1.mono (hG _) (hG _), h3, h4⟩)
  · obtain ⟨y, ys, hys⟩ : ∃ y ys, xs ++ [v] = y :: ys := by
      cases xs with
      | nil => exact ⟨v, [], rfl⟩
      | cons z zs => exact ⟨z, zs ++ [v], rfl⟩
    have hy : y = v ∨ y ∈ xs := by
      have : y ∈ xs ++ [v] := by rw [hys]; exact List.mem_cons_self
      rcases List.mem_append.mp this with e9 | e9
      · exact Or.inr e9
      · exact Or.inl (List.mem_singleton.mp e9)
    obtain ⟨fs, hfs⟩ : ∃ fs, gx_TG T G2 y (gx_O 1 fs) := by
      have hn := hne y hy
      rcases hy with e9 | e9
      · obtain ⟨fs, h9⟩ := hvO
        subst e9
        exact ⟨fs, h9.imp id (fun h => hf _ _ h (by omega))⟩
      · obtain ⟨fs, h9⟩ := hxs y e9
        exact ⟨fs, h9.imp id (fun h => hf _ _ h (by omega))⟩
    have hny := hne y hy
    rw [hys] at k1
    refine gx_aload_n hC dX5_push_22 rfl rfl (by first | rfl | exact gx_isr_rf _ | exact gx_isr_rn _) ?_
    refine gx_get hC (C := RX5) (Tf := TX5) (N := 2) (ci := 4) (k := 0) rfl in_X5 (by decide) q656 (fun _ h9 => h9) dX5_push_23 (by repeat (first | assumption | exact Or.inr gx_us | exact Or.inr (by assumption) | exact Or.inl (by assumption) | refine gx_tu (by omega) ?_)) rfl ?_
    refine gx_callV (nA := 0) hC (m_J18_removeFirst k1) (C := RJ18) (Tf := TJ18) (Nf := 3) (ci := 23) rfl (by first | ((repeat (first | assumption | exact Or.inr gx_us | exact Or.inr (by assumption) | exact Or.inl (by assumption) | refine gx_tu (by omega) ?_)); done) | exact gx_AL.rc (by assumption) | exact gx_AL.rg (by assumption) | exact gx_AL.rt (by assumption) | exact gx_DQ.rc (by assumption) | exact gx_DQ.rg (by assumption) | exact gx_SB.rc (by assumption) | exact gx_SB.rg (by assumption) | exact gx_Sx.rc (by assumption) | exact gx_Sx.rg (by assumption) | exact gx_IT.rc (by assumption) | exact gx_IT.rg (by assumption) | exact gx_gt.rc (by assumption) | exact gx_gt.rg (by assumption) | exact gx_lx.rc (by assumption) | exact gx_lx.rg (by assumption) | exact gx_sst.rc (by assumption) | exact gx_sst.rg (by assumption)) (lw_V q1610 q751 q752 q100 q753) (by decide +kernel) dX5_push_26 rfl ⟨Nat.le_of_ble_eq_true rfl, Nat.le_of_ble_eq_true rfl⟩ (gx_in.id hC (fun q hq => Or.inl hq)) rfl (by first | exact Nat.le_of_ble_eq_true rfl | simp [gx_cat_rf, Value.category]) gx_kno (fun v3 G3 nx3 hp hf3 hle3 hlt3 => ?_)
    obtain ⟨rfl, rfl, k3⟩ := hp
    have k4 := hf3 _ _ k2 (by omega)
    have k5 : gx_TG T G3 y (gx_O 1 fs) := hfs.imp id (fun h => hf3 _ _ h (by omega))
    refine gx_cast hC (C := RX2) (Tf := TX2) (N := 2) (ci := 1) rfl q1611 q3038 dX5_push_29 (by repeat (first | assumption | exact Or.inr gx_us | exact Or.inr (by assumption) | exact Or.inl (by assumption) | refine gx_tu (by omega) ?_)) ?_
    refine gx_astore_n hC dX5_push_32 rfl (by decide) (by first | rfl | simp [gx_ck, gx_lk, gx_cat_rf, gx_cat_rn]) (by first | rfl | exact gx_isr_rf _ | exact gx_isr_rn _) ?_
    exact gx_vret hC rfl rfl rfl dX5_push_33 (fun G' hG => ⟨rfl, rfl, hG _ _ k4, by unfold gs_push; rw [if_pos (by omega), hys]; exact k3.mono (hG _) (hG _), h3, h4⟩)
theorem m_X5_pop {x : Nat} (h : gx_hi D G a d ed xs) (hxs : ∀ x ∈ xs, ∃ fs, gx_TG T G x (gx_O 1 fs)) (hne : ∀ x ∈ xs, x ≠ d ∧ x ≠ ed) : gx_Met l yX5_pop (ws_ yX5_pop cX5_pop 1 (some (.object "GateGrammar$Copyable"))) 12 1 6 D (fun q => q = d ∨ q = ed) T G nx [.ref a] (fun w G' nx' => nx' = nx ∧ ∃ ys y, xs = ys ++ [y] ∧ w = some (.ref y) ∧ gx_hi D G' a d ed ys) (fun E _ _ _ => E = gx_ISE ∧ xs = []) := by
  obtain ⟨h1, h2, h3, h4⟩ := h
  have h2' : gx_DQ D (gx_TG T G) d ed xs := h2.mono (fun _ => Or.inr) (fun _ => Or.inr)
  refine gx_start (by decide) (Nat.le_of_ble_eq_true rfl) rfl (fun p e s m args below meth c hC hlt => ?_)
  refine gx_aload_n hC dX5_pop_0 rfl rfl (by first | rfl | exact gx_isr_rf _ | exact gx_isr_rn _) ?_
  refine gx_get hC (C := RX5) (Tf := TX5) (N := 2) (ci := 4) (k := 0) rfl in_X5 (by decide) q656 (fun _ h9 => h9) dX5_pop_1 (by repeat (first | assumption | exact Or.inr gx_us | exact Or.inr (by assumption) | exact Or.inl (by assumption) | refine gx_tu (by omega) ?_)) rfl ?_
  refine gx_callV (nA := 0) hC (m_J18_isEmpty h2') (C := RJ18) (Tf := TJ18) (Nf := 3) (ci := 23) rfl (by first | ((repeat (first | assumption | exact Or.inr gx_us | exact Or.inr (by assumption) | exact Or.inl (by assumption) | refine gx_tu (by omega) ?_)); done) | exact gx_AL.rc (by assumption) | exact gx_AL.rg (by assumption) | exact gx_AL.rt (by assumption) | exact gx_DQ.rc (by assumption) | exact gx_DQ.rg (by assumption) | exact gx_SB.rc (by assumption) | exact gx_SB.rg (by assumption) | exact gx_Sx.rc (by assumption) | exact gx_Sx.rg (by assumption) | exact gx_IT.rc (by assumption) | exact gx_IT.rg (by assumption) | exact gx_gt.rc (by assumption) | exact gx_gt.rg (by assumption) | exact gx_lx.rc (by assumption) | exact gx_lx.rg (by assumption) | exact gx_sst.rc (by assumption) | exact gx_sst.rg (by assumption)) (lw_V q2499 q704 q705 q100 q706) (by decide +kernel) dX5_pop_4 rfl ⟨Nat.le_of_ble_eq_true rfl, Nat.le_of_ble_eq_true rfl⟩ gx_in.id0 rfl (by first | exact Nat.le_of_ble_eq_true rfl | simp [gx_cat_rf, Value.category]) gx_kno (gx_kp1 ?_)
  by_cases e0 : xs.length = 0
  · rw [gx_b1 e0]
    refine gx_if_ne hC dX5_pop_7 (tgt := 14) (by decide) (by unfold gx_rg; omega) (fun c7 => ?_) (fun c7 => ?_)
    · refine gx_iconst hC dX5_pop_14 ?_
      refine gx_callSN (nA := 1) hC (m_X1_checkState (b := 0) gx_rg0) (lw_meth q1588) q76 q2500 q1587 (by decide +kernel) dX5_pop_15 rfl ⟨Nat.le_of_ble_eq_true rfl, Nat.le_of_ble_eq_true rfl⟩ gx_in.id0 rfl (by first | exact Nat.le_of_ble_eq_true rfl | simp [gx_cat_rf, Value.category]) (fun E9 q9 G9 nx9 hp9 hf9 hle9 hlt9 => gx_out hC rfl rfl (by first | (intro x9 h9; cases h9) | decide) (fun G' hG => ⟨hp9.1, List.length_eq_zero_iff.mp e0⟩)) (fun v2 G2 nx2 hp hf hle hlt2 => ?_)
      exact absurd rfl hp.1
    · omega
  · rw [gx_b0 e0]
    obtain ⟨ys, y, hys⟩ : ∃ ys y, xs = ys ++ [y] := ⟨xs.dropLast, xs.getLast (fun q => e0 (by rw [q]; rfl)), (List.dropLast_concat_getLast _).symm⟩
    refine gx_if_ne hC dX5_pop_7 (tgt := 14) (by decide) (by unfold gx_rg; omega) (fun c7 => ?_) (fun c7 => ?_)
    · omega
    · refine gx_iconst hC dX5_pop_10 ?_
      refine gx_goto hC dX5_pop_11 (tgt := 15) (by decide) ?_
      refine gx_callSN (nA := 1) hC (m_X1_checkState (b := 1) (by unfold gx_rg; omega)) (lw_meth q1588) q76 q2500 q1587 (by decide +kernel) dX5_pop_15 rfl ⟨Nat.le_of_ble_eq_true rfl, Nat.le_of_ble_eq_true rfl⟩ gx_in.id0 rfl (by first | exact Nat.le_of_ble_eq_true rfl | simp [gx_cat_rf, Value.category]) (fun E9 q9 G9 nx9 hp9 hf9 hle9 hlt9 => gx_out hC rfl rfl (by first | (intro x9 h9; cases h9) | decide) (fun G' hG => (by have := hp9.2; omega))) (fun v2 G2 nx2 hp hf hle hlt2 => ?_)
      obtain ⟨-, rfl, rfl⟩ := hp
      have k1 := hf _ _ h1 (fun q => q)
      have k2 : gx_DQ D G2 d ed (ys ++ [y]) := by rw [← hys]; exact h2.mono (fun _ h => hf _ _ h (fun q => q)) (fun _ h => hf _ _ h (fun q => q))
      have hym : y ∈ xs := by rw [hys]; simp
      obtain ⟨fs, hfs⟩ := hxs y hym
      have hny := hne y hym
      have k5 : gx_TG T G2 y (gx_O 1 fs) := hfs.imp id (fun h => hf _ _ h (fun q => q))
      refine gx_aload_n hC dX5_pop_18 rfl rfl (by first | rfl | exact gx_isr_rf _ | exact gx_isr_rn _) ?_
      refine gx_get hC (C := RX5) (Tf := TX5) (N := 2) (ci := 4) (k := 0) rfl in_X5 (by decide) q656 (fun _ h9 => h9) dX5_pop_19 (by repeat (first | assumption | exact Or.inr gx_us | exact Or.inr (by assumption) | exact Or.inl (by assumption) | refine gx_tu (by omega) ?_)) rfl ?_
      refine gx_callV (nA := 0) hC (m_J18_removeLast k2) (C := RJ18) (Tf := TJ18) (Nf := 3) (ci := 23) rfl (by first | ((repeat (first | assumption | exact Or.inr gx_us | exact Or.inr (by assumption) | exact Or.inl (by assumption) | refine gx_tu (by omega) ?_)); done) | exact gx_AL.rc (by assumption) | exact gx_AL.rg (by assumption) | exact gx_AL.rt (by assumption) | exact gx_DQ.rc (by assumption) | exact gx_DQ.rg (by assumption) | exact gx_SB.rc (by assumption) | exact gx_SB.rg (by assumption) | exact gx_Sx.rc (by assumption) | exact gx_Sx.rg (by assumption) | exact gx_IT.rc (by assumption) | exact gx_IT.rg (by assumption) | exact gx_gt.rc (by assumption) | exact gx_gt.rg (by assumption) | exact gx_lx.rc (by assumption) | exact gx_lx.rg (by assumption) | exact gx_sst.rc (by assumption) | exact gx_sst.rg (by assumption)) (lw_V q2501 q1529 q1530 q100 q1531) (by decide +kernel) dX5_pop_22 rfl ⟨Nat.le_of_ble_eq_true rfl, Nat.le_of_ble_eq_true rfl⟩ (gx_in.id hC (fun q hq => Or.inl hq)) rfl (by first | exact Nat.le_of_ble_eq_true rfl | simp [gx_cat_rf, Value.category]) gx_kno (fun v3 G3 nx3 hp hf3 hle3 hlt3 => ?_)
      obtain ⟨rfl, rfl, k3⟩ := hp
      have k4 := hf3 _ _ k1 (by omega)
      have k6 : gx_TG T G3 y (gx_O 1 fs) := k5.imp id (fun h => hf3 _ _ h (by omega))
      refine gx_cast hC (C := RX2) (Tf := TX2) (N := 2) (ci := 1) rfl q1611 q3038 dX5_pop_25 (by repeat (first | assumption | exact Or.inr gx_us | exact Or.inr (by assumption) | exact Or.inl (by assumption) | refine gx_tu (by omega) ?_)) ?_
      exact gx_aret hC rfl rfl rfl (by first | exact Or.inl ⟨_, rfl⟩ | exact Or.inr ⟨_, rfl⟩) (by first | rfl | exact gx_isr_rf _ | exact gx_isr_rn _) dX5_pop_28 (fun G' hG => ⟨rfl, ys, y, hys, rfl, hG _ _ k4, k3.mono (hG _) (hG _), h3, h4⟩)
theorem m_X5_size (h : gx_hi D (gx_TG T G) a d ed xs) : gx_Met l yX5_size (ws_ yX5_size cX5_size 1 (some .int)) 4 0 0 D gx_M0 T G nx [.ref a] (gx_P (some (.int (iz xs.length))) nx) gx_no := by
  obtain ⟨h1, h2, h3, h4⟩ := h
  refine gx_start (by decide) (Nat.le_of_ble_eq_true rfl) rfl (fun p e s m args below meth c hC hlt => ?_)
  refine gx_aload_n hC dX5_size_0 rfl rfl (by first | rfl | exact gx_isr_rf _ | exact gx_isr_rn _) ?_
  refine gx_get hC (C := RX5) (Tf := TX5) (N := 2) (ci := 4) (k := 0) rfl in_X5 (by decide) q656 (fun _ h9 => h9) dX5_size_1 (by repeat (first | assumption | exact Or.inr gx_us | exact Or.inr (by assumption) | exact Or.inl (by assumption) | refine gx_tu (by omega) ?_)) rfl ?_
  refine gx_callV (nA := 0) hC (m_J18_size h2) (C := RJ18) (Tf := TJ18) (Nf := 3) (ci := 23) rfl (by first | ((repeat (first | assumption | exact Or.inr gx_us | exact Or.inr (by assumption) | exact Or.inl (by assumption) | refine gx_tu (by omega) ?_)); done) | exact gx_AL.rc (by assumption) | exact gx_AL.rg (by assumption) | exact gx_AL.rt (by assumption) | exact gx_DQ.rc (by assumption) | exact gx_DQ.rg (by assumption) | exact gx_SB.rc (by assumption) | exact gx_SB.rg (by assumption) | exact gx_Sx.rc (by assumption) | exact gx_Sx.rg (by assumption) | exact gx_IT.rc (by assumption) | exact gx_IT.rg (by assumption) | exact gx_gt.rc (by assumption) | exact gx_gt.rg (by assumption) | exact gx_lx.rc (by assumption) | exact gx_lx.rg (by assumption) | exact gx_sst.rc (by assumption) | exact gx_sst.rg (by assumption)) (lw_V q1603 q1604 q1605 q100 q1606) (by decide +kernel) dX5_size_4 rfl ⟨Nat.le_of_ble_eq_true rfl, Nat.le_of_ble_eq_true rfl⟩ gx_in.id0 rfl (by first | exact Nat.le_of_ble_eq_true rfl | simp [gx_cat_rf, Value.category]) gx_kno (gx_kp1 ?_)
  exact gx_iret hC rfl rfl rfl dX5_size_7 (fun G' hG => ⟨rfl, rfl⟩)
theorem m_X5_clear (h : gx_hi D G a d ed xs) : gx_Met l yX5_clear (ws_ yX5_clear cX5_clear 1 none) 5 0 0 D (fun q => q = d ∨ q = ed) T G nx [.ref a] (fun w G' nx' => w = none ∧ nx' = nx ∧ gx_hi D G' a d ed []) gx_no := by
  obtain ⟨h1, h2, h3, h4⟩ := h
  refine gx_start (by decide) (Nat.le_of_ble_eq_true rfl) rfl (fun p e s m args below meth c hC hlt => ?_)
  refine gx_aload_n hC dX5_clear_0 rfl rfl (by first | rfl | exact gx_isr_rf _ | exact gx_isr_rn _) ?_
  refine gx_get hC (C := RX5) (Tf := TX5) (N := 2) (ci := 4) (k := 0) rfl in_X5 (by decide) q656 (fun _ h9 => h9) dX5_clear_1 (by repeat (first | assumption | exact Or.inr gx_us | exact Or.inr (by assumption) | exact Or.inl (by assumption) | refine gx_tu (by omega) ?_)) rfl ?_
  refine gx_callV (nA := 0) hC (m_J18_clear h2) (C := RJ18) (Tf := TJ18) (Nf := 3) (ci := 23) rfl (by first | ((repeat (first | assumption | exact Or.inr gx_us | exact Or.inr (by assumption) | exact Or.inl (by assumption) | refine gx_tu (by omega) ?_)); done) | exact gx_AL.rc (by assumption) | exact gx_AL.rg (by assumption) | exact gx_AL.rt (by assumption) | exact gx_DQ.rc (by assumption) | exact gx_DQ.rg (by assumption) | exact gx_SB.rc (by assumption) | exact gx_SB.rg (by assumption) | exact gx_Sx.rc (by assumption) | exact gx_Sx.rg (by assumption) | exact gx_IT.rc (by assumption) | exact gx_IT.rg (by assumption) | exact gx_gt.rc (by assumption) | exact gx_gt.rg (by assumption) | exact gx_lx.rc (by assumption) | exact gx_lx.rg (by assumption) | exact gx_sst.rc (by assumption) | exact gx_sst.rg (by assumption)) (lw_V q2517 q2518 q2519 q100 q2520) (by decide +kernel) dX5_clear_4 rfl ⟨Nat.le_of_ble_eq_true rfl, Nat.le_of_ble_eq_true rfl⟩ (gx_in.id hC (fun q hq => Or.inl hq)) rfl (by first | exact Nat.le_of_ble_eq_true rfl | simp [gx_cat_rf, Value.category]) gx_kno (fun v3 G3 nx3 hp hf3 hle3 hlt3 => ?_)
  obtain ⟨rfl, rfl, k3⟩ := hp
  have k4 := hf3 _ _ h1 (by omega)
  exact gx_vret hC rfl rfl rfl dX5_clear_7 (fun G' hG => ⟨rfl, rfl, hG _ _ k4, k3.mono (hG _) (hG _), h3, h4⟩)
end HIS

