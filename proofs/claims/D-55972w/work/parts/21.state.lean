/-! State, History -/
set_option maxRecDepth 100000
theorem gx_sst.gate {D : gx_D} {X Y : gx_H} {b w : Nat} {S : gs_S} (h : gx_sst D X Y b w S) {g : Nat} (hg : g < 4) : gx_gt D X Y (gx_ga b w g) g (S.gt g) := h.2.2.2.2 g hg
theorem gx_sst.sg {D : gx_D} {X X' Y Y' : gx_H} {b w g : Nat} {S : gs_S} {x : gs_G} (h : gx_sst D X Y b w S) (hg : g < 4) (hx : gx_gt D X' Y' (gx_ga b w g) g x) (hd : ∀ q e, X q e → ¬ gx_gM (gx_ga b w g) q → X' q e) (hy : ∀ a t, Y a (gx_tok t) → Y' a (gx_tok t)) : gx_sst D X' Y' b w (gs_sg S g x) := by
  obtain ⟨hw, h1, h2, ⟨mc, h3⟩, h4⟩ := h
  have hr := gx_ga_rg (b := b) hw hg
  have hn : ∀ q, q < b + 6 → ¬ gx_gM (gx_ga b w g) q := fun q hq p => by have := p.1; omega
  refine ⟨hw, hd _ _ h1 (hn _ (by omega)), (h2.mono (fun q e p1 p2 hq => hd q e hq (hn q (by omega))) : gx_lx D X' (b + 1) S), ⟨mc, h3.mono (fun _ h => hd _ _ h (hn _ (by omega))) (fun _ h => hd _ _ h (hn _ (by omega)))⟩, fun j hj => ?_⟩
  by_cases ej : j = g
  · subst ej
    rw [gs_sg_s]
    exact hx
  · rw [gs_sg_n S x ej]
    refine (h4 j hj).mono (fun q e p1 p2 hq => hd q e hq (fun p => ?_)) hy
    rcases Nat.lt_or_gt_of_ne ej with e9 | e9
    · have := gx_ga_lt (b := b) (w := w) e9
      have := p.1
      omega
    · have := gx_ga_lt (b := b) (w := w) e9
      have := p.2
      omega
theorem gx_rg1_g {b w g q : Nat} (hw : w ≤ 1) (hg : g < 4) (h : gx_gM (gx_ga b w g) q) : gx_rg1 b w q := by
  have := gx_ga_rg (b := b) hw hg
  have := h.1
  have := h.2
  exact ⟨by omega, by omega⟩
theorem gx_gal {b w g : Nat} (hg : g < 4) : ([gx_ga b w 0, gx_ga b w 1, gx_ga b w 2, gx_ga b w 3] : List Nat).getD g 0 = gx_ga b w g := by
  have : g = 0 ∨ g = 1 ∨ g = 2 ∨ g = 3 := by omega
  rcases this with e | e | e | e <;> subst e <;> rfl
theorem gx_ga1 {b g : Nat} : gx_ga b 1 g = b + 7 + 4 * g := by unfold gx_ga; omega
theorem gx_ga0 {b g : Nat} : gx_ga b 0 g = b + 6 + 3 * g := by unfold gx_ga; omega
theorem gx_gal_take {b w k : Nat} (hk : k < 4) : ([gx_ga b w 0, gx_ga b w 1, gx_ga b w 2, gx_ga b w 3] : List Nat).take (k + 1) = ([gx_ga b w 0, gx_ga b w 1, gx_ga b w 2, gx_ga b w 3] : List Nat).take k ++ [gx_ga b w k] := by
  have : k = 0 ∨ k = 1 ∨ k = 2 ∨ k = 3 := by omega
  rcases this with e | e | e | e <;> subst e <;> rfl
section STA
variable {l : Launch} {D : gx_D} {T G Y : gx_H} {nx : Nat} {b w : Nat} {S : gs_S} {B : Int}
theorem m_X2_gate {i : Int} (h : gx_sst D (gx_TG T G) Y b w S) (hi : gx_rg i) : gx_Met l yX2_gate (ws_ yX2_gate cX2_gate 2 (some (.object "GateGrammar$Gate"))) 12 1 6 D gx_M0 T G nx [.ref b, .int (iz i)] (fun v G' nx' => (0 ≤ i ∧ i < 4) ∧ v = some (.ref (gx_ga b w i.toNat)) ∧ nx' = nx) (fun E _ _ _ => E = gx_IOB ∧ ¬ (0 ≤ i ∧ i < 4)) := by
  have hh := h
  obtain ⟨hw, h1, h2, ⟨mc, h3⟩, h4⟩ := h
  refine gx_start (by decide) (Nat.le_of_ble_eq_true rfl) rfl (fun p e s m args below meth c hC hlt => ?_)
  refine gx_iload_n hC dX2_gate_0 rfl rfl ?_
  refine gx_iconst hC dX2_gate_1 ?_
  refine gx_callSN (nA := 2) hC (m_X1_checkIndex (i := i) (n := 4) hi (by unfold gx_rg; omega) (by omega)) (lw_meth q1012) q76 q1342 q1011 (by decide +kernel) dX2_gate_2 rfl ⟨Nat.le_of_ble_eq_true rfl, Nat.le_of_ble_eq_true rfl⟩ gx_in.id0 rfl (by first | exact Nat.le_of_ble_eq_true rfl | simp [gx_cat_rf, Value.category]) (fun E9 q9 G9 nx9 hp9 hf9 hle9 hlt9 => gx_out hC rfl rfl (by first | (intro x9 h9; cases h9) | decide) (fun G' hG => hp9)) (fun v2 G2 nx2 hp hf hle hlt2 => ?_)
  obtain ⟨hi2, rfl, rfl⟩ := hp
  have k1 := h1.imp id (fun h => hf _ _ h (fun q => q))
  have k3 : gx_AL D (gx_TG T G2) (b + 4) (b + 5) mc 4 [gx_ga b w 0, gx_ga b w 1, gx_ga b w 2, gx_ga b w 3] := h3.mono (fun _ h => h.imp id (fun h => hf _ _ h (fun q => q))) (fun _ h => h.imp id (fun h => hf _ _ h (fun q => q)))
  have k4 := (h4 i.toNat (by omega)).1.imp id (fun h => hf _ _ h (fun q => q))
  obtain ⟨k, rfl⟩ : ∃ k : Nat, i = k := ⟨i.toNat, by omega⟩
  have hk4 : k < 4 := by omega
  refine gx_aload_n hC dX2_gate_5 rfl rfl (by first | rfl | exact gx_isr_rf _ | exact gx_isr_rn _) ?_
  refine gx_get hC (C := RX2) (Tf := TX2) (N := 2) (ci := 1) (k := 1) rfl in_X2 (by decide) q532 (fun _ h9 => h9) dX2_gate_6 (by repeat (first | assumption | exact Or.inr gx_us | exact Or.inr (by assumption) | exact Or.inl (by assumption) | refine gx_tu (by omega) ?_)) rfl ?_
  refine gx_iload_n hC dX2_gate_9 rfl rfl ?_
  refine gx_callV (nA := 1) hC (m_J2_get k3 (i := k) hk4) (C := RJ2) (Tf := TJ2) (Nf := 3) (ci := 19) rfl (by first | ((repeat (first | assumption | exact Or.inr gx_us | exact Or.inr (by assumption) | exact Or.inl (by assumption) | refine gx_tu (by omega) ?_)); done) | exact gx_AL.rc (by assumption) | exact gx_AL.rg (by assumption) | exact gx_AL.rt (by assumption) | exact gx_DQ.rc (by assumption) | exact gx_DQ.rg (by assumption) | exact gx_SB.rc (by assumption) | exact gx_SB.rg (by assumption) | exact gx_Sx.rc (by assumption) | exact gx_Sx.rg (by assumption) | exact gx_IT.rc (by assumption) | exact gx_IT.rg (by assumption) | exact gx_gt.rc (by assumption) | exact gx_gt.rg (by assumption) | exact gx_lx.rc (by assumption) | exact gx_lx.rg (by assumption) | exact gx_sst.rc (by assumption) | exact gx_sst.rg (by assumption)) (lw_V q1343 q788 q789 q81 q790) (by decide +kernel) dX2_gate_10 rfl ⟨Nat.le_of_ble_eq_true rfl, Nat.le_of_ble_eq_true rfl⟩ gx_in.id0 rfl (by first | exact Nat.le_of_ble_eq_true rfl | simp [gx_cat_rf, Value.category]) gx_kno (gx_kp1 ?_)
  rw [gx_gal hk4]
  rw [Int.toNat_natCast] at k4
  refine gx_castE hC (C := RX4) (Tf := TX4) (N := 3) (ci := 3) rfl q539 dX2_gate_13 (by repeat (first | assumption | exact Or.inr gx_us | exact Or.inr (by assumption) | exact Or.inl (by assumption) | refine gx_tu (by omega) ?_)) ?_
  exact gx_aret hC rfl rfl rfl (by first | exact Or.inl ⟨_, rfl⟩ | exact Or.inr ⟨_, rfl⟩) (by first | rfl | exact gx_isr_rf _ | exact gx_isr_rn _) dX2_gate_16 (fun G' hG => ⟨hi2, rfl, rfl⟩)
theorem m_X2_tokens (h : gx_sst D (gx_TG T G) Y b w S) (hok : ∀ g, g < 4 → (S.gt g).tk.length ≤ 24) : gx_Met l yX2_tokens (ws_ yX2_tokens cX2_tokens 4 (some .int)) 6 1 4 D gx_M0 T G nx [.ref b] (fun v G' nx' => v = some (.int (iz ((S.gt 0).tk.length + (S.gt 1).tk.length + (S.gt 2).tk.length + (S.gt 3).tk.length))) ∧ nx' = nx + 1) gx_no := by
  have hh := h
  obtain ⟨hw, h1, h2, ⟨mc, h3⟩, h4⟩ := h
  refine gx_start (by decide) (Nat.le_of_ble_eq_true rfl) rfl (fun p e s m args below meth c hC hlt => ?_)
  have hb4 := hC.tl hlt h3.1
  obtain ⟨f2, hf2, -⟩ := h3.2.1
  have hb5 := hC.tl hlt hf2
  refine gx_iconst hC dX2_tokens_0 ?_
  refine gx_istore_n hC dX2_tokens_1 rfl (by decide) (by first | rfl | simp [gx_ck, gx_lk, gx_cat_rf, gx_cat_rn]) ?_
  refine gx_aload_n hC dX2_tokens_2 rfl rfl (by first | rfl | exact gx_isr_rf _ | exact gx_isr_rn _) ?_
  refine gx_get hC (C := RX2) (Tf := TX2) (N := 2) (ci := 1) (k := 1) rfl in_X2 (by decide) q532 (fun _ h9 => h9) dX2_tokens_3 (by repeat (first | assumption | exact Or.inr gx_us | exact Or.inr (by assumption) | exact Or.inl (by assumption) | refine gx_tu (by omega) ?_)) rfl ?_
  refine gx_callV (nA := 0) hC (m_J2_iterator h3 hb4) (C := RJ2) (Tf := TJ2) (Nf := 3) (ci := 19) rfl (by first | ((repeat (first | assumption | exact Or.inr gx_us | exact Or.inr (by assumption) | exact Or.inl (by assumption) | refine gx_tu (by omega) ?_)); done) | exact gx_AL.rc (by assumption) | exact gx_AL.rg (by assumption) | exact gx_AL.rt (by assumption) | exact gx_DQ.rc (by assumption) | exact gx_DQ.rg (by assumption) | exact gx_SB.rc (by assumption) | exact gx_SB.rg (by assumption) | exact gx_Sx.rc (by assumption) | exact gx_Sx.rg (by assumption) | exact gx_IT.rc (by assumption) | exact gx_IT.rg (by assumption) | exact gx_gt.rc (by assumption) | exact gx_gt.rg (by assumption) | exact gx_lx.rc (by assumption) | exact gx_lx.rg (by assumption) | exact gx_sst.rc (by assumption) | exact gx_sst.rg (by assumption)) (lw_V q1323 q669 q670 q81 q671) (by decide +kernel) dX2_tokens_6 rfl ⟨Nat.le_of_ble_eq_true rfl, Nat.le_of_ble_eq_true rfl⟩ gx_in.id0 rfl (by first | exact Nat.le_of_ble_eq_true rfl | simp [gx_cat_rf, Value.category]) gx_kno (fun v3 G3 nx3 hp hf3 hle3 hlt3 => ?_)
  obtain ⟨rfl, rfl, kit⟩ := hp
  refine gx_astore_n hC dX2_tokens_9 rfl (by decide) (by first | rfl | simp [gx_ck, gx_lk, gx_cat_rf, gx_cat_rn]) (by first | rfl | exact gx_isr_rf _ | exact gx_isr_rn _) ?_
  refine gx_loc (M := [(2, some (.ref nx)), (1, some (.int (iz (gs_sum 0 (fun g => ((S.gt g).tk.length : Int)))))), (0, some (.ref b))]) (by repeat (first | exact trivial | refine ⟨rfl, ?_⟩)) ?_
  refine gx_loop (σ := Nat × gx_H) (fun z => z.1 ≤ 4 ∧ gx_le G z.2 ∧ gx_IT z.2 nx (b + 4) mc z.1) (fun z => 4 - z.1) (fun z => z.2) (fun _ => nx + 1) (fun _ => 0) (fun _ => 0) (fun z => [(2, some (.ref nx)), (1, some (.int (iz (gs_sum z.1 (fun g => ((S.gt g).tk.length : Int)))))), (0, some (.ref b))]) (0, G3) ⟨by omega, fun x e9 hx => hf3 _ _ hx (fun q => q), kit⟩ ?_
  rintro ⟨k, G9⟩ ⟨p0, p1, p2⟩ ih
  dsimp only at p0 p1 p2 ⊢
  have q3 : gx_AL D (gx_TG T G9) (b + 4) (b + 5) mc 4 [gx_ga b w 0, gx_ga b w 1, gx_ga b w 2, gx_ga b w 3] := h3.mono (fun _ => p1.tg) (fun _ => p1.tg)
  have q2 : gx_IT (gx_TG T G9) nx (b + 4) mc k := p2.mono (fun _ => Or.inr)
  refine gx_aload_n hC dX2_tokens_10 rfl rfl (by first | rfl | exact gx_isr_rf _ | exact gx_isr_rn _) ?_
  refine gx_callF (nA := 0) hC (m_J19_hasNext q2 q3 p0) (C := RJ19) (Tf := TJ19) (Nf := 4) (ci := 24) rfl (by first | ((repeat (first | assumption | exact Or.inr gx_us | exact Or.inr (by assumption) | exact Or.inl (by assumption) | refine gx_tu (by omega) ?_)); done) | exact gx_AL.rc (by assumption) | exact gx_AL.rg (by assumption) | exact gx_AL.rt (by assumption) | exact gx_DQ.rc (by assumption) | exact gx_DQ.rg (by assumption) | exact gx_SB.rc (by assumption) | exact gx_SB.rg (by assumption) | exact gx_Sx.rc (by assumption) | exact gx_Sx.rg (by assumption) | exact gx_IT.rc (by assumption) | exact gx_IT.rg (by assumption) | exact gx_gt.rc (by assumption) | exact gx_gt.rg (by assumption) | exact gx_lx.rc (by assumption) | exact gx_lx.rg (by assumption) | exact gx_sst.rc (by assumption) | exact gx_sst.rg (by assumption)) (lw_app (List.forall_mem_cons.mpr ⟨q1325, (List.forall_mem_cons.mpr ⟨q723, (List.forall_mem_cons.mpr ⟨q725, (List.forall_mem_cons.mpr ⟨q101, (fun _ h9 => absurd h9 List.not_mem_nil)⟩)⟩)⟩)⟩) (lw_meth q727)) q696 q695 q726 q724 q722 (by decide +kernel) dX2_tokens_11 rfl ⟨Nat.le_of_ble_eq_true rfl, Nat.le_of_ble_eq_true rfl⟩ gx_in.id0 rfl (by first | exact Nat.le_of_ble_eq_true rfl | simp [gx_cat_rf, Value.category]) gx_kno (gx_kp1 ?_)
  refine gx_if_eq hC dX2_tokens_16 (tgt := 42) (by decide) gx_bR (fun c16 => ?_) (fun c16 => ?_)
  · rw [gx_be] at c16
    have e9 : k = 4 := by
      have : ¬ k < 4 := c16
      omega
    subst e9
    refine gx_iload_n hC dX2_tokens_42 rfl rfl ?_
    exact gx_iret hC rfl rfl rfl dX2_tokens_43 (fun G' hG => ⟨by congr 3; simp only [gs_sum]; omega, rfl⟩)
  · rw [gx_bn] at c16
    have hk4 : k < 4 := c16
    refine gx_aload_n hC dX2_tokens_19 rfl rfl (by first | rfl | exact gx_isr_rf _ | exact gx_isr_rn _) ?_
    refine gx_callF (nA := 0) hC (m_J19_next p2 q3 c16 (by omega) (by omega)) (C := RJ19) (Tf := TJ19) (Nf := 4) (ci := 24) rfl (by first | ((repeat (first | assumption | exact Or.inr gx_us | exact Or.inr (by assumption) | exact Or.inl (by assumption) | refine gx_tu (by omega) ?_)); done) | exact gx_AL.rc (by assumption) | exact gx_AL.rg (by assumption) | exact gx_AL.rt (by assumption) | exact gx_DQ.rc (by assumption) | exact gx_DQ.rg (by assumption) | exact gx_SB.rc (by assumption) | exact gx_SB.rg (by assumption) | exact gx_Sx.rc (by assumption) | exact gx_Sx.rg (by assumption) | exact gx_IT.rc (by assumption) | exact gx_IT.rg (by assumption) | exact gx_gt.rc (by assumption) | exact gx_gt.rg (by assumption) | exact gx_lx.rc (by assumption) | exact gx_lx.rg (by assumption) | exact gx_sst.rc (by assumption) | exact gx_sst.rg (by assumption)) (lw_app (List.forall_mem_cons.mpr ⟨q1327, (List.forall_mem_cons.mpr ⟨q950, (List.forall_mem_cons.mpr ⟨q952, (List.forall_mem_cons.mpr ⟨q101, (fun _ h9 => absurd h9 List.not_mem_nil)⟩)⟩)⟩)⟩) (lw_meth q954)) q740 q739 q953 q951 q722 (by decide +kernel) dX2_tokens_20 rfl ⟨Nat.le_of_ble_eq_true rfl, Nat.le_of_ble_eq_true rfl⟩ (gx_in.id hC (fun q hq => Or.inr (by omega))) rfl (by first | exact Nat.le_of_ble_eq_true rfl | simp [gx_cat_rf, Value.category]) gx_kno (fun v4 G4 nx4 hp hf4 hle4 hlt4 => ?_)
    obtain ⟨rfl, rfl, r1⟩ := hp
    rw [gx_gal hk4]
    have r2 : gx_le G G4 := fun x e9 hx => hf4 _ _ (p1 _ _ hx) (by have := hlt _ _ hx; omega)
    obtain ⟨s1, mc5, ys, s2, s3⟩ := h4 k hk4
    have u1 := r2.tg s1
    have u2 : gx_AL D (gx_TG T G4) (gx_ga b w k + 1) (gx_ga b w k + 2) mc5 24 ys := s2.mono (fun _ => r2.tg) (fun _ => r2.tg)
    refine gx_castE hC (C := RX4) (Tf := TX4) (N := 3) (ci := 3) rfl q539 dX2_tokens_25 (by repeat (first | assumption | exact Or.inr gx_us | exact Or.inr (by assumption) | exact Or.inl (by assumption) | refine gx_tu (by omega) ?_)) ?_
    refine gx_astore_n hC dX2_tokens_28 rfl (by decide) (by first | rfl | simp [gx_ck, gx_lk, gx_cat_rf, gx_cat_rn]) (by first | rfl | exact gx_isr_rf _ | exact gx_isr_rn _) ?_
    refine gx_iload_n hC dX2_tokens_29 rfl rfl ?_
    refine gx_aload_n hC dX2_tokens_30 rfl rfl (by first | rfl | exact gx_isr_rf _ | exact gx_isr_rn _) ?_
    refine gx_getN hC (C := RX4) (Tf := TX4) (N := 3) (ci := 3) (k := 1) rfl in_X4 (by decide) q551 (fun _ h9 => h9) dX2_tokens_31 (by repeat (first | assumption | exact Or.inr gx_us | exact Or.inr (by assumption) | exact Or.inl (by assumption) | refine gx_tu (by omega) ?_)) rfl ?_
    refine gx_callV (nA := 0) hC (m_J2_size u2) (C := RJ2) (Tf := TJ2) (Nf := 3) (ci := 19) rfl (by first | ((repeat (first | assumption | exact Or.inr gx_us | exact Or.inr (by assumption) | exact Or.inl (by assumption) | refine gx_tu (by omega) ?_)); done) | exact gx_AL.rc (by assumption) | exact gx_AL.rg (by assumption) | exact gx_AL.rt (by assumption) | exact gx_DQ.rc (by assumption) | exact gx_DQ.rg (by assumption) | exact gx_SB.rc (by assumption) | exact gx_SB.rg (by assumption) | exact gx_Sx.rc (by assumption) | exact gx_Sx.rg (by assumption) | exact gx_IT.rc (by assumption) | exact gx_IT.rg (by assumption) | exact gx_gt.rc (by assumption) | exact gx_gt.rg (by assumption) | exact gx_lx.rc (by assumption) | exact gx_lx.rg (by assumption) | exact gx_sst.rc (by assumption) | exact gx_sst.rg (by assumption)) (lw_V q1328 q717 q3022 q81 q718) (by decide +kernel) dX2_tokens_34 rfl ⟨Nat.le_of_ble_eq_true rfl, Nat.le_of_ble_eq_true rfl⟩ gx_in.id0 rfl (by first | exact Nat.le_of_ble_eq_true rfl | simp [gx_cat_rf, Value.category]) gx_kno (gx_kp1 ?_)
    refine gx_iadd hC dX2_tokens_37 ?_
    refine gx_istore_n hC dX2_tokens_38 rfl (by decide) (by first | rfl | simp [gx_ck, gx_lk, gx_cat_rf, gx_cat_rn]) ?_
    refine gx_goto hC dX2_tokens_39 (tgt := 10) (by decide) ?_
    rw [s3.1]
    refine gx_loc (M := [(2, some (.ref nx)), (1, some (.int (iz (gs_sum (k + 1) (fun g => ((S.gt g).tk.length : Int)))))), (0, some (.ref b))]) (by repeat (first | exact trivial | refine ⟨rfl, ?_⟩)) ?_
    exact ih (k + 1, G4) ⟨by omega, r2, r1⟩ (by dsimp only; omega)
theorem m_X2_init_2 (h : G b (gx_O 1 fdX2)) (ha : nx = b + 4) : gx_Met l yX2_init_2 (ws_ yX2_init_2 cX2_init_2 2 none) 7 2 63 D (fun q => q = b) T G nx [.ref b, .ref (b + 1)] (fun v G' nx' => v = none ∧ nx' = nx + 2 ∧ G' b (gx_O 1 [.ref (b + 1), .ref (b + 4)]) ∧ gx_AL D G' (b + 4) (b + 5) 0 4 []) gx_no := by
  subst ha
  refine gx_start (by decide) (Nat.le_of_ble_eq_true rfl) rfl (fun p e s m args below meth c hC hlt => ?_)
  refine gx_aload_n hC dX2_init_2_0 rfl rfl (by first | rfl | exact gx_isr_rf _ | exact gx_isr_rn _) ?_
  refine gx_oinit hC q173 q137 q138 dX2_init_2_1 (Nat.le_of_ble_eq_true rfl) (Nat.le_of_ble_eq_true rfl) ?_
  refine gx_aload_n hC dX2_init_2_4 rfl rfl (by first | rfl | exact gx_isr_rf _ | exact gx_isr_rn _) ?_
  refine gx_new hC (C := RJ2) (Tf := TJ2) (N := 3) (ci := 19) (fs := fdJ2) rfl in_J2 tyJ2 tyJ2_ok q174 q175 q81 dvJ2 dX2_init_2_5 ?_
  refine gx_dup hC dX2_init_2_8 (by first | rfl | exact gx_cat_rf _ | exact gx_cat_rn _) ?_
  refine gx_iconst hC dX2_init_2_9 ?_
  refine gx_callI (nA := 1) hC (m_J2_init (cap := 4) gx_us (by omega) (by omega)) (lw_meth q178) q81 q176 q177 rfl (by decide +kernel) dX2_init_2_10 rfl ⟨Nat.le_of_ble_eq_true rfl, Nat.le_of_ble_eq_true rfl⟩ (gx_in.id hC (fun q hq => Or.inr (by omega))) rfl (by first | exact Nat.le_of_ble_eq_true rfl | simp [gx_cat_rf, Value.category]) gx_kno (fun v2 G2 nx2 hp hf hle hlt2 => ?_)
  obtain ⟨rfl, rfl, q⟩ := hp
  have q1 := hf _ _ (gx_un (by omega) h) (by omega)
  refine gx_putF hC (C := RX2) (Tf := TX2) (N := 2) (ci := 1) (k := 1) rfl in_X2 (by decide) tyX2 tyX2_ok nmX2 q532 (fun _ h9 => h9) rfl rfl rfl dX2_init_2_13 (by first | exact gx_us | assumption | (repeat (first | exact gx_us | assumption | refine gx_un (by omega) ?_))) (by first | exact Or.inl rfl | exact Or.inl (Or.inl rfl) | exact Or.inl (Or.inr rfl) | exact Or.inr (by omega) | assumption | (simp only [gx_A, *]; omega)) (Nat.le_of_ble_eq_true rfl) (by first | rfl | (unfold gx_rn; split <;> rfl) | (cases ‹Option Nat› <;> rfl) | simp [narrow]) (by first | rfl | (unfold gx_rn; split <;> rfl) | (cases ‹Option Nat› <;> rfl) | simp [fits]) ?_
  refine gx_aload_n hC dX2_init_2_16 rfl rfl (by first | rfl | exact gx_isr_rf _ | exact gx_isr_rn _) ?_
  refine gx_aload_n hC dX2_init_2_17 rfl rfl (by first | rfl | exact gx_isr_rf _ | exact gx_isr_rn _) ?_
  refine gx_putF hC (C := RX2) (Tf := TX2) (N := 2) (ci := 1) (k := 0) rfl in_X2 (by decide) tyX2 tyX2_ok nmX2 q530 (fun _ h9 => h9) rfl rfl rfl dX2_init_2_18 (by first | exact gx_us | assumption | (repeat (first | exact gx_us | assumption | refine gx_un (by omega) ?_))) (by first | exact Or.inl rfl | exact Or.inl (Or.inl rfl) | exact Or.inl (Or.inr rfl) | exact Or.inr (by omega) | assumption | (simp only [gx_A, *]; omega)) (Nat.le_of_ble_eq_true rfl) (by first | rfl | (unfold gx_rn; split <;> rfl) | (cases ‹Option Nat› <;> rfl) | simp [narrow]) (by first | rfl | (unfold gx_rn; split <;> rfl) | (cases ‹Option Nat› <;> rfl) | simp [fits]) ?_
  exact gx_vret hC rfl rfl rfl dX2_init_2_21 (fun G' hG => ⟨rfl, rfl, hG _ _ gx_us, q.mono (fun e h => hG _ _ (gx_un (by omega) (gx_un (by omega) h))) (fun e h => hG _ _ (gx_un (by omega) (gx_un (by omega) h)))⟩)
theorem m_X2_copy (h : gx_sst D (gx_TG T G) Y b w S) (hok : ∀ g, g < 4 → (S.gt g).tk.length ≤ 24) (hY : gx_yok T G gx_M0 Y) : gx_Met l yX2_copy (ws_ yX2_copy cX2_copy 4 (some (.object "GateGrammar$State"))) 10 23 369 D gx_M0 T G nx [.ref b] (fun v G' nx' => v = some (.ref nx) ∧ nx' = nx + 23 ∧ gx_sst D G' Y nx 1 S) gx_no := by
  have hh := h
  obtain ⟨hw, h1, h2, ⟨mc, h3⟩, h4⟩ := h
  refine gx_start (by decide) (Nat.le_of_ble_eq_true rfl) rfl (fun p e s m args below meth c hC hlt => ?_)
  have hbx := hC.tl hlt h1
  have hb1 := hC.tl hlt h2.1
  have hb4 := hC.tl hlt h3.1
  obtain ⟨f2, hf2, -⟩ := h3.2.1
  have hb5 := hC.tl hlt hf2
  refine gx_new hC (C := RX2) (Tf := TX2) (N := 2) (ci := 1) (fs := fdX2) rfl in_X2 tyX2 tyX2_ok q1544 q142 q77 dvX2 dX2_copy_0 ?_
  refine gx_dup hC dX2_copy_3 (by first | rfl | exact gx_cat_rf _ | exact gx_cat_rn _) ?_
  refine gx_aload_n hC dX2_copy_4 rfl rfl (by first | rfl | exact gx_isr_rf _ | exact gx_isr_rn _) ?_
  refine gx_get hC (C := RX2) (Tf := TX2) (N := 2) (ci := 1) (k := 0) rfl in_X2 (by decide) q530 (fun _ h9 => h9) dX2_copy_5 (by repeat (first | assumption | exact Or.inr gx_us | exact Or.inr (by assumption) | exact Or.inl (by assumption) | refine gx_tu (by omega) ?_)) rfl ?_
  have h2a : gx_lx D (gx_TG T (gx_up G nx (gx_O 1 fdX2))) (b + 1) S := h2.mono (fun q e9 _ _ h => h.imp id (fun h => gx_un (by have := hlt _ _ h; omega) h))
  refine gx_callV (nA := 0) hC (m_X3_copy h2a) (C := RX3) (Tf := TX3) (Nf := 4) (ci := 2) rfl (by first | ((repeat (first | assumption | exact Or.inr gx_us | exact Or.inr (by assumption) | exact Or.inl (by assumption) | refine gx_tu (by omega) ?_)); done) | exact gx_AL.rc (by assumption) | exact gx_AL.rg (by assumption) | exact gx_AL.rt (by assumption) | exact gx_DQ.rc (by assumption) | exact gx_DQ.rg (by assumption) | exact gx_SB.rc (by assumption) | exact gx_SB.rg (by assumption) | exact gx_Sx.rc (by assumption) | exact gx_Sx.rg (by assumption) | exact gx_IT.rc (by assumption) | exact gx_IT.rg (by assumption) | exact gx_gt.rc (by assumption) | exact gx_gt.rg (by assumption) | exact gx_lx.rc (by assumption) | exact gx_lx.rg (by assumption) | exact gx_sst.rc (by assumption) | exact gx_sst.rg (by assumption)) (lw_V q1545 q1546 q1547 q78 q1548) (by decide +kernel) dX2_copy_8 rfl ⟨Nat.le_of_ble_eq_true rfl, Nat.le_of_ble_eq_true rfl⟩ gx_in.id0 rfl (by first | exact Nat.le_of_ble_eq_true rfl | simp [gx_cat_rf, Value.category]) gx_kno (fun v2 G2 nx2 hp hf hle hlt2 => ?_)
  obtain ⟨rfl, rfl, k2⟩ := hp
  have k1 := hf _ _ gx_us (fun q => q)
  have kG : gx_le G G2 := fun x e9 hx => hf _ _ (gx_un (by have := hlt _ _ hx; omega) hx) (fun q => q)
  refine gx_callI (nA := 1) hC (m_X2_init_2 k1 rfl) (lw_meth q172) q77 q170 q171 rfl (by decide +kernel) dX2_copy_11 rfl ⟨Nat.le_of_ble_eq_true rfl, Nat.le_of_ble_eq_true rfl⟩ (gx_in.id hC (fun q hq => Or.inr (by omega))) rfl (by first | exact Nat.le_of_ble_eq_true rfl | simp [gx_cat_rf, Value.category]) gx_kno (fun v3 G3 nx3 hp hf3 hle3 hlt3 => ?_)
  obtain ⟨rfl, rfl, r1, r2⟩ := hp
  have rG : gx_le G G3 := fun x e9 hx => hf3 _ _ (kG _ _ hx) (by have := hlt _ _ hx; omega)
  have r3 : gx_lx D G3 (nx + 1) S := k2.mono (fun q e9 _ _ h => hf3 _ _ h (by omega))
  have r4 := rG.tg h1
  have r5 : gx_AL D (gx_TG T G3) (b + 4) (b + 5) mc 4 [gx_ga b w 0, gx_ga b w 1, gx_ga b w 2, gx_ga b w 3] := h3.mono (fun _ => rG.tg) (fun _ => rG.tg)
  refine gx_astore_n hC dX2_copy_14 rfl (by decide) (by first | rfl | simp [gx_ck, gx_lk, gx_cat_rf, gx_cat_rn]) (by first | rfl | exact gx_isr_rf _ | exact gx_isr_rn _) ?_
  refine gx_aload_n hC dX2_copy_15 rfl rfl (by first | rfl | exact gx_isr_rf _ | exact gx_isr_rn _) ?_
  refine gx_get hC (C := RX2) (Tf := TX2) (N := 2) (ci := 1) (k := 1) rfl in_X2 (by decide) q532 (fun _ h9 => h9) dX2_copy_16 (by repeat (first | assumption | exact Or.inr gx_us | exact Or.inr (by assumption) | exact Or.inl (by assumption) | refine gx_tu (by omega) ?_)) rfl ?_
  refine gx_callV (nA := 0) hC (m_J2_iterator r5 (by omega)) (C := RJ2) (Tf := TJ2) (Nf := 3) (ci := 19) rfl (by first | ((repeat (first | assumption | exact Or.inr gx_us | exact Or.inr (by assumption) | exact Or.inl (by assumption) | refine gx_tu (by omega) ?_)); done) | exact gx_AL.rc (by assumption) | exact gx_AL.rg (by assumption) | exact gx_AL.rt (by assumption) | exact gx_DQ.rc (by assumption) | exact gx_DQ.rg (by assumption) | exact gx_SB.rc (by assumption) | exact gx_SB.rg (by assumption) | exact gx_Sx.rc (by assumption) | exact gx_Sx.rg (by assumption) | exact gx_IT.rc (by assumption) | exact gx_IT.rg (by assumption) | exact gx_gt.rc (by assumption) | exact gx_gt.rg (by assumption) | exact gx_lx.rc (by assumption) | exact gx_lx.rg (by assumption) | exact gx_sst.rc (by assumption) | exact gx_sst.rg (by assumption)) (lw_V q1323 q669 q670 q81 q671) (by decide +kernel) dX2_copy_19 rfl ⟨Nat.le_of_ble_eq_true rfl, Nat.le_of_ble_eq_true rfl⟩ gx_in.id0 rfl (by first | exact Nat.le_of_ble_eq_true rfl | simp [gx_cat_rf, Value.category]) gx_kno (fun v4 G4 nx4 hp hf4 hle4 hlt4 => ?_)
  obtain ⟨rfl, rfl, kit⟩ := hp
  refine gx_astore_n hC dX2_copy_22 rfl (by decide) (by first | rfl | simp [gx_ck, gx_lk, gx_cat_rf, gx_cat_rn]) (by first | rfl | exact gx_isr_rf _ | exact gx_isr_rn _) ?_
  refine gx_loc (M := [(2, some (.ref (nx + 6))), (1, some (.ref nx)), (0, some (.ref b))]) (by repeat (first | exact trivial | refine ⟨rfl, ?_⟩)) ?_
  refine gx_bud (bc' := 4 * (4 - 0)) (bs' := 70 * (4 - 0)) (by omega) (by omega) ?_
  refine gx_loop (σ := Nat × Int × gx_H) (fun z => z.1 ≤ 4 ∧ gx_le G z.2.2 ∧ z.2.2 nx (gx_O 1 [.ref (nx + 1), .ref (nx + 4)]) ∧ gx_lx D z.2.2 (nx + 1) S ∧ gx_AL D z.2.2 (nx + 4) (nx + 5) z.2.1 4 ([gx_ga nx 1 0, gx_ga nx 1 1, gx_ga nx 1 2, gx_ga nx 1 3].take z.1) ∧ gx_IT z.2.2 (nx + 6) (b + 4) mc z.1 ∧ ∀ g, g < z.1 → gx_gt D z.2.2 Y (gx_ga nx 1 g) g (S.gt g)) (fun z => 4 - z.1) (fun z => z.2.2) (fun z => nx + 7 + 4 * z.1) (fun z => 4 * (4 - z.1)) (fun z => 70 * (4 - z.1)) (fun _ => [(2, some (.ref (nx + 6))), (1, some (.ref nx)), (0, some (.ref b))]) (0, 0, G4) ⟨by omega, fun x e9 hx => hf4 _ _ (rG _ _ hx) (fun q => q), hf4 _ _ r1 (fun q => q), r3.mono (fun q e9 _ _ h => hf4 _ _ h (fun q => q)), r2.mono (fun _ h => hf4 _ _ h (fun q => q)) (fun _ h => hf4 _ _ h (fun q => q)), kit, fun g hg => absurd hg (Nat.not_lt_zero g)⟩ ?_
  rintro ⟨k, mc9, G9⟩ ⟨p0, p1, p2, p3, p4, p5, p6⟩ ih
  dsimp only at p0 p1 p2 p3 p4 p5 p6 ⊢
  have q3 : gx_AL D (gx_TG T G9) (b + 4) (b + 5) mc 4 [gx_ga b w 0, gx_ga b w 1, gx_ga b w 2, gx_ga b w 3] := h3.mono (fun _ => p1.tg) (fun _ => p1.tg)
  have q5 : gx_IT (gx_TG T G9) (nx + 6) (b + 4) mc k := p5.mono (fun _ => Or.inr)
  refine gx_aload_n hC dX2_copy_23 rfl rfl (by first | rfl | exact gx_isr_rf _ | exact gx_isr_rn _) ?_
  refine gx_callF (nA := 0) hC (m_J19_hasNext q5 q3 p0) (C := RJ19) (Tf := TJ19) (Nf := 4) (ci := 24) rfl (by first | ((repeat (first | assumption | exact Or.inr gx_us | exact Or.inr (by assumption) | exact Or.inl (by assumption) | refine gx_tu (by omega) ?_)); done) | exact gx_AL.rc (by assumption) | exact gx_AL.rg (by assumption) | exact gx_AL.rt (by assumption) | exact gx_DQ.rc (by assumption) | exact gx_DQ.rg (by assumption) | exact gx_SB.rc (by assumption) | exact gx_SB.rg (by assumption) | exact gx_Sx.rc (by assumption) | exact gx_Sx.rg (by assumption) | exact gx_IT.rc (by assumption) | exact gx_IT.rg (by assumption) | exact gx_gt.rc (by assumption) | exact gx_gt.rg (by assumption) | exact gx_lx.rc (by assumption) | exact gx_lx.rg (by assumption) | exact gx_sst.rc (by assumption) | exact gx_sst.rg (by assumption)) (lw_app (List.forall_mem_cons.mpr ⟨q1325, (List.forall_mem_cons.mpr ⟨q723, (List.forall_mem_cons.mpr ⟨q725, (List.forall_mem_cons.mpr ⟨q101, (fun _ h9 => absurd h9 List.not_mem_nil)⟩)⟩)⟩)⟩) (lw_meth q727)) q696 q695 q726 q724 q722 (by decide +kernel) dX2_copy_24 rfl ⟨Nat.le_of_ble_eq_true rfl, Nat.le_of_ble_eq_true rfl⟩ gx_in.id0 rfl (by first | exact Nat.le_of_ble_eq_true rfl | simp [gx_cat_rf, Value.category]) gx_kno (gx_kp1 ?_)
  refine gx_if_eq hC dX2_copy_29 (tgt := 57) (by decide) gx_bR (fun c29 => ?_) (fun c29 => ?_)
  · rw [gx_be] at c29
    have e9 : k = 4 := by
      have : ¬ k < 4 := c29
      omega
    subst e9
    refine gx_aload_n hC dX2_copy_57 rfl rfl (by first | rfl | exact gx_isr_rf _ | exact gx_isr_rn _) ?_
    exact gx_aret hC rfl rfl rfl (by first | exact Or.inl ⟨_, rfl⟩ | exact Or.inr ⟨_, rfl⟩) (by first | rfl | exact gx_isr_rf _ | exact gx_isr_rn _) dX2_copy_58 (fun G' hG => ⟨rfl, by omega, by omega, hG _ _ p2, p3.mono (fun q e9 _ _ h => hG _ _ h), ⟨mc9, p4.mono (fun _ h => hG _ _ h) (fun _ h => hG _ _ h)⟩, fun g hg => (p6 g hg).mono (fun q e9 _ _ h => hG _ _ h) (fun _ _ h => h)⟩)
  · rw [gx_bn] at c29
    have hk4 : k < 4 := c29
    refine gx_aload_n hC dX2_copy_32 rfl rfl (by first | rfl | exact gx_isr_rf _ | exact gx_isr_rn _) ?_
    refine gx_callF (nA := 0) hC (m_J19_next p5 q3 c29 (by omega) (by omega)) (C := RJ19) (Tf := TJ19) (Nf := 4) (ci := 24) rfl (by first | ((repeat (first | assumption | exact Or.inr gx_us | exact Or.inr (by assumption) | exact Or.inl (by assumption) | refine gx_tu (by omega) ?_)); done) | exact gx_AL.rc (by assumption) | exact gx_AL.rg (by assumption) | exact gx_AL.rt (by assumption) | exact gx_DQ.rc (by assumption) | exact gx_DQ.rg (by assumption) | exact gx_SB.rc (by assumption) | exact gx_SB.rg (by assumption) | exact gx_Sx.rc (by assumption) | exact gx_Sx.rg (by assumption) | exact gx_IT.rc (by assumption) | exact gx_IT.rg (by assumption) | exact gx_gt.rc (by assumption) | exact gx_gt.rg (by assumption) | exact gx_lx.rc (by assumption) | exact gx_lx.rg (by assumption) | exact gx_sst.rc (by assumption) | exact gx_sst.rg (by assumption)) (lw_app (List.forall_mem_cons.mpr ⟨q1327, (List.forall_mem_cons.mpr ⟨q950, (List.forall_mem_cons.mpr ⟨q952, (List.forall_mem_cons.mpr ⟨q101, (fun _ h9 => absurd h9 List.not_mem_nil)⟩)⟩)⟩)⟩) (lw_meth q954)) q740 q739 q953 q951 q722 (by decide +kernel) dX2_copy_33 rfl ⟨Nat.le_of_ble_eq_true rfl, Nat.le_of_ble_eq_true rfl⟩ (gx_in.id hC (fun q hq => Or.inr (by omega))) rfl (by first | exact Nat.le_of_ble_eq_true rfl | simp [gx_cat_rf, Value.category]) gx_kno (fun v5 G5 nx5 hp hf5 hle5 hlt5 => ?_)
    obtain ⟨rfl, rfl, s1⟩ := hp
    rw [gx_gal hk4]
    have sG : gx_le G G5 := fun x e9 hx => hf5 _ _ (p1 _ _ hx) (by have := hlt _ _ hx; omega)
    have s2 := hf5 _ _ p2 (by omega)
    have s3 : gx_lx D G5 (nx + 1) S := p3.mono (fun q e9 _ _ h => hf5 _ _ h (by omega))
    have s4 : gx_AL D G5 (nx + 4) (nx + 5) mc9 4 ([gx_ga nx 1 0, gx_ga nx 1 1, gx_ga nx 1 2, gx_ga nx 1 3].take k) := p4.mono (fun _ h => hf5 _ _ h (by omega)) (fun _ h => hf5 _ _ h (by omega))
    have s6 : ∀ g, g < k → gx_gt D G5 Y (gx_ga nx 1 g) g (S.gt g) := fun g hg => (p6 g hg).mono (fun q e9 h8 _ h => hf5 _ _ h (by rw [gx_ga1] at h8; omega)) (fun _ _ h => h)
    have s7 : gx_gt D (gx_TG T G5) Y (gx_ga b w k) k (S.gt k) := (h4 k hk4).mono (fun q e9 _ _ h => sG.tg h) (fun _ _ h => h)
    have s8 := s7.1
    have hY5 : gx_yok T G5 gx_M0 Y := fun x t h => ⟨sG.tg (hY x t h).1, fun q => q⟩
    refine gx_bud (bc' := 4 * (4 - (k + 1)) + 4) (bs' := 70 * (4 - (k + 1)) + 70) (by show _ ≤ 4 * (4 - k); omega) (by show _ ≤ 70 * (4 - k); omega) ?_
    refine gx_castE hC (C := RX4) (Tf := TX4) (N := 3) (ci := 3) rfl q539 dX2_copy_38 (by repeat (first | assumption | exact Or.inr gx_us | exact Or.inr (by assumption) | exact Or.inl (by assumption) | refine gx_tu (by omega) ?_)) ?_
    refine gx_astore_n hC dX2_copy_41 rfl (by decide) (by first | rfl | simp [gx_ck, gx_lk, gx_cat_rf, gx_cat_rn]) (by first | rfl | exact gx_isr_rf _ | exact gx_isr_rn _) ?_
    refine gx_aload_n hC dX2_copy_42 rfl rfl (by first | rfl | exact gx_isr_rf _ | exact gx_isr_rn _) ?_
    refine gx_get hC (C := RX2) (Tf := TX2) (N := 2) (ci := 1) (k := 1) rfl in_X2 (by decide) q532 (fun _ h9 => h9) dX2_copy_43 (by repeat (first | assumption | exact Or.inr gx_us | exact Or.inr (by assumption) | exact Or.inl (by assumption) | refine gx_tu (by omega) ?_)) rfl ?_
    refine gx_aload_n hC dX2_copy_46 rfl rfl (by first | rfl | exact gx_isr_rf _ | exact gx_isr_rn _) ?_
    refine gx_callV (nA := 0) hC (m_X4_copy s7 (hok k hk4) hY5) (C := RX4) (Tf := TX4) (Nf := 3) (ci := 3) rfl (by first | ((repeat (first | assumption | exact Or.inr gx_us | exact Or.inr (by assumption) | exact Or.inl (by assumption) | refine gx_tu (by omega) ?_)); done) | exact gx_AL.rc (by assumption) | exact gx_AL.rg (by assumption) | exact gx_AL.rt (by assumption) | exact gx_DQ.rc (by assumption) | exact gx_DQ.rg (by assumption) | exact gx_SB.rc (by assumption) | exact gx_SB.rg (by assumption) | exact gx_Sx.rc (by assumption) | exact gx_Sx.rg (by assumption) | exact gx_IT.rc (by assumption) | exact gx_IT.rg (by assumption) | exact gx_gt.rc (by assumption) | exact gx_gt.rg (by assumption) | exact gx_lx.rc (by assumption) | exact gx_lx.rg (by assumption) | exact gx_sst.rc (by assumption) | exact gx_sst.rg (by assumption)) (lw_V q1551 q1552 q1553 q98 q1554) (by decide +kernel) dX2_copy_47 rfl ⟨Nat.le_of_ble_eq_true rfl, Nat.le_of_ble_eq_true rfl⟩ gx_in.id0 rfl (by first | exact Nat.le_of_ble_eq_true rfl | simp [gx_cat_rf, Value.category]) gx_kno (fun v6 G6 nx6 hp hf6 hle6 hlt6 => ?_)
    obtain ⟨rfl, rfl, t1⟩ := hp
    have e8 : nx + 7 + 4 * k = gx_ga nx 1 k := gx_ga1.symm
    rw [e8] at t1 ⊢
    have t2 : gx_AL D G6 (nx + 4) (nx + 5) mc9 4 ([gx_ga nx 1 0, gx_ga nx 1 1, gx_ga nx 1 2, gx_ga nx 1 3].take k) := s4.mono (fun _ h => hf6 _ _ h (fun q => q)) (fun _ h => hf6 _ _ h (fun q => q))
    have hob : gx_ob (gx_TG T G6) (gx_ga nx 1 k) := ⟨3, _, _, _, _, rfl, Or.inr t1.1, q3047⟩
    refine gx_callV (nA := 1) hC (m_J2_add t2 hob (by rw [List.length_take]; show min k 4 < 4; omega) (by rw [gx_ga1]; omega)) (C := RJ2) (Tf := TJ2) (Nf := 3) (ci := 19) rfl (by first | ((repeat (first | assumption | exact Or.inr gx_us | exact Or.inr (by assumption) | exact Or.inl (by assumption) | refine gx_tu (by omega) ?_)); done) | exact gx_AL.rc (by assumption) | exact gx_AL.rg (by assumption) | exact gx_AL.rt (by assumption) | exact gx_DQ.rc (by assumption) | exact gx_DQ.rg (by assumption) | exact gx_SB.rc (by assumption) | exact gx_SB.rg (by assumption) | exact gx_Sx.rc (by assumption) | exact gx_Sx.rg (by assumption) | exact gx_IT.rc (by assumption) | exact gx_IT.rg (by assumption) | exact gx_gt.rc (by assumption) | exact gx_gt.rg (by assumption) | exact gx_lx.rc (by assumption) | exact gx_lx.rg (by assumption) | exact gx_sst.rc (by assumption) | exact gx_sst.rg (by assumption)) (lw_V q563 q564 q565 q81 q566) (by decide +kernel) dX2_copy_50 rfl ⟨Nat.le_of_ble_eq_true rfl, Nat.le_of_ble_eq_true rfl⟩ (gx_in.id hC (fun q hq => Or.inr (by omega))) rfl (by first | exact Nat.le_of_ble_eq_true rfl | simp [gx_cat_rf, Value.category]) gx_kno (fun v7 G7 nx7 hp hf7 hle7 hlt7 => ?_)
    obtain ⟨rfl, rfl, u1⟩ := hp
    rw [← gx_gal_take hk4] at u1
    refine gx_pop hC dX2_copy_53 (by first | rfl | exact gx_cat_rf _ | exact gx_cat_rn _) ?_
    refine gx_goto hC dX2_copy_54 (tgt := 23) (by decide) ?_
    refine gx_loc (M := [(2, some (.ref (nx + 6))), (1, some (.ref nx)), (0, some (.ref b))]) (by repeat (first | exact trivial | refine ⟨rfl, ?_⟩)) ?_
    rw [show gx_ga nx 1 k + 4 = nx + 7 + 4 * (k + 1) by rw [gx_ga1]; omega]
    refine ih (k + 1, mc9 + 1, G7) ⟨by omega, fun x e9 hx => hf7 _ _ (hf6 _ _ (sG _ _ hx) (fun q => q)) (by have := hlt _ _ hx; omega), hf7 _ _ (hf6 _ _ s2 (fun q => q)) (by omega), s3.mono (fun q e9 _ _ h => hf7 _ _ (hf6 _ _ h (fun q => q)) (by omega)), u1, s1.mono (fun _ h => hf7 _ _ (hf6 _ _ h (fun q => q)) (by omega)), fun g hg => ?_⟩ (by dsimp only; omega)
    by_cases ej : g = k
    · subst ej
      exact t1.mono (fun q e9 h8 _ h => hf7 _ _ h (by rw [gx_ga1] at h8; omega)) (fun _ _ h => h)
    · exact (s6 g (by omega)).mono (fun q e9 h8 _ h => hf7 _ _ (hf6 _ _ h (fun q => q)) (by rw [gx_ga1] at h8; omega)) (fun _ _ h => h)
end STA

