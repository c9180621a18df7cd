/-! scan; Level; Report -/
set_option maxRecDepth 100000
/-- an ArrayList of tokens -/
def gx_tl (D : gx_D) (X Y : gx_H) (a ed : Nat) (tk : List gs_T) : Prop := (∃ (mc : Int) (xs : List Nat), gx_AL D X a ed mc 24 xs ∧ gx_tks Y xs tk) ∧ tk.length ≤ 24 ∧ ∀ t ∈ tk, (0 ≤ t.k ∧ t.k ≤ 4) ∧ (0 ≤ t.w ∧ t.w < 8) ∧ (0 ≤ t.d ∧ t.d < 4)
section SCA
variable {l : Launch} {D : gx_D} {T G Y : gx_H} {nx : Nat} {a ed v : Nat} {tk : List gs_T} {u : Nat}
theorem m_X1_scan (h : gx_tl D (gx_TG T G) Y a ed tk) (hY : gx_yok T G gx_M0 Y) : gx_Met l yX1_scan (ws_ yX1_scan cX1_scan 5 (some (.object "GateGrammar$Scanner"))) 8 2 8 D gx_M0 T G nx [.ref a] (fun w G' nx' => w = some (.ref nx) ∧ nx' = nx + 2 ∧ gx_scn G' nx tk tk.length) gx_no := by
  obtain ⟨⟨mc, xs, h2, h3⟩, hl, hkd⟩ := h
  have h31 := h3.1
  refine gx_start (by decide) (Nat.le_of_ble_eq_true rfl) rfl (fun p e s m args below meth c hC hlt => ?_)
  have ha1 := hC.tl hlt h2.1
  obtain ⟨f2, hf2, -⟩ := h2.2.1
  have ha2 := hC.tl hlt hf2
  refine gx_new hC (C := RX11) (Tf := TX11) (N := 4) (ci := 10) (fs := fdX11) rfl in_X11 tyX11 tyX11_ok q1351 q1352 q114 dvX11 dX1_scan_0 ?_
  refine gx_dup hC dX1_scan_3 (by first | rfl | exact gx_cat_rf _ | exact gx_cat_rn _) ?_
  refine gx_callIN (nA := 0) hC (m_X11_init (tk := tk) gx_us) (lw_meth q1355) q114 q1353 q1354 rfl (by decide +kernel) dX1_scan_4 rfl ⟨Nat.le_of_ble_eq_true rfl, Nat.le_of_ble_eq_true rfl⟩ (gx_in.id hC (fun q hq => Or.inr (by omega))) rfl (by first | exact Nat.le_of_ble_eq_true rfl | simp [gx_cat_rf, Value.category]) gx_kno (fun v2 G2 nx2 hp hf hle hlt2 => ?_)
  obtain ⟨rfl, rfl, k1⟩ := hp
  have kG : gx_le G G2 := fun x e9 hx => hf _ _ (gx_un (by have := hlt _ _ hx; omega) hx) (by have := hlt _ _ hx; omega)
  have h2a : gx_AL D (gx_TG T G2) a ed mc 24 xs := h2.mono (fun _ => kG.tg) (fun _ => kG.tg)
  refine gx_astore_n hC dX1_scan_7 rfl (by decide) (by first | rfl | simp [gx_ck, gx_lk, gx_cat_rf, gx_cat_rn]) (by first | rfl | exact gx_isr_rf _ | exact gx_isr_rn _) ?_
  refine gx_aload_n hC dX1_scan_8 rfl rfl (by first | rfl | exact gx_isr_rf _ | exact gx_isr_rn _) ?_
  refine gx_callF (nA := 0) hC (m_J2_iterator h2a (by omega)) (C := RJ2) (Tf := TJ2) (Nf := 3) (ci := 19) rfl (by first | ((repeat (first | assumption | exact Or.inr gx_us | exact Or.inr (by assumption) | exact Or.inl (by assumption) | refine gx_tu (by omega) ?_)); done) | exact gx_AL.rc (by assumption) | exact gx_AL.rg (by assumption) | exact gx_AL.rt (by assumption) | exact gx_DQ.rc (by assumption) | exact gx_DQ.rg (by assumption) | exact gx_SB.rc (by assumption) | exact gx_SB.rg (by assumption) | exact gx_Sx.rc (by assumption) | exact gx_Sx.rg (by assumption) | exact gx_IT.rc (by assumption) | exact gx_IT.rg (by assumption) | exact gx_gt.rc (by assumption) | exact gx_gt.rg (by assumption) | exact gx_lx.rc (by assumption) | exact gx_lx.rg (by assumption) | exact gx_sst.rc (by assumption) | exact gx_sst.rg (by assumption)) (lw_app (List.forall_mem_cons.mpr ⟨q1374, (List.forall_mem_cons.mpr ⟨q1377, (List.forall_mem_cons.mpr ⟨q669, (List.forall_mem_cons.mpr ⟨q81, (fun _ h9 => absurd h9 List.not_mem_nil)⟩)⟩)⟩)⟩) (lw_meth q671)) q1376 q1375 q1379 q1378 q990 (by decide +kernel) dX1_scan_9 rfl ⟨Nat.le_of_ble_eq_true rfl, Nat.le_of_ble_eq_true rfl⟩ gx_in.id0 rfl (by first | exact Nat.le_of_ble_eq_true rfl | simp [gx_cat_rf, Value.category]) gx_kno (fun v3 G3 nx3 hp hf3 hle3 hlt3 => ?_)
  obtain ⟨rfl, rfl, kit⟩ := hp
  refine gx_astore_n hC dX1_scan_14 rfl (by decide) (by first | rfl | simp [gx_ck, gx_lk, gx_cat_rf, gx_cat_rn]) (by first | rfl | exact gx_isr_rf _ | exact gx_isr_rn _) ?_
  refine gx_loc (M := [(2, some (.ref (nx + 1))), (1, some (.ref nx)), (0, some (.ref a))]) (by repeat (first | exact trivial | refine ⟨rfl, ?_⟩)) ?_
  refine gx_loop (σ := Nat × gx_H) (fun z => z.1 ≤ xs.length ∧ gx_le G z.2 ∧ gx_scn z.2 nx tk z.1 ∧ gx_IT z.2 (nx + 1) a mc z.1) (fun z => xs.length - z.1) (fun z => z.2) (fun _ => nx + 1 + 1) (fun _ => 0) (fun _ => 0) (fun _ => [(2, some (.ref (nx + 1))), (1, some (.ref nx)), (0, some (.ref a))]) (0, G3) ⟨by omega, fun x e9 hx => hf3 _ _ (kG _ _ hx) (fun q => q), hf3 _ _ k1 (fun q => q), kit⟩ ?_
  rintro ⟨i, G9⟩ ⟨p1, p2, p3, p5⟩ ih
  dsimp only at p1 p2 p3 p5 ⊢
  have q2 : gx_AL D (gx_TG T G9) a ed mc 24 xs := h2.mono (fun _ => p2.tg) (fun _ => p2.tg)
  have q5 : gx_IT (gx_TG T G9) (nx + 1) a mc i := p5.mono (fun _ => Or.inr)
  refine gx_aload_n hC dX1_scan_15 rfl rfl (by first | rfl | exact gx_isr_rf _ | exact gx_isr_rn _) ?_
  refine gx_callF (nA := 0) hC (m_J19_hasNext q5 q2 p1) (C := RJ19) (Tf := TJ19) (Nf := 4) (ci := 24) rfl (by first | ((repeat (first | assumption | exact Or.inr gx_us | exact Or.inr (by assumption) | exact Or.inl (by assumption) | refine gx_tu (by omega) ?_)); done) | exact gx_AL.rc (by assumption) | exact gx_AL.rg (by assumption) | exact gx_AL.rt (by assumption) | exact gx_DQ.rc (by assumption) | exact gx_DQ.rg (by assumption) | exact gx_SB.rc (by assumption) | exact gx_SB.rg (by assumption) | exact gx_Sx.rc (by assumption) | exact gx_Sx.rg (by assumption) | exact gx_IT.rc (by assumption) | exact gx_IT.rg (by assumption) | exact gx_gt.rc (by assumption) | exact gx_gt.rg (by assumption) | exact gx_lx.rc (by assumption) | exact gx_lx.rg (by assumption) | exact gx_sst.rc (by assumption) | exact gx_sst.rg (by assumption)) (lw_app (List.forall_mem_cons.mpr ⟨q694, (List.forall_mem_cons.mpr ⟨q723, (List.forall_mem_cons.mpr ⟨q725, (List.forall_mem_cons.mpr ⟨q101, (fun _ h9 => absurd h9 List.not_mem_nil)⟩)⟩)⟩)⟩) (lw_meth q727)) q696 q695 q726 q724 q722 (by decide +kernel) dX1_scan_16 rfl ⟨Nat.le_of_ble_eq_true rfl, Nat.le_of_ble_eq_true rfl⟩ gx_in.id0 rfl (by first | exact Nat.le_of_ble_eq_true rfl | simp [gx_cat_rf, Value.category]) gx_kno (gx_kp1 ?_)
  refine gx_if_eq hC dX1_scan_21 (tgt := 44) (by decide) gx_bR (fun c21 => ?_) (fun c21 => ?_)
  · rw [gx_be] at c21
    have e9 : i = tk.length := by omega
    subst e9
    refine gx_aload_n hC dX1_scan_44 rfl rfl (by first | rfl | exact gx_isr_rf _ | exact gx_isr_rn _) ?_
    exact gx_aret hC rfl rfl rfl (by first | exact Or.inl ⟨_, rfl⟩ | exact Or.inr ⟨_, rfl⟩) (by first | rfl | exact gx_isr_rf _ | exact gx_isr_rn _) dX1_scan_45 (fun G' hG => ⟨rfl, rfl, hG _ _ p3⟩)
  · rw [gx_bn] at c21
    refine gx_aload_n hC dX1_scan_24 rfl rfl (by first | rfl | exact gx_isr_rf _ | exact gx_isr_rn _) ?_
    refine gx_callF (nA := 0) hC (m_J19_next p5 q2 c21 (by omega) (by omega)) (C := RJ19) (Tf := TJ19) (Nf := 4) (ci := 24) rfl (by first | ((repeat (first | assumption | exact Or.inr gx_us | exact Or.inr (by assumption) | exact Or.inl (by assumption) | refine gx_tu (by omega) ?_)); done) | exact gx_AL.rc (by assumption) | exact gx_AL.rg (by assumption) | exact gx_AL.rt (by assumption) | exact gx_DQ.rc (by assumption) | exact gx_DQ.rg (by assumption) | exact gx_SB.rc (by assumption) | exact gx_SB.rg (by assumption) | exact gx_Sx.rc (by assumption) | exact gx_Sx.rg (by assumption) | exact gx_IT.rc (by assumption) | exact gx_IT.rg (by assumption) | exact gx_gt.rc (by assumption) | exact gx_gt.rg (by assumption) | exact gx_lx.rc (by assumption) | exact gx_lx.rg (by assumption) | exact gx_sst.rc (by assumption) | exact gx_sst.rg (by assumption)) (lw_app (List.forall_mem_cons.mpr ⟨q738, (List.forall_mem_cons.mpr ⟨q950, (List.forall_mem_cons.mpr ⟨q952, (List.forall_mem_cons.mpr ⟨q101, (fun _ h9 => absurd h9 List.not_mem_nil)⟩)⟩)⟩)⟩) (lw_meth q954)) q740 q739 q953 q951 q722 (by decide +kernel) dX1_scan_25 rfl ⟨Nat.le_of_ble_eq_true rfl, Nat.le_of_ble_eq_true rfl⟩ (gx_in.id hC (fun q hq => Or.inr (by omega))) rfl (by first | exact Nat.le_of_ble_eq_true rfl | simp [gx_cat_rf, Value.category]) gx_kno (fun v4 G4 nx4 hp hf4 hle4 hlt4 => ?_)
    obtain ⟨rfl, rfl, r1⟩ := hp
    have r2 : gx_le G G4 := fun x e9 hx => hf4 _ _ (p2 _ _ hx) (by have := hlt _ _ hx; omega)
    have r3 : gx_scn G4 nx tk i := hf4 _ _ p3 (by omega)
    have ht := (hY _ _ (h3.2 i (by omega))).1
    have ht2 := r2.tg ht
    have hvl := hC.tl hlt ht
    have hkk := (hkd _ (gs_gm (tk := tk) (j := i) (by omega))).1
    refine gx_castE hC (C := RX7) (Tf := TX7) (N := 3) (ci := 6) rfl q1458 dX1_scan_30 (by repeat (first | assumption | exact Or.inr gx_us | exact Or.inr (by assumption) | exact Or.inl (by assumption) | refine gx_tu (by omega) ?_)) ?_
    refine gx_astore_n hC dX1_scan_33 rfl (by decide) (by first | rfl | simp [gx_ck, gx_lk, gx_cat_rf, gx_cat_rn]) (by first | rfl | exact gx_isr_rf _ | exact gx_isr_rn _) ?_
    refine gx_aload_n hC dX1_scan_34 rfl rfl (by first | rfl | exact gx_isr_rf _ | exact gx_isr_rn _) ?_
    refine gx_aload_n hC dX1_scan_35 rfl rfl (by first | rfl | exact gx_isr_rf _ | exact gx_isr_rn _) ?_
    have r3' : gx_TG T G4 nx (gx_O 10 [.int (iz (gs_lA tk i).m), .int (iz ((gs_lA tk i).lv : Int)), .int (iz (if gs_last tk i < i then (gs_last tk i : Int) else -1)), .int (iz (gs_last tk i : Int))]) := Or.inr r3
    refine gx_callV (nA := 1) hC (m_X11_accepts r3 ht2 (by omega) hkk (by omega)) (C := RX11) (Tf := TX11) (Nf := 4) (ci := 10) rfl (by first | ((repeat (first | assumption | exact Or.inr gx_us | exact Or.inr (by assumption) | exact Or.inl (by assumption) | refine gx_tu (by omega) ?_)); done) | exact gx_AL.rc (by assumption) | exact gx_AL.rg (by assumption) | exact gx_AL.rt (by assumption) | exact gx_DQ.rc (by assumption) | exact gx_DQ.rg (by assumption) | exact gx_SB.rc (by assumption) | exact gx_SB.rg (by assumption) | exact gx_Sx.rc (by assumption) | exact gx_Sx.rg (by assumption) | exact gx_IT.rc (by assumption) | exact gx_IT.rg (by assumption) | exact gx_gt.rc (by assumption) | exact gx_gt.rg (by assumption) | exact gx_lx.rc (by assumption) | exact gx_lx.rg (by assumption) | exact gx_sst.rc (by assumption) | exact gx_sst.rg (by assumption)) (lw_V q1459 q1460 q1461 q114 q1462) (by decide +kernel) dX1_scan_36 rfl ⟨Nat.le_of_ble_eq_true rfl, Nat.le_of_ble_eq_true rfl⟩ (gx_in.id hC (fun q hq => Or.inr (by omega))) rfl (by first | exact Nat.le_of_ble_eq_true rfl | simp [gx_cat_rf, Value.category]) gx_kno (fun v5 G5 nx5 hp hf5 hle5 hlt5 => ?_)
    obtain ⟨⟨z, rfl⟩, rfl, s1⟩ := hp
    refine gx_istore hC dX1_scan_39 (by decide) (by first | rfl | simp [gx_ck, gx_lk, gx_cat_rf, gx_cat_rn]) ?_
    refine gx_goto hC dX1_scan_41 (tgt := 15) (by decide) ?_
    refine gx_loc (M := [(2, some (.ref (nx + 1))), (1, some (.ref nx)), (0, some (.ref a))]) (by repeat (first | exact trivial | refine ⟨rfl, ?_⟩)) ?_
    exact ih (i + 1, G5) ⟨by omega, fun x e9 hx => hf5 _ _ (r2 _ _ hx) (by have := hlt _ _ hx; omega), s1, r1.mono (fun _ h => hf5 _ _ h (by omega))⟩ (by dsimp only; omega)
-- ===== Level, Report =====
theorem m_X14_init {x : Int} (h : G a (gx_O 13 fdX14)) : gx_Met l yX14_init (ws_ yX14_init cX14_init 2 none) 2 0 0 D (fun q => q = a) T G nx [.ref a, .int (iz x)] (fun w G' nx' => w = none ∧ nx' = nx ∧ G' a (gx_O 13 [.int (iz x), .int (iz (-1))])) gx_no := by
  refine gx_start (by decide) (Nat.le_of_ble_eq_true rfl) rfl (fun p e s m args below meth c hC hlt => ?_)
  refine gx_aload_n hC dX14_init_0 rfl rfl (by first | rfl | exact gx_isr_rf _ | exact gx_isr_rn _) ?_
  refine gx_oinit hC q1508 q137 q138 dX14_init_1 (Nat.le_of_ble_eq_true rfl) (Nat.le_of_ble_eq_true rfl) ?_
  refine gx_aload_n hC dX14_init_4 rfl rfl (by first | rfl | exact gx_isr_rf _ | exact gx_isr_rn _) ?_
  refine gx_iconst hC dX14_init_5 ?_
  refine gx_put hC (C := RX14) (Tf := TX14) (N := 2) (ci := 13) (k := 1) rfl in_X14 (by decide) tyX14 tyX14_ok nmX14 q1510 (fun _ h9 => h9) rfl dX14_init_6 (by first | exact gx_us | assumption | (repeat (first | exact gx_us | assumption | refine gx_un (by omega) ?_))) (by first | exact Or.inl rfl | exact Or.inl (Or.inl rfl) | exact Or.inl (Or.inr rfl) | exact Or.inr (by omega) | assumption | (simp only [gx_A, *]; omega)) (Nat.le_of_ble_eq_true rfl) (by first | rfl | (unfold gx_rn; split <;> rfl) | (cases ‹Option Nat› <;> rfl) | simp [narrow]) (by first | rfl | (unfold gx_rn; split <;> rfl) | (cases ‹Option Nat› <;> rfl) | simp [fits]) ?_
  refine gx_aload_n hC dX14_init_9 rfl rfl (by first | rfl | exact gx_isr_rf _ | exact gx_isr_rn _) ?_
  refine gx_iload_n hC dX14_init_10 rfl rfl ?_
  refine gx_putF hC (C := RX14) (Tf := TX14) (N := 2) (ci := 13) (k := 0) rfl in_X14 (by decide) tyX14 tyX14_ok nmX14 q1509 (fun _ h9 => h9) rfl rfl rfl dX14_init_11 (by first | exact gx_us | assumption | (repeat (first | exact gx_us | assumption | refine gx_un (by omega) ?_))) (by first | exact Or.inl rfl | exact Or.inl (Or.inl rfl) | exact Or.inl (Or.inr rfl) | exact Or.inr (by omega) | assumption | (simp only [gx_A, *]; omega)) (Nat.le_of_ble_eq_true rfl) (by first | rfl | (unfold gx_rn; split <;> rfl) | (cases ‹Option Nat› <;> rfl) | simp [narrow]) (by first | rfl | (unfold gx_rn; split <;> rfl) | (cases ‹Option Nat› <;> rfl) | simp [fits]) ?_
  exact gx_vret hC rfl rfl rfl dX14_init_14 (fun G' hG => ⟨rfl, rfl, hG _ _ gx_us⟩)
theorem m_X14_disagreements {x f9 t9 : Int} (h : G a (gx_O 13 [.int (iz x), .int (iz f9)])) (hx : gx_rg x) (hf9 : gx_rg f9) (ht9 : gx_rg t9) : gx_Met l yX14_disagreements (ws_ yX14_disagreements cX14_disagreements 3 (some .int)) 1 0 0 D (fun q => q = a) T G nx [.ref a, .int (iz t9)] (fun w G' nx' => w = some (.int (iz (gx_b (0 ≤ f9 ∧ t9 ≠ f9) + gx_b (x < t9)))) ∧ nx' = nx ∧ G' a (gx_O 13 [.int (iz x), .int (iz (if f9 < 0 then t9 else f9))])) gx_no := by
  have key : ∀ z : Int, z = gx_b (0 ≤ f9 ∧ t9 ≠ f9) → ∀ (P : Int → Prop), P z → P (gx_b (0 ≤ f9 ∧ t9 ≠ f9)) := fun z hz P h => hz ▸ h
  unfold gx_rg at hx hf9 ht9
  refine gx_start (by decide) (Nat.le_of_ble_eq_true rfl) rfl (fun p e s m args below meth c hC hlt => ?_)
  have tail : ∀ z : Int, z = gx_b (0 ≤ f9 ∧ t9 ≠ f9) → gx_X p l e (headSpec (ws_ yX14_disagreements cX14_disagreements 3 (some .int)) (gx_rm 1 0 0)).room s m args below meth c (gx_QQ below D (gx_A (fun q => q = a) nx) (fun w G' nx' => w = some (.int (iz (gx_b (0 ≤ f9 ∧ t9 ≠ f9) + gx_b (x < t9)))) ∧ nx' = nx ∧ G' a (gx_O 13 [.int (iz x), .int (iz (if f9 < 0 then t9 else f9))])) gx_no args s 0 0) D (gx_A (fun q => q = a) nx) G nx 0 0 20 [(0, some (.ref a)), (1, some (.int (iz t9)))] [.int (iz z)] := by
    intro z hz
    have fin : ∀ y : Int, y = gx_b (x < t9) → gx_X p l e (headSpec (ws_ yX14_disagreements cX14_disagreements 3 (some .int)) (gx_rm 1 0 0)).room s m args below meth c (gx_QQ below D (gx_A (fun q => q = a) nx) (fun w G' nx' => w = some (.int (iz (gx_b (0 ≤ f9 ∧ t9 ≠ f9) + gx_b (x < t9)))) ∧ nx' = nx ∧ G' a (gx_O 13 [.int (iz x), .int (iz (if f9 < 0 then t9 else f9))])) gx_no args s 0 0) D (gx_A (fun q => q = a) nx) G nx 0 0 33 [(0, some (.ref a)), (1, some (.int (iz t9)))] [.int (iz y), .int (iz z)] := by
      intro y hy
      refine gx_iadd hC dX14_disagreements_33 ?_
      refine gx_istore_n hC dX14_disagreements_34 rfl (by decide) (by first | rfl | simp [gx_ck, gx_lk, gx_cat_rf, gx_cat_rn]) ?_
      refine gx_aload_n hC dX14_disagreements_35 rfl rfl (by first | rfl | exact gx_isr_rf _ | exact gx_isr_rn _) ?_
      refine gx_aload_n hC dX14_disagreements_36 rfl rfl (by first | rfl | exact gx_isr_rf _ | exact gx_isr_rn _) ?_
      refine gx_get hC (C := RX14) (Tf := TX14) (N := 2) (ci := 13) (k := 1) rfl in_X14 (by decide) q1510 (fun _ h9 => h9) dX14_disagreements_37 (by repeat (first | assumption | exact Or.inr gx_us | exact Or.inr (by assumption) | exact Or.inl (by assumption) | refine gx_tu (by omega) ?_)) rfl ?_
      refine gx_if_ge hC dX14_disagreements_40 (tgt := 47) (by decide) (by unfold gx_rg; omega) (fun c40 => ?_) (fun c40 => ?_)
      · refine gx_aload_n hC dX14_disagreements_47 rfl rfl (by first | rfl | exact gx_isr_rf _ | exact gx_isr_rn _) ?_
        refine gx_get hC (C := RX14) (Tf := TX14) (N := 2) (ci := 13) (k := 1) rfl in_X14 (by decide) q1510 (fun _ h9 => h9) dX14_disagreements_48 (by repeat (first | assumption | exact Or.inr gx_us | exact Or.inr (by assumption) | exact Or.inl (by assumption) | refine gx_tu (by omega) ?_)) rfl ?_
        refine gx_put hC (C := RX14) (Tf := TX14) (N := 2) (ci := 13) (k := 1) rfl in_X14 (by decide) tyX14 tyX14_ok nmX14 q1510 (fun _ h9 => h9) rfl dX14_disagreements_51 (by first | exact gx_us | assumption | (repeat (first | exact gx_us | assumption | refine gx_un (by omega) ?_))) (by first | exact Or.inl rfl | exact Or.inl (Or.inl rfl) | exact Or.inl (Or.inr rfl) | exact Or.inr (by omega) | assumption | (simp only [gx_A, *]; omega)) (Nat.le_of_ble_eq_true rfl) (by first | rfl | (unfold gx_rn; split <;> rfl) | (cases ‹Option Nat› <;> rfl) | simp [narrow]) (by first | rfl | (unfold gx_rn; split <;> rfl) | (cases ‹Option Nat› <;> rfl) | simp [fits]) ?_
        refine gx_iload_n hC dX14_disagreements_54 rfl rfl ?_
        exact gx_iret hC rfl rfl rfl dX14_disagreements_55 (fun G' hG => ⟨by rw [hz, hy], rfl, by rw [if_neg (by omega)]; exact hG _ _ gx_us⟩)
      · refine gx_iload_n hC dX14_disagreements_43 rfl rfl ?_
        refine gx_goto hC dX14_disagreements_44 (tgt := 51) (by decide) ?_
        refine gx_put hC (C := RX14) (Tf := TX14) (N := 2) (ci := 13) (k := 1) rfl in_X14 (by decide) tyX14 tyX14_ok nmX14 q1510 (fun _ h9 => h9) rfl dX14_disagreements_51 (by first | exact gx_us | assumption | (repeat (first | exact gx_us | assumption | refine gx_un (by omega) ?_))) (by first | exact Or.inl rfl | exact Or.inl (Or.inl rfl) | exact Or.inl (Or.inr rfl) | exact Or.inr (by omega) | assumption | (simp only [gx_A, *]; omega)) (Nat.le_of_ble_eq_true rfl) (by first | rfl | (unfold gx_rn; split <;> rfl) | (cases ‹Option Nat› <;> rfl) | simp [narrow]) (by first | rfl | (unfold gx_rn; split <;> rfl) | (cases ‹Option Nat› <;> rfl) | simp [fits]) ?_
        refine gx_iload_n hC dX14_disagreements_54 rfl rfl ?_
        exact gx_iret hC rfl rfl rfl dX14_disagreements_55 (fun G' hG => ⟨by rw [hz, hy], rfl, by rw [if_pos (by omega)]; exact hG _ _ gx_us⟩)
    refine gx_iload_n hC dX14_disagreements_20 rfl rfl ?_
    refine gx_aload_n hC dX14_disagreements_21 rfl rfl (by first | rfl | exact gx_isr_rf _ | exact gx_isr_rn _) ?_
    refine gx_get hC (C := RX14) (Tf := TX14) (N := 2) (ci := 13) (k := 0) rfl in_X14 (by decide) q1509 (fun _ h9 => h9) dX14_disagreements_22 (by repeat (first | assumption | exact Or.inr gx_us | exact Or.inr (by assumption) | exact Or.inl (by assumption) | refine gx_tu (by omega) ?_)) rfl ?_
    refine gx_icmp_le hC dX14_disagreements_25 (tgt := 32) (by decide) (by unfold gx_rg; omega) (by unfold gx_rg; omega) (fun c25 => ?_) (fun c25 => ?_)
    · refine gx_iconst hC dX14_disagreements_32 ?_
      exact fin 0 (gx_b0 (by omega)).symm
    · refine gx_iconst hC dX14_disagreements_28 ?_
      refine gx_goto hC dX14_disagreements_29 (tgt := 33) (by decide) ?_
      exact fin 1 (gx_b1 (by omega)).symm
  refine gx_aload_n hC dX14_disagreements_0 rfl rfl (by first | rfl | exact gx_isr_rf _ | exact gx_isr_rn _) ?_
  refine gx_get hC (C := RX14) (Tf := TX14) (N := 2) (ci := 13) (k := 1) rfl in_X14 (by decide) q1510 (fun _ h9 => h9) dX14_disagreements_1 (by repeat (first | assumption | exact Or.inr gx_us | exact Or.inr (by assumption) | exact Or.inl (by assumption) | refine gx_tu (by omega) ?_)) rfl ?_
  refine gx_if_lt hC dX14_disagreements_4 (tgt := 19) (by decide) (by unfold gx_rg; omega) (fun c4 => ?_) (fun c4 => ?_)
  · refine gx_iconst hC dX14_disagreements_19 ?_
    refine gx_loc (M := [(0, some (.ref a)), (1, some (.int (iz t9)))]) (by repeat (first | exact trivial | refine ⟨rfl, ?_⟩)) ?_
    exact tail 0 (gx_b0 (by omega)).symm
  · refine gx_iload_n hC dX14_disagreements_7 rfl rfl ?_
    refine gx_aload_n hC dX14_disagreements_8 rfl rfl (by first | rfl | exact gx_isr_rf _ | exact gx_isr_rn _) ?_
    refine gx_get hC (C := RX14) (Tf := TX14) (N := 2) (ci := 13) (k := 1) rfl in_X14 (by decide) q1510 (fun _ h9 => h9) dX14_disagreements_9 (by repeat (first | assumption | exact Or.inr gx_us | exact Or.inr (by assumption) | exact Or.inl (by assumption) | refine gx_tu (by omega) ?_)) rfl ?_
    refine gx_icmp_eq hC dX14_disagreements_12 (tgt := 19) (by decide) (by unfold gx_rg; omega) (by unfold gx_rg; omega) (fun c12 => ?_) (fun c12 => ?_)
    · refine gx_iconst hC dX14_disagreements_19 ?_
      refine gx_loc (M := [(0, some (.ref a)), (1, some (.int (iz t9)))]) (by repeat (first | exact trivial | refine ⟨rfl, ?_⟩)) ?_
      exact tail 0 (gx_b0 (by omega)).symm
    · refine gx_iconst hC dX14_disagreements_15 ?_
      refine gx_goto hC dX14_disagreements_16 (tgt := 20) (by decide) ?_
      refine gx_loc (M := [(0, some (.ref a)), (1, some (.int (iz t9)))]) (by repeat (first | exact trivial | refine ⟨rfl, ?_⟩)) ?_
      exact tail 1 (gx_b1 (by omega)).symm
theorem m_X13_init (h : G a (gx_O 12 fdX13)) : gx_Met l yX13_init (ws_ yX13_init cX13_init 1 none) 2 0 0 D (fun q => q = a) T G nx [.ref a] (fun w G' nx' => w = none ∧ nx' = nx ∧ G' a (gx_O 12 [.int (iz 0), .int (iz (-1))])) gx_no := by
  refine gx_start (by decide) (Nat.le_of_ble_eq_true rfl) rfl (fun p e s m args below meth c hC hlt => ?_)
  refine gx_aload_n hC dX13_init_0 rfl rfl (by first | rfl | exact gx_isr_rf _ | exact gx_isr_rn _) ?_
  refine gx_oinit hC q1277 q137 q138 dX13_init_1 (Nat.le_of_ble_eq_true rfl) (Nat.le_of_ble_eq_true rfl) ?_
  refine gx_aload_n hC dX13_init_4 rfl rfl (by first | rfl | exact gx_isr_rf _ | exact gx_isr_rn _) ?_
  refine gx_iconst hC dX13_init_5 ?_
  refine gx_put hC (C := RX13) (Tf := TX13) (N := 2) (ci := 12) (k := 1) rfl in_X13 (by decide) tyX13 tyX13_ok nmX13 q1281 (fun _ h9 => h9) rfl dX13_init_6 (by first | exact gx_us | assumption | (repeat (first | exact gx_us | assumption | refine gx_un (by omega) ?_))) (by first | exact Or.inl rfl | exact Or.inl (Or.inl rfl) | exact Or.inl (Or.inr rfl) | exact Or.inr (by omega) | assumption | (simp only [gx_A, *]; omega)) (Nat.le_of_ble_eq_true rfl) (by first | rfl | (unfold gx_rn; split <;> rfl) | (cases ‹Option Nat› <;> rfl) | simp [narrow]) (by first | rfl | (unfold gx_rn; split <;> rfl) | (cases ‹Option Nat› <;> rfl) | simp [fits]) ?_
  exact gx_vret hC rfl rfl rfl dX13_init_9 (fun G' hG => ⟨rfl, rfl, hG _ _ gx_us⟩)
/-- one more cause -/
def gs_blame (x : Int × Int) (t : Int) (b : Int) : Int × Int := if b = 0 then x else (x.1 + 1, if x.2 < 0 then t else min x.2 t)
theorem m_X13_add {x : Int × Int} {t9 b9 : Int} (h : G a (gx_O 12 [.int (iz x.1), .int (iz x.2)])) (hx : gx_rg x.2) (ht9 : gx_rg t9) (hb : gx_rg b9) : gx_Met l yX13_add (ws_ yX13_add cX13_add 3 none) 3 0 0 D (fun q => q = a) T G nx [.ref a, .int (iz t9), .int (iz b9)] (fun w G' nx' => w = none ∧ nx' = nx ∧ G' a (gx_O 12 [.int (iz (gs_blame x t9 b9).1), .int (iz (gs_blame x t9 b9).2)])) gx_no := by
  unfold gx_rg at hx ht9 hb
  refine gx_start (by decide) (Nat.le_of_ble_eq_true rfl) rfl (fun p e s m args below meth c hC hlt => ?_)
  refine gx_iload_n hC dX13_add_0 rfl rfl ?_
  refine gx_if_eq hC dX13_add_1 (tgt := 37) (by decide) (by unfold gx_rg; omega) (fun c1 => ?_) (fun c1 => ?_)
  · exact gx_vret hC rfl rfl rfl dX13_add_37 (fun G' hG => ⟨rfl, rfl, by unfold gs_blame; rw [if_pos c1]; exact hG _ _ h⟩)
  · refine gx_aload_n hC dX13_add_4 rfl rfl (by first | rfl | exact gx_isr_rf _ | exact gx_isr_rn _) ?_
    refine gx_dup hC dX13_add_5 (by first | rfl | exact gx_cat_rf _ | exact gx_cat_rn _) ?_
    refine gx_get hC (C := RX13) (Tf := TX13) (N := 2) (ci := 12) (k := 0) rfl in_X13 (by decide) q1278 (fun _ h9 => h9) dX13_add_6 (by repeat (first | assumption | exact Or.inr gx_us | exact Or.inr (by assumption) | exact Or.inl (by assumption) | refine gx_tu (by omega) ?_)) rfl ?_
    refine gx_iconst hC dX13_add_9 ?_
    refine gx_iadd hC dX13_add_10 ?_
    refine gx_put hC (C := RX13) (Tf := TX13) (N := 2) (ci := 12) (k := 0) rfl in_X13 (by decide) tyX13 tyX13_ok nmX13 q1278 (fun _ h9 => h9) rfl dX13_add_11 (by first | exact gx_us | assumption | (repeat (first | exact gx_us | assumption | refine gx_un (by omega) ?_))) (by first | exact Or.inl rfl | exact Or.inl (Or.inl rfl) | exact Or.inl (Or.inr rfl) | exact Or.inr (by omega) | assumption | (simp only [gx_A, *]; omega)) (Nat.le_of_ble_eq_true rfl) (by first | rfl | (unfold gx_rn; split <;> rfl) | (cases ‹Option Nat› <;> rfl) | simp [narrow]) (by first | rfl | (unfold gx_rn; split <;> rfl) | (cases ‹Option Nat› <;> rfl) | simp [fits]) ?_
    refine gx_aload_n hC dX13_add_14 rfl rfl (by first | rfl | exact gx_isr_rf _ | exact gx_isr_rn _) ?_
    refine gx_aload_n hC dX13_add_15 rfl rfl (by first | rfl | exact gx_isr_rf _ | exact gx_isr_rn _) ?_
    refine gx_get hC (C := RX13) (Tf := TX13) (N := 2) (ci := 12) (k := 1) rfl in_X13 (by decide) q1281 (fun _ h9 => h9) dX13_add_16 (by repeat (first | assumption | exact Or.inr gx_us | exact Or.inr (by assumption) | exact Or.inl (by assumption) | refine gx_tu (by omega) ?_)) rfl ?_
    refine gx_if_ge hC dX13_add_19 (tgt := 26) (by decide) (by unfold gx_rg; omega) (fun c19 => ?_) (fun c19 => ?_)
    · refine gx_aload_n hC dX13_add_26 rfl rfl (by first | rfl | exact gx_isr_rf _ | exact gx_isr_rn _) ?_
      refine gx_get hC (C := RX13) (Tf := TX13) (N := 2) (ci := 12) (k := 1) rfl in_X13 (by decide) q1281 (fun _ h9 => h9) dX13_add_27 (by repeat (first | assumption | exact Or.inr gx_us | exact Or.inr (by assumption) | exact Or.inl (by assumption) | refine gx_tu (by omega) ?_)) rfl ?_
      refine gx_iload_n hC dX13_add_30 rfl rfl ?_
      refine gx_mmin hC q1003 q312 q91 q313 dX13_add_31 (by unfold gx_rg; omega) (by unfold gx_rg; omega) (Nat.le_of_ble_eq_true rfl) (Nat.le_of_ble_eq_true rfl) ?_
      refine gx_put hC (C := RX13) (Tf := TX13) (N := 2) (ci := 12) (k := 1) rfl in_X13 (by decide) tyX13 tyX13_ok nmX13 q1281 (fun _ h9 => h9) rfl dX13_add_34 (by first | exact gx_us | assumption | (repeat (first | exact gx_us | assumption | refine gx_un (by omega) ?_))) (by first | exact Or.inl rfl | exact Or.inl (Or.inl rfl) | exact Or.inl (Or.inr rfl) | exact Or.inr (by omega) | assumption | (simp only [gx_A, *]; omega)) (Nat.le_of_ble_eq_true rfl) (by first | rfl | (unfold gx_rn; split <;> rfl) | (cases ‹Option Nat› <;> rfl) | simp [narrow]) (by first | rfl | (unfold gx_rn; split <;> rfl) | (cases ‹Option Nat› <;> rfl) | simp [fits]) ?_
      exact gx_vret hC rfl rfl rfl dX13_add_37 (fun G' hG => ⟨rfl, rfl, by unfold gs_blame; rw [if_neg c1]; simp only; rw [if_neg (by omega)]; exact hG _ _ gx_us⟩)
    · refine gx_iload_n hC dX13_add_22 rfl rfl ?_
      refine gx_goto hC dX13_add_23 (tgt := 34) (by decide) ?_
      refine gx_put hC (C := RX13) (Tf := TX13) (N := 2) (ci := 12) (k := 1) rfl in_X13 (by decide) tyX13 tyX13_ok nmX13 q1281 (fun _ h9 => h9) rfl dX13_add_34 (by first | exact gx_us | assumption | (repeat (first | exact gx_us | assumption | refine gx_un (by omega) ?_))) (by first | exact Or.inl rfl | exact Or.inl (Or.inl rfl) | exact Or.inl (Or.inr rfl) | exact Or.inr (by omega) | assumption | (simp only [gx_A, *]; omega)) (Nat.le_of_ble_eq_true rfl) (by first | rfl | (unfold gx_rn; split <;> rfl) | (cases ‹Option Nat› <;> rfl) | simp [narrow]) (by first | rfl | (unfold gx_rn; split <;> rfl) | (cases ‹Option Nat› <;> rfl) | simp [fits]) ?_
      exact gx_vret hC rfl rfl rfl dX13_add_37 (fun G' hG => ⟨rfl, rfl, by unfold gs_blame; rw [if_neg c1]; simp only; rw [if_pos (by omega)]; exact hG _ _ gx_us⟩)
end SCA

