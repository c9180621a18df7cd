/-! parseClause, parse -/
set_option maxRecDepth 100000
section PV
variable {l : Launch} {D : gx_D} {T G Y : gx_H} {nx s9 tl edt top li edi capi q9 c9 : Nat} {xs : List Nat} {pa : Int} {po : Option Nat} {tk : List gs_T} {f9 : Nat}
theorem m_X8_parseClause (IH : gx_parseAt f9) (h : gx_ph D T G Y s9 tl edt top li edi capi q9 c9 xs pa tk) (hf9 : tk.length - q9 ≤ f9 + 1) : gx_Met l yX8_parseClause (ws_ yX8_parseClause cX8_parseClause 5 none) (21 + 2 * f9) (6 * ((gp_cl tk (gp_pa tk f9) q9 c9 pa).e - q9) + 6) (90 * ((gp_cl tk (gp_pa tk f9) q9 c9 pa).e - q9) + 90) D (gx_pM s9 li edi capi) T G nx [.ref s9, .ref li, va_rf po] (gx_po D T (gp_cl tk (gp_pa tk f9) q9 c9 pa) s9 tl top li edi capi c9 xs pa po nx) (gx_px (gp_cl tk (gp_pa tk f9) q9 c9 pa) nx) := by
  obtain ⟨hs, htl, hYT, hkn, hli, h3, hq, hxs, hne, hpa⟩ := h
  have hge := gp_cl_n (c := c9) (pa := pa) hq (gp_pa_e (tk := tk) f9)
  have hge1 := (gp_cl_e (c := c9) (pa := pa) hq (gp_pa_e (tk := tk) f9)).1
  obtain ⟨R9, hR9⟩ : ∃ R9, gp_cl tk (gp_pa tk f9) q9 c9 pa = R9 := ⟨_, rfl⟩
  rw [hR9] at hge hge1 ⊢
  have hl24 := htl.2.1
  have hR0 : gp_n tk q9 = 0 → R9 = .inl q9 := fun h => by rw [← hR9]; exact gp_cl_0 h
  have hR1 : gp_n tk q9 ≠ 0 → gs_kd tk (q9 + gp_n tk q9) ≠ 1 → R9 = .inl (q9 + gp_n tk q9) := fun h h1 => by rw [← hR9]; exact gp_cl_1 h h1
  have hR2 : gp_n tk q9 ≠ 0 → gs_kd tk (q9 + gp_n tk q9) = 1 → gs_kd tk (q9 + gp_n tk q9 + 1) = 0 → R9 = .inr (q9 + gp_n tk q9 + 2, [(q9, gp_n tk q9, ((q9 + gp_n tk q9 + 1 : Nat) : Int), pa, c9 + 1)]) := fun h h1 h2 => by rw [← hR9]; exact gp_cl_2 h h1 h2
  have hR4 : gp_n tk q9 ≠ 0 → gs_kd tk (q9 + gp_n tk q9) = 1 → gs_kd tk (q9 + gp_n tk q9 + 1) ≠ 0 → gs_kd tk (q9 + gp_n tk q9 + 1) ≠ 2 → R9 = .inr (q9 + gp_n tk q9 + 1, [(q9, gp_n tk q9, -1, pa, c9 + 1)]) := fun h h1 h2 h3 => by rw [← hR9]; exact gp_cl_4 h h1 h2 h3
  have hR3i : ∀ i, gp_n tk q9 ≠ 0 → gs_kd tk (q9 + gp_n tk q9) = 1 → gs_kd tk (q9 + gp_n tk q9 + 1) = 2 → gp_pa tk f9 (q9 + gp_n tk q9 + 2) (c9 + 1) c9 = .inl i → R9 = .inl i := fun i h h1 h2 h3 => by rw [← hR9]; exact gp_cl_3i h h1 h2 h3
  have hR3 : ∀ x, gp_n tk q9 ≠ 0 → gs_kd tk (q9 + gp_n tk q9) = 1 → gs_kd tk (q9 + gp_n tk q9 + 1) = 2 → gp_pa tk f9 (q9 + gp_n tk q9 + 2) (c9 + 1) c9 = .inr x → R9 = if gs_kd tk x.1 = 3 then .inr (x.1 + 1, (q9, gp_n tk q9, -1, pa, c9 + 1 + x.2.length) :: x.2) else .inl x.1 := fun x h h1 h2 h3 => by rw [← hR9]; exact gp_cl_3 h h1 h2 h3
  obtain ⟨n9, hn9⟩ : ∃ n9, gp_n tk q9 = n9 := ⟨_, rfl⟩
  rw [hn9] at hge hR0 hR1 hR2 hR4
  simp only [hn9] at hR3i hR3
  clear hR9
  obtain ⟨d9, hd9⟩ : ∃ d9, R9.e = q9 + d9 := ⟨R9.e - q9, by omega⟩
  rw [show R9.e - q9 = d9 by omega]
  have hdn : n9 ≤ d9 := by omega
  clear hge hge1
  refine gx_start (by decide) (by cases po <;> exact Nat.le_of_ble_eq_true rfl) (L0 := [(0, some (.ref s9)), (1, some (.ref li)), (2, some (va_rf po))]) (by cases po <;> rfl) (fun p e s m args below meth c hC hlt => ?_)
  obtain ⟨fE, hE⟩ := hkn.2.2.2
  have hE1 : D.2.2 1 < nx := hC.tl hlt (Or.inl hE)
  have hsx := hlt _ _ hs
  have hlx := hlt _ _ hli.1.choose_spec
  have hex : edi < nx := by
    rcases hli.2.1 with q | ⟨-, f, q, -⟩
    · rw [q.2.1]; exact hE1
    · exact hlt _ _ q
  have hxsx : ∀ x ∈ xs, x < nx := fun x hx => by obtain ⟨⟨fs, h9⟩, -⟩ := hxs x hx; exact hlt _ _ h9
  have hcap : capi ≤ 30 ∨ xs.length < capi := by
    have := hli.2.2.2.1
    omega
  have hxl : xs.length < 33 := by omega
  refine gx_bud (bc' := (6 * d9 + 5) + 1) (bs' := (90 * d9 + 82) + 8) (by omega) (by omega) ?_
  refine gx_new hC (C := RX9) (Tf := TX9) (N := 8) (ci := 8) (fs := fdX9) rfl in_X9 tyX9 tyX9_ok q1036 q1102 q110 dvX9 dX8_parseClause_0 ?_
  refine gx_dup hC dX8_parseClause_3 (by first | rfl | exact gx_cat_rf _ | exact gx_cat_rn _) ?_
  refine gx_aload_n hC dX8_parseClause_4 rfl rfl (by first | rfl | exact gx_isr_rf _ | exact gx_isr_rn _) ?_
  refine gx_get hC (C := RX8) (Tf := TX8) (N := 4) (ci := 7) (k := 3) rfl in_X8 (by decide) q1257 (fun _ h9 => h9) dX8_parseClause_5 (by repeat (first | assumption | exact Or.inr gx_us | exact Or.inr (by assumption) | exact Or.inl (by assumption) | refine gx_tu (by omega) ?_)) rfl ?_
  refine gx_aload_n hC dX8_parseClause_8 rfl rfl (by first | rfl | exact gx_isr_rf _ | exact gx_isr_rn _) ?_
  refine gx_aload_n hC dX8_parseClause_9 rfl rfl (by first | rfl | exact gx_isr_rf _ | exact gx_isr_rn _) ?_
  refine gx_aload_n hC dX8_parseClause_10 rfl rfl (by first | rfl | exact gx_isr_rf _ | exact gx_isr_rn _) ?_
  refine gx_get hC (C := RX8) (Tf := TX8) (N := 4) (ci := 7) (k := 2) rfl in_X8 (by decide) q1256 (fun _ h9 => h9) dX8_parseClause_11 (by repeat (first | assumption | exact Or.inr gx_us | exact Or.inr (by assumption) | exact Or.inl (by assumption) | refine gx_tu (by omega) ?_)) rfl ?_
  refine gx_bud (bc' := (6 * d9 + 3) + _) (bs' := (90 * d9 + 76) + _) (by omega) (by omega) (gx_callI (nA := 4) hC (m_X9_init (num := (c9 : Int)) (po := po) (sib := li) (st := (q9 : Int)) gx_us rfl ⟨fE, hE⟩ (by omega)) (lw_meth q1105) q110 q1103 q1104 rfl (by decide +kernel) dX8_parseClause_14 rfl ⟨by show 8 + 1 ≤ 21 + 2 * f9; omega, by show 8 + (5 + 11) + (100 * 8 + 100) ≤ 100 * (21 + 2 * f9) + 100; omega⟩ (gx_in.id hC (fun q hq => Or.inr (by omega))) rfl (by first | exact Nat.le_of_ble_eq_true rfl | simp [gx_cat_rf, Value.category]) gx_kno (fun v2 G2 nx2 hp hf hle hlt2 => ?_))
  obtain ⟨rfl, rfl, k1, k2, k3⟩ := hp
  have kG : gx_le G G2 := fun x e9 hx => hf _ _ (gx_un (by have := hlt _ _ hx; omega) hx) (by have := hlt _ _ hx; omega)
  have ks := kG _ _ hs
  have hsA : gx_A (gx_pM s9 li edi capi) nx s9 := Or.inl (Or.inl rfl)
  refine gx_astore_n hC dX8_parseClause_17 rfl (by decide) (by first | rfl | (cases ‹Option Nat› <;> rfl) | simp [gx_ck, gx_lk, gx_cat_rf, gx_cat_rn]) (by first | rfl | exact gx_isr_rf _ | exact gx_isr_rn _) ?_
  refine gx_aload_n hC dX8_parseClause_18 rfl rfl (by first | rfl | exact gx_isr_rf _ | exact gx_isr_rn _) ?_
  refine gx_dup hC dX8_parseClause_19 (by first | rfl | exact gx_cat_rf _ | exact gx_cat_rn _) ?_
  refine gx_get hC (C := RX8) (Tf := TX8) (N := 4) (ci := 7) (k := 3) rfl in_X8 (by decide) q1257 (fun _ h9 => h9) dX8_parseClause_20 (by repeat (first | assumption | exact Or.inr gx_us | exact Or.inr (by assumption) | exact Or.inl (by assumption) | refine gx_tu (by omega) ?_)) rfl ?_
  refine gx_iconst hC dX8_parseClause_23 ?_
  refine gx_iadd hC dX8_parseClause_24 ?_
  refine gx_put hC (C := RX8) (Tf := TX8) (N := 4) (ci := 7) (k := 3) rfl in_X8 (by decide) tyX8 tyX8_ok nmX8 q1257 (fun _ h9 => h9) rfl dX8_parseClause_25 (by first | exact gx_us | assumption | (repeat (first | exact gx_us | assumption | refine gx_un (by omega) ?_))) (by first | exact Or.inl rfl | exact Or.inl (Or.inl rfl) | exact Or.inl (Or.inr rfl) | exact Or.inr (by omega) | assumption | (simp only [gx_A, *]; omega)) (Nat.le_of_ble_eq_true rfl) (by first | rfl | (unfold gx_rn; split <;> rfl) | (cases ‹Option Nat› <;> rfl) | simp [narrow]) (by first | rfl | (unfold gx_rn; split <;> rfl) | (cases ‹Option Nat› <;> rfl) | simp [fits]) ?_
  refine gx_aload_n hC dX8_parseClause_28 rfl rfl (by first | rfl | exact gx_isr_rf _ | exact gx_isr_rn _) ?_
  refine gx_aload_n hC dX8_parseClause_29 rfl rfl (by first | rfl | exact gx_isr_rf _ | exact gx_isr_rn _) ?_
  obtain ⟨Ga, hGa⟩ : ∃ Ga, Ga = gx_up G2 s9 (gx_sO tl top q9 (c9 + 1)) := ⟨_, rfl⟩
  refine gx_eqG (G' := Ga) hGa.symm ?_
  have ka : ∀ a x, G2 a x → a ≠ s9 → Ga a x := fun a x h hn => by rw [hGa]; exact gx_un hn h
  have js : Ga s9 (gx_sO tl top q9 (c9 + 1)) := by rw [hGa]; exact gx_us
  have j1 := ka _ _ k1 (by omega)
  have j2 : gx_GL D T Ga (nx + 1) (D.2.2 1) 0 [] := k2.mono (fun e9 h9 => ka _ _ h9 (by omega)) (fun e9 hz h9 => absurd hz (Nat.lt_irrefl 0)) (fun _ _ h => h)
  have j3 : gx_GL D T Ga (nx + 1 + 1) (D.2.2 1) 0 [] := k3.mono (fun e9 h9 => ka _ _ h9 (by omega)) (fun e9 hz h9 => absurd hz (Nat.lt_irrefl 0)) (fun _ _ h => h)
  have hli2 : gx_GL D T Ga li edi capi xs := hli.mono (fun e9 h9 => ka _ _ (kG _ _ h9) (fun q => hne.1 q.symm)) (fun e9 _ h9 => ka _ _ (kG _ _ h9) (fun q => hne.2 q.symm)) (fun _ _ h => h)
  have hob : gx_ob (gx_TG T Ga) nx := ⟨8, _, _, _, _, rfl, Or.inr j1, q3058⟩
  have hel : ∀ x ∈ xs, gx_ob (gx_TG T Ga) x := fun x hx => by
    obtain ⟨⟨fs, h9⟩, h8, h7, h6⟩ := hxs x hx
    exact ⟨8, _, _, _, _, rfl, Or.inr (ka _ _ (kG _ _ h9) h7), q3058⟩
  obtain ⟨mcl, hlal⟩ := hli2.al
  clear k1 k2 k3 ks
  refine gx_bud (bc' := (6 * d9 + 2) + _) (bs' := (90 * d9 + 16) + _) (by omega) (by omega) (gx_callF (nA := 1) hC (m_GL_add hli2 hxl hcap hel (fun q => (hxs li q).2.1 rfl) (by omega) hob (by omega)) (C := RJ2) (Tf := TJ2) (Nf := 3) (ci := 19) rfl (by first | ((repeat (first | assumption | exact Or.inr gx_us | exact Or.inr (by assumption) | exact Or.inl (by assumption) | refine gx_tu (by omega) ?_)); done) | exact gx_AL.rc (by assumption) | exact gx_AL.rg (by assumption) | exact gx_AL.rt (by assumption) | exact gx_DQ.rc (by assumption) | exact gx_DQ.rg (by assumption) | exact gx_SB.rc (by assumption) | exact gx_SB.rg (by assumption) | exact gx_Sx.rc (by assumption) | exact gx_Sx.rg (by assumption) | exact gx_IT.rc (by assumption) | exact gx_IT.rg (by assumption) | exact gx_gt.rc (by assumption) | exact gx_gt.rg (by assumption) | exact gx_lx.rc (by assumption) | exact gx_lx.rg (by assumption) | exact gx_sst.rc (by assumption) | exact gx_sst.rg (by assumption)) (lw_app (List.forall_mem_cons.mpr ⟨q1150, (List.forall_mem_cons.mpr ⟨q1153, (List.forall_mem_cons.mpr ⟨q564, (List.forall_mem_cons.mpr ⟨q81, (fun _ h9 => absurd h9 List.not_mem_nil)⟩)⟩)⟩)⟩) (lw_meth q566)) q1152 q1151 q1155 q1154 q990 (by decide +kernel) dX8_parseClause_30 rfl ⟨by show 12 + 1 ≤ 21 + 2 * f9; omega, by show 8 + (2 + 11) + (100 * 12 + 100) ≤ 100 * (21 + 2 * f9) + 100; omega⟩ (gx_in.id hC (fun q hq => Or.inl (Or.inr hq))) rfl (by first | exact Nat.le_of_ble_eq_true rfl | simp [gx_cat_rf, Value.category]) gx_kno (fun v3 G3 nx3 hp hf3 hle3 hlt3 => ?_))
  obtain ⟨rfl, hx3, ede, cape, g1, g2, g3, g4⟩ := hp
  have hede : ede < nx3 := by
    rcases g4.2.1 with q | ⟨-, f, q, -⟩
    · omega
    · exact hlt3 _ _ q
  have hedn : (ede ≠ nx ∧ ede ≠ nx + 1 ∧ ede ≠ nx + 2) ∧ ede ≠ s9 := by
    rcases g2 with ⟨q, -⟩ | q
    · exact ⟨⟨by omega, by omega, by omega⟩, fun z => hne.2 (by omega)⟩
    · exact ⟨⟨by omega, by omega, by omega⟩, by omega⟩
  have hnM : ∀ a, a ≠ li → a ≠ edi → ¬ (a = li ∨ (a = edi ∧ 0 < capi)) := fun a y1 y2 y => y.elim y1 (fun y => y2 y.1)
  have m1 : G3 s9 (gx_sO tl top q9 (c9 + 1)) := hf3 _ _ js (hnM _ hne.1 hne.2)
  have m2 := hf3 _ _ j1 (hnM _ (by omega) (by omega))
  have m3 : gx_GL D T G3 (nx + 1) (D.2.2 1) 0 [] := j2.mono (fun e9 h9 => hf3 _ _ h9 (hnM _ (by omega) (by omega))) (fun e9 hz h9 => absurd hz (Nat.lt_irrefl 0)) (fun _ _ h => h)
  have m4 : gx_GL D T G3 (nx + 1 + 1) (D.2.2 1) 0 [] := j3.mono (fun e9 h9 => hf3 _ _ h9 (hnM _ (by omega) (by omega))) (fun e9 hz h9 => absurd hz (Nat.lt_irrefl 0)) (fun _ _ h => h)
  have a7 : ede = edi ∧ 0 < capi ∨ nx ≤ ede := g2.imp id (fun z => by omega)
  refine gx_pop hC dX8_parseClause_35 (by first | rfl | exact gx_cat_rf _ | exact gx_cat_rn _) ?_
  refine gx_loc (M := [(3, some (.ref nx)), (0, some (.ref s9)), (1, some (.ref li)), (2, some (va_rf po))]) (by repeat (first | exact trivial | refine ⟨rfl, ?_⟩)) ?_
  exact pc_loop hC IH htl hYT hkn hf9 hpa hq hn9 hR0 hR1 hR2 hR4 hR3i hR3 hd9 m1 m2 g4 m3 m4 hsx hlx hne.1 hedn.1 hedn.2 hx3 a7 g3 hede hdn hE1
end PV

