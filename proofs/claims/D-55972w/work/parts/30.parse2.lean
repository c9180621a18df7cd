/-! parseClause: what follows the subjects -/
set_option maxRecDepth 100000
section PT
variable {p : Program} {l : Launch} {e : Env} {s : State} {m : MethodId} {args : Array Value} {below : List Frame} {meth : Method} {c : Code} {D : gx_D} {T Gj Y : gx_H} {nx nj s9 tl edt top li edi capi q9 c9 n9 d9 b1 u1 ede cape eds caps : Nat} {xs : List Nat} {pa : Int} {po : Option Nat} {tk : List gs_T} {f9 : Nat} {R9 : gs_R}
theorem pc_tail (hC : gx_C p l s m args meth c D (gx_A (gx_pM s9 li edi capi) nx) T cX8_parseClause 5 none yX8_parseClause.cls yX8_parseClause.name []) (IH : gx_parseAt f9) (htl : gx_tl D T Y tl edt tk) (hYT : ∀ x t, Y x (gx_tok t) → T x (gx_tok t)) (hkn : gx_kn D T) (hf9 : tk.length - q9 ≤ f9 + 1) (hpa : pa < (c9 : Int)) (hn0 : n9 ≠ 0) (hnl : q9 + n9 ≤ tk.length)
    (hR1 : gs_kd tk (q9 + n9) ≠ 1 → R9 = .inl (q9 + n9)) (hR2 : gs_kd tk (q9 + n9) = 1 → gs_kd tk (q9 + n9 + 1) = 0 → R9 = .inr (q9 + n9 + 2, [(q9, n9, ((q9 + n9 + 1 : Nat) : Int), pa, c9 + 1)])) (hR4 : gs_kd tk (q9 + n9) = 1 → gs_kd tk (q9 + n9 + 1) ≠ 0 → gs_kd tk (q9 + n9 + 1) ≠ 2 → R9 = .inr (q9 + n9 + 1, [(q9, n9, -1, pa, c9 + 1)]))
    (hR3i : ∀ i, gs_kd tk (q9 + n9) = 1 → gs_kd tk (q9 + n9 + 1) = 2 → gp_pa tk f9 (q9 + n9 + 2) (c9 + 1) c9 = .inl i → R9 = .inl i) (hR3 : ∀ x, gs_kd tk (q9 + n9) = 1 → gs_kd tk (q9 + n9 + 1) = 2 → gp_pa tk f9 (q9 + n9 + 2) (c9 + 1) c9 = .inr x → R9 = if gs_kd tk x.1 = 3 then .inr (x.1 + 1, (q9, n9, -1, pa, c9 + 1 + x.2.length) :: x.2) else .inl x.1)
    (hd9 : R9.e = q9 + d9) (g5 : Gj s9 (gx_sO tl top (q9 + n9) (c9 + 1))) (g6 : Gj nx (gx_O 8 [.int (iz (c9 : Int)), va_rf po, .ref li, .int (iz (q9 : Int)), .ref (nx + 1), .ref (nx + 1 + 1), .int (iz (-1)), .int (iz (-1))])) (g7 : gx_GL D T Gj li ede cape (xs ++ [nx])) (g8 : gx_GL D T Gj (nx + 1) eds caps ((List.range n9).map (fun j : Nat => gx_bx D ((q9 : Int) + (j : Int))))) (g9 : gx_GL D T Gj (nx + 1 + 1) (D.2.2 1) 0 [])
    (hlt : ∀ a x, Gj a x → a < nj) (a1 : s9 < nx) (a2 : li < nx) (a3 : s9 ≠ li) (a4 : ede ≠ nx ∧ ede ≠ nx + 1 ∧ ede ≠ nx + 2) (a4' : ede ≠ s9) (a5 : caps = 0 ∨ (nx + 3 ≤ eds ∧ eds ≠ ede)) (a6 : nx + 3 ≤ nj) (a7 : ede = edi ∧ 0 < capi ∨ nx ≤ ede) (a8 : 0 < cape) (ae : ede < nj) (hb1 : b1 + 2 * n9 = 6 * d9 + 2) (hu1 : u1 + 67 * n9 = 90 * d9 + 16) (hdn : n9 ≤ d9) :
    gx_X p l e (headSpec (ws_ yX8_parseClause cX8_parseClause 5 none) (gx_rm (21 + 2 * f9) (6 * d9 + 6) (90 * d9 + 90))).room s m args below meth c (gx_QQ below D (gx_A (gx_pM s9 li edi capi) nx) (gx_po D T R9 s9 tl top li edi capi c9 xs pa po nx) (gx_px R9 nx) args s (6 * d9 + 6) (90 * d9 + 90)) D (gx_A (gx_pM s9 li edi capi) nx) Gj nj b1 u1 60 [(3, some (.ref nx)), (0, some (.ref s9)), (1, some (.ref li)), (2, some (va_rf po))] [] := by
  have htl' : ∀ Z, gx_tl D (gx_TG T Z) Y tl edt tk := fun Z => ⟨⟨_, _, htl.1.choose_spec.choose_spec.1.mono (fun _ => Or.inl) (fun _ => Or.inl), htl.1.choose_spec.choose_spec.2⟩, htl.2⟩
  have hY' : ∀ Z, gx_yok T Z gx_M0 Y := fun Z x t h => ⟨Or.inl (hYT x t h), fun q => q⟩
  obtain ⟨b2, hb2⟩ : ∃ b2, b1 = b2 + 1 := ⟨b1 - 1, by omega⟩
  obtain ⟨u2, hu2⟩ : ∃ u2, u1 = u2 + 7 := ⟨u1 - 7, by omega⟩
  subst hb2 hu2
  refine gx_aload_n hC dX8_parseClause_60 rfl rfl (by first | rfl | exact gx_isr_rf _ | exact gx_isr_rn _) ?_
  refine gx_aload_n hC dX8_parseClause_61 rfl rfl (by first | rfl | exact gx_isr_rf _ | exact gx_isr_rn _) ?_
  refine gx_iconst hC dX8_parseClause_62 ?_
  by_cases h1 : gs_kd tk (q9 + n9) = 1
  · have hl1 := gs_kd_lt h1 (by omega)
    refine gx_callV (nA := 1) hC (m_X8_take (k := 1) g5 (htl' Gj) (hY' Gj) hnl (by omega)) (C := RX8) (Tf := TX8) (Nf := 4) (ci := 7) rfl (by first | ((repeat (first | assumption | exact Or.inr gx_us | exact Or.inr (by assumption) | exact Or.inl (by assumption) | refine gx_tu (by omega) ?_)); done) | exact gx_AL.rc (by assumption) | exact gx_AL.rg (by assumption) | exact gx_AL.rt (by assumption) | exact gx_DQ.rc (by assumption) | exact gx_DQ.rg (by assumption) | exact gx_SB.rc (by assumption) | exact gx_SB.rg (by assumption) | exact gx_Sx.rc (by assumption) | exact gx_Sx.rg (by assumption) | exact gx_IT.rc (by assumption) | exact gx_IT.rg (by assumption) | exact gx_gt.rc (by assumption) | exact gx_gt.rg (by assumption) | exact gx_lx.rc (by assumption) | exact gx_lx.rg (by assumption) | exact gx_sst.rc (by assumption) | exact gx_sst.rg (by assumption)) (lw_V q1186 q1188 qs12 q109 q1189) (by decide +kernel) dX8_parseClause_63 rfl ⟨by show 9 + 1 ≤ 21 + 2 * f9; omega, by show 8 + (2 + 11) + (100 * 9 + 100) ≤ 100 * (21 + 2 * f9) + 100; omega⟩ (gx_in.id hC (fun q hq => Or.inl (Or.inl hq))) rfl (by first | exact Nat.le_of_ble_eq_true rfl | simp [gx_cat_rf, Value.category]) (fun E9 q9 G9 nx9 hp9 hf9 hle9 hlt9 => gx_out hC rfl rfl (by first | (intro x9 h9; cases h9) | decide) (fun G' hG => absurd h1 hp9.1)) (fun v4 G4 nx4 hp hf4 hle4 hlt4 => ?_)
    obtain ⟨-, rfl, rfl, r1⟩ := hp
    have r6 := hf4 _ _ g6 (by omega)
    have r7 : gx_GL D T G4 li ede cape (xs ++ [nx]) := g7.mono (fun e9 h9 => hf4 _ _ h9 (fun z => a3 z.symm)) (fun e9 _ h9 => hf4 _ _ h9 a4') (fun _ _ h => h)
    have r8 : gx_GL D T G4 (nx + 1) eds caps ((List.range n9).map (fun j : Nat => gx_bx D ((q9 : Int) + (j : Int)))) := g8.mono (fun e9 h9 => hf4 _ _ h9 (by omega)) (fun e9 hz h9 => hf4 _ _ h9 (by omega)) (fun _ _ h => h)
    have r9 : gx_GL D T G4 (nx + 1 + 1) (D.2.2 1) 0 [] := g9.mono (fun e9 h9 => hf4 _ _ h9 (by omega)) (fun e9 hz h9 => absurd hz (Nat.lt_irrefl 0)) (fun _ _ h => h)
    refine gx_putN hC (C := RX9) (Tf := TX9) (N := 8) (ci := 8) (k := 6) rfl in_X9 (by decide) tyX9 tyX9_ok nmX9 q1127 (fun _ h9 => h9) rfl dX8_parseClause_66 (by first | exact gx_us | assumption | (repeat (first | exact gx_us | assumption | refine gx_un (by omega) ?_))) (by first | exact Or.inl rfl | exact Or.inl (Or.inl rfl) | exact Or.inl (Or.inr rfl) | exact Or.inr (by omega) | assumption | (simp only [gx_A, *]; omega)) (Nat.le_of_ble_eq_true rfl) (by first | rfl | (unfold gx_rn; split <;> rfl) | (cases ‹Option Nat› <;> rfl) | simp [narrow]) (by first | rfl | (unfold gx_rn; split <;> rfl) | (cases ‹Option Nat› <;> rfl) | simp [fits]) ?_
    refine gx_aload_n hC dX8_parseClause_69 rfl rfl (by first | rfl | exact gx_isr_rf _ | exact gx_isr_rn _) ?_
    refine gx_iconst hC dX8_parseClause_70 ?_
    obtain ⟨G5, hG5⟩ : ∃ G5, G5 = gx_up G4 nx (gx_O 8 [.int (iz (c9 : Int)), va_rf po, .ref li, .int (iz (q9 : Int)), .ref (nx + 1), .ref (nx + 1 + 1), .int (iz ((q9 + n9 : Nat) : Int)), .int (iz (-1))]) := ⟨_, rfl⟩
    refine gx_eqG (G' := G5) hG5.symm ?_
    have s6 : G5 nx (gx_O 8 [.int (iz (c9 : Int)), va_rf po, .ref li, .int (iz (q9 : Int)), .ref (nx + 1), .ref (nx + 1 + 1), .int (iz ((q9 + n9 : Nat) : Int)), .int (iz (-1))]) := by rw [hG5]; exact gx_us
    have sk : ∀ a x, G4 a x → a ≠ nx → G5 a x := fun a x h hn => by rw [hG5]; exact gx_un hn h
    have s5 : G5 s9 (gx_sO tl top (q9 + n9 + 1) (c9 + 1)) := sk _ _ r1 (by omega)
    have s5' : gx_TG T G5 s9 (gx_O 7 [.ref tl, .ref top, .int (iz ((q9 + n9 + 1 : Nat) : Int)), .int (iz ((c9 + 1 : Nat) : Int))]) := Or.inr s5
    have s7 : gx_GL D T G5 li ede cape (xs ++ [nx]) := r7.mono (fun e9 h9 => sk _ _ h9 (by omega)) (fun e9 _ h9 => sk _ _ h9 a4.1) (fun _ _ h => h)
    have s8 : gx_GL D T G5 (nx + 1) eds caps ((List.range n9).map (fun j : Nat => gx_bx D ((q9 : Int) + (j : Int)))) := r8.mono (fun e9 h9 => sk _ _ h9 (by omega)) (fun e9 hz h9 => sk _ _ h9 (by omega)) (fun _ _ h => h)
    have s9' : gx_GL D T G5 (nx + 1 + 1) (D.2.2 1) 0 [] := r9.mono (fun e9 h9 => sk _ _ h9 (by omega)) (fun e9 hz h9 => absurd hz (Nat.lt_irrefl 0)) (fun _ _ h => h)
    clear r6 r7 r8 r9 g5 g6 g7 g8 g9
    have a5' : caps = 0 ∨ (nx ≤ eds ∧ eds ≠ ede) := a5.imp id (fun z => ⟨by omega, z.2⟩)
    have hlt5 : ∀ a x, G5 a x → a < nx4 := fun a x h => by
      rw [hG5] at h
      rcases h with ⟨h, -⟩ | ⟨-, h⟩
      · omega
      · exact hlt4 _ _ h
    refine gx_callV (nA := 1) hC (m_X8_isAt (k := 0) s5' (htl' G5) (hY' G5) (by omega) (by omega)) (C := RX8) (Tf := TX8) (Nf := 4) (ci := 7) rfl (by first | ((repeat (first | assumption | exact Or.inr gx_us | exact Or.inr (by assumption) | exact Or.inl (by assumption) | refine gx_tu (by omega) ?_)); done) | exact gx_AL.rc (by assumption) | exact gx_AL.rg (by assumption) | exact gx_AL.rt (by assumption) | exact gx_DQ.rc (by assumption) | exact gx_DQ.rg (by assumption) | exact gx_SB.rc (by assumption) | exact gx_SB.rg (by assumption) | exact gx_Sx.rc (by assumption) | exact gx_Sx.rg (by assumption) | exact gx_IT.rc (by assumption) | exact gx_IT.rg (by assumption) | exact gx_gt.rc (by assumption) | exact gx_gt.rg (by assumption) | exact gx_lx.rc (by assumption) | exact gx_lx.rg (by assumption) | exact gx_sst.rc (by assumption) | exact gx_sst.rg (by assumption)) (lw_V q1190 q1192 qs13 q109 q1193) (by decide +kernel) dX8_parseClause_71 rfl ⟨by show 6 + 1 ≤ 21 + 2 * f9; omega, by show 8 + (2 + 11) + (100 * 6 + 100) ≤ 100 * (21 + 2 * f9) + 100; omega⟩ gx_in.id0 rfl (by first | exact Nat.le_of_ble_eq_true rfl | simp [gx_cat_rf, Value.category]) gx_kno (gx_kp1 ?_)
    by_cases h2 : gs_kd tk (q9 + n9 + 1) = 0
    · have hl2 := gs_kd_lt h2 (by omega)
      have hR := hR2 h1 h2
      have hd2 : d9 = n9 + 2 := by rw [hR] at hd9; simp only [gs_R.e] at hd9; omega
      obtain ⟨b3, hb3⟩ : ∃ b3, b2 = b3 + 1 := ⟨b2 - 1, by omega⟩
      obtain ⟨u3, hu3⟩ : ∃ u3, u2 = u3 + 7 := ⟨u2 - 7, by omega⟩
      subst hb3 hu3
      rw [gx_b1 h2]
      refine gx_if_eq hC dX8_parseClause_74 (tgt := 89) (by decide) (by unfold gx_rg; omega) (fun c74 => ?_) (fun c74 => ?_)
      · omega
      · refine gx_aload_n hC dX8_parseClause_77 rfl rfl (by first | rfl | exact gx_isr_rf _ | exact gx_isr_rn _) ?_
        refine gx_aload_n hC dX8_parseClause_78 rfl rfl (by first | rfl | exact gx_isr_rf _ | exact gx_isr_rn _) ?_
        refine gx_iconst hC dX8_parseClause_79 ?_
        refine gx_callV (nA := 1) hC (m_X8_take (k := 0) s5 (htl' G5) (hY' G5) (by omega) (by omega)) (C := RX8) (Tf := TX8) (Nf := 4) (ci := 7) rfl (by first | ((repeat (first | assumption | exact Or.inr gx_us | exact Or.inr (by assumption) | exact Or.inl (by assumption) | refine gx_tu (by omega) ?_)); done) | exact gx_AL.rc (by assumption) | exact gx_AL.rg (by assumption) | exact gx_AL.rt (by assumption) | exact gx_DQ.rc (by assumption) | exact gx_DQ.rg (by assumption) | exact gx_SB.rc (by assumption) | exact gx_SB.rg (by assumption) | exact gx_Sx.rc (by assumption) | exact gx_Sx.rg (by assumption) | exact gx_IT.rc (by assumption) | exact gx_IT.rg (by assumption) | exact gx_gt.rc (by assumption) | exact gx_gt.rg (by assumption) | exact gx_lx.rc (by assumption) | exact gx_lx.rg (by assumption) | exact gx_sst.rc (by assumption) | exact gx_sst.rg (by assumption)) (lw_V q1186 q1188 qs12 q109 q1189) (by decide +kernel) dX8_parseClause_80 rfl ⟨by show 9 + 1 ≤ 21 + 2 * f9; omega, by show 8 + (2 + 11) + (100 * 9 + 100) ≤ 100 * (21 + 2 * f9) + 100; omega⟩ (gx_in.id hC (fun q hq => Or.inl (Or.inl hq))) rfl (by first | exact Nat.le_of_ble_eq_true rfl | simp [gx_cat_rf, Value.category]) (fun E9 q9 G9 nx9 hp9 hf9 hle9 hlt9 => gx_out hC rfl rfl (by first | (intro x9 h9; cases h9) | decide) (fun G' hG => absurd h2 hp9.1)) (fun v6 G6 nx6 hp hf6 hle6 hlt6 => ?_)
        obtain ⟨-, rfl, rfl, t1⟩ := hp
        have t6 := hf6 _ _ s6 (by omega)
        have t7 : gx_GL D T G6 li ede cape (xs ++ [nx]) := s7.mono (fun e9 h9 => hf6 _ _ h9 (fun z => a3 z.symm)) (fun e9 _ h9 => hf6 _ _ h9 a4') (fun _ _ h => h)
        have t8 : gx_GL D T G6 (nx + 1) eds caps ((List.range n9).map (fun j : Nat => gx_bx D ((q9 : Int) + (j : Int)))) := s8.mono (fun e9 h9 => hf6 _ _ h9 (by omega)) (fun e9 hz h9 => hf6 _ _ h9 (by omega)) (fun _ _ h => h)
        have t9 : gx_GL D T G6 (nx + 1 + 1) (D.2.2 1) 0 [] := s9'.mono (fun e9 h9 => hf6 _ _ h9 (by omega)) (fun e9 hz h9 => absurd hz (Nat.lt_irrefl 0)) (fun _ _ h => h)
        refine gx_putN hC (C := RX9) (Tf := TX9) (N := 8) (ci := 8) (k := 7) rfl in_X9 (by decide) tyX9 tyX9_ok nmX9 q1130 (fun _ h9 => h9) rfl dX8_parseClause_83 (by first | exact gx_us | assumption | (repeat (first | exact gx_us | assumption | refine gx_un (by omega) ?_))) (by first | exact Or.inl rfl | exact Or.inl (Or.inl rfl) | exact Or.inl (Or.inr rfl) | exact Or.inr (by omega) | assumption | (simp only [gx_A, *]; omega)) (Nat.le_of_ble_eq_true rfl) (by first | rfl | (unfold gx_rn; split <;> rfl) | (cases ‹Option Nat› <;> rfl) | simp [narrow]) (by first | rfl | (unfold gx_rn; split <;> rfl) | (cases ‹Option Nat› <;> rfl) | simp [fits]) ?_
        refine gx_goto hC dX8_parseClause_86 (tgt := 123) (by decide) ?_
        exact gx_vret hC rfl rfl rfl dX8_parseClause_123 (fun G' hG => gx_po.fin (ad := fun _ => 0) (su := fun _ => 0) (ne := fun _ => 0) hR (hG _ _ (gx_un (by omega) t1)) (hG _ _ gx_us) (t8.mono (fun e9 h9 => hG _ _ (gx_un (by omega) h9)) (fun e9 hz h9 => hG _ _ (gx_un (by omega) h9)) (fun _ _ h => h)) a5' gx_CR.nil gp_ok.nil (t9.mono (fun e9 h9 => hG _ _ (gx_un (by omega) h9)) (fun e9 hz h9 => absurd hz (Nat.lt_irrefl 0)) (fun _ _ h => h)) (Or.inl rfl) (t7.mono (fun e9 h9 => hG _ _ (gx_un (by omega) h9)) (fun e9 _ h9 => hG _ _ (gx_un a4.1 h9)) (fun _ _ h => h)) a4 a7 a8 hpa)
    · rw [gx_b0 h2]
      refine gx_if_eq hC dX8_parseClause_74 (tgt := 89) (by decide) (by unfold gx_rg; omega) (fun c74 => ?_) (fun c74 => ?_)
      · refine gx_aload_n hC dX8_parseClause_89 rfl rfl (by first | rfl | exact gx_isr_rf _ | exact gx_isr_rn _) ?_
        refine gx_iconst hC dX8_parseClause_90 ?_
        refine gx_callV (nA := 1) hC (m_X8_isAt (k := 2) s5' (htl' G5) (hY' G5) (by omega) (by omega)) (C := RX8) (Tf := TX8) (Nf := 4) (ci := 7) rfl (by first | ((repeat (first | assumption | exact Or.inr gx_us | exact Or.inr (by assumption) | exact Or.inl (by assumption) | refine gx_tu (by omega) ?_)); done) | exact gx_AL.rc (by assumption) | exact gx_AL.rg (by assumption) | exact gx_AL.rt (by assumption) | exact gx_DQ.rc (by assumption) | exact gx_DQ.rg (by assumption) | exact gx_SB.rc (by assumption) | exact gx_SB.rg (by assumption) | exact gx_Sx.rc (by assumption) | exact gx_Sx.rg (by assumption) | exact gx_IT.rc (by assumption) | exact gx_IT.rg (by assumption) | exact gx_gt.rc (by assumption) | exact gx_gt.rg (by assumption) | exact gx_lx.rc (by assumption) | exact gx_lx.rg (by assumption) | exact gx_sst.rc (by assumption) | exact gx_sst.rg (by assumption)) (lw_V q1190 q1192 qs13 q109 q1193) (by decide +kernel) dX8_parseClause_91 rfl ⟨by show 6 + 1 ≤ 21 + 2 * f9; omega, by show 8 + (2 + 11) + (100 * 6 + 100) ≤ 100 * (21 + 2 * f9) + 100; omega⟩ gx_in.id0 rfl (by first | exact Nat.le_of_ble_eq_true rfl | simp [gx_cat_rf, Value.category]) gx_kno (gx_kp1 ?_)
        by_cases h3 : gs_kd tk (q9 + n9 + 1) = 2
        · rw [gx_b1 h3]
          refine gx_if_eq hC dX8_parseClause_94 (tgt := 123) (by decide) (by unfold gx_rg; omega) (fun c94 => ?_) (fun c94 => ?_)
          · omega
          · have hl3 := gs_kd_lt h3 (by omega)
            obtain ⟨fE, hE⟩ := hkn.2.2.2
            have hEA := hC.TA _ _ hE
            have hE1 : s9 ≠ D.2.2 1 := fun z => hEA (Or.inl (Or.inl z.symm))
            have hpe := gp_pa_e (tk := tk) f9 (q9 + n9 + 2) (c9 + 1) (c9 : Int) (by omega)
            have hde : (gp_pa tk f9 (q9 + n9 + 2) (c9 + 1) (c9 : Int)).e ≤ q9 + d9 := by
              cases hc9 : gp_pa tk f9 (q9 + n9 + 2) (c9 + 1) (c9 : Int) with
              | inl i =>
                rw [hR3i i h1 h3 hc9] at hd9
                simp only [gs_R.e] at hd9 ⊢
                omega
              | inr x =>
                rw [hR3 x h1 h3 hc9] at hd9
                split at hd9 <;> simp only [gs_R.e] at hd9 ⊢ <;> omega
            refine gx_aload_n hC dX8_parseClause_97 rfl rfl (by first | rfl | exact gx_isr_rf _ | exact gx_isr_rn _) ?_
            refine gx_dup hC dX8_parseClause_98 (by first | rfl | exact gx_cat_rf _ | exact gx_cat_rn _) ?_
            refine gx_get hC (C := RX8) (Tf := TX8) (N := 4) (ci := 7) (k := 2) rfl in_X8 (by decide) q1256 (fun _ h9 => h9) dX8_parseClause_99 (by repeat (first | assumption | exact Or.inr gx_us | exact Or.inr (by assumption) | exact Or.inl (by assumption) | refine gx_tu (by omega) ?_)) rfl ?_
            refine gx_iconst hC dX8_parseClause_102 ?_
            refine gx_iadd hC dX8_parseClause_103 ?_
            refine gx_put hC (C := RX8) (Tf := TX8) (N := 4) (ci := 7) (k := 2) rfl in_X8 (by decide) tyX8 tyX8_ok nmX8 q1256 (fun _ h9 => h9) rfl dX8_parseClause_104 (by first | exact gx_us | assumption | (repeat (first | exact gx_us | assumption | refine gx_un (by omega) ?_))) (by first | exact Or.inl rfl | exact Or.inl (Or.inl rfl) | exact Or.inl (Or.inr rfl) | exact Or.inr (by omega) | assumption | (simp only [gx_A, *]; omega)) (Nat.le_of_ble_eq_true rfl) (by first | rfl | (unfold gx_rn; split <;> rfl) | (cases ‹Option Nat› <;> rfl) | simp [narrow]) (by first | rfl | (unfold gx_rn; split <;> rfl) | (cases ‹Option Nat› <;> rfl) | simp [fits]) ?_
            obtain ⟨G6, hG6⟩ : ∃ G6, G6 = gx_up G5 s9 (gx_sO tl top (q9 + n9 + 2) (c9 + 1)) := ⟨_, rfl⟩
            refine gx_eqG (G' := G6) hG6.symm ?_
            have t5 : G6 s9 (gx_sO tl top (q9 + n9 + 2) (c9 + 1)) := by rw [hG6]; exact gx_us
            have tk6 : ∀ a x, G5 a x → a ≠ s9 → G6 a x := fun a x h hn => by rw [hG6]; exact gx_un hn h
            have t6 := tk6 _ _ s6 (by omega)
            have t7 : gx_GL D T G6 li ede cape (xs ++ [nx]) := s7.mono (fun e9 h9 => tk6 _ _ h9 (fun z => a3 z.symm)) (fun e9 _ h9 => tk6 _ _ h9 a4') (fun _ _ h => h)
            have t8 : gx_GL D T G6 (nx + 1) eds caps ((List.range n9).map (fun j : Nat => gx_bx D ((q9 : Int) + (j : Int)))) := s8.mono (fun e9 h9 => tk6 _ _ h9 (by omega)) (fun e9 hz h9 => tk6 _ _ h9 (by omega)) (fun _ _ h => h)
            have t9 : gx_GL D T G6 (nx + 1 + 1) (D.2.2 1) 0 [] := s9'.mono (fun e9 h9 => tk6 _ _ h9 (by omega)) (fun e9 hz h9 => absurd hz (Nat.lt_irrefl 0)) (fun _ _ h => h)
            have t5' : gx_TG T G6 s9 (gx_O 7 [.ref tl, .ref top, .int (iz ((q9 + n9 + 2 : Nat) : Int)), .int (iz ((c9 + 1 : Nat) : Int))]) := Or.inr t5
            have hph : gx_ph D T G6 Y s9 tl edt top (nx + 1 + 1) (D.2.2 1) 0 (q9 + n9 + 2) (c9 + 1) [] (c9 : Int) tk := ⟨t5, htl, hYT, hkn, t9, by show 3 * 0 ≤ _; omega, by omega, fun x hx => absurd hx List.not_mem_nil, ⟨by omega, hE1⟩, by omega⟩
            refine gx_aload_n hC dX8_parseClause_107 rfl rfl (by first | rfl | exact gx_isr_rf _ | exact gx_isr_rn _) ?_
            refine gx_aload_n hC dX8_parseClause_108 rfl rfl (by first | rfl | exact gx_isr_rf _ | exact gx_isr_rn _) ?_
            refine gx_getN hC (C := RX9) (Tf := TX9) (N := 8) (ci := 8) (k := 5) rfl in_X9 (by decide) q1124 (fun _ h9 => h9) dX8_parseClause_109 (by repeat (first | assumption | exact Or.inr gx_us | exact Or.inr (by assumption) | exact Or.inl (by assumption) | refine gx_tu (by omega) ?_)) rfl ?_
            refine gx_aload_n hC dX8_parseClause_112 rfl rfl (by first | rfl | exact gx_isr_rf _ | exact gx_isr_rn _) ?_
            refine gx_bud (bc' := (1) + _) (bs' := (7) + _) (by omega) (by omega) (gx_callV (nA := 2) hC (IH l D T G6 Y nx4 s9 tl edt top (nx + 1 + 1) (D.2.2 1) 0 (q9 + n9 + 2) (c9 + 1) [] (c9 : Int) (some nx) tk hph (by omega)) (C := RX8) (Tf := TX8) (Nf := 4) (ci := 7) rfl (by first | ((repeat (first | assumption | exact Or.inr gx_us | exact Or.inr (by assumption) | exact Or.inl (by assumption) | refine gx_tu (by omega) ?_)); done) | exact gx_AL.rc (by assumption) | exact gx_AL.rg (by assumption) | exact gx_AL.rt (by assumption) | exact gx_DQ.rc (by assumption) | exact gx_DQ.rg (by assumption) | exact gx_SB.rc (by assumption) | exact gx_SB.rg (by assumption) | exact gx_Sx.rc (by assumption) | exact gx_Sx.rg (by assumption) | exact gx_IT.rc (by assumption) | exact gx_IT.rg (by assumption) | exact gx_gt.rc (by assumption) | exact gx_gt.rg (by assumption) | exact gx_lx.rc (by assumption) | exact gx_lx.rg (by assumption) | exact gx_sst.rc (by assumption) | exact gx_sst.rg (by assumption)) (lw_V q1094 q1096 qs10 q109 q1097) (by decide +kernel) dX8_parseClause_113 rfl ⟨by show (20 + 2 * f9) + 1 ≤ 21 + 2 * f9; omega, by show 8 + (3 + 11) + (100 * (20 + 2 * f9) + 100) ≤ 100 * (21 + 2 * f9) + 100; omega⟩ (gx_in.id hC (fun q hq => hq.elim (fun z => Or.inl (Or.inl z)) (fun z => z.elim (fun z => Or.inr (by omega)) (fun z => absurd z.2 (Nat.lt_irrefl 0))))) rfl (by first | exact Nat.le_of_ble_eq_true rfl | simp [gx_cat_rf, Value.category]) (fun E9 q9 G9 nx9 hp9 hf9 hle9 hlt9 => gx_out hC rfl rfl (by first | (intro x9 h9; cases h9) | decide) (fun G' hG => ⟨hp9.choose, hR3i _ h1 h3 hp9.choose_spec.1, hp9.choose_spec.2.1, Nat.le_trans (Nat.le_trans (Nat.le_add_right nx 3) a6) hp9.choose_spec.2.2.1, hG _ _ hp9.choose_spec.2.2.2⟩)) (fun v7 G7 nx7 hp hf7 hle7 hlt7 => ?_))
            obtain ⟨x, hx, rfl, w1, ad, su, ne, edn, capn, w2, w3, w4, w5⟩ := hp
            have hRx := hR3 x h1 h3 hx
            have hxe : x.1 ≤ tk.length := by
              rw [hx] at hpe
              exact hpe.2
            have w4' : nx4 ≤ edn := w4.elim (fun z => absurd z.2 (Nat.lt_irrefl 0)) (fun z => z)
            have hnM : ∀ a, a ≠ s9 → a ≠ nx + 1 + 1 → ¬ gx_pM s9 (nx + 1 + 1) (D.2.2 1) 0 a := fun a z1 z2 z => z.elim z1 (fun z => z.elim z2 (fun z => absurd z.2 (Nat.lt_irrefl 0)))
            have w6 := hf7 _ _ t6 (hnM _ (by omega) (by omega))
            have w7 : gx_GL D T G7 li ede cape (xs ++ [nx]) := t7.mono (fun e9 h9 => hf7 _ _ h9 (hnM _ (fun z => a3 z.symm) (by omega))) (fun e9 _ h9 => hf7 _ _ h9 (hnM _ a4' a4.2.2)) (fun _ _ h => h)
            have w8 : gx_GL D T G7 (nx + 1) eds caps ((List.range n9).map (fun j : Nat => gx_bx D ((q9 : Int) + (j : Int)))) := t8.mono (fun e9 h9 => hf7 _ _ h9 (hnM _ (by omega) (by omega))) (fun e9 hz h9 => hf7 _ _ h9 (hnM _ (by omega) (by omega))) (fun _ _ h => h)
            have w1' : gx_TG T G7 s9 (gx_O 7 [.ref tl, .ref top, .int (iz ((x.1 : Nat) : Int)), .int (iz ((c9 + 1 + x.2.length : Nat) : Int))]) := Or.inr w1
            clear t5 t6 t7 t8 t9 s5 s6 s7 s8 s9' t5' s5'
            refine gx_aload_n hC dX8_parseClause_116 rfl rfl (by first | rfl | exact gx_isr_rf _ | exact gx_isr_rn _) ?_
            refine gx_iconst hC dX8_parseClause_117 ?_
            by_cases h4 : gs_kd tk x.1 = 3
            · rw [if_pos h4] at hRx
              have hl4 := gs_kd_lt h4 (by omega)
              refine gx_bud (bc' := (0) + _) (bs' := (0) + _) (by omega) (by omega) (gx_callV (nA := 1) hC (m_X8_take (k := 3) w1 (htl' G7) (hY' G7) hxe (by omega)) (C := RX8) (Tf := TX8) (Nf := 4) (ci := 7) rfl (by first | ((repeat (first | assumption | exact Or.inr gx_us | exact Or.inr (by assumption) | exact Or.inl (by assumption) | refine gx_tu (by omega) ?_)); done) | exact gx_AL.rc (by assumption) | exact gx_AL.rg (by assumption) | exact gx_AL.rt (by assumption) | exact gx_DQ.rc (by assumption) | exact gx_DQ.rg (by assumption) | exact gx_SB.rc (by assumption) | exact gx_SB.rg (by assumption) | exact gx_Sx.rc (by assumption) | exact gx_Sx.rg (by assumption) | exact gx_IT.rc (by assumption) | exact gx_IT.rg (by assumption) | exact gx_gt.rc (by assumption) | exact gx_gt.rg (by assumption) | exact gx_lx.rc (by assumption) | exact gx_lx.rg (by assumption) | exact gx_sst.rc (by assumption) | exact gx_sst.rg (by assumption)) (lw_V q1186 q1188 qs12 q109 q1189) (by decide +kernel) dX8_parseClause_118 rfl ⟨by show 9 + 1 ≤ 21 + 2 * f9; omega, by show 8 + (2 + 11) + (100 * 9 + 100) ≤ 100 * (21 + 2 * f9) + 100; omega⟩ (gx_in.id hC (fun q hq => Or.inl (Or.inl hq))) rfl (by first | exact Nat.le_of_ble_eq_true rfl | simp [gx_cat_rf, Value.category]) (fun E9 q9 G9 nx9 hp9 hf9 hle9 hlt9 => gx_out hC rfl rfl (by first | (intro x9 h9; cases h9) | decide) (fun G' hG => absurd h4 hp9.1)) (fun v8 G8 nx8 hp hf8 hle8 hlt8 => ?_))
              obtain ⟨-, rfl, rfl, y1⟩ := hp
              have y6 := hf8 _ _ w6 (by omega)
              have y7 : gx_GL D T G8 li ede cape (xs ++ [nx]) := w7.mono (fun e9 h9 => hf8 _ _ h9 (fun z => a3 z.symm)) (fun e9 _ h9 => hf8 _ _ h9 a4') (fun _ _ h => h)
              have y8 : gx_GL D T G8 (nx + 1) eds caps ((List.range n9).map (fun j : Nat => gx_bx D ((q9 : Int) + (j : Int)))) := w8.mono (fun e9 h9 => hf8 _ _ h9 (by omega)) (fun e9 hz h9 => hf8 _ _ h9 (by omega)) (fun _ _ h => h)
              have y3 : gx_GL D T G8 (nx + 1 + 1) edn capn ((gp_tops x.2 (c9 + 1) (c9 : Int)).map ad) := w3.mono (fun e9 h9 => hf8 _ _ h9 (by omega)) (fun e9 hz h9 => hf8 _ _ h9 (by omega)) (fun _ _ h => h)
              have hoks := (gp_pa_ok f9 _ _ _ x (by omega) hx).1
              refine gx_istore hC dX8_parseClause_121 (by decide) (by first | rfl | (cases ‹Option Nat› <;> rfl) | simp [gx_ck, gx_lk, gx_cat_rf, gx_cat_rn]) ?_
              exact gx_vret hC rfl rfl rfl dX8_parseClause_123 (fun G' hG => gx_po.fin hRx (hG _ _ y1) (hG _ _ y6) (y8.mono (fun e9 h9 => hG _ _ h9) (fun e9 hz h9 => hG _ _ h9) (fun _ _ h => h)) a5' (w2.mono (fun a9 e9 h9 => ⟨hG _ _ (hf8 _ _ h9.1 (fun z => by have := h9.2.1; omega)), by have := h9.2.1; omega, fun z => by have := h9.2.1; omega⟩) (fun _ _ h => h)) hoks (y3.mono (fun e9 h9 => hG _ _ h9) (fun e9 hz h9 => hG _ _ h9) (fun _ _ h => h)) (Or.inr ⟨by omega, by omega⟩) (y7.mono (fun e9 h9 => hG _ _ h9) (fun e9 _ h9 => hG _ _ h9) (fun _ _ h => h)) a4 a7 a8 hpa)
            · rw [if_neg h4] at hRx
              refine gx_bud (bc' := (0) + _) (bs' := (0) + _) (by omega) (by omega) (gx_callV (nA := 1) hC (m_X8_take (k := 3) w1 (htl' G7) (hY' G7) hxe (by omega)) (C := RX8) (Tf := TX8) (Nf := 4) (ci := 7) rfl (by first | ((repeat (first | assumption | exact Or.inr gx_us | exact Or.inr (by assumption) | exact Or.inl (by assumption) | refine gx_tu (by omega) ?_)); done) | exact gx_AL.rc (by assumption) | exact gx_AL.rg (by assumption) | exact gx_AL.rt (by assumption) | exact gx_DQ.rc (by assumption) | exact gx_DQ.rg (by assumption) | exact gx_SB.rc (by assumption) | exact gx_SB.rg (by assumption) | exact gx_Sx.rc (by assumption) | exact gx_Sx.rg (by assumption) | exact gx_IT.rc (by assumption) | exact gx_IT.rg (by assumption) | exact gx_gt.rc (by assumption) | exact gx_gt.rg (by assumption) | exact gx_lx.rc (by assumption) | exact gx_lx.rg (by assumption) | exact gx_sst.rc (by assumption) | exact gx_sst.rg (by assumption)) (lw_V q1186 q1188 qs12 q109 q1189) (by decide +kernel) dX8_parseClause_118 rfl ⟨by show 9 + 1 ≤ 21 + 2 * f9; omega, by show 8 + (2 + 11) + (100 * 9 + 100) ≤ 100 * (21 + 2 * f9) + 100; omega⟩ (gx_in.id hC (fun q hq => Or.inl (Or.inl hq))) rfl (by first | exact Nat.le_of_ble_eq_true rfl | simp [gx_cat_rf, Value.category]) (fun E9 q9 G9 nx9 hp9 hf9 hle9 hlt9 => gx_out hC rfl rfl (by first | (intro x9 h9; cases h9) | decide) (fun G' hG => ⟨_, hRx, hp9.2.1, Nat.le_trans (Nat.le_trans (Nat.le_add_right nx 3) (Nat.le_trans a6 hle7)) hp9.2.2.1, hG _ _ hp9.2.2.2⟩)) (fun v8 G8 nx8 hp hf8 hle8 hlt8 => ?_))
              exact absurd hp.1 h4
        · have hR := hR4 h1 h2 h3
          rw [gx_b0 h3]
          refine gx_if_eq hC dX8_parseClause_94 (tgt := 123) (by decide) (by unfold gx_rg; omega) (fun c94 => ?_) (fun c94 => ?_)
          · exact gx_vret hC rfl rfl rfl dX8_parseClause_123 (fun G' hG => gx_po.fin (ad := fun _ => 0) (su := fun _ => 0) (ne := fun _ => 0) hR (hG _ _ s5) (hG _ _ s6) (s8.mono (fun e9 h9 => hG _ _ h9) (fun e9 hz h9 => hG _ _ h9) (fun _ _ h => h)) a5' gx_CR.nil gp_ok.nil (s9'.mono (fun e9 h9 => hG _ _ h9) (fun e9 hz h9 => absurd hz (Nat.lt_irrefl 0)) (fun _ _ h => h)) (Or.inl rfl) (s7.mono (fun e9 h9 => hG _ _ h9) (fun e9 _ h9 => hG _ _ h9) (fun _ _ h => h)) a4 a7 a8 hpa)
          · exact absurd rfl c94
      · exact absurd rfl c74
  · refine gx_callV (nA := 1) hC (m_X8_take (k := 1) g5 (htl' Gj) (hY' Gj) hnl (by omega)) (C := RX8) (Tf := TX8) (Nf := 4) (ci := 7) rfl (by first | ((repeat (first | assumption | exact Or.inr gx_us | exact Or.inr (by assumption) | exact Or.inl (by assumption) | refine gx_tu (by omega) ?_)); done) | exact gx_AL.rc (by assumption) | exact gx_AL.rg (by assumption) | exact gx_AL.rt (by assumption) | exact gx_DQ.rc (by assumption) | exact gx_DQ.rg (by assumption) | exact gx_SB.rc (by assumption) | exact gx_SB.rg (by assumption) | exact gx_Sx.rc (by assumption) | exact gx_Sx.rg (by assumption) | exact gx_IT.rc (by assumption) | exact gx_IT.rg (by assumption) | exact gx_gt.rc (by assumption) | exact gx_gt.rg (by assumption) | exact gx_lx.rc (by assumption) | exact gx_lx.rg (by assumption) | exact gx_sst.rc (by assumption) | exact gx_sst.rg (by assumption)) (lw_V q1186 q1188 qs12 q109 q1189) (by decide +kernel) dX8_parseClause_63 rfl ⟨by show 9 + 1 ≤ 21 + 2 * f9; omega, by show 8 + (2 + 11) + (100 * 9 + 100) ≤ 100 * (21 + 2 * f9) + 100; omega⟩ (gx_in.id hC (fun q hq => Or.inl (Or.inl hq))) rfl (by first | exact Nat.le_of_ble_eq_true rfl | simp [gx_cat_rf, Value.category]) (fun E9 q9 G9 nx9 hp9 hf9 hle9 hlt9 => gx_out hC rfl rfl (by first | (intro x9 h9; cases h9) | decide) (fun G' hG => ⟨_, hR1 h1, hp9.2.1, Nat.le_trans (Nat.le_trans (Nat.le_add_right nx 3) a6) hp9.2.2.1, hG _ _ hp9.2.2.2⟩)) (fun v4 G4 nx4 hp hf4 hle4 hlt4 => ?_)
    exact absurd hp.1 h1
end PT

