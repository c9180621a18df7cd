/-! parseClause: the subjects; parse -/
set_option maxRecDepth 100000
section PU
variable {p : Program} {l : Launch} {e : Env} {s : State} {m : MethodId} {args : Array Value} {below : List Frame} {meth : Method} {c : Code} {D : gx_D} {T G3 Y : gx_H} {nx nx3 s9 tl edt top li edi capi q9 c9 n9 d9 ede cape : Nat} {xs : List Nat} {pa : Int} {po : Option Nat} {tk : List gs_T} {f9 : Nat} {R9 : gs_R}
theorem pc_loop (hC : gx_C p l s m args meth c D (gx_A (gx_pM s9 li edi capi) nx) T cX8_parseClause 5 none yX8_parseClause.cls yX8_parseClause.name []) (IH : gx_parseAt f9) (htl : gx_tl D T Y tl edt tk) (hYT : ∀ x t, Y x (gx_tok t) → T x (gx_tok t)) (hkn : gx_kn D T) (hf9 : tk.length - q9 ≤ f9 + 1) (hpa : pa < (c9 : Int)) (hq : q9 ≤ tk.length) (hn9 : gp_n tk q9 = n9)
    (hR0 : n9 = 0 → R9 = .inl q9) (hR1 : n9 ≠ 0 → gs_kd tk (q9 + n9) ≠ 1 → R9 = .inl (q9 + n9)) (hR2 : n9 ≠ 0 → gs_kd tk (q9 + n9) = 1 → gs_kd tk (q9 + n9 + 1) = 0 → R9 = .inr (q9 + n9 + 2, [(q9, n9, ((q9 + n9 + 1 : Nat) : Int), pa, c9 + 1)])) (hR4 : n9 ≠ 0 → gs_kd tk (q9 + n9) = 1 → gs_kd tk (q9 + n9 + 1) ≠ 0 → gs_kd tk (q9 + n9 + 1) ≠ 2 → R9 = .inr (q9 + n9 + 1, [(q9, n9, -1, pa, c9 + 1)]))
    (hR3i : ∀ i, n9 ≠ 0 → gs_kd tk (q9 + n9) = 1 → gs_kd tk (q9 + n9 + 1) = 2 → gp_pa tk f9 (q9 + n9 + 2) (c9 + 1) c9 = .inl i → R9 = .inl i) (hR3 : ∀ x, n9 ≠ 0 → gs_kd tk (q9 + n9) = 1 → gs_kd tk (q9 + n9 + 1) = 2 → gp_pa tk f9 (q9 + n9 + 2) (c9 + 1) c9 = .inr x → R9 = if gs_kd tk x.1 = 3 then .inr (x.1 + 1, (q9, n9, -1, pa, c9 + 1 + x.2.length) :: x.2) else .inl x.1)
    (hd9 : R9.e = q9 + d9) (m1 : G3 s9 (gx_sO tl top q9 (c9 + 1))) (m2 : G3 nx (gx_O 8 [.int (iz (c9 : Int)), va_rf po, .ref li, .int (iz (q9 : Int)), .ref (nx + 1), .ref (nx + 1 + 1), .int (iz (-1)), .int (iz (-1))])) (g4 : gx_GL D T G3 li ede cape (xs ++ [nx])) (m3 : gx_GL D T G3 (nx + 1) (D.2.2 1) 0 []) (m4 : gx_GL D T G3 (nx + 1 + 1) (D.2.2 1) 0 [])
    (a1 : s9 < nx) (a2 : li < nx) (a3 : s9 ≠ li) (a4 : ede ≠ nx ∧ ede ≠ nx + 1 ∧ ede ≠ nx + 2) (a4' : ede ≠ s9) (a6 : nx + 3 ≤ nx3) (a7 : ede = edi ∧ 0 < capi ∨ nx ≤ ede) (a8 : 0 < cape) (ae : ede < nx3) (hdn : n9 ≤ d9) (hEx : D.2.2 1 < nx) :
    gx_X p l e (headSpec (ws_ yX8_parseClause cX8_parseClause 5 none) (gx_rm (21 + 2 * f9) (6 * d9 + 6) (90 * d9 + 90))).room s m args below meth c (gx_QQ below D (gx_A (gx_pM s9 li edi capi) nx) (gx_po D T R9 s9 tl top li edi capi c9 xs pa po nx) (gx_px R9 nx) args s (6 * d9 + 6) (90 * d9 + 90)) D (gx_A (gx_pM s9 li edi capi) nx) G3 nx3 (6 * d9 + 2) (90 * d9 + 16) 36 [(3, some (.ref nx)), (0, some (.ref s9)), (1, some (.ref li)), (2, some (va_rf po))] [] := by
  have htl' : ∀ Z, gx_tl D (gx_TG T Z) Y tl edt tk := fun Z => ⟨⟨_, _, htl.1.choose_spec.choose_spec.1.mono (fun _ => Or.inl) (fun _ => Or.inl), htl.1.choose_spec.choose_spec.2⟩, htl.2⟩
  have hY' : ∀ Z, gx_yok T Z gx_M0 Y := fun Z x t h => ⟨Or.inl (hYT x t h), fun q => q⟩
  have hl24 := htl.2.1
  have hnk := gp_n_k (tk := tk) (q := q9)
  have hnl := gp_n_le tk q9 hq
  rw [hn9] at hnk hnl
  refine gx_loop (σ := Nat × Nat × Nat × Nat × Nat × Nat × gx_H) (fun z => (z.1 = 0 ∨ z.1 < n9) ∧ z.2.2.2.2.1 + 2 * z.1 = 6 * d9 + 2 ∧ z.2.2.2.2.2.1 + 67 * z.1 = 90 * d9 + 16 ∧ nx3 ≤ z.2.2.2.1 ∧ z.2.2.2.2.2.2 s9 (gx_sO tl top (q9 + z.1) (c9 + 1)) ∧ z.2.2.2.2.2.2 nx (gx_O 8 [.int (iz (c9 : Int)), va_rf po, .ref li, .int (iz (q9 : Int)), .ref (nx + 1), .ref (nx + 1 + 1), .int (iz (-1)), .int (iz (-1))]) ∧ gx_GL D T z.2.2.2.2.2.2 li ede cape (xs ++ [nx]) ∧ gx_GL D T z.2.2.2.2.2.2 (nx + 1) z.2.1 z.2.2.1 ((List.range z.1).map (fun j : Nat => gx_bx D ((q9 : Int) + (j : Int)))) ∧ gx_GL D T z.2.2.2.2.2.2 (nx + 1 + 1) (D.2.2 1) 0 [] ∧ (z.2.2.1 = 0 ∨ nx3 ≤ z.2.1) ∧ z.2.1 < z.2.2.2.1) (fun z => n9 - z.1) (fun z => z.2.2.2.2.2.2) (fun z => z.2.2.2.1) (fun z => z.2.2.2.2.1) (fun z => z.2.2.2.2.2.1) (fun _ => [(3, some (.ref nx)), (0, some (.ref s9)), (1, some (.ref li)), (2, some (va_rf po))]) (0, D.2.2 1, 0, nx3, 6 * d9 + 2, 90 * d9 + 16, G3) ⟨Or.inl rfl, rfl, rfl, Nat.le_refl _, m1, m2, g4, m3, m4, Or.inl rfl, Nat.lt_of_lt_of_le hEx (show nx ≤ nx3 by omega)⟩ ?_
  rintro ⟨j, eds, caps, nj, b1, u1, Gj⟩ ⟨i1, i2, i3, i4, i5, i6, i7, i8, i9, ia, ib⟩ ih
  dsimp only at i1 i2 i3 i4 i5 i6 i7 i8 i9 ia ib ⊢
  refine gx_lt (fun hltj => ?_)
  refine gx_aload_n hC dX8_parseClause_36 rfl rfl (by first | rfl | exact gx_isr_rf _ | exact gx_isr_rn _) ?_
  refine gx_getN hC (C := RX9) (Tf := TX9) (N := 8) (ci := 8) (k := 4) rfl in_X9 (by decide) q1120 (fun _ h9 => h9) dX8_parseClause_37 (by repeat (first | assumption | exact Or.inr gx_us | exact Or.inr (by assumption) | exact Or.inl (by assumption) | refine gx_tu (by omega) ?_)) rfl ?_
  refine gx_aload_n hC dX8_parseClause_40 rfl rfl (by first | rfl | exact gx_isr_rf _ | exact gx_isr_rn _) ?_
  refine gx_iconst hC dX8_parseClause_41 ?_
  by_cases hk : gs_kd tk (q9 + j) = 0
  · have hjn : j < n9 := by
      rcases i1 with q | q
      · subst q
        rcases Nat.eq_zero_or_pos n9 with z | z
        · rw [z] at hnk
          exact absurd hk hnk.2
        · exact z
      · exact q
    have hjl := gs_kd_lt hk (by omega)
    obtain ⟨b2, hb2⟩ : ∃ b2, b1 = b2 + 2 := ⟨b1 - 2, by omega⟩
    obtain ⟨u2, hu2⟩ : ∃ u2, u1 = u2 + 67 := ⟨u1 - 67, by omega⟩
    subst hb2 hu2
    refine gx_bud (bc' := (b2 + 1) + _) (bs' := (u2 + 60) + _) (by omega) (by omega) (gx_callV (nA := 1) hC (m_X8_take (k := 0) i5 (htl' Gj) (hY' Gj) (by omega) (by omega)) (C := RX8) (Tf := TX8) (Nf := 4) (ci := 7) rfl (by first | ((repeat (first | assumption | exact Or.inr gx_us | exact Or.inr (by assumption) | exact Or.inl (by assumption) | refine gx_tu (by omega) ?_)); done) | exact gx_AL.rc (by assumption) | exact gx_AL.rg (by assumption) | exact gx_AL.rt (by assumption) | exact gx_DQ.rc (by assumption) | exact gx_DQ.rg (by assumption) | exact gx_SB.rc (by assumption) | exact gx_SB.rg (by assumption) | exact gx_Sx.rc (by assumption) | exact gx_Sx.rg (by assumption) | exact gx_IT.rc (by assumption) | exact gx_IT.rg (by assumption) | exact gx_gt.rc (by assumption) | exact gx_gt.rg (by assumption) | exact gx_lx.rc (by assumption) | exact gx_lx.rg (by assumption) | exact gx_sst.rc (by assumption) | exact gx_sst.rg (by assumption)) (lw_V q1186 q1188 qs12 q109 q1189) (by decide +kernel) dX8_parseClause_42 rfl ⟨by show 9 + 1 ≤ 21 + 2 * f9; omega, by show 8 + (2 + 11) + (100 * 9 + 100) ≤ 100 * (21 + 2 * f9) + 100; omega⟩ (gx_in.id hC (fun q hq => Or.inl (Or.inl hq))) rfl (by first | exact Nat.le_of_ble_eq_true rfl | simp [gx_cat_rf, Value.category]) (fun E9 q9 G9 nx9 hp9 hf9 hle9 hlt9 => gx_out hC rfl rfl (by first | (intro x9 h9; cases h9) | decide) (fun G' hG => absurd hk hp9.1)) (fun v4 G4 nx4 hp hf4 hle4 hlt4 => ?_))
    obtain ⟨-, rfl, rfl, r1⟩ := hp
    have r6 := hf4 _ _ i6 (by omega)
    have r7 : gx_GL D T G4 li ede cape (xs ++ [nx]) := i7.mono (fun e9 h9 => hf4 _ _ h9 (fun z => a3 z.symm)) (fun e9 _ h9 => hf4 _ _ h9 a4') (fun _ _ h => h)
    have r8 : gx_GL D T G4 (nx + 1) eds caps ((List.range j).map (fun j : Nat => gx_bx D ((q9 : Int) + (j : Int)))) := i8.mono (fun e9 h9 => hf4 _ _ h9 (by omega)) (fun e9 hz h9 => hf4 _ _ h9 (by omega)) (fun _ _ h => h)
    have r9 : gx_GL D T G4 (nx + 1 + 1) (D.2.2 1) 0 [] := i9.mono (fun e9 h9 => hf4 _ _ h9 (by omega)) (fun e9 hz h9 => absurd hz (Nat.lt_irrefl 0)) (fun _ _ h => h)
    clear i5 i6 i7 i8 i9
    have hic : gx_ic D (gx_TG T G4) := ⟨Or.inl hkn.1.1, fun j hj => Or.inl (hkn.1.2 j hj)⟩
    refine gx_bud (bc' := (b2 + 1) + _) (bs' := (u2 + 60) + _) (by omega) (by omega) (gx_callS (nA := 1) hC (m_J17_valueOf (i := ((q9 + j : Nat) : Int)) hic (by omega)) (lw_S q1232 q1233 q97 q1234) (by decide +kernel) dX8_parseClause_45 rfl ⟨by show 1 + 1 ≤ 21 + 2 * f9; omega, by show 8 + (1 + 11) + (100 * 1 + 100) ≤ 100 * (21 + 2 * f9) + 100; omega⟩ gx_in.id0 rfl (by first | exact Nat.le_of_ble_eq_true rfl | simp [gx_cat_rf, Value.category]) gx_kno (gx_kp1 ?_))
    have hbe : gx_bx D ((q9 + j : Nat) : Int) = gx_bx D ((q9 : Int) + (j : Int)) := rfl
    have hbo : ∀ i : Int, 0 ≤ i ∧ i < 100 → gx_ob (gx_TG T G4) (gx_bx D i) ∧ ¬ gx_A (gx_pM s9 li edi capi) nx (gx_bx D i) := fun i hi => ⟨⟨22, _, _, _, _, rfl, Or.inl (hkn.1.int hi), q3060⟩, hC.TA _ _ (hkn.1.int hi)⟩
    have hel : ∀ x ∈ (List.range j).map (fun j : Nat => gx_bx D ((q9 : Int) + (j : Int))), gx_ob (gx_TG T G4) x ∧ ¬ gx_A (gx_pM s9 li edi capi) nx x := fun x hx => by
      obtain ⟨k, hk9, rfl⟩ := List.mem_map.mp hx
      have := List.mem_range.mp hk9
      exact hbo _ (by omega)
    have hcs : caps ≤ 30 ∨ ((List.range j).map (fun j : Nat => gx_bx D ((q9 : Int) + (j : Int)))).length < caps := by
      rw [List.length_map, List.length_range]
      omega
    obtain ⟨mcs, hsal⟩ := r8.al
    refine gx_bud (bc' := (b2) + _) (bs' := (u2) + _) (by omega) (by omega) (gx_callV (nA := 1) hC (m_GL_add r8 (by rw [List.length_map, List.length_range]; omega) hcs (fun x hx => (hel x hx).1) (fun hx => (hel _ hx).2 (Or.inr (by omega))) (by omega) (hbo _ (by omega)).1 (fun hx => (hbo ((q9 + j : Nat) : Int) (by omega)).2 (Or.inr (by omega)))) (C := RJ2) (Tf := TJ2) (Nf := 3) (ci := 19) rfl (by first | ((repeat (first | assumption | exact Or.inr gx_us | exact Or.inr (by assumption) | exact Or.inl (by assumption) | refine gx_tu (by omega) ?_)); done) | exact gx_AL.rc (by assumption) | exact gx_AL.rg (by assumption) | exact gx_AL.rt (by assumption) | exact gx_DQ.rc (by assumption) | exact gx_DQ.rg (by assumption) | exact gx_SB.rc (by assumption) | exact gx_SB.rg (by assumption) | exact gx_Sx.rc (by assumption) | exact gx_Sx.rg (by assumption) | exact gx_IT.rc (by assumption) | exact gx_IT.rg (by assumption) | exact gx_gt.rc (by assumption) | exact gx_gt.rg (by assumption) | exact gx_lx.rc (by assumption) | exact gx_lx.rg (by assumption) | exact gx_sst.rc (by assumption) | exact gx_sst.rg (by assumption)) (lw_V q1252 q564 q565 q81 q566) (by decide +kernel) dX8_parseClause_48 rfl ⟨by show 12 + 1 ≤ 21 + 2 * f9; omega, by show 8 + (2 + 11) + (100 * 12 + 100) ≤ 100 * (21 + 2 * f9) + 100; omega⟩ (gx_in.id hC (fun q hq => Or.inr (by omega))) rfl (by first | exact Nat.le_of_ble_eq_true rfl | simp [gx_cat_rf, Value.category]) gx_kno (fun v5 G5 nx5 hp hf5 hle5 hlt5 => ?_))
    obtain ⟨rfl, hx5, eds', caps', z1, z2, z3, z4⟩ := hp
    rw [hbe, ← gx_boxes_s] at z4
    have hnM : ∀ a, a ≠ nx + 1 → a < nx3 → ¬ (a = nx + 1 ∨ (a = eds ∧ 0 < caps)) := fun a y1 y2 y => by omega
    have w5 : G5 s9 (gx_sO tl top (q9 + j + 1) (c9 + 1)) := hf5 _ _ r1 (hnM _ (by omega) (by omega))
    have w6 := hf5 _ _ r6 (hnM _ (by omega) (by omega))
    have w7 : gx_GL D T G5 li ede cape (xs ++ [nx]) := r7.mono (fun e9 h9 => hf5 _ _ h9 (hnM _ (by omega) (by omega))) (fun e9 _ h9 => hf5 _ _ h9 (hnM _ a4.2.1 ae)) (fun _ _ h => h)
    have w9 : gx_GL D T G5 (nx + 1 + 1) (D.2.2 1) 0 [] := r9.mono (fun e9 h9 => hf5 _ _ h9 (hnM _ (by omega) (by omega))) (fun e9 hz h9 => absurd hz (Nat.lt_irrefl 0)) (fun _ _ h => h)
    have hed5 : eds' < nx5 := by
      rcases z4.2.1 with y | ⟨-, f, y, -⟩
      · omega
      · exact hlt5 _ _ y
    have ia' : nx3 ≤ eds' := by omega
    have w5' : gx_TG T G5 s9 (gx_O 7 [.ref tl, .ref top, .int (iz ((q9 + j + 1 : Nat) : Int)), .int (iz ((c9 + 1 : Nat) : Int))]) := Or.inr w5
    clear r1 r6 r7 r8 r9 hel hbo
    refine gx_pop hC dX8_parseClause_51 (by first | rfl | exact gx_cat_rf _ | exact gx_cat_rn _) ?_
    refine gx_aload_n hC dX8_parseClause_52 rfl rfl (by first | rfl | exact gx_isr_rf _ | exact gx_isr_rn _) ?_
    refine gx_iconst hC dX8_parseClause_53 ?_
    refine gx_callV (nA := 1) hC (m_X8_isAt (k := 0) w5' (htl' G5) (hY' G5) (by omega) (by omega)) (C := RX8) (Tf := TX8) (Nf := 4) (ci := 7) rfl (by first | ((repeat (first | assumption | exact Or.inr gx_us | exact Or.inr (by assumption) | exact Or.inl (by assumption) | refine gx_tu (by omega) ?_)); done) | exact gx_AL.rc (by assumption) | exact gx_AL.rg (by assumption) | exact gx_AL.rt (by assumption) | exact gx_DQ.rc (by assumption) | exact gx_DQ.rg (by assumption) | exact gx_SB.rc (by assumption) | exact gx_SB.rg (by assumption) | exact gx_Sx.rc (by assumption) | exact gx_Sx.rg (by assumption) | exact gx_IT.rc (by assumption) | exact gx_IT.rg (by assumption) | exact gx_gt.rc (by assumption) | exact gx_gt.rg (by assumption) | exact gx_lx.rc (by assumption) | exact gx_lx.rg (by assumption) | exact gx_sst.rc (by assumption) | exact gx_sst.rg (by assumption)) (lw_V q1190 q1192 qs13 q109 q1193) (by decide +kernel) dX8_parseClause_54 rfl ⟨by show 6 + 1 ≤ 21 + 2 * f9; omega, by show 8 + (2 + 11) + (100 * 6 + 100) ≤ 100 * (21 + 2 * f9) + 100; omega⟩ gx_in.id0 rfl (by first | exact Nat.le_of_ble_eq_true rfl | simp [gx_cat_rf, Value.category]) gx_kno (gx_kp1 ?_)
    by_cases h2 : gs_kd tk (q9 + j + 1) = 0
    · have hj1 : j + 1 < n9 := by
        rcases Nat.lt_or_ge (j + 1) n9 with y | y
        · exact y
        · have y2 : j + 1 = n9 := by omega
          rw [← y2] at hnk
          exact absurd h2 hnk.2
      rw [gx_b1 h2]
      refine gx_if_ne hC dX8_parseClause_57 (tgt := 36) (by decide) (by unfold gx_rg; omega) (fun c57 => ?_) (fun c57 => ?_)
      · refine gx_loc (M := [(3, some (.ref nx)), (0, some (.ref s9)), (1, some (.ref li)), (2, some (va_rf po))]) (by repeat (first | exact trivial | refine ⟨rfl, ?_⟩)) ?_
        exact ih (j + 1, eds', caps', nx5, b2, u2, G5) ⟨Or.inr hj1, by dsimp only; omega, by dsimp only; omega, by dsimp only; omega, w5, w6, w7, z4, w9, Or.inr ia', hed5⟩ (by dsimp only; omega)
      · omega
    · have hj1 : j + 1 = n9 := by
        rcases Nat.lt_or_ge (j + 1) n9 with y | y
        · exact absurd (hnk.1 (j + 1) y) h2
        · omega
      rw [gx_b0 h2]
      refine gx_if_ne hC dX8_parseClause_57 (tgt := 36) (by decide) (by unfold gx_rg; omega) (fun c57 => ?_) (fun c57 => ?_)
      · exact absurd rfl c57
      · refine gx_loc (M := [(3, some (.ref nx)), (0, some (.ref s9)), (1, some (.ref li)), (2, some (va_rf po))]) (by repeat (first | exact trivial | refine ⟨rfl, ?_⟩)) ?_
        subst hj1
        exact pc_tail hC IH htl hYT hkn hf9 hpa (by omega) (by omega) (hR1 (by omega)) (hR2 (by omega)) (hR4 (by omega)) (fun i => hR3i i (by omega)) (fun x => hR3 x (by omega)) hd9 w5 w6 w7 z4 w9 hlt5 a1 a2 a3 a4 a4' (Or.inr ⟨by omega, by omega⟩) (by omega) a7 a8 (by omega) (by omega) (by omega) hdn
  · have hj0 : j = 0 := by
      rcases i1 with y | y
      · exact y
      · exact absurd (hnk.1 j y) hk
    subst hj0
    have hn0 : n9 = 0 := by
      rcases Nat.eq_zero_or_pos n9 with y | y
      · exact y
      · exact absurd (hnk.1 0 y) hk
    refine gx_bud (bc' := (0) + _) (bs' := (0) + _) (by omega) (by omega) (gx_callV (nA := 1) hC (m_X8_take (k := 0) i5 (htl' Gj) (hY' Gj) (by omega) (by omega)) (C := RX8) (Tf := TX8) (Nf := 4) (ci := 7) rfl (by first | ((repeat (first | assumption | exact Or.inr gx_us | exact Or.inr (by assumption) | exact Or.inl (by assumption) | refine gx_tu (by omega) ?_)); done) | exact gx_AL.rc (by assumption) | exact gx_AL.rg (by assumption) | exact gx_AL.rt (by assumption) | exact gx_DQ.rc (by assumption) | exact gx_DQ.rg (by assumption) | exact gx_SB.rc (by assumption) | exact gx_SB.rg (by assumption) | exact gx_Sx.rc (by assumption) | exact gx_Sx.rg (by assumption) | exact gx_IT.rc (by assumption) | exact gx_IT.rg (by assumption) | exact gx_gt.rc (by assumption) | exact gx_gt.rg (by assumption) | exact gx_lx.rc (by assumption) | exact gx_lx.rg (by assumption) | exact gx_sst.rc (by assumption) | exact gx_sst.rg (by assumption)) (lw_V q1186 q1188 qs12 q109 q1189) (by decide +kernel) dX8_parseClause_42 rfl ⟨by show 9 + 1 ≤ 21 + 2 * f9; omega, by show 8 + (2 + 11) + (100 * 9 + 100) ≤ 100 * (21 + 2 * f9) + 100; omega⟩ (gx_in.id hC (fun q hq => Or.inl (Or.inl hq))) rfl (by first | exact Nat.le_of_ble_eq_true rfl | simp [gx_cat_rf, Value.category]) (fun E9 q9 G9 nx9 hp9 hf9 hle9 hlt9 => gx_out hC rfl rfl (by first | (intro x9 h9; cases h9) | decide) (fun G' hG => ⟨_, hR0 hn0, hp9.2.1, Nat.le_trans (Nat.le_trans (Nat.le_add_right nx 3) (Nat.le_trans a6 i4)) hp9.2.2.1, hG _ _ hp9.2.2.2⟩)) (fun v4 G4 nx4 hp hf4 hle4 hlt4 => ?_))
    exact absurd hp.1 hk
end PU

