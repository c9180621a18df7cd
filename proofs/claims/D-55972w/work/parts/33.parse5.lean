/-! parse -/
set_option maxRecDepth 100000
theorem gp_cl_tops {tk : List gs_T} {rec : Nat → Nat → Int → gs_R} {q c : Nat} {pa : Int} (hr : ∀ q c x, rec q (c + 1) c = .inr x → gp_ok x.2 (c + 1) (c : Int)) (hpa : pa < (c : Int)) {x : Nat × List gs_K} (h : gp_cl tk rec q c pa = .inr x) : gp_tops x.2 c pa = [c] := by
  have e0 : ∀ (K : gs_K) (Ls : List gs_K), K.pa = pa → gp_ok Ls (c + 1) (c : Int) → gp_tops (K :: Ls) c pa = [c] := fun K Ls hK hL => by
    rw [gp_tops_c, if_pos hK, gp_tops_nil (fun K hK => by have := hL.mem K hK; omega)]
  unfold gp_cl at h
  split at h
  · cases h
  split at h
  · cases h
  split at h
  · cases h
    exact e0 _ _ rfl gp_ok.nil
  split at h
  · split at h
    · cases h
    · rename_i y hy
      split at h
      · cases h
        exact e0 _ _ rfl (hr _ _ _ hy)
      · cases h
  · cases h
    exact e0 _ _ rfl gp_ok.nil
theorem gp_rec_ok {tk : List gs_T} {f : Nat} : ∀ q c x, gp_pa tk f q (c + 1) c = .inr x → gp_ok x.2 (c + 1) (c : Int) := fun q c x hx => (gp_pa_ok f q (c + 1) c x (by omega) hx).1
/-- what follows a clause that ends in front of r -/
def gp_go (tk : List gs_T) (k r c : Nat) (pa : Int) (Ks : List gs_K) : gs_R :=
  if gs_kd tk r = 4 then
    match gp_pa tk k (r + 1) (c + Ks.length) pa with
    | .inl i => .inl i
    | .inr y => .inr (y.1, Ks ++ y.2)
  else .inr (r, Ks)
theorem gp_pa_go {tk : List gs_T} {f q c : Nat} {pa : Int} {x : Nat × List gs_K} (h : gp_cl tk (gp_pa tk f) q c pa = .inr x) : gp_pa tk (f + 1) q c pa = gp_go tk f x.1 c pa x.2 := by
  unfold gp_pa gp_go
  rw [h]
  rfl
theorem gp_pa_i {tk : List gs_T} {f q c i : Nat} {pa : Int} (h : gp_cl tk (gp_pa tk f) q c pa = .inl i) : gp_pa tk (f + 1) q c pa = .inl i := by
  unfold gp_pa
  rw [h]
theorem gp_go_s {tk : List gs_T} {k r c : Nat} {pa : Int} {Ks : List gs_K} {x : Nat × List gs_K} (h4 : gs_kd tk r = 4) (h : gp_cl tk (gp_pa tk k) (r + 1) (c + Ks.length) pa = .inr x) : gp_go tk (k + 1) r c pa Ks = gp_go tk k x.1 c pa (Ks ++ x.2) := by
  have e1 : c + Ks.length + x.2.length = c + (Ks ++ x.2).length := by
    rw [List.length_append]
    omega
  have e0 : gp_go tk (k + 1) r c pa Ks = match gp_go tk k x.1 (c + Ks.length) pa x.2 with
      | .inl i => .inl i
      | .inr y => .inr (y.1, Ks ++ y.2) := by
    rw [← gp_pa_go h]
    exact if_pos h4
  rw [e0]
  unfold gp_go
  rw [e1]
  by_cases h5 : gs_kd tk x.1 = 4
  · rw [if_pos h5, if_pos h5]
    cases gp_pa tk k (x.1 + 1) (c + (Ks ++ x.2).length) pa with
    | inl i => rfl
    | inr y => simp only [List.append_assoc]
  · rw [if_neg h5, if_neg h5]
theorem gp_go_i {tk : List gs_T} {k r c i : Nat} {pa : Int} {Ks : List gs_K} (h4 : gs_kd tk r = 4) (h : gp_cl tk (gp_pa tk k) (r + 1) (c + Ks.length) pa = .inl i) : gp_go tk (k + 1) r c pa Ks = .inl i := by
  unfold gp_go
  rw [if_pos h4, gp_pa_i h]
theorem gp_go_e {tk : List gs_T} {k r c : Nat} {pa : Int} {Ks : List gs_K} (hr : r ≤ tk.length) : r ≤ (gp_go tk k r c pa Ks).e := by
  unfold gp_go
  split
  · rename_i h4
    have h5 := gs_kd_lt h4 (by omega)
    have h6 := gp_pa_e (tk := tk) k (r + 1) (c + Ks.length) pa (by omega)
    split
    · rename_i i hi
      rw [hi] at h6
      simp only [gs_R.e] at h6 ⊢
      omega
    · rename_i y hy
      rw [hy] at h6
      simp only [gs_R.e] at h6 ⊢
      omega
  · exact Nat.le_refl _
theorem gx_CR.ob {D : gx_D} {T X : gx_H} {ad su ne : Nat → Nat} {c : Nat} {Ks : List gs_K} {pa : Int} {po : Option Nat} {li : Nat} (h : gx_CR D T X ad su ne c Ks pa po li) {k : Nat} (hk : c ≤ k ∧ k < c + Ks.length) : ∃ fs, X (ad k) (gx_O 8 fs) := by
  have h1 := (h (k - c) (by omega)).1
  rw [show c + (k - c) = k by omega] at h1
  exact ⟨_, h1⟩
section PW
variable {p : Program} {l : Launch} {e : Env} {s : State} {m : MethodId} {args : Array Value} {below : List Frame} {meth : Method} {c : Code} {D : gx_D} {T Y : gx_H} {nx s9 tl edt top li edi capi c9 d9 f0 B9 S9 : Nat} {xs : List Nat} {pa : Int} {po : Option Nat} {tk : List gs_T} {R9 : gs_R}
theorem pp_loop (hC : gx_C p l s m args meth c D (gx_A (gx_pM s9 li edi capi) nx) T cX8_parse 3 none yX8_parse.cls yX8_parse.name []) (htl : gx_tl D T Y tl edt tk) (hYT : ∀ x t, Y x (gx_tok t) → T x (gx_tok t)) (hkn : gx_kn D T) (hpa : pa < (c9 : Int)) (a1 : s9 < nx) (a2 : li < nx) (a3 : s9 ≠ li) (a3' : s9 ≠ edi) (hxs0 : ∀ x ∈ xs, x < nx ∧ x ≠ li ∧ x ≠ s9 ∧ x ≠ edi) (k : Nat) :
    ∀ (G9 : gx_H) (r nj ede cape : Nat) (Ks : List gs_K) (ad su ne : Nat → Nat), (∀ j, j < k → gx_parseAt j) → k ≤ f0 → tk.length - r ≤ k → r ≤ tk.length → R9 = gp_go tk k r c9 pa Ks → G9 s9 (gx_sO tl top r (c9 + Ks.length)) → gx_CR D T (fun a e => G9 a e ∧ nx ≤ a ∧ a ≠ ede) ad su ne c9 Ks pa po li → gx_GL D T G9 li ede cape (xs ++ (gp_tops Ks c9 pa).map ad) → (ede = edi ∧ 0 < capi ∨ nx ≤ ede) → 0 < cape → gp_ok Ks c9 pa → (∀ x ∈ xs, ∃ fs, G9 x (gx_O 8 fs)) → 3 * (xs ++ (gp_tops Ks c9 pa).map ad).length ≤ r + 1 → nx ≤ nj → ede < nj →
    gx_X p l e (headSpec (ws_ yX8_parse cX8_parse 3 none) (gx_rm (20 + 2 * (f0 + 1)) B9 S9)).room s m args below meth c (gx_QQ below D (gx_A (gx_pM s9 li edi capi) nx) (gx_po D T R9 s9 tl top li edi capi c9 xs pa po nx) (gx_px R9 nx) args s B9 S9) D (gx_A (gx_pM s9 li edi capi) nx) G9 nj (6 * (R9.e - r)) (90 * (R9.e - r)) 6 [(0, some (.ref s9)), (1, some (.ref li)), (2, some (va_rf po))] [] := by
  have htl' : ∀ Z, gx_tl D (gx_TG T Z) Y tl edt tk := fun Z => ⟨⟨_, _, htl.1.choose_spec.choose_spec.1.mono (fun _ => Or.inl) (fun _ => Or.inl), htl.1.choose_spec.choose_spec.2⟩, htl.2⟩
  have hY' : ∀ Z, gx_yok T Z gx_M0 Y := fun Z x t h => ⟨Or.inl (hYT x t h), fun q => q⟩
  induction k with
  | zero =>
    intro G9 r nj ede cape Ks ad su ne hIH hk0 hf hr hR9 g1 g2 g3 g4 g5 g6 g7 g8 g9 ga
    have h4 : gs_kd tk r ≠ 4 := fun h => by have := gs_kd_lt h (by omega); omega
    have hR : R9 = .inr (r, Ks) := by rw [hR9]; unfold gp_go; rw [if_neg h4]
    have g1' : gx_TG T G9 s9 (gx_O 7 [.ref tl, .ref top, .int (iz ((r : Nat) : Int)), .int (iz ((c9 + Ks.length : Nat) : Int))]) := Or.inr g1
    refine gx_bud (bc' := 0) (bs' := 0) (by omega) (by omega) ?_
    refine gx_aload_n hC dX8_parse_6 rfl rfl (by first | rfl | exact gx_isr_rf _ | exact gx_isr_rn _) ?_
    refine gx_iconst hC dX8_parse_7 ?_
    refine gx_callV (nA := 1) hC (m_X8_isAt (k := 4) g1' (htl' G9) (hY' G9) hr (by omega)) (C := RX8) (Tf := TX8) (Nf := 4) (ci := 7) rfl (by first | ((repeat (first | assumption | exact Or.inr gx_us | exact Or.inr (by assumption) | exact Or.inl (by assumption) | refine gx_tu (by omega) ?_)); done) | exact gx_AL.rc (by assumption) | exact gx_AL.rg (by assumption) | exact gx_AL.rt (by assumption) | exact gx_DQ.rc (by assumption) | exact gx_DQ.rg (by assumption) | exact gx_SB.rc (by assumption) | exact gx_SB.rg (by assumption) | exact gx_Sx.rc (by assumption) | exact gx_Sx.rg (by assumption) | exact gx_IT.rc (by assumption) | exact gx_IT.rg (by assumption) | exact gx_gt.rc (by assumption) | exact gx_gt.rg (by assumption) | exact gx_lx.rc (by assumption) | exact gx_lx.rg (by assumption) | exact gx_sst.rc (by assumption) | exact gx_sst.rg (by assumption)) (lw_V q1190 q1192 qs13 q109 q1193) (by decide +kernel) dX8_parse_8 rfl ⟨by show 6 + 1 ≤ 20 + 2 * (f0 + 1); omega, by show 8 + (2 + 11) + (100 * 6 + 100) ≤ 100 * (20 + 2 * (f0 + 1)) + 100; omega⟩ gx_in.id0 rfl (by first | exact Nat.le_of_ble_eq_true rfl | simp [gx_cat_rf, Value.category]) gx_kno (gx_kp1 ?_)
    rw [gx_b0 h4]
    refine gx_if_eq hC dX8_parse_11 (tgt := 33) (by decide) (by unfold gx_rg; omega) (fun c11 => ?_) (fun c11 => ?_)
    · exact gx_vret hC rfl rfl rfl dX8_parse_33 (fun G' hG => ⟨_, hR, rfl, hG _ _ g1, ad, su, ne, ede, cape, g2.mono (fun a9 e9 h9 => ⟨hG _ _ h9.1, h9.2⟩) (fun _ _ h => h), g3.mono (fun e9 h9 => hG _ _ h9) (fun e9 _ h9 => hG _ _ h9) (fun _ _ h => h), g4, g5⟩)
    · exact absurd rfl c11
  | succ k ih =>
    intro G9 r nj ede cape Ks ad su ne hIH hk0 hf hr hR9 g1 g2 g3 g4 g5 g6 g7 g8 g9 ga
    have g1' : gx_TG T G9 s9 (gx_O 7 [.ref tl, .ref top, .int (iz ((r : Nat) : Int)), .int (iz ((c9 + Ks.length : Nat) : Int))]) := Or.inr g1
    obtain ⟨b0, hb0⟩ : ∃ b0, 6 * (R9.e - r) = b0 := ⟨_, rfl⟩
    obtain ⟨u0, hu0⟩ : ∃ u0, 90 * (R9.e - r) = u0 := ⟨_, rfl⟩
    rw [hb0, hu0]
    refine gx_aload_n hC dX8_parse_6 rfl rfl (by first | rfl | exact gx_isr_rf _ | exact gx_isr_rn _) ?_
    refine gx_iconst hC dX8_parse_7 ?_
    refine gx_callV (nA := 1) hC (m_X8_isAt (k := 4) g1' (htl' G9) (hY' G9) hr (by omega)) (C := RX8) (Tf := TX8) (Nf := 4) (ci := 7) rfl (by first | ((repeat (first | assumption | exact Or.inr gx_us | exact Or.inr (by assumption) | exact Or.inl (by assumption) | refine gx_tu (by omega) ?_)); done) | exact gx_AL.rc (by assumption) | exact gx_AL.rg (by assumption) | exact gx_AL.rt (by assumption) | exact gx_DQ.rc (by assumption) | exact gx_DQ.rg (by assumption) | exact gx_SB.rc (by assumption) | exact gx_SB.rg (by assumption) | exact gx_Sx.rc (by assumption) | exact gx_Sx.rg (by assumption) | exact gx_IT.rc (by assumption) | exact gx_IT.rg (by assumption) | exact gx_gt.rc (by assumption) | exact gx_gt.rg (by assumption) | exact gx_lx.rc (by assumption) | exact gx_lx.rg (by assumption) | exact gx_sst.rc (by assumption) | exact gx_sst.rg (by assumption)) (lw_V q1190 q1192 qs13 q109 q1193) (by decide +kernel) dX8_parse_8 rfl ⟨by show 6 + 1 ≤ 20 + 2 * (f0 + 1); omega, by show 8 + (2 + 11) + (100 * 6 + 100) ≤ 100 * (20 + 2 * (f0 + 1)) + 100; omega⟩ gx_in.id0 rfl (by first | exact Nat.le_of_ble_eq_true rfl | simp [gx_cat_rf, Value.category]) gx_kno (gx_kp1 ?_)
    by_cases h4 : gs_kd tk r = 4
    · rw [gx_b1 h4]
      refine gx_if_eq hC dX8_parse_11 (tgt := 33) (by decide) (by unfold gx_rg; omega) (fun c11 => ?_) (fun c11 => ?_)
      · omega
      · have hl4 := gs_kd_lt h4 (by omega)
        refine gx_lt (fun hlt9 => ?_)
        have hede : ede ≠ s9 ∧ ede ≠ li := by
          have := g3.2.2.2.2
          refine ⟨fun z => ?_, fun z => this z.symm⟩
          rcases g4 with y | y
          · exact a3' (z ▸ y.1)
          · omega
        have hq1 : r + 1 ≤ tk.length := by omega
        have hcle := gp_cl_e (c := c9 + Ks.length) (pa := pa) hq1 (gp_pa_e (tk := tk) k)
        have hE2 : (gp_cl tk (gp_pa tk k) (r + 1) (c9 + Ks.length) pa).e ≤ R9.e := by
          cases hx : gp_cl tk (gp_pa tk k) (r + 1) (c9 + Ks.length) pa with
          | inl i => rw [hR9, gp_go_i h4 hx]; exact Nat.le_refl _
          | inr x =>
            rw [hx] at hcle
            rw [hR9, gp_go_s h4 hx]
            exact gp_go_e hcle.2.1
        obtain ⟨E1, hE1⟩ : ∃ E1, (gp_cl tk (gp_pa tk k) (r + 1) (c9 + Ks.length) pa).e = E1 := ⟨_, rfl⟩
        have hcle1 := hcle.1
        have hcle2 := hcle.2.1
        rw [hE1] at hE2 hcle1 hcle2
        obtain ⟨b1, hb1⟩ : ∃ b1, 6 * (R9.e - E1) = b1 := ⟨_, rfl⟩
        obtain ⟨u1, hu1⟩ : ∃ u1, 90 * (R9.e - E1) = u1 := ⟨_, rfl⟩
        refine gx_aload_n hC dX8_parse_14 rfl rfl (by first | rfl | exact gx_isr_rf _ | exact gx_isr_rn _) ?_
        refine gx_dup hC dX8_parse_15 (by first | rfl | exact gx_cat_rf _ | exact gx_cat_rn _) ?_
        refine gx_get hC (C := RX8) (Tf := TX8) (N := 4) (ci := 7) (k := 2) rfl in_X8 (by decide) q1256 (fun _ h9 => h9) dX8_parse_16 (by repeat (first | assumption | exact Or.inr gx_us | exact Or.inr (by assumption) | exact Or.inl (by assumption) | refine gx_tu (by omega) ?_)) rfl ?_
        refine gx_iconst hC dX8_parse_19 ?_
        refine gx_iadd hC dX8_parse_20 ?_
        refine gx_put hC (C := RX8) (Tf := TX8) (N := 4) (ci := 7) (k := 2) rfl in_X8 (by decide) tyX8 tyX8_ok nmX8 q1256 (fun _ h9 => h9) rfl dX8_parse_21 (by first | exact gx_us | assumption | (repeat (first | exact gx_us | assumption | refine gx_un (by omega) ?_))) (by first | exact Or.inl rfl | exact Or.inl (Or.inl rfl) | exact Or.inl (Or.inr rfl) | exact Or.inr (by omega) | assumption | (simp only [gx_A, *]; omega)) (Nat.le_of_ble_eq_true rfl) (by first | rfl | (unfold gx_rn; split <;> rfl) | (cases ‹Option Nat› <;> rfl) | simp [narrow]) (by first | rfl | (unfold gx_rn; split <;> rfl) | (cases ‹Option Nat› <;> rfl) | simp [fits]) ?_
        obtain ⟨Ga, hGa⟩ : ∃ Ga, Ga = gx_up G9 s9 (gx_sO tl top (r + 1) (c9 + Ks.length)) := ⟨_, rfl⟩
        refine gx_eqG (G' := Ga) hGa.symm ?_
        have ka : ∀ a x, G9 a x → a ≠ s9 → Ga a x := fun a x h hn => by rw [hGa]; exact gx_un hn h
        have j1 : Ga s9 (gx_sO tl top (r + 1) (c9 + Ks.length)) := by rw [hGa]; exact gx_us
        have j3 : gx_GL D T Ga li ede cape (xs ++ (gp_tops Ks c9 pa).map ad) := g3.mono (fun e9 h9 => ka _ _ h9 (fun z => a3 z.symm)) (fun e9 _ h9 => ka _ _ h9 hede.1) (fun _ _ h => h)
        have hph : gx_ph D T Ga Y s9 tl edt top li ede cape (r + 1) (c9 + Ks.length) (xs ++ (gp_tops Ks c9 pa).map ad) pa tk := by
          refine ⟨j1, htl, hYT, hkn, j3, g8, hq1, fun x hx => ?_, ⟨a3, fun z => hede.1 z.symm⟩, by omega⟩
          rcases List.mem_append.mp hx with hx | hx
          · obtain ⟨fs, h9⟩ := g7 x hx
            obtain ⟨y1, y2, y3, y4⟩ := hxs0 x hx
            refine ⟨⟨fs, ka _ _ h9 y3⟩, y2, y3, fun z => ?_⟩
            rcases g4 with y | y
            · exact y4 (z.trans y.1)
            · omega
          · obtain ⟨k9, hk9, rfl⟩ := List.mem_map.mp hx
            obtain ⟨fs, h9, y1, y2⟩ := g2.ob (gp_tops_mem hk9)
            exact ⟨⟨fs, ka _ _ h9 (by omega)⟩, by omega, by omega, y2⟩
        have j1' : gx_TG T Ga s9 (gx_O 7 [.ref tl, .ref top, .int (iz ((r + 1 : Nat) : Int)), .int (iz ((c9 + Ks.length : Nat) : Int))]) := Or.inr j1
        refine gx_aload_n hC dX8_parse_24 rfl rfl (by first | rfl | exact gx_isr_rf _ | exact gx_isr_rn _) ?_
        refine gx_aload_n hC dX8_parse_25 rfl rfl (by first | rfl | exact gx_isr_rf _ | exact gx_isr_rn _) ?_
        refine gx_aload_n hC dX8_parse_26 rfl rfl (by first | rfl | exact gx_isr_rf _ | exact gx_isr_rn _) ?_
        refine gx_bud (bc' := (b1) + _) (bs' := (u1) + _) (by omega) (by omega) (gx_callV (nA := 2) hC (m_X8_parseClause (po := po) (hIH k (by omega)) hph (by omega)) (C := RX8) (Tf := TX8) (Nf := 4) (ci := 7) rfl (by first | ((repeat (first | assumption | exact Or.inr gx_us | exact Or.inr (by assumption) | exact Or.inl (by assumption) | refine gx_tu (by omega) ?_)); done) | exact gx_AL.rc (by assumption) | exact gx_AL.rg (by assumption) | exact gx_AL.rt (by assumption) | exact gx_DQ.rc (by assumption) | exact gx_DQ.rg (by assumption) | exact gx_SB.rc (by assumption) | exact gx_SB.rg (by assumption) | exact gx_Sx.rc (by assumption) | exact gx_Sx.rg (by assumption) | exact gx_IT.rc (by assumption) | exact gx_IT.rg (by assumption) | exact gx_gt.rc (by assumption) | exact gx_gt.rg (by assumption) | exact gx_lx.rc (by assumption) | exact gx_lx.rg (by assumption) | exact gx_sst.rc (by assumption) | exact gx_sst.rg (by assumption)) (lw_V q1098 q1100 qs11 q109 q1101) (by decide +kernel) dX8_parse_27 rfl ⟨by show (21 + 2 * k) + 1 ≤ 20 + 2 * (f0 + 1); omega, by show 8 + (5 + 11) + (100 * (21 + 2 * k) + 100) ≤ 100 * (20 + 2 * (f0 + 1)) + 100; omega⟩ (gx_in.id hC (fun q hq => hq.elim (fun z => Or.inl (Or.inl z)) (fun z => z.elim (fun z => Or.inl (Or.inr (Or.inl z))) (fun z => g4.elim (fun y => Or.inl (Or.inr (Or.inr ⟨z.1.trans y.1, y.2⟩))) (fun y => Or.inr (by omega)))))) rfl (by first | exact Nat.le_of_ble_eq_true rfl | simp [gx_cat_rf, Value.category]) (fun E9 q9 G9 nx9 hp9 hf9 hle9 hlt9 => gx_out hC rfl rfl (by first | (intro x9 h9; cases h9) | decide) (fun G' hG => ⟨hp9.choose, by rw [hR9]; exact gp_go_i h4 hp9.choose_spec.1, hp9.choose_spec.2.1, Nat.le_trans g9 hp9.choose_spec.2.2.1, hG _ _ hp9.choose_spec.2.2.2⟩)) (fun v7 Gb nx7 hp hf7 hle7 hlt7 => ?_))
        obtain ⟨x, hx, rfl, w1, ad', su', ne', ed2, cap2, w2, w3, w4, w5⟩ := hp
        have hnM : ∀ a, a ≠ s9 → a ≠ li → a ≠ ede → ¬ gx_pM s9 li ede cape a := fun a z1 z2 z3 z => z.elim z1 (fun z => z.elim z2 (fun z => z3 z.1))
        have hE1x : E1 = x.1 := by rw [← hE1, hx]; rfl
        have hx2 := hcle.2.2 x hx
        have htops := gp_cl_tops (tk := tk) (rec := gp_pa tk k) gp_rec_ok (by omega) hx
        have hokx := gp_cl_ok (tk := tk) (rec := gp_pa tk k) gp_rec_ok (by omega) hx
        have hed2 : ed2 < nx7 := by
          rcases w3.2.1 with y | ⟨-, f, y, -⟩
          · omega
          · exact hlt7 _ _ y
        have hc2 : gx_CR D T (fun a e => Gb a e ∧ nx ≤ a ∧ a ≠ ed2) ad su ne c9 Ks pa po li := g2.mono (fun a9 e9 h9 => ⟨hf7 _ _ (ka _ _ h9.1 (by have := h9.2.1; omega)) (hnM _ (by have := h9.2.1; omega) (by have := h9.2.1; omega) h9.2.2), h9.2.1, fun z => by
          have y1 := hlt9 _ _ h9.1
          rcases w4 with y | y
          · exact h9.2.2 (z.trans y.1)
          · omega⟩) (fun _ _ h => h)
        have hc3 : gx_CR D T (fun a e => Gb a e ∧ nx ≤ a ∧ a ≠ ed2) ad' su' ne' (c9 + Ks.length) x.2 pa po li := w2.mono (fun a9 e9 h9 => ⟨h9.1, by have := h9.2.1; omega, h9.2.2⟩) (fun _ _ h => h)
        have hc4 := hc2.app hc3 g6 hokx.1 hpa
        have hlist : xs ++ (gp_tops Ks c9 pa).map ad ++ (gp_tops x.2 (c9 + Ks.length) pa).map ad' = xs ++ (gp_tops (Ks ++ x.2) c9 pa).map (gx_mg (c9 + Ks.length) ad ad') := by
          rw [gp_tops_app, List.map_append, gx_map_mg_l (fun k hk => (gp_tops_mem hk).2), gx_map_mg_r (fun k hk => (gp_tops_mem hk).1), List.append_assoc]
        rw [hlist] at w3
        have hlen : 3 * (xs ++ (gp_tops (Ks ++ x.2) c9 pa).map (gx_mg (c9 + Ks.length) ad ad')).length ≤ x.1 + 1 := by
          rw [← hlist, List.length_append, htops]
          simp only [List.length_map, List.length_singleton]
          omega
        have e1 : b1 = 6 * (R9.e - x.1) := by rw [← hb1, hE1x]
        have e2 : u1 = 90 * (R9.e - x.1) := by rw [← hu1, hE1x]
        rw [show c9 + Ks.length + x.2.length = c9 + (Ks ++ x.2).length by rw [List.length_append]; omega] at w1
        rw [e1, e2]
        refine gx_goto hC dX8_parse_30 (tgt := 6) (by decide) ?_
        exact ih Gb x.1 nx7 ed2 cap2 (Ks ++ x.2) _ _ _ (fun j hj => hIH j (by omega)) (by omega) (by omega) (by omega) (by rw [hR9]; exact gp_go_s h4 hx) w1 hc4 w3 (w4.elim (fun y => g4.elim (fun z => Or.inl ⟨y.1.trans z.1, z.2⟩) (fun z => Or.inr (by omega))) (fun y => Or.inr (by omega))) w5 (g6.app hokx.1) (fun z hz => by
          obtain ⟨fs, h9⟩ := g7 z hz
          obtain ⟨y1, y2, y3, y4⟩ := hxs0 z hz
          exact ⟨fs, hf7 _ _ (ka _ _ h9 y3) (hnM _ y3 y2 (fun q => by rcases g4 with y | y; (exact y4 (q.trans y.1)); omega))⟩) hlen (by omega) hed2
    · have hR : R9 = .inr (r, Ks) := by rw [hR9]; unfold gp_go; rw [if_neg h4]
      rw [gx_b0 h4]
      refine gx_if_eq hC dX8_parse_11 (tgt := 33) (by decide) (by unfold gx_rg; omega) (fun c11 => ?_) (fun c11 => ?_)
      · refine gx_bud (bc' := 0) (bs' := 0) (by omega) (by omega) ?_
        exact gx_vret hC rfl rfl rfl dX8_parse_33 (fun G' hG => ⟨_, hR, rfl, hG _ _ g1, ad, su, ne, ede, cape, g2.mono (fun a9 e9 h9 => ⟨hG _ _ h9.1, h9.2⟩) (fun _ _ h => h), g3.mono (fun e9 h9 => hG _ _ h9) (fun e9 _ h9 => hG _ _ h9) (fun _ _ h => h), g4, g5⟩)
      · exact absurd rfl c11
end PW

