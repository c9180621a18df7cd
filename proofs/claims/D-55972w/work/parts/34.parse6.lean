/-! parse, by its fuel -/
set_option maxRecDepth 100000
theorem m_X8_parse (f : Nat) (hall : ∀ k, k ≤ f → gx_parseAt k) : gx_parseAt (f + 1) := by
  intro l D T G Y nx s9 tl edt top li edi capi q9 c9 xs pa po tk h hf
  have hall' := h
  obtain ⟨hs, htl, hYT, hkn, hli, h3, hq, hxs, hne, hpa⟩ := h
  have hcle := gp_cl_e (c := c9) (pa := pa) hq (gp_pa_e (tk := tk) f)
  obtain ⟨R9, hR9⟩ : ∃ R9, gp_pa tk (f + 1) q9 c9 pa = R9 := ⟨_, rfl⟩
  rw [hR9]
  have hE2 : (gp_cl tk (gp_pa tk f) q9 c9 pa).e ≤ R9.e := by
    cases hx : gp_cl tk (gp_pa tk f) q9 c9 pa with
    | inl i => rw [← hR9, gp_pa_i hx]; exact Nat.le_refl _
    | inr x =>
      rw [hx] at hcle
      rw [← hR9, gp_pa_go hx]
      exact gp_go_e hcle.2.1
  obtain ⟨E1, hE1⟩ : ∃ E1, (gp_cl tk (gp_pa tk f) q9 c9 pa).e = E1 := ⟨_, rfl⟩
  have hcle1 := hcle.1
  have hcle2 := hcle.2.1
  rw [hE1] at hE2 hcle1 hcle2
  obtain ⟨B9, hB9⟩ : ∃ B9, 6 * (R9.e - q9) + 6 = B9 := ⟨_, rfl⟩
  obtain ⟨S9, hS9⟩ : ∃ S9, 90 * (R9.e - q9) + 90 = S9 := ⟨_, rfl⟩
  rw [hB9, hS9]
  obtain ⟨b1, hb1⟩ : ∃ b1, 6 * (R9.e - E1) = b1 := ⟨_, rfl⟩
  obtain ⟨u1, hu1⟩ : ∃ u1, 90 * (R9.e - E1) = u1 := ⟨_, rfl⟩
  refine gx_start (by decide) (by cases po <;> exact Nat.le_of_ble_eq_true rfl) (L0 := [(0, some (.ref s9)), (1, some (.ref li)), (2, some (va_rf po))]) (by cases po <;> rfl) (fun p e s m args below meth c hC hlt => ?_)
  have hsx := hlt _ _ hs
  have hlx := hlt _ _ hli.1.choose_spec
  have hE := hkn.2.2.2.choose_spec
  have hEx : D.2.2 1 < nx := hC.tl hlt (Or.inl hE)
  have hex : edi < nx := by
    rcases hli.2.1 with q | ⟨-, f, q, -⟩
    · rw [q.2.1]; exact hEx
    · exact hlt _ _ q
  have hxsx : ∀ x ∈ xs, x < nx ∧ x ≠ li ∧ x ≠ s9 ∧ x ≠ edi := fun x hx => by obtain ⟨⟨fs, h9⟩, h8⟩ := hxs x hx; exact ⟨hlt _ _ h9, h8⟩
  have hs' : gx_TG T G s9 (gx_O 7 [.ref tl, .ref top, .int (iz ((q9 : Nat) : Int)), .int (iz ((c9 : Nat) : Int))]) := Or.inr hs
  refine gx_aload_n hC dX8_parse_0 rfl rfl (by first | rfl | exact gx_isr_rf _ | exact gx_isr_rn _) ?_
  refine gx_aload_n hC dX8_parse_1 rfl rfl (by first | rfl | exact gx_isr_rf _ | exact gx_isr_rn _) ?_
  refine gx_aload_n hC dX8_parse_2 rfl rfl (by first | rfl | exact gx_isr_rf _ | exact gx_isr_rn _) ?_
  refine gx_bud (bc' := (b1) + _) (bs' := (u1) + _) (by omega) (by omega) (gx_callV (nA := 2) hC (m_X8_parseClause (po := po) (hall f (Nat.le_refl f)) hall' (by omega)) (C := RX8) (Tf := TX8) (Nf := 4) (ci := 7) rfl (by first | ((repeat (first | assumption | exact Or.inr gx_us | exact Or.inr (by assumption) | exact Or.inl (by assumption) | refine gx_tu (by omega) ?_)); done) | exact gx_AL.rc (by assumption) | exact gx_AL.rg (by assumption) | exact gx_AL.rt (by assumption) | exact gx_DQ.rc (by assumption) | exact gx_DQ.rg (by assumption) | exact gx_SB.rc (by assumption) | exact gx_SB.rg (by assumption) | exact gx_Sx.rc (by assumption) | exact gx_Sx.rg (by assumption) | exact gx_IT.rc (by assumption) | exact gx_IT.rg (by assumption) | exact gx_gt.rc (by assumption) | exact gx_gt.rg (by assumption) | exact gx_lx.rc (by assumption) | exact gx_lx.rg (by assumption) | exact gx_sst.rc (by assumption) | exact gx_sst.rg (by assumption)) (lw_V q1098 q1100 qs11 q109 q1101) (by decide +kernel) dX8_parse_3 rfl ⟨by show (21 + 2 * f) + 1 ≤ 20 + 2 * (f + 1); omega, by show 8 + (5 + 11) + (100 * (21 + 2 * f) + 100) ≤ 100 * (20 + 2 * (f + 1)) + 100; omega⟩ (gx_in.id hC (fun q hq => Or.inl hq)) rfl (by first | exact Nat.le_of_ble_eq_true rfl | simp [gx_cat_rf, Value.category]) (fun E9 q9 G9 nx9 hp9 hf9 hle9 hlt9 => gx_out hC rfl rfl (by first | (intro x9 h9; cases h9) | decide) (fun G' hG => ⟨hp9.choose, by rw [← hR9]; exact gp_pa_i hp9.choose_spec.1, hp9.choose_spec.2.1, hp9.choose_spec.2.2.1, hG _ _ hp9.choose_spec.2.2.2⟩)) (fun v7 Gb nx7 hp hf7 hle7 hlt7 => ?_))
  obtain ⟨x, hx, rfl, w1, ad, su, ne, ed2, cap2, w2, w3, w4, w5⟩ := hp
  have hE1x : E1 = x.1 := by rw [← hE1, hx]; rfl
  have hx2 := hcle.2.2 x hx
  have htops := gp_cl_tops (tk := tk) (rec := gp_pa tk f) gp_rec_ok hpa hx
  have hokx := gp_cl_ok (tk := tk) (rec := gp_pa tk f) gp_rec_ok hpa hx
  have hed2 : ed2 < nx7 := by
    rcases w3.2.1 with y | ⟨-, f, y, -⟩
    · omega
    · exact hlt7 _ _ y
  have e1 : b1 = 6 * (R9.e - x.1) := by rw [← hb1, hE1x]
  have e2 : u1 = 90 * (R9.e - x.1) := by rw [← hu1, hE1x]
  rw [e1, e2]
  exact pp_loop hC htl hYT hkn hpa hsx hlx hne.1 hne.2 hxsx f Gb x.1 nx7 ed2 cap2 x.2 ad su ne (fun j hj => hall j (by omega)) (Nat.le_refl f) (by omega) (by omega) (by rw [← hR9]; exact gp_pa_go hx) w1 w2 w3 w4 w5 hokx.1 (fun z hz => by
    obtain ⟨⟨fs, h9⟩, y2, y3, y4⟩ := hxs z hz
    exact ⟨fs, hf7 _ _ h9 (fun q => q.elim y3 (fun q => q.elim y2 (fun q => y4 q.1)))⟩) (by rw [List.length_append, List.length_map, htops, List.length_singleton]; omega) hle7 hed2
theorem gx_parseAll : ∀ f k : Nat, k ≤ f → gx_parseAt k := by
  intro f
  induction f with
  | zero =>
    intro k hk
    have : k = 0 := by omega
    subst this
    intro l D T G Y nx s9 tl edt top li edi capi q9 c9 xs pa po tk h hf
    omega
  | succ f ih =>
    intro k hk
    by_cases e : k ≤ f
    · exact ih k e
    · have : k = f + 1 := by omega
      subst this
      exact m_X8_parse f ih

