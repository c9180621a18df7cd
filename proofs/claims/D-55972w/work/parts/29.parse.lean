/-! Sentence.parseClause, parse: they follow the parser's function -/
set_option maxRecDepth 100000
theorem gp_cl_0 {tk : List gs_T} {rec : Nat → Nat → Int → gs_R} {q c : Nat} {pa : Int} (h : gp_n tk q = 0) : gp_cl tk rec q c pa = .inl q := by
  unfold gp_cl
  rw [if_pos h]
theorem gp_cl_1 {tk : List gs_T} {rec : Nat → Nat → Int → gs_R} {q c : Nat} {pa : Int} (h : gp_n tk q ≠ 0) (h1 : gs_kd tk (q + gp_n tk q) ≠ 1) : gp_cl tk rec q c pa = .inl (q + gp_n tk q) := by
  unfold gp_cl
  rw [if_neg h, if_pos h1]
theorem gp_cl_2 {tk : List gs_T} {rec : Nat → Nat → Int → gs_R} {q c : Nat} {pa : Int} (h : gp_n tk q ≠ 0) (h1 : gs_kd tk (q + gp_n tk q) = 1) (h2 : gs_kd tk (q + gp_n tk q + 1) = 0) : gp_cl tk rec q c pa = .inr (q + gp_n tk q + 2, [(q, gp_n tk q, ((q + gp_n tk q + 1 : Nat) : Int), pa, c + 1)]) := by
  unfold gp_cl
  rw [if_neg h, if_neg (fun x => x h1), if_pos h2]
theorem gp_cl_4 {tk : List gs_T} {rec : Nat → Nat → Int → gs_R} {q c : Nat} {pa : Int} (h : gp_n tk q ≠ 0) (h1 : gs_kd tk (q + gp_n tk q) = 1) (h2 : gs_kd tk (q + gp_n tk q + 1) ≠ 0) (h3 : gs_kd tk (q + gp_n tk q + 1) ≠ 2) : gp_cl tk rec q c pa = .inr (q + gp_n tk q + 1, [(q, gp_n tk q, -1, pa, c + 1)]) := by
  unfold gp_cl
  rw [if_neg h, if_neg (fun x => x h1), if_neg h2, if_neg h3]
theorem gp_cl_3i {tk : List gs_T} {rec : Nat → Nat → Int → gs_R} {q c i : Nat} {pa : Int} (h : gp_n tk q ≠ 0) (h1 : gs_kd tk (q + gp_n tk q) = 1) (h2 : gs_kd tk (q + gp_n tk q + 1) = 2) (h3 : rec (q + gp_n tk q + 2) (c + 1) c = .inl i) : gp_cl tk rec q c pa = .inl i := by
  unfold gp_cl
  rw [if_neg h, if_neg (fun x => x h1), if_neg (by omega), if_pos h2, h3]
theorem gp_cl_3 {tk : List gs_T} {rec : Nat → Nat → Int → gs_R} {q c : Nat} {x : Nat × List gs_K} {pa : Int} (h : gp_n tk q ≠ 0) (h1 : gs_kd tk (q + gp_n tk q) = 1) (h2 : gs_kd tk (q + gp_n tk q + 1) = 2) (h3 : rec (q + gp_n tk q + 2) (c + 1) c = .inr x) : gp_cl tk rec q c pa = if gs_kd tk x.1 = 3 then .inr (x.1 + 1, (q, gp_n tk q, -1, pa, c + 1 + x.2.length) :: x.2) else .inl x.1 := by
  unfold gp_cl
  rw [if_neg h, if_neg (fun x => x h1), if_neg (by omega), if_pos h2, h3]
theorem gp_cl_n {tk : List gs_T} {rec : Nat → Nat → Int → gs_R} {q c : Nat} {pa : Int} (hq : q ≤ tk.length) (hr : ∀ q' c' pa', q' ≤ tk.length → q' ≤ (rec q' c' pa').e ∧ (rec q' c' pa').e ≤ tk.length) : q + gp_n tk q ≤ (gp_cl tk rec q c pa).e := by
  by_cases h : gp_n tk q = 0
  · rw [gp_cl_0 h, h]
    exact Nat.le_refl _
  by_cases h1 : gs_kd tk (q + gp_n tk q) = 1
  · have g1 := gs_kd_lt h1 (by omega)
    by_cases h2 : gs_kd tk (q + gp_n tk q + 1) = 0
    · rw [gp_cl_2 h h1 h2]
      simp only [gs_R.e]
      omega
    by_cases h3 : gs_kd tk (q + gp_n tk q + 1) = 2
    · have g2 := gs_kd_lt h3 (by omega)
      have g3 := hr (q + gp_n tk q + 2) (c + 1) c (by omega)
      cases h4 : rec (q + gp_n tk q + 2) (c + 1) c with
      | inl i =>
        rw [gp_cl_3i h h1 h3 h4]
        rw [h4] at g3
        simp only [gs_R.e] at g3 ⊢
        omega
      | inr x =>
        rw [gp_cl_3 h h1 h3 h4]
        rw [h4] at g3
        simp only [gs_R.e] at g3
        split <;> simp only [gs_R.e] <;> omega
    · rw [gp_cl_4 h h1 h2 h3]
      simp only [gs_R.e]
      omega
  · rw [gp_cl_1 h h1]
    exact Nat.le_refl _
def gx_po (D : gx_D) (T : gx_H) (R9 : gs_R) (s9 tl top li edi capi c9 : Nat) (xs : List Nat) (pa : Int) (po : Option Nat) (nx : Nat) : Option Value → gx_H → Nat → Prop := fun w G' nx' => ∃ x, R9 = .inr x ∧ w = none ∧ G' s9 (gx_sO tl top x.1 (c9 + x.2.length)) ∧ ∃ (ad su ne : Nat → Nat) (ed' cap' : Nat), gx_CR D T (fun a e => G' a e ∧ nx ≤ a ∧ a ≠ ed') ad su ne c9 x.2 pa po li ∧ gx_GL D T G' li ed' cap' (xs ++ (gp_tops x.2 c9 pa).map ad) ∧ (ed' = edi ∧ 0 < capi ∨ nx ≤ ed') ∧ 0 < cap'
def gx_px (R9 : gs_R) (nx : Nat) : String → Nat → gx_H → Nat → Prop := fun E q G' _ => ∃ i : Nat, R9 = .inl i ∧ E = RX10 ∧ nx ≤ q ∧ G' q (gx_xX10 (i : Int))
def gx_pM (s9 li edi capi : Nat) : Nat → Prop := fun x => x = s9 ∨ x = li ∨ (x = edi ∧ 0 < capi)
def gx_ph (D : gx_D) (T G Y : gx_H) (s9 tl edt top li edi capi q9 c9 : Nat) (xs : List Nat) (pa : Int) (tk : List gs_T) : Prop := G s9 (gx_sO tl top q9 c9) ∧ gx_tl D T Y tl edt tk ∧ (∀ x t, Y x (gx_tok t) → T x (gx_tok t)) ∧ gx_kn D T ∧ gx_GL D T G li edi capi xs ∧ 3 * xs.length ≤ q9 ∧ q9 ≤ tk.length ∧ (∀ x ∈ xs, (∃ fs, G x (gx_O 8 fs)) ∧ x ≠ li ∧ x ≠ s9 ∧ x ≠ edi) ∧ (s9 ≠ li ∧ s9 ≠ edi) ∧ pa < (c9 : Int)
def gx_parseAt (f : Nat) : Prop := ∀ (l : Launch) (D : gx_D) (T G Y : gx_H) (nx s9 tl edt top li edi capi q9 c9 : Nat) (xs : List Nat) (pa : Int) (po : Option Nat) (tk : List gs_T), gx_ph D T G Y s9 tl edt top li edi capi q9 c9 xs pa tk → tk.length - q9 + 1 ≤ f →
  gx_Met l yX8_parse (ws_ yX8_parse cX8_parse 3 none) (20 + 2 * f) (6 * ((gp_pa tk f q9 c9 pa).e - q9) + 6) (90 * ((gp_pa tk f q9 c9 pa).e - q9) + 90) D (gx_pM s9 li edi capi) T G nx [.ref s9, .ref li, va_rf po] (gx_po D T (gp_pa tk f q9 c9 pa) s9 tl top li edi capi c9 xs pa po nx) (gx_px (gp_pa tk f q9 c9 pa) nx)
theorem gx_boxes_s {D : gx_D} {a j : Nat} : (List.range (j + 1)).map (fun j : Nat => gx_bx D ((a : Int) + (j : Int))) = (List.range j).map (fun j : Nat => gx_bx D ((a : Int) + (j : Int))) ++ [gx_bx D ((a : Int) + (j : Int))] := by
  rw [List.range_succ, List.map_append]
  rfl
section PAR
variable {l : Launch} {D : gx_D} {T G Y : gx_H} {nx s9 tl edt top li edi capi q9 c9 : Nat} {xs : List Nat} {pa : Int} {po : Option Nat} {tk : List gs_T} {f9 : Nat}
theorem m_X8_parseClause (IH : gx_parseAt f9) (h : gx_ph D T G Y s9 tl edt top li edi capi q9 c9 xs pa tk) (hf9 : tk.length - q9 ≤ f9 + 1) : gx_Met l yX8_parseClause (ws_ yX8_parseClause cX8_parseClause 5 none) (21 + 2 * f9) (6 * ((gp_cl tk (gp_pa tk f9) q9 c9 pa).e - q9) + 6) (90 * ((gp_cl tk (gp_pa tk f9) q9 c9 pa).e - q9) + 90) D (gx_pM s9 li edi capi) T G nx [.ref s9, .ref li, va_rf po] (gx_po D T (gp_cl tk (gp_pa tk f9) q9 c9 pa) s9 tl top li edi capi c9 xs pa po nx) (gx_px (gp_cl tk (gp_pa tk f9) q9 c9 pa) nx) := by
  obtain ⟨hs, htl, hYT, hkn, hli, h3, hq, hxs, hne, hpa⟩ := h
  have hge := gp_cl_n (c := c9) (pa := pa) hq (gp_pa_e (tk := tk) f9)
  have hge2 := (gp_cl_e (c := c9) (pa := pa) hq (gp_pa_e (tk := tk) f9)).2.1
  obtain ⟨R9, hR9⟩ : ∃ R9, gp_cl tk (gp_pa tk f9) q9 c9 pa = R9 := ⟨_, rfl⟩
  rw [hR9] at hge hge2 ⊢
  obtain ⟨d9, hd9⟩ : ∃ d9, R9.e - q9 = d9 := ⟨_, rfl⟩
  rw [hd9]
  have hl24 := htl.2.1
  have hnk := gp_n_k (tk := tk) (q := q9)
  have hnl := gp_n_le tk q9 hq
  have hR0 : gp_n tk q9 = 0 → R9 = .inl q9 := fun h => by rw [← hR9]; exact gp_cl_0 h
  have hR1 : gp_n tk q9 ≠ 0 → gs_kd tk (q9 + gp_n tk q9) ≠ 1 → R9 = .inl (q9 + gp_n tk q9) := fun h h1 => by rw [← hR9]; exact gp_cl_1 h h1
  have hR2 : gp_n tk q9 ≠ 0 → gs_kd tk (q9 + gp_n tk q9) = 1 → gs_kd tk (q9 + gp_n tk q9 + 1) = 0 → R9 = .inr (q9 + gp_n tk q9 + 2, [(q9, gp_n tk q9, ((q9 + gp_n tk q9 + 1 : Nat) : Int), pa, c9 + 1)]) := fun h h1 h2 => by rw [← hR9]; exact gp_cl_2 h h1 h2
  have hR4 : gp_n tk q9 ≠ 0 → gs_kd tk (q9 + gp_n tk q9) = 1 → gs_kd tk (q9 + gp_n tk q9 + 1) ≠ 0 → gs_kd tk (q9 + gp_n tk q9 + 1) ≠ 2 → R9 = .inr (q9 + gp_n tk q9 + 1, [(q9, gp_n tk q9, -1, pa, c9 + 1)]) := fun h h1 h2 h3 => by rw [← hR9]; exact gp_cl_4 h h1 h2 h3
  have hR3i : ∀ i, gp_n tk q9 ≠ 0 → gs_kd tk (q9 + gp_n tk q9) = 1 → gs_kd tk (q9 + gp_n tk q9 + 1) = 2 → gp_pa tk f9 (q9 + gp_n tk q9 + 2) (c9 + 1) c9 = .inl i → R9 = .inl i := fun i h h1 h2 h3 => by rw [← hR9]; exact gp_cl_3i h h1 h2 h3
  have hR3 : ∀ x, gp_n tk q9 ≠ 0 → gs_kd tk (q9 + gp_n tk q9) = 1 → gs_kd tk (q9 + gp_n tk q9 + 1) = 2 → gp_pa tk f9 (q9 + gp_n tk q9 + 2) (c9 + 1) c9 = .inr x → R9 = if gs_kd tk x.1 = 3 then .inr (x.1 + 1, (q9, gp_n tk q9, -1, pa, c9 + 1 + x.2.length) :: x.2) else .inl x.1 := fun x h h1 h2 h3 => by rw [← hR9]; exact gp_cl_3 h h1 h2 h3
  obtain ⟨n9, hn9⟩ : ∃ n9, gp_n tk q9 = n9 := ⟨_, rfl⟩
  rw [hn9] at hge hnk hnl hR0 hR1 hR2 hR4
  simp only [hn9] at hR3i hR3
  refine gx_start (by decide) (by cases po <;> exact Nat.le_of_ble_eq_true rfl) (L0 := [(0, some (.ref s9)), (1, some (.ref li)), (2, some (va_rf po))]) (by cases po <;> rfl) (fun p e s m args below meth c hC hlt => ?_)
  have htl' : ∀ Z, gx_tl D (gx_TG T Z) Y tl edt tk := fun Z => ⟨⟨_, _, htl.1.choose_spec.choose_spec.1.mono (fun _ => Or.inl) (fun _ => Or.inl), htl.1.choose_spec.choose_spec.2⟩, htl.2⟩
  have hY' : ∀ Z, gx_yok T Z gx_M0 Y := fun Z x t h => ⟨Or.inl (hYT x t h), fun q => q⟩
  obtain ⟨fE, hE⟩ := hkn.2.2.2
  have hEA := hC.TA _ _ hE
  have hE1 : D.2.2 1 < nx := hC.tl hlt (Or.inl hE)
  have hEs : D.2.2 1 ≠ s9 := fun q => hEA (Or.inl (Or.inl q))
  have hEl : D.2.2 1 ≠ li := fun q => hEA (Or.inl (Or.inr (Or.inl q)))
  have hsx := hlt _ _ hs
  have hlx := hlt _ _ hli.1.choose_spec
  have hex : edi < nx := by
    rcases hli.2.1 with q | ⟨-, f, q, -⟩
    · rw [q.2.1]; exact hE1
    · exact hlt _ _ q
  have hsA : gx_A (gx_pM s9 li edi capi) nx s9 := Or.inl (Or.inl rfl)
  have hxsx : ∀ x ∈ xs, x < nx := fun x hx => by obtain ⟨⟨fs, h9⟩, -⟩ := hxs x hx; exact hlt _ _ h9
  refine gx_bud (bc' := (6 * d9 + 5) + 1) (bs' := (90 * d9 + 82) + 8) (by omega) (by omega) ?_
  refine gx_new hC (C := RX9) (Tf := TX9) (N := 8) (ci := 8) (fs := fdX9) rfl in_X9 tyX9 tyX9_ok q1036 q1102 q110 dvX9 dX8_parseClause_0 ?_
  refine gx_dup hC dX8_parseClause_3 (by first | rfl | exact gx_cat_rf _ | exact gx_cat_rn _) ?_
  refine gx_aload_n hC dX8_parseClause_4 rfl rfl (by first | rfl | exact gx_isr_rf _ | exact gx_isr_rn _) ?_
  refine gx_get hC (C := RX8) (Tf := TX8) (N := 4) (ci := 7) (k := 3) rfl in_X8 (by decide) q1257 (fun _ h9 => h9) dX8_parseClause_5 (by repeat (first | assumption | exact Or.inr gx_us | exact Or.inr (by assumption) | exact Or.inl (by assumption) | refine gx_tu (by omega) ?_)) rfl ?_
  refine gx_aload_n hC dX8_parseClause_8 rfl rfl (by first | rfl | exact gx_isr_rf _ | exact gx_isr_rn _) ?_
  refine gx_aload_n hC dX8_parseClause_9 rfl rfl (by first | rfl | exact gx_isr_rf _ | exact gx_isr_rn _) ?_
  refine gx_aload_n hC dX8_parseClause_10 rfl rfl (by first | rfl | exact gx_isr_rf _ | exact gx_isr_rn _) ?_
  refine gx_get hC (C := RX8) (Tf := TX8) (N := 4) (ci := 7) (k := 2) rfl in_X8 (by decide) q1256 (fun _ h9 => h9) dX8_parseClause_11 (by repeat (first | assumption | exact Or.inr gx_us | exact Or.inr (by assumption) | exact Or.inl (by assumption) | refine gx_tu (by omega) ?_)) rfl ?_
  refine gx_bud (bc' := (6 * d9 + 3) + _) (bs' := (90 * d9 + 76) + _) (by omega) (by omega) (gx_callI (nA := 4) hC (m_X9_init (num := (c9 : Int)) (po := po) (sib := li) (st := (q9 : Int)) gx_us rfl ⟨fE, hE⟩ (by omega)) (lw_meth q1105) q110 q1103 q1104 rfl (by decide +kernel) dX8_parseClause_14 rfl ⟨by show 8 + 1 ≤ 21 + 2 * f9; omega, by show 8 + (5 + 11) + (100 * 8 + 100) ≤ 100 * (21 + 2 * f9) + 100; omega⟩ (gx_in.id hC (fun q hq => Or.inr (by omega))) rfl (by first | exact Nat.le_of_ble_eq_true rfl | simp [gx_cat_rf, Value.category]) gx_kno (fun v2 G2 nx2 hp hf hle hlt2 => ?_))
  obtain ⟨rfl, rfl, k1, k2, k3⟩ := hp
  have kG : gx_le G G2 := fun x e9 hx => hf _ _ (gx_un (by have := hlt _ _ hx; omega) hx) (by have := hlt _ _ hx; omega)
  have ks := kG _ _ hs
  refine gx_astore_n hC dX8_parseClause_17 rfl (by decide) (by first | rfl | (cases ‹Option Nat› <;> rfl) | simp [gx_ck, gx_lk, gx_cat_rf, gx_cat_rn]) (by first | rfl | exact gx_isr_rf _ | exact gx_isr_rn _) ?_
  refine gx_aload_n hC dX8_parseClause_18 rfl rfl (by first | rfl | exact gx_isr_rf _ | exact gx_isr_rn _) ?_
  refine gx_dup hC dX8_parseClause_19 (by first | rfl | exact gx_cat_rf _ | exact gx_cat_rn _) ?_
  refine gx_get hC (C := RX8) (Tf := TX8) (N := 4) (ci := 7) (k := 3) rfl in_X8 (by decide) q1257 (fun _ h9 => h9) dX8_parseClause_20 (by repeat (first | assumption | exact Or.inr gx_us | exact Or.inr (by assumption) | exact Or.inl (by assumption) | refine gx_tu (by omega) ?_)) rfl ?_
  refine gx_iconst hC dX8_parseClause_23 ?_
  refine gx_iadd hC dX8_parseClause_24 ?_
  refine gx_put hC (C := RX8) (Tf := TX8) (N := 4) (ci := 7) (k := 3) rfl in_X8 (by decide) tyX8 tyX8_ok nmX8 q1257 (fun _ h9 => h9) rfl dX8_parseClause_25 (by first | exact gx_us | assumption | (repeat (first | exact gx_us | assumption | refine gx_un (by omega) ?_))) (by first | exact Or.inl rfl | exact Or.inl (Or.inl rfl) | exact Or.inl (Or.inr rfl) | exact Or.inr (by omega) | assumption | (simp only [gx_A, *]; omega)) (Nat.le_of_ble_eq_true rfl) (by first | rfl | (unfold gx_rn; split <;> rfl) | (cases ‹Option Nat› <;> rfl) | simp [narrow]) (by first | rfl | (unfold gx_rn; split <;> rfl) | (cases ‹Option Nat› <;> rfl) | simp [fits]) ?_
  refine gx_aload_n hC dX8_parseClause_28 rfl rfl (by first | rfl | exact gx_isr_rf _ | exact gx_isr_rn _) ?_
  refine gx_aload_n hC dX8_parseClause_29 rfl rfl (by first | rfl | exact gx_isr_rf _ | exact gx_isr_rn _) ?_
  -- the clause joins the list
  have hli2 : gx_GL D T (gx_up G2 s9 (gx_sO tl top q9 (c9 + 1))) li edi capi xs := hli.mono (fun e9 h9 => gx_un (fun q => hne.1 q.symm) (kG _ _ h9)) (fun e9 _ h9 => gx_un (fun q => hne.2 q.symm) (kG _ _ h9)) (fun _ _ h => h)
  have k1' := gx_un (a := s9) (e := gx_sO tl top q9 (c9 + 1)) (show nx ≠ s9 by omega) k1
  have hob : gx_ob (gx_TG T (gx_up G2 s9 (gx_sO tl top q9 (c9 + 1)))) nx := ⟨8, _, _, _, _, rfl, Or.inr k1', q3058⟩
  have hel : ∀ x ∈ xs, gx_ob (gx_TG T (gx_up G2 s9 (gx_sO tl top q9 (c9 + 1)))) x := fun x hx => by
    obtain ⟨⟨fs, h9⟩, h8, h7, h6⟩ := hxs x hx
    exact ⟨8, _, _, _, _, rfl, Or.inr (gx_un h7 (kG _ _ h9)), q3058⟩
  have hcap : capi ≤ 30 ∨ xs.length < capi := by
    have := hli.2.2.2.1
    omega
  obtain ⟨mcl, hlal⟩ := hli2.al
  refine gx_eqG (G' := gx_up G2 s9 (gx_sO tl top q9 (c9 + 1))) rfl ?_
  refine gx_bud (bc' := (6 * d9 + 2) + _) (bs' := (90 * d9 + 16) + _) (by omega) (by omega) (gx_callF (nA := 1) hC (m_GL_add hli2 (by omega) hcap hel (fun q => (hxs li q).2.1 rfl) (by omega) hob (by omega)) (C := RJ2) (Tf := TJ2) (Nf := 3) (ci := 19) rfl (by first | ((repeat (first | assumption | exact Or.inr gx_us | exact Or.inr (by assumption) | exact Or.inl (by assumption) | refine gx_tu (by omega) ?_)); done) | exact gx_AL.rc (by assumption) | exact gx_AL.rg (by assumption) | exact gx_AL.rt (by assumption) | exact gx_DQ.rc (by assumption) | exact gx_DQ.rg (by assumption) | exact gx_SB.rc (by assumption) | exact gx_SB.rg (by assumption) | exact gx_Sx.rc (by assumption) | exact gx_Sx.rg (by assumption) | exact gx_IT.rc (by assumption) | exact gx_IT.rg (by assumption) | exact gx_gt.rc (by assumption) | exact gx_gt.rg (by assumption) | exact gx_lx.rc (by assumption) | exact gx_lx.rg (by assumption) | exact gx_sst.rc (by assumption) | exact gx_sst.rg (by assumption)) (lw_app (List.forall_mem_cons.mpr ⟨q1150, (List.forall_mem_cons.mpr ⟨q1153, (List.forall_mem_cons.mpr ⟨q564, (List.forall_mem_cons.mpr ⟨q81, (fun _ h9 => absurd h9 List.not_mem_nil)⟩)⟩)⟩)⟩) (lw_meth q566)) q1152 q1151 q1155 q1154 q990 (by decide +kernel) dX8_parseClause_30 rfl ⟨by show 12 + 1 ≤ 21 + 2 * f9; omega, by show 8 + (2 + 11) + (100 * 12 + 100) ≤ 100 * (21 + 2 * f9) + 100; omega⟩ (gx_in.id hC (fun q hq => Or.inl (Or.inr hq))) rfl (by first | exact Nat.le_of_ble_eq_true rfl | simp [gx_cat_rf, Value.category]) gx_kno (fun v3 G3 nx3 hp hf3 hle3 hlt3 => ?_))
  obtain ⟨rfl, hx3, ede, cape, g1, g2, g3, g4⟩ := hp
  have hede : ede < nx3 := by
    rcases g4.2.1 with q | ⟨-, f, q, -⟩
    · omega
    · exact hlt3 _ _ q
  have hedn : ede ≠ nx ∧ ede ≠ nx + 1 ∧ ede ≠ nx + 2 ∧ ede ≠ s9 := by
    rcases g2 with ⟨q, -⟩ | q
    · exact ⟨by omega, by omega, by omega, fun z => hne.2 (by omega)⟩
    · exact ⟨by omega, by omega, by omega, by omega⟩
  have m1 : G3 s9 (gx_sO tl top q9 (c9 + 1)) := hf3 _ _ gx_us (by omega)
  have m2 := hf3 _ _ k1' (by omega)
  have m3 : gx_GL D T G3 (nx + 1) (D.2.2 1) 0 [] := k2.mono (fun e9 h9 => hf3 _ _ (gx_un (by omega) h9) (by omega)) (fun e9 h9 _ => absurd h9 (Nat.lt_irrefl 0)) (fun _ _ h => h)
  have m4 : gx_GL D T G3 (nx + 1 + 1) (D.2.2 1) 0 [] := k3.mono (fun e9 h9 => hf3 _ _ (gx_un (by omega) h9) (by omega)) (fun e9 h9 _ => absurd h9 (Nat.lt_irrefl 0)) (fun _ _ h => h)
  refine gx_pop hC dX8_parseClause_35 (by first | rfl | exact gx_cat_rf _ | exact gx_cat_rn _) ?_
  refine gx_loc (M := [(3, some (.ref nx)), (0, some (.ref s9)), (1, some (.ref li)), (2, some (va_rf po))]) (by repeat (first | exact trivial | refine ⟨rfl, ?_⟩)) ?_
  refine gx_loop (σ := Nat × Nat × Nat × Nat × Nat × Nat × gx_H) (fun z => (z.1 = 0 ∨ z.1 < n9) ∧ z.2.2.2.2.1 + 2 * z.1 = 6 * d9 + 2 ∧ z.2.2.2.2.2.1 + 67 * z.1 = 90 * d9 + 16 ∧ nx3 ≤ z.2.2.2.1 ∧ z.2.2.2.2.2.2 s9 (gx_sO tl top (q9 + z.1) (c9 + 1)) ∧ z.2.2.2.2.2.2 nx (gx_O 8 [.int (iz (c9 : Int)), va_rf po, .ref li, .int (iz (q9 : Int)), .ref (nx + 1), .ref (nx + 1 + 1), .int (iz (-1)), .int (iz (-1))]) ∧ gx_GL D T z.2.2.2.2.2.2 li ede cape (xs ++ [nx]) ∧ gx_GL D T z.2.2.2.2.2.2 (nx + 1) z.2.1 z.2.2.1 ((List.range z.1).map (fun j : Nat => gx_bx D ((q9 : Int) + (j : Int)))) ∧ gx_GL D T z.2.2.2.2.2.2 (nx + 1 + 1) (D.2.2 1) 0 [] ∧ (z.2.2.1 = 0 ∨ nx3 ≤ z.2.1) ∧ z.2.1 < z.2.2.2.1) (fun z => n9 - z.1) (fun z => z.2.2.2.2.2.2) (fun z => z.2.2.2.1) (fun z => z.2.2.2.2.1) (fun z => z.2.2.2.2.2.1) (fun _ => [(3, some (.ref nx)), (0, some (.ref s9)), (1, some (.ref li)), (2, some (va_rf po))]) (0, D.2.2 1, 0, nx3, 6 * d9 + 2, 90 * d9 + 16, G3) ⟨Or.inl rfl, rfl, rfl, Nat.le_refl _, m1, m2, g4, m3, m4, Or.inl rfl, Nat.lt_of_lt_of_le hE1 (show nx ≤ nx3 by omega)⟩ ?_
  rintro ⟨j, eds, caps, nj, b1, u1, Gj⟩ ⟨i1, i2, i3, i4, i5, i6, i7, i8, i9, ia, ib⟩ ih
  dsimp only at i1 i2 i3 i4 i5 i6 i7 i8 i9 ia ib ⊢
  refine gx_lt (fun hltj => ?_)
  refine gx_aload_n hC dX8_parseClause_36 rfl rfl (by first | rfl | exact gx_isr_rf _ | exact gx_isr_rn _) ?_
  refine gx_getN hC (C := RX9) (Tf := TX9) (N := 8) (ci := 8) (k := 4) rfl in_X9 (by decide) q1120 (fun _ h9 => h9) dX8_parseClause_37 (by repeat (first | assumption | exact Or.inr gx_us | exact Or.inr (by assumption) | exact Or.inl (by assumption) | refine gx_tu (by omega) ?_)) rfl ?_
  refine gx_aload_n hC dX8_parseClause_40 rfl rfl (by first | rfl | exact gx_isr_rf _ | exact gx_isr_rn _) ?_
  refine gx_iconst hC dX8_parseClause_41 ?_
  by_cases hk : gs_kd tk (q9 + j) = 0
  · have hjn : j < n9 := by
      rcases i1 with q | q
      · subst q
        rcases Nat.eq_zero_or_pos n9 with z | z
        · rw [z] at hnk
          exact absurd hk hnk.2
        · exact z
      · exact q
    have hjl := gs_kd_lt hk (by omega)
    obtain ⟨b2, hb2⟩ : ∃ b2, b2 + 2 * (j + 1) = 6 * d9 + 2 := ⟨6 * d9 + 2 - 2 * (j + 1), by omega⟩
    obtain ⟨u2, hu2⟩ : ∃ u2, u2 + 67 * (j + 1) = 90 * d9 + 16 := ⟨90 * d9 + 16 - 67 * (j + 1), by omega⟩
    sorry
  · sorry
end PAR

