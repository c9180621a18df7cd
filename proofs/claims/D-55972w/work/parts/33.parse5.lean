/-! parse -/
set_option maxRecDepth 100000
theorem gp_cl_tops {tk : List gs_T} {rec : Nat → Nat → Int → gs_R} {q c : Nat} {pa : Int} (hr : ∀ q c x, rec q (c + 1) c = .inr x → gp_ok x.2 (c + 1) (c : Int)) (hpa : pa < (c : Int)) {x : Nat × List gs_K} (h : gp_cl tk rec q c pa = .inr x) : gp_tops x.2 c pa = [c] := by
  have e0 : ∀ (K : gs_K) (Ls : List gs_K), K.pa = pa → gp_ok Ls (c + 1) (c : Int) → gp_tops (K :: Ls) c pa = [c] := fun K Ls hK hL => by
    rw [gp_tops_c, if_pos hK, gp_tops_nil (fun K hK => by have := hL.mem K hK; omega)]
  unfold gp_cl at h
  split at h
  · cases h
  split at h
  · cases h
  split at h
  · cases h
    exact e0 _ _ rfl gp_ok.nil
  split at h
  · split at h
    · cases h
    · rename_i y hy
      split at h
      · cases h
        exact e0 _ _ rfl (hr _ _ _ hy)
      · cases h
  · cases h
    exact e0 _ _ rfl gp_ok.nil
theorem gp_rec_ok {tk : List gs_T} {f : Nat} : ∀ q c x, gp_pa tk f q (c + 1) c = .inr x → gp_ok x.2 (c + 1) (c : Int) := fun q c x hx => (gp_pa_ok f q (c + 1) c x (by omega) hx).1
/-- what follows a clause that ends in front of r -/
def gp_go (tk : List gs_T) (k r c : Nat) (pa : Int) (Ks : List gs_K) : gs_R :=
  if gs_kd tk r = 4 then
    match gp_pa tk k (r + 1) (c + Ks.length) pa with
    | .inl i => .inl i
    | .inr y => .inr (y.1, Ks ++ y.2)
  else .inr (r, Ks)
theorem gp_pa_go {tk : List gs_T} {f q c : Nat} {pa : Int} {x : Nat × List gs_K} (h : gp_cl tk (gp_pa tk f) q c pa = .inr x) : gp_pa tk (f + 1) q c pa = gp_go tk f x.1 c pa x.2 := by
  unfold gp_pa gp_go
  rw [h]
  rfl
theorem gp_pa_i {tk : List gs_T} {f q c i : Nat} {pa : Int} (h : gp_cl tk (gp_pa tk f) q c pa = .inl i) : gp_pa tk (f + 1) q c pa = .inl i := by
  unfold gp_pa
  rw [h]
theorem gp_go_s {tk : List gs_T} {k r c : Nat} {pa : Int} {Ks : List gs_K} {x : Nat × List gs_K} (h4 : gs_kd tk r = 4) (h : gp_cl tk (gp_pa tk k) (r + 1) (c + Ks.length) pa = .inr x) : gp_go tk (k + 1) r c pa Ks = gp_go tk k x.1 c pa (Ks ++ x.2) := by
  have e1 : c + Ks.length + x.2.length = c + (Ks ++ x.2).length := by
    rw [List.length_append]
    omega
  have e0 : gp_go tk (k + 1) r c pa Ks = match gp_go tk k x.1 (c + Ks.length) pa x.2 with
      | .inl i => .inl i
      | .inr y => .inr (y.1, Ks ++ y.2) := by
    rw [← gp_pa_go h]
    exact if_pos h4
  rw [e0]
  unfold gp_go
  rw [e1]
  by_cases h5 : gs_kd tk x.1 = 4
  · rw [if_pos h5, if_pos h5]
    cases gp_pa tk k (x.1 + 1) (c + (Ks ++ x.2).length) pa with
    | inl i => rfl
    | inr y => simp only [List.append_assoc]
  · rw [if_neg h5, if_neg h5]
theorem gp_go_i {tk : List gs_T} {k r c i : Nat} {pa : Int} {Ks : List gs_K} (h4 : gs_kd tk r = 4) (h : gp_cl tk (gp_pa tk k) (r + 1) (c + Ks.length) pa = .inl i) : gp_go tk (k + 1) r c pa Ks = .inl i := by
  unfold gp_go
  rw [if_pos h4, gp_pa_i h]
theorem gp_go_e {tk : List gs_T} {k r c : Nat} {pa : Int} {Ks : List gs_K} (hr : r ≤ tk.length) : r ≤ (gp_go tk k r c pa Ks).e := by
  unfold gp_go
  split
  · rename_i h4
    have h5 := gs_kd_lt h4 (by omega)
    have h6 := gp_pa_e (tk := tk) k (r + 1) (c + Ks.length) pa (by omega)
    split
    · rename_i i hi
      rw [hi] at h6
      simp only [gs_R.e] at h6 ⊢
      omega
    · rename_i y hy
      rw [hy] at h6
      simp only [gs_R.e] at h6 ⊢
      omega
  · exact Nat.le_refl _
theorem gx_CR.ob {D : gx_D} {T X : gx_H} {ad su ne : Nat → Nat} {c : Nat} {Ks : List gs_K} {pa : Int} {po : Option Nat} {li : Nat} (h : gx_CR D T X ad su ne c Ks pa po li) {k : Nat} (hk : c ≤ k ∧ k < c + Ks.length) : ∃ fs, X (ad k) (gx_O 8 fs) := by
  have h1 := (h (k - c) (by omega)).1
  rw [show c + (k - c) = k by omega] at h1
  exact ⟨_, h1⟩
section PW
variable {p : Program} {l : Launch} {e : Env} {s : State} {m : MethodId} {args : Array Value} {below : List Frame} {meth : Method} {c : Code} {D : gx_D} {T Y : gx_H} {nx s9 tl edt top li edi capi c9 d9 f0 B9 S9 : Nat} {xs : List Nat} {pa : Int} {po : Option Nat} {tk : List gs_T} {R9 : gs_R}
theorem pp_loop (hC : gx_C p l s m args meth c D (gx_A (gx_pM s9 li edi capi) nx) T cX8_parse 3 none yX8_parse.cls yX8_parse.name []) (htl : gx_tl D T Y tl edt tk) (hYT : ∀ x t, Y x (gx_tok t) → T x (gx_tok t)) (hkn : gx_kn D T) (hpa : pa < (c9 : Int)) (a1 : s9 < nx) (a2 : li < nx) (a3 : s9 ≠ li) (a3' : s9 ≠ edi) (hxs0 : ∀ x ∈ xs, x < nx ∧ x ≠ li ∧ x ≠ s9 ∧ x ≠ edi) (k : Nat) :
    ∀ (G9 : gx_H) (r nj ede cape : Nat) (Ks : List gs_K) (ad su ne : Nat → Nat), (∀ j, j < k → gx_parseAt j) → k ≤ f0 → tk.length - r ≤ k → r ≤ tk.length → R9 = gp_go tk k r c9 pa Ks → G9 s9 (gx_sO tl top r (c9 + Ks.length)) → gx_CR D T (fun a e => G9 a e ∧ nx ≤ a ∧ a ≠ ede) ad su ne c9 Ks pa po li → gx_GL D T G9 li ede cape (xs ++ (gp_tops Ks c9 pa).map ad) → (ede = edi ∧ 0 < capi ∨ nx ≤ ede) → 0 < cape → gp_ok Ks c9 pa → (∀ x ∈ xs, ∃ fs, G9 x (gx_O 8 fs)) → 3 * (xs ++ (gp_tops Ks c9 pa).map ad).length ≤ r + 1 → nx ≤ nj → ede < nj →
    gx_X p l e (headSpec (ws_ yX8_parse cX8_parse 3 none) (gx_rm (20 + 2 * (f0 + 1)) B9 S9)).room s m args below meth c (gx_QQ below D (gx_A (gx_pM s9 li edi capi) nx) (gx_po D T R9 s9 tl top li edi capi c9 xs pa po nx) (gx_px R9 nx) args s B9 S9) D (gx_A (gx_pM s9 li edi capi) nx) G9 nj (6 * (R9.e - r)) (90 * (R9.e - r)) 6 [(0, some (.ref s9)), (1, some (.ref li)), (2, some (va_rf po))] [] := by
  have htl' : ∀ Z, gx_tl D (gx_TG T Z) Y tl edt tk := fun Z => ⟨⟨_, _, htl.1.choose_spec.choose_spec.1.mono (fun _ => Or.inl) (fun _ => Or.inl), htl.1.choose_spec.choose_spec.2⟩, htl.2⟩
  have hY' : ∀ Z, gx_yok T Z gx_M0 Y := fun Z x t h => ⟨Or.inl (hYT x t h), fun q => q⟩
  induction k with
  | zero =>
    intro G9 r nj ede cape Ks ad su ne hIH hk0 hf hr hR9 g1 g2 g3 g4 g5 g6 g7 g8 g9 ga
    have h4 : gs_kd tk r ≠ 4 := fun h => by have := gs_kd_lt h (by omega); omega
    have hR : R9 = .inr (r, Ks) := by rw [hR9]; unfold gp_go; rw [if_neg h4]
    have g1' : gx_TG T G9 s9 (gx_O 7 [.ref tl, .ref top, .int (iz ((r : Nat) : Int)), .int (iz ((c9 + Ks.length : Nat) : Int))]) := Or.inr g1
    refine gx_bud (bc' := 0) (bs' := 0) (by omega) (by omega) ?_
    refine gx_aload_n hC dX8_parse_6 rfl rfl (by first | rfl | exact gx_isr_rf _ | exact gx_isr_rn _) ?_
    refine gx_iconst hC dX8_parse_7 ?_
    refine gx_callV (nA := 1) hC (m_X8_isAt (k := 4) g1' (htl' G9) (hY' G9) hr (by omega)) (C := RX8) (Tf := TX8) (Nf := 4) (ci := 7) rfl (by first | ((repeat (first | assumption | exact Or.inr gx_us | exact Or.inr (by assumption) | exact Or.inl (by assumption) | refine gx_tu (by omega) ?_)); done) | exact gx_AL.rc (by assumption) | exact gx_AL.rg (by assumption) | exact gx_AL.rt (by assumption) | exact gx_DQ.rc (by assumption) | exact gx_DQ.rg (by assumption) | exact gx_SB.rc (by assumption) | exact gx_SB.rg (by assumption) | exact gx_Sx.rc (by assumption) | exact gx_Sx.rg (by assumption) | exact gx_IT.rc (by assumption) | exact gx_IT.rg (by assumption) | exact gx_gt.rc (by assumption) | exact gx_gt.rg (by assumption) | exact gx_lx.rc (by assumption) | exact gx_lx.rg (by assumption) | exact gx_sst.rc (by assumption) | exact gx_sst.rg (by assumption)) (lw_V q1190 q1192 qs13 q109 q1193) (by decide +kernel) dX8_parse_8 rfl ⟨by show 6 + 1 ≤ 20 + 2 * (f0 + 1); omega, by show 8 + (2 + 11) + (100 * 6 + 100) ≤ 100 * (20 + 2 * (f0 + 1)) + 100; omega⟩ gx_in.id0 rfl (by first | exact Nat.le_of_ble_eq_true rfl | simp [gx_cat_rf, Value.category]) gx_kno (gx_kp1 ?_)
    rw [gx_b0 h4]
    refine gx_if_eq hC dX8_parse_11 (tgt := 33) (by decide) (by unfold gx_rg; omega) (fun c11 => ?_) (fun c11 => ?_)
    · exact gx_vret hC rfl rfl rfl dX8_parse_33 (fun G' hG => ⟨_, hR, rfl, hG _ _ g1, ad, su, ne, ede, cape, g2.mono (fun a9 e9 h9 => ⟨hG _ _ h9.1, h9.2⟩) (fun _ _ h => h), g3.mono (fun e9 h9 => hG _ _ h9) (fun e9 _ h9 => hG _ _ h9) (fun _ _ h => h), g4, g5⟩)
    · exact absurd rfl c11
  | succ k ih =>
    intro G9 r nj ede cape Ks ad su ne hIH hk0 hf hr hR9 g1 g2 g3 g4 g5 g6 g7 g8 g9 ga
    have g1' : gx_TG T G9 s9 (gx_O 7 [.ref tl, .ref top, .int (iz ((r : Nat) : Int)), .int (iz ((c9 + Ks.length : Nat) : Int))]) := Or.inr g1
    obtain ⟨b0, hb0⟩ : ∃ b0, 6 * (R9.e - r) = b0 := ⟨_, rfl⟩
    obtain ⟨u0, hu0⟩ : ∃ u0, 90 * (R9.e - r) = u0 := ⟨_, rfl⟩
    rw [hb0, hu0]
    refine gx_aload_n hC dX8_parse_6 rfl rfl (by first | rfl | exact gx_isr_rf _ | exact gx_isr_rn _) ?_
    refine gx_iconst hC dX8_parse_7 ?_
    refine gx_callV (nA := 1) hC (m_X8_isAt (k := 4) g1' (htl' G9) (hY' G9) hr (by omega)) (C := RX8) (Tf := TX8) (Nf := 4) (ci := 7) rfl (by first | ((repeat (first | assumption | exact Or.inr gx_us | exact Or.inr (by assumption) | exact Or.inl (by assumption) | refine gx_tu (by omega) ?_)); done) | exact gx_AL.rc (by assumption) | exact gx_AL.rg (by assumption) | exact gx_AL.rt (by assumption) | exact gx_DQ.rc (by assumption) | exact gx_DQ.rg (by assumption) | exact gx_SB.rc (by assumption) | exact gx_SB.rg (by assumption) | exact gx_Sx.rc (by assumption) | exact gx_Sx.rg (by assumption) | exact gx_IT.rc (by assumption) | exact gx_IT.rg (by assumption) | exact gx_gt.rc (by assumption) | exact gx_gt.rg (by assumption) | exact gx_lx.rc (by assumption) | exact gx_lx.rg (by assumption) | exact gx_sst.rc (by assumption) | exact gx_sst.rg (by assumption)) (lw_V q1190 q1192 qs13 q109 q1193) (by decide +kernel) dX8_parse_8 rfl ⟨by show 6 + 1 ≤ 20 + 2 * (f0 + 1); omega, by show 8 + (2 + 11) + (100 * 6 + 100) ≤ 100 * (20 + 2 * (f0 + 1)) + 100; omega⟩ gx_in.id0 rfl (by first | exact Nat.le_of_ble_eq_true rfl | simp [gx_cat_rf, Value.category]) gx_kno (gx_kp1 ?_)
    by_cases h4 : gs_kd tk r = 4
    · rw [gx_b1 h4]
      refine gx_if_eq hC dX8_parse_11 (tgt := 33) (by decide) (by unfold gx_rg; omega) (fun c11 => ?_) (fun c11 => ?_)
      · omega
      · sorry
    · have hR : R9 = .inr (r, Ks) := by rw [hR9]; unfold gp_go; rw [if_neg h4]
      rw [gx_b0 h4]
      refine gx_if_eq hC dX8_parse_11 (tgt := 33) (by decide) (by unfold gx_rg; omega) (fun c11 => ?_) (fun c11 => ?_)
      · refine gx_bud (bc' := 0) (bs' := 0) (by omega) (by omega) ?_
        exact gx_vret hC rfl rfl rfl dX8_parse_33 (fun G' hG => ⟨_, hR, rfl, hG _ _ g1, ad, su, ne, ede, cape, g2.mono (fun a9 e9 h9 => ⟨hG _ _ h9.1, h9.2⟩) (fun _ _ h => h), g3.mono (fun e9 h9 => hG _ _ h9) (fun e9 _ h9 => hG _ _ h9) (fun _ _ h => h), g4, g5⟩)
      · exact absurd rfl c11
end PW

