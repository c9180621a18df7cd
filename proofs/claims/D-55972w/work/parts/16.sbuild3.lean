/-! StringBuilder: toString, charAt, setLength, making -/
set_option maxRecDepth 100000
section SBX
variable {l : Launch} {D : gx_D} {T G : gx_H} {nx : Nat} {a b v w cap : Nat} {cs ds : List Int}
theorem m_J13_checkLength {x y : Int} (h : x ≤ y) (hx : gx_rg x) (hy : gx_rg y) : gx_Met l yJ13_checkLength (ws_ yJ13_checkLength cJ13_checkLength 2 none) 1 0 0 D gx_M0 T G nx [.int (iz x), .int (iz y)] (gx_P none nx) gx_no := by
  refine gx_start (by decide) (Nat.le_of_ble_eq_true rfl) rfl (fun p e s m args below meth c hC hlt => ?_)
  refine gx_iload_n hC dJ13_checkLength_0 rfl rfl ?_
  refine gx_iload_n hC dJ13_checkLength_1 rfl rfl ?_
  refine gx_icmp_ge hC dJ13_checkLength_2 (tgt := 37) (by decide) hy hx (fun c2 => ?_) (fun c2 => ?_)
  · exact gx_vret hC rfl rfl rfl dJ13_checkLength_37 (fun G' hG => ⟨rfl, rfl⟩)
  · omega
theorem m_J13_copyOfRangeByte {n k : Nat} {f : Nat → Int} (h : gx_TG T G v (gx_I D 1 n f)) (hf : gx_by f) (hk : k ≤ n) (hn : n ≤ 302) (hv : v < nx) : gx_Met l yJ13_copyOfRangeByte (ws_ yJ13_copyOfRangeByte cJ13_copyOfRangeByte 5 (some (.array .byte))) 2 1 302 D gx_M0 T G nx [.ref v, .int (iz 0), .int (iz k)] (fun x G' nx' => x = some (.ref nx) ∧ nx' = nx + 1 ∧ ∃ g, G' nx (gx_I D 1 k g) ∧ (∀ j, j < k → g j = f j)) gx_no := by
  refine gx_start (by decide) (Nat.le_of_ble_eq_true rfl) rfl (fun p e s m args below meth c hC hlt => ?_)
  refine gx_iload_n hC dJ13_copyOfRangeByte_0 rfl rfl ?_
  refine gx_iload_n hC dJ13_copyOfRangeByte_1 rfl rfl ?_
  refine gx_callS (nA := 2) hC (m_J13_checkLength (x := 0) (y := k) (by omega) (by unfold gx_rg; omega) (by unfold gx_rg; omega)) (lw_S q449 q450 q92 q451) (by decide +kernel) dJ13_copyOfRangeByte_2 rfl ⟨Nat.le_of_ble_eq_true rfl, Nat.le_of_ble_eq_true rfl⟩ gx_in.id0 rfl (by first | exact Nat.le_of_ble_eq_true rfl | simp [gx_cat_rf, Value.category]) gx_kno (gx_kp0 ?_)
  refine gx_bud (bc' := 0 + 1) (bs' := (302 - k) + k) (by omega) (by omega) ?_
  refine gx_iload_n hC dJ13_copyOfRangeByte_5 rfl rfl ?_
  refine gx_iload_n hC dJ13_copyOfRangeByte_6 rfl rfl ?_
  refine gx_isub hC dJ13_copyOfRangeByte_7 ?_
  refine gx_istore_n hC dJ13_copyOfRangeByte_8 rfl (by decide) (by first | rfl | simp [gx_ck, gx_lk, gx_cat_rf]) ?_
  rw [show (k : Int) - 0 = k by omega]
  refine gx_iload_n hC dJ13_copyOfRangeByte_9 rfl rfl ?_
  refine gx_newa hC (atype := .byte) (t := 1) (ty := .byte) (N := k) (x := (k, .inl (fun _ => iz 0))) q269 rfl rfl rfl (fun _ => rfl) dJ13_copyOfRangeByte_10 (by first | rfl | omega) (by first | decide | omega) ?_
  refine gx_astore hC dJ13_copyOfRangeByte_12 (by decide) (by first | rfl | simp [gx_ck, gx_lk, gx_cat_rf]) (by first | rfl | exact gx_isr_rf _) ?_
  refine gx_aload_n hC dJ13_copyOfRangeByte_14 rfl rfl (by first | rfl | exact gx_isr_rf _) ?_
  refine gx_iload_n hC dJ13_copyOfRangeByte_15 rfl rfl ?_
  refine gx_aload hC dJ13_copyOfRangeByte_16 rfl (by first | rfl | exact gx_isr_rf _) ?_
  refine gx_iconst hC dJ13_copyOfRangeByte_18 ?_
  refine gx_aload_n hC dJ13_copyOfRangeByte_19 rfl rfl (by first | rfl | exact gx_isr_rf _) ?_
  refine gx_alen hC (t := 1) rfl dJ13_copyOfRangeByte_20 (by repeat (first | assumption | exact Or.inr gx_us | exact Or.inr (by assumption) | exact Or.inl (by assumption) | refine gx_tu (by omega) ?_)) ?_
  refine gx_iload_n hC dJ13_copyOfRangeByte_21 rfl rfl ?_
  refine gx_isub hC dJ13_copyOfRangeByte_22 ?_
  refine gx_iload_n hC dJ13_copyOfRangeByte_23 rfl rfl ?_
  refine gx_mmin hC q311 q312 q91 q313 dJ13_copyOfRangeByte_24 (by unfold gx_rg; omega) (by unfold gx_rg; omega) (Nat.le_of_ble_eq_true rfl) (Nat.le_of_ble_eq_true rfl) ?_
  have hel2 : ∀ i : Nat, i < (min ((n : Int) - 0) k).toNat → -128 ≤ f ((0 : Int).toNat + i) ∧ f ((0 : Int).toNat + i) < 128 := fun i hi => hf _
  refine gx_copyB hC q314 q316 q315 q93 dJ13_copyOfRangeByte_27 (by repeat (first | assumption | exact Or.inr gx_us | exact Or.inr (by assumption) | exact Or.inl (by assumption) | refine gx_tu (by omega) ?_)) (by first | exact gx_us | assumption | (repeat (first | exact gx_us | assumption | refine gx_un (by omega) ?_))) (by first | exact Or.inl rfl | exact Or.inl (Or.inl rfl) | exact Or.inl (Or.inr rfl) | exact Or.inr (by omega) | assumption | (simp only [gx_A, *]; omega)) (by omega) hel2 (Nat.le_of_ble_eq_true rfl) (by first | exact Nat.le_of_ble_eq_true rfl | decide) ?_
  refine gx_aload hC dJ13_copyOfRangeByte_30 rfl (by first | rfl | exact gx_isr_rf _) ?_
  exact gx_aret hC rfl rfl rfl (by first | exact Or.inl ⟨_, rfl⟩ | exact Or.inr ⟨_, rfl⟩) (by first | rfl | exact gx_isr_rf _) dJ13_copyOfRangeByte_32 (fun G' hG => ⟨rfl, rfl, _, hG _ _ gx_us, fun j hj => by unfold va_cpy; rw [if_pos (by omega)]; congr 1; omega⟩)
theorem m_J13_copyOfRange {n k : Nat} {f : Nat → Int} (h : G v (gx_I D 1 n f)) (hf : gx_by f) (hk : k ≤ n) (hn : n ≤ 302) : gx_Met l yJ13_copyOfRange (ws_ yJ13_copyOfRange cJ13_copyOfRange 3 (some (.array .byte))) 3 1 302 D gx_M0 T G nx [.ref v, .int (iz 0), .int (iz k)] (fun x G' nx' => x = some (.ref nx) ∧ nx' = nx + 1 ∧ ∃ g, G' nx (gx_I D 1 k g) ∧ (∀ j, j < k → g j = f j)) gx_no := by
  refine gx_start (by decide) (Nat.le_of_ble_eq_true rfl) rfl (fun p e s m args below meth c hC hlt => ?_)
  have hvx := hlt _ _ h
  refine gx_iload_n hC dJ13_copyOfRange_0 rfl rfl ?_
  refine gx_if_ne hC dJ13_copyOfRange_1 (tgt := 10) (by decide) (by unfold gx_rg; omega) (fun c1 => ?_) (fun c1 => ?_)
  · exact absurd rfl c1
  · refine gx_iload_n hC dJ13_copyOfRange_4 rfl rfl ?_
    refine gx_aload_n hC dJ13_copyOfRange_5 rfl rfl (by first | rfl | exact gx_isr_rf _) ?_
    refine gx_alen hC (t := 1) rfl dJ13_copyOfRange_6 (by repeat (first | assumption | exact Or.inr gx_us | exact Or.inr (by assumption) | exact Or.inl (by assumption) | refine gx_tu (by omega) ?_)) ?_
    refine gx_icmp_eq hC dJ13_copyOfRange_7 (tgt := 17) (by decide) (by unfold gx_rg; omega) (by unfold gx_rg; omega) (fun c7 => ?_) (fun c7 => ?_)
    · have e9 : k = n := by omega
      subst e9
      refine gx_bud (bc' := 0 + 1) (bs' := (302 - k) + k) (by omega) (by omega) ?_
      refine gx_aload_n hC dJ13_copyOfRange_17 rfl rfl (by first | rfl | exact gx_isr_rf _) ?_
      refine gx_clone hC q304 q305 q306 q307 q308 q309 dJ13_copyOfRange_18 (by first | exact gx_us | assumption | (repeat (first | exact gx_us | assumption | refine gx_un (by omega) ?_))) (fun j _ => hf j) (Nat.le_of_ble_eq_true rfl) (Nat.le_of_ble_eq_true rfl) ?_
      refine gx_castA hC q310 dJ13_copyOfRange_21 (by first | exact gx_us | assumption | (repeat (first | exact gx_us | assumption | refine gx_un (by omega) ?_))) ?_
      exact gx_aret hC rfl rfl rfl (by first | exact Or.inl ⟨_, rfl⟩ | exact Or.inr ⟨_, rfl⟩) (by first | rfl | exact gx_isr_rf _) dJ13_copyOfRange_24 (fun G' hG => ⟨rfl, rfl, _, hG _ _ gx_us, fun j hj => rfl⟩)
    · refine gx_aload_n hC dJ13_copyOfRange_10 rfl rfl (by first | rfl | exact gx_isr_rf _) ?_
      refine gx_iload_n hC dJ13_copyOfRange_11 rfl rfl ?_
      refine gx_iload_n hC dJ13_copyOfRange_12 rfl rfl ?_
      refine gx_callS (nA := 3) hC (m_J13_copyOfRangeByte (Or.inr h) hf hk hn hvx) (lw_S q446 q447 q92 q448) (by decide +kernel) dJ13_copyOfRange_13 rfl ⟨Nat.le_of_ble_eq_true rfl, Nat.le_of_ble_eq_true rfl⟩ gx_in.id0 rfl (by first | exact Nat.le_of_ble_eq_true rfl | simp [gx_cat_rf, Value.category]) gx_kno (fun v2 G2 nx2 hp hf2 hle hlt2 => ?_)
      obtain ⟨rfl, rfl, g, q1, q2⟩ := hp
      exact gx_aret hC rfl rfl rfl (by first | exact Or.inl ⟨_, rfl⟩ | exact Or.inr ⟨_, rfl⟩) (by first | rfl | exact gx_isr_rf _) dJ13_copyOfRange_16 (fun G' hG => ⟨rfl, rfl, g, hG _ _ q1, q2⟩)
theorem m_J9_init_2 (h : gx_SB D G a v cap cs) (hs : G b (gx_O 21 fdJ9)) (hb : b ≠ a ∧ b ≠ v) : gx_Met l yJ9_init_2 (ws_ yJ9_init_2 cJ9_init_2 5 none) 5 1 302 D (fun q => q = b) T G nx [.ref b, .ref a, .null] (fun x G' nx' => x = none ∧ nx' = nx + 1 ∧ gx_Sx D G' b nx cs) gx_no := by
  have h0 : gx_SB D (gx_TG T G) a v cap cs := h.mono (fun _ => Or.inr) (fun _ => Or.inr)
  obtain ⟨⟨ml, h1⟩, ⟨f, h2, h3, h8⟩, h4, h5, h6, h7⟩ := h
  refine gx_start (by decide) (Nat.le_of_ble_eq_true rfl) rfl (fun p e s m args below meth c hC hlt => ?_)
  have hbx := hlt _ _ hs
  have hvx := hlt _ _ h2
  refine gx_aload_n hC dJ9_init_2_0 rfl rfl (by first | rfl | exact gx_isr_rf _) ?_
  refine gx_oinit hC q428 q137 q138 dJ9_init_2_1 (Nat.le_of_ble_eq_true rfl) (Nat.le_of_ble_eq_true rfl) ?_
  refine gx_aload_n hC dJ9_init_2_4 rfl rfl (by first | rfl | exact gx_isr_rf _) ?_
  refine gx_callU (nA := 0) hC (m_J7_getValue h0) (C := RJ8) (Tf := TJ8) (Nf := 4) (ci := 20) rfl (by repeat (first | assumption | exact Or.inr gx_us | exact Or.inr (by assumption) | exact Or.inl (by assumption) | refine gx_tu (by omega) ?_)) (lw_app (List.forall_mem_cons.mpr ⟨q429, (List.forall_mem_cons.mpr ⟨q431, (List.forall_mem_cons.mpr ⟨q432, (List.forall_mem_cons.mpr ⟨q430, (List.forall_mem_cons.mpr ⟨q86, (fun _ h9 => absurd h9 List.not_mem_nil)⟩)⟩)⟩)⟩)⟩) (lw_meth q433)) rfl (by decide +kernel) dJ9_init_2_5 rfl ⟨Nat.le_of_ble_eq_true rfl, Nat.le_of_ble_eq_true rfl⟩ gx_in.id0 rfl (by first | exact Nat.le_of_ble_eq_true rfl | simp [gx_cat_rf, Value.category]) gx_kno (gx_kp1 ?_)
  refine gx_astore_n hC dJ9_init_2_8 rfl (by decide) (by first | rfl | simp [gx_ck, gx_lk, gx_cat_rf]) (by first | rfl | exact gx_isr_rf _) ?_
  refine gx_aload_n hC dJ9_init_2_9 rfl rfl (by first | rfl | exact gx_isr_rf _) ?_
  refine gx_callO (nA := 0) (owner := "java/lang/AbstractStringBuilder") hC (m_J8_length h0) (C := RJ8) (Tf := TJ8) (Nf := 4) (ci := 20) rfl (by repeat (first | assumption | exact Or.inr gx_us | exact Or.inr (by assumption) | exact Or.inl (by assumption) | refine gx_tu (by omega) ?_)) (lw_app (List.forall_mem_cons.mpr ⟨q434, (List.forall_mem_cons.mpr ⟨q436, (List.forall_mem_cons.mpr ⟨q435, (List.forall_mem_cons.mpr ⟨q437, (List.forall_mem_cons.mpr ⟨q438, (List.forall_mem_cons.mpr ⟨q87, (fun _ h9 => absurd h9 List.not_mem_nil)⟩)⟩)⟩)⟩)⟩)⟩) (lw_meth q439)) q441 (by decide +kernel) dJ9_init_2_10 rfl ⟨Nat.le_of_ble_eq_true rfl, Nat.le_of_ble_eq_true rfl⟩ gx_in.id0 rfl (by first | exact Nat.le_of_ble_eq_true rfl | simp [gx_cat_rf, Value.category]) gx_kno (gx_kp1 ?_)
  refine gx_istore hC dJ9_init_2_13 (by decide) (by first | rfl | simp [gx_ck, gx_lk, gx_cat_rf]) ?_
  refine gx_aload_n hC dJ9_init_2_15 rfl rfl (by first | rfl | exact gx_isr_rf _) ?_
  refine gx_callU (nA := 0) hC (m_J7_isLatin1 h0) (C := RJ8) (Tf := TJ8) (Nf := 4) (ci := 20) rfl (by repeat (first | assumption | exact Or.inr gx_us | exact Or.inr (by assumption) | exact Or.inl (by assumption) | refine gx_tu (by omega) ?_)) (lw_app (List.forall_mem_cons.mpr ⟨q442, (List.forall_mem_cons.mpr ⟨q319, (List.forall_mem_cons.mpr ⟨q320, (List.forall_mem_cons.mpr ⟨q318, (List.forall_mem_cons.mpr ⟨q86, (fun _ h9 => absurd h9 List.not_mem_nil)⟩)⟩)⟩)⟩)⟩) (lw_meth q321)) rfl (by decide +kernel) dJ9_init_2_16 rfl ⟨Nat.le_of_ble_eq_true rfl, Nat.le_of_ble_eq_true rfl⟩ gx_in.id0 rfl (by first | exact Nat.le_of_ble_eq_true rfl | simp [gx_cat_rf, Value.category]) gx_kno (gx_kp1 ?_)
  refine gx_if_eq hC dJ9_init_2_19 (tgt := 41) (by decide) (by unfold gx_rg; omega) (fun c19 => ?_) (fun c19 => ?_)
  · omega
  · refine gx_aload_n hC dJ9_init_2_22 rfl rfl (by first | rfl | exact gx_isr_rf _) ?_
    refine gx_iconst hC dJ9_init_2_23 ?_
    refine gx_putF hC (C := RJ9) (Tf := TJ9) (N := 4) (ci := 21) (k := 1) rfl in_J9 (by decide) tyJ9 tyJ9_ok nmJ9 q498 (fun _ h9 => h9) rfl rfl rfl dJ9_init_2_24 (by first | exact gx_us | assumption | (repeat (first | exact gx_us | assumption | refine gx_un (by omega) ?_))) (by first | exact Or.inl rfl | exact Or.inl (Or.inl rfl) | exact Or.inl (Or.inr rfl) | exact Or.inr (by omega) | assumption | (simp only [gx_A, *]; omega)) (Nat.le_of_ble_eq_true rfl) (by first | rfl | (cases ‹Option Nat› <;> rfl) | simp [narrow]) (by first | rfl | (cases ‹Option Nat› <;> rfl) | simp [fits]) ?_
    refine gx_aload_n hC dJ9_init_2_27 rfl rfl (by first | rfl | exact gx_isr_rf _) ?_
    refine gx_aload_n hC dJ9_init_2_28 rfl rfl (by first | rfl | exact gx_isr_rf _) ?_
    refine gx_iconst hC dJ9_init_2_29 ?_
    refine gx_iload hC dJ9_init_2_30 rfl ?_
    have hn9 : G v (gx_I D 1 cap f) := h2
    refine gx_callS (nA := 3) hC (m_J13_copyOfRange (f := f) (gx_un (fun e9 => hb.2 e9.symm) h2) h8 h5 (by omega)) (lw_S q443 q444 q92 q445) (by decide +kernel) dJ9_init_2_32 rfl ⟨Nat.le_of_ble_eq_true rfl, Nat.le_of_ble_eq_true rfl⟩ gx_in.id0 rfl (by first | exact Nat.le_of_ble_eq_true rfl | simp [gx_cat_rf, Value.category]) gx_kno (fun v2 G2 nx2 hp hf2 hle hlt2 => ?_)
    obtain ⟨rfl, rfl, g, q1, q2⟩ := hp
    have q3 := hf2 _ _ gx_us (fun q => q)
    refine gx_putF hC (C := RJ9) (Tf := TJ9) (N := 4) (ci := 21) (k := 0) rfl in_J9 (by decide) tyJ9 tyJ9_ok nmJ9 q497 (fun _ h9 => h9) rfl rfl rfl dJ9_init_2_35 (by first | exact gx_us | assumption | (repeat (first | exact gx_us | assumption | refine gx_un (by omega) ?_))) (by first | exact Or.inl rfl | exact Or.inl (Or.inl rfl) | exact Or.inl (Or.inr rfl) | exact Or.inr (by omega) | assumption | (simp only [gx_A, *]; omega)) (Nat.le_of_ble_eq_true rfl) (by first | rfl | (cases ‹Option Nat› <;> rfl) | simp [narrow]) (by first | rfl | (cases ‹Option Nat› <;> rfl) | simp [fits]) ?_
    refine gx_goto hC dJ9_init_2_38 (tgt := 97) (by decide) ?_
    exact gx_vret hC rfl rfl rfl dJ9_init_2_97 (fun G' hG => ⟨rfl, rfl, ⟨0, 0, hG _ _ gx_us⟩, ⟨g, hG _ _ (gx_un (by omega) q1), fun j hj => by rw [q2 j hj]; exact h3 j hj⟩, h4, by omega⟩)
theorem m_J9_init (h : gx_SB D G a v cap cs) (hs : G b (gx_O 21 fdJ9)) (hb : b ≠ a ∧ b ≠ v) : gx_Met l yJ9_init (ws_ yJ9_init cJ9_init 2 none) 6 1 302 D (fun q => q = b) T G nx [.ref b, .ref a] (fun x G' nx' => x = none ∧ nx' = nx + 1 ∧ gx_Sx D G' b nx cs) gx_no := by
  refine gx_start (by decide) (Nat.le_of_ble_eq_true rfl) rfl (fun p e s m args below meth c hC hlt => ?_)
  refine gx_aload_n hC dJ9_init_0 rfl rfl (by first | rfl | exact gx_isr_rf _) ?_
  refine gx_aload_n hC dJ9_init_1 rfl rfl (by first | rfl | exact gx_isr_rf _) ?_
  refine gx_null hC dJ9_init_2 ?_
  refine gx_callI (nA := 2) hC (m_J9_init_2 h hs hb) (lw_meth q427) q88 q425 q426 rfl (by decide +kernel) dJ9_init_3 rfl ⟨Nat.le_of_ble_eq_true rfl, Nat.le_of_ble_eq_true rfl⟩ (gx_in.id hC (fun q hq => Or.inl hq)) rfl (by first | exact Nat.le_of_ble_eq_true rfl | simp [gx_cat_rf, Value.category]) gx_kno (fun v2 G2 nx2 hp hf hle hlt2 => ?_)
  obtain ⟨rfl, rfl, q⟩ := hp
  exact gx_vret hC rfl rfl rfl dJ9_init_6 (fun G' hG => ⟨rfl, rfl, q.mono (hG _) (hG _)⟩)
theorem m_J8_toString (h : gx_SB D G a v cap cs) : gx_Met l yJ8_toString (ws_ yJ8_toString cJ8_toString 1 (some (.object "java/lang/String"))) 8 2 306 D gx_M0 T G nx [.ref a] (fun x G' nx' => x = some (.ref nx) ∧ nx' = nx + 2 ∧ gx_Sx D G' nx (nx + 1) cs) gx_no := by
  have h0 := h
  obtain ⟨⟨ml, h1⟩, ⟨f, h2, h3, h8⟩, h4, h5, h6, h7⟩ := h
  refine gx_start (by decide) (Nat.le_of_ble_eq_true rfl) rfl (fun p e s m args below meth c hC hlt => ?_)
  have hax := hlt _ _ h1
  have hvx := hlt _ _ h2
  refine gx_new hC (C := RJ9) (Tf := TJ9) (N := 4) (ci := 21) (fs := fdJ9) rfl in_J9 tyJ9 tyJ9_ok q420 q421 q88 dvJ9 dJ8_toString_0 ?_
  refine gx_dup hC dJ8_toString_3 (by first | rfl | exact gx_cat_rf _) ?_
  refine gx_aload_n hC dJ8_toString_4 rfl rfl (by first | rfl | exact gx_isr_rf _) ?_
  refine gx_callI (nA := 1) hC (m_J9_init (a := a) (v := v) (cap := cap) (h0.mono (fun e h => gx_un (by omega) h) (fun e h => gx_un (by omega) h)) gx_us ⟨by omega, by omega⟩) (lw_meth q424) q88 q422 q423 rfl (by decide +kernel) dJ8_toString_5 rfl ⟨Nat.le_of_ble_eq_true rfl, Nat.le_of_ble_eq_true rfl⟩ (gx_in.id hC (fun q hq => Or.inr (by omega))) rfl (by first | exact Nat.le_of_ble_eq_true rfl | simp [gx_cat_rf, Value.category]) gx_kno (fun v2 G2 nx2 hp hf hle hlt2 => ?_)
  obtain ⟨rfl, rfl, q⟩ := hp
  exact gx_aret hC rfl rfl rfl (by first | exact Or.inl ⟨_, rfl⟩ | exact Or.inr ⟨_, rfl⟩) (by first | rfl | exact gx_isr_rf _) dJ8_toString_8 (fun G' hG => ⟨rfl, rfl, q.mono (hG _) (hG _)⟩)
theorem m_J7_charAt {i : Int} (h : gx_SB D (gx_TG T G) a v cap cs) (hi : 0 ≤ i ∧ i < cs.length) : gx_Met l yJ7_charAt (ws_ yJ7_charAt cJ7_charAt 5 (some .char)) 4 0 0 D gx_M0 T G nx [.ref a, .int (iz i)] (gx_P (some (.int (iz (cs.getD i.toNat 0)))) nx) gx_no := by
  obtain ⟨⟨ml, h1⟩, ⟨f, h2, h3, h8⟩, h4, h5, h6, h7⟩ := h
  have h9 := h4 _ (gx_gmI (cs := cs) (i := i.toNat) (by omega))
  rw [← h3 i.toNat (by omega)] at h9 ⊢
  refine gx_start (by decide) (Nat.le_of_ble_eq_true rfl) rfl (fun p e s m args below meth c hC hlt => ?_)
  refine gx_aload_n hC dJ7_charAt_0 rfl rfl (by first | rfl | exact gx_isr_rf _) ?_
  refine gx_get hC (C := RJ8) (Tf := TJ8) (N := 4) (ci := 20) (k := 1) rfl in_J8 (by decide) q256 (fun _ h9 => h9) dJ7_charAt_1 (by repeat (first | assumption | exact Or.inr gx_us | exact Or.inr (by assumption) | exact Or.inl (by assumption) | refine gx_tu (by omega) ?_)) rfl ?_
  refine gx_istore_n hC dJ7_charAt_4 rfl (by decide) (by first | rfl | simp [gx_ck, gx_lk, gx_cat_rf]) ?_
  refine gx_aload_n hC dJ7_charAt_5 rfl rfl (by first | rfl | exact gx_isr_rf _) ?_
  refine gx_get hC (C := RJ8) (Tf := TJ8) (N := 4) (ci := 20) (k := 0) rfl in_J8 (by decide) q255 (fun _ h9 => h9) dJ7_charAt_6 (by repeat (first | assumption | exact Or.inr gx_us | exact Or.inr (by assumption) | exact Or.inl (by assumption) | refine gx_tu (by omega) ?_)) rfl ?_
  refine gx_astore_n hC dJ7_charAt_9 rfl (by decide) (by first | rfl | simp [gx_ck, gx_lk, gx_cat_rf]) (by first | rfl | exact gx_isr_rf _) ?_
  refine gx_aload_n hC dJ7_charAt_10 rfl rfl (by first | rfl | exact gx_isr_rf _) ?_
  refine gx_get hC (C := RJ8) (Tf := TJ8) (N := 4) (ci := 20) (k := 3) rfl in_J8 (by decide) q259 (fun _ h9 => h9) dJ7_charAt_11 (by repeat (first | assumption | exact Or.inr gx_us | exact Or.inr (by assumption) | exact Or.inl (by assumption) | refine gx_tu (by omega) ?_)) rfl ?_
  refine gx_aload_n hC dJ7_charAt_14 rfl rfl (by first | rfl | exact gx_isr_rf _) ?_
  refine gx_alen hC (t := 1) rfl dJ7_charAt_15 (by repeat (first | assumption | exact Or.inr gx_us | exact Or.inr (by assumption) | exact Or.inl (by assumption) | refine gx_tu (by omega) ?_)) ?_
  refine gx_iload_n hC dJ7_charAt_16 rfl rfl ?_
  refine gx_ishr hC dJ7_charAt_17 (gx_sr0) ?_
  refine gx_mmin hC q2170 q312 q91 q313 dJ7_charAt_18 (by unfold gx_rg; omega) (by unfold gx_rg; omega) (Nat.le_of_ble_eq_true rfl) (Nat.le_of_ble_eq_true rfl) ?_
  refine gx_istore hC dJ7_charAt_21 (by decide) (by first | rfl | simp [gx_ck, gx_lk, gx_cat_rf]) ?_
  refine gx_iload_n hC dJ7_charAt_23 rfl rfl ?_
  refine gx_iload hC dJ7_charAt_24 rfl ?_
  refine gx_callS (nA := 2) hC (m_J9_checkIndex (i := i) (by omega)) (lw_S q2171 q1693 q88 q1694) (by decide +kernel) dJ7_charAt_26 rfl ⟨Nat.le_of_ble_eq_true rfl, Nat.le_of_ble_eq_true rfl⟩ gx_in.id0 rfl (by first | exact Nat.le_of_ble_eq_true rfl | simp [gx_cat_rf, Value.category]) gx_kno (gx_kp0 ?_)
  refine gx_iload_n hC dJ7_charAt_29 rfl rfl ?_
  refine gx_if_ne hC dJ7_charAt_30 (tgt := 42) (by decide) (by unfold gx_rg; omega) (fun c30 => ?_) (fun c30 => ?_)
  · exact absurd rfl c30
  · refine gx_aload_n hC dJ7_charAt_33 rfl rfl (by first | rfl | exact gx_isr_rf _) ?_
    refine gx_iload_n hC dJ7_charAt_34 rfl rfl ?_
    refine gx_bald hC (t := 1) rfl dJ7_charAt_35 (by repeat (first | assumption | exact Or.inr gx_us | exact Or.inr (by assumption) | exact Or.inl (by assumption) | refine gx_tu (by omega) ?_)) (by omega) ?_
    refine gx_sipush hC dJ7_charAt_36 rfl ?_
    refine gx_iand hC dJ7_charAt_39 (gx_c255 h9) ?_
    refine gx_i2c hC dJ7_charAt_40 (gx_ci2c h9) ?_
    exact gx_zret hC rfl rfl rfl (gx_cnar h9) dJ7_charAt_41 (fun G' hG => ⟨rfl, rfl⟩)
theorem m_J8_charAt {i : Int} (h : gx_SB D (gx_TG T G) a v cap cs) (hi : 0 ≤ i ∧ i < cs.length) : gx_Met l yJ8_charAt (ws_ yJ8_charAt cJ8_charAt 2 (some .char)) 5 0 0 D gx_M0 T G nx [.ref a, .int (iz i)] (gx_P (some (.int (iz (cs.getD i.toNat 0)))) nx) gx_no := by
  have h0 := h
  obtain ⟨⟨ml, h1⟩, ⟨f, h2, h3, h8⟩, h4, h5, h6, h7⟩ := h
  have h9 := h4 _ (gx_gmI (cs := cs) (i := i.toNat) (by omega))
  refine gx_start (by decide) (Nat.le_of_ble_eq_true rfl) rfl (fun p e s m args below meth c hC hlt => ?_)
  refine gx_aload_n hC dJ8_charAt_0 rfl rfl (by first | rfl | exact gx_isr_rf _) ?_
  refine gx_iload_n hC dJ8_charAt_1 rfl rfl ?_
  refine gx_callSU (nA := 1) hC (m_J7_charAt h0 hi) (C := RJ8) (Tf := TJ8) (Nf := 4) (ci := 20) rfl (by repeat (first | assumption | exact Or.inr gx_us | exact Or.inr (by assumption) | exact Or.inl (by assumption) | refine gx_tu (by omega) ?_)) (lw_app (List.forall_mem_cons.mpr ⟨q2167, (List.forall_mem_cons.mpr ⟨q3026, (List.forall_mem_cons.mpr ⟨q268, (List.forall_mem_cons.mpr ⟨q2168, (List.forall_mem_cons.mpr ⟨q86, (fun _ h9 => absurd h9 List.not_mem_nil)⟩)⟩)⟩)⟩)⟩) (lw_meth q2169)) (by decide +kernel) dJ8_charAt_2 rfl ⟨Nat.le_of_ble_eq_true rfl, Nat.le_of_ble_eq_true rfl⟩ gx_in.id0 rfl (by first | exact Nat.le_of_ble_eq_true rfl | simp [gx_cat_rf, Value.category]) gx_kno (gx_kp1 ?_)
  exact gx_zret hC rfl rfl rfl (gx_cnar h9) dJ8_charAt_5 (fun G' hG => ⟨rfl, rfl⟩)
/-- no text any more -/
theorem m_J7_setLength (h : gx_SB D G a v cap cs) : gx_Met l yJ7_setLength (ws_ yJ7_setLength cJ7_setLength 2 none) 6 1 302 D (fun q => q = a) T G nx [.ref a, .int (iz 0)] (fun x G' nx' => x = none ∧ gx_SG D G' a v 0 nx nx' []) gx_no := by
  have h0 := h
  obtain ⟨⟨ml, h1⟩, ⟨f, h2, h3, h8⟩, h4, h5, h6, h7⟩ := h
  refine gx_start (by decide) (Nat.le_of_ble_eq_true rfl) rfl (fun p e s m args below meth c hC hlt => ?_)
  have hax := hlt _ _ h1
  have hvx := hlt _ _ h2
  refine gx_iload_n hC dJ7_setLength_0 rfl rfl ?_
  refine gx_if_ge hC dJ7_setLength_1 (tgt := 13) (by decide) (by unfold gx_rg; omega) (fun c1 => ?_) (fun c1 => ?_)
  · refine gx_aload_n hC dJ7_setLength_13 rfl rfl (by first | rfl | exact gx_isr_rf _) ?_
    refine gx_iload_n hC dJ7_setLength_14 rfl rfl ?_
    refine gx_callP (nA := 1) hC (m_J7_ensure h0 (n := 0) (by omega)) (C := RJ8) (Tf := TJ8) (Nf := 4) (ci := 20) rfl (by repeat (first | assumption | exact Or.inr gx_us | exact Or.inr (by assumption) | exact Or.inl (by assumption) | refine gx_tu (by omega) ?_)) q282 q3016 q283 q284 q86 q285 (by decide +kernel) dJ7_setLength_15 rfl ⟨Nat.le_of_ble_eq_true rfl, Nat.le_of_ble_eq_true rfl⟩ (gx_in.id hC (fun q hq => Or.inl hq)) rfl (by first | exact Nat.le_of_ble_eq_true rfl | simp [gx_cat_rf, Value.category]) gx_kno (fun v2 G2 nx2 hp hf hle hlt2 => ?_)
    obtain ⟨rfl, k1, k2, v', cap', q0, k3, k4⟩ := hp
    obtain ⟨⟨ml', q1⟩, ⟨f', q2, q3, q8⟩, q4, q5, q6, q7⟩ := q0
    refine gx_aload_n hC dJ7_setLength_18 rfl rfl (by first | rfl | exact gx_isr_rf _) ?_
    refine gx_get hC (C := RJ8) (Tf := TJ8) (N := 4) (ci := 20) (k := 3) rfl in_J8 (by decide) q259 (fun _ h9 => h9) dJ7_setLength_19 (by repeat (first | assumption | exact Or.inr gx_us | exact Or.inr (by assumption) | exact Or.inl (by assumption) | refine gx_tu (by omega) ?_)) rfl ?_
    refine gx_iload_n hC dJ7_setLength_22 rfl rfl ?_
    refine gx_icmp_ge hC dJ7_setLength_23 (tgt := 63) (by decide) (by unfold gx_rg; omega) (by unfold gx_rg; omega) (fun c23 => ?_) (fun c23 => ?_)
    · refine gx_aload_n hC dJ7_setLength_63 rfl rfl (by first | rfl | exact gx_isr_rf _) ?_
      refine gx_get hC (C := RJ8) (Tf := TJ8) (N := 4) (ci := 20) (k := 3) rfl in_J8 (by decide) q259 (fun _ h9 => h9) dJ7_setLength_64 (by repeat (first | assumption | exact Or.inr gx_us | exact Or.inr (by assumption) | exact Or.inl (by assumption) | refine gx_tu (by omega) ?_)) rfl ?_
      refine gx_iload_n hC dJ7_setLength_67 rfl rfl ?_
      refine gx_icmp_le hC dJ7_setLength_68 (tgt := 76) (by decide) (by unfold gx_rg; omega) (by unfold gx_rg; omega) (fun c68 => ?_) (fun c68 => ?_)
      · refine gx_aload_n hC dJ7_setLength_76 rfl rfl (by first | rfl | exact gx_isr_rf _) ?_
        refine gx_iload_n hC dJ7_setLength_77 rfl rfl ?_
        refine gx_put hC (C := RJ8) (Tf := TJ8) (N := 4) (ci := 20) (k := 3) rfl in_J8 (by decide) tyJ8 tyJ8_ok nmJ8 q259 (fun _ h9 => h9) rfl dJ7_setLength_78 (by first | exact gx_us | assumption | (repeat (first | exact gx_us | assumption | refine gx_un (by omega) ?_))) (by first | exact Or.inl rfl | exact Or.inl (Or.inl rfl) | exact Or.inl (Or.inr rfl) | exact Or.inr (by omega) | assumption | (simp only [gx_A, *]; omega)) (Nat.le_of_ble_eq_true rfl) (by first | rfl | (cases ‹Option Nat› <;> rfl) | simp [narrow]) (by first | rfl | (cases ‹Option Nat› <;> rfl) | simp [fits]) ?_
        exact gx_vret hC rfl rfl rfl dJ7_setLength_81 (fun G' hG => ⟨rfl, k1, k2, v', cap', gx_SB.mk (n := 0) rfl (hG _ _ gx_us) (hG _ _ (gx_un (fun e9 => q7 e9.symm) q2)) (fun j hj => by simp at hj) q8 (fun c hc => by simp at hc) (by simp) q6 q7, by omega, k4⟩)
      · refine gx_aload_n hC dJ7_setLength_71 rfl rfl (by first | rfl | exact gx_isr_rf _) ?_
        refine gx_iconst hC dJ7_setLength_72 ?_
        refine gx_put hC (C := RJ8) (Tf := TJ8) (N := 4) (ci := 20) (k := 2) rfl in_J8 (by decide) tyJ8 tyJ8_ok nmJ8 q257 (fun _ h9 => h9) rfl dJ7_setLength_73 (by first | exact gx_us | assumption | (repeat (first | exact gx_us | assumption | refine gx_un (by omega) ?_))) (by first | exact Or.inl rfl | exact Or.inl (Or.inl rfl) | exact Or.inl (Or.inr rfl) | exact Or.inr (by omega) | assumption | (simp only [gx_A, *]; omega)) (Nat.le_of_ble_eq_true rfl) (by first | rfl | (cases ‹Option Nat› <;> rfl) | simp [narrow]) (by first | rfl | (cases ‹Option Nat› <;> rfl) | simp [fits]) ?_
        refine gx_aload_n hC dJ7_setLength_76 rfl rfl (by first | rfl | exact gx_isr_rf _) ?_
        refine gx_iload_n hC dJ7_setLength_77 rfl rfl ?_
        refine gx_put hC (C := RJ8) (Tf := TJ8) (N := 4) (ci := 20) (k := 3) rfl in_J8 (by decide) tyJ8 tyJ8_ok nmJ8 q259 (fun _ h9 => h9) rfl dJ7_setLength_78 (by first | exact gx_us | assumption | (repeat (first | exact gx_us | assumption | refine gx_un (by omega) ?_))) (by first | exact Or.inl rfl | exact Or.inl (Or.inl rfl) | exact Or.inl (Or.inr rfl) | exact Or.inr (by omega) | assumption | (simp only [gx_A, *]; omega)) (Nat.le_of_ble_eq_true rfl) (by first | rfl | (cases ‹Option Nat› <;> rfl) | simp [narrow]) (by first | rfl | (cases ‹Option Nat› <;> rfl) | simp [fits]) ?_
        exact gx_vret hC rfl rfl rfl dJ7_setLength_81 (fun G' hG => ⟨rfl, k1, k2, v', cap', gx_SB.mk (n := 0) rfl (hG _ _ gx_us) (hG _ _ (gx_un (fun e9 => q7 e9.symm) (gx_un (fun e9 => q7 e9.symm) q2))) (fun j hj => by simp at hj) q8 (fun c hc => by simp at hc) (by simp) q6 q7, by omega, k4⟩)
    · omega
  · omega
theorem m_J8_setLength (h : gx_SB D G a v cap cs) : gx_Met l yJ8_setLength (ws_ yJ8_setLength cJ8_setLength 2 none) 7 1 302 D (fun q => q = a) T G nx [.ref a, .int (iz 0)] (fun x G' nx' => x = none ∧ gx_SG D G' a v 0 nx nx' []) gx_no := by
  have h0 := h
  obtain ⟨⟨ml, h1⟩, ⟨f, h2, h3, h8⟩, h4, h5, h6, h7⟩ := h
  refine gx_start (by decide) (Nat.le_of_ble_eq_true rfl) rfl (fun p e s m args below meth c hC hlt => ?_)
  refine gx_aload_n hC dJ8_setLength_0 rfl rfl (by first | rfl | exact gx_isr_rf _) ?_
  refine gx_iload_n hC dJ8_setLength_1 rfl rfl ?_
  refine gx_callSU (nA := 1) hC (m_J7_setLength h0) (C := RJ8) (Tf := TJ8) (Nf := 4) (ci := 20) rfl (by repeat (first | assumption | exact Or.inr gx_us | exact Or.inr (by assumption) | exact Or.inl (by assumption) | refine gx_tu (by omega) ?_)) (lw_app (List.forall_mem_cons.mpr ⟨q2354, (List.forall_mem_cons.mpr ⟨q3031, (List.forall_mem_cons.mpr ⟨q268, (List.forall_mem_cons.mpr ⟨q2355, (List.forall_mem_cons.mpr ⟨q86, (fun _ h9 => absurd h9 List.not_mem_nil)⟩)⟩)⟩)⟩)⟩) (lw_meth q2356)) (by decide +kernel) dJ8_setLength_2 rfl ⟨Nat.le_of_ble_eq_true rfl, Nat.le_of_ble_eq_true rfl⟩ (gx_in.id hC (fun q hq => Or.inl hq)) rfl (by first | exact Nat.le_of_ble_eq_true rfl | simp [gx_cat_rf, Value.category]) gx_kno (fun v2 G2 nx2 hp hf hle hlt2 => ?_)
  obtain ⟨rfl, q⟩ := hp
  exact gx_vret hC rfl rfl rfl dJ8_setLength_5 (fun G' hG => ⟨rfl, q.mono hG⟩)
theorem m_J7_init (h : G a (gx_O 20 fdJ8)) : gx_Met l yJ7_init (ws_ yJ7_init cJ7_init 2 none) 3 1 16 D (fun q => q = a) T G nx [.ref a, .int (iz 16)] (fun x G' nx' => x = none ∧ nx' = nx + 1 ∧ gx_SB D G' a nx 16 []) gx_no := by
  refine gx_start (by decide) (Nat.le_of_ble_eq_true rfl) rfl (fun p e s m args below meth c hC hlt => ?_)
  have hax := hlt _ _ h
  refine gx_aload_n hC dJ7_init_0 rfl rfl (by first | rfl | exact gx_isr_rf _) ?_
  refine gx_oinit hC q245 q137 q138 dJ7_init_1 (Nat.le_of_ble_eq_true rfl) (Nat.le_of_ble_eq_true rfl) ?_
  refine gx_gets hC (List.mem_cons_of_mem _ (List.mem_cons_of_mem _ (List.mem_cons_of_mem _ (List.mem_cons_of_mem _ List.mem_cons_self)))) q246 (fun _ h9 => h9) dJ7_init_4 ?_
  refine gx_if_eq hC dJ7_init_7 (tgt := 25) (by decide) (by unfold gx_rg; omega) (fun c7 => ?_) (fun c7 => ?_)
  · omega
  · refine gx_aload_n hC dJ7_init_10 rfl rfl (by first | rfl | exact gx_isr_rf _) ?_
    refine gx_iload_n hC dJ7_init_11 rfl rfl ?_
    refine gx_newa hC (atype := .byte) (t := 1) (ty := .byte) (N := 16) (x := (16, .inl (fun _ => iz 0))) q269 rfl rfl rfl (fun _ => rfl) dJ7_init_12 (by first | rfl | omega) (by first | decide | omega) ?_
    refine gx_put hC (C := RJ8) (Tf := TJ8) (N := 4) (ci := 20) (k := 0) rfl in_J8 (by decide) tyJ8 tyJ8_ok nmJ8 q255 (fun _ h9 => h9) rfl dJ7_init_14 (by first | exact gx_us | assumption | (repeat (first | exact gx_us | assumption | refine gx_un (by omega) ?_))) (by first | exact Or.inl rfl | exact Or.inl (Or.inl rfl) | exact Or.inl (Or.inr rfl) | exact Or.inr (by omega) | assumption | (simp only [gx_A, *]; omega)) (Nat.le_of_ble_eq_true rfl) (by first | rfl | (cases ‹Option Nat› <;> rfl) | simp [narrow]) (by first | rfl | (cases ‹Option Nat› <;> rfl) | simp [fits]) ?_
    refine gx_aload_n hC dJ7_init_17 rfl rfl (by first | rfl | exact gx_isr_rf _) ?_
    refine gx_iconst hC dJ7_init_18 ?_
    refine gx_put hC (C := RJ8) (Tf := TJ8) (N := 4) (ci := 20) (k := 1) rfl in_J8 (by decide) tyJ8 tyJ8_ok nmJ8 q256 (fun _ h9 => h9) rfl dJ7_init_19 (by first | exact gx_us | assumption | (repeat (first | exact gx_us | assumption | refine gx_un (by omega) ?_))) (by first | exact Or.inl rfl | exact Or.inl (Or.inl rfl) | exact Or.inl (Or.inr rfl) | exact Or.inr (by omega) | assumption | (simp only [gx_A, *]; omega)) (Nat.le_of_ble_eq_true rfl) (by first | rfl | (cases ‹Option Nat› <;> rfl) | simp [narrow]) (by first | rfl | (cases ‹Option Nat› <;> rfl) | simp [fits]) ?_
    refine gx_goto hC dJ7_init_22 (tgt := 38) (by decide) ?_
    exact gx_vret hC rfl rfl rfl dJ7_init_38 (fun G' hG => ⟨rfl, rfl, gx_SB.mk (n := 0) rfl (hG _ _ gx_us) (hG _ _ (gx_un (by omega) (gx_un (by omega) gx_us))) (fun j hj => by simp at hj) gx_by0 (fun c hc => by simp at hc) (by simp) (by omega) (by omega)⟩)
theorem m_J8_init (h : G a (gx_O 20 fdJ8)) : gx_Met l yJ8_init (ws_ yJ8_init cJ8_init 1 none) 5 1 16 D (fun q => q = a) T G nx [.ref a] (fun x G' nx' => x = none ∧ nx' = nx + 1 ∧ gx_SB D G' a nx 16 []) gx_no := by
  refine gx_start (by decide) (Nat.le_of_ble_eq_true rfl) rfl (fun p e s m args below meth c hC hlt => ?_)
  refine gx_aload_n hC dJ8_init_0 rfl rfl (by first | rfl | exact gx_isr_rf _) ?_
  refine gx_bipush hC dJ8_init_1 rfl ?_
  refine gx_callI (nA := 1) hC (m_J7_init h) (lw_meth q244) q86 q242 q243 rfl (by decide +kernel) dJ8_init_3 rfl ⟨Nat.le_of_ble_eq_true rfl, Nat.le_of_ble_eq_true rfl⟩ (gx_in.id hC (fun q hq => Or.inl hq)) rfl (by first | exact Nat.le_of_ble_eq_true rfl | simp [gx_cat_rf, Value.category]) gx_kno (fun v2 G2 nx2 hp hf hle hlt2 => ?_)
  obtain ⟨rfl, rfl, q⟩ := hp
  exact gx_vret hC rfl rfl rfl dJ8_init_6 (fun G' hG => ⟨rfl, rfl, q.mono (hG _) (hG _)⟩)
theorem m_J7_init_2 (h : G a (gx_O 20 fdJ8)) (hs : gx_Sx D (gx_TG T G) b w ds) (hn : ds.length ≤ 100) (hb : b ≠ a ∧ w ≠ a ∧ b < nx ∧ w < nx) : gx_Met l yJ7_init_2 (ws_ yJ7_init_2 cJ7_init_2 5 none) 10 2 420 D (fun q => q = a) T G nx [.ref a, .ref b] (fun x G' nx' => x = none ∧ nx' ≤ nx + 2 ∧ ∃ v cap, gx_SB D G' a v cap ds ∧ nx ≤ v ∧ v < nx') gx_no := by
  have hs0 := hs
  obtain ⟨⟨hh, zz, g1⟩, -⟩ := hs
  refine gx_start (by decide) (Nat.le_of_ble_eq_true rfl) rfl (fun p e s m args below meth c hC hlt => ?_)
  have hax := hlt _ _ h
  refine gx_aload_n hC dJ7_init_2_0 rfl rfl (by first | rfl | exact gx_isr_rf _) ?_
  refine gx_oinit hC q245 q137 q138 dJ7_init_2_1 (Nat.le_of_ble_eq_true rfl) (Nat.le_of_ble_eq_true rfl) ?_
  refine gx_aload_n hC dJ7_init_2_4 rfl rfl (by first | rfl | exact gx_isr_rf _) ?_
  refine gx_callV (nA := 0) hC (m_J9_length hs0) (C := RJ9) (Tf := TJ9) (Nf := 4) (ci := 21) rfl (by repeat (first | assumption | exact Or.inr gx_us | exact Or.inr (by assumption) | exact Or.inl (by assumption) | refine gx_tu (by omega) ?_)) (lw_V q348 q349 q350 q88 q351) (by decide +kernel) dJ7_init_2_5 rfl ⟨Nat.le_of_ble_eq_true rfl, Nat.le_of_ble_eq_true rfl⟩ gx_in.id0 rfl (by first | exact Nat.le_of_ble_eq_true rfl | simp [gx_cat_rf, Value.category]) gx_kno (gx_kp1 ?_)
  refine gx_istore_n hC dJ7_init_2_8 rfl (by decide) (by first | rfl | simp [gx_ck, gx_lk, gx_cat_rf]) ?_
  refine gx_iload_n hC dJ7_init_2_9 rfl rfl ?_
  refine gx_ldc hC (z := 2147483631) q2447 (by decide) dJ7_init_2_10 ?_
  refine gx_icmp_ge hC dJ7_init_2_12 (tgt := 22) (by decide) (by unfold gx_rg; omega) (by unfold gx_rg; omega) (fun c12 => ?_) (fun c12 => ?_)
  · omega
  · refine gx_iload_n hC dJ7_init_2_15 rfl rfl ?_
    refine gx_bipush hC dJ7_init_2_16 rfl ?_
    refine gx_iadd hC dJ7_init_2_18 ?_
    refine gx_goto hC dJ7_init_2_19 (tgt := 24) (by decide) ?_
    refine gx_istore_n hC dJ7_init_2_24 rfl (by decide) (by first | rfl | simp [gx_ck, gx_lk, gx_cat_rf]) ?_
    refine gx_aload_n hC dJ7_init_2_25 rfl rfl (by first | rfl | exact gx_isr_rf _) ?_
    refine gx_callV (nA := 0) hC (m_J9_coder hs0) (C := RJ9) (Tf := TJ9) (Nf := 4) (ci := 21) rfl (by repeat (first | assumption | exact Or.inr gx_us | exact Or.inr (by assumption) | exact Or.inl (by assumption) | refine gx_tu (by omega) ?_)) (lw_V q365 q353 q354 q88 q355) (by decide +kernel) dJ7_init_2_26 rfl ⟨Nat.le_of_ble_eq_true rfl, Nat.le_of_ble_eq_true rfl⟩ gx_in.id0 rfl (by first | exact Nat.le_of_ble_eq_true rfl | simp [gx_cat_rf, Value.category]) gx_kno (gx_kp1 ?_)
    refine gx_istore hC dJ7_init_2_29 (by decide) (by first | rfl | simp [gx_ck, gx_lk, gx_cat_rf]) ?_
    refine gx_aload_n hC dJ7_init_2_31 rfl rfl (by first | rfl | exact gx_isr_rf _) ?_
    refine gx_iload hC dJ7_init_2_32 rfl ?_
    refine gx_put hC (C := RJ8) (Tf := TJ8) (N := 4) (ci := 20) (k := 1) rfl in_J8 (by decide) tyJ8 tyJ8_ok nmJ8 q256 (fun _ h9 => h9) rfl dJ7_init_2_34 (by first | exact gx_us | assumption | (repeat (first | exact gx_us | assumption | refine gx_un (by omega) ?_))) (by first | exact Or.inl rfl | exact Or.inl (Or.inl rfl) | exact Or.inl (Or.inr rfl) | exact Or.inr (by omega) | assumption | (simp only [gx_A, *]; omega)) (Nat.le_of_ble_eq_true rfl) (by first | rfl | (cases ‹Option Nat› <;> rfl) | simp [narrow]) (by first | rfl | (cases ‹Option Nat› <;> rfl) | simp [fits]) ?_
    refine gx_aload_n hC dJ7_init_2_37 rfl rfl (by first | rfl | exact gx_isr_rf _) ?_
    refine gx_iload hC dJ7_init_2_38 rfl ?_
    refine gx_if_ne hC dJ7_init_2_40 (tgt := 49) (by decide) (by unfold gx_rg; omega) (fun c40 => ?_) (fun c40 => ?_)
    · exact absurd rfl c40
    · refine gx_bud (bc' := 1 + 1) (bs' := (118 - (ds.length + 16)) + 302 + (ds.length + 16)) (by omega) (by omega) ?_
      refine gx_iload_n hC dJ7_init_2_43 rfl rfl ?_
      refine gx_newa hC (atype := .byte) (t := 1) (ty := .byte) (N := (ds.length + 16)) (x := ((ds.length + 16), .inl (fun _ => iz 0))) q269 rfl rfl rfl (fun _ => rfl) dJ7_init_2_44 (by first | rfl | omega) (by first | decide | omega) ?_
      refine gx_goto hC dJ7_init_2_46 (tgt := 53) (by decide) ?_
      refine gx_put hC (C := RJ8) (Tf := TJ8) (N := 4) (ci := 20) (k := 0) rfl in_J8 (by decide) tyJ8 tyJ8_ok nmJ8 q255 (fun _ h9 => h9) rfl dJ7_init_2_53 (by first | exact gx_us | assumption | (repeat (first | exact gx_us | assumption | refine gx_un (by omega) ?_))) (by first | exact Or.inl rfl | exact Or.inl (Or.inl rfl) | exact Or.inl (Or.inr rfl) | exact Or.inr (by omega) | assumption | (simp only [gx_A, *]; omega)) (Nat.le_of_ble_eq_true rfl) (by first | rfl | (cases ‹Option Nat› <;> rfl) | simp [narrow]) (by first | rfl | (cases ‹Option Nat› <;> rfl) | simp [fits]) ?_
      refine gx_aload_n hC dJ7_init_2_56 rfl rfl (by first | rfl | exact gx_isr_rf _) ?_
      refine gx_aload_n hC dJ7_init_2_57 rfl rfl (by first | rfl | exact gx_isr_rf _) ?_
      have q0 : gx_SB D (gx_up (gx_up (gx_up G a (gx_O 20 ([Value.null, .int (iz 0), .int (iz 0), .int (iz 0)].set 1 (.int (iz 0))))) nx (gx_I D 1 (ds.length + 16) (fun _ => 0))) a (gx_O 20 (([Value.null, .int (iz 0), .int (iz 0), .int (iz 0)].set 1 (.int (iz 0))).set 0 (.ref nx)))) a nx (ds.length + 16) [] := gx_SB.mk (n := 0) (ml := 0) rfl gx_us (gx_un (by omega) gx_us) (fun j hj => by simp at hj) gx_by0 (fun c hc => by simp at hc) (by simp) (by omega) (by omega)
      have hs2 := hs0.mono (Y := gx_TG T (gx_up (gx_up (gx_up G a (gx_O 20 ([Value.null, .int (iz 0), .int (iz 0), .int (iz 0)].set 1 (.int (iz 0))))) nx (gx_I D 1 (ds.length + 16) (fun _ => 0))) a (gx_O 20 (([Value.null, .int (iz 0), .int (iz 0), .int (iz 0)].set 1 (.int (iz 0))).set 0 (.ref nx))))) (fun e h => h.imp id (fun h => gx_un hb.1 (gx_un (by omega) (gx_un hb.1 h)))) (fun e h => h.imp id (fun h => gx_un hb.2.1 (gx_un (by omega) (gx_un hb.2.1 h))))
      refine gx_callO (nA := 1) (owner := "java/lang/AbstractStringBuilder") hC (m_J8_append_4 q0 hs2 (by simp; omega) ⟨hb.1, by omega, hb.2.1, by omega⟩) (C := RJ8) (Tf := TJ8) (Nf := 4) (ci := 20) rfl (by repeat (first | assumption | exact Or.inr gx_us | exact Or.inr (by assumption) | exact Or.inl (by assumption) | refine gx_tu (by omega) ?_)) (lw_app (List.forall_mem_cons.mpr ⟨q2448, (List.forall_mem_cons.mpr ⟨q3014, (List.forall_mem_cons.mpr ⟨q276, (List.forall_mem_cons.mpr ⟨q3032, (List.forall_mem_cons.mpr ⟨q2449, (List.forall_mem_cons.mpr ⟨q87, (fun _ h9 => absurd h9 List.not_mem_nil)⟩)⟩)⟩)⟩)⟩)⟩) (lw_meth q2450)) q277 (by decide +kernel) dJ7_init_2_58 rfl ⟨Nat.le_of_ble_eq_true rfl, Nat.le_of_ble_eq_true rfl⟩ (gx_in.id hC (fun q hq => hq.imp id (fun e9 => by omega))) rfl (by first | exact Nat.le_of_ble_eq_true rfl | simp [gx_cat_rf, Value.category]) gx_kno (fun v2 G2 nx2 hp hf hle hlt2 => ?_)
      obtain ⟨rfl, k1, k2, v', cap', q1, k3, k4⟩ := hp
      refine gx_pop hC dJ7_init_2_61 (by first | rfl | exact gx_cat_rf _) ?_
      exact gx_vret hC rfl rfl rfl dJ7_init_2_62 (fun G' hG => ⟨rfl, by omega, v', cap', q1.mono (hG _) (hG _), by omega, by omega⟩)
theorem m_J8_init_2 (h : G a (gx_O 20 fdJ8)) (hs : gx_Sx D (gx_TG T G) b w ds) (hn : ds.length ≤ 100) (hb : b ≠ a ∧ w ≠ a ∧ b < nx ∧ w < nx) : gx_Met l yJ8_init_2 (ws_ yJ8_init_2 cJ8_init_2 2 none) 11 2 420 D (fun q => q = a) T G nx [.ref a, .ref b] (fun x G' nx' => x = none ∧ nx' ≤ nx + 2 ∧ ∃ v cap, gx_SB D G' a v cap ds ∧ nx ≤ v ∧ v < nx') gx_no := by
  refine gx_start (by decide) (Nat.le_of_ble_eq_true rfl) rfl (fun p e s m args below meth c hC hlt => ?_)
  refine gx_aload_n hC dJ8_init_2_0 rfl rfl (by first | rfl | exact gx_isr_rf _) ?_
  refine gx_aload_n hC dJ8_init_2_1 rfl rfl (by first | rfl | exact gx_isr_rf _) ?_
  refine gx_callI (nA := 1) hC (m_J7_init_2 h hs hn hb) (lw_meth q2446) q86 q2444 q2445 rfl (by decide +kernel) dJ8_init_2_2 rfl ⟨Nat.le_of_ble_eq_true rfl, Nat.le_of_ble_eq_true rfl⟩ (gx_in.id hC (fun q hq => Or.inl hq)) rfl (by first | exact Nat.le_of_ble_eq_true rfl | simp [gx_cat_rf, Value.category]) gx_kno (fun v2 G2 nx2 hp hf hle hlt2 => ?_)
  obtain ⟨rfl, k1, v', cap', q1, k2⟩ := hp
  exact gx_vret hC rfl rfl rfl dJ8_init_2_5 (fun G' hG => ⟨rfl, k1, v', cap', q1.mono (hG _) (hG _), k2⟩)
end SBX

