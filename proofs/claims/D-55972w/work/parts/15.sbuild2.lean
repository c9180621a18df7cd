/-! StringBuilder: text and numbers appended, toString, charAt, setLength, making -/
set_option maxRecDepth 100000
section SBV
variable {l : Launch} {D : gx_D} {T G : gx_H} {nx : Nat} {a b v w cap : Nat} {cs ds : List Int}
theorem m_J7_inflateIfNeededFor (h : gx_SB D (gx_TG T G) a v cap cs) (hs : gx_Sx D (gx_TG T G) b w ds) : gx_Met l yJ7_inflateIfNeededFor (ws_ yJ7_inflateIfNeededFor cJ7_inflateIfNeededFor 2 none) 3 0 0 D gx_M0 T G nx [.ref a, .ref b] (gx_P none nx) gx_no := by
  obtain ⟨⟨ml, h1⟩, -⟩ := h
  have hs0 := hs
  obtain ⟨⟨hh, zz, g1⟩, -⟩ := hs
  refine gx_start (by decide) (Nat.le_of_ble_eq_true rfl) rfl (fun p e s m args below meth c hC hlt => ?_)
  refine gx_gets hC (List.mem_cons_of_mem _ (List.mem_cons_of_mem _ (List.mem_cons_of_mem _ (List.mem_cons_of_mem _ List.mem_cons_self)))) q246 (fun _ h9 => h9) dJ7_inflateIfNeededFor_0 ?_
  refine gx_if_eq hC dJ7_inflateIfNeededFor_3 (tgt := 21) (by decide) (by unfold gx_rg; omega) (fun c3 => ?_) (fun c3 => ?_)
  · omega
  · refine gx_aload_n hC dJ7_inflateIfNeededFor_6 rfl rfl (by first | rfl | exact gx_isr_rf _) ?_
    refine gx_get hC (C := RJ8) (Tf := TJ8) (N := 4) (ci := 20) (k := 1) rfl in_J8 (by decide) q256 (fun _ h9 => h9) dJ7_inflateIfNeededFor_7 (by repeat (first | assumption | exact Or.inr gx_us | exact Or.inr (by assumption) | exact Or.inl (by assumption) | refine gx_tu (by omega) ?_)) rfl ?_
    refine gx_aload_n hC dJ7_inflateIfNeededFor_10 rfl rfl (by first | rfl | exact gx_isr_rf _) ?_
    refine gx_callV (nA := 0) hC (m_J9_coder hs0) (C := RJ9) (Tf := TJ9) (Nf := 4) (ci := 21) rfl (by repeat (first | assumption | exact Or.inr gx_us | exact Or.inr (by assumption) | exact Or.inl (by assumption) | refine gx_tu (by omega) ?_)) (lw_V q365 q353 q354 q88 q355) (by decide +kernel) dJ7_inflateIfNeededFor_11 rfl ⟨Nat.le_of_ble_eq_true rfl, Nat.le_of_ble_eq_true rfl⟩ gx_in.id0 rfl (by first | exact Nat.le_of_ble_eq_true rfl | simp [gx_cat_rf, Value.category]) gx_kno (gx_kp1 ?_)
    refine gx_icmp_eq hC dJ7_inflateIfNeededFor_14 (tgt := 21) (by decide) (by unfold gx_rg; omega) (by unfold gx_rg; omega) (fun c14 => ?_) (fun c14 => ?_)
    · exact gx_vret hC rfl rfl rfl dJ7_inflateIfNeededFor_21 (fun G' hG => ⟨rfl, rfl⟩)
    · exact absurd rfl c14
theorem m_J7_putStringAt (h : gx_SB D G a v cap cs) (hs : gx_Sx D (gx_TG T G) b w ds) (hk : cs.length + ds.length ≤ cap) : gx_Met l yJ7_putStringAt (ws_ yJ7_putStringAt cJ7_putStringAt 3 none) 5 0 0 D (fun q => q = v) T G nx [.ref a, .int (iz cs.length), .ref b] (fun x G' nx' => x = none ∧ nx' = nx ∧ ∃ f, gx_pre f (cs ++ ds) ∧ gx_by f ∧ G' v (gx_I D 1 cap f)) gx_no := by
  have h0 : gx_SB D (gx_TG T G) a v cap cs := h.mono (fun _ => Or.inr) (fun _ => Or.inr)
  obtain ⟨⟨ml, h1⟩, ⟨f, h2, h3, h8⟩, h4, h5, h6, h7⟩ := h
  have hs0 := hs
  obtain ⟨⟨hh, zz, g1⟩, -, g4, g5⟩ := hs
  refine gx_start (by decide) (Nat.le_of_ble_eq_true rfl) rfl (fun p e s m args below meth c hC hlt => ?_)
  refine gx_aload_n hC dJ7_putStringAt_0 rfl rfl (by first | rfl | exact gx_isr_rf _) ?_
  refine gx_aload_n hC dJ7_putStringAt_1 rfl rfl (by first | rfl | exact gx_isr_rf _) ?_
  refine gx_callP (nA := 1) hC (m_J7_inflateIfNeededFor h0 hs0) (C := RJ8) (Tf := TJ8) (Nf := 4) (ci := 20) rfl (by repeat (first | assumption | exact Or.inr gx_us | exact Or.inr (by assumption) | exact Or.inl (by assumption) | refine gx_tu (by omega) ?_)) q361 q3019 q362 q363 q86 q364 (by decide +kernel) dJ7_putStringAt_2 rfl ⟨Nat.le_of_ble_eq_true rfl, Nat.le_of_ble_eq_true rfl⟩ gx_in.id0 rfl (by first | exact Nat.le_of_ble_eq_true rfl | simp [gx_cat_rf, Value.category]) gx_kno (gx_kp0 ?_)
  refine gx_aload_n hC dJ7_putStringAt_5 rfl rfl (by first | rfl | exact gx_isr_rf _) ?_
  refine gx_aload_n hC dJ7_putStringAt_6 rfl rfl (by first | rfl | exact gx_isr_rf _) ?_
  refine gx_get hC (C := RJ8) (Tf := TJ8) (N := 4) (ci := 20) (k := 0) rfl in_J8 (by decide) q255 (fun _ h9 => h9) dJ7_putStringAt_7 (by repeat (first | assumption | exact Or.inr gx_us | exact Or.inr (by assumption) | exact Or.inl (by assumption) | refine gx_tu (by omega) ?_)) rfl ?_
  refine gx_iload_n hC dJ7_putStringAt_10 rfl rfl ?_
  refine gx_aload_n hC dJ7_putStringAt_11 rfl rfl (by first | rfl | exact gx_isr_rf _) ?_
  refine gx_get hC (C := RJ8) (Tf := TJ8) (N := 4) (ci := 20) (k := 1) rfl in_J8 (by decide) q256 (fun _ h9 => h9) dJ7_putStringAt_12 (by repeat (first | assumption | exact Or.inr gx_us | exact Or.inr (by assumption) | exact Or.inl (by assumption) | refine gx_tu (by omega) ?_)) rfl ?_
  refine gx_callV (nA := 3) hC (m_J9_getBytes (k := cs.length) hs0 h2 (by omega) (by omega)) (C := RJ9) (Tf := TJ9) (Nf := 4) (ci := 21) rfl (by repeat (first | assumption | exact Or.inr gx_us | exact Or.inr (by assumption) | exact Or.inl (by assumption) | refine gx_tu (by omega) ?_)) (lw_V q385 q386 q387 q88 q388) (by decide +kernel) dJ7_putStringAt_15 rfl ⟨Nat.le_of_ble_eq_true rfl, Nat.le_of_ble_eq_true rfl⟩ (gx_in.id hC (fun q hq => Or.inl hq)) rfl (by first | exact Nat.le_of_ble_eq_true rfl | simp [gx_cat_rf, Value.category]) gx_kno (fun v2 G2 nx2 hp hf hle hlt2 => ?_)
  obtain ⟨rfl, rfl, g, q1, q2⟩ := hp
  exact gx_vret hC rfl rfl rfl dJ7_putStringAt_18 (fun G' hG => ⟨rfl, rfl, _, gx_pre_app h3 q1 rfl rfl, gx_by_cpyS q1 g4 h8 rfl, hG _ _ q2⟩)
theorem m_J7_append (h : gx_SB D G a v cap cs) (hs : gx_Sx D (gx_TG T G) b w ds) (hn : cs.length + ds.length ≤ 150) (hb : b ≠ a ∧ b ≠ v ∧ w ≠ a ∧ w ≠ v) : gx_Met l yJ7_append (ws_ yJ7_append cJ7_append 3 (some (.object "java/lang/AbstractStringBuilder"))) 7 1 302 D (fun q => q = a ∨ q = v) T G nx [.ref a, .ref b] (fun x G' nx' => x = some (.ref a) ∧ gx_SG D G' a v 0 nx nx' (cs ++ ds)) gx_no := by
  have h0 := h
  obtain ⟨⟨ml, h1⟩, ⟨f, h2, h3, h8⟩, h4, h5, h6, h7⟩ := h
  have hs0 := hs
  obtain ⟨⟨hh, zz, g1⟩, ⟨g, g2, g3⟩, g4, g5⟩ := hs
  refine gx_start (by decide) (Nat.le_of_ble_eq_true rfl) rfl (fun p e s m args below meth c hC hlt => ?_)
  have hax := hlt _ _ h1
  have hvx := hlt _ _ h2
  refine gx_aload_n hC dJ7_append_0 rfl rfl (by first | rfl | exact gx_isr_rf _) ?_
  refine gx_ifnonnullR hC dJ7_append_1 (tgt := 9) (by decide) ?_
  refine gx_aload_n hC dJ7_append_9 rfl rfl (by first | rfl | exact gx_isr_rf _) ?_
  refine gx_callV (nA := 0) hC (m_J9_length hs0) (C := RJ9) (Tf := TJ9) (Nf := 4) (ci := 21) rfl (by repeat (first | assumption | exact Or.inr gx_us | exact Or.inr (by assumption) | exact Or.inl (by assumption) | refine gx_tu (by omega) ?_)) (lw_V q348 q349 q350 q88 q351) (by decide +kernel) dJ7_append_10 rfl ⟨Nat.le_of_ble_eq_true rfl, Nat.le_of_ble_eq_true rfl⟩ gx_in.id0 rfl (by first | exact Nat.le_of_ble_eq_true rfl | simp [gx_cat_rf, Value.category]) gx_kno (gx_kp1 ?_)
  refine gx_istore_n hC dJ7_append_13 rfl (by decide) (by first | rfl | simp [gx_ck, gx_lk, gx_cat_rf]) ?_
  refine gx_aload_n hC dJ7_append_14 rfl rfl (by first | rfl | exact gx_isr_rf _) ?_
  refine gx_aload_n hC dJ7_append_15 rfl rfl (by first | rfl | exact gx_isr_rf _) ?_
  refine gx_get hC (C := RJ8) (Tf := TJ8) (N := 4) (ci := 20) (k := 3) rfl in_J8 (by decide) q259 (fun _ h9 => h9) dJ7_append_16 (by repeat (first | assumption | exact Or.inr gx_us | exact Or.inr (by assumption) | exact Or.inl (by assumption) | refine gx_tu (by omega) ?_)) rfl ?_
  refine gx_iload_n hC dJ7_append_19 rfl rfl ?_
  refine gx_iadd hC dJ7_append_20 ?_
  refine gx_callP (nA := 1) hC (m_J7_ensure h0 (n := cs.length + ds.length) (by omega)) (C := RJ8) (Tf := TJ8) (Nf := 4) (ci := 20) rfl (by repeat (first | assumption | exact Or.inr gx_us | exact Or.inr (by assumption) | exact Or.inl (by assumption) | refine gx_tu (by omega) ?_)) q282 q3016 q283 q284 q86 q285 (by decide +kernel) dJ7_append_21 rfl ⟨Nat.le_of_ble_eq_true rfl, Nat.le_of_ble_eq_true rfl⟩ (gx_in.id hC (fun q hq => Or.inl (Or.inl hq))) rfl (by first | exact Nat.le_of_ble_eq_true rfl | simp [gx_cat_rf, Value.category]) gx_kno (fun v2 G2 nx2 hp hf hle hlt2 => ?_)
  obtain ⟨rfl, k1, k2, v', cap', q0, k3, k4⟩ := hp
  have hav : gx_A (fun q => q = a ∨ q = v) nx v' := by
    rcases k4 with k4 | k4
    · exact Or.inl (Or.inr k4)
    · exact Or.inr k4.1
  have hs2 : gx_Sx D (gx_TG T G2) b w ds := hs0.mono (fun e h => h.imp id (fun h => hf _ _ h hb.1)) (fun e h => h.imp id (fun h => hf _ _ h hb.2.2.1))
  have q00 := q0
  obtain ⟨⟨ml', q1⟩, ⟨f', q2, q3, q8⟩, q4, q5, q6, q7⟩ := q0
  refine gx_aload_n hC dJ7_append_24 rfl rfl (by first | rfl | exact gx_isr_rf _) ?_
  refine gx_aload_n hC dJ7_append_25 rfl rfl (by first | rfl | exact gx_isr_rf _) ?_
  refine gx_get hC (C := RJ8) (Tf := TJ8) (N := 4) (ci := 20) (k := 3) rfl in_J8 (by decide) q259 (fun _ h9 => h9) dJ7_append_26 (by repeat (first | assumption | exact Or.inr gx_us | exact Or.inr (by assumption) | exact Or.inl (by assumption) | refine gx_tu (by omega) ?_)) rfl ?_
  refine gx_aload_n hC dJ7_append_29 rfl rfl (by first | rfl | exact gx_isr_rf _) ?_
  refine gx_callP (nA := 2) hC (m_J7_putStringAt q00 hs2 (by omega)) (C := RJ8) (Tf := TJ8) (Nf := 4) (ci := 20) rfl (by repeat (first | assumption | exact Or.inr gx_us | exact Or.inr (by assumption) | exact Or.inl (by assumption) | refine gx_tu (by omega) ?_)) q357 q3018 q358 q359 q86 q360 (by decide +kernel) dJ7_append_30 rfl ⟨Nat.le_of_ble_eq_true rfl, Nat.le_of_ble_eq_true rfl⟩ (gx_in.id hC (fun q hq => by rw [hq]; exact hav)) rfl (by first | exact Nat.le_of_ble_eq_true rfl | simp [gx_cat_rf, Value.category]) gx_kno (fun v3 G3 nx3 hp hf3 hle3 hlt3 => ?_)
  obtain ⟨rfl, rfl, f9, r1, r2, r3⟩ := hp
  have r4 := hf3 _ _ q1 q7
  refine gx_aload_n hC dJ7_append_33 rfl rfl (by first | rfl | exact gx_isr_rf _) ?_
  refine gx_dup hC dJ7_append_34 (by first | rfl | exact gx_cat_rf _) ?_
  refine gx_get hC (C := RJ8) (Tf := TJ8) (N := 4) (ci := 20) (k := 3) rfl in_J8 (by decide) q259 (fun _ h9 => h9) dJ7_append_35 (by repeat (first | assumption | exact Or.inr gx_us | exact Or.inr (by assumption) | exact Or.inl (by assumption) | refine gx_tu (by omega) ?_)) rfl ?_
  refine gx_iload_n hC dJ7_append_38 rfl rfl ?_
  refine gx_iadd hC dJ7_append_39 ?_
  refine gx_put hC (C := RJ8) (Tf := TJ8) (N := 4) (ci := 20) (k := 3) rfl in_J8 (by decide) tyJ8 tyJ8_ok nmJ8 q259 (fun _ h9 => h9) rfl dJ7_append_40 (by first | exact gx_us | assumption | (repeat (first | exact gx_us | assumption | refine gx_un (by omega) ?_))) (by first | exact Or.inl rfl | exact Or.inl (Or.inl rfl) | exact Or.inl (Or.inr rfl) | exact Or.inr (by omega) | assumption | (simp only [gx_A, *]; omega)) (Nat.le_of_ble_eq_true rfl) (by first | rfl | (cases ‹Option Nat› <;> rfl) | simp [narrow]) (by first | rfl | (cases ‹Option Nat› <;> rfl) | simp [fits]) ?_
  refine gx_aload_n hC dJ7_append_43 rfl rfl (by first | rfl | exact gx_isr_rf _) ?_
  exact gx_aret hC rfl rfl rfl (by first | exact Or.inl ⟨_, rfl⟩ | exact Or.inr ⟨_, rfl⟩) (by first | rfl | exact gx_isr_rf _) dJ7_append_44 (fun G' hG => ⟨rfl, k1, k2, v', cap', gx_SB.mk (n := (cs.length : Int) + ds.length) (by simp) (hG _ _ gx_us) (hG _ _ (gx_un (fun e9 => q7 e9.symm) r3)) r1 r2 (gx_chs_app h4 g4) (by simp; omega) q6 q7, by omega, k4⟩)
theorem m_J8_append (h : gx_SB D G a v cap cs) (hs : gx_Sx D (gx_TG T G) b w ds) (hn : cs.length + ds.length ≤ 150) (hb : b ≠ a ∧ b ≠ v ∧ w ≠ a ∧ w ≠ v) : gx_Met l yJ8_append (ws_ yJ8_append cJ8_append 2 (some (.object "java/lang/StringBuilder"))) 8 1 302 D (fun q => q = a ∨ q = v) T G nx [.ref a, .ref b] (fun x G' nx' => x = some (.ref a) ∧ gx_SG D G' a v 0 nx nx' (cs ++ ds)) gx_no := by
  have h0 := h
  obtain ⟨⟨ml, h1⟩, ⟨f, h2, h3, h8⟩, h4, h5, h6, h7⟩ := h
  refine gx_start (by decide) (Nat.le_of_ble_eq_true rfl) rfl (fun p e s m args below meth c hC hlt => ?_)
  refine gx_aload_n hC dJ8_append_0 rfl rfl (by first | rfl | exact gx_isr_rf _) ?_
  refine gx_aload_n hC dJ8_append_1 rfl rfl (by first | rfl | exact gx_isr_rf _) ?_
  refine gx_callSU (nA := 1) hC (m_J7_append h0 hs hn hb) (C := RJ8) (Tf := TJ8) (Nf := 4) (ci := 20) rfl (by repeat (first | assumption | exact Or.inr gx_us | exact Or.inr (by assumption) | exact Or.inl (by assumption) | refine gx_tu (by omega) ?_)) (lw_app (List.forall_mem_cons.mpr ⟨q275, (List.forall_mem_cons.mpr ⟨q3014, (List.forall_mem_cons.mpr ⟨q268, (List.forall_mem_cons.mpr ⟨q276, (List.forall_mem_cons.mpr ⟨q86, (fun _ h9 => absurd h9 List.not_mem_nil)⟩)⟩)⟩)⟩)⟩) (lw_meth q277)) (by decide +kernel) dJ8_append_2 rfl ⟨Nat.le_of_ble_eq_true rfl, Nat.le_of_ble_eq_true rfl⟩ (gx_in.id hC (fun q hq => Or.inl hq)) rfl (by first | exact Nat.le_of_ble_eq_true rfl | simp [gx_cat_rf, Value.category]) gx_kno (fun v2 G2 nx2 hp hf hle hlt2 => ?_)
  obtain ⟨rfl, q⟩ := hp
  refine gx_pop hC dJ8_append_5 (by first | rfl | exact gx_cat_rf _) ?_
  refine gx_aload_n hC dJ8_append_6 rfl rfl (by first | rfl | exact gx_isr_rf _) ?_
  exact gx_aret hC rfl rfl rfl (by first | exact Or.inl ⟨_, rfl⟩ | exact Or.inr ⟨_, rfl⟩) (by first | rfl | exact gx_isr_rf _) dJ8_append_7 (fun G' hG => ⟨rfl, q.mono hG⟩)
theorem m_J8_append_4 (h : gx_SB D G a v cap cs) (hs : gx_Sx D (gx_TG T G) b w ds) (hn : cs.length + ds.length ≤ 150) (hb : b ≠ a ∧ b ≠ v ∧ w ≠ a ∧ w ≠ v) : gx_Met l yJ8_append_4 (ws_ yJ8_append_4 cJ8_append_4 2 (some (.object "java/lang/AbstractStringBuilder"))) 9 1 302 D (fun q => q = a ∨ q = v) T G nx [.ref a, .ref b] (fun x G' nx' => x = some (.ref a) ∧ gx_SG D G' a v 0 nx nx' (cs ++ ds)) gx_no := by
  have h0 := h
  obtain ⟨⟨ml, h1⟩, ⟨f, h2, h3, h8⟩, h4, h5, h6, h7⟩ := h
  refine gx_start (by decide) (Nat.le_of_ble_eq_true rfl) rfl (fun p e s m args below meth c hC hlt => ?_)
  refine gx_aload_n hC dJ8_append_4_0 rfl rfl (by first | rfl | exact gx_isr_rf _) ?_
  refine gx_aload_n hC dJ8_append_4_1 rfl rfl (by first | rfl | exact gx_isr_rf _) ?_
  refine gx_callV (nA := 1) hC (m_J8_append h0 hs hn hb) (C := RJ8) (Tf := TJ8) (Nf := 4) (ci := 20) rfl (by repeat (first | assumption | exact Or.inr gx_us | exact Or.inr (by assumption) | exact Or.inl (by assumption) | refine gx_tu (by omega) ?_)) (lw_V q2451 q272 q273 q87 q274) (by decide +kernel) dJ8_append_4_2 rfl ⟨Nat.le_of_ble_eq_true rfl, Nat.le_of_ble_eq_true rfl⟩ (gx_in.id hC (fun q hq => Or.inl hq)) rfl (by first | exact Nat.le_of_ble_eq_true rfl | simp [gx_cat_rf, Value.category]) gx_kno (fun v2 G2 nx2 hp hf hle hlt2 => ?_)
  obtain ⟨rfl, q⟩ := hp
  exact gx_aret hC rfl rfl rfl (by first | exact Or.inl ⟨_, rfl⟩ | exact Or.inr ⟨_, rfl⟩) (by first | rfl | exact gx_isr_rf _) dJ8_append_4_5 (fun G' hG => ⟨rfl, q.mono hG⟩)
/-- one digit -/
theorem m_J17_stringSize {x9 : Int} (hx : 0 ≤ x9 ∧ x9 < 10) : gx_Met l yJ17_stringSize (ws_ yJ17_stringSize cJ17_stringSize 4 (some .int)) 1 0 0 D gx_M0 T G nx [.int (iz x9)] (gx_P (some (.int (iz 1))) nx) gx_no := by
  refine gx_start (by decide) (Nat.le_of_ble_eq_true rfl) rfl (fun p e s m args below meth c hC hlt => ?_)
  refine gx_iconst hC dJ17_stringSize_0 ?_
  refine gx_istore_n hC dJ17_stringSize_1 rfl (by decide) (by first | rfl | simp [gx_ck, gx_lk, gx_cat_rf]) ?_
  refine gx_iload_n hC dJ17_stringSize_2 rfl rfl ?_
  refine gx_if_lt hC dJ17_stringSize_3 (tgt := 11) (by decide) (by unfold gx_rg; omega) (fun c3 => ?_) (fun c3 => ?_)
  · omega
  · refine gx_iconst hC dJ17_stringSize_6 ?_
    refine gx_istore_n hC dJ17_stringSize_7 rfl (by decide) (by first | rfl | simp [gx_ck, gx_lk, gx_cat_rf]) ?_
    refine gx_iload_n hC dJ17_stringSize_8 rfl rfl ?_
    refine gx_ineg hC dJ17_stringSize_9 ?_
    refine gx_istore_n hC dJ17_stringSize_10 rfl (by decide) (by first | rfl | simp [gx_ck, gx_lk, gx_cat_rf]) ?_
    refine gx_bipush hC dJ17_stringSize_11 rfl ?_
    refine gx_istore_n hC dJ17_stringSize_13 rfl (by decide) (by first | rfl | simp [gx_ck, gx_lk, gx_cat_rf]) ?_
    refine gx_iconst hC dJ17_stringSize_14 ?_
    refine gx_istore_n hC dJ17_stringSize_15 rfl (by decide) (by first | rfl | simp [gx_ck, gx_lk, gx_cat_rf]) ?_
    refine gx_iload_n hC dJ17_stringSize_16 rfl rfl ?_
    refine gx_bipush hC dJ17_stringSize_17 rfl ?_
    refine gx_icmp_ge hC dJ17_stringSize_19 (tgt := 42) (by decide) (by unfold gx_rg; omega) (by unfold gx_rg; omega) (fun c19 => ?_) (fun c19 => ?_)
    · omega
    · refine gx_iload_n hC dJ17_stringSize_22 rfl rfl ?_
      refine gx_iload_n hC dJ17_stringSize_23 rfl rfl ?_
      refine gx_icmp_le hC dJ17_stringSize_24 (tgt := 31) (by decide) (by unfold gx_rg; omega) (by unfold gx_rg; omega) (fun c24 => ?_) (fun c24 => ?_)
      · omega
      · refine gx_iload_n hC dJ17_stringSize_27 rfl rfl ?_
        refine gx_iload_n hC dJ17_stringSize_28 rfl rfl ?_
        refine gx_iadd hC dJ17_stringSize_29 ?_
        exact gx_iret hC rfl rfl rfl dJ17_stringSize_30 (fun G' hG => ⟨rfl, rfl⟩)
theorem m_J17_getChars {x9 : Int} {n : Nat} {k : Int} {f g : Nat → Int} (hx : 0 ≤ x9 ∧ x9 < 10) (hd : gx_TG T G (D.2.2 3) (gx_I D 1 100 f)) (hf9 : ∀ j, j < 10 → f j = 48 + j) (hg : G v (gx_I D 1 n g)) (hk : 0 ≤ k ∧ k < n ∧ n ≤ 300) : gx_Met l yJ17_getChars (ws_ yJ17_getChars cJ17_getChars 7 (some .int)) 1 0 0 D (fun q => q = v) T G nx [.int (iz x9), .int (iz (k + 1)), .ref v] (fun x G' nx' => x = some (.int (iz k)) ∧ nx' = nx ∧ G' v (gx_I D 1 n (gx_fu g k.toNat (48 + x9)))) gx_no := by
  have e1 : f (-(-x9)).toNat = 48 + x9 := by
    rw [hf9 _ (by omega)]
    omega
  refine gx_start (by decide) (Nat.le_of_ble_eq_true rfl) rfl (fun p e s m args below meth c hC hlt => ?_)
  refine gx_iload_n hC dJ17_getChars_0 rfl rfl ?_
  refine gx_istore hC dJ17_getChars_1 (by decide) (by first | rfl | simp [gx_ck, gx_lk, gx_cat_rf]) ?_
  refine gx_iload_n hC dJ17_getChars_3 rfl rfl ?_
  refine gx_if_ge hC dJ17_getChars_4 (tgt := 11) (by decide) (by unfold gx_rg; omega) (fun c4 => ?_) (fun c4 => ?_)
  · refine gx_iconst hC dJ17_getChars_11 ?_
    refine gx_istore hC dJ17_getChars_12 (by decide) (by first | rfl | simp [gx_ck, gx_lk, gx_cat_rf]) ?_
    refine gx_iload hC dJ17_getChars_14 rfl ?_
    refine gx_if_ne hC dJ17_getChars_16 (tgt := 22) (by decide) (by unfold gx_rg; omega) (fun c16 => ?_) (fun c16 => ?_)
    · omega
    · refine gx_iload_n hC dJ17_getChars_19 rfl rfl ?_
      refine gx_ineg hC dJ17_getChars_20 ?_
      refine gx_istore_n hC dJ17_getChars_21 rfl (by decide) (by first | rfl | simp [gx_ck, gx_lk, gx_cat_rf]) ?_
      refine gx_iload_n hC dJ17_getChars_22 rfl rfl ?_
      refine gx_bipush hC dJ17_getChars_23 rfl ?_
      refine gx_icmp_gt hC dJ17_getChars_25 (tgt := 72) (by decide) (by unfold gx_rg; omega) (by unfold gx_rg; omega) (fun c25 => ?_) (fun c25 => ?_)
      · refine gx_aload_n hC dJ17_getChars_72 rfl rfl (by first | rfl | exact gx_isr_rf _) ?_
        refine gx_iinc hC dJ17_getChars_73 rfl (by decide) (by first | rfl | simp [gx_ck, gx_lk, gx_cat_rf]) ?_
        refine gx_iload hC dJ17_getChars_76 rfl ?_
        refine gx_gets hC (List.mem_cons_of_mem _ (List.mem_cons_of_mem _ (List.mem_cons_of_mem _ (List.mem_cons_of_mem _ (List.mem_cons_of_mem _ List.mem_cons_self))))) q404 (fun _ h9 => h9) dJ17_getChars_78 ?_
        refine gx_iload_n hC dJ17_getChars_81 rfl rfl ?_
        refine gx_ineg hC dJ17_getChars_82 ?_
        refine gx_bald hC (t := 1) rfl dJ17_getChars_83 (by repeat (first | assumption | exact Or.inr gx_us | exact Or.inr (by assumption) | exact Or.inl (by assumption) | refine gx_tu (by omega) ?_)) (by omega) ?_
        rw [e1, show k + 1 + -1 = k by omega]
        refine gx_bast hC (t := 1) rfl dJ17_getChars_84 (by first | exact gx_us | assumption | (repeat (first | exact gx_us | assumption | refine gx_un (by omega) ?_))) (by first | exact Or.inl rfl | exact Or.inl (Or.inl rfl) | exact Or.inl (Or.inr rfl) | exact Or.inr (by omega) | assumption | (simp only [gx_A, *]; omega)) (by omega) (gx_ci2b (by omega)) ?_
        refine gx_iload_n hC dJ17_getChars_85 rfl rfl ?_
        refine gx_bipush hC dJ17_getChars_86 rfl ?_
        refine gx_icmp_ge hC dJ17_getChars_88 (tgt := 104) (by decide) (by unfold gx_rg; omega) (by unfold gx_rg; omega) (fun c88 => ?_) (fun c88 => ?_)
        · refine gx_iload hC dJ17_getChars_104 rfl ?_
          refine gx_if_eq hC dJ17_getChars_106 (tgt := 118) (by decide) (by unfold gx_rg; omega) (fun c106 => ?_) (fun c106 => ?_)
          · refine gx_iload hC dJ17_getChars_118 rfl ?_
            exact gx_iret hC rfl rfl rfl dJ17_getChars_120 (fun G' hG => ⟨rfl, rfl, hG _ _ gx_us⟩)
          · omega
        · omega
      · omega
  · omega
theorem m_J7_append_2 {x9 : Int} {f9 : Nat → Int} (h : gx_SB D G a v cap cs) (hx : 0 ≤ x9 ∧ x9 < 10) (hd : T (D.2.2 3) (gx_I D 1 100 f9)) (hf9 : ∀ j, j < 10 → f9 j = 48 + j) (hn : cs.length < 150) : gx_Met l yJ7_append_2 (ws_ yJ7_append_2 cJ7_append_2 4 (some (.object "java/lang/AbstractStringBuilder"))) 7 1 302 D (fun q => q = a ∨ q = v) T G nx [.ref a, .int (iz x9)] (fun x G' nx' => x = some (.ref a) ∧ gx_SG D G' a v 0 nx nx' (cs ++ [48 + x9])) gx_no := by
  have h0 := h
  obtain ⟨⟨ml, h1⟩, ⟨f, h2, h3, h8⟩, h4, h5, h6, h7⟩ := h
  refine gx_start (by decide) (Nat.le_of_ble_eq_true rfl) rfl (fun p e s m args below meth c hC hlt => ?_)
  have hax := hlt _ _ h1
  have hvx := hlt _ _ h2
  refine gx_aload_n hC dJ7_append_2_0 rfl rfl (by first | rfl | exact gx_isr_rf _) ?_
  refine gx_get hC (C := RJ8) (Tf := TJ8) (N := 4) (ci := 20) (k := 3) rfl in_J8 (by decide) q259 (fun _ h9 => h9) dJ7_append_2_1 (by repeat (first | assumption | exact Or.inr gx_us | exact Or.inr (by assumption) | exact Or.inl (by assumption) | refine gx_tu (by omega) ?_)) rfl ?_
  refine gx_istore_n hC dJ7_append_2_4 rfl (by decide) (by first | rfl | simp [gx_ck, gx_lk, gx_cat_rf]) ?_
  refine gx_iload_n hC dJ7_append_2_5 rfl rfl ?_
  refine gx_iload_n hC dJ7_append_2_6 rfl rfl ?_
  refine gx_callS (nA := 1) hC (m_J17_stringSize hx) (lw_S q398 q399 q97 q400) (by decide +kernel) dJ7_append_2_7 rfl ⟨Nat.le_of_ble_eq_true rfl, Nat.le_of_ble_eq_true rfl⟩ gx_in.id0 rfl (by first | exact Nat.le_of_ble_eq_true rfl | simp [gx_cat_rf, Value.category]) gx_kno (gx_kp1 ?_)
  refine gx_iadd hC dJ7_append_2_10 ?_
  refine gx_istore_n hC dJ7_append_2_11 rfl (by decide) (by first | rfl | simp [gx_ck, gx_lk, gx_cat_rf]) ?_
  refine gx_aload_n hC dJ7_append_2_12 rfl rfl (by first | rfl | exact gx_isr_rf _) ?_
  refine gx_iload_n hC dJ7_append_2_13 rfl rfl ?_
  refine gx_callP (nA := 1) hC (m_J7_ensure h0 (n := cs.length + 1) (by omega)) (C := RJ8) (Tf := TJ8) (Nf := 4) (ci := 20) rfl (by repeat (first | assumption | exact Or.inr gx_us | exact Or.inr (by assumption) | exact Or.inl (by assumption) | refine gx_tu (by omega) ?_)) q282 q3016 q283 q284 q86 q285 (by decide +kernel) dJ7_append_2_14 rfl ⟨Nat.le_of_ble_eq_true rfl, Nat.le_of_ble_eq_true rfl⟩ (gx_in.id hC (fun q hq => Or.inl (Or.inl hq))) rfl (by first | exact Nat.le_of_ble_eq_true rfl | simp [gx_cat_rf, Value.category]) gx_kno (fun v2 G2 nx2 hp hf hle hlt2 => ?_)
  obtain ⟨rfl, k1, k2, v', cap', q0, k3, k4⟩ := hp
  have hav : gx_A (fun q => q = a ∨ q = v) nx v' := by
    rcases k4 with k4 | k4
    · exact Or.inl (Or.inr k4)
    · exact Or.inr k4.1
  have q0' : gx_SB D (gx_TG T G2) a v' cap' cs := q0.mono (fun _ => Or.inr) (fun _ => Or.inr)
  obtain ⟨⟨ml', q1⟩, ⟨f', q2, q3, q8⟩, q4, q5, q6, q7⟩ := q0
  refine gx_aload_n hC dJ7_append_2_17 rfl rfl (by first | rfl | exact gx_isr_rf _) ?_
  refine gx_callU (nA := 0) hC (m_J7_isLatin1 q0') (C := RJ8) (Tf := TJ8) (Nf := 4) (ci := 20) rfl (by repeat (first | assumption | exact Or.inr gx_us | exact Or.inr (by assumption) | exact Or.inl (by assumption) | refine gx_tu (by omega) ?_)) (lw_app (List.forall_mem_cons.mpr ⟨q317, (List.forall_mem_cons.mpr ⟨q319, (List.forall_mem_cons.mpr ⟨q320, (List.forall_mem_cons.mpr ⟨q318, (List.forall_mem_cons.mpr ⟨q86, (fun _ h9 => absurd h9 List.not_mem_nil)⟩)⟩)⟩)⟩)⟩) (lw_meth q321)) rfl (by decide +kernel) dJ7_append_2_18 rfl ⟨Nat.le_of_ble_eq_true rfl, Nat.le_of_ble_eq_true rfl⟩ gx_in.id0 rfl (by first | exact Nat.le_of_ble_eq_true rfl | simp [gx_cat_rf, Value.category]) gx_kno (gx_kp1 ?_)
  refine gx_if_eq hC dJ7_append_2_21 (tgt := 37) (by decide) (by unfold gx_rg; omega) (fun c21 => ?_) (fun c21 => ?_)
  · omega
  · refine gx_iload_n hC dJ7_append_2_24 rfl rfl ?_
    refine gx_iload_n hC dJ7_append_2_25 rfl rfl ?_
    refine gx_aload_n hC dJ7_append_2_26 rfl rfl (by first | rfl | exact gx_isr_rf _) ?_
    refine gx_get hC (C := RJ8) (Tf := TJ8) (N := 4) (ci := 20) (k := 0) rfl in_J8 (by decide) q255 (fun _ h9 => h9) dJ7_append_2_27 (by repeat (first | assumption | exact Or.inr gx_us | exact Or.inr (by assumption) | exact Or.inl (by assumption) | refine gx_tu (by omega) ?_)) rfl ?_
    refine gx_callS (nA := 3) hC (m_J17_getChars (k := cs.length) hx (Or.inl hd) hf9 q2 (by omega)) (lw_S q401 q402 q97 q403) (by decide +kernel) dJ7_append_2_30 rfl ⟨Nat.le_of_ble_eq_true rfl, Nat.le_of_ble_eq_true rfl⟩ (gx_in.id hC (fun q hq => by rw [hq]; exact hav)) rfl (by first | exact Nat.le_of_ble_eq_true rfl | simp [gx_cat_rf, Value.category]) gx_kno (fun v3 G3 nx3 hp hf3 hle3 hlt3 => ?_)
    obtain ⟨rfl, rfl, r3⟩ := hp
    have r4 := hf3 _ _ q1 q7
    refine gx_pop hC dJ7_append_2_33 (by first | rfl | exact gx_cat_rf _) ?_
    refine gx_goto hC dJ7_append_2_34 (tgt := 48) (by decide) ?_
    refine gx_aload_n hC dJ7_append_2_48 rfl rfl (by first | rfl | exact gx_isr_rf _) ?_
    refine gx_iload_n hC dJ7_append_2_49 rfl rfl ?_
    refine gx_put hC (C := RJ8) (Tf := TJ8) (N := 4) (ci := 20) (k := 3) rfl in_J8 (by decide) tyJ8 tyJ8_ok nmJ8 q259 (fun _ h9 => h9) rfl dJ7_append_2_50 (by first | exact gx_us | assumption | (repeat (first | exact gx_us | assumption | refine gx_un (by omega) ?_))) (by first | exact Or.inl rfl | exact Or.inl (Or.inl rfl) | exact Or.inl (Or.inr rfl) | exact Or.inr (by omega) | assumption | (simp only [gx_A, *]; omega)) (Nat.le_of_ble_eq_true rfl) (by first | rfl | (cases ‹Option Nat› <;> rfl) | simp [narrow]) (by first | rfl | (cases ‹Option Nat› <;> rfl) | simp [fits]) ?_
    refine gx_aload_n hC dJ7_append_2_53 rfl rfl (by first | rfl | exact gx_isr_rf _) ?_
    exact gx_aret hC rfl rfl rfl (by first | exact Or.inl ⟨_, rfl⟩ | exact Or.inr ⟨_, rfl⟩) (by first | rfl | exact gx_isr_rf _) dJ7_append_2_54 (fun G' hG => ⟨rfl, k1, k2, v', cap', gx_SB.mk (n := (cs.length : Int) + 1) (by simp) (hG _ _ gx_us) (hG _ _ (gx_un (fun e9 => q7 e9.symm) r3)) (gx_pre_pushF q3 (by omega)) (gx_by_upF q8 (by omega)) (gx_chs_app h4 (fun c hc => by rw [List.mem_singleton.mp hc]; omega)) (by simp; omega) q6 q7, by omega, k4⟩)
theorem m_J8_append_2 {x9 : Int} {f9 : Nat → Int} (h : gx_SB D G a v cap cs) (hx : 0 ≤ x9 ∧ x9 < 10) (hd : T (D.2.2 3) (gx_I D 1 100 f9)) (hf9 : ∀ j, j < 10 → f9 j = 48 + j) (hn : cs.length < 150) : gx_Met l yJ8_append_2 (ws_ yJ8_append_2 cJ8_append_2 2 (some (.object "java/lang/StringBuilder"))) 8 1 302 D (fun q => q = a ∨ q = v) T G nx [.ref a, .int (iz x9)] (fun x G' nx' => x = some (.ref a) ∧ gx_SG D G' a v 0 nx nx' (cs ++ [48 + x9])) gx_no := by
  have h0 := h
  obtain ⟨⟨ml, h1⟩, ⟨f, h2, h3, h8⟩, h4, h5, h6, h7⟩ := h
  refine gx_start (by decide) (Nat.le_of_ble_eq_true rfl) rfl (fun p e s m args below meth c hC hlt => ?_)
  refine gx_aload_n hC dJ8_append_2_0 rfl rfl (by first | rfl | exact gx_isr_rf _) ?_
  refine gx_iload_n hC dJ8_append_2_1 rfl rfl ?_
  refine gx_callSU (nA := 1) hC (m_J7_append_2 h0 hx hd hf9 hn) (C := RJ8) (Tf := TJ8) (Nf := 4) (ci := 20) rfl (by repeat (first | assumption | exact Or.inr gx_us | exact Or.inr (by assumption) | exact Or.inl (by assumption) | refine gx_tu (by omega) ?_)) (lw_app (List.forall_mem_cons.mpr ⟨q395, (List.forall_mem_cons.mpr ⟨q3021, (List.forall_mem_cons.mpr ⟨q268, (List.forall_mem_cons.mpr ⟨q396, (List.forall_mem_cons.mpr ⟨q86, (fun _ h9 => absurd h9 List.not_mem_nil)⟩)⟩)⟩)⟩)⟩) (lw_meth q397)) (by decide +kernel) dJ8_append_2_2 rfl ⟨Nat.le_of_ble_eq_true rfl, Nat.le_of_ble_eq_true rfl⟩ (gx_in.id hC (fun q hq => Or.inl hq)) rfl (by first | exact Nat.le_of_ble_eq_true rfl | simp [gx_cat_rf, Value.category]) gx_kno (fun v2 G2 nx2 hp hf hle hlt2 => ?_)
  obtain ⟨rfl, q⟩ := hp
  refine gx_pop hC dJ8_append_2_5 (by first | rfl | exact gx_cat_rf _) ?_
  refine gx_aload_n hC dJ8_append_2_6 rfl rfl (by first | rfl | exact gx_isr_rf _) ?_
  exact gx_aret hC rfl rfl rfl (by first | exact Or.inl ⟨_, rfl⟩ | exact Or.inr ⟨_, rfl⟩) (by first | rfl | exact gx_isr_rf _) dJ8_append_2_7 (fun G' hG => ⟨rfl, q.mono hG⟩)
end SBV

