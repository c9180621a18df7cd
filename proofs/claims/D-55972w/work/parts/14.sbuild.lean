/-! StringBuilder: appending, and its text -/
set_option maxRecDepth 100000
/-- a StringBuilder whose bytes may have moved to a new cell -/
def gx_SG (D : gx_D) (X : gx_H) (a v n nx nx' : Nat) (cs : List Int) : Prop := nx ≤ nx' ∧ nx' ≤ nx + 1 ∧ ∃ v' cap' : Nat, gx_SB D X a v' cap' cs ∧ n ≤ cap' ∧ (v' = v ∨ (nx ≤ v' ∧ v' < nx'))
theorem gx_SG.mono {D : gx_D} {X Y : gx_H} {a v n nx nx' : Nat} {cs : List Int} (h : gx_SG D X a v n nx nx' cs) (hd : ∀ q e, X q e → Y q e) : gx_SG D Y a v n nx nx' cs := by
  obtain ⟨h1, h2, v', cap', h3, h4⟩ := h
  exact ⟨h1, h2, v', cap', h3.mono (hd _) (hd _), h4⟩
theorem gx_pre_push {f : Nat → Int} {cs : List Int} {c : Int} {k : Nat} (h : gx_pre f cs) (hk : k = cs.length) : gx_pre (fun j => if j = k then c else f j) (cs ++ [c]) := by
  subst hk
  intro j hj
  simp only [List.length_append, List.length_singleton] at hj
  by_cases e : j = cs.length
  · subst e
    simp
  · dsimp only
    rw [if_neg e, h j (by omega)]
    simp [List.getD_eq_getElem?_getD, List.getElem?_append_left (show j < cs.length by omega)]
theorem gx_chs_app {cs ds : List Int} (h1 : gx_chs cs) (h2 : gx_chs ds) : gx_chs (cs ++ ds) := fun c hc => (List.mem_append.mp hc).elim (h1 c) (h2 c)
theorem gx_pre_app {f g : Nat → Int} {cs ds : List Int} {k m9 : Nat} (h1 : gx_pre f cs) (h2 : gx_pre g ds) (hk : k = cs.length) (hm : m9 = ds.length) : gx_pre (va_cpy g f 0 k m9) (cs ++ ds) := by
  subst hk hm
  intro j hj
  rw [List.length_append] at hj
  unfold va_cpy
  by_cases e : j < cs.length
  · rw [if_neg (by omega), h1 j e]
    simp [List.getD_eq_getElem?_getD, List.getElem?_append_left e]
  · rw [if_pos (by omega), h2 _ (by omega)]
    rw [List.getD_eq_getElem?_getD, List.getD_eq_getElem?_getD, List.getElem?_append_right (by omega)]
    congr 2
    omega
theorem gx_by0 : gx_by (fun _ => 0) := fun j => (by omega : (-128:Int) ≤ 0 ∧ (0:Int) < 128)
theorem gx_by_up {f : Nat → Int} {c : Int} {k : Nat} (h : gx_by f) (hc : -128 ≤ c ∧ c < 128) : gx_by (fun j => if j = k then c else f j) := by
  intro j
  dsimp only
  split
  · exact hc
  · exact h j
theorem gx_by_cpy {f g : Nat → Int} {i k n : Nat} (hf : gx_by f) (hg : gx_by g) : gx_by (va_cpy g f i k n) := by
  intro j
  unfold va_cpy
  split
  · exact hg _
  · exact hf _
theorem gx_pre_pushF {f : Nat → Int} {cs : List Int} {c : Int} {k : Nat} (h : gx_pre f cs) (hk : k = cs.length) : gx_pre (gx_fu f k c) (cs ++ [c]) := gx_pre_push h hk
theorem gx_by_upF {f : Nat → Int} {c : Int} {k : Nat} (h : gx_by f) (hc : -128 ≤ c ∧ c < 128) : gx_by (gx_fu f k c) := gx_by_up h hc
theorem gx_by_cpyS {f g : Nat → Int} {ds : List Int} {k n : Nat} (hf : gx_pre f ds) (hc : gx_chs ds) (hg : gx_by g) (hn : n = ds.length) : gx_by (va_cpy f g 0 k n) := by
  subst hn
  intro j
  unfold va_cpy
  split
  · rw [hf _ (by omega)]
    have := hc _ (gx_gmI (cs := ds) (i := j - k + 0) (by omega))
    rw [show 0 + (j - k) = j - k + 0 by omega]
    omega
  · exact hg _
section SBU
variable {l : Launch} {D : gx_D} {T G : gx_H} {nx : Nat} {a b v w cap : Nat} {cs ds : List Int}
theorem m_J7_ensure {n : Nat} (h : gx_SB D G a v cap cs) (hn : n ≤ 150) : gx_Met l yJ7_ensureCapacityInternal (ws_ yJ7_ensureCapacityInternal cJ7_ensureCapacityInternal 3 none) 5 1 302 D (fun q => q = a) T G nx [.ref a, .int (iz n)] (fun x G' nx' => x = none ∧ gx_SG D G' a v n nx nx' cs) gx_no := by
  have h0 := h
  obtain ⟨⟨ml, h1⟩, ⟨f, h2, h3, h8⟩, h4, h5, h6, h7⟩ := h
  refine gx_start (by decide) (Nat.le_of_ble_eq_true rfl) rfl (fun p e s m args below meth c hC hlt => ?_)
  have hax := hlt _ _ h1
  have hvx := hlt _ _ h2
  refine gx_aload_n hC dJ7_ensureCapacityInternal_0 rfl rfl (by first | rfl | exact gx_isr_rf _) ?_
  refine gx_get hC (C := RJ8) (Tf := TJ8) (N := 4) (ci := 20) (k := 0) rfl in_J8 (by decide) q255 (fun _ h9 => h9) dJ7_ensureCapacityInternal_1 (by repeat (first | assumption | exact Or.inr gx_us | exact Or.inr (by assumption) | exact Or.inl (by assumption) | refine gx_tu (by omega) ?_)) rfl ?_
  refine gx_alen hC (t := 1) rfl dJ7_ensureCapacityInternal_4 (by repeat (first | assumption | exact Or.inr gx_us | exact Or.inr (by assumption) | exact Or.inl (by assumption) | refine gx_tu (by omega) ?_)) ?_
  refine gx_aload_n hC dJ7_ensureCapacityInternal_5 rfl rfl (by first | rfl | exact gx_isr_rf _) ?_
  refine gx_get hC (C := RJ8) (Tf := TJ8) (N := 4) (ci := 20) (k := 1) rfl in_J8 (by decide) q256 (fun _ h9 => h9) dJ7_ensureCapacityInternal_6 (by repeat (first | assumption | exact Or.inr gx_us | exact Or.inr (by assumption) | exact Or.inl (by assumption) | refine gx_tu (by omega) ?_)) rfl ?_
  refine gx_ishr hC dJ7_ensureCapacityInternal_9 (gx_sr0) ?_
  refine gx_istore_n hC dJ7_ensureCapacityInternal_10 rfl (by decide) (by first | rfl | simp [gx_ck, gx_lk, gx_cat_rf]) ?_
  refine gx_iload_n hC dJ7_ensureCapacityInternal_11 rfl rfl ?_
  refine gx_iload_n hC dJ7_ensureCapacityInternal_12 rfl rfl ?_
  refine gx_isub hC dJ7_ensureCapacityInternal_13 ?_
  refine gx_if_le hC dJ7_ensureCapacityInternal_14 (tgt := 38) (by decide) (by unfold gx_rg; omega) (fun c14 => ?_) (fun c14 => ?_)
  · exact gx_vret hC rfl rfl rfl dJ7_ensureCapacityInternal_38 (fun G' hG => ⟨rfl, Nat.le_refl _, by omega, v, cap, h0.mono (hG _) (hG _), by omega, Or.inl rfl⟩)
  · refine gx_aload_n hC dJ7_ensureCapacityInternal_17 rfl rfl (by first | rfl | exact gx_isr_rf _) ?_
    refine gx_aload_n hC dJ7_ensureCapacityInternal_18 rfl rfl (by first | rfl | exact gx_isr_rf _) ?_
    refine gx_get hC (C := RJ8) (Tf := TJ8) (N := 4) (ci := 20) (k := 0) rfl in_J8 (by decide) q255 (fun _ h9 => h9) dJ7_ensureCapacityInternal_19 (by repeat (first | assumption | exact Or.inr gx_us | exact Or.inr (by assumption) | exact Or.inl (by assumption) | refine gx_tu (by omega) ?_)) rfl ?_
    refine gx_aload_n hC dJ7_ensureCapacityInternal_22 rfl rfl (by first | rfl | exact gx_isr_rf _) ?_
    refine gx_iload_n hC dJ7_ensureCapacityInternal_23 rfl rfl ?_
    have h0' : gx_SB D (gx_TG T G) a v cap cs := h0.mono (fun _ => Or.inr) (fun _ => Or.inr)
    refine gx_callP (nA := 1) hC (m_J7_newCapacity h0' (n := n) (by omega)) (C := RJ8) (Tf := TJ8) (Nf := 4) (ci := 20) rfl (by repeat (first | assumption | exact Or.inr gx_us | exact Or.inr (by assumption) | exact Or.inl (by assumption) | refine gx_tu (by omega) ?_)) q286 q3017 q287 q288 q86 q289 (by decide +kernel) dJ7_ensureCapacityInternal_24 rfl ⟨Nat.le_of_ble_eq_true rfl, Nat.le_of_ble_eq_true rfl⟩ gx_in.id0 rfl (by first | exact Nat.le_of_ble_eq_true rfl | simp [gx_cat_rf, Value.category]) gx_kno (fun v2 G2 nx2 hp hf hle hlt2 => ?_)
    obtain ⟨rfl, k, rfl, k1, k2⟩ := hp
    have q1 := hf _ _ h1 (fun q => q)
    have q2 := hf _ _ h2 (fun q => q)
    refine gx_aload_n hC dJ7_ensureCapacityInternal_27 rfl rfl (by first | rfl | exact gx_isr_rf _) ?_
    refine gx_get hC (C := RJ8) (Tf := TJ8) (N := 4) (ci := 20) (k := 1) rfl in_J8 (by decide) q256 (fun _ h9 => h9) dJ7_ensureCapacityInternal_28 (by repeat (first | assumption | exact Or.inr gx_us | exact Or.inr (by assumption) | exact Or.inl (by assumption) | refine gx_tu (by omega) ?_)) rfl ?_
    refine gx_ishl hC dJ7_ensureCapacityInternal_31 (gx_sl0) ?_
    have hch : ∀ j, j < cap → -128 ≤ f j ∧ f j < 128 := fun j _ => h8 j
    refine gx_callS (nA := 2) hC (m_J13_copyOf (Or.inr q2) hch (k := k) (by omega) (by omega) hvx) (lw_S q301 q302 q92 q303) (by decide +kernel) dJ7_ensureCapacityInternal_32 rfl ⟨Nat.le_of_ble_eq_true rfl, Nat.le_of_ble_eq_true rfl⟩ gx_in.id0 rfl (by first | exact Nat.le_of_ble_eq_true rfl | simp [gx_cat_rf, Value.category]) gx_kno (fun v3 G3 nx3 hp hf3 hle3 hlt3 => ?_)
    obtain ⟨rfl, rfl, g, q3, q4, q6⟩ := hp
    have q5 := hf3 _ _ q1 (fun q => q)
    refine gx_put hC (C := RJ8) (Tf := TJ8) (N := 4) (ci := 20) (k := 0) rfl in_J8 (by decide) tyJ8 tyJ8_ok nmJ8 q255 (fun _ h9 => h9) rfl dJ7_ensureCapacityInternal_35 (by first | exact gx_us | assumption | (repeat (first | exact gx_us | assumption | refine gx_un (by omega) ?_))) (by first | exact Or.inl rfl | exact Or.inl (Or.inl rfl) | exact Or.inl (Or.inr rfl) | exact Or.inr (by omega) | assumption | (simp only [gx_A, *]; omega)) (Nat.le_of_ble_eq_true rfl) (by first | rfl | (cases ‹Option Nat› <;> rfl) | simp [narrow]) (by first | rfl | (cases ‹Option Nat› <;> rfl) | simp [fits]) ?_
    exact gx_vret hC rfl rfl rfl dJ7_ensureCapacityInternal_38 (fun G' hG => ⟨rfl, by omega, by omega, nx2, k, gx_SB.mk (n := cs.length) rfl (hG _ _ gx_us) (hG _ _ (gx_un (by omega) q3)) (fun j hj => by rw [q4 j (by omega)]; exact h3 j hj) (q6 h8) h4 (by omega) k2 (by omega), by omega, Or.inr ⟨by omega, by omega⟩⟩)
/-- one character more -/
theorem m_J7_append_3 {c9 : Int} (h : gx_SB D G a v cap cs) (hc9 : 0 ≤ c9 ∧ c9 < 128) (hn : cs.length < 150) : gx_Met l yJ7_append_3 (ws_ yJ7_append_3 cJ7_append_3 2 (some (.object "java/lang/AbstractStringBuilder"))) 7 1 302 D (fun q => q = a ∨ q = v) T G nx [.ref a, .int (iz c9)] (fun x G' nx' => x = some (.ref a) ∧ gx_SG D G' a v 0 nx nx' (cs ++ [c9])) gx_no := by
  have h0 := h
  obtain ⟨⟨ml, h1⟩, ⟨f, h2, h3, h8⟩, h4, h5, h6, h7⟩ := h
  refine gx_start (by decide) (Nat.le_of_ble_eq_true rfl) rfl (fun p e s m args below meth c hC hlt => ?_)
  have hax := hlt _ _ h1
  have hvx := hlt _ _ h2
  refine gx_aload_n hC dJ7_append_3_0 rfl rfl (by first | rfl | exact gx_isr_rf _) ?_
  refine gx_aload_n hC dJ7_append_3_1 rfl rfl (by first | rfl | exact gx_isr_rf _) ?_
  refine gx_get hC (C := RJ8) (Tf := TJ8) (N := 4) (ci := 20) (k := 3) rfl in_J8 (by decide) q259 (fun _ h9 => h9) dJ7_append_3_2 (by repeat (first | assumption | exact Or.inr gx_us | exact Or.inr (by assumption) | exact Or.inl (by assumption) | refine gx_tu (by omega) ?_)) rfl ?_
  refine gx_iconst hC dJ7_append_3_5 ?_
  refine gx_iadd hC dJ7_append_3_6 ?_
  refine gx_callP (nA := 1) hC (m_J7_ensure h0 (n := cs.length + 1) (by omega)) (C := RJ8) (Tf := TJ8) (Nf := 4) (ci := 20) rfl (by repeat (first | assumption | exact Or.inr gx_us | exact Or.inr (by assumption) | exact Or.inl (by assumption) | refine gx_tu (by omega) ?_)) q282 q3016 q283 q284 q86 q285 (by decide +kernel) dJ7_append_3_7 rfl ⟨Nat.le_of_ble_eq_true rfl, Nat.le_of_ble_eq_true rfl⟩ (gx_in.id hC (fun q hq => Or.inl (Or.inl hq))) rfl (by first | exact Nat.le_of_ble_eq_true rfl | simp [gx_cat_rf, Value.category]) gx_kno (fun v2 G2 nx2 hp hf hle hlt2 => ?_)
  obtain ⟨rfl, k1, k2, v', cap', q0, k3, k4⟩ := hp
  have hav : gx_A (fun q => q = a ∨ q = v) nx v' := by
    rcases k4 with k4 | k4
    · exact Or.inl (Or.inr k4)
    · exact Or.inr k4.1
  have q0' : gx_SB D (gx_TG T G2) a v' cap' cs := q0.mono (fun _ => Or.inr) (fun _ => Or.inr)
  obtain ⟨⟨ml', q1⟩, ⟨f', q2, q3, q8⟩, q4, q5, q6, q7⟩ := q0
  refine gx_aload_n hC dJ7_append_3_10 rfl rfl (by first | rfl | exact gx_isr_rf _) ?_
  refine gx_callU (nA := 0) hC (m_J7_isLatin1 q0') (C := RJ8) (Tf := TJ8) (Nf := 4) (ci := 20) rfl (by repeat (first | assumption | exact Or.inr gx_us | exact Or.inr (by assumption) | exact Or.inl (by assumption) | refine gx_tu (by omega) ?_)) (lw_app (List.forall_mem_cons.mpr ⟨q317, (List.forall_mem_cons.mpr ⟨q319, (List.forall_mem_cons.mpr ⟨q320, (List.forall_mem_cons.mpr ⟨q318, (List.forall_mem_cons.mpr ⟨q86, (fun _ h9 => absurd h9 List.not_mem_nil)⟩)⟩)⟩)⟩)⟩) (lw_meth q321)) rfl (by decide +kernel) dJ7_append_3_11 rfl ⟨Nat.le_of_ble_eq_true rfl, Nat.le_of_ble_eq_true rfl⟩ gx_in.id0 rfl (by first | exact Nat.le_of_ble_eq_true rfl | simp [gx_cat_rf, Value.category]) gx_kno (gx_kp1 ?_)
  refine gx_if_eq hC dJ7_append_3_14 (tgt := 45) (by decide) (by unfold gx_rg; omega) (fun c14 => ?_) (fun c14 => ?_)
  · omega
  · refine gx_iload_n hC dJ7_append_3_17 rfl rfl ?_
    refine gx_callS (nA := 1) hC (m_J15_canEncode hc9) (lw_S q2088 q2089 q95 q2090) (by decide +kernel) dJ7_append_3_18 rfl ⟨Nat.le_of_ble_eq_true rfl, Nat.le_of_ble_eq_true rfl⟩ gx_in.id0 rfl (by first | exact Nat.le_of_ble_eq_true rfl | simp [gx_cat_rf, Value.category]) gx_kno (gx_kp1 ?_)
    refine gx_if_eq hC dJ7_append_3_21 (tgt := 45) (by decide) (by unfold gx_rg; omega) (fun c21 => ?_) (fun c21 => ?_)
    · omega
    · refine gx_aload_n hC dJ7_append_3_24 rfl rfl (by first | rfl | exact gx_isr_rf _) ?_
      refine gx_get hC (C := RJ8) (Tf := TJ8) (N := 4) (ci := 20) (k := 0) rfl in_J8 (by decide) q255 (fun _ h9 => h9) dJ7_append_3_25 (by repeat (first | assumption | exact Or.inr gx_us | exact Or.inr (by assumption) | exact Or.inl (by assumption) | refine gx_tu (by omega) ?_)) rfl ?_
      refine gx_aload_n hC dJ7_append_3_28 rfl rfl (by first | rfl | exact gx_isr_rf _) ?_
      refine gx_dup hC dJ7_append_3_29 (by first | rfl | exact gx_cat_rf _) ?_
      refine gx_get hC (C := RJ8) (Tf := TJ8) (N := 4) (ci := 20) (k := 3) rfl in_J8 (by decide) q259 (fun _ h9 => h9) dJ7_append_3_30 (by repeat (first | assumption | exact Or.inr gx_us | exact Or.inr (by assumption) | exact Or.inl (by assumption) | refine gx_tu (by omega) ?_)) rfl ?_
      refine gx_dup_x1 hC dJ7_append_3_33 (by first | rfl | exact gx_cat_rf _) (by first | rfl | exact gx_cat_rf _) ?_
      refine gx_iconst hC dJ7_append_3_34 ?_
      refine gx_iadd hC dJ7_append_3_35 ?_
      refine gx_put hC (C := RJ8) (Tf := TJ8) (N := 4) (ci := 20) (k := 3) rfl in_J8 (by decide) tyJ8 tyJ8_ok nmJ8 q259 (fun _ h9 => h9) rfl dJ7_append_3_36 (by first | exact gx_us | assumption | (repeat (first | exact gx_us | assumption | refine gx_un (by omega) ?_))) (by first | exact Or.inl rfl | exact Or.inl (Or.inl rfl) | exact Or.inl (Or.inr rfl) | exact Or.inr (by omega) | assumption | (simp only [gx_A, *]; omega)) (Nat.le_of_ble_eq_true rfl) (by first | rfl | (cases ‹Option Nat› <;> rfl) | simp [narrow]) (by first | rfl | (cases ‹Option Nat› <;> rfl) | simp [fits]) ?_
      refine gx_iload_n hC dJ7_append_3_39 rfl rfl ?_
      refine gx_i2b hC dJ7_append_3_40 (gx_ci2b hc9) ?_
      refine gx_bast hC (t := 1) rfl dJ7_append_3_41 (by first | exact gx_us | assumption | (repeat (first | exact gx_us | assumption | refine gx_un (by omega) ?_))) (by first | exact Or.inl rfl | exact Or.inl (Or.inl rfl) | exact Or.inl (Or.inr rfl) | exact Or.inr (by omega) | assumption | (simp only [gx_A, *]; omega)) (by omega) (gx_ci2b hc9) ?_
      refine gx_goto hC dJ7_append_3_42 (tgt := 75) (by decide) ?_
      refine gx_aload_n hC dJ7_append_3_75 rfl rfl (by first | rfl | exact gx_isr_rf _) ?_
      exact gx_aret hC rfl rfl rfl (by first | exact Or.inl ⟨_, rfl⟩ | exact Or.inr ⟨_, rfl⟩) (by first | rfl | exact gx_isr_rf _) dJ7_append_3_76 (fun G' hG => ⟨rfl, k1, k2, v', cap', gx_SB.mk (n := (cs.length : Int) + 1) (by simp) (hG _ _ (gx_un q7 gx_us)) (hG _ _ gx_us) (gx_pre_pushF q3 (by omega)) (gx_by_upF q8 (by omega)) (gx_chs_app h4 (fun c hc => by rw [List.mem_singleton.mp hc]; exact hc9)) (by simp; omega) q6 q7, by omega, k4⟩)
theorem m_J8_append_3 {c9 : Int} (h : gx_SB D G a v cap cs) (hc9 : 0 ≤ c9 ∧ c9 < 128) (hn : cs.length < 150) : gx_Met l yJ8_append_3 (ws_ yJ8_append_3 cJ8_append_3 2 (some (.object "java/lang/StringBuilder"))) 8 1 302 D (fun q => q = a ∨ q = v) T G nx [.ref a, .int (iz c9)] (fun x G' nx' => x = some (.ref a) ∧ gx_SG D G' a v 0 nx nx' (cs ++ [c9])) gx_no := by
  have h0 := h
  obtain ⟨⟨ml, h1⟩, ⟨f, h2, h3, h8⟩, h4, h5, h6, h7⟩ := h
  refine gx_start (by decide) (Nat.le_of_ble_eq_true rfl) rfl (fun p e s m args below meth c hC hlt => ?_)
  refine gx_aload_n hC dJ8_append_3_0 rfl rfl (by first | rfl | exact gx_isr_rf _) ?_
  refine gx_iload_n hC dJ8_append_3_1 rfl rfl ?_
  refine gx_callSU (nA := 1) hC (m_J7_append_3 h0 hc9 hn) (C := RJ8) (Tf := TJ8) (Nf := 4) (ci := 20) rfl (by repeat (first | assumption | exact Or.inr gx_us | exact Or.inr (by assumption) | exact Or.inl (by assumption) | refine gx_tu (by omega) ?_)) (lw_app (List.forall_mem_cons.mpr ⟨q2085, (List.forall_mem_cons.mpr ⟨q3025, (List.forall_mem_cons.mpr ⟨q268, (List.forall_mem_cons.mpr ⟨q2086, (List.forall_mem_cons.mpr ⟨q86, (fun _ h9 => absurd h9 List.not_mem_nil)⟩)⟩)⟩)⟩)⟩) (lw_meth q2087)) (by decide +kernel) dJ8_append_3_2 rfl ⟨Nat.le_of_ble_eq_true rfl, Nat.le_of_ble_eq_true rfl⟩ (gx_in.id hC (fun q hq => Or.inl hq)) rfl (by first | exact Nat.le_of_ble_eq_true rfl | simp [gx_cat_rf, Value.category]) gx_kno (fun v2 G2 nx2 hp hf hle hlt2 => ?_)
  obtain ⟨rfl, q⟩ := hp
  refine gx_pop hC dJ8_append_3_5 (by first | rfl | exact gx_cat_rf _) ?_
  refine gx_aload_n hC dJ8_append_3_6 rfl rfl (by first | rfl | exact gx_isr_rf _) ?_
  exact gx_aret hC rfl rfl rfl (by first | exact Or.inl ⟨_, rfl⟩ | exact Or.inr ⟨_, rfl⟩) (by first | rfl | exact gx_isr_rf _) dJ8_append_3_7 (fun G' hG => ⟨rfl, q.mono hG⟩)
/-- the bytes of a string, to a place of an array -/
theorem m_J9_getBytes {n k : Nat} {g : Nat → Int} (h : gx_Sx D (gx_TG T G) b w ds) (hg : G v (gx_I D 1 n g)) (hk : k + ds.length ≤ n) (hn : n ≤ 300) : gx_Met l yJ9_getBytes (ws_ yJ9_getBytes cJ9_getBytes 4 none) 3 0 0 D (fun q => q = v) T G nx [.ref b, .ref v, .int (iz k), .int (iz 0)] (fun x G' nx' => x = none ∧ nx' = nx ∧ ∃ f, gx_pre f ds ∧ G' v (gx_I D 1 n (va_cpy f g 0 k ds.length))) gx_no := by
  have h0 := h
  obtain ⟨⟨hh, zz, h1⟩, ⟨f, h2, h3⟩, h4, h5⟩ := h
  refine gx_start (by decide) (Nat.le_of_ble_eq_true rfl) rfl (fun p e s m args below meth c hC hlt => ?_)
  refine gx_aload_n hC dJ9_getBytes_0 rfl rfl (by first | rfl | exact gx_isr_rf _) ?_
  refine gx_callV (nA := 0) hC (m_J9_coder h0) (C := RJ9) (Tf := TJ9) (Nf := 4) (ci := 21) rfl (by repeat (first | assumption | exact Or.inr gx_us | exact Or.inr (by assumption) | exact Or.inl (by assumption) | refine gx_tu (by omega) ?_)) (lw_V q352 q353 q354 q88 q355) (by decide +kernel) dJ9_getBytes_1 rfl ⟨Nat.le_of_ble_eq_true rfl, Nat.le_of_ble_eq_true rfl⟩ gx_in.id0 rfl (by first | exact Nat.le_of_ble_eq_true rfl | simp [gx_cat_rf, Value.category]) gx_kno (gx_kp1 ?_)
  refine gx_iload_n hC dJ9_getBytes_4 rfl rfl ?_
  refine gx_icmp_ne hC dJ9_getBytes_5 (tgt := 28) (by decide) (by unfold gx_rg; omega) (by unfold gx_rg; omega) (fun c5 => ?_) (fun c5 => ?_)
  · exact absurd rfl c5
  · refine gx_aload_n hC dJ9_getBytes_8 rfl rfl (by first | rfl | exact gx_isr_rf _) ?_
    refine gx_get hC (C := RJ9) (Tf := TJ9) (N := 4) (ci := 21) (k := 0) rfl in_J9 (by decide) q497 (fun _ h9 => h9) dJ9_getBytes_9 (by repeat (first | assumption | exact Or.inr gx_us | exact Or.inr (by assumption) | exact Or.inl (by assumption) | refine gx_tu (by omega) ?_)) rfl ?_
    refine gx_iconst hC dJ9_getBytes_12 ?_
    refine gx_aload_n hC dJ9_getBytes_13 rfl rfl (by first | rfl | exact gx_isr_rf _) ?_
    refine gx_iload_n hC dJ9_getBytes_14 rfl rfl ?_
    refine gx_iload_n hC dJ9_getBytes_15 rfl rfl ?_
    refine gx_ishl hC dJ9_getBytes_16 (gx_sl0) ?_
    refine gx_aload_n hC dJ9_getBytes_17 rfl rfl (by first | rfl | exact gx_isr_rf _) ?_
    refine gx_get hC (C := RJ9) (Tf := TJ9) (N := 4) (ci := 21) (k := 0) rfl in_J9 (by decide) q497 (fun _ h9 => h9) dJ9_getBytes_18 (by repeat (first | assumption | exact Or.inr gx_us | exact Or.inr (by assumption) | exact Or.inl (by assumption) | refine gx_tu (by omega) ?_)) rfl ?_
    refine gx_alen hC (t := 1) rfl dJ9_getBytes_21 (by repeat (first | assumption | exact Or.inr gx_us | exact Or.inr (by assumption) | exact Or.inl (by assumption) | refine gx_tu (by omega) ?_)) ?_
    have hel2 : ∀ i : Nat, i < ((ds.length : Int)).toNat → -128 ≤ f ((0 : Int).toNat + i) ∧ f ((0 : Int).toNat + i) < 128 := fun i hi => by
      have := h4 _ (gx_gmI (cs := ds) (i := i) (by omega))
      rw [show (0 : Int).toNat + i = i by omega, h3 i (by omega)]
      omega
    refine gx_copyB hC q389 q316 q315 q93 dJ9_getBytes_22 (by repeat (first | assumption | exact Or.inr gx_us | exact Or.inr (by assumption) | exact Or.inl (by assumption) | refine gx_tu (by omega) ?_)) (by first | exact gx_us | assumption | (repeat (first | exact gx_us | assumption | refine gx_un (by omega) ?_))) (by first | exact Or.inl rfl | exact Or.inl (Or.inl rfl) | exact Or.inl (Or.inr rfl) | exact Or.inr (by omega) | assumption | (simp only [gx_A, *]; omega)) (by omega) hel2 (Nat.le_of_ble_eq_true rfl) (by first | exact Nat.le_of_ble_eq_true rfl | decide) ?_
    refine gx_goto hC dJ9_getBytes_25 (tgt := 43) (by decide) ?_
    exact gx_vret hC rfl rfl rfl dJ9_getBytes_43 (fun G' hG => ⟨rfl, rfl, f, h3, by have := hG _ _ gx_us; exact this⟩)
end SBU

