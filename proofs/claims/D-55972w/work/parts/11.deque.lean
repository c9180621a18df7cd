/-! java.util.ArrayDeque with its first 17 places: it never grows -/
set_option maxRecDepth 100000
/-- a deque at a, its places at ed, holding xs from place h on -/
def gx_DQ (D : gx_D) (X : gx_H) (a ed : Nat) (xs : List Nat) : Prop :=
  ∃ (h : Nat) (f : Nat → Option Nat), X a (gx_O 23 [.ref ed, .int (iz (h : Int)), .int (iz (((h + xs.length) % 17 : Nat) : Int))]) ∧ X ed (gx_Q D 2 17 f) ∧ h < 17 ∧ xs.length ≤ 15 ∧ (∀ j, j < xs.length → f ((h + j) % 17) = some (xs.getD j 0)) ∧ a ≠ ed
theorem gx_DQ.mk {D : gx_D} {X : gx_H} {a ed : Nat} {xs : List Nat} {f : Nat → Option Nat} (h : Nat) {z w : Int} (hz : z = (h : Int)) (hw : w = (((h + xs.length) % 17 : Nat) : Int)) (h1 : X a (gx_O 23 [.ref ed, .int (iz z), .int (iz w)])) (h2 : X ed (gx_Q D 2 17 f)) (h3 : h < 17) (h4 : xs.length ≤ 15) (h5 : ∀ j, j < xs.length → f ((h + j) % 17) = some (xs.getD j 0)) (h6 : a ≠ ed) : gx_DQ D X a ed xs := by
  subst hz hw
  exact ⟨h, f, h1, h2, h3, h4, h5, h6⟩
theorem gx_DQ.mono {D : gx_D} {X Y : gx_H} {a ed : Nat} {xs : List Nat} (h : gx_DQ D X a ed xs) (ha : ∀ e, X a e → Y a e) (hd : ∀ e, X ed e → Y ed e) : gx_DQ D Y a ed xs := by
  obtain ⟨k, f, h1, h2, h3⟩ := h
  exact ⟨k, f, ha _ h1, hd _ h2, h3⟩
theorem gx_DQ.len {D : gx_D} {X : gx_H} {a ed : Nat} {xs : List Nat} (h : gx_DQ D X a ed xs) : xs.length ≤ 15 := by
  obtain ⟨k, f, h1, h2, h3, h4, h5⟩ := h
  exact h4
theorem gx_dq_push {k v z : Nat} {f : Nat → Option Nat} {xs : List Nat} (h5 : ∀ j, j < xs.length → f ((k + j) % 17) = some (xs.getD j 0)) (h3 : k < 17) (h4 : xs.length ≤ 15) (hl : xs.length < 15) (hz : z = (k + xs.length) % 17) : ∀ j, j < (xs ++ [v]).length → gx_fq f z (some v) ((k + j) % 17) = some ((xs ++ [v]).getD j 0) := by
  intro j hj
  simp only [List.length_append, List.length_singleton] at hj
  unfold gx_fq
  by_cases e : j = xs.length
  · subst e
    rw [if_pos (by omega)]
    simp
  · rw [if_neg (by omega), h5 j (by omega)]
    simp [List.getD_eq_getElem?_getD, List.getElem?_append_left (show j < xs.length by omega)]
section DQ
variable {l : Launch} {D : gx_D} {T G : gx_H} {nx : Nat} {a ed v : Nat} {xs : List Nat}
theorem m_J18_inc {x z : Int} (h1 : 0 ≤ x ∧ x < 17) (hz : z = if x + 1 < 17 then x + 1 else 0) : gx_Met l yJ18_inc (ws_ yJ18_inc cJ18_inc 2 (some .int)) 1 0 0 D gx_M0 T G nx [.int (iz x), .int (iz 17)] (gx_P (some (.int (iz z))) nx) gx_no := by
  refine gx_start (by decide) (Nat.le_of_ble_eq_true rfl) rfl (fun p e s m args below meth c hC hlt => ?_)
  refine gx_iinc hC dJ18_inc_0 rfl (by decide) (by first | rfl | simp [gx_ck, gx_lk, gx_cat_rf]) ?_
  refine gx_iload_n hC dJ18_inc_3 rfl rfl ?_
  refine gx_iload_n hC dJ18_inc_4 rfl rfl ?_
  refine gx_icmp_lt hC dJ18_inc_5 (tgt := 10) (by decide) (by unfold gx_rg; omega) (by unfold gx_rg; omega) (fun c5 => ?_) (fun c5 => ?_)
  · rw [if_pos c5] at hz
    subst hz
    refine gx_iload_n hC dJ18_inc_10 rfl rfl ?_
    exact gx_iret hC rfl rfl rfl dJ18_inc_11 (fun G' hG => ⟨rfl, rfl⟩)
  · rw [if_neg (by omega)] at hz
    subst hz
    refine gx_iconst hC dJ18_inc_8 ?_
    refine gx_istore_n hC dJ18_inc_9 rfl (by decide) (by first | rfl | simp [gx_ck, gx_lk, gx_cat_rf]) ?_
    refine gx_iload_n hC dJ18_inc_10 rfl rfl ?_
    exact gx_iret hC rfl rfl rfl dJ18_inc_11 (fun G' hG => ⟨rfl, rfl⟩)
theorem m_J18_dec {x z : Int} (h1 : 0 ≤ x ∧ x < 17) (hz : z = if 0 < x then x - 1 else 16) : gx_Met l yJ18_dec (ws_ yJ18_dec cJ18_dec 2 (some .int)) 1 0 0 D gx_M0 T G nx [.int (iz x), .int (iz 17)] (gx_P (some (.int (iz z))) nx) gx_no := by
  refine gx_start (by decide) (Nat.le_of_ble_eq_true rfl) rfl (fun p e s m args below meth c hC hlt => ?_)
  refine gx_iinc hC dJ18_dec_0 rfl (by decide) (by first | rfl | simp [gx_ck, gx_lk, gx_cat_rf]) ?_
  refine gx_iload_n hC dJ18_dec_3 rfl rfl ?_
  refine gx_if_ge hC dJ18_dec_4 (tgt := 11) (by decide) (by unfold gx_rg; omega) (fun c4 => ?_) (fun c4 => ?_)
  · rw [if_pos (by omega)] at hz
    subst hz
    refine gx_iload_n hC dJ18_dec_11 rfl rfl ?_
    exact gx_iret hC rfl rfl rfl dJ18_dec_12 (fun G' hG => ⟨rfl, rfl⟩)
  · rw [if_neg (by omega)] at hz
    subst hz
    refine gx_iload_n hC dJ18_dec_7 rfl rfl ?_
    refine gx_iconst hC dJ18_dec_8 ?_
    refine gx_isub hC dJ18_dec_9 ?_
    refine gx_istore_n hC dJ18_dec_10 rfl (by decide) (by first | rfl | simp [gx_ck, gx_lk, gx_cat_rf]) ?_
    refine gx_iload_n hC dJ18_dec_11 rfl rfl ?_
    exact gx_iret hC rfl rfl rfl dJ18_dec_12 (fun G' hG => ⟨rfl, rfl⟩)
theorem m_J18_sub {x y z : Int} (h1 : 0 ≤ x ∧ x < 17) (h2 : 0 ≤ y ∧ y < 17) (hz : z = if 0 ≤ x - y then x - y else x - y + 17) : gx_Met l yJ18_sub (ws_ yJ18_sub cJ18_sub 3 (some .int)) 1 0 0 D gx_M0 T G nx [.int (iz x), .int (iz y), .int (iz 17)] (gx_P (some (.int (iz z))) nx) gx_no := by
  refine gx_start (by decide) (Nat.le_of_ble_eq_true rfl) rfl (fun p e s m args below meth c hC hlt => ?_)
  refine gx_iload_n hC dJ18_sub_0 rfl rfl ?_
  refine gx_iload_n hC dJ18_sub_1 rfl rfl ?_
  refine gx_isub hC dJ18_sub_2 ?_
  refine gx_dup hC dJ18_sub_3 (by first | rfl | exact gx_cat_rf _) ?_
  refine gx_istore_n hC dJ18_sub_4 rfl (by decide) (by first | rfl | simp [gx_ck, gx_lk, gx_cat_rf]) ?_
  refine gx_if_ge hC dJ18_sub_5 (tgt := 12) (by decide) (by unfold gx_rg; omega) (fun c5 => ?_) (fun c5 => ?_)
  · rw [if_pos (by omega)] at hz
    subst hz
    refine gx_iload_n hC dJ18_sub_12 rfl rfl ?_
    exact gx_iret hC rfl rfl rfl dJ18_sub_13 (fun G' hG => ⟨rfl, rfl⟩)
  · rw [if_neg (by omega)] at hz
    subst hz
    refine gx_iload_n hC dJ18_sub_8 rfl rfl ?_
    refine gx_iload_n hC dJ18_sub_9 rfl rfl ?_
    refine gx_iadd hC dJ18_sub_10 ?_
    refine gx_istore_n hC dJ18_sub_11 rfl (by decide) (by first | rfl | simp [gx_ck, gx_lk, gx_cat_rf]) ?_
    refine gx_iload_n hC dJ18_sub_12 rfl rfl ?_
    exact gx_iret hC rfl rfl rfl dJ18_sub_13 (fun G' hG => ⟨rfl, rfl⟩)
theorem m_J18_elementAt {f : Nat → Option Nat} {k : Nat} (h : gx_TG T G ed (gx_Q D 2 17 f)) (hk : k < 17) (hv : f k = some v) : gx_Met l yJ18_elementAt (ws_ yJ18_elementAt cJ18_elementAt 2 (some (.object "java/lang/Object"))) 1 0 0 D gx_M0 T G nx [.ref ed, .int (iz (k : Int))] (gx_P (some (.ref v)) nx) gx_no := by
  refine gx_start (by decide) (Nat.le_of_ble_eq_true rfl) rfl (fun p e s m args below meth c hC hlt => ?_)
  refine gx_aload_n hC dJ18_elementAt_0 rfl rfl (by first | rfl | exact gx_isr_rf _) ?_
  refine gx_iload_n hC dJ18_elementAt_1 rfl rfl ?_
  refine gx_aald hC (t := 2) rfl dJ18_elementAt_2 h (by omega) (v := .ref v) (by rw [show ((k : Int)).toNat = k from rfl, hv]; rfl) ?_
  exact gx_aret hC rfl rfl rfl (by first | exact Or.inl ⟨_, rfl⟩ | exact Or.inr ⟨_, rfl⟩) (by first | rfl | exact gx_isr_rf _) dJ18_elementAt_3 (fun G' hG => ⟨rfl, rfl⟩)
theorem m_J18_init (h : G a (gx_O 23 fdJ18)) : gx_Met l yJ18_init (ws_ yJ18_init cJ18_init 1 none) 4 1 17 D (fun q => q = a) T G nx [.ref a] (fun w G' nx' => w = none ∧ nx' = nx + 1 ∧ gx_DQ D G' a nx []) gx_no := by
  refine gx_start (by decide) (Nat.le_of_ble_eq_true rfl) rfl (fun p e s m args below meth c hC hlt => ?_)
  have hax := hlt _ _ h
  refine gx_aload_n hC dJ18_init_0 rfl rfl (by first | rfl | exact gx_isr_rf _) ?_
  refine gx_callI (nA := 0) hC (m_J0_init (w := .ref a) rfl rfl) (lw_meth q184) q79 q644 q183 rfl (by decide +kernel) dJ18_init_1 rfl ⟨Nat.le_of_ble_eq_true rfl, Nat.le_of_ble_eq_true rfl⟩ gx_in.id0 rfl (by first | exact Nat.le_of_ble_eq_true rfl | simp [gx_cat_rf, Value.category]) gx_kno (gx_kp0 ?_)
  refine gx_aload_n hC dJ18_init_4 rfl rfl (by first | rfl | exact gx_isr_rf _) ?_
  refine gx_bipush hC dJ18_init_5 rfl ?_
  refine gx_newq hC (t := 2) (C := "java/lang/Object") (N := 17) q645 q187 rfl dJ18_init_7 (by first | rfl | omega) (by first | decide | omega) ?_
  refine gx_put hC (C := RJ18) (Tf := TJ18) (N := 3) (ci := 23) (k := 0) rfl in_J18 (by decide) tyJ18 tyJ18_ok nmJ18 q646 (fun _ h9 => h9) rfl dJ18_init_10 (by first | exact gx_us | assumption | (repeat (first | exact gx_us | assumption | refine gx_un (by omega) ?_))) (by first | exact Or.inl rfl | exact Or.inl (Or.inl rfl) | exact Or.inl (Or.inr rfl) | exact Or.inr (by omega) | assumption | (simp only [gx_A, *]; omega)) (Nat.le_of_ble_eq_true rfl) (by first | rfl | (cases ‹Option Nat› <;> rfl) | simp [narrow]) (by first | rfl | (cases ‹Option Nat› <;> rfl) | simp [fits]) ?_
  exact gx_vret hC rfl rfl rfl dJ18_init_13 (fun G' hG => ⟨rfl, rfl, gx_DQ.mk 0 rfl rfl (hG _ _ gx_us) (hG _ _ (gx_un (by omega) gx_us)) (by omega) (by simp) (fun j hj => by simp at hj) (by omega)⟩)
theorem m_J18_size (h : gx_DQ D (gx_TG T G) a ed xs) : gx_Met l yJ18_size (ws_ yJ18_size cJ18_size 1 (some .int)) 2 0 0 D gx_M0 T G nx [.ref a] (gx_P (some (.int (iz xs.length))) nx) gx_no := by
  obtain ⟨k, f, h1, h2, h3, h4, h5, h6⟩ := h
  refine gx_start (by decide) (Nat.le_of_ble_eq_true rfl) rfl (fun p e s m args below meth c hC hlt => ?_)
  refine gx_aload_n hC dJ18_size_0 rfl rfl (by first | rfl | exact gx_isr_rf _) ?_
  refine gx_get hC (C := RJ18) (Tf := TJ18) (N := 3) (ci := 23) (k := 2) rfl in_J18 (by decide) q648 (fun _ h9 => h9) dJ18_size_1 (by repeat (first | assumption | exact Or.inr gx_us | exact Or.inr (by assumption) | exact Or.inl (by assumption) | refine gx_tu (by omega) ?_)) rfl ?_
  refine gx_aload_n hC dJ18_size_4 rfl rfl (by first | rfl | exact gx_isr_rf _) ?_
  refine gx_get hC (C := RJ18) (Tf := TJ18) (N := 3) (ci := 23) (k := 1) rfl in_J18 (by decide) q647 (fun _ h9 => h9) dJ18_size_5 (by repeat (first | assumption | exact Or.inr gx_us | exact Or.inr (by assumption) | exact Or.inl (by assumption) | refine gx_tu (by omega) ?_)) rfl ?_
  refine gx_aload_n hC dJ18_size_8 rfl rfl (by first | rfl | exact gx_isr_rf _) ?_
  refine gx_get hC (C := RJ18) (Tf := TJ18) (N := 3) (ci := 23) (k := 0) rfl in_J18 (by decide) q646 (fun _ h9 => h9) dJ18_size_9 (by repeat (first | assumption | exact Or.inr gx_us | exact Or.inr (by assumption) | exact Or.inl (by assumption) | refine gx_tu (by omega) ?_)) rfl ?_
  refine gx_alen hC (t := 2) rfl dJ18_size_12 (by repeat (first | assumption | exact Or.inr gx_us | exact Or.inr (by assumption) | exact Or.inl (by assumption) | refine gx_tu (by omega) ?_)) ?_
  refine gx_callS (nA := 3) hC (m_J18_sub (z := xs.length) (by omega) (by omega) (by split <;> omega)) (lw_S q1607 q1608 q100 q1609) (by decide +kernel) dJ18_size_13 rfl ⟨Nat.le_of_ble_eq_true rfl, Nat.le_of_ble_eq_true rfl⟩ gx_in.id0 rfl (by first | exact Nat.le_of_ble_eq_true rfl | simp [gx_cat_rf, Value.category]) gx_kno (gx_kp1 ?_)
  exact gx_iret hC rfl rfl rfl dJ18_size_16 (fun G' hG => ⟨rfl, rfl⟩)
theorem m_J18_isEmpty (h : gx_DQ D (gx_TG T G) a ed xs) : gx_Met l yJ18_isEmpty (ws_ yJ18_isEmpty cJ18_isEmpty 1 (some .boolean)) 1 0 0 D gx_M0 T G nx [.ref a] (gx_P (some (.int (iz (gx_b (xs.length = 0))))) nx) gx_no := by
  obtain ⟨k, f, h1, h2, h3, h4, h5, h6⟩ := h
  refine gx_start (by decide) (Nat.le_of_ble_eq_true rfl) rfl (fun p e s m args below meth c hC hlt => ?_)
  refine gx_aload_n hC dJ18_isEmpty_0 rfl rfl (by first | rfl | exact gx_isr_rf _) ?_
  refine gx_get hC (C := RJ18) (Tf := TJ18) (N := 3) (ci := 23) (k := 1) rfl in_J18 (by decide) q647 (fun _ h9 => h9) dJ18_isEmpty_1 (by repeat (first | assumption | exact Or.inr gx_us | exact Or.inr (by assumption) | exact Or.inl (by assumption) | refine gx_tu (by omega) ?_)) rfl ?_
  refine gx_aload_n hC dJ18_isEmpty_4 rfl rfl (by first | rfl | exact gx_isr_rf _) ?_
  refine gx_get hC (C := RJ18) (Tf := TJ18) (N := 3) (ci := 23) (k := 2) rfl in_J18 (by decide) q648 (fun _ h9 => h9) dJ18_isEmpty_5 (by repeat (first | assumption | exact Or.inr gx_us | exact Or.inr (by assumption) | exact Or.inl (by assumption) | refine gx_tu (by omega) ?_)) rfl ?_
  refine gx_icmp_ne hC dJ18_isEmpty_8 (tgt := 15) (by decide) (by unfold gx_rg; omega) (by unfold gx_rg; omega) (fun c8 => ?_) (fun c8 => ?_)
  · refine gx_iconst hC dJ18_isEmpty_15 ?_
    exact gx_zret hC rfl rfl rfl (by first | rfl | (split <;> rfl) | simp [narrow, *]) dJ18_isEmpty_16 (fun G' hG => ⟨gx_bF (by omega), rfl⟩)
  · refine gx_iconst hC dJ18_isEmpty_11 ?_
    refine gx_goto hC dJ18_isEmpty_12 (tgt := 16) (by decide) ?_
    exact gx_zret hC rfl rfl rfl (by first | rfl | (split <;> rfl) | simp [narrow, *]) dJ18_isEmpty_16 (fun G' hG => ⟨gx_bT (by omega), rfl⟩)
theorem m_J18_addLast (h : gx_DQ D G a ed xs) (hv : gx_ob (gx_TG T G) v) (hl : xs.length < 15) (hn1 : v ≠ a) (hn2 : v ≠ ed) : gx_Met l yJ18_addLast (ws_ yJ18_addLast cJ18_addLast 3 none) 3 0 0 D (fun q => q = a ∨ q = ed) T G nx [.ref a, .ref v] (fun w G' nx' => w = none ∧ nx' = nx ∧ gx_DQ D G' a ed (xs ++ [v])) gx_no := by
  obtain ⟨k, f, h1, h2, h3, h4, h5, h6⟩ := h
  obtain ⟨ci, E, Tb, Nb, gs, hc, hb, hca⟩ := hv
  refine gx_start (by decide) (Nat.le_of_ble_eq_true rfl) rfl (fun p e s m args below meth c hC hlt => ?_)
  refine gx_aload_n hC dJ18_addLast_0 rfl rfl (by first | rfl | exact gx_isr_rf _) ?_
  refine gx_ifnonnullR hC dJ18_addLast_1 (tgt := 12) (by decide) ?_
  refine gx_aload_n hC dJ18_addLast_12 rfl rfl (by first | rfl | exact gx_isr_rf _) ?_
  refine gx_get hC (C := RJ18) (Tf := TJ18) (N := 3) (ci := 23) (k := 0) rfl in_J18 (by decide) q646 (fun _ h9 => h9) dJ18_addLast_13 (by repeat (first | assumption | exact Or.inr gx_us | exact Or.inr (by assumption) | exact Or.inl (by assumption) | refine gx_tu (by omega) ?_)) rfl ?_
  refine gx_astore_n hC dJ18_addLast_16 rfl (by decide) (by first | rfl | simp [gx_ck, gx_lk, gx_cat_rf]) (by first | rfl | exact gx_isr_rf _) ?_
  refine gx_aload_n hC dJ18_addLast_17 rfl rfl (by first | rfl | exact gx_isr_rf _) ?_
  refine gx_aload_n hC dJ18_addLast_18 rfl rfl (by first | rfl | exact gx_isr_rf _) ?_
  refine gx_get hC (C := RJ18) (Tf := TJ18) (N := 3) (ci := 23) (k := 2) rfl in_J18 (by decide) q648 (fun _ h9 => h9) dJ18_addLast_19 (by repeat (first | assumption | exact Or.inr gx_us | exact Or.inr (by assumption) | exact Or.inl (by assumption) | refine gx_tu (by omega) ?_)) rfl ?_
  refine gx_aload_n hC dJ18_addLast_22 rfl rfl (by first | rfl | exact gx_isr_rf _) ?_
  refine gx_aast hC (t := 2) rfl dJ18_addLast_23 (by first | exact gx_us | assumption | (repeat (first | exact gx_us | assumption | refine gx_un (by omega) ?_))) (by first | exact Or.inl rfl | exact Or.inl (Or.inl rfl) | exact Or.inl (Or.inr rfl) | exact Or.inr (by omega) | assumption | (simp only [gx_A, *]; omega)) (by omega) hc hb hca ?_
  refine gx_aload_n hC dJ18_addLast_24 rfl rfl (by first | rfl | exact gx_isr_rf _) ?_
  refine gx_get hC (C := RJ18) (Tf := TJ18) (N := 3) (ci := 23) (k := 1) rfl in_J18 (by decide) q647 (fun _ h9 => h9) dJ18_addLast_25 (by repeat (first | assumption | exact Or.inr gx_us | exact Or.inr (by assumption) | exact Or.inl (by assumption) | refine gx_tu (by omega) ?_)) rfl ?_
  refine gx_aload_n hC dJ18_addLast_28 rfl rfl (by first | rfl | exact gx_isr_rf _) ?_
  refine gx_aload_n hC dJ18_addLast_29 rfl rfl (by first | rfl | exact gx_isr_rf _) ?_
  refine gx_get hC (C := RJ18) (Tf := TJ18) (N := 3) (ci := 23) (k := 2) rfl in_J18 (by decide) q648 (fun _ h9 => h9) dJ18_addLast_30 (by repeat (first | assumption | exact Or.inr gx_us | exact Or.inr (by assumption) | exact Or.inl (by assumption) | refine gx_tu (by omega) ?_)) rfl ?_
  refine gx_aload_n hC dJ18_addLast_33 rfl rfl (by first | rfl | exact gx_isr_rf _) ?_
  refine gx_alen hC (t := 2) rfl dJ18_addLast_34 (by repeat (first | assumption | exact Or.inr gx_us | exact Or.inr (by assumption) | exact Or.inl (by assumption) | refine gx_tu (by omega) ?_)) ?_
  refine gx_callS (nA := 2) hC (m_J18_inc (z := (((k + (xs ++ [v]).length) % 17 : Nat) : Int)) (by omega) (by rw [List.length_append, List.length_singleton]; split <;> omega)) (lw_S q761 q762 q100 q763) (by decide +kernel) dJ18_addLast_35 rfl ⟨Nat.le_of_ble_eq_true rfl, Nat.le_of_ble_eq_true rfl⟩ gx_in.id0 rfl (by first | exact Nat.le_of_ble_eq_true rfl | simp [gx_cat_rf, Value.category]) gx_kno (gx_kp1 ?_)
  refine gx_dup_x1 hC dJ18_addLast_38 (by first | rfl | exact gx_cat_rf _) (by first | rfl | exact gx_cat_rf _) ?_
  refine gx_put hC (C := RJ18) (Tf := TJ18) (N := 3) (ci := 23) (k := 2) rfl in_J18 (by decide) tyJ18 tyJ18_ok nmJ18 q648 (fun _ h9 => h9) rfl dJ18_addLast_39 (by first | exact gx_us | assumption | (repeat (first | exact gx_us | assumption | refine gx_un (by omega) ?_))) (by first | exact Or.inl rfl | exact Or.inl (Or.inl rfl) | exact Or.inl (Or.inr rfl) | exact Or.inr (by omega) | assumption | (simp only [gx_A, *]; omega)) (Nat.le_of_ble_eq_true rfl) (by first | rfl | (cases ‹Option Nat› <;> rfl) | simp [narrow]) (by first | rfl | (cases ‹Option Nat› <;> rfl) | simp [fits]) ?_
  refine gx_icmp_ne hC dJ18_addLast_42 (tgt := 50) (by decide) (by unfold gx_rg; omega) (by unfold gx_rg; omega) (fun c42 => ?_) (fun c42 => ?_)
  · exact gx_vret hC rfl rfl rfl dJ18_addLast_50 (fun G' hG => ⟨rfl, rfl, gx_DQ.mk k rfl rfl (hG _ _ gx_us) (hG _ _ (gx_un (by omega) gx_us)) h3 (by simp; omega) (gx_dq_push h5 h3 h4 hl (by omega)) h6⟩)
  · rw [List.length_append, List.length_singleton] at c42
    omega
theorem m_J18_addFirst (h : gx_DQ D G a ed xs) (hv : gx_ob (gx_TG T G) v) (hl : xs.length < 15) (hn1 : v ≠ a) (hn2 : v ≠ ed) : gx_Met l yJ18_addFirst (ws_ yJ18_addFirst cJ18_addFirst 3 none) 3 0 0 D (fun q => q = a ∨ q = ed) T G nx [.ref a, .ref v] (fun w G' nx' => w = none ∧ nx' = nx ∧ gx_DQ D G' a ed (v :: xs)) gx_no := by
  obtain ⟨k, f, h1, h2, h3, h4, h5, h6⟩ := h
  obtain ⟨ci, E, Tb, Nb, gs, hc, hb, hca⟩ := hv
  refine gx_start (by decide) (Nat.le_of_ble_eq_true rfl) rfl (fun p e s m args below meth c hC hlt => ?_)
  refine gx_aload_n hC dJ18_addFirst_0 rfl rfl (by first | rfl | exact gx_isr_rf _) ?_
  refine gx_ifnonnullR hC dJ18_addFirst_1 (tgt := 12) (by decide) ?_
  refine gx_aload_n hC dJ18_addFirst_12 rfl rfl (by first | rfl | exact gx_isr_rf _) ?_
  refine gx_get hC (C := RJ18) (Tf := TJ18) (N := 3) (ci := 23) (k := 0) rfl in_J18 (by decide) q646 (fun _ h9 => h9) dJ18_addFirst_13 (by repeat (first | assumption | exact Or.inr gx_us | exact Or.inr (by assumption) | exact Or.inl (by assumption) | refine gx_tu (by omega) ?_)) rfl ?_
  refine gx_astore_n hC dJ18_addFirst_16 rfl (by decide) (by first | rfl | simp [gx_ck, gx_lk, gx_cat_rf]) (by first | rfl | exact gx_isr_rf _) ?_
  refine gx_aload_n hC dJ18_addFirst_17 rfl rfl (by first | rfl | exact gx_isr_rf _) ?_
  refine gx_aload_n hC dJ18_addFirst_18 rfl rfl (by first | rfl | exact gx_isr_rf _) ?_
  refine gx_aload_n hC dJ18_addFirst_19 rfl rfl (by first | rfl | exact gx_isr_rf _) ?_
  refine gx_get hC (C := RJ18) (Tf := TJ18) (N := 3) (ci := 23) (k := 1) rfl in_J18 (by decide) q647 (fun _ h9 => h9) dJ18_addFirst_20 (by repeat (first | assumption | exact Or.inr gx_us | exact Or.inr (by assumption) | exact Or.inl (by assumption) | refine gx_tu (by omega) ?_)) rfl ?_
  refine gx_aload_n hC dJ18_addFirst_23 rfl rfl (by first | rfl | exact gx_isr_rf _) ?_
  refine gx_alen hC (t := 2) rfl dJ18_addFirst_24 (by repeat (first | assumption | exact Or.inr gx_us | exact Or.inr (by assumption) | exact Or.inl (by assumption) | refine gx_tu (by omega) ?_)) ?_
  refine gx_callS (nA := 2) hC (m_J18_dec (z := (((k + 16) % 17 : Nat) : Int)) (by omega) (by split <;> omega)) (lw_S q805 q806 q100 q807) (by decide +kernel) dJ18_addFirst_25 rfl ⟨Nat.le_of_ble_eq_true rfl, Nat.le_of_ble_eq_true rfl⟩ gx_in.id0 rfl (by first | exact Nat.le_of_ble_eq_true rfl | simp [gx_cat_rf, Value.category]) gx_kno (gx_kp1 ?_)
  refine gx_dup_x1 hC dJ18_addFirst_28 (by first | rfl | exact gx_cat_rf _) (by first | rfl | exact gx_cat_rf _) ?_
  refine gx_put hC (C := RJ18) (Tf := TJ18) (N := 3) (ci := 23) (k := 1) rfl in_J18 (by decide) tyJ18 tyJ18_ok nmJ18 q647 (fun _ h9 => h9) rfl dJ18_addFirst_29 (by first | exact gx_us | assumption | (repeat (first | exact gx_us | assumption | refine gx_un (by omega) ?_))) (by first | exact Or.inl rfl | exact Or.inl (Or.inl rfl) | exact Or.inl (Or.inr rfl) | exact Or.inr (by omega) | assumption | (simp only [gx_A, *]; omega)) (Nat.le_of_ble_eq_true rfl) (by first | rfl | (cases ‹Option Nat› <;> rfl) | simp [narrow]) (by first | rfl | (cases ‹Option Nat› <;> rfl) | simp [fits]) ?_
  refine gx_aload_n hC dJ18_addFirst_32 rfl rfl (by first | rfl | exact gx_isr_rf _) ?_
  refine gx_aast hC (t := 2) rfl dJ18_addFirst_33 (by first | exact gx_us | assumption | (repeat (first | exact gx_us | assumption | refine gx_un (by omega) ?_))) (by first | exact Or.inl rfl | exact Or.inl (Or.inl rfl) | exact Or.inl (Or.inr rfl) | exact Or.inr (by omega) | assumption | (simp only [gx_A, *]; omega)) (by omega) hc (hb.imp id (fun q => gx_un (by omega) q)) hca ?_
  refine gx_aload_n hC dJ18_addFirst_34 rfl rfl (by first | rfl | exact gx_isr_rf _) ?_
  refine gx_get hC (C := RJ18) (Tf := TJ18) (N := 3) (ci := 23) (k := 1) rfl in_J18 (by decide) q647 (fun _ h9 => h9) dJ18_addFirst_35 (by repeat (first | assumption | exact Or.inr gx_us | exact Or.inr (by assumption) | exact Or.inl (by assumption) | refine gx_tu (by omega) ?_)) rfl ?_
  refine gx_aload_n hC dJ18_addFirst_38 rfl rfl (by first | rfl | exact gx_isr_rf _) ?_
  refine gx_get hC (C := RJ18) (Tf := TJ18) (N := 3) (ci := 23) (k := 2) rfl in_J18 (by decide) q648 (fun _ h9 => h9) dJ18_addFirst_39 (by repeat (first | assumption | exact Or.inr gx_us | exact Or.inr (by assumption) | exact Or.inl (by assumption) | refine gx_tu (by omega) ?_)) rfl ?_
  refine gx_icmp_ne hC dJ18_addFirst_42 (tgt := 50) (by decide) (by unfold gx_rg; omega) (by unfold gx_rg; omega) (fun c42 => ?_) (fun c42 => ?_)
  · exact gx_vret hC rfl rfl rfl dJ18_addFirst_50 (fun G' hG => ⟨rfl, rfl, gx_DQ.mk ((k + 16) % 17) rfl (by rw [List.length_cons]; omega) (hG _ _ (gx_un (by omega) gx_us)) (hG _ _ gx_us) (by omega) (by simp; omega) (fun j hj => by rw [List.length_cons] at hj; unfold gx_fq; cases j with | zero => rw [if_pos (by omega)]; rfl | succ j => rw [if_neg (by omega), show ((k + 16) % 17 + (j + 1)) % 17 = (k + j) % 17 by omega, h5 j (by omega)]; rfl) h6⟩)
  · omega
theorem m_J18_pollFirst (h : gx_DQ D G a ed (v :: xs)) : gx_Met l yJ18_pollFirst (ws_ yJ18_pollFirst cJ18_pollFirst 4 (some (.object "java/lang/Object"))) 3 0 0 D (fun q => q = a ∨ q = ed) T G nx [.ref a] (fun w G' nx' => w = some (.ref v) ∧ nx' = nx ∧ gx_DQ D G' a ed xs) gx_no := by
  obtain ⟨k, f, h1, h2, h3, h4, h5, h6⟩ := h
  rw [List.length_cons] at h4
  have h50 := h5 0 (by simp)
  refine gx_start (by decide) (Nat.le_of_ble_eq_true rfl) rfl (fun p e s m args below meth c hC hlt => ?_)
  refine gx_aload_n hC dJ18_pollFirst_0 rfl rfl (by first | rfl | exact gx_isr_rf _) ?_
  refine gx_get hC (C := RJ18) (Tf := TJ18) (N := 3) (ci := 23) (k := 0) rfl in_J18 (by decide) q646 (fun _ h9 => h9) dJ18_pollFirst_1 (by repeat (first | assumption | exact Or.inr gx_us | exact Or.inr (by assumption) | exact Or.inl (by assumption) | refine gx_tu (by omega) ?_)) rfl ?_
  refine gx_dup hC dJ18_pollFirst_4 (by first | rfl | exact gx_cat_rf _) ?_
  refine gx_astore_n hC dJ18_pollFirst_5 rfl (by decide) (by first | rfl | simp [gx_ck, gx_lk, gx_cat_rf]) (by first | rfl | exact gx_isr_rf _) ?_
  refine gx_aload_n hC dJ18_pollFirst_6 rfl rfl (by first | rfl | exact gx_isr_rf _) ?_
  refine gx_get hC (C := RJ18) (Tf := TJ18) (N := 3) (ci := 23) (k := 1) rfl in_J18 (by decide) q647 (fun _ h9 => h9) dJ18_pollFirst_7 (by repeat (first | assumption | exact Or.inr gx_us | exact Or.inr (by assumption) | exact Or.inl (by assumption) | refine gx_tu (by omega) ?_)) rfl ?_
  refine gx_dup hC dJ18_pollFirst_10 (by first | rfl | exact gx_cat_rf _) ?_
  refine gx_istore_n hC dJ18_pollFirst_11 rfl (by decide) (by first | rfl | simp [gx_ck, gx_lk, gx_cat_rf]) ?_
  refine gx_callS (nA := 2) hC (m_J18_elementAt (v := v) (Or.inr h2) h3 (by rw [show (k + 0) % 17 = k by omega] at h50; exact h50)) (lw_S q758 q759 q100 q760) (by decide +kernel) dJ18_pollFirst_12 rfl ⟨Nat.le_of_ble_eq_true rfl, Nat.le_of_ble_eq_true rfl⟩ gx_in.id0 rfl (by first | exact Nat.le_of_ble_eq_true rfl | simp [gx_cat_rf, Value.category]) gx_kno (gx_kp1 ?_)
  refine gx_astore_n hC dJ18_pollFirst_15 rfl (by decide) (by first | rfl | simp [gx_ck, gx_lk, gx_cat_rf]) (by first | rfl | exact gx_isr_rf _) ?_
  refine gx_aload_n hC dJ18_pollFirst_16 rfl rfl (by first | rfl | exact gx_isr_rf _) ?_
  refine gx_ifnullR hC dJ18_pollFirst_17 ?_
  refine gx_aload_n hC dJ18_pollFirst_20 rfl rfl (by first | rfl | exact gx_isr_rf _) ?_
  refine gx_iload_n hC dJ18_pollFirst_21 rfl rfl ?_
  refine gx_null hC dJ18_pollFirst_22 ?_
  refine gx_aastN hC (t := 2) rfl dJ18_pollFirst_23 (by first | exact gx_us | assumption | (repeat (first | exact gx_us | assumption | refine gx_un (by omega) ?_))) (by first | exact Or.inl rfl | exact Or.inl (Or.inl rfl) | exact Or.inl (Or.inr rfl) | exact Or.inr (by omega) | assumption | (simp only [gx_A, *]; omega)) (by omega) ?_
  refine gx_aload_n hC dJ18_pollFirst_24 rfl rfl (by first | rfl | exact gx_isr_rf _) ?_
  refine gx_iload_n hC dJ18_pollFirst_25 rfl rfl ?_
  refine gx_aload_n hC dJ18_pollFirst_26 rfl rfl (by first | rfl | exact gx_isr_rf _) ?_
  refine gx_alen hC (t := 2) rfl dJ18_pollFirst_27 (by repeat (first | assumption | exact Or.inr gx_us | exact Or.inr (by assumption) | exact Or.inl (by assumption) | refine gx_tu (by omega) ?_)) ?_
  refine gx_callS (nA := 2) hC (m_J18_inc (z := (((k + 1) % 17 : Nat) : Int)) (by omega) (by split <;> omega)) (lw_S q761 q762 q100 q763) (by decide +kernel) dJ18_pollFirst_28 rfl ⟨Nat.le_of_ble_eq_true rfl, Nat.le_of_ble_eq_true rfl⟩ gx_in.id0 rfl (by first | exact Nat.le_of_ble_eq_true rfl | simp [gx_cat_rf, Value.category]) gx_kno (gx_kp1 ?_)
  refine gx_put hC (C := RJ18) (Tf := TJ18) (N := 3) (ci := 23) (k := 1) rfl in_J18 (by decide) tyJ18 tyJ18_ok nmJ18 q647 (fun _ h9 => h9) rfl dJ18_pollFirst_31 (by first | exact gx_us | assumption | (repeat (first | exact gx_us | assumption | refine gx_un (by omega) ?_))) (by first | exact Or.inl rfl | exact Or.inl (Or.inl rfl) | exact Or.inl (Or.inr rfl) | exact Or.inr (by omega) | assumption | (simp only [gx_A, *]; omega)) (Nat.le_of_ble_eq_true rfl) (by first | rfl | (cases ‹Option Nat› <;> rfl) | simp [narrow]) (by first | rfl | (cases ‹Option Nat› <;> rfl) | simp [fits]) ?_
  refine gx_aload_n hC dJ18_pollFirst_34 rfl rfl (by first | rfl | exact gx_isr_rf _) ?_
  exact gx_aret hC rfl rfl rfl (by first | exact Or.inl ⟨_, rfl⟩ | exact Or.inr ⟨_, rfl⟩) (by first | rfl | exact gx_isr_rf _) dJ18_pollFirst_35 (fun G' hG => ⟨rfl, rfl, gx_DQ.mk ((k + 1) % 17) rfl (by rw [List.length_cons]; omega) (hG _ _ gx_us) (hG _ _ (gx_un (by omega) gx_us)) (by omega) (by omega) (fun j hj => by unfold gx_fq; rw [if_neg (by omega), show ((k + 1) % 17 + j) % 17 = (k + (j + 1)) % 17 by omega, h5 (j + 1) (by simp; omega)]; rfl) h6⟩)
theorem m_J18_removeFirst (h : gx_DQ D G a ed (v :: xs)) : gx_Met l yJ18_removeFirst (ws_ yJ18_removeFirst cJ18_removeFirst 2 (some (.object "java/lang/Object"))) 5 0 0 D (fun q => q = a ∨ q = ed) T G nx [.ref a] (fun w G' nx' => w = some (.ref v) ∧ nx' = nx ∧ gx_DQ D G' a ed xs) gx_no := by
  have h0 := h
  obtain ⟨k, f, h1, h2, h3, h4, h5, h6⟩ := h
  refine gx_start (by decide) (Nat.le_of_ble_eq_true rfl) rfl (fun p e s m args below meth c hC hlt => ?_)
  refine gx_aload_n hC dJ18_removeFirst_0 rfl rfl (by first | rfl | exact gx_isr_rf _) ?_
  refine gx_callV (nA := 0) hC (m_J18_pollFirst h0) (C := RJ18) (Tf := TJ18) (Nf := 3) (ci := 23) rfl (by repeat (first | assumption | exact Or.inr gx_us | exact Or.inr (by assumption) | exact Or.inl (by assumption) | refine gx_tu (by omega) ?_)) (lw_V q754 q755 q756 q100 q757) (by decide +kernel) dJ18_removeFirst_1 rfl ⟨Nat.le_of_ble_eq_true rfl, Nat.le_of_ble_eq_true rfl⟩ (gx_in.id hC (fun q hq => Or.inl hq)) rfl (by first | exact Nat.le_of_ble_eq_true rfl | simp [gx_cat_rf, Value.category]) gx_kno (fun v2 G2 nx2 hp hf hle hlt2 => ?_)
  obtain ⟨rfl, rfl, q⟩ := hp
  refine gx_astore_n hC dJ18_removeFirst_4 rfl (by decide) (by first | rfl | simp [gx_ck, gx_lk, gx_cat_rf]) (by first | rfl | exact gx_isr_rf _) ?_
  refine gx_aload_n hC dJ18_removeFirst_5 rfl rfl (by first | rfl | exact gx_isr_rf _) ?_
  refine gx_ifnonnullR hC dJ18_removeFirst_6 (tgt := 17) (by decide) ?_
  refine gx_aload_n hC dJ18_removeFirst_17 rfl rfl (by first | rfl | exact gx_isr_rf _) ?_
  exact gx_aret hC rfl rfl rfl (by first | exact Or.inl ⟨_, rfl⟩ | exact Or.inr ⟨_, rfl⟩) (by first | rfl | exact gx_isr_rf _) dJ18_removeFirst_18 (fun G' hG => ⟨rfl, rfl, q.mono (hG _) (hG _)⟩)
theorem gx_dq_last {xs : List Nat} : (xs ++ [v]).getD xs.length 0 = v := by simp
theorem gx_dq_init {xs : List Nat} {j : Nat} (h : j < xs.length) : (xs ++ [v]).getD j 0 = xs.getD j 0 := by
  simp [List.getD_eq_getElem?_getD, List.getElem?_append_left h]
theorem m_J18_pollLast (h : gx_DQ D G a ed (xs ++ [v])) : gx_Met l yJ18_pollLast (ws_ yJ18_pollLast cJ18_pollLast 4 (some (.object "java/lang/Object"))) 3 0 0 D (fun q => q = a ∨ q = ed) T G nx [.ref a] (fun w G' nx' => w = some (.ref v) ∧ nx' = nx ∧ gx_DQ D G' a ed xs) gx_no := by
  obtain ⟨k, f, h1, h2, h3, h4, h5, h6⟩ := h
  simp only [List.length_append, List.length_singleton] at h1 h4 h5
  have h50 := h5 xs.length (by omega)
  rw [gx_dq_last] at h50
  refine gx_start (by decide) (Nat.le_of_ble_eq_true rfl) rfl (fun p e s m args below meth c hC hlt => ?_)
  refine gx_aload_n hC dJ18_pollLast_0 rfl rfl (by first | rfl | exact gx_isr_rf _) ?_
  refine gx_get hC (C := RJ18) (Tf := TJ18) (N := 3) (ci := 23) (k := 0) rfl in_J18 (by decide) q646 (fun _ h9 => h9) dJ18_pollLast_1 (by repeat (first | assumption | exact Or.inr gx_us | exact Or.inr (by assumption) | exact Or.inl (by assumption) | refine gx_tu (by omega) ?_)) rfl ?_
  refine gx_dup hC dJ18_pollLast_4 (by first | rfl | exact gx_cat_rf _) ?_
  refine gx_astore_n hC dJ18_pollLast_5 rfl (by decide) (by first | rfl | simp [gx_ck, gx_lk, gx_cat_rf]) (by first | rfl | exact gx_isr_rf _) ?_
  refine gx_aload_n hC dJ18_pollLast_6 rfl rfl (by first | rfl | exact gx_isr_rf _) ?_
  refine gx_get hC (C := RJ18) (Tf := TJ18) (N := 3) (ci := 23) (k := 2) rfl in_J18 (by decide) q648 (fun _ h9 => h9) dJ18_pollLast_7 (by repeat (first | assumption | exact Or.inr gx_us | exact Or.inr (by assumption) | exact Or.inl (by assumption) | refine gx_tu (by omega) ?_)) rfl ?_
  refine gx_aload_n hC dJ18_pollLast_10 rfl rfl (by first | rfl | exact gx_isr_rf _) ?_
  refine gx_alen hC (t := 2) rfl dJ18_pollLast_11 (by repeat (first | assumption | exact Or.inr gx_us | exact Or.inr (by assumption) | exact Or.inl (by assumption) | refine gx_tu (by omega) ?_)) ?_
  refine gx_callS (nA := 2) hC (m_J18_dec (z := (((k + xs.length) % 17 : Nat) : Int)) (by omega) (by split <;> omega)) (lw_S q805 q806 q100 q807) (by decide +kernel) dJ18_pollLast_12 rfl ⟨Nat.le_of_ble_eq_true rfl, Nat.le_of_ble_eq_true rfl⟩ gx_in.id0 rfl (by first | exact Nat.le_of_ble_eq_true rfl | simp [gx_cat_rf, Value.category]) gx_kno (gx_kp1 ?_)
  refine gx_dup hC dJ18_pollLast_15 (by first | rfl | exact gx_cat_rf _) ?_
  refine gx_istore_n hC dJ18_pollLast_16 rfl (by decide) (by first | rfl | simp [gx_ck, gx_lk, gx_cat_rf]) ?_
  refine gx_callS (nA := 2) hC (m_J18_elementAt (v := v) (Or.inr h2) (by omega) h50) (lw_S q758 q759 q100 q760) (by decide +kernel) dJ18_pollLast_17 rfl ⟨Nat.le_of_ble_eq_true rfl, Nat.le_of_ble_eq_true rfl⟩ gx_in.id0 rfl (by first | exact Nat.le_of_ble_eq_true rfl | simp [gx_cat_rf, Value.category]) gx_kno (gx_kp1 ?_)
  refine gx_astore_n hC dJ18_pollLast_20 rfl (by decide) (by first | rfl | simp [gx_ck, gx_lk, gx_cat_rf]) (by first | rfl | exact gx_isr_rf _) ?_
  refine gx_aload_n hC dJ18_pollLast_21 rfl rfl (by first | rfl | exact gx_isr_rf _) ?_
  refine gx_ifnullR hC dJ18_pollLast_22 ?_
  refine gx_aload_n hC dJ18_pollLast_25 rfl rfl (by first | rfl | exact gx_isr_rf _) ?_
  refine gx_aload_n hC dJ18_pollLast_26 rfl rfl (by first | rfl | exact gx_isr_rf _) ?_
  refine gx_iload_n hC dJ18_pollLast_27 rfl rfl ?_
  refine gx_dup_x1 hC dJ18_pollLast_28 (by first | rfl | exact gx_cat_rf _) (by first | rfl | exact gx_cat_rf _) ?_
  refine gx_put hC (C := RJ18) (Tf := TJ18) (N := 3) (ci := 23) (k := 2) rfl in_J18 (by decide) tyJ18 tyJ18_ok nmJ18 q648 (fun _ h9 => h9) rfl dJ18_pollLast_29 (by first | exact gx_us | assumption | (repeat (first | exact gx_us | assumption | refine gx_un (by omega) ?_))) (by first | exact Or.inl rfl | exact Or.inl (Or.inl rfl) | exact Or.inl (Or.inr rfl) | exact Or.inr (by omega) | assumption | (simp only [gx_A, *]; omega)) (Nat.le_of_ble_eq_true rfl) (by first | rfl | (cases ‹Option Nat› <;> rfl) | simp [narrow]) (by first | rfl | (cases ‹Option Nat› <;> rfl) | simp [fits]) ?_
  refine gx_null hC dJ18_pollLast_32 ?_
  refine gx_aastN hC (t := 2) rfl dJ18_pollLast_33 (by first | exact gx_us | assumption | (repeat (first | exact gx_us | assumption | refine gx_un (by omega) ?_))) (by first | exact Or.inl rfl | exact Or.inl (Or.inl rfl) | exact Or.inl (Or.inr rfl) | exact Or.inr (by omega) | assumption | (simp only [gx_A, *]; omega)) (by omega) ?_
  refine gx_aload_n hC dJ18_pollLast_34 rfl rfl (by first | rfl | exact gx_isr_rf _) ?_
  exact gx_aret hC rfl rfl rfl (by first | exact Or.inl ⟨_, rfl⟩ | exact Or.inr ⟨_, rfl⟩) (by first | rfl | exact gx_isr_rf _) dJ18_pollLast_35 (fun G' hG => ⟨rfl, rfl, gx_DQ.mk k rfl rfl (hG _ _ (gx_un (by omega) gx_us)) (hG _ _ gx_us) h3 (by omega) (fun j hj => by unfold gx_fq; rw [if_neg (by omega), h5 j (by omega), gx_dq_init hj]) h6⟩)
theorem m_J18_removeLast (h : gx_DQ D G a ed (xs ++ [v])) : gx_Met l yJ18_removeLast (ws_ yJ18_removeLast cJ18_removeLast 2 (some (.object "java/lang/Object"))) 5 0 0 D (fun q => q = a ∨ q = ed) T G nx [.ref a] (fun w G' nx' => w = some (.ref v) ∧ nx' = nx ∧ gx_DQ D G' a ed xs) gx_no := by
  have h0 := h
  obtain ⟨k, f, h1, h2, h3, h4, h5, h6⟩ := h
  refine gx_start (by decide) (Nat.le_of_ble_eq_true rfl) rfl (fun p e s m args below meth c hC hlt => ?_)
  refine gx_aload_n hC dJ18_removeLast_0 rfl rfl (by first | rfl | exact gx_isr_rf _) ?_
  refine gx_callV (nA := 0) hC (m_J18_pollLast h0) (C := RJ18) (Tf := TJ18) (Nf := 3) (ci := 23) rfl (by repeat (first | assumption | exact Or.inr gx_us | exact Or.inr (by assumption) | exact Or.inl (by assumption) | refine gx_tu (by omega) ?_)) (lw_V q1532 q1533 q1534 q100 q1535) (by decide +kernel) dJ18_removeLast_1 rfl ⟨Nat.le_of_ble_eq_true rfl, Nat.le_of_ble_eq_true rfl⟩ (gx_in.id hC (fun q hq => Or.inl hq)) rfl (by first | exact Nat.le_of_ble_eq_true rfl | simp [gx_cat_rf, Value.category]) gx_kno (fun v2 G2 nx2 hp hf hle hlt2 => ?_)
  obtain ⟨rfl, rfl, q⟩ := hp
  refine gx_astore_n hC dJ18_removeLast_4 rfl (by decide) (by first | rfl | simp [gx_ck, gx_lk, gx_cat_rf]) (by first | rfl | exact gx_isr_rf _) ?_
  refine gx_aload_n hC dJ18_removeLast_5 rfl rfl (by first | rfl | exact gx_isr_rf _) ?_
  refine gx_ifnonnullR hC dJ18_removeLast_6 (tgt := 17) (by decide) ?_
  refine gx_aload_n hC dJ18_removeLast_17 rfl rfl (by first | rfl | exact gx_isr_rf _) ?_
  exact gx_aret hC rfl rfl rfl (by first | exact Or.inl ⟨_, rfl⟩ | exact Or.inr ⟨_, rfl⟩) (by first | rfl | exact gx_isr_rf _) dJ18_removeLast_18 (fun G' hG => ⟨rfl, rfl, q.mono (hG _) (hG _)⟩)
theorem m_J18_getLast (h : gx_DQ D (gx_TG T G) a ed (xs ++ [v])) : gx_Met l yJ18_getLast (ws_ yJ18_getLast cJ18_getLast 3 (some (.object "java/lang/Object"))) 3 0 0 D gx_M0 T G nx [.ref a] (gx_P (some (.ref v)) nx) gx_no := by
  obtain ⟨k, f, h1, h2, h3, h4, h5, h6⟩ := h
  simp only [List.length_append, List.length_singleton] at h1 h4 h5
  have h50 := h5 xs.length (by omega)
  rw [gx_dq_last] at h50
  refine gx_start (by decide) (Nat.le_of_ble_eq_true rfl) rfl (fun p e s m args below meth c hC hlt => ?_)
  refine gx_aload_n hC dJ18_getLast_0 rfl rfl (by first | rfl | exact gx_isr_rf _) ?_
  refine gx_get hC (C := RJ18) (Tf := TJ18) (N := 3) (ci := 23) (k := 0) rfl in_J18 (by decide) q646 (fun _ h9 => h9) dJ18_getLast_1 (by repeat (first | assumption | exact Or.inr gx_us | exact Or.inr (by assumption) | exact Or.inl (by assumption) | refine gx_tu (by omega) ?_)) rfl ?_
  refine gx_astore_n hC dJ18_getLast_4 rfl (by decide) (by first | rfl | simp [gx_ck, gx_lk, gx_cat_rf]) (by first | rfl | exact gx_isr_rf _) ?_
  refine gx_aload_n hC dJ18_getLast_5 rfl rfl (by first | rfl | exact gx_isr_rf _) ?_
  refine gx_aload_n hC dJ18_getLast_6 rfl rfl (by first | rfl | exact gx_isr_rf _) ?_
  refine gx_get hC (C := RJ18) (Tf := TJ18) (N := 3) (ci := 23) (k := 2) rfl in_J18 (by decide) q648 (fun _ h9 => h9) dJ18_getLast_7 (by repeat (first | assumption | exact Or.inr gx_us | exact Or.inr (by assumption) | exact Or.inl (by assumption) | refine gx_tu (by omega) ?_)) rfl ?_
  refine gx_aload_n hC dJ18_getLast_10 rfl rfl (by first | rfl | exact gx_isr_rf _) ?_
  refine gx_alen hC (t := 2) rfl dJ18_getLast_11 (by repeat (first | assumption | exact Or.inr gx_us | exact Or.inr (by assumption) | exact Or.inl (by assumption) | refine gx_tu (by omega) ?_)) ?_
  refine gx_callS (nA := 2) hC (m_J18_dec (z := (((k + xs.length) % 17 : Nat) : Int)) (by omega) (by split <;> omega)) (lw_S q805 q806 q100 q807) (by decide +kernel) dJ18_getLast_12 rfl ⟨Nat.le_of_ble_eq_true rfl, Nat.le_of_ble_eq_true rfl⟩ gx_in.id0 rfl (by first | exact Nat.le_of_ble_eq_true rfl | simp [gx_cat_rf, Value.category]) gx_kno (gx_kp1 ?_)
  refine gx_callS (nA := 2) hC (m_J18_elementAt (v := v) h2 (by omega) h50) (lw_S q758 q759 q100 q760) (by decide +kernel) dJ18_getLast_15 rfl ⟨Nat.le_of_ble_eq_true rfl, Nat.le_of_ble_eq_true rfl⟩ gx_in.id0 rfl (by first | exact Nat.le_of_ble_eq_true rfl | simp [gx_cat_rf, Value.category]) gx_kno (gx_kp1 ?_)
  refine gx_astore_n hC dJ18_getLast_18 rfl (by decide) (by first | rfl | simp [gx_ck, gx_lk, gx_cat_rf]) (by first | rfl | exact gx_isr_rf _) ?_
  refine gx_aload_n hC dJ18_getLast_19 rfl rfl (by first | rfl | exact gx_isr_rf _) ?_
  refine gx_ifnonnullR hC dJ18_getLast_20 (tgt := 31) (by decide) ?_
  refine gx_aload_n hC dJ18_getLast_31 rfl rfl (by first | rfl | exact gx_isr_rf _) ?_
  exact gx_aret hC rfl rfl rfl (by first | exact Or.inl ⟨_, rfl⟩ | exact Or.inr ⟨_, rfl⟩) (by first | rfl | exact gx_isr_rf _) dJ18_getLast_32 (fun G' hG => ⟨rfl, rfl⟩)
theorem m_J18_circularClear {f : Nat → Option Nat} {x y : Nat} (h : G ed (gx_Q D 2 17 f)) (hx : x < 17) (hy : y < 17) : gx_Met l yJ18_circularClear (ws_ yJ18_circularClear cJ18_circularClear 4 none) 1 0 0 D (fun q => q = ed) T G nx [.ref ed, .int (iz (x : Int)), .int (iz (y : Int))] (fun w G' nx' => w = none ∧ nx' = nx ∧ ∃ f', G' ed (gx_Q D 2 17 f')) gx_no := by
  refine gx_start (by decide) (Nat.le_of_ble_eq_true rfl) rfl (fun p e s m args below meth c hC hlt => ?_)
  have key : ∀ (i j : Nat) (G1 : gx_H) (f1 : Nat → Option Nat), i ≤ j → j ≤ 17 → (j = y ∨ x > y) → G1 ed (gx_Q D 2 17 f1) → (∀ (G2 : gx_H) (f2 : Nat → Option Nat), G2 ed (gx_Q D 2 17 f2) → gx_X p l e (headSpec (ws_ yJ18_circularClear cJ18_circularClear 4 none) (gx_rm 1 0 0)).room s m args below meth c (gx_QQ below D (gx_A (fun q => q = ed) nx) (fun w G' nx' => w = none ∧ nx' = nx ∧ ∃ f', G' ed (gx_Q D 2 17 f')) gx_no args s 0 0) D (gx_A (fun q => q = ed) nx) G2 nx 0 0 27 [(3, some (.int (iz (j : Int)))), (1, some (.int (iz (j : Int)))), (0, some (.ref ed)), (2, some (.int (iz (y : Int))))] []) → gx_X p l e (headSpec (ws_ yJ18_circularClear cJ18_circularClear 4 none) (gx_rm 1 0 0)).room s m args below meth c (gx_QQ below D (gx_A (fun q => q = ed) nx) (fun w G' nx' => w = none ∧ nx' = nx ∧ ∃ f', G' ed (gx_Q D 2 17 f')) gx_no args s 0 0) D (gx_A (fun q => q = ed) nx) G1 nx 0 0 12 [(3, some (.int (iz (j : Int)))), (1, some (.int (iz (i : Int)))), (0, some (.ref ed)), (2, some (.int (iz (y : Int))))] [] := fun i j G1 f1 hij hj hjy q1 hend => by
    refine gx_loop (σ := Nat × gx_H × (Nat → Option Nat)) (fun z => z.1 ≤ j ∧ z.2.1 ed (gx_Q D 2 17 z.2.2)) (fun z => j - z.1) (fun z => z.2.1) (fun _ => nx) (fun _ => 0) (fun _ => 0) (fun z => [(3, some (.int (iz (j : Int)))), (1, some (.int (iz (z.1 : Int)))), (0, some (.ref ed)), (2, some (.int (iz (y : Int))))]) (i, G1, f1) ⟨hij, q1⟩ ?_
    rintro ⟨i2, G2, f2⟩ ⟨hi2, q2⟩ ih
    dsimp only at hi2 q2 ⊢
    refine gx_iload_n hC dJ18_circularClear_12 rfl rfl ?_
    refine gx_iload_n hC dJ18_circularClear_13 rfl rfl ?_
    refine gx_icmp_ge hC dJ18_circularClear_14 (tgt := 27) (by decide) (by unfold gx_rg; omega) (by unfold gx_rg; omega) (fun c14 => ?_) (fun c14 => ?_)
    · have e : i2 = j := by omega
      subst e
      exact hend _ _ q2
    · refine gx_aload_n hC dJ18_circularClear_17 rfl rfl (by first | rfl | exact gx_isr_rf _) ?_
      refine gx_iload_n hC dJ18_circularClear_18 rfl rfl ?_
      refine gx_null hC dJ18_circularClear_19 ?_
      refine gx_aastN hC (t := 2) rfl dJ18_circularClear_20 (by first | exact gx_us | assumption | (repeat (first | exact gx_us | assumption | refine gx_un (by omega) ?_))) (by first | exact Or.inl rfl | exact Or.inl (Or.inl rfl) | exact Or.inl (Or.inr rfl) | exact Or.inr (by omega) | assumption | (simp only [gx_A, *]; omega)) (by omega) ?_
      refine gx_iinc hC dJ18_circularClear_21 rfl (by decide) (by first | rfl | simp [gx_ck, gx_lk, gx_cat_rf]) ?_
      refine gx_goto hC dJ18_circularClear_24 (tgt := 12) (by decide) ?_
      refine gx_loc (M := [(3, some (.int (iz (j : Int)))), (1, some (.int (iz ((i2 + 1 : Nat) : Int)))), (0, some (.ref ed)), (2, some (.int (iz (y : Int))))]) (by repeat (first | exact trivial | refine ⟨rfl, ?_⟩)) ?_
      exact ih (i2 + 1, _, _) ⟨by omega, gx_us⟩ (by dsimp only; omega)
  refine gx_iload_n hC dJ18_circularClear_0 rfl rfl ?_
  refine gx_iload_n hC dJ18_circularClear_1 rfl rfl ?_
  refine gx_icmp_gt hC dJ18_circularClear_2 (tgt := 9) (by decide) (by unfold gx_rg; omega) (by unfold gx_rg; omega) (fun c2 => ?_) (fun c2 => ?_)
  · refine gx_aload_n hC dJ18_circularClear_9 rfl rfl (by first | rfl | exact gx_isr_rf _) ?_
    refine gx_alen hC (t := 2) rfl dJ18_circularClear_10 (by repeat (first | assumption | exact Or.inr gx_us | exact Or.inr (by assumption) | exact Or.inl (by assumption) | refine gx_tu (by omega) ?_)) ?_
    refine gx_istore_n hC dJ18_circularClear_11 rfl (by decide) (by first | rfl | simp [gx_ck, gx_lk, gx_cat_rf]) ?_
    refine gx_loc (M := [(3, some (.int (iz ((17 : Nat) : Int)))), (1, some (.int (iz (x : Int)))), (0, some (.ref ed)), (2, some (.int (iz (y : Int))))]) (by repeat (first | exact trivial | refine ⟨rfl, ?_⟩)) ?_
    refine key x 17 G f (by omega) (by omega) (Or.inr (by omega)) h (fun G2 f2 q2 => ?_)
    refine gx_iload_n hC dJ18_circularClear_27 rfl rfl ?_
    refine gx_iload_n hC dJ18_circularClear_28 rfl rfl ?_
    refine gx_icmp_ne hC dJ18_circularClear_29 (tgt := 35) (by decide) (by unfold gx_rg; omega) (by unfold gx_rg; omega) (fun c29 => ?_) (fun c29 => ?_)
    · refine gx_iconst hC dJ18_circularClear_35 ?_
      refine gx_istore_n hC dJ18_circularClear_36 rfl (by decide) (by first | rfl | simp [gx_ck, gx_lk, gx_cat_rf]) ?_
      refine gx_iload_n hC dJ18_circularClear_37 rfl rfl ?_
      refine gx_istore_n hC dJ18_circularClear_38 rfl (by decide) (by first | rfl | simp [gx_ck, gx_lk, gx_cat_rf]) ?_
      refine gx_goto hC dJ18_circularClear_39 (tgt := 12) (by decide) ?_
      refine gx_loc (M := [(3, some (.int (iz (y : Int)))), (1, some (.int (iz ((0 : Nat) : Int)))), (0, some (.ref ed)), (2, some (.int (iz (y : Int))))]) (by repeat (first | exact trivial | refine ⟨rfl, ?_⟩)) ?_
      refine key 0 y G2 f2 (by omega) (by omega) (Or.inl rfl) q2 (fun G3 f3 q3 => ?_)
      refine gx_iload_n hC dJ18_circularClear_27 rfl rfl ?_
      refine gx_iload_n hC dJ18_circularClear_28 rfl rfl ?_
      refine gx_icmp_neS hC dJ18_circularClear_29 (tgt := 35) (by decide) ?_
      refine gx_goto hC dJ18_circularClear_32 (tgt := 42) (by decide) ?_
      exact gx_vret hC rfl rfl rfl dJ18_circularClear_42 (fun G' hG => ⟨rfl, rfl, f3, hG _ _ q3⟩)
    · omega
  · refine gx_iload_n hC dJ18_circularClear_5 rfl rfl ?_
    refine gx_goto hC dJ18_circularClear_6 (tgt := 11) (by decide) ?_
    refine gx_istore_n hC dJ18_circularClear_11 rfl (by decide) (by first | rfl | simp [gx_ck, gx_lk, gx_cat_rf]) ?_
    refine gx_loc (M := [(3, some (.int (iz (y : Int)))), (1, some (.int (iz (x : Int)))), (0, some (.ref ed)), (2, some (.int (iz (y : Int))))]) (by repeat (first | exact trivial | refine ⟨rfl, ?_⟩)) ?_
    refine key x y G f (by omega) (by omega) (Or.inl rfl) h (fun G3 f3 q3 => ?_)
    refine gx_iload_n hC dJ18_circularClear_27 rfl rfl ?_
    refine gx_iload_n hC dJ18_circularClear_28 rfl rfl ?_
    refine gx_icmp_neS hC dJ18_circularClear_29 (tgt := 35) (by decide) ?_
    refine gx_goto hC dJ18_circularClear_32 (tgt := 42) (by decide) ?_
    exact gx_vret hC rfl rfl rfl dJ18_circularClear_42 (fun G' hG => ⟨rfl, rfl, f3, hG _ _ q3⟩)
theorem m_J18_clear (h : gx_DQ D G a ed xs) : gx_Met l yJ18_clear (ws_ yJ18_clear cJ18_clear 1 none) 3 0 0 D (fun q => q = a ∨ q = ed) T G nx [.ref a] (fun w G' nx' => w = none ∧ nx' = nx ∧ gx_DQ D G' a ed []) gx_no := by
  obtain ⟨k, f, h1, h2, h3, h4, h5, h6⟩ := h
  refine gx_start (by decide) (Nat.le_of_ble_eq_true rfl) rfl (fun p e s m args below meth c hC hlt => ?_)
  refine gx_aload_n hC dJ18_clear_0 rfl rfl (by first | rfl | exact gx_isr_rf _) ?_
  refine gx_get hC (C := RJ18) (Tf := TJ18) (N := 3) (ci := 23) (k := 0) rfl in_J18 (by decide) q646 (fun _ h9 => h9) dJ18_clear_1 (by repeat (first | assumption | exact Or.inr gx_us | exact Or.inr (by assumption) | exact Or.inl (by assumption) | refine gx_tu (by omega) ?_)) rfl ?_
  refine gx_aload_n hC dJ18_clear_4 rfl rfl (by first | rfl | exact gx_isr_rf _) ?_
  refine gx_get hC (C := RJ18) (Tf := TJ18) (N := 3) (ci := 23) (k := 1) rfl in_J18 (by decide) q647 (fun _ h9 => h9) dJ18_clear_5 (by repeat (first | assumption | exact Or.inr gx_us | exact Or.inr (by assumption) | exact Or.inl (by assumption) | refine gx_tu (by omega) ?_)) rfl ?_
  refine gx_aload_n hC dJ18_clear_8 rfl rfl (by first | rfl | exact gx_isr_rf _) ?_
  refine gx_get hC (C := RJ18) (Tf := TJ18) (N := 3) (ci := 23) (k := 2) rfl in_J18 (by decide) q648 (fun _ h9 => h9) dJ18_clear_9 (by repeat (first | assumption | exact Or.inr gx_us | exact Or.inr (by assumption) | exact Or.inl (by assumption) | refine gx_tu (by omega) ?_)) rfl ?_
  refine gx_callS (nA := 3) hC (m_J18_circularClear h2 h3 (by omega)) (lw_S q2521 q2522 q100 q2523) (by decide +kernel) dJ18_clear_12 rfl ⟨Nat.le_of_ble_eq_true rfl, Nat.le_of_ble_eq_true rfl⟩ (gx_in.id hC (fun q hq => Or.inl (Or.inr hq))) rfl (by first | exact Nat.le_of_ble_eq_true rfl | simp [gx_cat_rf, Value.category]) gx_kno (fun v2 G2 nx2 hp hf hle hlt2 => ?_)
  obtain ⟨rfl, rfl, f', q⟩ := hp
  have q1 := hf _ _ h1 (fun q => h6 q)
  refine gx_aload_n hC dJ18_clear_15 rfl rfl (by first | rfl | exact gx_isr_rf _) ?_
  refine gx_aload_n hC dJ18_clear_16 rfl rfl (by first | rfl | exact gx_isr_rf _) ?_
  refine gx_iconst hC dJ18_clear_17 ?_
  refine gx_dup_x1 hC dJ18_clear_18 (by first | rfl | exact gx_cat_rf _) (by first | rfl | exact gx_cat_rf _) ?_
  refine gx_put hC (C := RJ18) (Tf := TJ18) (N := 3) (ci := 23) (k := 2) rfl in_J18 (by decide) tyJ18 tyJ18_ok nmJ18 q648 (fun _ h9 => h9) rfl dJ18_clear_19 (by first | exact gx_us | assumption | (repeat (first | exact gx_us | assumption | refine gx_un (by omega) ?_))) (by first | exact Or.inl rfl | exact Or.inl (Or.inl rfl) | exact Or.inl (Or.inr rfl) | exact Or.inr (by omega) | assumption | (simp only [gx_A, *]; omega)) (Nat.le_of_ble_eq_true rfl) (by first | rfl | (cases ‹Option Nat› <;> rfl) | simp [narrow]) (by first | rfl | (cases ‹Option Nat› <;> rfl) | simp [fits]) ?_
  refine gx_put hC (C := RJ18) (Tf := TJ18) (N := 3) (ci := 23) (k := 1) rfl in_J18 (by decide) tyJ18 tyJ18_ok nmJ18 q647 (fun _ h9 => h9) rfl dJ18_clear_22 (by first | exact gx_us | assumption | (repeat (first | exact gx_us | assumption | refine gx_un (by omega) ?_))) (by first | exact Or.inl rfl | exact Or.inl (Or.inl rfl) | exact Or.inl (Or.inr rfl) | exact Or.inr (by omega) | assumption | (simp only [gx_A, *]; omega)) (Nat.le_of_ble_eq_true rfl) (by first | rfl | (cases ‹Option Nat› <;> rfl) | simp [narrow]) (by first | rfl | (cases ‹Option Nat› <;> rfl) | simp [fits]) ?_
  exact gx_vret hC rfl rfl rfl dJ18_clear_25 (fun G' hG => ⟨rfl, rfl, gx_DQ.mk 0 rfl rfl (hG _ _ gx_us) (hG _ _ (gx_un (by omega) (gx_un (by omega) q))) (by omega) (by simp) (fun j hj => by simp at hj) h6⟩)
end DQ

