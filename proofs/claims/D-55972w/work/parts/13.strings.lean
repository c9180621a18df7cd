/-! Strings and StringBuilders of ASCII characters -/
set_option maxRecDepth 100000
theorem gx_sr0 {z : Int} : iz z >>> (iz 0 &&& 31) = iz z := gx_shr0 z
theorem gx_sl0 {z : Int} : iz z <<< (iz 0 &&& 31) = iz z := gx_shl0 z
theorem gx_c255_F : ∀ n : Fin 128, iz (n.val : Int) &&& iz 255 = iz (n.val : Int) := by decide +kernel
theorem gx_ci2c_F : ∀ n : Fin 128, ((iz (n.val : Int)).toUInt32 % 65536).toInt32 = iz (n.val : Int) := by decide +kernel
theorem gx_ci2b_F : ∀ n : Fin 128, (iz (n.val : Int)).toInt8.toInt32 = iz (n.val : Int) := by decide +kernel
theorem gx_c255 {c : Int} (h : 0 ≤ c ∧ c < 128) : iz c &&& iz 255 = iz c := by
  have := gx_c255_F ⟨c.toNat, by omega⟩
  rwa [show ((c.toNat : Nat) : Int) = c by omega] at this
theorem gx_ci2c {c : Int} (h : 0 ≤ c ∧ c < 128) : ((iz c).toUInt32 % 65536).toInt32 = iz c := by
  have := gx_ci2c_F ⟨c.toNat, by omega⟩
  rwa [show ((c.toNat : Nat) : Int) = c by omega] at this
theorem gx_ci2b {c : Int} (h : 0 ≤ c ∧ c < 128) : (iz c).toInt8.toInt32 = iz c := by
  have := gx_ci2b_F ⟨c.toNat, by omega⟩
  rwa [show ((c.toNat : Nat) : Int) = c by omega] at this
theorem gx_cnar {c : Int} (h : 0 ≤ c ∧ c < 128) : narrow .char (.int (iz c)) = .int (iz c) := by
  unfold narrow
  exact congrArg Value.int (gx_ci2c h)
def gx_chs (cs : List Int) : Prop := ∀ c ∈ cs, 0 ≤ c ∧ c < 128
/-- the first places of an array hold the list -/
def gx_pre (f : Nat → Int) (cs : List Int) : Prop := ∀ j, j < cs.length → f j = cs.getD j 0
theorem gx_gmI {cs : List Int} {i : Nat} (h : i < cs.length) : cs.getD i 0 ∈ cs := by
  rw [List.getD_eq_getElem?_getD, List.getElem?_eq_getElem h]
  exact List.getElem_mem _
/-- a String at a, its bytes at v -/
def gx_Sx (D : gx_D) (X : gx_H) (a v : Nat) (cs : List Int) : Prop :=
  (∃ hh zz : Int, X a (gx_O 21 [.ref v, .int (iz 0), .int (iz hh), .int (iz zz)])) ∧ (∃ f, X v (gx_I D 1 cs.length f) ∧ gx_pre f cs) ∧ gx_chs cs ∧ cs.length < 1000
theorem gx_Sx.mono {D : gx_D} {X Y : gx_H} {a v : Nat} {cs : List Int} (h : gx_Sx D X a v cs) (ha : ∀ e, X a e → Y a e) (hd : ∀ e, X v e → Y v e) : gx_Sx D Y a v cs := by
  obtain ⟨⟨hh, zz, h1⟩, ⟨f, h2, h3⟩, h4⟩ := h
  exact ⟨⟨hh, zz, ha _ h1⟩, ⟨f, hd _ h2, h3⟩, h4⟩
/-- bytes -/
def gx_by (f : Nat → Int) : Prop := ∀ j, -128 ≤ f j ∧ f j < 128
/-- a StringBuilder at a, its bytes at v, room for cap -/
def gx_SB (D : gx_D) (X : gx_H) (a v cap : Nat) (cs : List Int) : Prop :=
  (∃ ml : Int, X a (gx_O 20 [.ref v, .int (iz 0), .int (iz ml), .int (iz cs.length)])) ∧ (∃ f, X v (gx_I D 1 cap f) ∧ gx_pre f cs ∧ gx_by f) ∧ gx_chs cs ∧ cs.length ≤ cap ∧ cap ≤ 300 ∧ a ≠ v
theorem gx_SB.mk {D : gx_D} {X : gx_H} {a v cap : Nat} {cs : List Int} {ml n : Int} {f : Nat → Int} (hn : n = (cs.length : Int)) (h1 : X a (gx_O 20 [.ref v, .int (iz 0), .int (iz ml), .int (iz n)])) (h2 : X v (gx_I D 1 cap f)) (h3 : gx_pre f cs) (h8 : gx_by f) (h4 : gx_chs cs) (h5 : cs.length ≤ cap) (h6 : cap ≤ 300) (h7 : a ≠ v) : gx_SB D X a v cap cs := by
  subst hn
  exact ⟨⟨ml, h1⟩, ⟨f, h2, h3, h8⟩, h4, h5, h6, h7⟩
theorem gx_SB.mono {D : gx_D} {X Y : gx_H} {a v cap : Nat} {cs : List Int} (h : gx_SB D X a v cap cs) (ha : ∀ e, X a e → Y a e) (hd : ∀ e, X v e → Y v e) : gx_SB D Y a v cap cs := by
  obtain ⟨⟨ml, h1⟩, ⟨f, h2, h3⟩, h4⟩ := h
  exact ⟨⟨ml, ha _ h1⟩, ⟨f, hd _ h2, h3⟩, h4⟩
section STR
variable {l : Launch} {D : gx_D} {T G : gx_H} {nx : Nat} {a b v w cap : Nat} {cs ds : List Int}
theorem m_J9_coder (h : gx_Sx D (gx_TG T G) a v cs) : gx_Met l yJ9_coder (ws_ yJ9_coder cJ9_coder 1 (some .byte)) 1 0 0 D gx_M0 T G nx [.ref a] (gx_P (some (.int (iz 0))) nx) gx_no := by
  obtain ⟨⟨hh, zz, h1⟩, -⟩ := h
  refine gx_start (by decide) (Nat.le_of_ble_eq_true rfl) rfl (fun p e s m args below meth c hC hlt => ?_)
  refine gx_gets hC (List.mem_cons_of_mem _ (List.mem_cons_of_mem _ (List.mem_cons_of_mem _ (List.mem_cons_of_mem _ List.mem_cons_self)))) q356 (fun _ h9 => h9) dJ9_coder_0 ?_
  refine gx_if_eq hC dJ9_coder_3 (tgt := 13) (by decide) (by unfold gx_rg; omega) (fun c3 => ?_) (fun c3 => ?_)
  · omega
  · refine gx_aload_n hC dJ9_coder_6 rfl rfl (by first | rfl | exact gx_isr_rf _) ?_
    refine gx_get hC (C := RJ9) (Tf := TJ9) (N := 4) (ci := 21) (k := 1) rfl in_J9 (by decide) q498 (fun _ h9 => h9) dJ9_coder_7 (by repeat (first | assumption | exact Or.inr gx_us | exact Or.inr (by assumption) | exact Or.inl (by assumption) | refine gx_tu (by omega) ?_)) rfl ?_
    refine gx_goto hC dJ9_coder_10 (tgt := 14) (by decide) ?_
    exact gx_zret hC rfl rfl rfl (by first | rfl | (split <;> rfl) | simp [narrow, *]) dJ9_coder_14 (fun G' hG => ⟨rfl, rfl⟩)
theorem m_J9_isLatin1 (h : gx_Sx D (gx_TG T G) a v cs) : gx_Met l yJ9_isLatin1 (ws_ yJ9_isLatin1 cJ9_isLatin1 1 (some .boolean)) 1 0 0 D gx_M0 T G nx [.ref a] (gx_P (some (.int (iz 1))) nx) gx_no := by
  obtain ⟨⟨hh, zz, h1⟩, -⟩ := h
  refine gx_start (by decide) (Nat.le_of_ble_eq_true rfl) rfl (fun p e s m args below meth c hC hlt => ?_)
  refine gx_gets hC (List.mem_cons_of_mem _ (List.mem_cons_of_mem _ (List.mem_cons_of_mem _ (List.mem_cons_of_mem _ List.mem_cons_self)))) q356 (fun _ h9 => h9) dJ9_isLatin1_0 ?_
  refine gx_if_eq hC dJ9_isLatin1_3 (tgt := 17) (by decide) (by unfold gx_rg; omega) (fun c3 => ?_) (fun c3 => ?_)
  · omega
  · refine gx_aload_n hC dJ9_isLatin1_6 rfl rfl (by first | rfl | exact gx_isr_rf _) ?_
    refine gx_get hC (C := RJ9) (Tf := TJ9) (N := 4) (ci := 21) (k := 1) rfl in_J9 (by decide) q498 (fun _ h9 => h9) dJ9_isLatin1_7 (by repeat (first | assumption | exact Or.inr gx_us | exact Or.inr (by assumption) | exact Or.inl (by assumption) | refine gx_tu (by omega) ?_)) rfl ?_
    refine gx_if_ne hC dJ9_isLatin1_10 (tgt := 17) (by decide) (by unfold gx_rg; omega) (fun c10 => ?_) (fun c10 => ?_)
    · exact absurd rfl c10
    · refine gx_iconst hC dJ9_isLatin1_13 ?_
      refine gx_goto hC dJ9_isLatin1_14 (tgt := 18) (by decide) ?_
      exact gx_zret hC rfl rfl rfl (by first | rfl | (split <;> rfl) | simp [narrow, *]) dJ9_isLatin1_18 (fun G' hG => ⟨rfl, rfl⟩)
theorem m_J9_length (h : gx_Sx D (gx_TG T G) a v cs) : gx_Met l yJ9_length (ws_ yJ9_length cJ9_length 1 (some .int)) 2 0 0 D gx_M0 T G nx [.ref a] (gx_P (some (.int (iz cs.length))) nx) gx_no := by
  have h0 := h
  obtain ⟨⟨hh, zz, h1⟩, ⟨f, h2, h3⟩, h4, h5⟩ := h
  refine gx_start (by decide) (Nat.le_of_ble_eq_true rfl) rfl (fun p e s m args below meth c hC hlt => ?_)
  refine gx_aload_n hC dJ9_length_0 rfl rfl (by first | rfl | exact gx_isr_rf _) ?_
  refine gx_get hC (C := RJ9) (Tf := TJ9) (N := 4) (ci := 21) (k := 0) rfl in_J9 (by decide) q497 (fun _ h9 => h9) dJ9_length_1 (by repeat (first | assumption | exact Or.inr gx_us | exact Or.inr (by assumption) | exact Or.inl (by assumption) | refine gx_tu (by omega) ?_)) rfl ?_
  refine gx_alen hC (t := 1) rfl dJ9_length_4 (by repeat (first | assumption | exact Or.inr gx_us | exact Or.inr (by assumption) | exact Or.inl (by assumption) | refine gx_tu (by omega) ?_)) ?_
  refine gx_aload_n hC dJ9_length_5 rfl rfl (by first | rfl | exact gx_isr_rf _) ?_
  refine gx_callV (nA := 0) hC (m_J9_coder h0) (C := RJ9) (Tf := TJ9) (Nf := 4) (ci := 21) rfl (by repeat (first | assumption | exact Or.inr gx_us | exact Or.inr (by assumption) | exact Or.inl (by assumption) | refine gx_tu (by omega) ?_)) (lw_V q352 q353 q354 q88 q355) (by decide +kernel) dJ9_length_6 rfl ⟨Nat.le_of_ble_eq_true rfl, Nat.le_of_ble_eq_true rfl⟩ gx_in.id0 rfl (by first | exact Nat.le_of_ble_eq_true rfl | simp [gx_cat_rf, Value.category]) gx_kno (gx_kp1 ?_)
  refine gx_ishr hC dJ9_length_9 (gx_sr0) ?_
  exact gx_iret hC rfl rfl rfl dJ9_length_10 (fun G' hG => ⟨rfl, rfl⟩)
theorem m_J9_checkIndex {i n : Int} (h : 0 ≤ i ∧ i < n ∧ n < 2147483648) : gx_Met l yJ9_checkIndex (ws_ yJ9_checkIndex cJ9_checkIndex 2 none) 2 0 0 D gx_M0 T G nx [.int (iz i), .int (iz n)] (gx_P none nx) gx_no := by
  refine gx_start (by decide) (Nat.le_of_ble_eq_true rfl) rfl (fun p e s m args below meth c hC hlt => ?_)
  refine gx_iload_n hC dJ9_checkIndex_0 rfl rfl ?_
  refine gx_iload_n hC dJ9_checkIndex_1 rfl rfl ?_
  refine gx_gets hC (List.mem_cons_of_mem _ (List.mem_cons_of_mem _ (List.mem_cons_of_mem _ (List.mem_cons_of_mem _ (List.mem_cons_of_mem _ (List.mem_cons_of_mem _ (List.mem_cons_of_mem _ List.mem_cons_self))))))) q334 (fun _ h9 => h9) dJ9_checkIndex_2 ?_
  refine gx_callS (nA := 3) hC (m_J14_checkIndex (i := i) (n := n) (gx_isr_rn _) (by unfold gx_rg; omega) (by unfold gx_rg; omega) (by omega)) (lw_S q1695 q795 q94 q796) (by decide +kernel) dJ9_checkIndex_5 rfl ⟨Nat.le_of_ble_eq_true rfl, Nat.le_of_ble_eq_true rfl⟩ gx_in.id0 rfl (by first | exact Nat.le_of_ble_eq_true rfl | simp [gx_cat_rf, Value.category]) gx_kno (gx_kp1 ?_)
  refine gx_pop hC dJ9_checkIndex_8 (by first | rfl | exact gx_cat_rf _) ?_
  exact gx_vret hC rfl rfl rfl dJ9_checkIndex_9 (fun G' hG => ⟨rfl, rfl⟩)
theorem m_J15_charAt {i : Int} {n : Nat} {f : Nat → Int} (h : gx_TG T G v (gx_I D 1 n f)) (hi : 0 ≤ i ∧ i < n) (hn : n < 1000) (hf : 0 ≤ f i.toNat ∧ f i.toNat < 128) : gx_Met l yJ15_charAt (ws_ yJ15_charAt cJ15_charAt 2 (some .char)) 3 0 0 D gx_M0 T G nx [.ref v, .int (iz i)] (gx_P (some (.int (iz (f i.toNat)))) nx) gx_no := by
  refine gx_start (by decide) (Nat.le_of_ble_eq_true rfl) rfl (fun p e s m args below meth c hC hlt => ?_)
  refine gx_iload_n hC dJ15_charAt_0 rfl rfl ?_
  refine gx_aload_n hC dJ15_charAt_1 rfl rfl (by first | rfl | exact gx_isr_rf _) ?_
  refine gx_alen hC (t := 1) rfl dJ15_charAt_2 (by repeat (first | assumption | exact Or.inr gx_us | exact Or.inr (by assumption) | exact Or.inl (by assumption) | refine gx_tu (by omega) ?_)) ?_
  refine gx_callS (nA := 2) hC (m_J9_checkIndex (i := i) (n := n) (by omega)) (lw_S q1692 q1693 q88 q1694) (by decide +kernel) dJ15_charAt_3 rfl ⟨Nat.le_of_ble_eq_true rfl, Nat.le_of_ble_eq_true rfl⟩ gx_in.id0 rfl (by first | exact Nat.le_of_ble_eq_true rfl | simp [gx_cat_rf, Value.category]) gx_kno (gx_kp0 ?_)
  refine gx_aload_n hC dJ15_charAt_6 rfl rfl (by first | rfl | exact gx_isr_rf _) ?_
  refine gx_iload_n hC dJ15_charAt_7 rfl rfl ?_
  refine gx_bald hC (t := 1) rfl dJ15_charAt_8 (by repeat (first | assumption | exact Or.inr gx_us | exact Or.inr (by assumption) | exact Or.inl (by assumption) | refine gx_tu (by omega) ?_)) (by omega) ?_
  refine gx_sipush hC dJ15_charAt_9 rfl ?_
  refine gx_iand hC dJ15_charAt_12 (gx_c255 hf) ?_
  refine gx_i2c hC dJ15_charAt_13 (gx_ci2c hf) ?_
  exact gx_zret hC rfl rfl rfl (gx_cnar hf) dJ15_charAt_14 (fun G' hG => ⟨rfl, rfl⟩)
theorem m_J9_charAt {i : Int} (h : gx_Sx D (gx_TG T G) a v cs) (hi : 0 ≤ i ∧ i < cs.length) : gx_Met l yJ9_charAt (ws_ yJ9_charAt cJ9_charAt 2 (some .char)) 4 0 0 D gx_M0 T G nx [.ref a, .int (iz i)] (gx_P (some (.int (iz (cs.getD i.toNat 0)))) nx) gx_no := by
  have h0 := h
  obtain ⟨⟨hh, zz, h1⟩, ⟨f, h2, h3⟩, h4, h5⟩ := h
  have h6 := h4 _ (gx_gmI (cs := cs) (i := i.toNat) (by omega))
  rw [← h3 i.toNat (by omega)] at h6 ⊢
  refine gx_start (by decide) (Nat.le_of_ble_eq_true rfl) rfl (fun p e s m args below meth c hC hlt => ?_)
  refine gx_aload_n hC dJ9_charAt_0 rfl rfl (by first | rfl | exact gx_isr_rf _) ?_
  refine gx_callV (nA := 0) hC (m_J9_isLatin1 h0) (C := RJ9) (Tf := TJ9) (Nf := 4) (ci := 21) rfl (by repeat (first | assumption | exact Or.inr gx_us | exact Or.inr (by assumption) | exact Or.inl (by assumption) | refine gx_tu (by omega) ?_)) (lw_V q1685 q1686 q1687 q88 q1688) (by decide +kernel) dJ9_charAt_1 rfl ⟨Nat.le_of_ble_eq_true rfl, Nat.le_of_ble_eq_true rfl⟩ gx_in.id0 rfl (by first | exact Nat.le_of_ble_eq_true rfl | simp [gx_cat_rf, Value.category]) gx_kno (gx_kp1 ?_)
  refine gx_if_eq hC dJ9_charAt_4 (tgt := 16) (by decide) (by unfold gx_rg; omega) (fun c4 => ?_) (fun c4 => ?_)
  · omega
  · refine gx_aload_n hC dJ9_charAt_7 rfl rfl (by first | rfl | exact gx_isr_rf _) ?_
    refine gx_get hC (C := RJ9) (Tf := TJ9) (N := 4) (ci := 21) (k := 0) rfl in_J9 (by decide) q497 (fun _ h9 => h9) dJ9_charAt_8 (by repeat (first | assumption | exact Or.inr gx_us | exact Or.inr (by assumption) | exact Or.inl (by assumption) | refine gx_tu (by omega) ?_)) rfl ?_
    refine gx_iload_n hC dJ9_charAt_11 rfl rfl ?_
    refine gx_callS (nA := 2) hC (m_J15_charAt h2 hi (by omega) h6) (lw_S q1689 q1690 q95 q1691) (by decide +kernel) dJ9_charAt_12 rfl ⟨Nat.le_of_ble_eq_true rfl, Nat.le_of_ble_eq_true rfl⟩ gx_in.id0 rfl (by first | exact Nat.le_of_ble_eq_true rfl | simp [gx_cat_rf, Value.category]) gx_kno (gx_kp1 ?_)
    exact gx_zret hC rfl rfl rfl (gx_cnar h6) dJ9_charAt_15 (fun G' hG => ⟨rfl, rfl⟩)
theorem m_J15_equals {n m9 : Nat} {f g : Nat → Int} (h1 : gx_TG T G v (gx_I D 1 n f)) (h2 : gx_TG T G w (gx_I D 1 m9 g)) (hn : n < 1000 ∧ m9 < 1000) (hf : ∀ j, j < n → gx_rg (f j)) (hg : ∀ j, j < m9 → gx_rg (g j)) : gx_Met l yJ15_equals (ws_ yJ15_equals cJ15_equals 3 (some .boolean)) 1 0 0 D gx_M0 T G nx [.ref v, .ref w] (fun x _ nx' => nx' = nx ∧ ∃ P : Prop, ∃ _ : Decidable P, x = some (.int (iz (gx_b P))) ∧ (P ↔ (n = m9 ∧ ∀ j, j < n → f j = g j))) gx_no := by
  refine gx_start (by decide) (Nat.le_of_ble_eq_true rfl) rfl (fun p e s m args below meth c hC hlt => ?_)
  refine gx_aload_n hC dJ15_equals_0 rfl rfl (by first | rfl | exact gx_isr_rf _) ?_
  refine gx_alen hC (t := 1) rfl dJ15_equals_1 (by repeat (first | assumption | exact Or.inr gx_us | exact Or.inr (by assumption) | exact Or.inl (by assumption) | refine gx_tu (by omega) ?_)) ?_
  refine gx_aload_n hC dJ15_equals_2 rfl rfl (by first | rfl | exact gx_isr_rf _) ?_
  refine gx_alen hC (t := 1) rfl dJ15_equals_3 (by repeat (first | assumption | exact Or.inr gx_us | exact Or.inr (by assumption) | exact Or.inl (by assumption) | refine gx_tu (by omega) ?_)) ?_
  refine gx_icmp_ne hC dJ15_equals_4 (tgt := 34) (by decide) (by unfold gx_rg; omega) (by unfold gx_rg; omega) (fun c4 => ?_) (fun c4 => ?_)
  · refine gx_iconst hC dJ15_equals_34 ?_
    exact gx_zret hC rfl rfl rfl (by first | rfl | (split <;> rfl) | simp [narrow, *]) dJ15_equals_35 (fun G' hG => ⟨rfl, False, inferInstance, gx_bF (fun q => q), ⟨fun q => q.elim, fun q => by omega⟩⟩)
  · refine gx_iconst hC dJ15_equals_7 ?_
    refine gx_istore_n hC dJ15_equals_8 rfl (by decide) (by first | rfl | simp [gx_ck, gx_lk, gx_cat_rf]) ?_
    refine gx_loc (M := [(2, some (.int (iz ((0 : Nat) : Int)))), (0, some (.ref v)), (1, some (.ref w))]) (by repeat (first | exact trivial | refine ⟨rfl, ?_⟩)) ?_
    refine gx_loop (σ := Nat) (fun i => i ≤ n ∧ ∀ j, j < i → f j = g j) (fun i => n - i) (fun _ => G) (fun _ => nx) (fun _ => 0) (fun _ => 0) (fun i => [(2, some (.int (iz (i : Int)))), (0, some (.ref v)), (1, some (.ref w))]) 0 ⟨by omega, fun j hj => by omega⟩ ?_
    intro i hi ih
    refine gx_iload_n hC dJ15_equals_9 rfl rfl ?_
    refine gx_aload_n hC dJ15_equals_10 rfl rfl (by first | rfl | exact gx_isr_rf _) ?_
    refine gx_alen hC (t := 1) rfl dJ15_equals_11 (by repeat (first | assumption | exact Or.inr gx_us | exact Or.inr (by assumption) | exact Or.inl (by assumption) | refine gx_tu (by omega) ?_)) ?_
    refine gx_icmp_ge hC dJ15_equals_12 (tgt := 32) (by decide) (by unfold gx_rg; omega) (by unfold gx_rg; omega) (fun c12 => ?_) (fun c12 => ?_)
    · refine gx_iconst hC dJ15_equals_32 ?_
      exact gx_zret hC rfl rfl rfl (by first | rfl | (split <;> rfl) | simp [narrow, *]) dJ15_equals_33 (fun G' hG => ⟨rfl, True, inferInstance, gx_bT trivial, ⟨fun _ => ⟨by omega, fun j hj => hi.2 j (by omega)⟩, fun _ => trivial⟩⟩)
    · refine gx_aload_n hC dJ15_equals_15 rfl rfl (by first | rfl | exact gx_isr_rf _) ?_
      refine gx_iload_n hC dJ15_equals_16 rfl rfl ?_
      refine gx_bald hC (t := 1) rfl dJ15_equals_17 (by repeat (first | assumption | exact Or.inr gx_us | exact Or.inr (by assumption) | exact Or.inl (by assumption) | refine gx_tu (by omega) ?_)) (by omega) ?_
      refine gx_aload_n hC dJ15_equals_18 rfl rfl (by first | rfl | exact gx_isr_rf _) ?_
      refine gx_iload_n hC dJ15_equals_19 rfl rfl ?_
      refine gx_bald hC (t := 1) rfl dJ15_equals_20 (by repeat (first | assumption | exact Or.inr gx_us | exact Or.inr (by assumption) | exact Or.inl (by assumption) | refine gx_tu (by omega) ?_)) (by omega) ?_
      rw [Int.toNat_natCast]
      refine gx_icmp_eq hC dJ15_equals_21 (tgt := 26) (by decide) (hf i (by omega)) (hg i (by omega)) (fun c21 => ?_) (fun c21 => ?_)
      · refine gx_iinc hC dJ15_equals_26 rfl (by decide) (by first | rfl | simp [gx_ck, gx_lk, gx_cat_rf]) ?_
        refine gx_goto hC dJ15_equals_29 (tgt := 9) (by decide) ?_
        refine gx_loc (M := [(2, some (.int (iz ((i + 1 : Nat) : Int)))), (0, some (.ref v)), (1, some (.ref w))]) (by repeat (first | exact trivial | refine ⟨rfl, ?_⟩)) ?_
        exact ih (i + 1) ⟨by omega, fun j hj => by by_cases ej : j = i; (subst ej; exact c21); exact hi.2 j (by omega)⟩ (by omega)
      · refine gx_iconst hC dJ15_equals_24 ?_
        exact gx_zret hC rfl rfl rfl (by first | rfl | (split <;> rfl) | simp [narrow, *]) dJ15_equals_25 (fun G' hG => ⟨rfl, False, inferInstance, gx_bF (fun q => q), ⟨fun q => q.elim, fun q => c21 (q.2 i (by omega))⟩⟩)
theorem gx_lex {cs ds : List Int} (h1 : cs.length = ds.length) (h2 : ∀ j, j < cs.length → cs.getD j 0 = ds.getD j 0) : cs = ds := by
  apply List.ext_getElem h1
  intro j a b
  have := h2 j a
  rwa [List.getD_eq_getElem?_getD, List.getElem?_eq_getElem a, List.getD_eq_getElem?_getD, List.getElem?_eq_getElem b] at this
theorem m_J9_equals (h1 : gx_Sx D (gx_TG T G) a v cs) (h2 : gx_Sx D (gx_TG T G) b w ds) (hab : a = b → cs = ds) : gx_Met l yJ9_equals (ws_ yJ9_equals cJ9_equals 3 (some .boolean)) 3 0 0 D gx_M0 T G nx [.ref a, .ref b] (gx_P (some (.int (iz (gx_b (cs = ds))))) nx) gx_no := by
  obtain ⟨⟨hh, zz, p1⟩, ⟨f, p2, p3⟩, p4, p5⟩ := h1
  obtain ⟨⟨hh', zz', q1⟩, ⟨g, q2, q3⟩, q4, q5⟩ := h2
  have r1 : ∀ j, j < cs.length → gx_rg (f j) := fun j hj => by have := p4 _ (gx_gmI hj); rw [← p3 j hj] at this; unfold gx_rg; omega
  have r2 : ∀ j, j < ds.length → gx_rg (g j) := fun j hj => by have := q4 _ (gx_gmI hj); rw [← q3 j hj] at this; unfold gx_rg; omega
  refine gx_start (by decide) (Nat.le_of_ble_eq_true rfl) rfl (fun p e s m args below meth c hC hlt => ?_)
  refine gx_aload_n hC dJ9_equals_0 rfl rfl (by first | rfl | exact gx_isr_rf _) ?_
  refine gx_aload_n hC dJ9_equals_1 rfl rfl (by first | rfl | exact gx_isr_rf _) ?_
  refine gx_acmp_ne hC (rx := some a) (ry := some b) dJ9_equals_2 (tgt := 7) (by decide) (fun c2 => ?_) (fun c2 => ?_)
  · refine gx_aload_n hC dJ9_equals_7 rfl rfl (by first | rfl | exact gx_isr_rf _) ?_
    refine gx_instE hC (C := RJ9) (Tf := TJ9) (N := 4) (ci := 21) rfl q2211 dJ9_equals_8 q1 ?_
    refine gx_if_eq hC dJ9_equals_11 (tgt := 54) (by decide) (by unfold gx_rg; omega) (fun c11 => ?_) (fun c11 => ?_)
    · omega
    · refine gx_aload_n hC dJ9_equals_14 rfl rfl (by first | rfl | exact gx_isr_rf _) ?_
      refine gx_castE hC (C := RJ9) (Tf := TJ9) (N := 4) (ci := 21) rfl q2211 dJ9_equals_15 (by repeat (first | assumption | exact Or.inr gx_us | exact Or.inr (by assumption) | exact Or.inl (by assumption) | refine gx_tu (by omega) ?_)) ?_
      refine gx_astore_n hC dJ9_equals_18 rfl (by decide) (by first | rfl | simp [gx_ck, gx_lk, gx_cat_rf]) (by first | rfl | exact gx_isr_rf _) ?_
      refine gx_gets hC (List.mem_cons_of_mem _ (List.mem_cons_of_mem _ (List.mem_cons_of_mem _ (List.mem_cons_of_mem _ List.mem_cons_self)))) q356 (fun _ h9 => h9) dJ9_equals_19 ?_
      refine gx_if_eq hC dJ9_equals_22 (tgt := 36) (by decide) (by unfold gx_rg; omega) (fun c22 => ?_) (fun c22 => ?_)
      · omega
      · refine gx_aload_n hC dJ9_equals_25 rfl rfl (by first | rfl | exact gx_isr_rf _) ?_
        refine gx_get hC (C := RJ9) (Tf := TJ9) (N := 4) (ci := 21) (k := 1) rfl in_J9 (by decide) q498 (fun _ h9 => h9) dJ9_equals_26 (by repeat (first | assumption | exact Or.inr gx_us | exact Or.inr (by assumption) | exact Or.inl (by assumption) | refine gx_tu (by omega) ?_)) rfl ?_
        refine gx_aload_n hC dJ9_equals_29 rfl rfl (by first | rfl | exact gx_isr_rf _) ?_
        refine gx_get hC (C := RJ9) (Tf := TJ9) (N := 4) (ci := 21) (k := 1) rfl in_J9 (by decide) q498 (fun _ h9 => h9) dJ9_equals_30 (by repeat (first | assumption | exact Or.inr gx_us | exact Or.inr (by assumption) | exact Or.inl (by assumption) | refine gx_tu (by omega) ?_)) rfl ?_
        refine gx_icmp_ne hC dJ9_equals_33 (tgt := 54) (by decide) (by unfold gx_rg; omega) (by unfold gx_rg; omega) (fun c33 => ?_) (fun c33 => ?_)
        · omega
        · refine gx_aload_n hC dJ9_equals_36 rfl rfl (by first | rfl | exact gx_isr_rf _) ?_
          refine gx_get hC (C := RJ9) (Tf := TJ9) (N := 4) (ci := 21) (k := 0) rfl in_J9 (by decide) q497 (fun _ h9 => h9) dJ9_equals_37 (by repeat (first | assumption | exact Or.inr gx_us | exact Or.inr (by assumption) | exact Or.inl (by assumption) | refine gx_tu (by omega) ?_)) rfl ?_
          refine gx_aload_n hC dJ9_equals_40 rfl rfl (by first | rfl | exact gx_isr_rf _) ?_
          refine gx_get hC (C := RJ9) (Tf := TJ9) (N := 4) (ci := 21) (k := 0) rfl in_J9 (by decide) q497 (fun _ h9 => h9) dJ9_equals_41 (by repeat (first | assumption | exact Or.inr gx_us | exact Or.inr (by assumption) | exact Or.inl (by assumption) | refine gx_tu (by omega) ?_)) rfl ?_
          refine gx_callS (nA := 2) hC (m_J15_equals p2 q2 ⟨p5, q5⟩ r1 r2) (lw_S q2212 q2213 q95 q2214) (by decide +kernel) dJ9_equals_44 rfl ⟨Nat.le_of_ble_eq_true rfl, Nat.le_of_ble_eq_true rfl⟩ gx_in.id0 rfl (by first | exact Nat.le_of_ble_eq_true rfl | simp [gx_cat_rf, Value.category]) gx_kno (fun v2 G2 nx2 hp hf hle hlt2 => ?_)
          obtain ⟨rfl, P, _, rfl, hP⟩ := hp
          refine gx_if_eq hC dJ9_equals_47 (tgt := 54) (by decide) gx_bR (fun c47 => ?_) (fun c47 => ?_)
          · rw [gx_be] at c47
            refine gx_iconst hC dJ9_equals_54 ?_
            exact gx_zret hC rfl rfl rfl (by first | rfl | (split <;> rfl) | simp [narrow, *]) dJ9_equals_55 (fun G' hG => ⟨gx_bF (fun e9 => c47 (hP.mpr ⟨by rw [e9], fun j hj => by rw [p3 j hj, q3 j (by rw [← e9]; exact hj), e9]⟩)), rfl⟩)
          · rw [gx_bn] at c47
            have c48 := hP.mp c47
            refine gx_iconst hC dJ9_equals_50 ?_
            refine gx_goto hC dJ9_equals_51 (tgt := 55) (by decide) ?_
            exact gx_zret hC rfl rfl rfl (by first | rfl | (split <;> rfl) | simp [narrow, *]) dJ9_equals_55 (fun G' hG => ⟨gx_bT (gx_lex c48.1 (fun j hj => by rw [← p3 j hj, ← q3 j (by omega)]; exact c48.2 j hj)), rfl⟩)
  · refine gx_iconst hC dJ9_equals_5 ?_
    exact gx_zret hC rfl rfl rfl (by first | rfl | (split <;> rfl) | simp [narrow, *]) dJ9_equals_6 (fun G' hG => ⟨gx_bT (hab (by simpa using c2)), rfl⟩)
/-- the hash is in place -/
theorem m_J9_hashCode {hh : Int} (h : gx_TG T G a (gx_O 21 [.ref v, .int (iz 0), .int (iz hh), .int (iz 0)])) (hr : gx_rg hh) (h0 : hh ≠ 0) : gx_Met l yJ9_hashCode (ws_ yJ9_hashCode cJ9_hashCode 2 (some .int)) 3 0 0 D gx_M0 T G nx [.ref a] (gx_P (some (.int (iz hh))) nx) gx_no := by
  refine gx_start (by decide) (Nat.le_of_ble_eq_true rfl) rfl (fun p e s m args below meth c hC hlt => ?_)
  refine gx_aload_n hC dJ9_hashCode_0 rfl rfl (by first | rfl | exact gx_isr_rf _) ?_
  refine gx_get hC (C := RJ9) (Tf := TJ9) (N := 4) (ci := 21) (k := 2) rfl in_J9 (by decide) q499 (fun _ h9 => h9) dJ9_hashCode_1 (by repeat (first | assumption | exact Or.inr gx_us | exact Or.inr (by assumption) | exact Or.inl (by assumption) | refine gx_tu (by omega) ?_)) rfl ?_
  refine gx_istore_n hC dJ9_hashCode_4 rfl (by decide) (by first | rfl | simp [gx_ck, gx_lk, gx_cat_rf]) ?_
  refine gx_iload_n hC dJ9_hashCode_5 rfl rfl ?_
  refine gx_if_ne hC dJ9_hashCode_6 (tgt := 58) (by decide) hr (fun c6 => ?_) (fun c6 => ?_)
  · refine gx_iload_n hC dJ9_hashCode_58 rfl rfl ?_
    exact gx_iret hC rfl rfl rfl dJ9_hashCode_59 (fun G' hG => ⟨rfl, rfl⟩)
  · omega
theorem m_J7_isLatin1 (h : gx_SB D (gx_TG T G) a v cap cs) : gx_Met l yJ7_isLatin1 (ws_ yJ7_isLatin1 cJ7_isLatin1 1 (some .boolean)) 1 0 0 D gx_M0 T G nx [.ref a] (gx_P (some (.int (iz 1))) nx) gx_no := by
  obtain ⟨⟨ml, h1⟩, -⟩ := h
  refine gx_start (by decide) (Nat.le_of_ble_eq_true rfl) rfl (fun p e s m args below meth c hC hlt => ?_)
  refine gx_gets hC (List.mem_cons_of_mem _ (List.mem_cons_of_mem _ (List.mem_cons_of_mem _ (List.mem_cons_of_mem _ List.mem_cons_self)))) q246 (fun _ h9 => h9) dJ7_isLatin1_0 ?_
  refine gx_if_eq hC dJ7_isLatin1_3 (tgt := 17) (by decide) (by unfold gx_rg; omega) (fun c3 => ?_) (fun c3 => ?_)
  · omega
  · refine gx_aload_n hC dJ7_isLatin1_6 rfl rfl (by first | rfl | exact gx_isr_rf _) ?_
    refine gx_get hC (C := RJ8) (Tf := TJ8) (N := 4) (ci := 20) (k := 1) rfl in_J8 (by decide) q256 (fun _ h9 => h9) dJ7_isLatin1_7 (by repeat (first | assumption | exact Or.inr gx_us | exact Or.inr (by assumption) | exact Or.inl (by assumption) | refine gx_tu (by omega) ?_)) rfl ?_
    refine gx_if_ne hC dJ7_isLatin1_10 (tgt := 17) (by decide) (by unfold gx_rg; omega) (fun c10 => ?_) (fun c10 => ?_)
    · exact absurd rfl c10
    · refine gx_iconst hC dJ7_isLatin1_13 ?_
      refine gx_goto hC dJ7_isLatin1_14 (tgt := 18) (by decide) ?_
      exact gx_zret hC rfl rfl rfl (by first | rfl | (split <;> rfl) | simp [narrow, *]) dJ7_isLatin1_18 (fun G' hG => ⟨rfl, rfl⟩)
theorem m_J7_length (h : gx_SB D (gx_TG T G) a v cap cs) : gx_Met l yJ7_length (ws_ yJ7_length cJ7_length 1 (some .int)) 1 0 0 D gx_M0 T G nx [.ref a] (gx_P (some (.int (iz cs.length))) nx) gx_no := by
  obtain ⟨⟨ml, h1⟩, -⟩ := h
  refine gx_start (by decide) (Nat.le_of_ble_eq_true rfl) rfl (fun p e s m args below meth c hC hlt => ?_)
  refine gx_aload_n hC dJ7_length_0 rfl rfl (by first | rfl | exact gx_isr_rf _) ?_
  refine gx_get hC (C := RJ8) (Tf := TJ8) (N := 4) (ci := 20) (k := 3) rfl in_J8 (by decide) q259 (fun _ h9 => h9) dJ7_length_1 (by repeat (first | assumption | exact Or.inr gx_us | exact Or.inr (by assumption) | exact Or.inl (by assumption) | refine gx_tu (by omega) ?_)) rfl ?_
  exact gx_iret hC rfl rfl rfl dJ7_length_4 (fun G' hG => ⟨rfl, rfl⟩)
theorem m_J8_length (h : gx_SB D (gx_TG T G) a v cap cs) : gx_Met l yJ8_length (ws_ yJ8_length cJ8_length 1 (some .int)) 2 0 0 D gx_M0 T G nx [.ref a] (gx_P (some (.int (iz cs.length))) nx) gx_no := by
  have h0 := h
  obtain ⟨⟨ml, h1⟩, -⟩ := h
  refine gx_start (by decide) (Nat.le_of_ble_eq_true rfl) rfl (fun p e s m args below meth c hC hlt => ?_)
  refine gx_aload_n hC dJ8_length_0 rfl rfl (by first | rfl | exact gx_isr_rf _) ?_
  refine gx_callSU (nA := 0) hC (m_J7_length h0) (C := RJ8) (Tf := TJ8) (Nf := 4) (ci := 20) rfl (by repeat (first | assumption | exact Or.inr gx_us | exact Or.inr (by assumption) | exact Or.inl (by assumption) | refine gx_tu (by omega) ?_)) (lw_app (List.forall_mem_cons.mpr ⟨q440, (List.forall_mem_cons.mpr ⟨q436, (List.forall_mem_cons.mpr ⟨q268, (List.forall_mem_cons.mpr ⟨q435, (List.forall_mem_cons.mpr ⟨q86, (fun _ h9 => absurd h9 List.not_mem_nil)⟩)⟩)⟩)⟩)⟩) (lw_meth q441)) (by decide +kernel) dJ8_length_1 rfl ⟨Nat.le_of_ble_eq_true rfl, Nat.le_of_ble_eq_true rfl⟩ gx_in.id0 rfl (by first | exact Nat.le_of_ble_eq_true rfl | simp [gx_cat_rf, Value.category]) gx_kno (gx_kp1 ?_)
  exact gx_iret hC rfl rfl rfl dJ8_length_4 (fun G' hG => ⟨rfl, rfl⟩)
theorem m_J7_getValue (h : gx_SB D (gx_TG T G) a v cap cs) : gx_Met l yJ7_getValue (ws_ yJ7_getValue cJ7_getValue 1 (some (.array .byte))) 1 0 0 D gx_M0 T G nx [.ref a] (gx_P (some (.ref v)) nx) gx_no := by
  obtain ⟨⟨ml, h1⟩, -⟩ := h
  refine gx_start (by decide) (Nat.le_of_ble_eq_true rfl) rfl (fun p e s m args below meth c hC hlt => ?_)
  refine gx_aload_n hC dJ7_getValue_0 rfl rfl (by first | rfl | exact gx_isr_rf _) ?_
  refine gx_get hC (C := RJ8) (Tf := TJ8) (N := 4) (ci := 20) (k := 0) rfl in_J8 (by decide) q255 (fun _ h9 => h9) dJ7_getValue_1 (by repeat (first | assumption | exact Or.inr gx_us | exact Or.inr (by assumption) | exact Or.inl (by assumption) | refine gx_tu (by omega) ?_)) rfl ?_
  exact gx_aret hC rfl rfl rfl (by first | exact Or.inl ⟨_, rfl⟩ | exact Or.inr ⟨_, rfl⟩) (by first | rfl | exact gx_isr_rf _) dJ7_getValue_4 (fun G' hG => ⟨rfl, rfl⟩)
theorem m_J15_canEncode {c9 : Int} (h : 0 ≤ c9 ∧ c9 < 128) : gx_Met l yJ15_canEncode (ws_ yJ15_canEncode cJ15_canEncode 1 (some .boolean)) 1 0 0 D gx_M0 T G nx [.int (iz c9)] (gx_P (some (.int (iz 1))) nx) gx_no := by
  refine gx_start (by decide) (Nat.le_of_ble_eq_true rfl) rfl (fun p e s m args below meth c hC hlt => ?_)
  refine gx_iload_n hC dJ15_canEncode_0 rfl rfl ?_
  refine gx_sipush hC dJ15_canEncode_1 rfl ?_
  refine gx_icmp_gt hC dJ15_canEncode_4 (tgt := 11) (by decide) (by unfold gx_rg; omega) (by unfold gx_rg; omega) (fun c4 => ?_) (fun c4 => ?_)
  · omega
  · refine gx_iconst hC dJ15_canEncode_7 ?_
    refine gx_goto hC dJ15_canEncode_8 (tgt := 12) (by decide) ?_
    exact gx_zret hC rfl rfl rfl (by first | rfl | (split <;> rfl) | simp [narrow, *]) dJ15_canEncode_12 (fun G' hG => ⟨rfl, rfl⟩)
theorem m_J13_copyOf {n k : Nat} {f : Nat → Int} (h : gx_TG T G v (gx_I D 1 n f)) (hf : ∀ j, j < n → -128 ≤ f j ∧ f j < 128) (hn : n < k) (hk : k ≤ 302) (hv : v < nx) : gx_Met l yJ13_copyOf (ws_ yJ13_copyOf cJ13_copyOf 3 (some (.array .byte))) 2 1 302 D gx_M0 T G nx [.ref v, .int (iz k)] (fun x G' nx' => x = some (.ref nx) ∧ nx' = nx + 1 ∧ ∃ g, G' nx (gx_I D 1 k g) ∧ (∀ j, j < n → g j = f j) ∧ (gx_by f → gx_by g)) gx_no := by
  refine gx_start (by decide) (Nat.le_of_ble_eq_true rfl) rfl (fun p e s m args below meth c hC hlt => ?_)
  refine gx_iload_n hC dJ13_copyOf_0 rfl rfl ?_
  refine gx_aload_n hC dJ13_copyOf_1 rfl rfl (by first | rfl | exact gx_isr_rf _) ?_
  refine gx_alen hC (t := 1) rfl dJ13_copyOf_2 (by repeat (first | assumption | exact Or.inr gx_us | exact Or.inr (by assumption) | exact Or.inl (by assumption) | refine gx_tu (by omega) ?_)) ?_
  refine gx_icmp_ne hC dJ13_copyOf_3 (tgt := 14) (by decide) (by unfold gx_rg; omega) (by unfold gx_rg; omega) (fun c3 => ?_) (fun c3 => ?_)
  · refine gx_bud (bc' := 0 + 1) (bs' := (302 - k) + k) (by omega) (by omega) ?_
    refine gx_iload_n hC dJ13_copyOf_14 rfl rfl ?_
    refine gx_newa hC (atype := .byte) (t := 1) (ty := .byte) (N := k) (x := (k, .inl (fun _ => iz 0))) q269 rfl rfl rfl (fun _ => rfl) dJ13_copyOf_15 (by first | rfl | omega) (by first | decide | omega) ?_
    refine gx_astore_n hC dJ13_copyOf_17 rfl (by decide) (by first | rfl | simp [gx_ck, gx_lk, gx_cat_rf]) (by first | rfl | exact gx_isr_rf _) ?_
    refine gx_aload_n hC dJ13_copyOf_18 rfl rfl (by first | rfl | exact gx_isr_rf _) ?_
    refine gx_iconst hC dJ13_copyOf_19 ?_
    refine gx_aload_n hC dJ13_copyOf_20 rfl rfl (by first | rfl | exact gx_isr_rf _) ?_
    refine gx_iconst hC dJ13_copyOf_21 ?_
    refine gx_aload_n hC dJ13_copyOf_22 rfl rfl (by first | rfl | exact gx_isr_rf _) ?_
    refine gx_alen hC (t := 1) rfl dJ13_copyOf_23 (by repeat (first | assumption | exact Or.inr gx_us | exact Or.inr (by assumption) | exact Or.inl (by assumption) | refine gx_tu (by omega) ?_)) ?_
    refine gx_iload_n hC dJ13_copyOf_24 rfl rfl ?_
    refine gx_mmin hC q311 q312 q91 q313 dJ13_copyOf_25 (by unfold gx_rg; omega) (by unfold gx_rg; omega) (Nat.le_of_ble_eq_true rfl) (Nat.le_of_ble_eq_true rfl) ?_
    have hel2 : ∀ i : Nat, i < (min (n : Int) k).toNat → -128 ≤ f ((0 : Int).toNat + i) ∧ f ((0 : Int).toNat + i) < 128 := fun i hi => hf _ (by omega)
    refine gx_copyB hC q314 q316 q315 q93 dJ13_copyOf_28 (by repeat (first | assumption | exact Or.inr gx_us | exact Or.inr (by assumption) | exact Or.inl (by assumption) | refine gx_tu (by omega) ?_)) (by first | exact gx_us | assumption | (repeat (first | exact gx_us | assumption | refine gx_un (by omega) ?_))) (by first | exact Or.inl rfl | exact Or.inl (Or.inl rfl) | exact Or.inl (Or.inr rfl) | exact Or.inr (by omega) | assumption | (simp only [gx_A, *]; omega)) (by omega) hel2 (Nat.le_of_ble_eq_true rfl) (by first | exact Nat.le_of_ble_eq_true rfl | decide) ?_
    refine gx_aload_n hC dJ13_copyOf_31 rfl rfl (by first | rfl | exact gx_isr_rf _) ?_
    exact gx_aret hC rfl rfl rfl (by first | exact Or.inl ⟨_, rfl⟩ | exact Or.inr ⟨_, rfl⟩) (by first | rfl | exact gx_isr_rf _) dJ13_copyOf_32 (fun G' hG => ⟨rfl, rfl, _, hG _ _ gx_us, fun j hj => by unfold va_cpy; rw [if_pos (by omega)]; congr 1; omega, fun q j => by unfold va_cpy; split <;> first | exact q _ | exact (by omega : (-128:Int) ≤ 0 ∧ (0:Int) < 128)⟩)
  · omega
theorem m_J7_newCapacity {n : Nat} (h : gx_SB D (gx_TG T G) a v cap cs) (hn : cap < n ∧ n ≤ 150) : gx_Met l yJ7_newCapacity (ws_ yJ7_newCapacity cJ7_newCapacity 6 (some .int)) 3 0 0 D gx_M0 T G nx [.ref a, .int (iz n)] (fun x _ nx' => nx' = nx ∧ ∃ k : Nat, x = some (.int (iz k)) ∧ n ≤ k ∧ k ≤ 300) gx_no := by
  obtain ⟨⟨ml, h1⟩, ⟨f, h2, h3, h8⟩, h4, h5, h6, h7⟩ := h
  refine gx_start (by decide) (Nat.le_of_ble_eq_true rfl) rfl (fun p e s m args below meth c hC hlt => ?_)
  refine gx_aload_n hC dJ7_newCapacity_0 rfl rfl (by first | rfl | exact gx_isr_rf _) ?_
  refine gx_get hC (C := RJ8) (Tf := TJ8) (N := 4) (ci := 20) (k := 0) rfl in_J8 (by decide) q255 (fun _ h9 => h9) dJ7_newCapacity_1 (by repeat (first | assumption | exact Or.inr gx_us | exact Or.inr (by assumption) | exact Or.inl (by assumption) | refine gx_tu (by omega) ?_)) rfl ?_
  refine gx_alen hC (t := 1) rfl dJ7_newCapacity_4 (by repeat (first | assumption | exact Or.inr gx_us | exact Or.inr (by assumption) | exact Or.inl (by assumption) | refine gx_tu (by omega) ?_)) ?_
  refine gx_istore_n hC dJ7_newCapacity_5 rfl (by decide) (by first | rfl | simp [gx_ck, gx_lk, gx_cat_rf]) ?_
  refine gx_iload_n hC dJ7_newCapacity_6 rfl rfl ?_
  refine gx_aload_n hC dJ7_newCapacity_7 rfl rfl (by first | rfl | exact gx_isr_rf _) ?_
  refine gx_get hC (C := RJ8) (Tf := TJ8) (N := 4) (ci := 20) (k := 1) rfl in_J8 (by decide) q256 (fun _ h9 => h9) dJ7_newCapacity_8 (by repeat (first | assumption | exact Or.inr gx_us | exact Or.inr (by assumption) | exact Or.inl (by assumption) | refine gx_tu (by omega) ?_)) rfl ?_
  refine gx_ishl hC dJ7_newCapacity_11 (gx_sl0) ?_
  refine gx_istore_n hC dJ7_newCapacity_12 rfl (by decide) (by first | rfl | simp [gx_ck, gx_lk, gx_cat_rf]) ?_
  refine gx_iload_n hC dJ7_newCapacity_13 rfl rfl ?_
  refine gx_iload_n hC dJ7_newCapacity_14 rfl rfl ?_
  refine gx_isub hC dJ7_newCapacity_15 ?_
  refine gx_istore hC dJ7_newCapacity_16 (by decide) (by first | rfl | simp [gx_ck, gx_lk, gx_cat_rf]) ?_
  refine gx_iload_n hC dJ7_newCapacity_18 rfl rfl ?_
  refine gx_iload hC dJ7_newCapacity_19 rfl ?_
  refine gx_iload_n hC dJ7_newCapacity_21 rfl rfl ?_
  refine gx_iconst hC dJ7_newCapacity_22 ?_
  refine gx_aload_n hC dJ7_newCapacity_23 rfl rfl (by first | rfl | exact gx_isr_rf _) ?_
  refine gx_get hC (C := RJ8) (Tf := TJ8) (N := 4) (ci := 20) (k := 1) rfl in_J8 (by decide) q256 (fun _ h9 => h9) dJ7_newCapacity_24 (by repeat (first | assumption | exact Or.inr gx_us | exact Or.inr (by assumption) | exact Or.inl (by assumption) | refine gx_tu (by omega) ?_)) rfl ?_
  refine gx_ishl hC dJ7_newCapacity_27 (gx_sl0) ?_
  refine gx_iadd hC dJ7_newCapacity_28 ?_
  refine gx_callS (nA := 3) hC (m_J11_newLength (x := cap) (y := (n : Int) - cap) (z := (cap : Int) + 2) (by omega) (by omega) (by omega) (by omega)) (lw_S q290 q291 q90 q292) (by decide +kernel) dJ7_newCapacity_29 rfl ⟨Nat.le_of_ble_eq_true rfl, Nat.le_of_ble_eq_true rfl⟩ gx_in.id0 rfl (by first | exact Nat.le_of_ble_eq_true rfl | simp [gx_cat_rf, Value.category]) gx_kno (gx_kp1 ?_)
  refine gx_istore hC dJ7_newCapacity_32 (by decide) (by first | rfl | simp [gx_ck, gx_lk, gx_cat_rf]) ?_
  refine gx_iload hC dJ7_newCapacity_34 rfl ?_
  refine gx_ldc hC (z := 2147483647) q300 (by decide) dJ7_newCapacity_36 ?_
  refine gx_icmp_ne hC dJ7_newCapacity_38 (tgt := 51) (by decide) (by unfold gx_rg; omega) (by unfold gx_rg; omega) (fun c38 => ?_) (fun c38 => ?_)
  · refine gx_iload hC dJ7_newCapacity_51 rfl ?_
    refine gx_aload_n hC dJ7_newCapacity_53 rfl rfl (by first | rfl | exact gx_isr_rf _) ?_
    refine gx_get hC (C := RJ8) (Tf := TJ8) (N := 4) (ci := 20) (k := 1) rfl in_J8 (by decide) q256 (fun _ h9 => h9) dJ7_newCapacity_54 (by repeat (first | assumption | exact Or.inr gx_us | exact Or.inr (by assumption) | exact Or.inl (by assumption) | refine gx_tu (by omega) ?_)) rfl ?_
    refine gx_ishr hC dJ7_newCapacity_57 (gx_sr0) ?_
    exact gx_iret hC rfl rfl rfl dJ7_newCapacity_58 (fun G' hG => ⟨rfl, ((cap : Int) + max ((n : Int) - cap) ((cap : Int) + 2)).toNat, by congr 3; omega, by omega, by omega⟩)
  · omega
end STR

