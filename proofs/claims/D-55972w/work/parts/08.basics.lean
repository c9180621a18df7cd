/-! small helpers of GateGrammar; java.util.ArrayList -/
set_option maxRecDepth 100000
def gx_b (P : Prop) [Decidable P] : Int := if P then 1 else 0
theorem gx_bT {P : Prop} [Decidable P] (h : P) : some (Value.int (iz 1)) = some (Value.int (iz (gx_b P))) := by unfold gx_b; rw [if_pos h]
theorem gx_bF {P : Prop} [Decidable P] (h : ¬ P) : some (Value.int (iz 0)) = some (Value.int (iz (gx_b P))) := by unfold gx_b; rw [if_neg h]
theorem gx_b1 {P : Prop} [Decidable P] (h : P) : gx_b P = 1 := if_pos h
theorem gx_b0 {P : Prop} [Decidable P] (h : ¬ P) : gx_b P = 0 := if_neg h
theorem gx_bR {P : Prop} [Decidable P] : gx_rg (gx_b P) := by unfold gx_b gx_rg; split <;> omega
theorem gx_be {P : Prop} [Decidable P] : gx_b P = 0 ↔ ¬ P := by unfold gx_b; split <;> simp [*]
theorem gx_bn {P : Prop} [Decidable P] : ¬ gx_b P = 0 ↔ P := by unfold gx_b; split <;> simp [*]
theorem gx_shr1 {z : Int} (h0 : 0 ≤ z) (h : z < 2147483648) : iz z >>> (iz 1 &&& 31) = iz (z / 2) := by
  obtain ⟨n, rfl⟩ : ∃ n : Nat, z = n := ⟨z.toNat, by omega⟩
  have e : (n : Int) / 2 = ((n / 2 : Nat) : Int) := by omega
  rw [e, iz_nat, iz_nat, pk_shrN (n := n) (by omega) (iz 1 &&& 31) 1 (by decide)]
abbrev gx_TG (T G : gx_H) : gx_H := fun a e => T a e ∨ G a e
/-- an ArrayList at a, its array at ed, with room for cap, holding xs -/
def gx_AL (D : gx_D) (X : gx_H) (a ed : Nat) (mc : Int) (cap : Nat) (xs : List Nat) : Prop :=
  X a (gx_O 19 [.int (iz mc), .ref ed, .int (iz xs.length)]) ∧ (∃ f, X ed (gx_Q D 2 cap f) ∧ ∀ j, j < xs.length → f j = some (xs.getD j 0)) ∧ xs.length ≤ cap ∧ cap < 60000000 ∧ a ≠ ed
theorem gx_AL.mono {D : gx_D} {X Y : gx_H} {a ed : Nat} {mc : Int} {cap : Nat} {xs : List Nat} (h : gx_AL D X a ed mc cap xs) (ha : ∀ e, X a e → Y a e) (hd : ∀ e, X ed e → Y ed e) : gx_AL D Y a ed mc cap xs := by
  obtain ⟨h1, ⟨f, h2, h3⟩, h4⟩ := h
  exact ⟨ha _ h1, ⟨f, hd _ h2, h3⟩, h4⟩
/-- an object that an Object[] may hold -/
def gx_ob (X : gx_H) (v : Nat) : Prop := ∃ (ci : Nat) (C : String) (Tf : u_T) (N : Nat) (fs : List Value), gx_cl[ci]? = some (C, Tf, N) ∧ X v (gx_O ci fs) ∧ Cond.castable C "java/lang/Object" ∈ lw_tbl
section BAS
variable {l : Launch} {D : gx_D} {T G : gx_H} {nx : Nat}
theorem m_X1_isBetween {v lo hi : Int} (h1 : gx_rg v) (h2 : gx_rg lo) (h3 : gx_rg hi) : gx_Met l yX1_isBetween (ws_ yX1_isBetween cX1_isBetween 3 (some .boolean)) 1 0 0 D gx_M0 T G nx [.int (iz v), .int (iz lo), .int (iz hi)] (gx_P (some (.int (iz (gx_b (lo ≤ v ∧ v ≤ hi))))) nx) gx_no := by
  refine gx_start (by decide) (Nat.le_of_ble_eq_true rfl) rfl (fun p e s m args below meth c hC hlt => ?_)
  refine gx_iload_n hC dX1_isBetween_0 rfl rfl ?_
  refine gx_iload_n hC dX1_isBetween_1 rfl rfl ?_
  refine gx_icmp_lt hC dX1_isBetween_2 (tgt := 14) (by decide) h1 h2 (fun c2 => ?_) (fun c2 => ?_)
  · refine gx_iconst hC dX1_isBetween_14 ?_
    exact gx_zret hC rfl rfl rfl (by first | rfl | (split <;> rfl) | simp [narrow, *]) dX1_isBetween_15 (fun G' hG => ⟨gx_bF (by omega), rfl⟩)
  · refine gx_iload_n hC dX1_isBetween_5 rfl rfl ?_
    refine gx_iload_n hC dX1_isBetween_6 rfl rfl ?_
    refine gx_icmp_gt hC dX1_isBetween_7 (tgt := 14) (by decide) h1 h3 (fun c7 => ?_) (fun c7 => ?_)
    · refine gx_iconst hC dX1_isBetween_14 ?_
      exact gx_zret hC rfl rfl rfl (by first | rfl | (split <;> rfl) | simp [narrow, *]) dX1_isBetween_15 (fun G' hG => ⟨gx_bF (by omega), rfl⟩)
    · refine gx_iconst hC dX1_isBetween_10 ?_
      refine gx_goto hC dX1_isBetween_11 (tgt := 15) (by decide) ?_
      exact gx_zret hC rfl rfl rfl (by first | rfl | (split <;> rfl) | simp [narrow, *]) dX1_isBetween_15 (fun G' hG => ⟨gx_bT (by omega), rfl⟩)
theorem m_X1_checkArgument {b : Int} (h1 : gx_rg b) : gx_Met l yX1_checkArgument (ws_ yX1_checkArgument cX1_checkArgument 1 none) 10 1 6 D gx_M0 T G nx [.int (iz b)] (fun v _ nx' => ¬ b = 0 ∧ v = none ∧ nx' = nx) (fun E _ _ _ => E = gx_IAE ∧ b = 0) := by
  refine gx_start (by decide) (Nat.le_of_ble_eq_true rfl) rfl (fun p e s m args below meth c hC hlt => ?_)
  refine gx_iload_n hC dX1_checkArgument_0 rfl rfl ?_
  refine gx_if_ne hC dX1_checkArgument_1 (tgt := 12) (by decide) h1 (fun c1 => ?_) (fun c1 => ?_)
  · exact gx_vret hC rfl rfl rfl dX1_checkArgument_12 (fun G' hG => ⟨c1, rfl, rfl⟩)
  · refine gx_throw0 hC (cls := "java/lang/IllegalArgumentException") (names := ["java/lang/RuntimeException", "java/lang/Exception"]) rfl rfl (by decide) (by decide) q1581 q85 ⟨gx_pl [82, 212, 221, 231, 234, 236, 213, 214, 137, 138, 215, 220, 232, 473, 202, 474, 204, 475, 206, 216, 218, 208, 1583, 1584, 1585, 777, 193, 777, 778, 779, 780, 195, 780, 781, 782, 213, 197, 1582, 191, 192, 199, 200, 201, 203, 205, 207, 211, 210, 209] (by decide +kernel), by decide +kernel⟩ dX1_checkArgument_4 dX1_checkArgument_7 dX1_checkArgument_8 dX1_checkArgument_11 (by intro x9 h9; cases h9) (Nat.le_of_ble_eq_true rfl) (Nat.le_of_ble_eq_true rfl) (fun q G' nx' hG hn => ⟨rfl, c1⟩)
theorem m_X1_checkState {b : Int} (h1 : gx_rg b) : gx_Met l yX1_checkState (ws_ yX1_checkState cX1_checkState 1 none) 10 1 6 D gx_M0 T G nx [.int (iz b)] (fun v _ nx' => ¬ b = 0 ∧ v = none ∧ nx' = nx) (fun E _ _ _ => E = gx_ISE ∧ b = 0) := by
  refine gx_start (by decide) (Nat.le_of_ble_eq_true rfl) rfl (fun p e s m args below meth c hC hlt => ?_)
  refine gx_iload_n hC dX1_checkState_0 rfl rfl ?_
  refine gx_if_ne hC dX1_checkState_1 (tgt := 12) (by decide) h1 (fun c1 => ?_) (fun c1 => ?_)
  · exact gx_vret hC rfl rfl rfl dX1_checkState_12 (fun G' hG => ⟨c1, rfl, rfl⟩)
  · refine gx_throw0 hC (cls := "java/lang/IllegalStateException") (names := ["java/lang/RuntimeException", "java/lang/Exception"]) rfl rfl (by decide) (by decide) q1589 q104 ⟨gx_pl [82, 212, 221, 231, 234, 236, 213, 214, 137, 138, 215, 220, 232, 473, 202, 474, 204, 475, 206, 216, 218, 208, 1591, 1592, 1593, 777, 193, 777, 778, 779, 780, 195, 780, 781, 782, 213, 197, 1590, 818, 819, 820, 227, 821, 822, 823, 824, 211, 210, 825] (by decide +kernel), by decide +kernel⟩ dX1_checkState_4 dX1_checkState_7 dX1_checkState_8 dX1_checkState_11 (by intro x9 h9; cases h9) (Nat.le_of_ble_eq_true rfl) (Nat.le_of_ble_eq_true rfl) (fun q G' nx' hG hn => ⟨rfl, c1⟩)
theorem m_X1_checkElement {b : Int} (h1 : gx_rg b) : gx_Met l yX1_checkElement (ws_ yX1_checkElement cX1_checkElement 1 none) 10 1 6 D gx_M0 T G nx [.int (iz b)] (fun v _ nx' => ¬ b = 0 ∧ v = none ∧ nx' = nx) (fun E _ _ _ => E = gx_NSE ∧ b = 0) := by
  refine gx_start (by decide) (Nat.le_of_ble_eq_true rfl) rfl (fun p e s m args below meth c hC hlt => ?_)
  refine gx_iload_n hC dX1_checkElement_0 rfl rfl ?_
  refine gx_if_ne hC dX1_checkElement_1 (tgt := 12) (by decide) h1 (fun c1 => ?_) (fun c1 => ?_)
  · exact gx_vret hC rfl rfl rfl dX1_checkElement_12 (fun G' hG => ⟨c1, rfl, rfl⟩)
  · refine gx_throw0 hC (cls := "java/util/NoSuchElementException") (names := ["java/lang/RuntimeException", "java/lang/Exception"]) rfl rfl (by decide) (by decide) q1490 q102 ⟨gx_pl [82, 212, 221, 231, 234, 236, 213, 214, 137, 138, 215, 220, 232, 473, 202, 474, 204, 475, 206, 216, 218, 208, 774, 775, 776, 777, 193, 777, 778, 779, 780, 195, 780, 781, 782, 213, 197, 1491, 765, 766, 767, 230, 768, 769, 770, 771, 211, 210, 772] (by decide +kernel), by decide +kernel⟩ dX1_checkElement_4 dX1_checkElement_7 dX1_checkElement_8 dX1_checkElement_11 (by intro x9 h9; cases h9) (Nat.le_of_ble_eq_true rfl) (Nat.le_of_ble_eq_true rfl) (fun q G' nx' hG hn => ⟨rfl, c1⟩)
theorem m_X1_checkIndex {i n : Int} (h1 : gx_rg i) (h2 : gx_rg n) (h3 : 0 ≤ n) : gx_Met l yX1_checkIndex (ws_ yX1_checkIndex cX1_checkIndex 2 none) 10 1 6 D gx_M0 T G nx [.int (iz i), .int (iz n)] (fun v _ nx' => (0 ≤ i ∧ i < n) ∧ v = none ∧ nx' = nx) (fun E _ _ _ => E = gx_IOB ∧ ¬ (0 ≤ i ∧ i < n)) := by
  unfold gx_rg at h2
  refine gx_start (by decide) (Nat.le_of_ble_eq_true rfl) rfl (fun p e s m args below meth c hC hlt => ?_)
  refine gx_iload_n hC dX1_checkIndex_0 rfl rfl ?_
  refine gx_iconst hC dX1_checkIndex_1 ?_
  refine gx_iload_n hC dX1_checkIndex_2 rfl rfl ?_
  refine gx_iconst hC dX1_checkIndex_3 ?_
  refine gx_isub hC dX1_checkIndex_4 ?_
  refine gx_callS (nA := 3) hC (m_X1_isBetween h1 (by unfold gx_rg; omega) (by unfold gx_rg; omega)) (lw_S q1013 q1014 q76 q1015) (by decide +kernel) dX1_checkIndex_5 rfl ⟨Nat.le_of_ble_eq_true rfl, Nat.le_of_ble_eq_true rfl⟩ gx_in.id0 rfl (by first | exact Nat.le_of_ble_eq_true rfl | simp [gx_cat_rf, Value.category]) gx_kno (gx_kp1 ?_)
  refine gx_if_ne hC dX1_checkIndex_8 (tgt := 19) (by decide) gx_bR (fun c8 => ?_) (fun c8 => ?_)
  · exact gx_vret hC rfl rfl rfl dX1_checkIndex_19 (fun G' hG => ⟨by rw [gx_bn] at c8; omega, rfl, rfl⟩)
  · refine gx_throw0 hC (cls := "java/lang/IndexOutOfBoundsException") (names := ["java/lang/RuntimeException", "java/lang/Exception"]) rfl rfl (by decide) (by decide) q1016 q105 ⟨gx_pl [82, 212, 221, 231, 234, 236, 213, 214, 137, 138, 215, 220, 232, 473, 202, 474, 204, 475, 206, 216, 218, 208, 1018, 1019, 1020, 777, 193, 777, 778, 779, 780, 195, 780, 781, 782, 213, 197, 1017, 863, 864, 865, 228, 866, 867, 868, 869, 211, 210, 870] (by decide +kernel), by decide +kernel⟩ dX1_checkIndex_11 dX1_checkIndex_14 dX1_checkIndex_15 dX1_checkIndex_18 (by intro x9 h9; cases h9) (Nat.le_of_ble_eq_true rfl) (Nat.le_of_ble_eq_true rfl) (fun q G' nx' hG hn => ⟨rfl, by rw [gx_be] at c8; omega⟩)
theorem m_J14_checkIndex {i n : Int} {w : Value} (hw : gx_isr w = true) (h1 : gx_rg i) (h2 : gx_rg n) (h3 : 0 ≤ i ∧ i < n) : gx_Met l yJ14_checkIndex (ws_ yJ14_checkIndex cJ14_checkIndex 3 (some .int)) 1 0 0 D gx_M0 T G nx [.int (iz i), .int (iz n), w] (gx_P (some (.int (iz i))) nx) gx_no := by
  refine gx_start (by decide) ?_ (L0 := [(0, some (.int (iz i))), (1, some (.int (iz n))), (2, some w)]) rfl (fun p e s m args below meth c hC hlt => ?_)
  · obtain ⟨r, rfl⟩ := gx_isr_o hw
    cases r <;> exact Nat.le_of_ble_eq_true rfl
  refine gx_iload_n hC dJ14_checkIndex_0 rfl rfl ?_
  refine gx_if_lt hC dJ14_checkIndex_1 (tgt := 9) (by decide) h1 (fun c1 => ?_) (fun c1 => ?_)
  · omega
  · refine gx_iload_n hC dJ14_checkIndex_4 rfl rfl ?_
    refine gx_iload_n hC dJ14_checkIndex_5 rfl rfl ?_
    refine gx_icmp_lt hC dJ14_checkIndex_6 (tgt := 16) (by decide) h1 h2 (fun c6 => ?_) (fun c6 => ?_)
    · refine gx_iload_n hC dJ14_checkIndex_16 rfl rfl ?_
      exact gx_iret hC rfl rfl rfl dJ14_checkIndex_17 (fun G' hG => ⟨rfl, rfl⟩)
    · omega
theorem m_J21_checkIndex {i n : Int} (h1 : gx_rg i) (h2 : gx_rg n) (h3 : 0 ≤ i ∧ i < n) : gx_Met l yJ21_checkIndex (ws_ yJ21_checkIndex cJ21_checkIndex 2 (some .int)) 3 0 0 D gx_M0 T G nx [.int (iz i), .int (iz n)] (gx_P (some (.int (iz i))) nx) gx_no := by
  refine gx_start (by decide) (Nat.le_of_ble_eq_true rfl) rfl (fun p e s m args below meth c hC hlt => ?_)
  refine gx_iload_n hC dJ21_checkIndex_0 rfl rfl ?_
  refine gx_iload_n hC dJ21_checkIndex_1 rfl rfl ?_
  refine gx_null hC dJ21_checkIndex_2 ?_
  refine gx_callS (nA := 3) hC (m_J14_checkIndex (w := .null) rfl h1 h2 h3) (lw_S q794 q795 q94 q796) (by decide +kernel) dJ21_checkIndex_3 rfl ⟨Nat.le_of_ble_eq_true rfl, Nat.le_of_ble_eq_true rfl⟩ gx_in.id0 rfl (by first | exact Nat.le_of_ble_eq_true rfl | simp [gx_cat_rf, Value.category]) gx_kno (gx_kp1 ?_)
  exact gx_iret hC rfl rfl rfl dJ21_checkIndex_6 (fun G' hG => ⟨rfl, rfl⟩)
end BAS
section ALS
variable {l : Launch} {D : gx_D} {T G : gx_H} {nx : Nat} {a ed cap : Nat} {mc : Int} {xs : List Nat}
theorem m_J2_size (h : gx_AL D (gx_TG T G) a ed mc cap xs) : gx_Met l yJ2_size (ws_ yJ2_size cJ2_size 1 (some .int)) 1 0 0 D gx_M0 T G nx [.ref a] (gx_P (some (.int (iz xs.length))) nx) gx_no := by
  obtain ⟨h1, ⟨f, h2, h3⟩, h4, h5, h6⟩ := h
  refine gx_start (by decide) (Nat.le_of_ble_eq_true rfl) rfl (fun p e s m args below meth c hC hlt => ?_)
  refine gx_aload_n hC dJ2_size_0 rfl rfl (by first | rfl | exact gx_isr_rf _) ?_
  refine gx_get hC (C := RJ2) (Tf := TJ2) (N := 3) (ci := 19) (k := 2) rfl in_J2 (by decide) q514 (fun _ h9 => h9) dJ2_size_1 (by repeat (first | assumption | exact Or.inr gx_us | exact Or.inr (by assumption) | exact Or.inl (by assumption) | refine gx_tu (by omega) ?_)) rfl ?_
  exact gx_iret hC rfl rfl rfl dJ2_size_4 (fun G' hG => ⟨rfl, rfl⟩)
theorem m_J2_isEmpty (h : gx_AL D (gx_TG T G) a ed mc cap xs) : gx_Met l yJ2_isEmpty (ws_ yJ2_isEmpty cJ2_isEmpty 1 (some .boolean)) 1 0 0 D gx_M0 T G nx [.ref a] (gx_P (some (.int (iz (gx_b (xs = []))))) nx) gx_no := by
  obtain ⟨h1, ⟨f, h2, h3⟩, h4, h5, h6⟩ := h
  refine gx_start (by decide) (Nat.le_of_ble_eq_true rfl) rfl (fun p e s m args below meth c hC hlt => ?_)
  refine gx_aload_n hC dJ2_isEmpty_0 rfl rfl (by first | rfl | exact gx_isr_rf _) ?_
  refine gx_get hC (C := RJ2) (Tf := TJ2) (N := 3) (ci := 19) (k := 2) rfl in_J2 (by decide) q514 (fun _ h9 => h9) dJ2_isEmpty_1 (by repeat (first | assumption | exact Or.inr gx_us | exact Or.inr (by assumption) | exact Or.inl (by assumption) | refine gx_tu (by omega) ?_)) rfl ?_
  refine gx_if_ne hC dJ2_isEmpty_4 (tgt := 11) (by decide) (by unfold gx_rg; omega) (fun c4 => ?_) (fun c4 => ?_)
  · refine gx_iconst hC dJ2_isEmpty_11 ?_
    exact gx_zret hC rfl rfl rfl (by first | rfl | (split <;> rfl) | simp [narrow, *]) dJ2_isEmpty_12 (fun G' hG => ⟨gx_bF (by intro q; subst q; simp at c4), rfl⟩)
  · refine gx_iconst hC dJ2_isEmpty_7 ?_
    refine gx_goto hC dJ2_isEmpty_8 (tgt := 12) (by decide) ?_
    exact gx_zret hC rfl rfl rfl (by first | rfl | (split <;> rfl) | simp [narrow, *]) dJ2_isEmpty_12 (fun G' hG => ⟨gx_bT (by cases xs with | nil => rfl | cons => simp at c4; omega), rfl⟩)
theorem m_J2_elementData (h : gx_AL D (gx_TG T G) a ed mc cap xs) {i : Nat} (hi : i < xs.length) : gx_Met l yJ2_elementData (ws_ yJ2_elementData cJ2_elementData 2 (some (.object "java/lang/Object"))) 1 0 0 D gx_M0 T G nx [.ref a, .int (iz i)] (gx_P (some (.ref (xs.getD i 0))) nx) gx_no := by
  obtain ⟨h1, ⟨f, h2, h3⟩, h4, h5, h6⟩ := h
  refine gx_start (by decide) (Nat.le_of_ble_eq_true rfl) rfl (fun p e s m args below meth c hC hlt => ?_)
  refine gx_aload_n hC dJ2_elementData_0 rfl rfl (by first | rfl | exact gx_isr_rf _) ?_
  refine gx_get hC (C := RJ2) (Tf := TJ2) (N := 3) (ci := 19) (k := 1) rfl in_J2 (by decide) q511 (fun _ h9 => h9) dJ2_elementData_1 (by repeat (first | assumption | exact Or.inr gx_us | exact Or.inr (by assumption) | exact Or.inl (by assumption) | refine gx_tu (by omega) ?_)) rfl ?_
  refine gx_iload_n hC dJ2_elementData_4 rfl rfl ?_
  refine gx_aald hC (t := 2) rfl dJ2_elementData_5 (by assumption) (by omega) (v := .ref (xs.getD i 0)) (by rw [show (i : Int).toNat = i from rfl, h3 i hi]; rfl) ?_
  exact gx_aret hC rfl rfl rfl (by first | exact Or.inl ⟨_, rfl⟩ | exact Or.inr ⟨_, rfl⟩) (by first | rfl | exact gx_isr_rf _) dJ2_elementData_6 (fun G' hG => ⟨rfl, rfl⟩)
theorem m_J2_get (h : gx_AL D (gx_TG T G) a ed mc cap xs) {i : Nat} (hi : i < xs.length) : gx_Met l yJ2_get (ws_ yJ2_get cJ2_get 2 (some (.object "java/lang/Object"))) 5 0 0 D gx_M0 T G nx [.ref a, .int (iz i)] (gx_P (some (.ref (xs.getD i 0))) nx) gx_no := by
  have h0 := h
  obtain ⟨h1, ⟨f, h2, h3⟩, h4, h5, h6⟩ := h
  refine gx_start (by decide) (Nat.le_of_ble_eq_true rfl) rfl (fun p e s m args below meth c hC hlt => ?_)
  refine gx_iload_n hC dJ2_get_0 rfl rfl ?_
  refine gx_aload_n hC dJ2_get_1 rfl rfl (by first | rfl | exact gx_isr_rf _) ?_
  refine gx_get hC (C := RJ2) (Tf := TJ2) (N := 3) (ci := 19) (k := 2) rfl in_J2 (by decide) q514 (fun _ h9 => h9) dJ2_get_2 (by repeat (first | assumption | exact Or.inr gx_us | exact Or.inr (by assumption) | exact Or.inl (by assumption) | refine gx_tu (by omega) ?_)) rfl ?_
  refine gx_callS (nA := 2) hC (m_J21_checkIndex (by unfold gx_rg; omega) (by unfold gx_rg; omega) (by omega)) (lw_S q791 q792 q103 q793) (by decide +kernel) dJ2_get_5 rfl ⟨Nat.le_of_ble_eq_true rfl, Nat.le_of_ble_eq_true rfl⟩ gx_in.id0 rfl (by first | exact Nat.le_of_ble_eq_true rfl | simp [gx_cat_rf, Value.category]) gx_kno (gx_kp1 ?_)
  refine gx_pop hC dJ2_get_8 (by first | rfl | exact gx_cat_rf _) ?_
  refine gx_aload_n hC dJ2_get_9 rfl rfl (by first | rfl | exact gx_isr_rf _) ?_
  refine gx_iload_n hC dJ2_get_10 rfl rfl ?_
  refine gx_callV (nA := 1) hC (m_J2_elementData h0 hi) (C := RJ2) (Tf := TJ2) (Nf := 3) (ci := 19) rfl (by repeat (first | assumption | exact Or.inr gx_us | exact Or.inr (by assumption) | exact Or.inl (by assumption) | refine gx_tu (by omega) ?_)) (lw_V q797 q798 q799 q81 q800) (by decide +kernel) dJ2_get_11 rfl ⟨Nat.le_of_ble_eq_true rfl, Nat.le_of_ble_eq_true rfl⟩ gx_in.id0 rfl (by first | exact Nat.le_of_ble_eq_true rfl | simp [gx_cat_rf, Value.category]) gx_kno (gx_kp1 ?_)
  exact gx_aret hC rfl rfl rfl (by first | exact Or.inl ⟨_, rfl⟩ | exact Or.inr ⟨_, rfl⟩) (by first | rfl | exact gx_isr_rf _) dJ2_get_14 (fun G' hG => ⟨rfl, rfl⟩)
end ALS

