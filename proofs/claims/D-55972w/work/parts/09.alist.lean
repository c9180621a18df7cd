/-! java.util.ArrayList: what changes it -/
set_option maxRecDepth 100000
theorem gx_AL.mk {D : gx_D} {X : gx_H} {a ed : Nat} {mc n : Int} {cap : Nat} {xs : List Nat} {f : Nat → Option Nat} (hn : n = (xs.length : Int)) (h1 : X a (gx_O 19 [.int (iz mc), .ref ed, .int (iz n)])) (h2 : X ed (gx_Q D 2 cap f)) (h3 : ∀ j, j < xs.length → f j = some (xs.getD j 0)) (h4 : xs.length ≤ cap) (h5 : cap < 60000000) (h6 : a ≠ ed) : gx_AL D X a ed mc cap xs := by
  subst hn
  exact ⟨h1, ⟨f, h2, h3⟩, h4, h5, h6⟩
theorem gx_al_push {f : Nat → Option Nat} {xs : List Nat} {v : Nat} (h : ∀ j, j < xs.length → f j = some (xs.getD j 0)) : ∀ j, j < (xs ++ [v]).length → gx_fq f xs.length (some v) j = some ((xs ++ [v]).getD j 0) := by
  intro j hj
  simp only [List.length_append, List.length_singleton] at hj
  unfold gx_fq
  by_cases e : j = xs.length
  · subst e
    simp
  · rw [if_neg e, h j (by omega)]
    simp [List.getD_eq_getElem?_getD, List.getElem?_append_left (show j < xs.length by omega)]
theorem gx_al_cpy {f g : Nat → Option Nat} {xs : List Nat} {n : Nat} (h : ∀ j, j < xs.length → f j = some (xs.getD j 0)) (hn : xs.length ≤ n) : ∀ j, j < xs.length → va_cpy f g 0 0 n j = some (xs.getD j 0) := by
  intro j hj
  unfold va_cpy
  rw [if_pos (by omega), ← h j hj]
  congr 1
  omega
theorem gx_gm {xs : List Nat} {i : Nat} (h : i < xs.length) : xs.getD i 0 ∈ xs := by
  rw [List.getD_eq_getElem?_getD, List.getElem?_eq_getElem h]
  exact List.getElem_mem _
section ALM
variable {l : Launch} {D : gx_D} {T G : gx_H} {nx : Nat} {a ed cap v : Nat} {mc : Int} {xs : List Nat}
theorem m_J11_newLength {x y z : Int} (h1 : 0 ≤ x ∧ x < 1000) (h2 : 0 ≤ y ∧ y < 1000) (h3 : 0 ≤ z ∧ z < 1000) (h4 : 0 < x + max y z) : gx_Met l yJ11_newLength (ws_ yJ11_newLength cJ11_newLength 4 (some .int)) 1 0 0 D gx_M0 T G nx [.int (iz x), .int (iz y), .int (iz z)] (gx_P (some (.int (iz (x + max y z)))) nx) gx_no := by
  refine gx_start (by decide) (Nat.le_of_ble_eq_true rfl) rfl (fun p e s m args below meth c hC hlt => ?_)
  refine gx_iload_n hC dJ11_newLength_0 rfl rfl ?_
  refine gx_iload_n hC dJ11_newLength_1 rfl rfl ?_
  refine gx_iload_n hC dJ11_newLength_2 rfl rfl ?_
  refine gx_mmax hC q293 q294 q91 q295 dJ11_newLength_3 (by unfold gx_rg; omega) (by unfold gx_rg; omega) (Nat.le_of_ble_eq_true rfl) (Nat.le_of_ble_eq_true rfl) ?_
  refine gx_iadd hC dJ11_newLength_6 ?_
  refine gx_istore_n hC dJ11_newLength_7 rfl (by decide) (by first | rfl | simp [gx_ck, gx_lk, gx_cat_rf, gx_cat_rn]) ?_
  refine gx_iconst hC dJ11_newLength_8 ?_
  refine gx_iload_n hC dJ11_newLength_9 rfl rfl ?_
  refine gx_icmp_ge hC dJ11_newLength_10 (tgt := 21) (by decide) (by unfold gx_rg; omega) (by unfold gx_rg; omega) (fun c10 => ?_) (fun c10 => ?_)
  · omega
  · refine gx_iload_n hC dJ11_newLength_13 rfl rfl ?_
    refine gx_ldc hC (z := 2147483639) q296 (by decide) dJ11_newLength_14 ?_
    refine gx_icmp_gt hC dJ11_newLength_16 (tgt := 21) (by decide) (by unfold gx_rg; omega) (by unfold gx_rg; omega) (fun c16 => ?_) (fun c16 => ?_)
    · omega
    · refine gx_iload_n hC dJ11_newLength_19 rfl rfl ?_
      exact gx_iret hC rfl rfl rfl dJ11_newLength_20 (fun G' hG => ⟨rfl, rfl⟩)
theorem m_J13_copyOf_3 {f : Nat → Option Nat} {n k : Nat} (h1 : gx_TG T G ed (gx_Q D 2 n f)) (hk : k ≤ 60) (hn : n ≤ k) (hel : ∀ i y, i < n → f i = some y → gx_ob (gx_TG T G) y) (hlt : ed < nx) : gx_Met l yJ13_copyOf_3 (ws_ yJ13_copyOf_3 cJ13_copyOf_3 4 (some (.array (.object "java/lang/Object")))) 3 1 60 D gx_M0 T G nx [.ref ed, .int (iz k), .ref (D.2.2 5)] (fun w G' nx' => w = some (.ref nx) ∧ nx' = nx + 1 ∧ G' nx (gx_Q D 2 k (va_cpy f (fun _ => none) 0 0 n))) gx_no := by
  refine gx_start (by decide) (Nat.le_of_ble_eq_true rfl) rfl (fun p e s m args below meth c hC hlt => ?_)
  refine gx_aload_n hC dJ13_copyOf_3_0 rfl rfl (by first | rfl | exact gx_isr_rf _ | exact gx_isr_rn _) ?_
  refine gx_ldcM hC q630 dJ13_copyOf_3_1 ?_
  refine gx_acmp_ne hC (rx := some (D.2.2 5)) (ry := some (D.2.2 5)) dJ13_copyOf_3_3 (tgt := 13) (by decide) (fun c3 => ?_) (fun c3 => ?_)
  · exact absurd rfl c3
  · refine gx_iload_n hC dJ13_copyOf_3_6 rfl rfl ?_
    refine gx_bud (bc' := 0 + 1) (bs' := (60 - k) + k) (by omega) (by omega) ?_
    refine gx_newq hC (t := 2) (C := "java/lang/Object") (N := k) q631 q187 rfl dJ13_copyOf_3_7 (by first | rfl | omega) (by first | decide | omega) ?_
    refine gx_goto hC dJ13_copyOf_3_10 (tgt := 24) (by decide) ?_
    refine gx_astore_n hC dJ13_copyOf_3_24 rfl (by decide) (by first | rfl | simp [gx_ck, gx_lk, gx_cat_rf, gx_cat_rn]) (by first | rfl | exact gx_isr_rf _ | exact gx_isr_rn _) ?_
    refine gx_aload_n hC dJ13_copyOf_3_25 rfl rfl (by first | rfl | exact gx_isr_rf _ | exact gx_isr_rn _) ?_
    refine gx_iconst hC dJ13_copyOf_3_26 ?_
    refine gx_aload_n hC dJ13_copyOf_3_27 rfl rfl (by first | rfl | exact gx_isr_rf _ | exact gx_isr_rn _) ?_
    refine gx_iconst hC dJ13_copyOf_3_28 ?_
    refine gx_aload_n hC dJ13_copyOf_3_29 rfl rfl (by first | rfl | exact gx_isr_rf _ | exact gx_isr_rn _) ?_
    refine gx_alen hC (t := 2) rfl dJ13_copyOf_3_30 (by repeat (first | assumption | exact Or.inr gx_us | exact Or.inr (by assumption) | exact Or.inl (by assumption) | refine gx_tu (by omega) ?_)) ?_
    refine gx_iload_n hC dJ13_copyOf_3_31 rfl rfl ?_
    refine gx_mmin hC q311 q312 q91 q313 dJ13_copyOf_3_32 (by unfold gx_rg; omega) (by unfold gx_rg; omega) (Nat.le_of_ble_eq_true rfl) (Nat.le_of_ble_eq_true rfl) ?_
    have hel2 : ∀ i : Nat, i < (min (n : Int) k).toNat → ∀ y : Nat, f ((0 : Int).toNat + i) = some y → ∃ (ci : Nat) (C : String) (Tf : u_T) (N : Nat) (fs : List Value), gx_cl[ci]? = some (C, Tf, N) ∧ (T y (gx_O ci fs) ∨ gx_up G nx (gx_Q D 2 k (fun _ => none)) y (gx_O ci fs)) ∧ Cond.castable C "java/lang/Object" ∈ lw_tbl := fun i hi y hy => by
      obtain ⟨ci, C, Tf, N, fs, q1, q2, q3⟩ := hel i y (by omega) (by simpa using hy)
      refine ⟨ci, C, Tf, N, fs, q1, ?_, q3⟩
      rcases q2 with q2 | q2
      · exact Or.inl q2
      · exact Or.inr (gx_un (by have := hlt _ _ q2; omega) q2)
    refine gx_copyQ hC q314 q316 q315 q93 dJ13_copyOf_3_35 (by repeat (first | assumption | exact Or.inr gx_us | exact Or.inr (by assumption) | exact Or.inl (by assumption) | refine gx_tu (by omega) ?_)) (by first | exact gx_us | assumption | (repeat (first | exact gx_us | assumption | refine gx_un (by omega) ?_))) (by first | exact Or.inl rfl | exact Or.inl (Or.inl rfl) | exact Or.inl (Or.inr rfl) | exact Or.inr (by omega) | assumption | (simp only [gx_A, *]; omega)) (by omega) hel2 (Nat.le_of_ble_eq_true rfl) (by first | exact Nat.le_of_ble_eq_true rfl | decide) ?_
    refine gx_aload_n hC dJ13_copyOf_3_38 rfl rfl (by first | rfl | exact gx_isr_rf _ | exact gx_isr_rn _) ?_
    exact gx_aret hC rfl rfl rfl (by first | exact Or.inl ⟨_, rfl⟩ | exact Or.inr ⟨_, rfl⟩) (by first | rfl | exact gx_isr_rf _ | exact gx_isr_rn _) dJ13_copyOf_3_39 (fun G' hG => ⟨rfl, rfl, by have := hG _ _ gx_us; rw [show (min (n : Int) k).toNat = n by omega] at this; exact this⟩)
theorem m_J13_copyOf_2 {f : Nat → Option Nat} {n k : Nat} (h1 : G ed (gx_Q D 2 n f)) (hk : k ≤ 60) (hn : n ≤ k) (hel : ∀ i y, i < n → f i = some y → gx_ob (gx_TG T G) y) (hed : ed < nx) : gx_Met l yJ13_copyOf_2 (ws_ yJ13_copyOf_2 cJ13_copyOf_2 2 (some (.array (.object "java/lang/Object")))) 5 1 60 D gx_M0 T G nx [.ref ed, .int (iz k)] (fun w G' nx' => w = some (.ref nx) ∧ nx' = nx + 1 ∧ G' nx (gx_Q D 2 k (va_cpy f (fun _ => none) 0 0 n))) gx_no := by
  refine gx_start (by decide) (Nat.le_of_ble_eq_true rfl) rfl (fun p e s m args below meth c hC hlt => ?_)
  refine gx_aload_n hC dJ13_copyOf_2_0 rfl rfl (by first | rfl | exact gx_isr_rf _ | exact gx_isr_rn _) ?_
  refine gx_iload_n hC dJ13_copyOf_2_1 rfl rfl ?_
  refine gx_aload_n hC dJ13_copyOf_2_2 rfl rfl (by first | rfl | exact gx_isr_rf _ | exact gx_isr_rn _) ?_
  refine gx_getC hC q585 q3081 q3080 q586 q626 dJ13_copyOf_2_3 (by first | exact gx_us | assumption | (repeat (first | exact gx_us | assumption | refine gx_un (by omega) ?_))) (Nat.le_of_ble_eq_true rfl) (Nat.le_of_ble_eq_true rfl) ?_
  refine gx_callS (nA := 3) hC (m_J13_copyOf_3 (Or.inr h1) hk hn hel hed) (lw_S q627 q628 q92 q629) (by decide +kernel) dJ13_copyOf_2_6 rfl ⟨Nat.le_of_ble_eq_true rfl, Nat.le_of_ble_eq_true rfl⟩ gx_in.id0 rfl (by first | exact Nat.le_of_ble_eq_true rfl | simp [gx_cat_rf, Value.category]) gx_kno (fun v2 G2 nx2 hp hf hle hlt2 => ?_)
  obtain ⟨rfl, rfl, h2⟩ := hp
  exact gx_aret hC rfl rfl rfl (by first | exact Or.inl ⟨_, rfl⟩ | exact Or.inr ⟨_, rfl⟩) (by first | rfl | exact gx_isr_rf _ | exact gx_isr_rn _) dJ13_copyOf_2_9 (fun G' hG => ⟨rfl, rfl, hG _ _ h2⟩)
/-- the list grows, where it is full; its old array may be the empty one that all share -/
theorem m_J2_grow_2 (h : gx_AL D (gx_TG T G) a ed mc cap xs) (hG : G a (gx_O 19 [.int (iz mc), .ref ed, .int (iz xs.length)])) (hd : (cap = 0 ∧ ed = D.2.2 1) ∨ (0 < cap ∧ ∃ f, G ed (gx_Q D 2 cap f) ∧ ∀ j, j < xs.length → f j = some (xs.getD j 0))) (hl : xs.length = cap) (hc : cap ≤ 30) (hel : ∀ x ∈ xs, gx_ob (gx_TG T G) x) (hed : ed < nx) : gx_Met l yJ2_grow_2 (ws_ yJ2_grow_2 cJ2_grow_2 4 (some (.array (.object "java/lang/Object")))) 7 1 60 D (fun q => q = a) T G nx [.ref a, .int (iz (xs.length + 1))] (fun w G' nx' => w = some (.ref nx) ∧ nx' = nx + 1 ∧ ∃ cap', cap < cap' ∧ cap' ≤ 45 ∧ gx_AL D G' a nx mc cap' xs) gx_no := by
  obtain ⟨h1, ⟨f, h2, h3⟩, h4, h5, h6⟩ := h
  refine gx_start (by decide) (Nat.le_of_ble_eq_true rfl) rfl (fun p e s m args below meth c hC hlt => ?_)
  have hax := hlt _ _ hG
  refine gx_aload_n hC dJ2_grow_2_0 rfl rfl (by first | rfl | exact gx_isr_rf _ | exact gx_isr_rn _) ?_
  refine gx_get hC (C := RJ2) (Tf := TJ2) (N := 3) (ci := 19) (k := 1) rfl in_J2 (by decide) q511 (fun _ h9 => h9) dJ2_grow_2_1 (by repeat (first | assumption | exact Or.inr gx_us | exact Or.inr (by assumption) | exact Or.inl (by assumption) | refine gx_tu (by omega) ?_)) rfl ?_
  refine gx_alen hC (t := 2) rfl dJ2_grow_2_4 (by repeat (first | assumption | exact Or.inr gx_us | exact Or.inr (by assumption) | exact Or.inl (by assumption) | refine gx_tu (by omega) ?_)) ?_
  refine gx_istore_n hC dJ2_grow_2_5 rfl (by decide) (by first | rfl | simp [gx_ck, gx_lk, gx_cat_rf, gx_cat_rn]) ?_
  refine gx_iload_n hC dJ2_grow_2_6 rfl rfl ?_
  have hgrow : 0 < cap → gx_X p l e (headSpec (ws_ yJ2_grow_2 cJ2_grow_2 4 (some (.array (.object "java/lang/Object")))) (gx_rm 7 1 60)).room s m args below meth c (gx_QQ below D (gx_A (fun q => q = a) nx) (fun w G' nx' => w = some (.ref nx) ∧ nx' = nx + 1 ∧ ∃ cap', cap < cap' ∧ cap' ≤ 45 ∧ gx_AL D G' a nx mc cap' xs) gx_no args s 1 60) D (gx_A (fun q => q = a) nx) G nx 1 60 20 [(2, some (.int (iz cap))), (0, some (.ref a)), (1, some (.int (iz (xs.length + 1))))] [] := fun hcap => by
    refine gx_iload_n hC dJ2_grow_2_20 rfl rfl ?_
    refine gx_iload_n hC dJ2_grow_2_21 rfl rfl ?_
    refine gx_iload_n hC dJ2_grow_2_22 rfl rfl ?_
    refine gx_isub hC dJ2_grow_2_23 ?_
    refine gx_iload_n hC dJ2_grow_2_24 rfl rfl ?_
    refine gx_iconst hC dJ2_grow_2_25 ?_
    refine gx_ishr hC dJ2_grow_2_26 (gx_shr1 (by omega) (by omega)) ?_
    refine gx_callS (nA := 3) hC (m_J11_newLength (by omega) (by omega) (by omega) (by omega)) (lw_S q581 q291 q90 q292) (by decide +kernel) dJ2_grow_2_27 rfl ⟨Nat.le_of_ble_eq_true rfl, Nat.le_of_ble_eq_true rfl⟩ gx_in.id0 rfl (by first | exact Nat.le_of_ble_eq_true rfl | simp [gx_cat_rf, Value.category]) gx_kno (gx_kp1 ?_)
    refine gx_istore_n hC dJ2_grow_2_30 rfl (by decide) (by first | rfl | simp [gx_ck, gx_lk, gx_cat_rf, gx_cat_rn]) ?_
    refine gx_aload_n hC dJ2_grow_2_31 rfl rfl (by first | rfl | exact gx_isr_rf _ | exact gx_isr_rn _) ?_
    refine gx_aload_n hC dJ2_grow_2_32 rfl rfl (by first | rfl | exact gx_isr_rf _ | exact gx_isr_rn _) ?_
    refine gx_get hC (C := RJ2) (Tf := TJ2) (N := 3) (ci := 19) (k := 1) rfl in_J2 (by decide) q511 (fun _ h9 => h9) dJ2_grow_2_33 (by repeat (first | assumption | exact Or.inr gx_us | exact Or.inr (by assumption) | exact Or.inl (by assumption) | refine gx_tu (by omega) ?_)) rfl ?_
    refine gx_iload_n hC dJ2_grow_2_36 rfl rfl ?_
    obtain ⟨f, hG2, h3⟩ : ∃ f, G ed (gx_Q D 2 cap f) ∧ ∀ j, j < xs.length → f j = some (xs.getD j 0) := by
      rcases hd with hd | hd
      · omega
      · exact hd.2
    obtain ⟨k, hk⟩ : ∃ k : Nat, ((cap : Int) + max ((xs.length : Int) + 1 - (cap : Int)) ((cap : Int) / 2)) = k := ⟨((cap : Int) + max ((xs.length : Int) + 1 - (cap : Int)) ((cap : Int) / 2)).toNat, by omega⟩
    rw [hk]
    have hel2 : ∀ i y, i < cap → f i = some y → gx_ob (gx_TG T G) y := fun i y hi hy => by
      have := h3 i (by omega)
      rw [hy] at this
      cases this
      exact hel _ (gx_gm (by omega))
    refine gx_callS (nA := 2) hC (m_J13_copyOf_2 (k := k) hG2 (by omega) (by omega) hel2 (hlt _ _ hG2)) (lw_S q582 q583 q92 q584) (by decide +kernel) dJ2_grow_2_37 rfl ⟨Nat.le_of_ble_eq_true rfl, Nat.le_of_ble_eq_true rfl⟩ gx_in.id0 rfl (by first | exact Nat.le_of_ble_eq_true rfl | simp [gx_cat_rf, Value.category]) gx_kno (fun v2 G2 nx2 hp hf hle hlt2 => ?_)
    obtain ⟨rfl, rfl, q2⟩ := hp
    have q1 := hf _ _ hG (fun q => q)
    refine gx_dup_x1 hC dJ2_grow_2_40 (by first | rfl | exact gx_cat_rf _ | exact gx_cat_rn _) (by first | rfl | exact gx_cat_rf _ | exact gx_cat_rn _) ?_
    refine gx_put hC (C := RJ2) (Tf := TJ2) (N := 3) (ci := 19) (k := 1) rfl in_J2 (by decide) tyJ2 tyJ2_ok nmJ2 q511 (fun _ h9 => h9) rfl dJ2_grow_2_41 (by first | exact gx_us | assumption | (repeat (first | exact gx_us | assumption | refine gx_un (by omega) ?_))) (by first | exact Or.inl rfl | exact Or.inl (Or.inl rfl) | exact Or.inl (Or.inr rfl) | exact Or.inr (by omega) | assumption | (simp only [gx_A, *]; omega)) (Nat.le_of_ble_eq_true rfl) (by first | rfl | (unfold gx_rn; split <;> rfl) | (cases ‹Option Nat› <;> rfl) | simp [narrow]) (by first | rfl | (unfold gx_rn; split <;> rfl) | (cases ‹Option Nat› <;> rfl) | simp [fits]) ?_
    exact gx_aret hC rfl rfl rfl (by first | exact Or.inl ⟨_, rfl⟩ | exact Or.inr ⟨_, rfl⟩) (by first | rfl | exact gx_isr_rf _ | exact gx_isr_rn _) dJ2_grow_2_44 (fun G' hG' => ⟨rfl, rfl, k, by omega, by omega, gx_AL.mk (n := xs.length) rfl (hG' _ _ gx_us) (hG' _ _ (gx_un (by omega) q2)) (gx_al_cpy h3 (by omega)) (by omega) (by omega) (by omega)⟩)
  refine gx_if_gt hC dJ2_grow_2_7 (tgt := 20) (by decide) (by unfold gx_rg; omega) (fun c7 => ?_) (fun c7 => ?_)
  · refine gx_loc (M := [(2, some (.int (iz cap))), (0, some (.ref a)), (1, some (.int (iz (xs.length + 1))))]) ⟨rfl, rfl, rfl, trivial⟩ ?_
    exact hgrow (by omega)
  · have hcap : cap = 0 := by omega
    rcases hd with hd | hd
    · obtain ⟨-, rfl⟩ := hd
      refine gx_aload_n hC dJ2_grow_2_10 rfl rfl (by first | rfl | exact gx_isr_rf _ | exact gx_isr_rn _) ?_
      refine gx_get hC (C := RJ2) (Tf := TJ2) (N := 3) (ci := 19) (k := 1) rfl in_J2 (by decide) q511 (fun _ h9 => h9) dJ2_grow_2_11 (by repeat (first | assumption | exact Or.inr gx_us | exact Or.inr (by assumption) | exact Or.inl (by assumption) | refine gx_tu (by omega) ?_)) rfl ?_
      refine gx_gets hC (List.mem_cons_of_mem _ List.mem_cons_self) q579 (fun _ h9 => h9) dJ2_grow_2_14 ?_
      refine gx_acmp_eq hC (rx := some (D.2.2 1)) (ry := some (D.2.2 1)) dJ2_grow_2_17 (tgt := 45) (by decide) (fun c17 => ?_) (fun c17 => ?_)
      · refine gx_aload_n hC dJ2_grow_2_45 rfl rfl (by first | rfl | exact gx_isr_rf _ | exact gx_isr_rn _) ?_
        refine gx_bipush hC dJ2_grow_2_46 rfl ?_
        refine gx_iload_n hC dJ2_grow_2_48 rfl rfl ?_
        refine gx_mmax hC q632 q294 q91 q295 dJ2_grow_2_49 (by unfold gx_rg; omega) (by unfold gx_rg; omega) (Nat.le_of_ble_eq_true rfl) (Nat.le_of_ble_eq_true rfl) ?_
        refine gx_bud (bc' := 0 + 1) (bs' := 50 + 10) (by omega) (by omega) ?_
        refine gx_newq hC (t := 2) (C := "java/lang/Object") (N := 10) q186 q187 rfl dJ2_grow_2_52 (by first | rfl | omega) (by first | decide | omega) ?_
        refine gx_dup_x1 hC dJ2_grow_2_55 (by first | rfl | exact gx_cat_rf _ | exact gx_cat_rn _) (by first | rfl | exact gx_cat_rf _ | exact gx_cat_rn _) ?_
        refine gx_put hC (C := RJ2) (Tf := TJ2) (N := 3) (ci := 19) (k := 1) rfl in_J2 (by decide) tyJ2 tyJ2_ok nmJ2 q511 (fun _ h9 => h9) rfl dJ2_grow_2_56 (by first | exact gx_us | assumption | (repeat (first | exact gx_us | assumption | refine gx_un (by omega) ?_))) (by first | exact Or.inl rfl | exact Or.inl (Or.inl rfl) | exact Or.inl (Or.inr rfl) | exact Or.inr (by omega) | assumption | (simp only [gx_A, *]; omega)) (Nat.le_of_ble_eq_true rfl) (by first | rfl | (unfold gx_rn; split <;> rfl) | (cases ‹Option Nat› <;> rfl) | simp [narrow]) (by first | rfl | (unfold gx_rn; split <;> rfl) | (cases ‹Option Nat› <;> rfl) | simp [fits]) ?_
        exact gx_aret hC rfl rfl rfl (by first | exact Or.inl ⟨_, rfl⟩ | exact Or.inr ⟨_, rfl⟩) (by first | rfl | exact gx_isr_rf _ | exact gx_isr_rn _) dJ2_grow_2_59 (fun G' hG' => ⟨rfl, rfl, 10, by omega, by omega, gx_AL.mk (n := xs.length) rfl (hG' _ _ gx_us) (hG' _ _ (gx_un (by omega) gx_us)) (fun j hj => by omega) (by omega) (by omega) (by omega)⟩)
      · exact absurd rfl c17
    · omega
theorem m_J2_grow (h : gx_AL D (gx_TG T G) a ed mc cap xs) (hG : G a (gx_O 19 [.int (iz mc), .ref ed, .int (iz xs.length)])) (hd : (cap = 0 ∧ ed = D.2.2 1) ∨ (0 < cap ∧ ∃ f, G ed (gx_Q D 2 cap f) ∧ ∀ j, j < xs.length → f j = some (xs.getD j 0))) (hl : xs.length = cap) (hc : cap ≤ 30) (hel : ∀ x ∈ xs, gx_ob (gx_TG T G) x) (hed : ed < nx) : gx_Met l yJ2_grow (ws_ yJ2_grow cJ2_grow 1 (some (.array (.object "java/lang/Object")))) 8 1 60 D (fun q => q = a) T G nx [.ref a] (fun w G' nx' => w = some (.ref nx) ∧ nx' = nx + 1 ∧ ∃ cap', cap < cap' ∧ cap' ≤ 45 ∧ gx_AL D G' a nx mc cap' xs) gx_no := by
  refine gx_start (by decide) (Nat.le_of_ble_eq_true rfl) rfl (fun p e s m args below meth c hC hlt => ?_)
  refine gx_aload_n hC dJ2_grow_0 rfl rfl (by first | rfl | exact gx_isr_rf _ | exact gx_isr_rn _) ?_
  refine gx_aload_n hC dJ2_grow_1 rfl rfl (by first | rfl | exact gx_isr_rf _ | exact gx_isr_rn _) ?_
  refine gx_get hC (C := RJ2) (Tf := TJ2) (N := 3) (ci := 19) (k := 2) rfl in_J2 (by decide) q514 (fun _ h9 => h9) dJ2_grow_2 (by repeat (first | assumption | exact Or.inr gx_us | exact Or.inr (by assumption) | exact Or.inl (by assumption) | refine gx_tu (by omega) ?_)) rfl ?_
  refine gx_iconst hC dJ2_grow_5 ?_
  refine gx_iadd hC dJ2_grow_6 ?_
  refine gx_callV (nA := 1) hC (m_J2_grow_2 h hG hd hl hc hel hed) (C := RJ2) (Tf := TJ2) (Nf := 3) (ci := 19) rfl (by first | ((repeat (first | assumption | exact Or.inr gx_us | exact Or.inr (by assumption) | exact Or.inl (by assumption) | refine gx_tu (by omega) ?_)); done) | exact gx_AL.rc (by assumption) | exact gx_AL.rg (by assumption) | exact gx_AL.rt (by assumption) | exact gx_DQ.rc (by assumption) | exact gx_DQ.rg (by assumption) | exact gx_SB.rc (by assumption) | exact gx_SB.rg (by assumption) | exact gx_Sx.rc (by assumption) | exact gx_Sx.rg (by assumption) | exact gx_IT.rc (by assumption) | exact gx_IT.rg (by assumption) | exact gx_gt.rc (by assumption) | exact gx_gt.rg (by assumption) | exact gx_lx.rc (by assumption) | exact gx_lx.rg (by assumption) | exact gx_sst.rc (by assumption) | exact gx_sst.rg (by assumption)) (lw_V q575 q577 qs3 q81 q578) (by decide +kernel) dJ2_grow_7 rfl ⟨Nat.le_of_ble_eq_true rfl, Nat.le_of_ble_eq_true rfl⟩ (gx_in.id hC (fun q hq => Or.inl hq)) rfl (by first | exact Nat.le_of_ble_eq_true rfl | simp [gx_cat_rf, Value.category]) gx_kno (fun v2 G2 nx2 hp hf hle hlt2 => ?_)
  obtain ⟨rfl, rfl, k, hk1, hk2, q⟩ := hp
  exact gx_aret hC rfl rfl rfl (by first | exact Or.inl ⟨_, rfl⟩ | exact Or.inr ⟨_, rfl⟩) (by first | rfl | exact gx_isr_rf _ | exact gx_isr_rn _) dJ2_grow_10 (fun G' hG' => ⟨rfl, rfl, k, hk1, hk2, q.mono (hG' _) (hG' _)⟩)
theorem m_J2_add_2 (h : gx_AL D G a ed mc cap xs) (hv : gx_ob (gx_TG T G) v) (hl : xs.length < cap) : gx_Met l yJ2_add_2 (ws_ yJ2_add_2 cJ2_add_2 4 none) 1 0 0 D (fun q => q = a ∨ q = ed) T G nx [.ref a, .ref v, .ref ed, .int (iz xs.length)] (fun w G' nx' => w = none ∧ nx' = nx ∧ gx_AL D G' a ed mc cap (xs ++ [v])) gx_no := by
  obtain ⟨h1, ⟨f, h2, h3⟩, h4, h5, h6⟩ := h
  obtain ⟨ci, E, Tb, Nb, gs, hc, hb, hca⟩ := hv
  refine gx_start (by decide) (Nat.le_of_ble_eq_true rfl) rfl (fun p e s m args below meth c hC hlt => ?_)
  refine gx_iload_n hC dJ2_add_2_0 rfl rfl ?_
  refine gx_aload_n hC dJ2_add_2_1 rfl rfl (by first | rfl | exact gx_isr_rf _ | exact gx_isr_rn _) ?_
  refine gx_alen hC (t := 2) rfl dJ2_add_2_2 (by repeat (first | assumption | exact Or.inr gx_us | exact Or.inr (by assumption) | exact Or.inl (by assumption) | refine gx_tu (by omega) ?_)) ?_
  refine gx_icmp_ne hC dJ2_add_2_3 (tgt := 11) (by decide) (by unfold gx_rg; omega) (by unfold gx_rg; omega) (fun c3 => ?_) (fun c3 => ?_)
  · refine gx_aload_n hC dJ2_add_2_11 rfl rfl (by first | rfl | exact gx_isr_rf _ | exact gx_isr_rn _) ?_
    refine gx_iload_n hC dJ2_add_2_12 rfl rfl ?_
    refine gx_aload_n hC dJ2_add_2_13 rfl rfl (by first | rfl | exact gx_isr_rf _ | exact gx_isr_rn _) ?_
    refine gx_aast hC (t := 2) rfl dJ2_add_2_14 (by first | exact gx_us | assumption | (repeat (first | exact gx_us | assumption | refine gx_un (by omega) ?_))) (by first | exact Or.inl rfl | exact Or.inl (Or.inl rfl) | exact Or.inl (Or.inr rfl) | exact Or.inr (by omega) | assumption | (simp only [gx_A, *]; omega)) (by omega) hc hb hca ?_
    refine gx_aload_n hC dJ2_add_2_15 rfl rfl (by first | rfl | exact gx_isr_rf _ | exact gx_isr_rn _) ?_
    refine gx_iload_n hC dJ2_add_2_16 rfl rfl ?_
    refine gx_iconst hC dJ2_add_2_17 ?_
    refine gx_iadd hC dJ2_add_2_18 ?_
    refine gx_put hC (C := RJ2) (Tf := TJ2) (N := 3) (ci := 19) (k := 2) rfl in_J2 (by decide) tyJ2 tyJ2_ok nmJ2 q514 (fun _ h9 => h9) rfl dJ2_add_2_19 (by first | exact gx_us | assumption | (repeat (first | exact gx_us | assumption | refine gx_un (by omega) ?_))) (by first | exact Or.inl rfl | exact Or.inl (Or.inl rfl) | exact Or.inl (Or.inr rfl) | exact Or.inr (by omega) | assumption | (simp only [gx_A, *]; omega)) (Nat.le_of_ble_eq_true rfl) (by first | rfl | (unfold gx_rn; split <;> rfl) | (cases ‹Option Nat› <;> rfl) | simp [narrow]) (by first | rfl | (unfold gx_rn; split <;> rfl) | (cases ‹Option Nat› <;> rfl) | simp [fits]) ?_
    exact gx_vret hC rfl rfl rfl dJ2_add_2_22 (fun G' hG => ⟨rfl, rfl, gx_AL.mk (n := xs.length + 1) (by simp) (hG _ _ gx_us) (hG _ _ (gx_un (by omega) gx_us)) (gx_al_push h3) (by simp; omega) h5 h6⟩)
  · omega
/-- a list with room -/
theorem m_J2_add (h : gx_AL D G a ed mc cap xs) (hv : gx_ob (gx_TG T G) v) (hl : xs.length < cap) (hva : v ≠ a) : gx_Met l yJ2_add (ws_ yJ2_add cJ2_add 2 (some .boolean)) 2 0 0 D (fun q => q = a ∨ q = ed) T G nx [.ref a, .ref v] (fun w G' nx' => w = some (.int (iz 1)) ∧ nx' = nx ∧ gx_AL D G' a ed (mc + 1) cap (xs ++ [v])) gx_no := by
  obtain ⟨h1, ⟨f, h2, h3⟩, h4, h5, h6⟩ := h
  obtain ⟨ci, E, Tb, Nb, gs, hc, hb, hca⟩ := hv
  refine gx_start (by decide) (Nat.le_of_ble_eq_true rfl) rfl (fun p e s m args below meth c hC hlt => ?_)
  refine gx_aload_n hC dJ2_add_0 rfl rfl (by first | rfl | exact gx_isr_rf _ | exact gx_isr_rn _) ?_
  refine gx_dup hC dJ2_add_1 (by first | rfl | exact gx_cat_rf _ | exact gx_cat_rn _) ?_
  refine gx_get hC (C := RJ2) (Tf := TJ2) (N := 3) (ci := 19) (k := 0) rfl in_J2 (by decide) q522 (fun x9 h9 => u_same (hC.ts _ q519) x9 h9) dJ2_add_2 (by repeat (first | assumption | exact Or.inr gx_us | exact Or.inr (by assumption) | exact Or.inl (by assumption) | refine gx_tu (by omega) ?_)) rfl ?_
  refine gx_iconst hC dJ2_add_5 ?_
  refine gx_iadd hC dJ2_add_6 ?_
  refine gx_put hC (C := RJ2) (Tf := TJ2) (N := 3) (ci := 19) (k := 0) rfl in_J2 (by decide) tyJ2 tyJ2_ok nmJ2 q522 (fun x9 h9 => u_same (hC.ts _ q519) x9 h9) rfl dJ2_add_7 (by first | exact gx_us | assumption | (repeat (first | exact gx_us | assumption | refine gx_un (by omega) ?_))) (by first | exact Or.inl rfl | exact Or.inl (Or.inl rfl) | exact Or.inl (Or.inr rfl) | exact Or.inr (by omega) | assumption | (simp only [gx_A, *]; omega)) (Nat.le_of_ble_eq_true rfl) (by first | rfl | (unfold gx_rn; split <;> rfl) | (cases ‹Option Nat› <;> rfl) | simp [narrow]) (by first | rfl | (unfold gx_rn; split <;> rfl) | (cases ‹Option Nat› <;> rfl) | simp [fits]) ?_
  refine gx_aload_n hC dJ2_add_10 rfl rfl (by first | rfl | exact gx_isr_rf _ | exact gx_isr_rn _) ?_
  refine gx_aload_n hC dJ2_add_11 rfl rfl (by first | rfl | exact gx_isr_rf _ | exact gx_isr_rn _) ?_
  refine gx_aload_n hC dJ2_add_12 rfl rfl (by first | rfl | exact gx_isr_rf _ | exact gx_isr_rn _) ?_
  refine gx_get hC (C := RJ2) (Tf := TJ2) (N := 3) (ci := 19) (k := 1) rfl in_J2 (by decide) q511 (fun _ h9 => h9) dJ2_add_13 (by repeat (first | assumption | exact Or.inr gx_us | exact Or.inr (by assumption) | exact Or.inl (by assumption) | refine gx_tu (by omega) ?_)) rfl ?_
  refine gx_aload_n hC dJ2_add_16 rfl rfl (by first | rfl | exact gx_isr_rf _ | exact gx_isr_rn _) ?_
  refine gx_get hC (C := RJ2) (Tf := TJ2) (N := 3) (ci := 19) (k := 2) rfl in_J2 (by decide) q514 (fun _ h9 => h9) dJ2_add_17 (by repeat (first | assumption | exact Or.inr gx_us | exact Or.inr (by assumption) | exact Or.inl (by assumption) | refine gx_tu (by omega) ?_)) rfl ?_
  have hb2 : gx_TG T (gx_up G a (gx_O 19 ([.int (iz mc), .ref ed, .int (iz xs.length)].set 0 (.int (iz (mc + 1)))))) v (gx_O ci gs) := gx_tu hva hb
  refine gx_callV (nA := 3) hC (m_J2_add_2 (mc := mc + 1) (gx_AL.mk rfl gx_us (gx_un (by omega) h2) h3 h4 h5 h6) ⟨ci, E, Tb, Nb, gs, hc, hb2, hca⟩ hl) (C := RJ2) (Tf := TJ2) (Nf := 3) (ci := 19) rfl (by first | ((repeat (first | assumption | exact Or.inr gx_us | exact Or.inr (by assumption) | exact Or.inl (by assumption) | refine gx_tu (by omega) ?_)); done) | exact gx_AL.rc (by assumption) | exact gx_AL.rg (by assumption) | exact gx_AL.rt (by assumption) | exact gx_DQ.rc (by assumption) | exact gx_DQ.rg (by assumption) | exact gx_SB.rc (by assumption) | exact gx_SB.rg (by assumption) | exact gx_Sx.rc (by assumption) | exact gx_Sx.rg (by assumption) | exact gx_IT.rc (by assumption) | exact gx_IT.rg (by assumption) | exact gx_gt.rc (by assumption) | exact gx_gt.rg (by assumption) | exact gx_lx.rc (by assumption) | exact gx_lx.rg (by assumption) | exact gx_sst.rc (by assumption) | exact gx_sst.rg (by assumption)) (lw_V q567 q569 qs1 q81 q570) (by decide +kernel) dJ2_add_20 rfl ⟨Nat.le_of_ble_eq_true rfl, Nat.le_of_ble_eq_true rfl⟩ (gx_in.id hC (fun q hq => Or.inl hq)) rfl (by first | exact Nat.le_of_ble_eq_true rfl | simp [gx_cat_rf, Value.category]) gx_kno (fun v2 G2 nx2 hp hf hle hlt2 => ?_)
  obtain ⟨rfl, rfl, q⟩ := hp
  refine gx_iconst hC dJ2_add_23 ?_
  exact gx_zret hC rfl rfl rfl (by first | rfl | (split <;> rfl) | simp [narrow, *]) dJ2_add_24 (fun G' hG' => ⟨rfl, rfl, q.mono (hG' _) (hG' _)⟩)
/-- a list that may have to grow -/
theorem m_J2_add_2g (h : gx_AL D (gx_TG T G) a ed mc cap xs) (hG : G a (gx_O 19 [.int (iz mc), .ref ed, .int (iz xs.length)])) (hd : (cap = 0 ∧ ed = D.2.2 1) ∨ (0 < cap ∧ ∃ f, G ed (gx_Q D 2 cap f) ∧ ∀ j, j < xs.length → f j = some (xs.getD j 0))) (hc30 : cap ≤ 45 ∧ (cap ≤ 30 ∨ xs.length < cap)) (hel : ∀ x ∈ xs, gx_ob (gx_TG T G) x) (hed : ed < nx) (hv : gx_ob (gx_TG T G) v) (hva : v ≠ a) (hed2 : 0 < cap → ed ≠ a) : gx_Met l yJ2_add_2 (ws_ yJ2_add_2 cJ2_add_2 4 none) 10 1 60 D (fun q => q = a ∨ (q = ed ∧ 0 < cap)) T G nx [.ref a, .ref v, .ref ed, .int (iz xs.length)] (fun w G' nx' => w = none ∧ nx ≤ nx' ∧ ∃ ed' cap', cap ≤ cap' ∧ cap' ≤ 45 ∧ 0 < cap' ∧ (ed' = ed ∧ 0 < cap ∨ nx ≤ ed') ∧ gx_AL D G' a ed' mc cap' (xs ++ [v])) gx_no := by
  have h0 := h
  obtain ⟨h1, ⟨f, h2, h3⟩, h4, h5, h6⟩ := h
  obtain ⟨ci, E, Tb, Nb, gs, hc, hb, hca⟩ := hv
  refine gx_start (by decide) (Nat.le_of_ble_eq_true rfl) rfl (fun p e s m args below meth c hC hlt => ?_)
  have hax := hlt _ _ hG
  refine gx_iload_n hC dJ2_add_2_0 rfl rfl ?_
  refine gx_aload_n hC dJ2_add_2_1 rfl rfl (by first | rfl | exact gx_isr_rf _ | exact gx_isr_rn _) ?_
  refine gx_alen hC (t := 2) rfl dJ2_add_2_2 (by repeat (first | assumption | exact Or.inr gx_us | exact Or.inr (by assumption) | exact Or.inl (by assumption) | refine gx_tu (by omega) ?_)) ?_
  refine gx_icmp_ne hC dJ2_add_2_3 (tgt := 11) (by decide) (by unfold gx_rg; omega) (by unfold gx_rg; omega) (fun c3 => ?_) (fun c3 => ?_)
  · obtain ⟨f, hG2, h3⟩ : ∃ f, G ed (gx_Q D 2 cap f) ∧ ∀ j, j < xs.length → f j = some (xs.getD j 0) := by
      rcases hd with hd | hd
      · omega
      · exact hd.2
    have hcap : 0 < cap := by omega
    refine gx_aload_n hC dJ2_add_2_11 rfl rfl (by first | rfl | exact gx_isr_rf _ | exact gx_isr_rn _) ?_
    refine gx_iload_n hC dJ2_add_2_12 rfl rfl ?_
    refine gx_aload_n hC dJ2_add_2_13 rfl rfl (by first | rfl | exact gx_isr_rf _ | exact gx_isr_rn _) ?_
    refine gx_aast hC (t := 2) rfl dJ2_add_2_14 (by first | exact gx_us | assumption | (repeat (first | exact gx_us | assumption | refine gx_un (by omega) ?_))) (by exact Or.inl (Or.inr ⟨rfl, hcap⟩)) (by omega) hc hb hca ?_
    refine gx_aload_n hC dJ2_add_2_15 rfl rfl (by first | rfl | exact gx_isr_rf _ | exact gx_isr_rn _) ?_
    refine gx_iload_n hC dJ2_add_2_16 rfl rfl ?_
    refine gx_iconst hC dJ2_add_2_17 ?_
    refine gx_iadd hC dJ2_add_2_18 ?_
    refine gx_put hC (C := RJ2) (Tf := TJ2) (N := 3) (ci := 19) (k := 2) rfl in_J2 (by decide) tyJ2 tyJ2_ok nmJ2 q514 (fun _ h9 => h9) rfl dJ2_add_2_19 (by first | exact gx_us | assumption | (repeat (first | exact gx_us | assumption | refine gx_un (by omega) ?_))) (by first | exact Or.inl rfl | exact Or.inl (Or.inl rfl) | exact Or.inl (Or.inr rfl) | exact Or.inr (by omega) | assumption | (simp only [gx_A, *]; omega)) (Nat.le_of_ble_eq_true rfl) (by first | rfl | (unfold gx_rn; split <;> rfl) | (cases ‹Option Nat› <;> rfl) | simp [narrow]) (by first | rfl | (unfold gx_rn; split <;> rfl) | (cases ‹Option Nat› <;> rfl) | simp [fits]) ?_
    exact gx_vret hC rfl rfl rfl dJ2_add_2_22 (fun G' hG' => ⟨rfl, Nat.le_refl _, ed, cap, Nat.le_refl _, by omega, hcap, Or.inl ⟨rfl, hcap⟩, gx_AL.mk (n := xs.length + 1) (by simp) (hG' _ _ gx_us) (hG' _ _ (gx_un (by omega) gx_us)) (gx_al_push h3) (by simp; omega) h5 h6⟩)
  · refine gx_aload_n hC dJ2_add_2_6 rfl rfl (by first | rfl | exact gx_isr_rf _ | exact gx_isr_rn _) ?_
    refine gx_callV (nA := 0) hC (m_J2_grow h0 hG hd (by omega) (by omega) hel hed) (C := RJ2) (Tf := TJ2) (Nf := 3) (ci := 19) rfl (by first | ((repeat (first | assumption | exact Or.inr gx_us | exact Or.inr (by assumption) | exact Or.inl (by assumption) | refine gx_tu (by omega) ?_)); done) | exact gx_AL.rc (by assumption) | exact gx_AL.rg (by assumption) | exact gx_AL.rt (by assumption) | exact gx_DQ.rc (by assumption) | exact gx_DQ.rg (by assumption) | exact gx_SB.rc (by assumption) | exact gx_SB.rg (by assumption) | exact gx_Sx.rc (by assumption) | exact gx_Sx.rg (by assumption) | exact gx_IT.rc (by assumption) | exact gx_IT.rg (by assumption) | exact gx_gt.rc (by assumption) | exact gx_gt.rg (by assumption) | exact gx_lx.rc (by assumption) | exact gx_lx.rg (by assumption) | exact gx_sst.rc (by assumption) | exact gx_sst.rg (by assumption)) (lw_V q571 q573 qs2 q81 q574) (by decide +kernel) dJ2_add_2_7 rfl ⟨Nat.le_of_ble_eq_true rfl, Nat.le_of_ble_eq_true rfl⟩ (gx_in.id hC (fun q hq => Or.inl (Or.inl hq))) rfl (by first | exact Nat.le_of_ble_eq_true rfl | simp [gx_cat_rf, Value.category]) gx_kno (fun v2 G2 nx2 hp hf hle hlt2 => ?_)
    obtain ⟨rfl, rfl, k, hk1, hk2, q⟩ := hp
    obtain ⟨q1, ⟨f2, q2, q3⟩, q4, q5, q6⟩ := q
    have hb2 : gx_TG T G2 v (gx_O ci gs) := hb.imp id (fun z => hf _ _ z hva)
    refine gx_astore_n hC dJ2_add_2_10 rfl (by decide) (by first | rfl | simp [gx_ck, gx_lk, gx_cat_rf, gx_cat_rn]) (by first | rfl | exact gx_isr_rf _ | exact gx_isr_rn _) ?_
    refine gx_aload_n hC dJ2_add_2_11 rfl rfl (by first | rfl | exact gx_isr_rf _ | exact gx_isr_rn _) ?_
    refine gx_iload_n hC dJ2_add_2_12 rfl rfl ?_
    refine gx_aload_n hC dJ2_add_2_13 rfl rfl (by first | rfl | exact gx_isr_rf _ | exact gx_isr_rn _) ?_
    refine gx_aast hC (t := 2) rfl dJ2_add_2_14 (by first | exact gx_us | assumption | (repeat (first | exact gx_us | assumption | refine gx_un (by omega) ?_))) (by first | exact Or.inl rfl | exact Or.inl (Or.inl rfl) | exact Or.inl (Or.inr rfl) | exact Or.inr (by omega) | assumption | (simp only [gx_A, *]; omega)) (by omega) hc hb2 hca ?_
    refine gx_aload_n hC dJ2_add_2_15 rfl rfl (by first | rfl | exact gx_isr_rf _ | exact gx_isr_rn _) ?_
    refine gx_iload_n hC dJ2_add_2_16 rfl rfl ?_
    refine gx_iconst hC dJ2_add_2_17 ?_
    refine gx_iadd hC dJ2_add_2_18 ?_
    refine gx_put hC (C := RJ2) (Tf := TJ2) (N := 3) (ci := 19) (k := 2) rfl in_J2 (by decide) tyJ2 tyJ2_ok nmJ2 q514 (fun _ h9 => h9) rfl dJ2_add_2_19 (by first | exact gx_us | assumption | (repeat (first | exact gx_us | assumption | refine gx_un (by omega) ?_))) (by first | exact Or.inl rfl | exact Or.inl (Or.inl rfl) | exact Or.inl (Or.inr rfl) | exact Or.inr (by omega) | assumption | (simp only [gx_A, *]; omega)) (Nat.le_of_ble_eq_true rfl) (by first | rfl | (unfold gx_rn; split <;> rfl) | (cases ‹Option Nat› <;> rfl) | simp [narrow]) (by first | rfl | (unfold gx_rn; split <;> rfl) | (cases ‹Option Nat› <;> rfl) | simp [fits]) ?_
    exact gx_vret hC rfl rfl rfl dJ2_add_2_22 (fun G' hG' => ⟨rfl, by omega, nx, k, by omega, hk2, by omega, Or.inr (Nat.le_refl _), gx_AL.mk (n := xs.length + 1) (by simp) (hG' _ _ gx_us) (hG' _ _ (gx_un (by omega) gx_us)) (gx_al_push q3) (by simp; omega) q5 q6⟩)
theorem m_J2_addg (h : gx_AL D (gx_TG T G) a ed mc cap xs) (hG : G a (gx_O 19 [.int (iz mc), .ref ed, .int (iz xs.length)])) (hd : (cap = 0 ∧ ed = D.2.2 1) ∨ (0 < cap ∧ ∃ f, G ed (gx_Q D 2 cap f) ∧ ∀ j, j < xs.length → f j = some (xs.getD j 0))) (hc30 : cap ≤ 45 ∧ (cap ≤ 30 ∨ xs.length < cap)) (hel : ∀ x ∈ xs, gx_ob (gx_TG T G) x) (hela : a ∉ xs) (hed : ed < nx) (hv : gx_ob (gx_TG T G) v) (hva : v ≠ a) : gx_Met l yJ2_add (ws_ yJ2_add cJ2_add 2 (some .boolean)) 12 1 60 D (fun q => q = a ∨ (q = ed ∧ 0 < cap)) T G nx [.ref a, .ref v] (fun w G' nx' => w = some (.int (iz 1)) ∧ nx ≤ nx' ∧ ∃ ed' cap', cap ≤ cap' ∧ cap' ≤ 45 ∧ 0 < cap' ∧ (ed' = ed ∧ 0 < cap ∨ nx ≤ ed') ∧ gx_AL D G' a ed' (mc + 1) cap' (xs ++ [v])) gx_no := by
  have h0 := h
  obtain ⟨h1, ⟨f, h2, h3⟩, h4, h5, h6⟩ := h
  obtain ⟨ci, E, Tb, Nb, gs, hc, hb, hca⟩ := hv
  refine gx_start (by decide) (Nat.le_of_ble_eq_true rfl) rfl (fun p e s m args below meth c hC hlt => ?_)
  have hax := hlt _ _ hG
  have hx : ∀ x, x ≠ a → gx_ob (gx_TG T G) x → gx_ob (gx_TG T (gx_up G a (gx_O 19 ([.int (iz mc), .ref ed, .int (iz xs.length)].set 0 (.int (iz (mc + 1))))))) x := fun x hxa ⟨ci, E, Tb, Nb, gs, hc, hb, hca⟩ => ⟨ci, E, Tb, Nb, gs, hc, gx_tu hxa hb, hca⟩
  have hd2 : (cap = 0 ∧ ed = D.2.2 1) ∨ (0 < cap ∧ ∃ f, (gx_up G a (gx_O 19 ([.int (iz mc), .ref ed, .int (iz xs.length)].set 0 (.int (iz (mc + 1)))))) ed (gx_Q D 2 cap f) ∧ ∀ j, j < xs.length → f j = some (xs.getD j 0)) := by
    rcases hd with hd | ⟨hd, f9, hd1, hd2⟩
    · exact Or.inl hd
    · exact Or.inr ⟨hd, f9, gx_un (by omega) hd1, hd2⟩
  refine gx_aload_n hC dJ2_add_0 rfl rfl (by first | rfl | exact gx_isr_rf _ | exact gx_isr_rn _) ?_
  refine gx_dup hC dJ2_add_1 (by first | rfl | exact gx_cat_rf _ | exact gx_cat_rn _) ?_
  refine gx_get hC (C := RJ2) (Tf := TJ2) (N := 3) (ci := 19) (k := 0) rfl in_J2 (by decide) q522 (fun x9 h9 => u_same (hC.ts _ q519) x9 h9) dJ2_add_2 (by repeat (first | assumption | exact Or.inr gx_us | exact Or.inr (by assumption) | exact Or.inl (by assumption) | refine gx_tu (by omega) ?_)) rfl ?_
  refine gx_iconst hC dJ2_add_5 ?_
  refine gx_iadd hC dJ2_add_6 ?_
  refine gx_put hC (C := RJ2) (Tf := TJ2) (N := 3) (ci := 19) (k := 0) rfl in_J2 (by decide) tyJ2 tyJ2_ok nmJ2 q522 (fun x9 h9 => u_same (hC.ts _ q519) x9 h9) rfl dJ2_add_7 (by first | exact gx_us | assumption | (repeat (first | exact gx_us | assumption | refine gx_un (by omega) ?_))) (by first | exact Or.inl rfl | exact Or.inl (Or.inl rfl) | exact Or.inl (Or.inr rfl) | exact Or.inr (by omega) | assumption | (simp only [gx_A, *]; omega)) (Nat.le_of_ble_eq_true rfl) (by first | rfl | (unfold gx_rn; split <;> rfl) | (cases ‹Option Nat› <;> rfl) | simp [narrow]) (by first | rfl | (unfold gx_rn; split <;> rfl) | (cases ‹Option Nat› <;> rfl) | simp [fits]) ?_
  refine gx_aload_n hC dJ2_add_10 rfl rfl (by first | rfl | exact gx_isr_rf _ | exact gx_isr_rn _) ?_
  refine gx_aload_n hC dJ2_add_11 rfl rfl (by first | rfl | exact gx_isr_rf _ | exact gx_isr_rn _) ?_
  refine gx_aload_n hC dJ2_add_12 rfl rfl (by first | rfl | exact gx_isr_rf _ | exact gx_isr_rn _) ?_
  refine gx_get hC (C := RJ2) (Tf := TJ2) (N := 3) (ci := 19) (k := 1) rfl in_J2 (by decide) q511 (fun _ h9 => h9) dJ2_add_13 (by repeat (first | assumption | exact Or.inr gx_us | exact Or.inr (by assumption) | exact Or.inl (by assumption) | refine gx_tu (by omega) ?_)) rfl ?_
  refine gx_aload_n hC dJ2_add_16 rfl rfl (by first | rfl | exact gx_isr_rf _ | exact gx_isr_rn _) ?_
  refine gx_get hC (C := RJ2) (Tf := TJ2) (N := 3) (ci := 19) (k := 2) rfl in_J2 (by decide) q514 (fun _ h9 => h9) dJ2_add_17 (by repeat (first | assumption | exact Or.inr gx_us | exact Or.inr (by assumption) | exact Or.inl (by assumption) | refine gx_tu (by omega) ?_)) rfl ?_
  refine gx_callV (nA := 3) hC (m_J2_add_2g (mc := mc + 1) (xs := xs) ⟨Or.inr gx_us, ⟨f, gx_tu (by omega) h2, h3⟩, h4, h5, h6⟩ gx_us hd2 hc30 (fun x hx9 => hx x (fun q => hela (q ▸ hx9)) (hel x hx9)) hed (hx v hva ⟨ci, E, Tb, Nb, gs, hc, hb, hca⟩) hva (fun _ => by omega)) (C := RJ2) (Tf := TJ2) (Nf := 3) (ci := 19) rfl (by first | ((repeat (first | assumption | exact Or.inr gx_us | exact Or.inr (by assumption) | exact Or.inl (by assumption) | refine gx_tu (by omega) ?_)); done) | exact gx_AL.rc (by assumption) | exact gx_AL.rg (by assumption) | exact gx_AL.rt (by assumption) | exact gx_DQ.rc (by assumption) | exact gx_DQ.rg (by assumption) | exact gx_SB.rc (by assumption) | exact gx_SB.rg (by assumption) | exact gx_Sx.rc (by assumption) | exact gx_Sx.rg (by assumption) | exact gx_IT.rc (by assumption) | exact gx_IT.rg (by assumption) | exact gx_gt.rc (by assumption) | exact gx_gt.rg (by assumption) | exact gx_lx.rc (by assumption) | exact gx_lx.rg (by assumption) | exact gx_sst.rc (by assumption) | exact gx_sst.rg (by assumption)) (lw_V q567 q569 qs1 q81 q570) (by decide +kernel) dJ2_add_20 rfl ⟨Nat.le_of_ble_eq_true rfl, Nat.le_of_ble_eq_true rfl⟩ (gx_in.id hC (fun q hq => Or.inl hq)) rfl (by first | exact Nat.le_of_ble_eq_true rfl | simp [gx_cat_rf, Value.category]) gx_kno (fun v2 G2 nx2 hp hf hle hlt2 => ?_)
  obtain ⟨rfl, q0, ed', cap', q1, q2, q3, q4, q⟩ := hp
  refine gx_iconst hC dJ2_add_23 ?_
  exact gx_zret hC rfl rfl rfl (by first | rfl | (split <;> rfl) | simp [narrow, *]) dJ2_add_24 (fun G' hG' => ⟨rfl, q0, ed', cap', q1, q2, q3, q4, q.mono (hG' _) (hG' _)⟩)
/-- a list that may grow: its array is its own, or the empty one that all share -/
def gx_GL (D : gx_D) (T X : gx_H) (a ed cap : Nat) (xs : List Nat) : Prop := (∃ mc : Int, X a (gx_O 19 [.int (iz mc), .ref ed, .int (iz xs.length)])) ∧ ((cap = 0 ∧ ed = D.2.2 1 ∧ xs = [] ∧ ∃ f, T ed (gx_Q D 2 0 f)) ∨ (0 < cap ∧ ∃ f, X ed (gx_Q D 2 cap f) ∧ ∀ j, j < xs.length → f j = some (xs.getD j 0))) ∧ xs.length ≤ cap ∧ cap ≤ 45 ∧ a ≠ ed
theorem gx_GL.mono {X X' T T' : gx_H} (h : gx_GL D T X a ed cap xs) (ha : ∀ e, X a e → X' a e) (hd : ∀ e, 0 < cap → X ed e → X' ed e) (ht : ∀ a e, T a e → T' a e) : gx_GL D T' X' a ed cap xs := by
  obtain ⟨⟨mc, h1⟩, h2, h3⟩ := h
  refine ⟨⟨mc, ha _ h1⟩, ?_, h3⟩
  rcases h2 with ⟨q1, q2, q3, f, q4⟩ | ⟨q1, f, q2, q3⟩
  · exact Or.inl ⟨q1, q2, q3, f, ht _ _ q4⟩
  · exact Or.inr ⟨q1, f, hd _ q1 q2, q3⟩
theorem gx_GL.al {X : gx_H} (h : gx_GL D T X a ed cap xs) : ∃ mc : Int, gx_AL D (gx_TG T X) a ed mc cap xs := by
  obtain ⟨⟨mc, h1⟩, h2, h3, h4, h5⟩ := h
  refine ⟨mc, Or.inr h1, ?_, h3, by omega, h5⟩
  rcases h2 with ⟨q1, q2, q3, f, q4⟩ | ⟨q1, f, q2, q3⟩
  · subst q1
    exact ⟨f, Or.inl q4, fun j hj => by omega⟩
  · exact ⟨f, Or.inr q2, q3⟩
theorem m_GL_add (h : gx_GL D T G a ed cap xs) (hl : xs.length < 33) (hc : cap ≤ 30 ∨ xs.length < cap) (hel : ∀ x ∈ xs, gx_ob (gx_TG T G) x) (hela : a ∉ xs) (hed : ed < nx) (hv : gx_ob (gx_TG T G) v) (hva : v ≠ a) : gx_Met l yJ2_add (ws_ yJ2_add cJ2_add 2 (some .boolean)) 12 1 60 D (fun q => q = a ∨ (q = ed ∧ 0 < cap)) T G nx [.ref a, .ref v] (fun w G' nx' => w = some (.int (iz 1)) ∧ nx ≤ nx' ∧ ∃ ed' cap', cap ≤ cap' ∧ (ed' = ed ∧ 0 < cap ∨ nx ≤ ed') ∧ 0 < cap' ∧ gx_GL D T G' a ed' cap' (xs ++ [v])) gx_no := by
  obtain ⟨mc, hal⟩ := h.al
  have h00 := h
  obtain ⟨⟨mc9, h1⟩, h2, h3, h4, h5⟩ := h
  have hG : G a (gx_O 19 [.int (iz mc9), .ref ed, .int (iz xs.length)]) := h1
  have hal9 : gx_AL D (gx_TG T G) a ed mc9 cap xs := ⟨Or.inr h1, hal.2⟩
  have hd : (cap = 0 ∧ ed = D.2.2 1) ∨ (0 < cap ∧ ∃ f, G ed (gx_Q D 2 cap f) ∧ ∀ j, j < xs.length → f j = some (xs.getD j 0)) := by
    rcases h2 with q | q
    · exact Or.inl ⟨q.1, q.2.1⟩
    · exact Or.inr q
  have key := m_J2_addg (l := l) (nx := nx) hal9 hG hd ⟨h4, hc⟩ hel hela hed hv hva
  refine key.post (fun w G' nx' hw => ?_) (fun _ _ _ _ h => h)
  obtain ⟨w1, w2, ed', cap', w3, w4, w5, w6, w7⟩ := hw
  obtain ⟨z1, ⟨f, z2, z3⟩, z4, z5, z6⟩ := w7
  exact ⟨w1, w2, ed', cap', w3, w6, w5, ⟨_, z1⟩, Or.inr ⟨w5, f, z2, z3⟩, z4, w4, z6⟩
end ALM

