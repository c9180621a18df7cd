/-! Scanner, Level, Report -/
set_option maxRecDepth 100000
/-- the kinds that may follow, as bits -/
def gs_al (m : Int) (lv : Nat) : Int := if m = 0 then 1 else if m = 1 then 3 else if m = 2 then 21 + (if 0 < lv then 8 else 0) else 16 + (if 0 < lv then 8 else 0)
theorem gx_shrF : ∀ (a : Fin 32) (k : Fin 5), iz (a.val : Int) >>> (iz (k.val : Int) &&& 31) = iz (((a.val / 2 ^ k.val : Nat)) : Int) := by decide +kernel
theorem gx_and1F : ∀ (a : Fin 32), iz (a.val : Int) &&& iz 1 = iz (((a.val % 2 : Nat)) : Int) := by decide +kernel
theorem gx_shrS {a k : Int} (ha : 0 ≤ a ∧ a < 32) (hk : 0 ≤ k ∧ k < 5) : iz a >>> (iz k &&& 31) = iz (((a.toNat / 2 ^ k.toNat : Nat)) : Int) := by
  have := gx_shrF ⟨a.toNat, by omega⟩ ⟨k.toNat, by omega⟩
  rwa [show ((a.toNat : Nat) : Int) = a by omega, show ((k.toNat : Nat) : Int) = k by omega] at this
theorem gx_and1 {a : Nat} (ha : a < 32) : iz (a : Int) &&& iz 1 = iz (((a % 2 : Nat)) : Int) := gx_and1F ⟨a, ha⟩
theorem gs_al_rg {m : Int} {lv : Nat} : 0 ≤ gs_al m lv ∧ gs_al m lv < 32 := by unfold gs_al; repeat' split <;> omega
/-- the bit says whether the step can be made -/
theorem gs_bit {A : gs_A} {k : Int} {t : Nat} (hm : 0 ≤ A.m ∧ A.m ≤ 3) (hk : 0 ≤ k ∧ k ≤ 4) : ((((gs_al A.m A.lv).toNat / 2 ^ k.toNat) % 2 : Nat) : Int) = 0 ↔ gs_step A k t = none := by
  obtain ⟨m, lv, n, cl, oc, dp⟩ := A
  simp only [gs_A.m, gs_A.lv] at hm ⊢
  have h1 : m = 0 ∨ m = 1 ∨ m = 2 ∨ m = 3 := by omega
  have h2 : k = 0 ∨ k = 1 ∨ k = 2 ∨ k = 3 ∨ k = 4 := by omega
  by_cases h3 : 0 < lv
  · rcases h1 with h1 | h1 | h1 | h1 <;> rcases h2 with h2 | h2 | h2 | h2 | h2 <;> subst h1 <;> subst h2 <;> simp [gs_step, gs_al, h3, gs_A.m, gs_A.lv]
  · rcases h1 with h1 | h1 | h1 | h1 <;> rcases h2 with h2 | h2 | h2 | h2 | h2 <;> subst h1 <;> subst h2 <;> simp [gs_step, gs_al, h3, gs_A.m, gs_A.lv]
/-- where a step leads -/
theorem gs_step_m {A B : gs_A} {k : Int} {t : Nat} (hm : 0 ≤ A.m ∧ A.m ≤ 3) (hk : 0 ≤ k ∧ k ≤ 4) (h : gs_step A k t = some B) : B.m = (if k = 0 then (if A.m = 2 then 3 else 1) else if k = 1 then 2 else if k = 3 then 3 else 0) ∧ (B.lv : Int) = A.lv + (if k = 2 then 1 else if k = 3 then -1 else 0) := by
  obtain ⟨m, lv, n, cl, oc, dp⟩ := A
  simp only [gs_A.m, gs_A.lv] at hm
  simp only [gs_step, gs_A.m, gs_A.lv, gs_A.n, gs_A.dp, gs_A.cl, gs_A.oc] at h ⊢
  have h1 : m = 0 ∨ m = 1 ∨ m = 2 ∨ m = 3 := by omega
  have h2 : k = 0 ∨ k = 1 ∨ k = 2 ∨ k = 3 ∨ k = 4 := by omega
  by_cases h3 : 0 < lv
  · rcases h1 with h1 | h1 | h1 | h1 <;> rcases h2 with h2 | h2 | h2 | h2 | h2 <;> subst h1 <;> subst h2 <;> simp [h3] at h ⊢ <;> subst h <;> simp <;> omega
  · rcases h1 with h1 | h1 | h1 | h1 <;> rcases h2 with h2 | h2 | h2 | h2 | h2 <;> subst h1 <;> subst h2 <;> simp [h3] at h ⊢ <;> subst h <;> simp <;> omega
/-- a scanner behind the first p tokens -/
def gx_scn (X : gx_H) (a : Nat) (tk : List gs_T) (p : Nat) : Prop := X a (gx_O 10 [.int (iz (gs_lA tk p).m), .int (iz ((gs_lA tk p).lv : Int)), .int (iz (if gs_last tk p < p then (gs_last tk p : Int) else -1)), .int (iz (gs_last tk p : Int))])
theorem gs_inv0 : gs_inv gs_A0 0 := by unfold gs_inv gs_A0; simp [gs_A.m, gs_A.lv, gs_A.n, gs_A.dp]
theorem gs_at_inv {tk : List gs_T} {p : Nat} {A : gs_A} (h : gs_at tk p = some A) : gs_inv A p := by
  induction p generalizing A with
  | zero => cases h; exact gs_inv0
  | succ p ih =>
    cases h2 : gs_at tk p with
    | none => simp [gs_at, h2] at h
    | some C =>
      have h3 : gs_step C (gs_tk tk p).k p = some A := by simpa [gs_at, h2] using h
      exact gs_step_inv (ih h2) h3
theorem gs_lA_inv (tk : List gs_T) (p : Nat) : gs_inv (gs_lA tk p) (gs_last tk p) := gs_at_inv (gs_last_some tk p)
section SCN
variable {l : Launch} {D : gx_D} {T G : gx_H} {nx : Nat} {a v : Nat} {tk : List gs_T} {u : Nat}
theorem m_X11_init (h : G a (gx_O 10 fdX11)) : gx_Met l yX11_init (ws_ yX11_init cX11_init 1 none) 2 0 0 D (fun q => q = a) T G nx [.ref a] (fun w G' nx' => w = none ∧ nx' = nx ∧ gx_scn G' a tk 0) gx_no := by
  refine gx_start (by decide) (Nat.le_of_ble_eq_true rfl) rfl (fun p e s m args below meth c hC hlt => ?_)
  refine gx_aload_n hC dX11_init_0 rfl rfl (by first | rfl | exact gx_isr_rf _ | exact gx_isr_rn _) ?_
  refine gx_oinit hC q1356 q137 q138 dX11_init_1 (Nat.le_of_ble_eq_true rfl) (Nat.le_of_ble_eq_true rfl) ?_
  refine gx_aload_n hC dX11_init_4 rfl rfl (by first | rfl | exact gx_isr_rf _ | exact gx_isr_rn _) ?_
  refine gx_iconst hC dX11_init_5 ?_
  refine gx_put hC (C := RX11) (Tf := TX11) (N := 4) (ci := 10) (k := 0) rfl in_X11 (by decide) tyX11 tyX11_ok nmX11 q1357 (fun _ h9 => h9) rfl dX11_init_6 (by first | exact gx_us | assumption | (repeat (first | exact gx_us | assumption | refine gx_un (by omega) ?_))) (by first | exact Or.inl rfl | exact Or.inl (Or.inl rfl) | exact Or.inl (Or.inr rfl) | exact Or.inr (by omega) | assumption | (simp only [gx_A, *]; omega)) (Nat.le_of_ble_eq_true rfl) (by first | rfl | (unfold gx_rn; split <;> rfl) | (cases ‹Option Nat› <;> rfl) | simp [narrow]) (by first | rfl | (unfold gx_rn; split <;> rfl) | (cases ‹Option Nat› <;> rfl) | simp [fits]) ?_
  refine gx_aload_n hC dX11_init_9 rfl rfl (by first | rfl | exact gx_isr_rf _ | exact gx_isr_rn _) ?_
  refine gx_iconst hC dX11_init_10 ?_
  refine gx_put hC (C := RX11) (Tf := TX11) (N := 4) (ci := 10) (k := 2) rfl in_X11 (by decide) tyX11 tyX11_ok nmX11 q1360 (fun _ h9 => h9) rfl dX11_init_11 (by first | exact gx_us | assumption | (repeat (first | exact gx_us | assumption | refine gx_un (by omega) ?_))) (by first | exact Or.inl rfl | exact Or.inl (Or.inl rfl) | exact Or.inl (Or.inr rfl) | exact Or.inr (by omega) | assumption | (simp only [gx_A, *]; omega)) (Nat.le_of_ble_eq_true rfl) (by first | rfl | (unfold gx_rn; split <;> rfl) | (cases ‹Option Nat› <;> rfl) | simp [narrow]) (by first | rfl | (unfold gx_rn; split <;> rfl) | (cases ‹Option Nat› <;> rfl) | simp [fits]) ?_
  exact gx_vret hC rfl rfl rfl dX11_init_14 (fun G' hG => ⟨rfl, rfl, hG _ _ gx_us⟩)
theorem m_X11_allowed {m9 : Int} {lv : Nat} {x y : Value} (h : gx_TG T G a (gx_O 10 [.int (iz m9), .int (iz (lv : Int)), x, y])) (hm : 0 ≤ m9 ∧ m9 ≤ 3) (hl : lv < 1000) : gx_Met l yX11_allowed (ws_ yX11_allowed cX11_allowed 2 (some .int)) 1 0 0 D gx_M0 T G nx [.ref a] (gx_P (some (.int (iz (gs_al m9 lv)))) nx) gx_no := by
  refine gx_start (by decide) (Nat.le_of_ble_eq_true rfl) rfl (fun p e s m args below meth c hC hlt => ?_)
  have h1 : m9 = 0 ∨ m9 = 1 ∨ m9 = 2 ∨ m9 = 3 := by omega
  have o1 : iz 21 ||| iz 8 = iz 29 := by decide
  have o2 : iz 21 ||| iz 0 = iz 21 := by decide
  have o3 : iz 16 ||| iz 8 = iz 24 := by decide
  have o4 : iz 16 ||| iz 0 = iz 16 := by decide
  refine gx_aload_n hC dX11_allowed_0 rfl rfl (by first | rfl | exact gx_isr_rf _ | exact gx_isr_rn _) ?_
  refine gx_get hC (C := RX11) (Tf := TX11) (N := 4) (ci := 10) (k := 1) rfl in_X11 (by decide) q1359 (fun _ h9 => h9) dX11_allowed_1 (by repeat (first | assumption | exact Or.inr gx_us | exact Or.inr (by assumption) | exact Or.inl (by assumption) | refine gx_tu (by omega) ?_)) rfl ?_
  refine gx_if_le hC dX11_allowed_4 (tgt := 12) (by decide) (by unfold gx_rg; omega) (fun c4 => ?_) (fun c4 => ?_)
  · have e1 : (if 0 < lv then (8 : Int) else 0) = 0 := if_neg (by omega)
    refine gx_iconst hC dX11_allowed_12 ?_
    refine gx_istore_n hC dX11_allowed_13 rfl (by decide) (by first | rfl | simp [gx_ck, gx_lk, gx_cat_rf, gx_cat_rn]) ?_
    refine gx_aload_n hC dX11_allowed_14 rfl rfl (by first | rfl | exact gx_isr_rf _ | exact gx_isr_rn _) ?_
    refine gx_get hC (C := RX11) (Tf := TX11) (N := 4) (ci := 10) (k := 0) rfl in_X11 (by decide) q1357 (fun _ h9 => h9) dX11_allowed_15 (by repeat (first | assumption | exact Or.inr gx_us | exact Or.inr (by assumption) | exact Or.inl (by assumption) | refine gx_tu (by omega) ?_)) rfl ?_
    rcases h1 with h1 | h1 | h1 | h1 <;> subst h1
    · refine gx_tabI hC dX11_allowed_18 (x := 0) (by unfold gx_rg; omega) (by decide) (off := 26) rfl (tgt := 44) (by decide) ?_
      refine gx_iconst hC dX11_allowed_44 ?_
      refine gx_goto hC dX11_allowed_45 (tgt := 63) (by decide) ?_
      exact gx_iret hC rfl rfl rfl dX11_allowed_63 (fun G' hG => ⟨by simp [gs_al], rfl⟩)
    · refine gx_tabI hC dX11_allowed_18 (x := 1) (by unfold gx_rg; omega) (by decide) (off := 30) rfl (tgt := 48) (by decide) ?_
      refine gx_iconst hC dX11_allowed_48 ?_
      refine gx_goto hC dX11_allowed_49 (tgt := 63) (by decide) ?_
      exact gx_iret hC rfl rfl rfl dX11_allowed_63 (fun G' hG => ⟨by simp [gs_al], rfl⟩)
    · refine gx_tabI hC dX11_allowed_18 (x := 2) (by unfold gx_rg; omega) (by decide) (off := 34) rfl (tgt := 52) (by decide) ?_
      refine gx_bipush hC dX11_allowed_52 rfl ?_
      refine gx_iload_n hC dX11_allowed_54 rfl rfl ?_
      refine gx_ior hC dX11_allowed_55 (o2) ?_
      refine gx_goto hC dX11_allowed_56 (tgt := 63) (by decide) ?_
      exact gx_iret hC rfl rfl rfl dX11_allowed_63 (fun G' hG => ⟨by simp [gs_al, e1], rfl⟩)
    · refine gx_tabO hC dX11_allowed_18 (x := 3) (by unfold gx_rg; omega) (by decide) (tgt := 59) (by decide) ?_
      refine gx_bipush hC dX11_allowed_59 rfl ?_
      refine gx_iload_n hC dX11_allowed_61 rfl rfl ?_
      refine gx_ior hC dX11_allowed_62 (o4) ?_
      exact gx_iret hC rfl rfl rfl dX11_allowed_63 (fun G' hG => ⟨by simp [gs_al, e1], rfl⟩)
  · have e1 : (if 0 < lv then (8 : Int) else 0) = 8 := if_pos (by omega)
    refine gx_bipush hC dX11_allowed_7 rfl ?_
    refine gx_goto hC dX11_allowed_9 (tgt := 13) (by decide) ?_
    refine gx_istore_n hC dX11_allowed_13 rfl (by decide) (by first | rfl | simp [gx_ck, gx_lk, gx_cat_rf, gx_cat_rn]) ?_
    refine gx_aload_n hC dX11_allowed_14 rfl rfl (by first | rfl | exact gx_isr_rf _ | exact gx_isr_rn _) ?_
    refine gx_get hC (C := RX11) (Tf := TX11) (N := 4) (ci := 10) (k := 0) rfl in_X11 (by decide) q1357 (fun _ h9 => h9) dX11_allowed_15 (by repeat (first | assumption | exact Or.inr gx_us | exact Or.inr (by assumption) | exact Or.inl (by assumption) | refine gx_tu (by omega) ?_)) rfl ?_
    rcases h1 with h1 | h1 | h1 | h1 <;> subst h1
    · refine gx_tabI hC dX11_allowed_18 (x := 0) (by unfold gx_rg; omega) (by decide) (off := 26) rfl (tgt := 44) (by decide) ?_
      refine gx_iconst hC dX11_allowed_44 ?_
      refine gx_goto hC dX11_allowed_45 (tgt := 63) (by decide) ?_
      exact gx_iret hC rfl rfl rfl dX11_allowed_63 (fun G' hG => ⟨by simp [gs_al], rfl⟩)
    · refine gx_tabI hC dX11_allowed_18 (x := 1) (by unfold gx_rg; omega) (by decide) (off := 30) rfl (tgt := 48) (by decide) ?_
      refine gx_iconst hC dX11_allowed_48 ?_
      refine gx_goto hC dX11_allowed_49 (tgt := 63) (by decide) ?_
      exact gx_iret hC rfl rfl rfl dX11_allowed_63 (fun G' hG => ⟨by simp [gs_al], rfl⟩)
    · refine gx_tabI hC dX11_allowed_18 (x := 2) (by unfold gx_rg; omega) (by decide) (off := 34) rfl (tgt := 52) (by decide) ?_
      refine gx_bipush hC dX11_allowed_52 rfl ?_
      refine gx_iload_n hC dX11_allowed_54 rfl rfl ?_
      refine gx_ior hC dX11_allowed_55 (o1) ?_
      refine gx_goto hC dX11_allowed_56 (tgt := 63) (by decide) ?_
      exact gx_iret hC rfl rfl rfl dX11_allowed_63 (fun G' hG => ⟨by simp [gs_al, e1], rfl⟩)
    · refine gx_tabO hC dX11_allowed_18 (x := 3) (by unfold gx_rg; omega) (by decide) (tgt := 59) (by decide) ?_
      refine gx_bipush hC dX11_allowed_59 rfl ?_
      refine gx_iload_n hC dX11_allowed_61 rfl rfl ?_
      refine gx_ior hC dX11_allowed_62 (o3) ?_
      exact gx_iret hC rfl rfl rfl dX11_allowed_63 (fun G' hG => ⟨by simp [gs_al, e1], rfl⟩)
theorem m_X11_next {m9 k : Int} {x y z : Value} (h : gx_TG T G a (gx_O 10 [.int (iz m9), x, y, z])) (hm : 0 ≤ m9 ∧ m9 ≤ 3) (hk : 0 ≤ k ∧ k ≤ 4) : gx_Met l yX11_next (ws_ yX11_next cX11_next 2 (some .int)) 1 0 0 D gx_M0 T G nx [.ref a, .int (iz k)] (gx_P (some (.int (iz (if k = 0 then (if m9 = 2 then 3 else 1) else if k = 1 then 2 else if k = 3 then 3 else 0)))) nx) gx_no := by
  refine gx_start (by decide) (Nat.le_of_ble_eq_true rfl) rfl (fun p e s m args below meth c hC hlt => ?_)
  have h1 : k = 0 ∨ k = 1 ∨ k = 2 ∨ k = 3 ∨ k = 4 := by omega
  refine gx_iload_n hC dX11_next_0 rfl rfl ?_
  rcases h1 with h1 | h1 | h1 | h1 | h1 <;> subst h1
  · refine gx_tabI hC dX11_next_1 (x := 0) (by unfold gx_rg; omega) (by decide) (off := 31) rfl (tgt := 32) (by decide) ?_
    refine gx_aload_n hC dX11_next_32 rfl rfl (by first | rfl | exact gx_isr_rf _ | exact gx_isr_rn _) ?_
    refine gx_get hC (C := RX11) (Tf := TX11) (N := 4) (ci := 10) (k := 0) rfl in_X11 (by decide) q1357 (fun _ h9 => h9) dX11_next_33 (by repeat (first | assumption | exact Or.inr gx_us | exact Or.inr (by assumption) | exact Or.inl (by assumption) | refine gx_tu (by omega) ?_)) rfl ?_
    refine gx_iconst hC dX11_next_36 ?_
    refine gx_icmp_ne hC dX11_next_37 (tgt := 44) (by decide) (by unfold gx_rg; omega) (by unfold gx_rg; omega) (fun c37 => ?_) (fun c37 => ?_)
    · refine gx_iconst hC dX11_next_44 ?_
      refine gx_goto hC dX11_next_45 (tgt := 57) (by decide) ?_
      exact gx_iret hC rfl rfl rfl dX11_next_57 (fun G' hG => ⟨by simp [c37], rfl⟩)
    · refine gx_iconst hC dX11_next_40 ?_
      refine gx_goto hC dX11_next_41 (tgt := 57) (by decide) ?_
      exact gx_iret hC rfl rfl rfl dX11_next_57 (fun G' hG => ⟨by simp [show m9 = 2 by omega], rfl⟩)
  · refine gx_tabI hC dX11_next_1 (x := 1) (by unfold gx_rg; omega) (by decide) (off := 47) rfl (tgt := 48) (by decide) ?_
    refine gx_iconst hC dX11_next_48 ?_
    refine gx_goto hC dX11_next_49 (tgt := 57) (by decide) ?_
    exact gx_iret hC rfl rfl rfl dX11_next_57 (fun G' hG => ⟨rfl, rfl⟩)
  · refine gx_tabI hC dX11_next_1 (x := 2) (by unfold gx_rg; omega) (by decide) (off := 55) rfl (tgt := 56) (by decide) ?_
    refine gx_iconst hC dX11_next_56 ?_
    exact gx_iret hC rfl rfl rfl dX11_next_57 (fun G' hG => ⟨rfl, rfl⟩)
  · refine gx_tabI hC dX11_next_1 (x := 3) (by unfold gx_rg; omega) (by decide) (off := 51) rfl (tgt := 52) (by decide) ?_
    refine gx_iconst hC dX11_next_52 ?_
    refine gx_goto hC dX11_next_53 (tgt := 57) (by decide) ?_
    exact gx_iret hC rfl rfl rfl dX11_next_57 (fun G' hG => ⟨rfl, rfl⟩)
  · refine gx_tabO hC dX11_next_1 (x := 4) (by unfold gx_rg; omega) (by decide) (tgt := 56) (by decide) ?_
    refine gx_iconst hC dX11_next_56 ?_
    exact gx_iret hC rfl rfl rfl dX11_next_57 (fun G' hG => ⟨rfl, rfl⟩)
theorem gx_scn.mk {X : gx_H} {m9 l9 e9 i9 : Int} (h : X a (gx_O 10 [.int (iz m9), .int (iz l9), .int (iz e9), .int (iz i9)])) (h1 : m9 = (gs_lA tk u).m) (h2 : l9 = ((gs_lA tk u).lv : Int)) (h3 : e9 = (if gs_last tk u < u then (gs_last tk u : Int) else -1)) (h4 : i9 = (gs_last tk u : Int)) : gx_scn X a tk u := by
  subst h1 h2 h3 h4
  exact h
theorem m_X11_accepts (h : gx_scn G a tk u) (hv : gx_TG T G v (gx_tok (gs_tk tk u))) (hva : v ≠ a) (hk : 0 ≤ (gs_tk tk u).k ∧ (gs_tk tk u).k ≤ 4) (hp9 : u < 100) : gx_Met l yX11_accepts (ws_ yX11_accepts cX11_accepts 2 (some .boolean)) 4 0 0 D (fun q => q = a) T G nx [.ref a, .ref v] (fun w G' nx' => (∃ z : Int, w = some (.int (iz z))) ∧ nx' = nx ∧ gx_scn G' a tk (u + 1)) gx_no := by
  have hle := gs_last_le tk u
  have hinv := gs_lA_inv tk u
  have hm := hinv.1
  have hlv := hinv.2.1
  have h0 : G a (gx_O 10 [.int (iz (gs_lA tk u).m), .int (iz ((gs_lA tk u).lv : Int)), .int (iz (if gs_last tk u < u then (gs_last tk u : Int) else -1)), .int (iz (gs_last tk u : Int))]) := h
  by_cases e : gs_last tk u < u
  · rw [if_pos e] at h0
    obtain ⟨s1, s2⟩ := gs_last_st e
    refine gx_start (by decide) (Nat.le_of_ble_eq_true rfl) rfl (fun p e s m args below meth c hC hlt => ?_)
    refine gx_aload_n hC dX11_accepts_0 rfl rfl (by first | rfl | exact gx_isr_rf _ | exact gx_isr_rn _) ?_
    refine gx_get hC (C := RX11) (Tf := TX11) (N := 4) (ci := 10) (k := 2) rfl in_X11 (by decide) q1360 (fun _ h9 => h9) dX11_accepts_1 (by repeat (first | assumption | exact Or.inr gx_us | exact Or.inr (by assumption) | exact Or.inl (by assumption) | refine gx_tu (by omega) ?_)) rfl ?_
    refine gx_if_lt hC dX11_accepts_4 (tgt := 9) (by decide) (by unfold gx_rg; omega) (fun c4 => ?_) (fun c4 => ?_)
    · omega
    · refine gx_iconst hC dX11_accepts_7 ?_
      exact gx_zret hC rfl rfl rfl (by first | rfl | (split <;> rfl) | simp [narrow, *]) dX11_accepts_8 (fun G' hG => ⟨⟨0, rfl⟩, rfl, gx_scn.mk (hG _ _ h0) (by rw [s2]) (by rw [s2]) (by rw [s1, if_pos (by omega)]) (by rw [s1])⟩)
  · have e2 : gs_last tk u = u := by omega
    rw [if_neg e] at h0
    obtain ⟨s1, s2, s3⟩ := gs_last_s e2
    rw [e2] at h0
    have hb := gs_bit (t := u) hm hk
    have hal := gs_al_rg (m := (gs_lA tk u).m) (lv := (gs_lA tk u).lv)
    refine gx_start (by decide) (Nat.le_of_ble_eq_true rfl) rfl (fun p e s m args below meth c hC hlt => ?_)
    refine gx_aload_n hC dX11_accepts_0 rfl rfl (by first | rfl | exact gx_isr_rf _ | exact gx_isr_rn _) ?_
    refine gx_get hC (C := RX11) (Tf := TX11) (N := 4) (ci := 10) (k := 2) rfl in_X11 (by decide) q1360 (fun _ h9 => h9) dX11_accepts_1 (by repeat (first | assumption | exact Or.inr gx_us | exact Or.inr (by assumption) | exact Or.inl (by assumption) | refine gx_tu (by omega) ?_)) rfl ?_
    refine gx_if_lt hC dX11_accepts_4 (tgt := 9) (by decide) (by unfold gx_rg; omega) (fun c4 => ?_) (fun c4 => ?_)
    · refine gx_aload_n hC dX11_accepts_9 rfl rfl (by first | rfl | exact gx_isr_rf _ | exact gx_isr_rn _) ?_
      refine gx_callV (nA := 0) hC (m_X11_allowed (Or.inr h0) hm (by omega)) (C := RX11) (Tf := TX11) (Nf := 4) (ci := 10) rfl (by first | ((repeat (first | assumption | exact Or.inr gx_us | exact Or.inr (by assumption) | exact Or.inl (by assumption) | refine gx_tu (by omega) ?_)); done) | exact gx_AL.rc (by assumption) | exact gx_AL.rg (by assumption) | exact gx_AL.rt (by assumption) | exact gx_DQ.rc (by assumption) | exact gx_DQ.rg (by assumption) | exact gx_SB.rc (by assumption) | exact gx_SB.rg (by assumption) | exact gx_Sx.rc (by assumption) | exact gx_Sx.rg (by assumption) | exact gx_IT.rc (by assumption) | exact gx_IT.rg (by assumption) | exact gx_gt.rc (by assumption) | exact gx_gt.rg (by assumption) | exact gx_lx.rc (by assumption) | exact gx_lx.rg (by assumption) | exact gx_sst.rc (by assumption) | exact gx_sst.rg (by assumption)) (lw_V q1463 q1464 q1465 q114 q1466) (by decide +kernel) dX11_accepts_10 rfl ⟨Nat.le_of_ble_eq_true rfl, Nat.le_of_ble_eq_true rfl⟩ gx_in.id0 rfl (by first | exact Nat.le_of_ble_eq_true rfl | simp [gx_cat_rf, Value.category]) gx_kno (gx_kp1 ?_)
      refine gx_aload_n hC dX11_accepts_13 rfl rfl (by first | rfl | exact gx_isr_rf _ | exact gx_isr_rn _) ?_
      refine gx_getN hC (C := RX7) (Tf := TX7) (N := 3) (ci := 6) (k := 0) rfl in_X7 (by decide) q1724 (fun _ h9 => h9) dX11_accepts_14 (by repeat (first | assumption | exact Or.inr gx_us | exact Or.inr (by assumption) | exact Or.inl (by assumption) | refine gx_tu (by omega) ?_)) rfl ?_
      refine gx_ishr hC dX11_accepts_17 (gx_shrS hal (by omega)) ?_
      refine gx_iconst hC dX11_accepts_18 ?_
      have hdiv : (gs_al (gs_lA tk u).m (gs_lA tk u).lv).toNat / 2 ^ (gs_tk tk u).k.toNat < 32 := Nat.lt_of_le_of_lt (Nat.div_le_self _ _) (by omega)
      refine gx_iand hC dX11_accepts_19 (gx_and1 hdiv) ?_
      refine gx_if_ne hC dX11_accepts_20 (tgt := 33) (by decide) (by unfold gx_rg; omega) (fun c20 => ?_) (fun c20 => ?_)
      · cases hst : gs_step (gs_lA tk u) (gs_tk tk u).k u with
        | none => exact absurd (hb.mpr hst) c20
        | some Bn =>
          have hB := s2 _ hst
          rw [hst] at s1
          obtain ⟨g1, g2⟩ := gs_step_m hm hk hst
          have hfin : ∀ (G' : gx_H) (dz : Int), dz = (if (gs_tk tk u).k = 2 then 1 else if (gs_tk tk u).k = 3 then -1 else 0) → G' a (gx_O 10 [.int (iz (if (gs_tk tk u).k = 0 then (if (gs_lA tk u).m = 2 then 3 else 1) else if (gs_tk tk u).k = 1 then 2 else if (gs_tk tk u).k = 3 then 3 else 0)), .int (iz ((gs_lA tk u).lv + dz)), .int (iz (-1)), .int (iz ((u : Int) + 1))]) → gx_scn G' a tk (u + 1) := fun G' dz hdz h9 => gx_scn.mk h9 (by rw [hB]; exact g1.symm) (by rw [hB, g2, hdz]) (by rw [s1]; simp) (by rw [s1]; simp)
          refine gx_aload_n hC dX11_accepts_33 rfl rfl (by first | rfl | exact gx_isr_rf _ | exact gx_isr_rn _) ?_
          refine gx_dup hC dX11_accepts_34 (by first | rfl | exact gx_cat_rf _ | exact gx_cat_rn _) ?_
          refine gx_get hC (C := RX11) (Tf := TX11) (N := 4) (ci := 10) (k := 1) rfl in_X11 (by decide) q1359 (fun _ h9 => h9) dX11_accepts_35 (by repeat (first | assumption | exact Or.inr gx_us | exact Or.inr (by assumption) | exact Or.inl (by assumption) | refine gx_tu (by omega) ?_)) rfl ?_
          refine gx_aload_n hC dX11_accepts_38 rfl rfl (by first | rfl | exact gx_isr_rf _ | exact gx_isr_rn _) ?_
          refine gx_getN hC (C := RX7) (Tf := TX7) (N := 3) (ci := 6) (k := 0) rfl in_X7 (by decide) q1724 (fun _ h9 => h9) dX11_accepts_39 (by repeat (first | assumption | exact Or.inr gx_us | exact Or.inr (by assumption) | exact Or.inl (by assumption) | refine gx_tu (by omega) ?_)) rfl ?_
          refine gx_iconst hC dX11_accepts_42 ?_
          refine gx_icmp_ne hC dX11_accepts_43 (tgt := 50) (by decide) (by unfold gx_rg; omega) (by unfold gx_rg; omega) (fun c43 => ?_) (fun c43 => ?_)
          · refine gx_aload_n hC dX11_accepts_50 rfl rfl (by first | rfl | exact gx_isr_rf _ | exact gx_isr_rn _) ?_
            refine gx_getN hC (C := RX7) (Tf := TX7) (N := 3) (ci := 6) (k := 0) rfl in_X7 (by decide) q1724 (fun _ h9 => h9) dX11_accepts_51 (by repeat (first | assumption | exact Or.inr gx_us | exact Or.inr (by assumption) | exact Or.inl (by assumption) | refine gx_tu (by omega) ?_)) rfl ?_
            refine gx_iconst hC dX11_accepts_54 ?_
            refine gx_icmp_ne hC dX11_accepts_55 (tgt := 62) (by decide) (by unfold gx_rg; omega) (by unfold gx_rg; omega) (fun c55 => ?_) (fun c55 => ?_)
            · refine gx_iconst hC dX11_accepts_62 ?_
              refine gx_iadd hC dX11_accepts_63 ?_
              refine gx_put hC (C := RX11) (Tf := TX11) (N := 4) (ci := 10) (k := 1) rfl in_X11 (by decide) tyX11 tyX11_ok nmX11 q1359 (fun _ h9 => h9) rfl dX11_accepts_64 (by first | exact gx_us | assumption | (repeat (first | exact gx_us | assumption | refine gx_un (by omega) ?_))) (by first | exact Or.inl rfl | exact Or.inl (Or.inl rfl) | exact Or.inl (Or.inr rfl) | exact Or.inr (by omega) | assumption | (simp only [gx_A, *]; omega)) (Nat.le_of_ble_eq_true rfl) (by first | rfl | (unfold gx_rn; split <;> rfl) | (cases ‹Option Nat› <;> rfl) | simp [narrow]) (by first | rfl | (unfold gx_rn; split <;> rfl) | (cases ‹Option Nat› <;> rfl) | simp [fits]) ?_
              refine gx_aload_n hC dX11_accepts_67 rfl rfl (by first | rfl | exact gx_isr_rf _ | exact gx_isr_rn _) ?_
              refine gx_aload_n hC dX11_accepts_68 rfl rfl (by first | rfl | exact gx_isr_rf _ | exact gx_isr_rn _) ?_
              refine gx_aload_n hC dX11_accepts_69 rfl rfl (by first | rfl | exact gx_isr_rf _ | exact gx_isr_rn _) ?_
              refine gx_getN hC (C := RX7) (Tf := TX7) (N := 3) (ci := 6) (k := 0) rfl in_X7 (by decide) q1724 (fun _ h9 => h9) dX11_accepts_70 (by repeat (first | assumption | exact Or.inr gx_us | exact Or.inr (by assumption) | exact Or.inl (by assumption) | refine gx_tu (by omega) ?_)) rfl ?_
              refine gx_callV (nA := 1) hC (m_X11_next (m9 := (gs_lA tk u).m) (k := (gs_tk tk u).k) (Or.inr gx_us) hm hk) (C := RX11) (Tf := TX11) (Nf := 4) (ci := 10) rfl (by first | ((repeat (first | assumption | exact Or.inr gx_us | exact Or.inr (by assumption) | exact Or.inl (by assumption) | refine gx_tu (by omega) ?_)); done) | exact gx_AL.rc (by assumption) | exact gx_AL.rg (by assumption) | exact gx_AL.rt (by assumption) | exact gx_DQ.rc (by assumption) | exact gx_DQ.rg (by assumption) | exact gx_SB.rc (by assumption) | exact gx_SB.rg (by assumption) | exact gx_Sx.rc (by assumption) | exact gx_Sx.rg (by assumption) | exact gx_IT.rc (by assumption) | exact gx_IT.rg (by assumption) | exact gx_gt.rc (by assumption) | exact gx_gt.rg (by assumption) | exact gx_lx.rc (by assumption) | exact gx_lx.rg (by assumption) | exact gx_sst.rc (by assumption) | exact gx_sst.rg (by assumption)) (lw_V q1467 q1469 qs20 q114 q1470) (by decide +kernel) dX11_accepts_73 rfl ⟨Nat.le_of_ble_eq_true rfl, Nat.le_of_ble_eq_true rfl⟩ gx_in.id0 rfl (by first | exact Nat.le_of_ble_eq_true rfl | simp [gx_cat_rf, Value.category]) gx_kno (gx_kp1 ?_)
              refine gx_put hC (C := RX11) (Tf := TX11) (N := 4) (ci := 10) (k := 0) rfl in_X11 (by decide) tyX11 tyX11_ok nmX11 q1357 (fun _ h9 => h9) rfl dX11_accepts_76 (by first | exact gx_us | assumption | (repeat (first | exact gx_us | assumption | refine gx_un (by omega) ?_))) (by first | exact Or.inl rfl | exact Or.inl (Or.inl rfl) | exact Or.inl (Or.inr rfl) | exact Or.inr (by omega) | assumption | (simp only [gx_A, *]; omega)) (Nat.le_of_ble_eq_true rfl) (by first | rfl | (unfold gx_rn; split <;> rfl) | (cases ‹Option Nat› <;> rfl) | simp [narrow]) (by first | rfl | (unfold gx_rn; split <;> rfl) | (cases ‹Option Nat› <;> rfl) | simp [fits]) ?_
              refine gx_aload_n hC dX11_accepts_79 rfl rfl (by first | rfl | exact gx_isr_rf _ | exact gx_isr_rn _) ?_
              refine gx_dup hC dX11_accepts_80 (by first | rfl | exact gx_cat_rf _ | exact gx_cat_rn _) ?_
              refine gx_get hC (C := RX11) (Tf := TX11) (N := 4) (ci := 10) (k := 3) rfl in_X11 (by decide) q1362 (fun _ h9 => h9) dX11_accepts_81 (by repeat (first | assumption | exact Or.inr gx_us | exact Or.inr (by assumption) | exact Or.inl (by assumption) | refine gx_tu (by omega) ?_)) rfl ?_
              refine gx_iconst hC dX11_accepts_84 ?_
              refine gx_iadd hC dX11_accepts_85 ?_
              refine gx_put hC (C := RX11) (Tf := TX11) (N := 4) (ci := 10) (k := 3) rfl in_X11 (by decide) tyX11 tyX11_ok nmX11 q1362 (fun _ h9 => h9) rfl dX11_accepts_86 (by first | exact gx_us | assumption | (repeat (first | exact gx_us | assumption | refine gx_un (by omega) ?_))) (by first | exact Or.inl rfl | exact Or.inl (Or.inl rfl) | exact Or.inl (Or.inr rfl) | exact Or.inr (by omega) | assumption | (simp only [gx_A, *]; omega)) (Nat.le_of_ble_eq_true rfl) (by first | rfl | (unfold gx_rn; split <;> rfl) | (cases ‹Option Nat› <;> rfl) | simp [narrow]) (by first | rfl | (unfold gx_rn; split <;> rfl) | (cases ‹Option Nat› <;> rfl) | simp [fits]) ?_
              refine gx_iconst hC dX11_accepts_89 ?_
              exact gx_zret hC rfl rfl rfl (by first | rfl | (split <;> rfl) | simp [narrow, *]) dX11_accepts_90 (fun G' hG => ⟨⟨1, rfl⟩, rfl, hfin G' 0 (by rw [if_neg c43, if_neg c55]) (hG _ _ gx_us)⟩)
            · refine gx_iconst hC dX11_accepts_58 ?_
              refine gx_goto hC dX11_accepts_59 (tgt := 63) (by decide) ?_
              refine gx_iadd hC dX11_accepts_63 ?_
              refine gx_put hC (C := RX11) (Tf := TX11) (N := 4) (ci := 10) (k := 1) rfl in_X11 (by decide) tyX11 tyX11_ok nmX11 q1359 (fun _ h9 => h9) rfl dX11_accepts_64 (by first | exact gx_us | assumption | (repeat (first | exact gx_us | assumption | refine gx_un (by omega) ?_))) (by first | exact Or.inl rfl | exact Or.inl (Or.inl rfl) | exact Or.inl (Or.inr rfl) | exact Or.inr (by omega) | assumption | (simp only [gx_A, *]; omega)) (Nat.le_of_ble_eq_true rfl) (by first | rfl | (unfold gx_rn; split <;> rfl) | (cases ‹Option Nat› <;> rfl) | simp [narrow]) (by first | rfl | (unfold gx_rn; split <;> rfl) | (cases ‹Option Nat› <;> rfl) | simp [fits]) ?_
              refine gx_aload_n hC dX11_accepts_67 rfl rfl (by first | rfl | exact gx_isr_rf _ | exact gx_isr_rn _) ?_
              refine gx_aload_n hC dX11_accepts_68 rfl rfl (by first | rfl | exact gx_isr_rf _ | exact gx_isr_rn _) ?_
              refine gx_aload_n hC dX11_accepts_69 rfl rfl (by first | rfl | exact gx_isr_rf _ | exact gx_isr_rn _) ?_
              refine gx_getN hC (C := RX7) (Tf := TX7) (N := 3) (ci := 6) (k := 0) rfl in_X7 (by decide) q1724 (fun _ h9 => h9) dX11_accepts_70 (by repeat (first | assumption | exact Or.inr gx_us | exact Or.inr (by assumption) | exact Or.inl (by assumption) | refine gx_tu (by omega) ?_)) rfl ?_
              refine gx_callV (nA := 1) hC (m_X11_next (m9 := (gs_lA tk u).m) (k := (gs_tk tk u).k) (Or.inr gx_us) hm hk) (C := RX11) (Tf := TX11) (Nf := 4) (ci := 10) rfl (by first | ((repeat (first | assumption | exact Or.inr gx_us | exact Or.inr (by assumption) | exact Or.inl (by assumption) | refine gx_tu (by omega) ?_)); done) | exact gx_AL.rc (by assumption) | exact gx_AL.rg (by assumption) | exact gx_AL.rt (by assumption) | exact gx_DQ.rc (by assumption) | exact gx_DQ.rg (by assumption) | exact gx_SB.rc (by assumption) | exact gx_SB.rg (by assumption) | exact gx_Sx.rc (by assumption) | exact gx_Sx.rg (by assumption) | exact gx_IT.rc (by assumption) | exact gx_IT.rg (by assumption) | exact gx_gt.rc (by assumption) | exact gx_gt.rg (by assumption) | exact gx_lx.rc (by assumption) | exact gx_lx.rg (by assumption) | exact gx_sst.rc (by assumption) | exact gx_sst.rg (by assumption)) (lw_V q1467 q1469 qs20 q114 q1470) (by decide +kernel) dX11_accepts_73 rfl ⟨Nat.le_of_ble_eq_true rfl, Nat.le_of_ble_eq_true rfl⟩ gx_in.id0 rfl (by first | exact Nat.le_of_ble_eq_true rfl | simp [gx_cat_rf, Value.category]) gx_kno (gx_kp1 ?_)
              refine gx_put hC (C := RX11) (Tf := TX11) (N := 4) (ci := 10) (k := 0) rfl in_X11 (by decide) tyX11 tyX11_ok nmX11 q1357 (fun _ h9 => h9) rfl dX11_accepts_76 (by first | exact gx_us | assumption | (repeat (first | exact gx_us | assumption | refine gx_un (by omega) ?_))) (by first | exact Or.inl rfl | exact Or.inl (Or.inl rfl) | exact Or.inl (Or.inr rfl) | exact Or.inr (by omega) | assumption | (simp only [gx_A, *]; omega)) (Nat.le_of_ble_eq_true rfl) (by first | rfl | (unfold gx_rn; split <;> rfl) | (cases ‹Option Nat› <;> rfl) | simp [narrow]) (by first | rfl | (unfold gx_rn; split <;> rfl) | (cases ‹Option Nat› <;> rfl) | simp [fits]) ?_
              refine gx_aload_n hC dX11_accepts_79 rfl rfl (by first | rfl | exact gx_isr_rf _ | exact gx_isr_rn _) ?_
              refine gx_dup hC dX11_accepts_80 (by first | rfl | exact gx_cat_rf _ | exact gx_cat_rn _) ?_
              refine gx_get hC (C := RX11) (Tf := TX11) (N := 4) (ci := 10) (k := 3) rfl in_X11 (by decide) q1362 (fun _ h9 => h9) dX11_accepts_81 (by repeat (first | assumption | exact Or.inr gx_us | exact Or.inr (by assumption) | exact Or.inl (by assumption) | refine gx_tu (by omega) ?_)) rfl ?_
              refine gx_iconst hC dX11_accepts_84 ?_
              refine gx_iadd hC dX11_accepts_85 ?_
              refine gx_put hC (C := RX11) (Tf := TX11) (N := 4) (ci := 10) (k := 3) rfl in_X11 (by decide) tyX11 tyX11_ok nmX11 q1362 (fun _ h9 => h9) rfl dX11_accepts_86 (by first | exact gx_us | assumption | (repeat (first | exact gx_us | assumption | refine gx_un (by omega) ?_))) (by first | exact Or.inl rfl | exact Or.inl (Or.inl rfl) | exact Or.inl (Or.inr rfl) | exact Or.inr (by omega) | assumption | (simp only [gx_A, *]; omega)) (Nat.le_of_ble_eq_true rfl) (by first | rfl | (unfold gx_rn; split <;> rfl) | (cases ‹Option Nat› <;> rfl) | simp [narrow]) (by first | rfl | (unfold gx_rn; split <;> rfl) | (cases ‹Option Nat› <;> rfl) | simp [fits]) ?_
              refine gx_iconst hC dX11_accepts_89 ?_
              exact gx_zret hC rfl rfl rfl (by first | rfl | (split <;> rfl) | simp [narrow, *]) dX11_accepts_90 (fun G' hG => ⟨⟨1, rfl⟩, rfl, hfin G' (-1) (by rw [if_neg c43, if_pos (by omega)]) (hG _ _ gx_us)⟩)
          · refine gx_iconst hC dX11_accepts_46 ?_
            refine gx_goto hC dX11_accepts_47 (tgt := 63) (by decide) ?_
            refine gx_iadd hC dX11_accepts_63 ?_
            refine gx_put hC (C := RX11) (Tf := TX11) (N := 4) (ci := 10) (k := 1) rfl in_X11 (by decide) tyX11 tyX11_ok nmX11 q1359 (fun _ h9 => h9) rfl dX11_accepts_64 (by first | exact gx_us | assumption | (repeat (first | exact gx_us | assumption | refine gx_un (by omega) ?_))) (by first | exact Or.inl rfl | exact Or.inl (Or.inl rfl) | exact Or.inl (Or.inr rfl) | exact Or.inr (by omega) | assumption | (simp only [gx_A, *]; omega)) (Nat.le_of_ble_eq_true rfl) (by first | rfl | (unfold gx_rn; split <;> rfl) | (cases ‹Option Nat› <;> rfl) | simp [narrow]) (by first | rfl | (unfold gx_rn; split <;> rfl) | (cases ‹Option Nat› <;> rfl) | simp [fits]) ?_
            refine gx_aload_n hC dX11_accepts_67 rfl rfl (by first | rfl | exact gx_isr_rf _ | exact gx_isr_rn _) ?_
            refine gx_aload_n hC dX11_accepts_68 rfl rfl (by first | rfl | exact gx_isr_rf _ | exact gx_isr_rn _) ?_
            refine gx_aload_n hC dX11_accepts_69 rfl rfl (by first | rfl | exact gx_isr_rf _ | exact gx_isr_rn _) ?_
            refine gx_getN hC (C := RX7) (Tf := TX7) (N := 3) (ci := 6) (k := 0) rfl in_X7 (by decide) q1724 (fun _ h9 => h9) dX11_accepts_70 (by repeat (first | assumption | exact Or.inr gx_us | exact Or.inr (by assumption) | exact Or.inl (by assumption) | refine gx_tu (by omega) ?_)) rfl ?_
            refine gx_callV (nA := 1) hC (m_X11_next (m9 := (gs_lA tk u).m) (k := (gs_tk tk u).k) (Or.inr gx_us) hm hk) (C := RX11) (Tf := TX11) (Nf := 4) (ci := 10) rfl (by first | ((repeat (first | assumption | exact Or.inr gx_us | exact Or.inr (by assumption) | exact Or.inl (by assumption) | refine gx_tu (by omega) ?_)); done) | exact gx_AL.rc (by assumption) | exact gx_AL.rg (by assumption) | exact gx_AL.rt (by assumption) | exact gx_DQ.rc (by assumption) | exact gx_DQ.rg (by assumption) | exact gx_SB.rc (by assumption) | exact gx_SB.rg (by assumption) | exact gx_Sx.rc (by assumption) | exact gx_Sx.rg (by assumption) | exact gx_IT.rc (by assumption) | exact gx_IT.rg (by assumption) | exact gx_gt.rc (by assumption) | exact gx_gt.rg (by assumption) | exact gx_lx.rc (by assumption) | exact gx_lx.rg (by assumption) | exact gx_sst.rc (by assumption) | exact gx_sst.rg (by assumption)) (lw_V q1467 q1469 qs20 q114 q1470) (by decide +kernel) dX11_accepts_73 rfl ⟨Nat.le_of_ble_eq_true rfl, Nat.le_of_ble_eq_true rfl⟩ gx_in.id0 rfl (by first | exact Nat.le_of_ble_eq_true rfl | simp [gx_cat_rf, Value.category]) gx_kno (gx_kp1 ?_)
            refine gx_put hC (C := RX11) (Tf := TX11) (N := 4) (ci := 10) (k := 0) rfl in_X11 (by decide) tyX11 tyX11_ok nmX11 q1357 (fun _ h9 => h9) rfl dX11_accepts_76 (by first | exact gx_us | assumption | (repeat (first | exact gx_us | assumption | refine gx_un (by omega) ?_))) (by first | exact Or.inl rfl | exact Or.inl (Or.inl rfl) | exact Or.inl (Or.inr rfl) | exact Or.inr (by omega) | assumption | (simp only [gx_A, *]; omega)) (Nat.le_of_ble_eq_true rfl) (by first | rfl | (unfold gx_rn; split <;> rfl) | (cases ‹Option Nat› <;> rfl) | simp [narrow]) (by first | rfl | (unfold gx_rn; split <;> rfl) | (cases ‹Option Nat› <;> rfl) | simp [fits]) ?_
            refine gx_aload_n hC dX11_accepts_79 rfl rfl (by first | rfl | exact gx_isr_rf _ | exact gx_isr_rn _) ?_
            refine gx_dup hC dX11_accepts_80 (by first | rfl | exact gx_cat_rf _ | exact gx_cat_rn _) ?_
            refine gx_get hC (C := RX11) (Tf := TX11) (N := 4) (ci := 10) (k := 3) rfl in_X11 (by decide) q1362 (fun _ h9 => h9) dX11_accepts_81 (by repeat (first | assumption | exact Or.inr gx_us | exact Or.inr (by assumption) | exact Or.inl (by assumption) | refine gx_tu (by omega) ?_)) rfl ?_
            refine gx_iconst hC dX11_accepts_84 ?_
            refine gx_iadd hC dX11_accepts_85 ?_
            refine gx_put hC (C := RX11) (Tf := TX11) (N := 4) (ci := 10) (k := 3) rfl in_X11 (by decide) tyX11 tyX11_ok nmX11 q1362 (fun _ h9 => h9) rfl dX11_accepts_86 (by first | exact gx_us | assumption | (repeat (first | exact gx_us | assumption | refine gx_un (by omega) ?_))) (by first | exact Or.inl rfl | exact Or.inl (Or.inl rfl) | exact Or.inl (Or.inr rfl) | exact Or.inr (by omega) | assumption | (simp only [gx_A, *]; omega)) (Nat.le_of_ble_eq_true rfl) (by first | rfl | (unfold gx_rn; split <;> rfl) | (cases ‹Option Nat› <;> rfl) | simp [narrow]) (by first | rfl | (unfold gx_rn; split <;> rfl) | (cases ‹Option Nat› <;> rfl) | simp [fits]) ?_
            refine gx_iconst hC dX11_accepts_89 ?_
            exact gx_zret hC rfl rfl rfl (by first | rfl | (split <;> rfl) | simp [narrow, *]) dX11_accepts_90 (fun G' hG => ⟨⟨1, rfl⟩, rfl, hfin G' 1 (by rw [if_pos (by omega)]) (hG _ _ gx_us)⟩)
      · have hst := hb.mp (by omega)
        rw [hst] at s1
        refine gx_aload_n hC dX11_accepts_23 rfl rfl (by first | rfl | exact gx_isr_rf _ | exact gx_isr_rn _) ?_
        refine gx_aload_n hC dX11_accepts_24 rfl rfl (by first | rfl | exact gx_isr_rf _ | exact gx_isr_rn _) ?_
        refine gx_get hC (C := RX11) (Tf := TX11) (N := 4) (ci := 10) (k := 3) rfl in_X11 (by decide) q1362 (fun _ h9 => h9) dX11_accepts_25 (by repeat (first | assumption | exact Or.inr gx_us | exact Or.inr (by assumption) | exact Or.inl (by assumption) | refine gx_tu (by omega) ?_)) rfl ?_
        refine gx_put hC (C := RX11) (Tf := TX11) (N := 4) (ci := 10) (k := 2) rfl in_X11 (by decide) tyX11 tyX11_ok nmX11 q1360 (fun _ h9 => h9) rfl dX11_accepts_28 (by first | exact gx_us | assumption | (repeat (first | exact gx_us | assumption | refine gx_un (by omega) ?_))) (by first | exact Or.inl rfl | exact Or.inl (Or.inl rfl) | exact Or.inl (Or.inr rfl) | exact Or.inr (by omega) | assumption | (simp only [gx_A, *]; omega)) (Nat.le_of_ble_eq_true rfl) (by first | rfl | (unfold gx_rn; split <;> rfl) | (cases ‹Option Nat› <;> rfl) | simp [narrow]) (by first | rfl | (unfold gx_rn; split <;> rfl) | (cases ‹Option Nat› <;> rfl) | simp [fits]) ?_
        refine gx_iconst hC dX11_accepts_31 ?_
        exact gx_zret hC rfl rfl rfl (by first | rfl | (split <;> rfl) | simp [narrow, *]) dX11_accepts_32 (fun G' hG => ⟨⟨0, rfl⟩, rfl, gx_scn.mk (hG _ _ gx_us) (by rw [s3 hst]) (by rw [s3 hst]) (by rw [s1]; simp) (by rw [s1]; simp)⟩)
    · omega
/-- all the first u tokens taken, and a sentence -/
def gs_isS (tk : List gs_T) (u : Nat) : Prop := gs_last tk u = u ∧ (gs_lA tk u).lv = 0 ∧ 2 ≤ (gs_lA tk u).m
theorem m_X11_isSentence (h : gx_scn (gx_TG T G) a tk u) (hp9 : u < 100) : gx_Met l yX11_isSentence (ws_ yX11_isSentence cX11_isSentence 1 (some .boolean)) 1 0 0 D gx_M0 T G nx [.ref a] (fun w _ nx' => nx' = nx ∧ ∃ z : Int, w = some (.int (iz z)) ∧ ((z = 1 ∧ gs_isS tk u) ∨ (z = 0 ∧ ¬ gs_isS tk u))) gx_no := by
  have hle := gs_last_le tk u
  have hinv := gs_lA_inv tk u
  have hm := hinv.1
  have hlv := hinv.2.1
  have h0 : gx_TG T G a (gx_O 10 [.int (iz (gs_lA tk u).m), .int (iz ((gs_lA tk u).lv : Int)), .int (iz (if gs_last tk u < u then (gs_last tk u : Int) else -1)), .int (iz (gs_last tk u : Int))]) := h
  by_cases e : gs_last tk u < u
  · rw [if_pos e] at h0
    refine gx_start (by decide) (Nat.le_of_ble_eq_true rfl) rfl (fun p e s m args below meth c hC hlt => ?_)
    refine gx_aload_n hC dX11_isSentence_0 rfl rfl (by first | rfl | exact gx_isr_rf _ | exact gx_isr_rn _) ?_
    refine gx_get hC (C := RX11) (Tf := TX11) (N := 4) (ci := 10) (k := 2) rfl in_X11 (by decide) q1360 (fun _ h9 => h9) dX11_isSentence_1 (by repeat (first | assumption | exact Or.inr gx_us | exact Or.inr (by assumption) | exact Or.inl (by assumption) | refine gx_tu (by omega) ?_)) rfl ?_
    refine gx_if_ge hC dX11_isSentence_4 (tgt := 26) (by decide) (by unfold gx_rg; omega) (fun c4 => ?_) (fun c4 => ?_)
    · refine gx_iconst hC dX11_isSentence_26 ?_
      exact gx_zret hC rfl rfl rfl (by first | rfl | (split <;> rfl) | simp [narrow, *]) dX11_isSentence_27 (fun G' hG => ⟨rfl, 0, rfl, Or.inr ⟨rfl, fun q => by have := q.1; omega⟩⟩)
    · omega
  · rw [if_neg e] at h0
    refine gx_start (by decide) (Nat.le_of_ble_eq_true rfl) rfl (fun p e s m args below meth c hC hlt => ?_)
    refine gx_aload_n hC dX11_isSentence_0 rfl rfl (by first | rfl | exact gx_isr_rf _ | exact gx_isr_rn _) ?_
    refine gx_get hC (C := RX11) (Tf := TX11) (N := 4) (ci := 10) (k := 2) rfl in_X11 (by decide) q1360 (fun _ h9 => h9) dX11_isSentence_1 (by repeat (first | assumption | exact Or.inr gx_us | exact Or.inr (by assumption) | exact Or.inl (by assumption) | refine gx_tu (by omega) ?_)) rfl ?_
    refine gx_if_ge hC dX11_isSentence_4 (tgt := 26) (by decide) (by unfold gx_rg; omega) (fun c4 => ?_) (fun c4 => ?_)
    · omega
    · refine gx_aload_n hC dX11_isSentence_7 rfl rfl (by first | rfl | exact gx_isr_rf _ | exact gx_isr_rn _) ?_
      refine gx_get hC (C := RX11) (Tf := TX11) (N := 4) (ci := 10) (k := 1) rfl in_X11 (by decide) q1359 (fun _ h9 => h9) dX11_isSentence_8 (by repeat (first | assumption | exact Or.inr gx_us | exact Or.inr (by assumption) | exact Or.inl (by assumption) | refine gx_tu (by omega) ?_)) rfl ?_
      refine gx_if_ne hC dX11_isSentence_11 (tgt := 26) (by decide) (by unfold gx_rg; omega) (fun c11 => ?_) (fun c11 => ?_)
      · refine gx_iconst hC dX11_isSentence_26 ?_
        exact gx_zret hC rfl rfl rfl (by first | rfl | (split <;> rfl) | simp [narrow, *]) dX11_isSentence_27 (fun G' hG => ⟨rfl, 0, rfl, Or.inr ⟨rfl, fun q => by have := q.2.1; omega⟩⟩)
      · refine gx_aload_n hC dX11_isSentence_14 rfl rfl (by first | rfl | exact gx_isr_rf _ | exact gx_isr_rn _) ?_
        refine gx_get hC (C := RX11) (Tf := TX11) (N := 4) (ci := 10) (k := 0) rfl in_X11 (by decide) q1357 (fun _ h9 => h9) dX11_isSentence_15 (by repeat (first | assumption | exact Or.inr gx_us | exact Or.inr (by assumption) | exact Or.inl (by assumption) | refine gx_tu (by omega) ?_)) rfl ?_
        refine gx_iconst hC dX11_isSentence_18 ?_
        refine gx_icmp_lt hC dX11_isSentence_19 (tgt := 26) (by decide) (by unfold gx_rg; omega) (by unfold gx_rg; omega) (fun c19 => ?_) (fun c19 => ?_)
        · refine gx_iconst hC dX11_isSentence_26 ?_
          exact gx_zret hC rfl rfl rfl (by first | rfl | (split <;> rfl) | simp [narrow, *]) dX11_isSentence_27 (fun G' hG => ⟨rfl, 0, rfl, Or.inr ⟨rfl, fun q => by have := q.2.2; omega⟩⟩)
        · refine gx_iconst hC dX11_isSentence_22 ?_
          refine gx_goto hC dX11_isSentence_23 (tgt := 27) (by decide) ?_
          exact gx_zret hC rfl rfl rfl (by first | rfl | (split <;> rfl) | simp [narrow, *]) dX11_isSentence_27 (fun G' hG => ⟨rfl, 1, rfl, Or.inl ⟨rfl, by omega, by omega, by omega⟩⟩)
/-- where the first u tokens fail to be a sentence, or -1 -/
def gs_err (tk : List gs_T) (u : Nat) : Int := if gs_last tk u = u ∧ (gs_lA tk u).lv = 0 ∧ 2 ≤ (gs_lA tk u).m then -1 else gs_last tk u
theorem m_X11_syntaxError (h : gx_scn (gx_TG T G) a tk u) (hp9 : u < 100) : gx_Met l yX11_syntaxError (ws_ yX11_syntaxError cX11_syntaxError 1 (some .int)) 2 0 0 D gx_M0 T G nx [.ref a] (gx_P (some (.int (iz (gs_err tk u)))) nx) gx_no := by
  have hle := gs_last_le tk u
  have h00 := h
  have h0 : gx_TG T G a (gx_O 10 [.int (iz (gs_lA tk u).m), .int (iz ((gs_lA tk u).lv : Int)), .int (iz (if gs_last tk u < u then (gs_last tk u : Int) else -1)), .int (iz (gs_last tk u : Int))]) := h
  by_cases e : gs_last tk u < u
  · rw [if_pos e] at h0
    refine gx_start (by decide) (Nat.le_of_ble_eq_true rfl) rfl (fun p e s m args below meth c hC hlt => ?_)
    refine gx_aload_n hC dX11_syntaxError_0 rfl rfl (by first | rfl | exact gx_isr_rf _ | exact gx_isr_rn _) ?_
    refine gx_get hC (C := RX11) (Tf := TX11) (N := 4) (ci := 10) (k := 2) rfl in_X11 (by decide) q1360 (fun _ h9 => h9) dX11_syntaxError_1 (by repeat (first | assumption | exact Or.inr gx_us | exact Or.inr (by assumption) | exact Or.inl (by assumption) | refine gx_tu (by omega) ?_)) rfl ?_
    refine gx_if_lt hC dX11_syntaxError_4 (tgt := 14) (by decide) (by unfold gx_rg; omega) (fun c4 => ?_) (fun c4 => ?_)
    · omega
    · refine gx_aload_n hC dX11_syntaxError_7 rfl rfl (by first | rfl | exact gx_isr_rf _ | exact gx_isr_rn _) ?_
      refine gx_get hC (C := RX11) (Tf := TX11) (N := 4) (ci := 10) (k := 2) rfl in_X11 (by decide) q1360 (fun _ h9 => h9) dX11_syntaxError_8 (by repeat (first | assumption | exact Or.inr gx_us | exact Or.inr (by assumption) | exact Or.inl (by assumption) | refine gx_tu (by omega) ?_)) rfl ?_
      refine gx_goto hC dX11_syntaxError_11 (tgt := 29) (by decide) ?_
      exact gx_iret hC rfl rfl rfl dX11_syntaxError_29 (fun G' hG => ⟨by unfold gs_err; rw [if_neg (fun q => by have := q.1; omega)], rfl⟩)
  · rw [if_neg e] at h0
    refine gx_start (by decide) (Nat.le_of_ble_eq_true rfl) rfl (fun p e s m args below meth c hC hlt => ?_)
    refine gx_aload_n hC dX11_syntaxError_0 rfl rfl (by first | rfl | exact gx_isr_rf _ | exact gx_isr_rn _) ?_
    refine gx_get hC (C := RX11) (Tf := TX11) (N := 4) (ci := 10) (k := 2) rfl in_X11 (by decide) q1360 (fun _ h9 => h9) dX11_syntaxError_1 (by repeat (first | assumption | exact Or.inr gx_us | exact Or.inr (by assumption) | exact Or.inl (by assumption) | refine gx_tu (by omega) ?_)) rfl ?_
    refine gx_if_lt hC dX11_syntaxError_4 (tgt := 14) (by decide) (by unfold gx_rg; omega) (fun c4 => ?_) (fun c4 => ?_)
    · refine gx_aload_n hC dX11_syntaxError_14 rfl rfl (by first | rfl | exact gx_isr_rf _ | exact gx_isr_rn _) ?_
      refine gx_callV (nA := 0) hC (m_X11_isSentence h00 hp9) (C := RX11) (Tf := TX11) (Nf := 4) (ci := 10) rfl (by first | ((repeat (first | assumption | exact Or.inr gx_us | exact Or.inr (by assumption) | exact Or.inl (by assumption) | refine gx_tu (by omega) ?_)); done) | exact gx_AL.rc (by assumption) | exact gx_AL.rg (by assumption) | exact gx_AL.rt (by assumption) | exact gx_DQ.rc (by assumption) | exact gx_DQ.rg (by assumption) | exact gx_SB.rc (by assumption) | exact gx_SB.rg (by assumption) | exact gx_Sx.rc (by assumption) | exact gx_Sx.rg (by assumption) | exact gx_IT.rc (by assumption) | exact gx_IT.rg (by assumption) | exact gx_gt.rc (by assumption) | exact gx_gt.rg (by assumption) | exact gx_lx.rc (by assumption) | exact gx_lx.rg (by assumption) | exact gx_sst.rc (by assumption) | exact gx_sst.rg (by assumption)) (lw_V q1475 q1476 q1477 q114 q1478) (by decide +kernel) dX11_syntaxError_15 rfl ⟨Nat.le_of_ble_eq_true rfl, Nat.le_of_ble_eq_true rfl⟩ gx_in.id0 rfl (by first | exact Nat.le_of_ble_eq_true rfl | simp [gx_cat_rf, Value.category]) gx_kno (fun v2 G2 nx2 hp hf hle hlt2 => ?_)
      obtain ⟨rfl, z, rfl, hz⟩ := hp
      have k0 := h0.imp id (fun h => hf _ _ h (fun q => q))
      rcases hz with ⟨rfl, hz⟩ | ⟨rfl, hz⟩
      · refine gx_if_eq hC dX11_syntaxError_18 (tgt := 25) (by decide) (by unfold gx_rg; omega) (fun c18 => ?_) (fun c18 => ?_)
        · omega
        · refine gx_iconst hC dX11_syntaxError_21 ?_
          refine gx_goto hC dX11_syntaxError_22 (tgt := 29) (by decide) ?_
          exact gx_iret hC rfl rfl rfl dX11_syntaxError_29 (fun G' hG => ⟨by unfold gs_err; rw [if_pos (by exact hz)], rfl⟩)
      · refine gx_if_eq hC dX11_syntaxError_18 (tgt := 25) (by decide) (by unfold gx_rg; omega) (fun c18 => ?_) (fun c18 => ?_)
        · refine gx_aload_n hC dX11_syntaxError_25 rfl rfl (by first | rfl | exact gx_isr_rf _ | exact gx_isr_rn _) ?_
          refine gx_get hC (C := RX11) (Tf := TX11) (N := 4) (ci := 10) (k := 3) rfl in_X11 (by decide) q1362 (fun _ h9 => h9) dX11_syntaxError_26 (by repeat (first | assumption | exact Or.inr gx_us | exact Or.inr (by assumption) | exact Or.inl (by assumption) | refine gx_tu (by omega) ?_)) rfl ?_
          exact gx_iret hC rfl rfl rfl dX11_syntaxError_29 (fun G' hG => ⟨by unfold gs_err; rw [if_neg (by exact hz)], rfl⟩)
        · omega
    · omega
end SCN

