/-! parsed clauses in the heap -/
set_option maxRecDepth 100000
abbrev gs_K0 : gs_K := (0, 0, 0, 0, 0)
/-- the numbers, from c on, of those whose parent is pa -/
def gp_tops : List gs_K → Nat → Int → List Nat
  | [], _, _ => []
  | K :: Ks, c, pa => if K.pa = pa then c :: gp_tops Ks (c + 1) pa else gp_tops Ks (c + 1) pa
theorem gp_tops_c {K : gs_K} {Ks : List gs_K} {c : Nat} {pa : Int} : gp_tops (K :: Ks) c pa = if K.pa = pa then c :: gp_tops Ks (c + 1) pa else gp_tops Ks (c + 1) pa := rfl
theorem gp_tops_app {Ks Ls : List gs_K} {c : Nat} {pa : Int} : gp_tops (Ks ++ Ls) c pa = gp_tops Ks c pa ++ gp_tops Ls (c + Ks.length) pa := by
  induction Ks generalizing c with
  | nil => simp [gp_tops]
  | cons K Ks ih =>
    rw [List.cons_append]
    rw [gp_tops_c, gp_tops_c, ih, List.length_cons, show c + 1 + Ks.length = c + (Ks.length + 1) by omega]
    split <;> rfl
theorem gp_tops_mem {Ks : List gs_K} {c k : Nat} {pa : Int} (h : k ∈ gp_tops Ks c pa) : c ≤ k ∧ k < c + Ks.length := by
  induction Ks generalizing c with
  | nil => simp [gp_tops] at h
  | cons K Ks ih =>
    unfold gp_tops at h
    rw [List.length_cons]
    split at h
    · rcases List.mem_cons.mp h with h | h
      · omega
      · have := ih h
        omega
    · have := ih h
      omega
theorem gp_tops_nil {Ks : List gs_K} {c : Nat} {pa : Int} (h : ∀ K ∈ Ks, K.pa ≠ pa) : gp_tops Ks c pa = [] := by
  induction Ks generalizing c with
  | nil => rfl
  | cons K Ks ih =>
    unfold gp_tops
    rw [if_neg (h K List.mem_cons_self)]
    exact ih (fun L hL => h L (List.mem_cons_of_mem _ hL))
/-- parents stand in front, or outside -/
def gp_ok (Ks : List gs_K) (c : Nat) (pa : Int) : Prop := ∀ j, j < Ks.length → (Ks.getD j gs_K0).pa = pa ∨ ((c : Int) ≤ (Ks.getD j gs_K0).pa ∧ (Ks.getD j gs_K0).pa < (c : Int) + j)
theorem gp_ok.mem {Ks : List gs_K} {c : Nat} {pa : Int} (h : gp_ok Ks c pa) : ∀ K ∈ Ks, K.pa = pa ∨ ((c : Int) ≤ K.pa ∧ K.pa < (c : Int) + Ks.length) := by
  intro K hK
  obtain ⟨j, hj, rfl⟩ := List.getElem_of_mem hK
  have := h j hj
  rw [List.getD_eq_getElem?_getD, List.getElem?_eq_getElem hj] at this
  have h2 : (some Ks[j]).getD gs_K0 = Ks[j] := rfl
  rw [h2] at this
  omega
theorem gp_ok.app {Ks Ls : List gs_K} {c : Nat} {pa : Int} (h : gp_ok Ks c pa) (h2 : gp_ok Ls (c + Ks.length) pa) : gp_ok (Ks ++ Ls) c pa := by
  intro j hj
  rw [List.length_append] at hj
  rw [gx_gD_app]
  by_cases e : j < Ks.length
  · rw [if_pos e]
    exact h j e
  · rw [if_neg e]
    have := h2 (j - Ks.length) (by omega)
    omega
theorem gp_ok.cons {K : gs_K} {Ls : List gs_K} {c : Nat} {pa : Int} (h : K.pa = pa) (h2 : gp_ok Ls (c + 1) (c : Int)) : gp_ok (K :: Ls) c pa := by
  intro j hj
  cases j with
  | zero => exact Or.inl h
  | succ j =>
    have := h2 j (by simpa using hj)
    have e : (K :: Ls).getD (j + 1) gs_K0 = Ls.getD j gs_K0 := rfl
    rw [e]
    omega
/-- clause i in the heap -/
def gx_CK (D : gx_D) (T X : gx_H) (ad su ne : Nat → Nat) (par : Option Nat) (sib i : Nat) (K : gs_K) (kids : List Nat) : Prop :=
  X (ad i) (gx_O 8 [.int (iz (i : Int)), va_rf par, .ref sib, .int (iz (K.st : Int)), .ref (su i), .ref (ne i), .int (iz (K.vb : Int)), .int (iz K.jo)]) ∧
  (∃ ed cap, gx_GL D T X (su i) ed cap ((List.range K.ns).map (fun j : Nat => gx_bx D ((K.st : Int) + (j : Int))))) ∧
  ∃ ed cap, gx_GL D T X (ne i) ed cap (kids.map ad)
/-- the clauses Ks, numbered from c on; those at the top belong to pa, that stands at po, in the list at li -/
def gx_CR (D : gx_D) (T X : gx_H) (ad su ne : Nat → Nat) (c : Nat) (Ks : List gs_K) (pa : Int) (po : Option Nat) (li : Nat) : Prop :=
  ∀ j, j < Ks.length → gx_CK D T X ad su ne (if (Ks.getD j gs_K0).pa = pa then po else some (ad (Ks.getD j gs_K0).pa.toNat)) (if (Ks.getD j gs_K0).pa = pa then li else ne (Ks.getD j gs_K0).pa.toNat) (c + j) (Ks.getD j gs_K0) (gp_tops Ks c ((c + j : Nat) : Int))
theorem gx_CK.mono {D : gx_D} {T T' X X' : gx_H} {ad su ne ad' su' ne' : Nat → Nat} {par : Option Nat} {sib i : Nat} {K : gs_K} {kids kids' : List Nat} (h : gx_CK D T X ad su ne par sib i K kids) (ha : ad' i = ad i) (hs : su' i = su i) (hn : ne' i = ne i) (hk : kids'.map ad' = kids.map ad) (hX : ∀ a e, X a e → X' a e) (hT : ∀ a e, T a e → T' a e) : gx_CK D T' X' ad' su' ne' par sib i K kids' := by
  obtain ⟨h1, ⟨ed, cap, h2⟩, ed2, cap2, h3⟩ := h
  refine ⟨?_, ⟨ed, cap, ?_⟩, ed2, cap2, ?_⟩
  · rw [ha, hs, hn]
    exact hX _ _ h1
  · rw [hs]
    exact h2.mono (fun e h => hX _ _ h) (fun e _ h => hX _ _ h) hT
  · rw [hn, hk]
    exact h3.mono (fun e h => hX _ _ h) (fun e _ h => hX _ _ h) hT
theorem gx_CR.mono {D : gx_D} {T T' X X' : gx_H} {ad su ne : Nat → Nat} {c : Nat} {Ks : List gs_K} {pa : Int} {po : Option Nat} {li : Nat} (h : gx_CR D T X ad su ne c Ks pa po li) (hX : ∀ a e, X a e → X' a e) (hT : ∀ a e, T a e → T' a e) : gx_CR D T' X' ad su ne c Ks pa po li := fun j hj => (h j hj).mono rfl rfl rfl rfl hX hT
def gx_mg (n : Nat) (f g : Nat → Nat) : Nat → Nat := fun i => if i < n then f i else g i
theorem gx_mg_l {n i : Nat} {f g : Nat → Nat} (h : i < n) : gx_mg n f g i = f i := if_pos h
theorem gx_mg_r {n i : Nat} {f g : Nat → Nat} (h : n ≤ i) : gx_mg n f g i = g i := if_neg (by omega)
theorem gx_map_mg_l {n : Nat} {f g : Nat → Nat} {L : List Nat} (h : ∀ k ∈ L, k < n) : L.map (gx_mg n f g) = L.map f := List.map_congr_left (fun k hk => gx_mg_l (h k hk))
theorem gx_map_mg_r {n : Nat} {f g : Nat → Nat} {L : List Nat} (h : ∀ k ∈ L, n ≤ k) : L.map (gx_mg n f g) = L.map g := List.map_congr_left (fun k hk => gx_mg_r (h k hk))
theorem gx_CR.app {D : gx_D} {T X : gx_H} {ad su ne ad' su' ne' : Nat → Nat} {c : Nat} {Ks Ls : List gs_K} {pa : Int} {po : Option Nat} {li : Nat} (h : gx_CR D T X ad su ne c Ks pa po li) (h' : gx_CR D T X ad' su' ne' (c + Ks.length) Ls pa po li) (ho : gp_ok Ks c pa) (ho' : gp_ok Ls (c + Ks.length) pa) (hpa : pa < (c : Int)) : gx_CR D T X (gx_mg (c + Ks.length) ad ad') (gx_mg (c + Ks.length) su su') (gx_mg (c + Ks.length) ne ne') c (Ks ++ Ls) pa po li := by
  intro j hj
  rw [List.length_append] at hj
  rw [gx_gD_app]
  by_cases e : j < Ks.length
  · rw [if_pos e]
    have h1 := h j e
    have h2 := ho j e
    have hpa2 : (if (Ks.getD j gs_K0).pa = pa then po else some (gx_mg (c + Ks.length) ad ad' (Ks.getD j gs_K0).pa.toNat)) = (if (Ks.getD j gs_K0).pa = pa then po else some (ad (Ks.getD j gs_K0).pa.toNat)) := by
      split
      · rfl
      · rw [gx_mg_l (by omega)]
    have hne2 : (if (Ks.getD j gs_K0).pa = pa then li else gx_mg (c + Ks.length) ne ne' (Ks.getD j gs_K0).pa.toNat) = (if (Ks.getD j gs_K0).pa = pa then li else ne (Ks.getD j gs_K0).pa.toNat) := by
      split
      · rfl
      · rw [gx_mg_l (by omega)]
    rw [hpa2, hne2]
    have hk : gp_tops (Ks ++ Ls) c ((c + j : Nat) : Int) = gp_tops Ks c ((c + j : Nat) : Int) := by
      rw [gp_tops_app, gp_tops_nil (Ks := Ls) (fun K hK => by have := ho'.mem K hK; omega), List.append_nil]
    rw [hk]
    exact h1.mono (gx_mg_l (by omega)) (gx_mg_l (by omega)) (gx_mg_l (by omega)) (gx_map_mg_l (fun k hk => (gp_tops_mem hk).2)) (fun _ _ h => h) (fun _ _ h => h)
  · rw [if_neg e]
    have h1 := h' (j - Ks.length) (by omega)
    have h2 := ho' (j - Ks.length) (by omega)
    rw [show c + Ks.length + (j - Ks.length) = c + j by omega] at h1
    have hpa2 : (if (Ls.getD (j - Ks.length) gs_K0).pa = pa then po else some (gx_mg (c + Ks.length) ad ad' (Ls.getD (j - Ks.length) gs_K0).pa.toNat)) = (if (Ls.getD (j - Ks.length) gs_K0).pa = pa then po else some (ad' (Ls.getD (j - Ks.length) gs_K0).pa.toNat)) := by
      split
      · rfl
      · rw [gx_mg_r (by omega)]
    have hne2 : (if (Ls.getD (j - Ks.length) gs_K0).pa = pa then li else gx_mg (c + Ks.length) ne ne' (Ls.getD (j - Ks.length) gs_K0).pa.toNat) = (if (Ls.getD (j - Ks.length) gs_K0).pa = pa then li else ne' (Ls.getD (j - Ks.length) gs_K0).pa.toNat) := by
      split
      · rfl
      · rw [gx_mg_r (by omega)]
    rw [hpa2, hne2]
    have hk : gp_tops (Ks ++ Ls) c ((c + j : Nat) : Int) = gp_tops Ls (c + Ks.length) ((c + j : Nat) : Int) := by
      rw [gp_tops_app, gp_tops_nil (Ks := Ks) (fun K hK => by have := ho.mem K hK; omega), List.nil_append]
    rw [hk]
    exact h1.mono (gx_mg_r (by omega)) (gx_mg_r (by omega)) (gx_mg_r (by omega)) (gx_map_mg_r (fun k hk => (gp_tops_mem hk).1)) (fun _ _ h => h) (fun _ _ h => h)
/-- a clause with what is nested in it -/
theorem gx_CR.cons {D : gx_D} {T X : gx_H} {ad su ne : Nat → Nat} {c a b n : Nat} {K : gs_K} {Ls : List gs_K} {pa : Int} {po : Option Nat} {li : Nat} (h : gx_CR D T X ad su ne (c + 1) Ls (c : Int) (some a) n) (ho : gp_ok Ls (c + 1) (c : Int)) (hK : K.pa = pa) (hpa : pa < (c : Int))
    (h1 : X a (gx_O 8 [.int (iz (c : Int)), va_rf po, .ref li, .int (iz (K.st : Int)), .ref b, .ref n, .int (iz (K.vb : Int)), .int (iz K.jo)])) (h2 : ∃ ed cap, gx_GL D T X b ed cap ((List.range K.ns).map (fun j : Nat => gx_bx D ((K.st : Int) + (j : Int))))) (h3 : ∃ ed cap, gx_GL D T X n ed cap ((gp_tops Ls (c + 1) (c : Int)).map ad)) :
    gx_CR D T X (gx_mg (c + 1) (fun _ => a) ad) (gx_mg (c + 1) (fun _ => b) su) (gx_mg (c + 1) (fun _ => n) ne) c (K :: Ls) pa po li := by
  have ht : ∀ i : Int, (i = c ∨ K.pa ≠ i) → K.pa ≠ i → gp_tops (K :: Ls) c i = gp_tops Ls (c + 1) i := fun i _ hi => by
    show (if K.pa = i then _ else _) = _
    rw [if_neg hi]
  intro j hj
  cases j with
  | zero =>
    have e : (K :: Ls).getD 0 gs_K0 = K := rfl
    rw [e, if_pos hK, if_pos hK]
    have hk : gp_tops (K :: Ls) c ((c + 0 : Nat) : Int) = gp_tops Ls (c + 1) (c : Int) := ht _ (Or.inl rfl) (by omega)
    rw [hk]
    obtain ⟨ed3, cap3, h3⟩ := h3
    refine ⟨?_, ?_, ed3, cap3, ?_⟩
    · rw [gx_mg_l (by omega), gx_mg_l (by omega), gx_mg_l (by omega)]
      exact h1
    · rw [gx_mg_l (by omega)]
      exact h2
    · rw [gx_mg_l (by omega), gx_map_mg_r (fun k hk => (gp_tops_mem hk).1)]
      exact h3
  | succ j =>
    have hj2 : j < Ls.length := by simpa using hj
    have e : (K :: Ls).getD (j + 1) gs_K0 = Ls.getD j gs_K0 := rfl
    rw [e]
    have q1 := h j hj2
    have q2 := ho j hj2
    have hnp : (Ls.getD j gs_K0).pa ≠ pa := by omega
    rw [if_neg hnp, if_neg hnp]
    have hk : gp_tops (K :: Ls) c ((c + (j + 1) : Nat) : Int) = gp_tops Ls (c + 1) ((c + 1 + j : Nat) : Int) := by
      rw [show c + (j + 1) = c + 1 + j by omega]
      exact ht _ (Or.inr (by omega)) (by omega)
    rw [hk, show c + (j + 1) = c + 1 + j by omega]
    have hpa2 : some (gx_mg (c + 1) (fun _ => a) ad (Ls.getD j gs_K0).pa.toNat) = (if (Ls.getD j gs_K0).pa = (c : Int) then some a else some (ad (Ls.getD j gs_K0).pa.toNat)) := by
      split
      · rw [gx_mg_l (by omega)]
      · rw [gx_mg_r (by omega)]
    have hne2 : gx_mg (c + 1) (fun _ => n) ne (Ls.getD j gs_K0).pa.toNat = (if (Ls.getD j gs_K0).pa = (c : Int) then n else ne (Ls.getD j gs_K0).pa.toNat) := by
      split
      · rw [gx_mg_l (by omega)]
      · rw [gx_mg_r (by omega)]
    rw [hpa2, hne2]
    exact q1.mono (gx_mg_r (by omega)) (gx_mg_r (by omega)) (gx_mg_r (by omega)) (gx_map_mg_r (fun k hk => by have := (gp_tops_mem hk).1; omega)) (fun _ _ h => h) (fun _ _ h => h)
theorem gx_CR.nil {D : gx_D} {T X : gx_H} {ad su ne : Nat → Nat} {c : Nat} {pa : Int} {po : Option Nat} {li : Nat} : gx_CR D T X ad su ne c [] pa po li := fun j hj => absurd hj (Nat.not_lt_zero j)
theorem gp_ok.nil {c : Nat} {pa : Int} : gp_ok [] c pa := fun j hj => absurd hj (Nat.not_lt_zero j)
-- ===== what the parser's answers are like =====
theorem gp_cl_ok {tk : List gs_T} {rec : Nat → Nat → Int → gs_R} {q c : Nat} {pa : Int} (hr : ∀ q c x, rec q (c + 1) c = .inr x → gp_ok x.2 (c + 1) (c : Int)) (hpa : pa < (c : Int)) {x : Nat × List gs_K} (h : gp_cl tk rec q c pa = .inr x) : gp_ok x.2 c pa ∧ 0 < x.2.length := by
  unfold gp_cl at h
  split at h
  · cases h
  split at h
  · cases h
  split at h
  · cases h
    exact ⟨gp_ok.cons rfl gp_ok.nil, by simp⟩
  split at h
  · split at h
    · cases h
    · rename_i y hy
      split at h
      · cases h
        exact ⟨gp_ok.cons rfl (hr _ _ _ hy), by simp⟩
      · cases h
  · cases h
    exact ⟨gp_ok.cons rfl gp_ok.nil, by simp⟩
theorem gp_pa_ok {tk : List gs_T} (f : Nat) : ∀ (q c : Nat) (pa : Int) (x : Nat × List gs_K), pa < (c : Int) → gp_pa tk f q c pa = .inr x → gp_ok x.2 c pa ∧ 0 < x.2.length := by
  induction f with
  | zero => intro q c pa x _ h; cases h
  | succ f ih =>
    intro q c pa x hpa h
    unfold gp_pa at h
    split at h
    · cases h
    · rename_i y hy
      have hk := gp_cl_ok (fun q c x hx => (ih q (c + 1) c x (by omega) hx).1) hpa hy
      split at h
      · split at h
        · cases h
        · rename_i z hz
          cases h
          exact ⟨hk.1.app (ih _ _ _ _ (by omega) hz).1, by simp; omega⟩
      · cases h
        exact hk
theorem gp_cl_e {tk : List gs_T} {rec : Nat → Nat → Int → gs_R} {q c : Nat} {pa : Int} (hq : q ≤ tk.length) (hr : ∀ q' c' pa', q' ≤ tk.length → q' ≤ (rec q' c' pa').e ∧ (rec q' c' pa').e ≤ tk.length) : q ≤ (gp_cl tk rec q c pa).e ∧ (gp_cl tk rec q c pa).e ≤ tk.length ∧ ∀ x, gp_cl tk rec q c pa = .inr x → q + 2 ≤ x.1 := by
  have h0 := gp_n_le tk q hq
  unfold gp_cl
  split
  · exact ⟨Nat.le_refl _, hq, fun x hx => by cases hx⟩
  split
  · exact ⟨by simp only [gs_R.e]; omega, by simp only [gs_R.e]; omega, fun x hx => by cases hx⟩
  rename_i h1 h2
  have h3 := gs_kd_lt (Decidable.not_not.mp h2) (by omega)
  split
  · rename_i h4
    have h5 := gs_kd_lt h4 (by omega)
    exact ⟨by simp only [gs_R.e]; omega, by simp only [gs_R.e]; omega, fun x hx => by cases hx; simp only; omega⟩
  split
  · rename_i h4 h5
    have h6 := gs_kd_lt h5 (by omega)
    have h7 := hr (q + gp_n tk q + 2) (c + 1) c (by omega)
    split
    · rename_i i hi
      rw [hi] at h7
      simp only [gs_R.e] at h7 ⊢
      exact ⟨by omega, by omega, fun x hx => by cases hx⟩
    · rename_i y hy
      rw [hy] at h7
      simp only [gs_R.e] at h7
      split
      · rename_i h8
        have h9 := gs_kd_lt h8 (by omega)
        exact ⟨by simp only [gs_R.e]; omega, by simp only [gs_R.e]; omega, fun x hx => by cases hx; simp only; omega⟩
      · exact ⟨by simp only [gs_R.e]; omega, by simp only [gs_R.e]; omega, fun x hx => by cases hx⟩
  · exact ⟨by simp only [gs_R.e]; omega, by simp only [gs_R.e]; omega, fun x hx => by cases hx; simp only; omega⟩
theorem gp_pa_e {tk : List gs_T} (f : Nat) : ∀ (q c : Nat) (pa : Int), q ≤ tk.length → q ≤ (gp_pa tk f q c pa).e ∧ (gp_pa tk f q c pa).e ≤ tk.length := by
  induction f with
  | zero => intro q c pa hq; exact ⟨Nat.le_refl _, hq⟩
  | succ f ih =>
    intro q c pa hq
    have hk := gp_cl_e (c := c) (pa := pa) hq ih
    unfold gp_pa
    split
    · rename_i i hi
      rw [hi] at hk
      exact ⟨hk.1, hk.2.1⟩
    · rename_i y hy
      rw [hy] at hk
      simp only [gs_R.e] at hk
      split
      · rename_i h4
        have h5 := gs_kd_lt h4 (by omega)
        have h6 := ih (y.1 + 1) (c + y.2.length) pa (by omega)
        split
        · rename_i i hi
          rw [hi] at h6
          simp only [gs_R.e] at h6 ⊢
          omega
        · rename_i z hz
          rw [hz] at h6
          simp only [gs_R.e] at h6 ⊢
          omega
      · simp only [gs_R.e]
        omega

