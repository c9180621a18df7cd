/-! the parser, as a function -/
set_option maxRecDepth 100000
/-- a parsed clause: start, subjects, object (a noun's index or -1), parent, number behind what is nested -/
abbrev gs_K : Type := Nat × Nat × Int × Int × Nat
abbrev gs_K.st (x : gs_K) : Nat := x.1
abbrev gs_K.ns (x : gs_K) : Nat := x.2.1
abbrev gs_K.jo (x : gs_K) : Int := x.2.2.1
abbrev gs_K.pa (x : gs_K) : Int := x.2.2.2.1
abbrev gs_K.en (x : gs_K) : Nat := x.2.2.2.2
abbrev gs_K.vb (x : gs_K) : Nat := x.st + x.ns
/-- it stops at an index, or goes behind one with these clauses -/
abbrev gs_R : Type := Nat ⊕ (Nat × List gs_K)
def gs_R.e : gs_R → Nat
  | .inl i => i
  | .inr x => x.1
/-- how many nouns stand from q on -/
def gp_ns (tk : List gs_T) : Nat → Nat → Nat
  | 0, _ => 0
  | f + 1, q => if gs_kd tk q = 0 then gp_ns tk f (q + 1) + 1 else 0
abbrev gp_n (tk : List gs_T) (q : Nat) : Nat := gp_ns tk (tk.length - q) q
def gp_cl (tk : List gs_T) (rec : Nat → Nat → Int → gs_R) (q c : Nat) (pa : Int) : gs_R :=
  if gp_n tk q = 0 then .inl q
  else if gs_kd tk (q + gp_n tk q) ≠ 1 then .inl (q + gp_n tk q)
  else if gs_kd tk (q + gp_n tk q + 1) = 0 then .inr (q + gp_n tk q + 2, [(q, gp_n tk q, ((q + gp_n tk q + 1 : Nat) : Int), pa, c + 1)])
  else if gs_kd tk (q + gp_n tk q + 1) = 2 then
    match rec (q + gp_n tk q + 2) (c + 1) c with
    | .inl i => .inl i
    | .inr x => if gs_kd tk x.1 = 3 then .inr (x.1 + 1, (q, gp_n tk q, -1, pa, c + 1 + x.2.length) :: x.2) else .inl x.1
  else .inr (q + gp_n tk q + 1, [(q, gp_n tk q, -1, pa, c + 1)])
def gp_pa (tk : List gs_T) : Nat → Nat → Nat → Int → gs_R
  | 0, q, _, _ => .inl q
  | f + 1, q, c, pa => match gp_cl tk (gp_pa tk f) q c pa with
    | .inl i => .inl i
    | .inr x => if gs_kd tk x.1 = 4 then
        (match gp_pa tk f (x.1 + 1) (c + x.2.length) pa with
        | .inl i => .inl i
        | .inr y => .inr (y.1, x.2 ++ y.2))
      else .inr x
theorem gp_ns_s {tk : List gs_T} {f q : Nat} : gp_ns tk (f + 1) q = if gs_kd tk q = 0 then gp_ns tk f (q + 1) + 1 else 0 := rfl
theorem gs_kd_lt {tk : List gs_T} {q : Nat} {k : Int} (h : gs_kd tk q = k) (hk : 0 ≤ k) : q < tk.length := by
  unfold gs_kd at h
  split at h <;> omega
theorem gp_n_s {tk : List gs_T} {q : Nat} (h : gs_kd tk q = 0) : gp_n tk q = gp_n tk (q + 1) + 1 := by
  have := gs_kd_lt h (by omega)
  unfold gp_n
  obtain ⟨f, hf⟩ : ∃ f, tk.length - q = f + 1 := ⟨tk.length - q - 1, by omega⟩
  rw [hf, gp_ns_s, if_pos h, show tk.length - (q + 1) = f by omega]
theorem gp_n_0 {tk : List gs_T} {q : Nat} (h : gs_kd tk q ≠ 0) : gp_n tk q = 0 := by
  unfold gp_n
  cases hf : tk.length - q with
  | zero => rfl
  | succ f => rw [gp_ns_s, if_neg h]
theorem gp_n_le (tk : List gs_T) (q : Nat) : q ≤ tk.length → q + gp_n tk q ≤ tk.length := by
  intro h
  obtain ⟨d, hd⟩ : ∃ d, tk.length - q = d := ⟨_, rfl⟩
  induction d generalizing q with
  | zero =>
    have : gp_n tk q = 0 := by unfold gp_n; rw [hd]; rfl
    omega
  | succ d ih =>
    by_cases e : gs_kd tk q = 0
    · have := ih (q + 1) (by omega) (by omega)
      rw [gp_n_s e]
      omega
    · rw [gp_n_0 e]
      omega
/-- the nouns are nouns, and what follows them is none -/
theorem gp_n_k {tk : List gs_T} {q : Nat} : (∀ j, j < gp_n tk q → gs_kd tk (q + j) = 0) ∧ gs_kd tk (q + gp_n tk q) ≠ 0 := by
  obtain ⟨d, hd⟩ : ∃ d, tk.length - q = d := ⟨_, rfl⟩
  induction d generalizing q with
  | zero =>
    have h0 : gs_kd tk q ≠ 0 := fun e => by have := gs_kd_lt e (by omega); omega
    rw [gp_n_0 h0]
    exact ⟨fun j hj => by omega, h0⟩
  | succ d ih =>
    by_cases e : gs_kd tk q = 0
    · obtain ⟨i1, i2⟩ := ih (q := q + 1) (by omega)
      rw [gp_n_s e]
      refine ⟨fun j hj => ?_, by rw [show q + (gp_n tk (q + 1) + 1) = q + 1 + gp_n tk (q + 1) by omega]; exact i2⟩
      cases j with
      | zero => exact e
      | succ j =>
        rw [show q + (j + 1) = q + 1 + j by omega]
        exact i1 j (by omega)
    · rw [gp_n_0 e]
      exact ⟨fun j hj => by omega, e⟩

