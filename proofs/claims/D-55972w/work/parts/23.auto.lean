/-! the sentences: an automaton with a stack -/
set_option maxRecDepth 100000
/-- a clause: its first token, the number of its subjects, verb, object (or bracket), parent -/
abbrev gs_C : Type := Int × Int × Int × Int × Int
abbrev gs_C.st (x : gs_C) : Int := x.1
abbrev gs_C.ns (x : gs_C) : Int := x.2.1
abbrev gs_C.vb (x : gs_C) : Int := x.2.2.1
abbrev gs_C.ob (x : gs_C) : Int := x.2.2.2.1
abbrev gs_C.pa (x : gs_C) : Int := x.2.2.2.2
/-- mode, level, number of clauses, clauses, open clauses, deepest -/
abbrev gs_A : Type := Int × Nat × Nat × (Nat → gs_C) × (Nat → Nat) × Nat
abbrev gs_A.m (x : gs_A) : Int := x.1
abbrev gs_A.lv (x : gs_A) : Nat := x.2.1
abbrev gs_A.n (x : gs_A) : Nat := x.2.2.1
abbrev gs_A.cl (x : gs_A) : Nat → gs_C := x.2.2.2.1
abbrev gs_A.oc (x : gs_A) : Nat → Nat := x.2.2.2.2.1
abbrev gs_A.dp (x : gs_A) : Nat := x.2.2.2.2.2
def gs_up {α : Type} (f : Nat → α) (k : Nat) (v : α) : Nat → α := fun j => if j = k then v else f j
theorem gs_up_s {α : Type} {f : Nat → α} {k : Nat} {v : α} : gs_up f k v k = v := if_pos rfl
theorem gs_up_n {α : Type} {f : Nat → α} {k j : Nat} {v : α} (h : j ≠ k) : gs_up f k v j = f j := if_neg h
/-- the clause that a new one belongs to -/
def gs_top (A : gs_A) : Int := if A.lv = 0 then -1 else A.oc (A.lv - 1)
def gs_A0 : gs_A := (0, 0, 0, fun _ => (0, 0, -1, -1, -1), fun _ => 0, 0)
def gs_step (A : gs_A) (k : Int) (t : Nat) : Option gs_A :=
  let c := A.cl (A.n - 1)
  if k = 0 then
    if A.m = 3 then none
    else if A.m = 0 then some (1, A.lv, A.n + 1, gs_up A.cl A.n (t, 1, -1, -1, gs_top A), A.oc, A.dp)
    else if A.m = 2 then some (3, A.lv, A.n, gs_up A.cl (A.n - 1) (c.st, c.ns, c.vb, t, c.pa), A.oc, A.dp)
    else some (1, A.lv, A.n, gs_up A.cl (A.n - 1) (c.st, c.ns + 1, c.vb, c.ob, c.pa), A.oc, A.dp)
  else if k = 1 then
    if A.m = 1 then some (2, A.lv, A.n, gs_up A.cl (A.n - 1) (c.st, c.ns, t, c.ob, c.pa), A.oc, A.dp) else none
  else if k = 2 then
    if A.m = 2 then some (0, A.lv + 1, A.n, gs_up A.cl (A.n - 1) (c.st, c.ns, c.vb, t, c.pa), gs_up A.oc A.lv (A.n - 1), max A.dp (A.lv + 1)) else none
  else if k = 3 then
    if 2 ≤ A.m ∧ 0 < A.lv then some (3, A.lv - 1, A.n, A.cl, A.oc, A.dp) else none
  else if 2 ≤ A.m then some (0, A.lv, A.n, A.cl, A.oc, A.dp) else none
/-- the automaton behind the first p tokens -/
def gs_at (tk : List gs_T) : Nat → Option gs_A
  | 0 => some gs_A0
  | p + 1 => (gs_at tk p).bind (fun A => gs_step A (gs_tk tk p).k p)
/-- how many of the first p tokens it takes -/
def gs_last (tk : List gs_T) : Nat → Nat
  | 0 => 0
  | p + 1 => if (gs_at tk (p + 1)).isSome then p + 1 else gs_last tk p
def gs_lA (tk : List gs_T) (p : Nat) : gs_A := (gs_at tk (gs_last tk p)).getD gs_A0
theorem gs_at_down {tk : List gs_T} {p q : Nat} (h : (gs_at tk p).isSome = true) (hq : q ≤ p) : (gs_at tk q).isSome = true := by
  induction p with
  | zero => rwa [show q = 0 by omega]
  | succ p ih =>
    by_cases e : q = p + 1
    · rwa [e]
    · refine ih ?_ (by omega)
      cases h2 : gs_at tk p with
      | none => simp [gs_at, h2] at h
      | some A => rfl
theorem gs_last_le (tk : List gs_T) (p : Nat) : gs_last tk p ≤ p := by
  induction p with
  | zero => exact Nat.le_refl _
  | succ p ih =>
    unfold gs_last
    split <;> omega
theorem gs_last_some (tk : List gs_T) (p : Nat) : gs_at tk (gs_last tk p) = some (gs_lA tk p) := by
  have h : (gs_at tk (gs_last tk p)).isSome = true := by
    induction p with
    | zero => rfl
    | succ p ih =>
      unfold gs_last
      split
      · assumption
      · exact ih
  unfold gs_lA
  rw [Option.isSome_iff_exists] at h
  obtain ⟨A, hA⟩ := h
  rw [hA]
  rfl
theorem gs_last_full {tk : List gs_T} {p : Nat} (h : (gs_at tk p).isSome = true) : gs_last tk p = p := by
  cases p with
  | zero => rfl
  | succ p => unfold gs_last; rw [if_pos h]
theorem gs_last_eq {tk : List gs_T} {p : Nat} : gs_last tk p = p ↔ (gs_at tk p).isSome = true := by
  refine ⟨fun h => ?_, gs_last_full⟩
  have := gs_last_some tk p
  rw [h] at this
  rw [this]
  rfl
theorem gs_last_s {tk : List gs_T} {p : Nat} (h : gs_last tk p = p) : gs_last tk (p + 1) = (if (gs_step (gs_lA tk p) (gs_tk tk p).k p).isSome then p + 1 else p) ∧ (∀ B, gs_step (gs_lA tk p) (gs_tk tk p).k p = some B → gs_lA tk (p + 1) = B) ∧ (gs_step (gs_lA tk p) (gs_tk tk p).k p = none → gs_lA tk (p + 1) = gs_lA tk p) := by
  have h1 := gs_last_some tk p
  rw [h] at h1
  have h2 : gs_at tk (p + 1) = gs_step (gs_lA tk p) (gs_tk tk p).k p := by
    show (gs_at tk p).bind _ = _
    rw [h1]
    rfl
  refine ⟨?_, fun B hB => ?_, fun hN => ?_⟩
  · show (if (gs_at tk (p + 1)).isSome then p + 1 else gs_last tk p) = _
    rw [h2, h]
  · have h3 : gs_last tk (p + 1) = p + 1 := gs_last_full (by rw [h2, hB]; rfl)
    have h4 := gs_last_some tk (p + 1)
    rw [h3, h2, hB] at h4
    exact (Option.some.inj h4).symm
  · have h3 : gs_last tk (p + 1) = p := by
      show (if (gs_at tk (p + 1)).isSome then p + 1 else gs_last tk p) = _
      rw [h2, hN, h]
      rfl
    unfold gs_lA
    rw [h3, h]
theorem gs_last_st {tk : List gs_T} {p : Nat} (h : gs_last tk p < p) : gs_last tk (p + 1) = gs_last tk p ∧ gs_lA tk (p + 1) = gs_lA tk p := by
  have h1 : (gs_at tk p).isSome = false := by
    by_cases e : (gs_at tk p).isSome = true
    · have := gs_last_full e
      omega
    · simpa using e
  have h2 : gs_at tk (p + 1) = none := by
    show (gs_at tk p).bind _ = none
    cases h3 : gs_at tk p with
    | none => rfl
    | some A => rw [h3] at h1; cases h1
  have h3 : gs_last tk (p + 1) = gs_last tk p := by
    show (if (gs_at tk (p + 1)).isSome then p + 1 else gs_last tk p) = _
    rw [h2]
    rfl
  exact ⟨h3, by unfold gs_lA; rw [h3]⟩
/-- what holds of every state that is reached -/
def gs_inv (A : gs_A) (p : Nat) : Prop := (0 ≤ A.m ∧ A.m ≤ 3) ∧ A.lv ≤ p ∧ A.n ≤ p ∧ (1 ≤ A.m → 1 ≤ A.n) ∧ (1 ≤ A.lv → 1 ≤ A.n) ∧ A.dp ≤ p ∧ A.lv ≤ A.dp ∧ (A.n = 0 → A.lv = 0 ∧ A.m = 0) ∧ 2 * A.n ≤ p + (if A.m = 1 then 1 else 0)
theorem gs_step_inv {A B : gs_A} {k : Int} {t : Nat} (h : gs_inv A t) (hs : gs_step A k t = some B) : gs_inv B (t + 1) := by
  obtain ⟨m, lv, n, cl, oc, dp⟩ := A
  simp only [gs_inv, gs_A.m, gs_A.lv, gs_A.n, gs_A.dp] at h
  simp only [gs_step, gs_A.m, gs_A.lv, gs_A.n, gs_A.dp, gs_A.cl, gs_A.oc] at hs
  obtain ⟨h1, h2, h3, h4, h5, h6, h7, h8, h9⟩ := h
  have h9' : 2 * n ≤ t + 1 := by split at h9 <;> omega
  have h9'' : m ≠ 1 → 2 * n ≤ t := fun e => by rw [if_neg e] at h9; omega
  repeat' split at hs
  all_goals first | cases hs | skip
  all_goals simp only [gs_inv, gs_A.m, gs_A.lv, gs_A.n, gs_A.dp]
  all_goals refine ⟨?_, ?_, ?_, ?_, ?_, ?_, ?_, ?_, ?_⟩
  all_goals first | omega | (simp; omega) | skip

