/-! THE LAYER: a walk's state as a set G of known cells, a set T of cells that stay, the heap's size nx, what room is left (bc cells, bs slots), locals L, stack S; ints as iz of an Int. -/
set_option maxRecDepth 100000
abbrev gx_E : Type := va_E ⊕ Cell
abbrev gx_H : Type := Nat → gx_E → Prop
abbrev gx_D : Type := va_G × (Nat → ClassId) × (Nat → Nat)
def iz (z : Int) : Int32 := Int32.ofInt z
def jz (z : Int) : Int64 := Int64.ofInt z
abbrev gx_O (ci : Nat) (fs : List Value) : gx_E := .inl (.inr (ci, fs))
abbrev gx_I (D : gx_D) (t n : Nat) (f : Nat → Int) : gx_E := .inl (.inl (D.2.1 t, n, .inl (fun j => iz (f j))))
abbrev gx_J (D : gx_D) (t n : Nat) (f : Nat → Int64) : gx_E := .inl (.inl (D.2.1 t, n, .inr (.inl f)))
abbrev gx_B (D : gx_D) (t n : Nat) (f : Nat → UInt64) : gx_E := .inl (.inl (D.2.1 t, n, .inr (.inr (.inr (.inl f)))))
abbrev gx_Q (D : gx_D) (t n : Nat) (f : Nat → Option Nat) : gx_E := .inl (.inl (D.2.1 t, n, .inr (.inr (.inr (.inr f)))))
def gx_cl : List vw_C := [(RX1, TX1, 8), (RX2, TX2, 2), (RX3, TX3, 4), (RX4, TX4, 3), (RX5, TX5, 2), (RX6, TX6, 33), (RX7, TX7, 3), (RX8, TX8, 4), (RX9, TX9, 8), (RX10, TX10, 7), (RX11, TX11, 4), (RX12, TX12, 2), (RX13, TX13, 2), (RX14, TX14, 2), (RX15, TX15, 1), (RX16, TX16, 1), (RX17, TX17, 2), (RX18, TX18, 7), (RX19, TX19, 5), (RJ2, TJ2, 3), (RJ8, TJ8, 4), (RJ9, TJ9, 4), (RJ17, TJ17, 1), (RJ18, TJ18, 3), (RJ19, TJ19, 4), (RJ30, TJ30, 4), (RJ25, TJ25, 3)]
def gx_tyL : List FieldType := [.int, .byte, .object "java/lang/Object", .object "java/lang/String", .object "GateGrammar$Rule", .long, .double, .object "java/lang/Integer"]
def gx_tys (D : gx_D) : List (ClassId × FieldType) := [(D.2.1 0, .int), (D.2.1 1, .byte), (D.2.1 2, .object "java/lang/Object"), (D.2.1 3, .object "java/lang/String"), (D.2.1 4, .object "GateGrammar$Rule"), (D.2.1 5, .long), (D.2.1 6, .double), (D.2.1 7, .object "java/lang/Integer")]
theorem gx_ty (D : gx_D) {k : Nat} {ty : FieldType} (h : gx_tyL[k]? = some ty) : (gx_tys D)[k]? = some (D.2.1 k, ty) := by
  rcases k with _ | _ | _ | _ | _ | _ | _ | _ | k
  all_goals first | (cases h; rfl) | (simp [gx_tyL] at h)
-- ===== ints =====
theorem iz_add (a b : Int) : iz a + iz b = iz (a + b) := (Int32.ofInt_add a b).symm
theorem iz_sub (a b : Int) : iz a - iz b = iz (a - b) := (Int32.ofInt_sub a b).symm
theorem iz_mul (a b : Int) : iz a * iz b = iz (a * b) := (Int32.ofInt_mul a b).symm
theorem iz_T {z : Int} (h : -2147483648 ≤ z ∧ z < 2147483648) : (iz z).toInt = z := Int32.toInt_ofInt_of_le (by simpa using h.1) (by simpa using h.2)
theorem iz_of (x : Int32) : x = iz x.toInt := (Int32.ofInt_toInt x).symm
theorem iz_rg (x : Int32) : -2147483648 ≤ x.toInt ∧ x.toInt < 2147483648 := ⟨Int32.le_toInt x, Int32.toInt_lt x⟩
def gx_rg (z : Int) : Prop := -2147483648 ≤ z ∧ z < 2147483648
theorem iz_lt {a b : Int} (ha : gx_rg a) (hb : gx_rg b) : iz a < iz b ↔ a < b := by rw [Int32.lt_iff_toInt_lt, iz_T ha, iz_T hb]
theorem iz_le {a b : Int} (ha : gx_rg a) (hb : gx_rg b) : iz a ≤ iz b ↔ a ≤ b := by rw [Int32.le_iff_toInt_le, iz_T ha, iz_T hb]
theorem iz_eq {a b : Int} (ha : gx_rg a) (hb : gx_rg b) : iz a = iz b ↔ a = b := by rw [← Int32.toInt_inj, iz_T ha, iz_T hb]
theorem iz_0 : iz 0 = 0 := rfl
theorem gx_rg0 : gx_rg 0 := by unfold gx_rg; omega
theorem iz_nat (n : Nat) : iz (n : Int) = nI n := Int32.ofInt_eq_ofNat
theorem iz_cl {z : Int} (h0 : 0 ≤ z) (h : z < 2147483648) : (iz z).toNatClampNeg = z.toNat := by
  show (iz z).toInt.toNat = z.toNat
  rw [iz_T ⟨by omega, h⟩]
theorem iz_in {z : Int} {n : Nat} (h0 : 0 ≤ z) (h : z < n) (hn : z < 2147483648) : vp_in (iz z) n := by
  rw [vp_in_iff, iz_T ⟨by omega, hn⟩]
  exact ⟨h0, h⟩
-- ===== cells =====
def gx_at (D : gx_D) (H : Heap) (a : Nat) (e : gx_E) : Prop := match e with
  | .inl x => va_at D.1 gx_cl (a, x) H
  | .inr c => H[a]? = some c
def gx_vl (x : (Nat → Int32) ⊕ (Nat → Int64) ⊕ (Nat → UInt32) ⊕ (Nat → UInt64) ⊕ (Nat → Option Nat)) (j : Nat) : Value := match x with
  | .inl f => .int (f j)
  | .inr (.inl f) => .long (f j)
  | .inr (.inr (.inl f)) => .float (f j)
  | .inr (.inr (.inr (.inl f))) => .double (f j)
  | .inr (.inr (.inr (.inr f))) => va_rf (f j)
/-- what is known of a cell that is read: an object, an array, a cell as it is -/
def gx_aw (D : gx_D) (U : State) (H : Heap) (a : Nat) (e : gx_E) : Prop := match e with
  | .inl (.inl (cA, n, x)) => ∃ cell : Cell, H[a]? = some cell ∧ cell.vm.isStatics = false ∧ cell.vm ≠ .unknown ∧ cell.slots.size = n ∧ (∀ j, j < n → cell.slots[j]? = some (gx_vl x j)) ∧ ∀ (k : Nat) (ty : FieldType), gx_tyL[k]? = some ty → cA = D.2.1 k → U.isArrayOf cell ty
  | .inl (.inr (ci, fs)) => ∃ (r : vw_C) (cell : Cell), gx_cl[ci]? = some r ∧ H[a]? = some cell ∧ cell.vm.isStatics = false ∧ cell.vm ≠ .unknown ∧ cell.cls = D.1.1 ci ∧ ∀ k, k < r.2.2 → cell.slots[D.1.2 ci k]? = some (vp_V fs k)
  | .inr c => H[a]? = some c
theorem gx_vc (cA : ClassId) (n : Nat) (x : (Nat → Int32) ⊕ (Nat → Int64) ⊕ (Nat → UInt32) ⊕ (Nat → UInt64) ⊕ (Nat → Option Nat)) : vp_cell cA (n, x) = arrV cA n (gx_vl x) := by
  rcases x with f | f | f | f | f <;> rfl
theorem gx_at.w {D : gx_D} {H : Heap} {a : Nat} {e : gx_E} {s : State} (h : gx_at D H a e) (hK : va_K D.1 gx_cl (gx_tys D) s) : gx_aw D s H a e := by
  rcases e with (⟨cA, n, x⟩ | ⟨ci, fs⟩) | c
  · have h : H[a]? = some (vp_cell cA (n, x)) := h
    rw [gx_vc] at h
    refine ⟨_, h, rfl, fun q => (by cases q), arrV_size _ _ _, fun j hj => arrV_read _ _ hj, fun k ty hk he => ?_⟩
    rw [he]
    exact (hK.2 k _ (gx_ty D hk)).1 n _
  · obtain ⟨r, h1, cell, q1, q2, q3, q4⟩ := h
    exact ⟨r, cell, h1, q1, by rw [q3]; rfl, by rw [q3]; exact fun q => (by cases q), q2, q4⟩
  · exact h
theorem gx_at.lt {D : gx_D} {H : Heap} {a : Nat} {e : gx_E} (h : gx_at D H a e) : a < H.size := by
  rcases e with x | c
  · exact va_at.lt h
  · exact (Array.getElem?_eq_some_iff.mp h).1
theorem gx_at.kept {D : gx_D} {H H1 : Heap} {a : Nat} {e : gx_E} (h : gx_at D H a e) (hq : H1[a]? = H[a]?) : gx_at D H1 a e := by
  rcases e with x | c
  · exact va_at.kept h hq
  · exact hq.trans h
theorem gx_aw.lt {D : gx_D} {U : State} {H : Heap} {a : Nat} {e : gx_E} (h : gx_aw D U H a e) : a < H.size := by
  rcases e with (⟨cA, n, x⟩ | ⟨ci, fs⟩) | c
  · obtain ⟨cell, h1, -⟩ := h
    exact (Array.getElem?_eq_some_iff.mp h1).1
  · obtain ⟨r, cell, -, h1, -⟩ := h
    exact (Array.getElem?_eq_some_iff.mp h1).1
  · exact (Array.getElem?_eq_some_iff.mp h).1
theorem gx_aw.kept {D : gx_D} {U : State} {H H1 : Heap} {a : Nat} {e : gx_E} (h : gx_aw D U H a e) (hq : H1[a]? = H[a]?) : gx_aw D U H1 a e := by
  rcases e with (⟨cA, n, x⟩ | ⟨ci, fs⟩) | c
  · obtain ⟨cell, h1, h2⟩ := h
    exact ⟨cell, hq.trans h1, h2⟩
  · obtain ⟨r, cell, h0, h1, h2⟩ := h
    exact ⟨r, cell, h0, hq.trans h1, h2⟩
  · exact hq.trans h
theorem gx_aw.moved {D : gx_D} {u U : State} {H : Heap} {a : Nat} {e : gx_E} (hvm : u.vm.Alike U.vm) (h : gx_aw D u H a e) : gx_aw D U H a e := by
  rcases e with (⟨cA, n, x⟩ | ⟨ci, fs⟩) | c
  · obtain ⟨cell, h1, h2, h3, h4, h5, h6⟩ := h
    exact ⟨cell, h1, h2, h3, h4, h5, fun k ty hk he => State.isArrayOf_alike hvm (h6 k ty hk he)⟩
  · exact h
  · exact h
def gx_up (G : gx_H) (a : Nat) (e : gx_E) : gx_H := fun x e' => (x = a ∧ e' = e) ∨ (x ≠ a ∧ G x e')
theorem gx_us {G : gx_H} {a : Nat} {e : gx_E} : gx_up G a e a e := Or.inl ⟨rfl, rfl⟩
theorem gx_un {G : gx_H} {a x : Nat} {e e' : gx_E} (h : x ≠ a) (hG : G x e') : gx_up G a e x e' := Or.inr ⟨h, hG⟩
theorem gx_tu {T G : gx_H} {a x : Nat} {e e' : gx_E} (h : x ≠ a) (hG : T x e' ∨ G x e') : T x e' ∨ gx_up G a e x e' := hG.imp id (fun q => gx_un h q)
def gx_R (D : gx_D) (G : gx_H) (H : Heap) : Prop := ∀ a e, G a e → gx_at D H a e
theorem gx_R.up {D : gx_D} {G : gx_H} {H H1 : Heap} {a : Nat} {e : gx_E} (h : gx_R D G H) (he : gx_at D H1 a e) (hq : ∀ q, q ≠ a → H1[q]? = H[q]?) : gx_R D (gx_up G a e) H1 := by
  intro x e' h1
  rcases h1 with ⟨rfl, rfl⟩ | ⟨h1, h2⟩
  · exact he
  · exact (h x e' h2).kept (hq x h1)
theorem gx_R.new {D : gx_D} {G : gx_H} {H H1 : Heap} {e : gx_E} (h : gx_R D G H) (he : gx_at D H1 H.size e) (hq : ∀ q, q < H.size → H1[q]? = H[q]?) : gx_R D (gx_up G H.size e) H1 := by
  intro x e' h1
  rcases h1 with ⟨rfl, rfl⟩ | ⟨h1, h2⟩
  · exact he
  · exact (h x e' h2).kept (hq x (h x e' h2).lt)
-- ===== locals =====
def gx_lk : List (Nat × Option Value) → Nat → Option (Option Value)
  | [], _ => none
  | q :: r, i => bif Nat.beq q.1 i then some q.2 else gx_lk r i
theorem gx_lk_s (L : List (Nat × Option Value)) (i : Nat) (v : Option Value) : gx_lk ((i, v) :: L) i = some v := by simp [gx_lk]
theorem gx_lk_n (L : List (Nat × Option Value)) {i j : Nat} (v : Option Value) (h : i ≠ j) : gx_lk ((i, v) :: L) j = gx_lk L j := by
  have e : Nat.beq i j = false := Bool.eq_false_iff.mpr fun q => h (Nat.eq_of_beq_eq_true q)
  simp [gx_lk, e]
theorem gx_lk_mem : ∀ (L : List (Nat × Option Value)) {i : Nat} {v : Option Value}, gx_lk L i = some v → (i, v) ∈ L
  | [], i, v, h => by simp [gx_lk] at h
  | (k, u) :: r, i, v, h => by
    by_cases e : k = i
    · subst e
      rw [gx_lk_s] at h
      cases h
      exact List.mem_cons_self
    · rw [gx_lk_n r u e] at h
      exact List.mem_cons_of_mem _ (gx_lk_mem r h)
def gx_L (ls : Array Slot) (nL : Nat) (L : List (Nat × Option Value)) : Prop := ls.size = nL ∧ lv_wf ls ∧ ∀ i v, gx_lk L i = some (some v) → ls[i]? = some (.val v)
def gx_ck (L : List (Nat × Option Value)) : Nat → Bool
  | 0 => true
  | j + 1 => match gx_lk L j with
    | some (some w) => Nat.beq w.category 1
    | _ => true
def gx_as (L : List (Nat × Option Value)) : List (Nat × Value) := L.filterMap fun q => match gx_lk L q.1 with
  | some (some v) => some (q.1, v)
  | _ => none
theorem gx_as_has {ls : Array Slot} {nL : Nat} {L : List (Nat × Option Value)} (h : gx_L ls nL L) : lv_has ls nL (gx_as L) := by
  refine ⟨h.1, h.2.1, fun q hq => ?_⟩
  obtain ⟨z, -, hz⟩ := List.mem_filterMap.mp hq
  cases hl : gx_lk L z.1 with
  | none => simp [hl] at hz
  | some o =>
    cases o with
    | none => simp [hl] at hz
    | some v =>
      simp [hl] at hz
      subst hz
      exact h.2.2 _ _ hl
theorem gx_as_mem {L : List (Nat × Option Value)} {i : Nat} {v : Value} (h : gx_lk L i = some (some v)) : (i, v) ∈ gx_as L :=
  List.mem_filterMap.mpr ⟨(i, some v), gx_lk_mem L h, by simp [h]⟩
theorem gx_L.st1 {ls' : Array Slot} {nL i : Nat} {v : Value} {L : List (Nat × Option Value)} (hck : gx_ck L i = true) (h : lv_has ls' nL ((i, v) :: (gx_as L).filter (fun q => !(q.1 == i) && !(q.1 + 1 == i && q.2.category == 2)))) : gx_L ls' nL ((i, some v) :: L) := by
  refine ⟨h.1, h.2.1, fun j w hw => ?_⟩
  by_cases e : i = j
  · subst e
    rw [gx_lk_s] at hw
    cases hw
    exact h.2.2 _ List.mem_cons_self
  · rw [gx_lk_n L _ e] at hw
    refine h.2.2 (j, w) (List.mem_cons_of_mem _ (List.mem_filter.mpr ⟨gx_as_mem hw, ?_⟩))
    have h1 : (j == i) = false := by simp; omega
    by_cases e2 : j + 1 = i
    · subst e2
      have hc : Nat.beq w.category 1 = true := by
        have := hck
        simp only [gx_ck, hw] at this
        exact this
      have hc1 : w.category = 1 := Nat.eq_of_beq_eq_true hc
      simp [h1, hc1]
    · have h2 : (j + 1 == i) = false := by simp; omega
      simp [h1, h2]
theorem gx_L.st2 {ls' : Array Slot} {nL i : Nat} {v : Value} {L : List (Nat × Option Value)} (hck : gx_ck L i = true) (h : lv_has ls' nL ((i, v) :: (gx_as L).filter (fun q => !(q.1 == i) && (!(q.1 == i + 1) && !(q.1 + 1 == i && q.2.category == 2))))) : gx_L ls' nL ((i, some v) :: (i + 1, none) :: L) := by
  refine ⟨h.1, h.2.1, fun j w hw => ?_⟩
  by_cases e : i = j
  · subst e
    rw [gx_lk_s] at hw
    cases hw
    exact h.2.2 _ List.mem_cons_self
  · rw [gx_lk_n _ _ e] at hw
    by_cases e3 : i + 1 = j
    · subst e3
      rw [gx_lk_s] at hw
      cases hw
    · rw [gx_lk_n _ _ e3] at hw
      refine h.2.2 (j, w) (List.mem_cons_of_mem _ (List.mem_filter.mpr ⟨gx_as_mem hw, ?_⟩))
      have h1 : (j == i) = false := by simp; omega
      have h3 : (j == i + 1) = false := by simp; omega
      by_cases e2 : j + 1 = i
      · subst e2
        have hc : Nat.beq w.category 1 = true := by
          have := hck
          simp only [gx_ck, hw] at this
          exact this
        have hc1 : w.category = 1 := Nat.eq_of_beq_eq_true hc
        simp [h1, h3, hc1]
      · have h2 : (j + 1 == i) = false := by simp; omega
        simp [h1, h2, h3]
/-- each of these is known -/
def gx_al (L : List (Nat × Option Value)) : List (Nat × Option Value) → Prop
  | [] => True
  | (i, v) :: r => gx_lk L i = some v ∧ gx_al L r
theorem gx_al_m {L : List (Nat × Option Value)} : ∀ {M : List (Nat × Option Value)}, gx_al L M → ∀ {i v}, (i, v) ∈ M → gx_lk L i = some v
  | [], _, i, v, h => by cases h
  | (k, u) :: r, hM, i, v, h => by
    rcases List.mem_cons.mp h with e | e
    · cases e; exact hM.1
    · exact gx_al_m hM.2 e
theorem gx_L.sub {ls : Array Slot} {nL : Nat} {L M : List (Nat × Option Value)} (h : gx_L ls nL L) (hM : gx_al L M) : gx_L ls nL M := ⟨h.1, h.2.1, fun i v hv => h.2.2 i v (gx_al_m hM (gx_lk_mem M hv))⟩
def gx_ar : Nat → List Value → List (Nat × Option Value)
  | _, [] => []
  | k, v :: r => (k, some v) :: gx_ar (k + v.category) r
-- ===== what the tables and statics say, wherever we are =====
def gx_wk : Cond → Bool
  | .methodLinkNest .. => true
  | .fieldLinkNest .. => true
  | .castable .. => true
  | .declares _ => true
  | .privateMethod _ => true
  | _ => false
theorem gx_wk_warm {w : Cond} (hw : gx_wk w = true) {s U : State} (hW : s.WarmedH U.vm) (h : va_Nw w s) : va_Nw w U := by
  cases w
  case methodLinkNest => exact va_Nw.warmM hW h
  case fieldLinkNest => exact va_Nw.warmF hW h
  case castable => exact va_Nw.warmC hW h
  case declares => exact va_Nw.warmD hW h
  case privateMethod => exact va_tabs rfl (rfl : (s.setVm U.vm).vm = U.vm) (by rw [Cond.privateMethod_setVm hW.alike]; exact h)
  all_goals cases hw
abbrev gx_MH (c : String) : Prop := c ≠ "java/lang/invoke/MethodHandle" ∧ c ≠ "java/lang/invoke/VarHandle"
def gx_IAE : String := "java/lang/IllegalArgumentException"
def gx_ISE : String := "java/lang/IllegalStateException"
def gx_IOB : String := "java/lang/IndexOutOfBoundsException"
def gx_NSE : String := "java/util/NoSuchElementException"
def gx_ARI : String := "java/lang/ArithmeticException"
def gx_nc : List (String × String) := [(gx_IAE, gx_IOB), (gx_ISE, gx_IOB), (gx_NSE, gx_IOB), (gx_ARI, gx_IOB), (gx_ISE, gx_IAE), (gx_ISE, RX18), (gx_IAE, RX18), (gx_IOB, RX18)]
/-- a reference or null, by a number -/
def gx_rn (n : Nat) : Value := if n = 0 then .null else .ref (n - 1)
/-- constants' addresses, by D.2.2: 0 .. statics of references; 10 + k: the cache's boxes, k < 256; 300 + 2 j: text j's object, 301 + 2 j its bytes -/
def gx_zs (D : gx_D) : List (String × String × String × Value) := [("java/util/ArrayList", "EMPTY_ELEMENTDATA", "[Ljava/lang/Object;", .ref (D.2.2 0)), ("java/util/ArrayList", "DEFAULTCAPACITY_EMPTY_ELEMENTDATA", "[Ljava/lang/Object;", .ref (D.2.2 1)), ("java/lang/Integer$IntegerCache", "cache", "[Ljava/lang/Integer;", .ref (D.2.2 2)), ("java/lang/Integer$IntegerCache", "high", "I", .int (iz 127)), ("java/lang/String", "COMPACT_STRINGS", "Z", .int (iz 1)), ("java/lang/Integer", "DigitOnes", "[B", .ref (D.2.2 3)), ("java/lang/Integer", "DigitTens", "[B", .ref (D.2.2 4)), ("jdk/internal/util/Preconditions", "SIOOBE_FORMATTER", "Ljava/util/function/BiFunction;", gx_rn (D.2.2 6)), ("java/lang/Throwable", "UNASSIGNED_STACK", "[Ljava/lang/StackTraceElement;", gx_rn (D.2.2 7)), ("java/lang/Throwable", "SUPPRESSED_SENTINEL", "Ljava/util/List;", gx_rn (D.2.2 8))]

def gx_ss (D : gx_D) : List (String × Nat × String × Nat) := [("java/util/ArrayList", 23, "Illegal Capacity: ", D.2.2 300), ("java/util/Arrays", 337, " > ", D.2.2 302), ("GateGrammar", 38, "", D.2.2 304), ("java/util/ArrayDeque", 35, "Sorry, deque too big", D.2.2 306), ("java/util/LinkedList", 100, "Index: ", D.2.2 308), ("java/util/LinkedList", 109, ", Size: ", D.2.2 310), ("java/lang/Throwable", 81, ": ", D.2.2 312), ("java/util/ArrayList", 201, "Index: ", D.2.2 314), ("java/util/ArrayList", 203, ", Size: ", D.2.2 316), ("GateGrammar$Lexicon", 45, "aeiourstlnmk", D.2.2 318), ("GateGrammar$Parser", 63, "noun ", D.2.2 320), ("GateGrammar$Parser", 65, "verb ", D.2.2 322), ("GateGrammar$Parser", 67, "open ", D.2.2 324), ("GateGrammar$Parser", 69, "close ", D.2.2 326), ("GateGrammar$Parser", 71, "and ", D.2.2 328), ("GateGrammar$Parser", 73, "drop ", D.2.2 330), ("GateGrammar$Parser", 75, "swing ", D.2.2 332), ("GateGrammar$Parser", 77, "walk ", D.2.2 334), ("jdk/internal/util/ArraysSupport", 92, "unrecognized basic type: ", D.2.2 336), ("GateGrammar$Command", 35, "noun ", D.2.2 338), ("GateGrammar$Command", 41, "verb ", D.2.2 340), ("GateGrammar$Command", 43, "open ", D.2.2 342), ("GateGrammar$Command", 45, "close ", D.2.2 344), ("GateGrammar$Command", 47, "and ", D.2.2 346), ("GateGrammar$Command", 49, "drop ", D.2.2 348), ("GateGrammar$Command", 51, "swing ", D.2.2 350), ("java/lang/StringIndexOutOfBoundsException", 13, "String index out of range: ", D.2.2 352), ("java/util/Arrays", 48, "fromIndex(", D.2.2 354), ("java/util/Arrays", 57, ") > toIndex(", D.2.2 356), ("java/util/Arrays", 59, ")", D.2.2 358), ("java/lang/ArrayIndexOutOfBoundsException", 13, "Array index out of range: ", D.2.2 360), ("GateGrammar", 413, " ", D.2.2 362), ("GateGrammar$Token", 27, "", D.2.2 364), ("GateGrammar$Token", 49, "(", D.2.2 366), ("GateGrammar$Token", 51, ")", D.2.2 368), ("GateGrammar$Token", 53, "+", D.2.2 370), ("GateGrammar$Token", 55, "v", D.2.2 372), ("GateGrammarModel", 165, "aeiourstlnmk", D.2.2 374), ("GateGrammarModel", 238, "noun ", D.2.2 376), ("GateGrammarModel", 244, "verb ", D.2.2 378), ("GateGrammarModel", 246, "open ", D.2.2 380), ("GateGrammarModel", 248, "close ", D.2.2 382), ("GateGrammarModel", 250, "and ", D.2.2 384), ("GateGrammarModel", 252, "drop ", D.2.2 386), ("GateGrammarModel", 254, "swing ", D.2.2 388), ("GateGrammarModel", 256, "walk ", D.2.2 390), ("GateGrammarModel", 261, " ", D.2.2 392)]
/-- of lambdas' sites (later) -/
def gx_la (D : gx_D) (A : Nat → Prop) (U : State) : Prop := True
theorem gx_la.on {D : gx_D} {A B : Nat → Prop} {s U : State} (h : gx_la D A s) (hW : s.WarmedH U.vm) (hq : ∀ q : Nat, q < s.heap.size → ¬ A q → U.heap[q]? = s.heap[q]?) (hAB : ∀ q, B q → A q) : gx_la D B U := h
def gx_lm (D : gx_D) (A : Nat → Prop) (U : State) : Prop := va_Mi "[Ljava/lang/Object;" (D.2.2 5) U ∧ gx_la D A U
def gx_U (D : gx_D) (A : Nat → Prop) (U : State) : Prop :=
  va_K D.1 gx_cl (gx_tys D) U ∧ (∀ w ∈ lw_tbl, gx_wk w = true → va_Nw w U) ∧
  (∀ (C : String) (x y : MethodName), Cond.declares x ∈ lw_tbl → Cond.interfaceMethod x.cls x.cls x.name x.desc ∈ lw_tbl → Cond.publicMethod y ∈ lw_tbl → Cond.unhidden C x.name x.desc ∈ lw_tbl → Cond.castable C x.cls ∈ lw_tbl → gx_MH x.cls → va_Fw C x y U) ∧
  (∀ C : String, Cond.arrayOver (.object C) ∈ lw_tbl → va_AO C U) ∧ (∀ x ∈ gx_nc, va_Nc x.1 x.2 U) ∧
  (∀ z ∈ gx_zs D, va_Z z.1 z.2.1 z.2.2.1 z.2.2.2 A U U.heap) ∧ (∀ z ∈ gx_ss D, vk_R z.1 z.2.1 z.2.2.1 z.2.2.2 U) ∧
  vx_Zq Bundle.tN "UNASSIGNED_STACK" Bundle.steD A U U.heap ∧ vx_Zq Bundle.tN "SUPPRESSED_SENTINEL" Bundle.listD A U U.heap ∧ gx_lm D A U
theorem gx_U.on {D : gx_D} {A B : Nat → Prop} {s U : State} (h : gx_U D A s) (hW : s.WarmedH U.vm) (hq : ∀ q : Nat, q < s.heap.size → ¬ A q → U.heap[q]? = s.heap[q]?) (hAB : ∀ q, B q → A q) : gx_U D B U := by
  obtain ⟨h1, h2, h3, h4, h5, h6, h7, h8, h9, h10⟩ := h
  have ha := hW.alike
  refine ⟨va_K.moved ha h1, fun w hw hk => gx_wk_warm hk hW (h2 w hw hk), fun C x y a1 a2 a3 a4 a5 a6 => va_Fw.moved a6 ha (h3 C x y a1 a2 a3 a4 a5 a6), fun C hC => va_AO.moved ha (h4 C hC), fun x hx => va_Nc.moved ha (h5 x hx), fun z hz => ?_, fun z hz => vk_R.warm hW (h7 z hz), ?_, ?_, va_Mi.moved ha h10.1, h10.2.on hW hq hAB⟩
  · exact va_Z.narrow (va_Z.moved ha ((h6 z hz).kept hq)) hAB
  · exact vx_Zq.narrow (vx_Zq.moved ha (h8.kept hq)) hAB
  · exact vx_Zq.narrow (vx_Zq.moved ha (h9.kept hq)) hAB
-- ===== a method's start; its contract =====
def gx_st (D : gx_D) (A : Nat → Prop) (T G : gx_H) (nx : Nat) (U : State) : Prop :=
  U.heap.size = nx ∧ gx_R D G U.heap ∧ (∀ a e, T a e → gx_aw D U U.heap a e) ∧ (∀ a e, T a e → ¬ A a) ∧ gx_U D A U
/-- which cells a method may change: those named, and the new ones -/
def gx_A (M : Nat → Prop) (nx : Nat) : Nat → Prop := fun q => M q ∨ nx ≤ q
def gx_Qc (D : gx_D) (A : Nat → Prop) (Po : Option Value → gx_H → Nat → Prop) : Array Value → State → Outcome → State → Prop := fun _ st o t => (∃ v, o = .returned v ∧ Po v (gx_at D t.heap) t.heap.size) ∧ va_F A st t
def gx_Xc (D : gx_D) (A : Nat → Prop) (Px : String → Nat → gx_H → Nat → Prop) : String → Addr → State → State → Prop := fun E q st t => Px E q (gx_at D t.heap) t.heap.size ∧ va_F A st t
abbrev gx_rm (h mc ms : Nat) : Room := { frames := h, cells := mc, slots := ms, locals := 100 * h + 100 }
def gx_Met (l : Launch) (y : MethodName) (ws : List Cond) (h mc ms : Nat) (D : gx_D) (M : Nat → Prop) (T G : gx_H) (nx : Nat) (av : List Value) (Po : Option Value → gx_H → Nat → Prop) (Px : String → Nat → gx_H → Nat → Prop) : Prop :=
  l.stackTraces = false → vx_Met l y ws (gx_rm h mc ms) (va_Pc av (fun U => gx_st D (gx_A M nx) T G nx U)) (gx_Qc D (gx_A M nx) Po) (gx_Xc D (gx_A M nx) Px) mc ms (gx_A M nx)
def gx_no : String → Nat → gx_H → Nat → Prop := fun _ _ _ _ => False
def gx_M0 : Nat → Prop := fun _ => False
def gx_le (G G' : gx_H) : Prop := ∀ a e, G a e → G' a e
/-- what stays the same in a method -/
def gx_C (p : Program) (l : Launch) (s : State) (m : MethodId) (args : Array Value) (meth : Method) (c : Code) (D : gx_D) (A : Nat → Prop) (T : gx_H) (cc : ByteArray) (nL : Nat) (ret : Option FieldType) (own mn : String) (tb : List ExceptionTableEntry) : Prop :=
  p.tables.exec = Jvm.exec ∧ c.code = cc ∧ c.maxLocals = nL ∧ meth.sig.returnType = ret ∧ meth.locks = false ∧ s.vm.findClass own = some m.cls ∧ (∀ w ∈ lw_all, w.before args s = true) ∧ l.stackTraces = false ∧ gx_U D A s ∧ (∀ q, s.heap.size ≤ q → A q) ∧ (∀ a e, T a e → gx_aw D s s.heap a e) ∧ (∀ a e, T a e → ¬ A a) ∧ meth.name = mn ∧ c.exceptionTable.toList = tb
section GXC
variable {p : Program} {l : Launch} {s : State} {m : MethodId} {args : Array Value} {meth : Method} {c : Code} {D : gx_D} {A : Nat → Prop} {T : gx_H} {cc : ByteArray} {nL : Nat} {ret : Option FieldType} {own mn : String} {tb : List ExceptionTableEntry}
theorem gx_C.ex (h : gx_C p l s m args meth c D A T cc nL ret own mn tb) : p.tables.exec = Jvm.exec := h.1
theorem gx_C.cb (h : gx_C p l s m args meth c D A T cc nL ret own mn tb) : c.code = cc := h.2.1
theorem gx_C.ml (h : gx_C p l s m args meth c D A T cc nL ret own mn tb) : c.maxLocals = nL := h.2.2.1
theorem gx_C.rt (h : gx_C p l s m args meth c D A T cc nL ret own mn tb) : meth.sig.returnType = ret := h.2.2.2.1
theorem gx_C.lo (h : gx_C p l s m args meth c D A T cc nL ret own mn tb) : meth.locks = false := h.2.2.2.2.1
theorem gx_C.ow (h : gx_C p l s m args meth c D A T cc nL ret own mn tb) : s.vm.findClass own = some m.cls := h.2.2.2.2.2.1
theorem gx_C.ts (h : gx_C p l s m args meth c D A T cc nL ret own mn tb) : ∀ w ∈ lw_all, w.before args s = true := h.2.2.2.2.2.2.1
theorem gx_C.tr (h : gx_C p l s m args meth c D A T cc nL ret own mn tb) : l.stackTraces = false := h.2.2.2.2.2.2.2.1
theorem gx_C.u (h : gx_C p l s m args meth c D A T cc nL ret own mn tb) : gx_U D A s := h.2.2.2.2.2.2.2.2.1
theorem gx_C.hA (h : gx_C p l s m args meth c D A T cc nL ret own mn tb) : ∀ q, s.heap.size ≤ q → A q := h.2.2.2.2.2.2.2.2.2.1
theorem gx_C.hT (h : gx_C p l s m args meth c D A T cc nL ret own mn tb) : ∀ a e, T a e → gx_aw D s s.heap a e := h.2.2.2.2.2.2.2.2.2.2.1
theorem gx_C.TA (h : gx_C p l s m args meth c D A T cc nL ret own mn tb) : ∀ a e, T a e → ¬ A a := h.2.2.2.2.2.2.2.2.2.2.2.1
theorem gx_C.nm (h : gx_C p l s m args meth c D A T cc nL ret own mn tb) : meth.name = mn := h.2.2.2.2.2.2.2.2.2.2.2.2.1
theorem gx_C.xt (h : gx_C p l s m args meth c D A T cc nL ret own mn tb) : c.exceptionTable.toList = tb := h.2.2.2.2.2.2.2.2.2.2.2.2.2
theorem gx_C.K (h : gx_C p l s m args meth c D A T cc nL ret own mn tb) : va_K D.1 gx_cl (gx_tys D) s := h.u.1
theorem gx_C.nw (h : gx_C p l s m args meth c D A T cc nL ret own mn tb) {w : Cond} (hw : w ∈ lw_tbl) (hk : gx_wk w = true) : va_Nw w s := h.u.2.1 w hw hk
theorem gx_rd {G : gx_H} {H : Heap} {locs : List Loc} {a : Nat} {e : gx_E} (h : gx_C p l s m args meth c D A T cc nL ret own mn tb) (hR : gx_R D G H) (hS : va_S A s.heap H locs) (hG : T a e ∨ G a e) : gx_aw D s H a e := by
  rcases hG with hG | hG
  · exact (h.hT a e hG).kept (hS.2.1 a (h.hT a e hG).lt (h.TA a e hG))
  · exact (hR a e hG).w h.K
end GXC
def gx_X (p : Program) (l : Launch) (e : Env) (R : Room) (s : State) (m : MethodId) (args : Array Value) (below : List Frame) (meth : Method) (c : Code) (Q : State → Prop) (D : gx_D) (A : Nat → Prop) (G : gx_H) (nx bc bs pc : Nat) (L : List (Nat × Option Value)) (S : List Value) : Prop :=
  ∀ (H : Heap) (locs : List Loc) (ls : Array Slot) (cells slots : Nat), gx_R D G H → H.size = nx → va_S A s.heap H locs → gx_L ls c.maxLocals L → cells + bc ≤ R.cells → slots + bs ≤ R.slots → W p l e R s m args below meth c H locs cells slots Q (F0 m pc ls S)
/-- q, of class E, is thrown here -/
def gx_XX (p : Program) (l : Launch) (e : Env) (R : Room) (s : State) (m : MethodId) (args : Array Value) (below : List Frame) (meth : Method) (c : Code) (Q : State → Prop) (D : gx_D) (A : Nat → Prop) (E : String) (q : Nat) (G : gx_H) (nx bc bs pc : Nat) (L : List (Nat × Option Value)) (S : List Value) : Prop :=
  ∀ (H : Heap) (locs : List Loc) (ls : Array Slot) (cells slots : Nat), gx_R D G H → H.size = nx → va_S A s.heap H locs → gx_L ls c.maxLocals L → cells + bc ≤ R.cells → slots + bs ≤ R.slots → (∃ ce : Cell, H[q]? = some ce ∧ ce.vm = .none ∧ s.vm.findClass E = some ce.cls) → vx_W p l e R s m args below meth c H locs cells slots Q (F0 m pc ls S) q
def gx_QQ (below : List Frame) (D : gx_D) (A : Nat → Prop) (Po : Option Value → gx_H → Nat → Prop) (Px : String → Nat → gx_H → Nat → Prop) (a : Array Value) (s : State) (mc ms : Nat) : State → Prop := vx_MQ below (gx_Qc D A Po) (gx_Xc D A Px) a s mc ms A

section GXR
variable {p : Program} {l : Launch} {e : Env} {R : Room} {s : State} {m : MethodId} {args : Array Value} {below : List Frame} {meth : Method} {c : Code} {Q : State → Prop} {D : gx_D} {A : Nat → Prop} {T : gx_H} {cc : ByteArray} {nL : Nat} {ret : Option FieldType} {own mn : String} {tb : List ExceptionTableEntry} {G : gx_H} {nx bc bs pc : Nat} {L : List (Nat × Option Value)} {S : List Value}
theorem gx_bud {bc' bs' : Nat} (h1 : bc' ≤ bc) (h2 : bs' ≤ bs) (n : gx_X p l e R s m args below meth c Q D A G nx bc' bs' pc L S) : gx_X p l e R s m args below meth c Q D A G nx bc bs pc L S :=
  fun H locs ls cells slots hR hz hS hL hc hs => n H locs ls cells slots hR hz hS hL (by omega) (by omega)
theorem gx_loc {M : List (Nat × Option Value)} (h : gx_al L M) (n : gx_X p l e R s m args below meth c Q D A G nx bc bs pc M S) : gx_X p l e R s m args below meth c Q D A G nx bc bs pc L S :=
  fun H locs ls cells slots hR hz hS hL hc hs => n H locs ls cells slots hR hz hS (hL.sub h) hc hs
theorem gx_wk2 {G' : gx_H} (h : gx_le G' G) (n : gx_X p l e R s m args below meth c Q D A G' nx bc bs pc L S) : gx_X p l e R s m args below meth c Q D A G nx bc bs pc L S :=
  fun H locs ls cells slots hR hz hS hL hc hs => n H locs ls cells slots (fun a x h9 => hR a x (h a x h9)) hz hS hL hc hs
/-- facts of the cells, as far as the heap goes -/
theorem gx_lt (n : (∀ a x, G a x → a < nx) → gx_X p l e R s m args below meth c Q D A G nx bc bs pc L S) : gx_X p l e R s m args below meth c Q D A G nx bc bs pc L S :=
  fun H locs ls cells slots hR hz hS hL hc hs => n (fun a x h9 => by rw [← hz]; exact (hR a x h9).lt) H locs ls cells slots hR hz hS hL hc hs
theorem gx_eqS {S' : List Value} (h : S = S') (n : gx_X p l e R s m args below meth c Q D A G nx bc bs pc L S') : gx_X p l e R s m args below meth c Q D A G nx bc bs pc L S := h ▸ n
theorem gx_eqp {pc' : Nat} (h : pc = pc') (n : gx_X p l e R s m args below meth c Q D A G nx bc bs pc' L S) : gx_X p l e R s m args below meth c Q D A G nx bc bs pc L S := h ▸ n
def gx_isr : Value → Bool
  | .ref _ => true
  | .null => true
  | _ => false
theorem gx_isr_rf (r : Option Nat) : gx_isr (va_rf r) = true := by cases r <;> rfl
theorem gx_cat_rf (r : Option Nat) : (va_rf r).category = 1 := by cases r <;> rfl
theorem gx_isr_cat {v : Value} (h : gx_isr v = true) : v.category = 1 := by cases v <;> first | rfl | cases h
theorem gx_isr_o {v : Value} (h : gx_isr v = true) : ∃ r, v = va_rf r := by
  cases v with
  | ref a => exact ⟨some a, rfl⟩
  | null => exact ⟨none, rfl⟩
  | _ => cases h
theorem gx_iconst (hC : gx_C p l s m args meth c D A T cc nL ret own mn tb) {z : Int} (d : decode cc pc = .ok (.iconst z, 1)) (n : gx_X p l e R s m args below meth c Q D A G nx bc bs (pc + 1) L (.int (iz z) :: S)) : gx_X p l e R s m args below meth c Q D A G nx bc bs pc L S := by
  intro H locs ls cells slots hR hz hS hL hc hs
  exact lv_iconst hC.ex hC.cb d rfl (n H locs ls cells slots hR hz hS hL hc hs)
theorem gx_bipush (hC : gx_C p l s m args meth c D A T cc nL ret own mn tb) {z : Int} (d : decode cc pc = .ok (.bipush z, 2)) (hv : (Int8.ofInt z).toInt32 = iz z) (n : gx_X p l e R s m args below meth c Q D A G nx bc bs (pc + 2) L (.int (iz z) :: S)) : gx_X p l e R s m args below meth c Q D A G nx bc bs pc L S := by
  intro H locs ls cells slots hR hz hS hL hc hs
  exact lv_bipush hC.ex hC.cb d hv (n H locs ls cells slots hR hz hS hL hc hs)
theorem gx_sipush (hC : gx_C p l s m args meth c D A T cc nL ret own mn tb) {z : Int} (d : decode cc pc = .ok (.sipush z, 3)) (hv : (Int16.ofInt z).toInt32 = iz z) (n : gx_X p l e R s m args below meth c Q D A G nx bc bs (pc + 3) L (.int (iz z) :: S)) : gx_X p l e R s m args below meth c Q D A G nx bc bs pc L S := by
  intro H locs ls cells slots hR hz hS hL hc hs
  exact lv_sipush hC.ex hC.cb d hv (n H locs ls cells slots hR hz hS hL hc hs)
theorem gx_lconst (hC : gx_C p l s m args meth c D A T cc nL ret own mn tb) {k : Fin 2} {v : Int64} (d : decode cc pc = .ok (.lconst k, 1)) (hv : Int64.ofNat (k : Nat) = v) (n : gx_X p l e R s m args below meth c Q D A G nx bc bs (pc + 1) L (.long v :: S)) : gx_X p l e R s m args below meth c Q D A G nx bc bs pc L S := by
  intro H locs ls cells slots hR hz hS hL hc hs
  exact lv_lconst hC.ex hC.cb d hv (n H locs ls cells slots hR hz hS hL hc hs)
theorem gx_null (hC : gx_C p l s m args meth c D A T cc nL ret own mn tb) (d : decode cc pc = .ok (.aconst_null, 1)) (n : gx_X p l e R s m args below meth c Q D A G nx bc bs (pc + 1) L (.null :: S)) : gx_X p l e R s m args below meth c Q D A G nx bc bs pc L S := by
  intro H locs ls cells slots hR hz hS hL hc hs
  exact lv_null hC.ex hC.cb d (n H locs ls cells slots hR hz hS hL hc hs)
theorem gx_fconst0 (hC : gx_C p l s m args meth c D A T cc nL ret own mn tb) (d : decode cc pc = .ok (.fconst 0, 1)) (n : gx_X p l e R s m args below meth c Q D A G nx bc bs (pc + 1) L (.float 0 :: S)) : gx_X p l e R s m args below meth c Q D A G nx bc bs pc L S := by
  intro H locs ls cells slots hR hz hS hL hc hs
  exact lv_fconst0 hC.ex hC.cb d (n H locs ls cells slots hR hz hS hL hc hs)
theorem gx_ldc (hC : gx_C p l s m args meth c D A T cc nL ret own mn tb) {idx : Nat} {v : Int32} {z : Int} (hk : Cond.constant own idx v ∈ lw_all) (hv : v = iz z) (d : decode cc pc = .ok (.ldc idx, 2)) (n : gx_X p l e R s m args below meth c Q D A G nx bc bs (pc + 2) L (.int (iz z) :: S)) : gx_X p l e R s m args below meth c Q D A G nx bc bs pc L S := by
  intro H locs ls cells slots hR hz hS hL hc hs
  subst hv
  exact lv_ldc hC.ex hC.cb hC.ow (hC.ts _ hk) d (n H locs ls cells slots hR hz hS hL hc hs)
theorem gx_ldc2d (hC : gx_C p l s m args meth c D A T cc nL ret own mn tb) {idx : Nat} {v : UInt64} (hk : Cond.constantDouble own idx v ∈ lw_all) (d : decode cc pc = .ok (.ldc2_w idx, 3)) (n : gx_X p l e R s m args below meth c Q D A G nx bc bs (pc + 3) L (.double v :: S)) : gx_X p l e R s m args below meth c Q D A G nx bc bs pc L S := by
  intro H locs ls cells slots hR hz hS hL hc hs
  exact lv_ldc2d hC.ex hC.cb hC.ow (hC.ts _ hk) d (n H locs ls cells slots hR hz hS hL hc hs)
theorem gx_iload_n (hC : gx_C p l s m args meth c D A T cc nL ret own mn tb) {k : Fin 4} {i : Nat} {x : Int32} (d : decode cc pc = .ok (.iload_n k, 1)) (hi : (k : Nat) = i) (hl : gx_lk L i = some (some (.int x))) (n : gx_X p l e R s m args below meth c Q D A G nx bc bs (pc + 1) L (.int x :: S)) : gx_X p l e R s m args below meth c Q D A G nx bc bs pc L S := by
  intro H locs ls cells slots hR hz hS hL hc hs
  exact lv_iload_n hC.ex hC.cb d hi (hL.2.2 i _ hl) (n H locs ls cells slots hR hz hS hL hc hs)
theorem gx_iload (hC : gx_C p l s m args meth c D A T cc nL ret own mn tb) {i : Nat} {x : Int32} (d : decode cc pc = .ok (.iload i, 2)) (hl : gx_lk L i = some (some (.int x))) (n : gx_X p l e R s m args below meth c Q D A G nx bc bs (pc + 2) L (.int x :: S)) : gx_X p l e R s m args below meth c Q D A G nx bc bs pc L S := by
  intro H locs ls cells slots hR hz hS hL hc hs
  exact lv_iload hC.ex hC.cb d (hL.2.2 i _ hl) (n H locs ls cells slots hR hz hS hL hc hs)
theorem gx_fload_n (hC : gx_C p l s m args meth c D A T cc nL ret own mn tb) {k : Fin 4} {i : Nat} {x : UInt32} (d : decode cc pc = .ok (.fload_n k, 1)) (hi : (k : Nat) = i) (hl : gx_lk L i = some (some (.float x))) (n : gx_X p l e R s m args below meth c Q D A G nx bc bs (pc + 1) L (.float x :: S)) : gx_X p l e R s m args below meth c Q D A G nx bc bs pc L S := by
  intro H locs ls cells slots hR hz hS hL hc hs
  exact lv_fload_n hC.ex hC.cb d hi (hL.2.2 i _ hl) (n H locs ls cells slots hR hz hS hL hc hs)
theorem gx_fload (hC : gx_C p l s m args meth c D A T cc nL ret own mn tb) {i : Nat} {x : UInt32} (d : decode cc pc = .ok (.fload i, 2)) (hl : gx_lk L i = some (some (.float x))) (n : gx_X p l e R s m args below meth c Q D A G nx bc bs (pc + 2) L (.float x :: S)) : gx_X p l e R s m args below meth c Q D A G nx bc bs pc L S := by
  intro H locs ls cells slots hR hz hS hL hc hs
  exact lv_fload hC.ex hC.cb d (hL.2.2 i _ hl) (n H locs ls cells slots hR hz hS hL hc hs)
theorem gx_dload_n (hC : gx_C p l s m args meth c D A T cc nL ret own mn tb) {k : Fin 4} {i : Nat} {x : UInt64} (d : decode cc pc = .ok (.dload_n k, 1)) (hi : (k : Nat) = i) (hl : gx_lk L i = some (some (.double x))) (n : gx_X p l e R s m args below meth c Q D A G nx bc bs (pc + 1) L (.double x :: S)) : gx_X p l e R s m args below meth c Q D A G nx bc bs pc L S := by
  intro H locs ls cells slots hR hz hS hL hc hs
  exact lv_dload_n hC.ex hC.cb d hi (hL.2.2 i _ hl) (n H locs ls cells slots hR hz hS hL hc hs)
theorem gx_dload (hC : gx_C p l s m args meth c D A T cc nL ret own mn tb) {i : Nat} {x : UInt64} (d : decode cc pc = .ok (.dload i, 2)) (hl : gx_lk L i = some (some (.double x))) (n : gx_X p l e R s m args below meth c Q D A G nx bc bs (pc + 2) L (.double x :: S)) : gx_X p l e R s m args below meth c Q D A G nx bc bs pc L S := by
  intro H locs ls cells slots hR hz hS hL hc hs
  exact lv_dload hC.ex hC.cb d (hL.2.2 i _ hl) (n H locs ls cells slots hR hz hS hL hc hs)
theorem gx_aload_n (hC : gx_C p l s m args meth c D A T cc nL ret own mn tb) {k : Fin 4} {i : Nat} {v : Value} (d : decode cc pc = .ok (.aload_n k, 1)) (hi : (k : Nat) = i) (hl : gx_lk L i = some (some v)) (hv : gx_isr v = true) (n : gx_X p l e R s m args below meth c Q D A G nx bc bs (pc + 1) L (v :: S)) : gx_X p l e R s m args below meth c Q D A G nx bc bs pc L S := by
  intro H locs ls cells slots hR hz hS hL hc hs
  obtain ⟨r, rfl⟩ := gx_isr_o hv
  cases r with
  | none => exact lv_aload_nN hC.ex hC.cb d hi (hL.2.2 i _ hl) (n H locs ls cells slots hR hz hS hL hc hs)
  | some a => exact lv_aload_n hC.ex hC.cb d hi (hL.2.2 i _ hl) (n H locs ls cells slots hR hz hS hL hc hs)
theorem gx_aload (hC : gx_C p l s m args meth c D A T cc nL ret own mn tb) {i : Nat} {v : Value} (d : decode cc pc = .ok (.aload i, 2)) (hl : gx_lk L i = some (some v)) (hv : gx_isr v = true) (n : gx_X p l e R s m args below meth c Q D A G nx bc bs (pc + 2) L (v :: S)) : gx_X p l e R s m args below meth c Q D A G nx bc bs pc L S := by
  intro H locs ls cells slots hR hz hS hL hc hs
  obtain ⟨r, rfl⟩ := gx_isr_o hv
  cases r with
  | none => exact lv_aloadN hC.ex hC.cb d (hL.2.2 i _ hl) (n H locs ls cells slots hR hz hS hL hc hs)
  | some a => exact lv_aload hC.ex hC.cb d (hL.2.2 i _ hl) (n H locs ls cells slots hR hz hS hL hc hs)
theorem gx_istore_n (hC : gx_C p l s m args meth c D A T cc nL ret own mn tb) {k : Fin 4} {i : Nat} {x : Int32} (d : decode cc pc = .ok (.istore_n k, 1)) (hi : (k : Nat) = i) (hn : i < nL) (hck : gx_ck L i = true) (n : gx_X p l e R s m args below meth c Q D A G nx bc bs (pc + 1) ((i, some (.int x)) :: L) S) : gx_X p l e R s m args below meth c Q D A G nx bc bs pc L (.int x :: S) := by
  intro H locs ls cells slots hR hz hS hL hc hs
  exact lv_istore_n hC.ex hC.cb d hi (gx_as_has hL) (by rw [hC.ml]; exact hn) rfl (fun ls hL1 => n H locs ls cells slots hR hz hS (gx_L.st1 hck hL1) hc hs)
theorem gx_istore (hC : gx_C p l s m args meth c D A T cc nL ret own mn tb) {i : Nat} {x : Int32} (d : decode cc pc = .ok (.istore i, 2)) (hn : i < nL) (hck : gx_ck L i = true) (n : gx_X p l e R s m args below meth c Q D A G nx bc bs (pc + 2) ((i, some (.int x)) :: L) S) : gx_X p l e R s m args below meth c Q D A G nx bc bs pc L (.int x :: S) := by
  intro H locs ls cells slots hR hz hS hL hc hs
  exact lv_istore hC.ex hC.cb d (gx_as_has hL) (by rw [hC.ml]; exact hn) rfl (fun ls hL1 => n H locs ls cells slots hR hz hS (gx_L.st1 hck hL1) hc hs)
theorem gx_fstore_n (hC : gx_C p l s m args meth c D A T cc nL ret own mn tb) {k : Fin 4} {i : Nat} {x : UInt32} (d : decode cc pc = .ok (.fstore_n k, 1)) (hi : (k : Nat) = i) (hn : i < nL) (hck : gx_ck L i = true) (n : gx_X p l e R s m args below meth c Q D A G nx bc bs (pc + 1) ((i, some (.float x)) :: L) S) : gx_X p l e R s m args below meth c Q D A G nx bc bs pc L (.float x :: S) := by
  intro H locs ls cells slots hR hz hS hL hc hs
  exact lv_fstore_n hC.ex hC.cb d hi (gx_as_has hL) (by rw [hC.ml]; exact hn) rfl (fun ls hL1 => n H locs ls cells slots hR hz hS (gx_L.st1 hck hL1) hc hs)
theorem gx_fstore (hC : gx_C p l s m args meth c D A T cc nL ret own mn tb) {i : Nat} {x : UInt32} (d : decode cc pc = .ok (.fstore i, 2)) (hn : i < nL) (hck : gx_ck L i = true) (n : gx_X p l e R s m args below meth c Q D A G nx bc bs (pc + 2) ((i, some (.float x)) :: L) S) : gx_X p l e R s m args below meth c Q D A G nx bc bs pc L (.float x :: S) := by
  intro H locs ls cells slots hR hz hS hL hc hs
  exact lv_fstore hC.ex hC.cb d (gx_as_has hL) (by rw [hC.ml]; exact hn) rfl (fun ls hL1 => n H locs ls cells slots hR hz hS (gx_L.st1 hck hL1) hc hs)
theorem gx_dstore (hC : gx_C p l s m args meth c D A T cc nL ret own mn tb) {i : Nat} {x : UInt64} (d : decode cc pc = .ok (.dstore i, 2)) (hn : i + 1 < nL) (hck : gx_ck L i = true) (n : gx_X p l e R s m args below meth c Q D A G nx bc bs (pc + 2) ((i, some (.double x)) :: (i + 1, none) :: L) S) : gx_X p l e R s m args below meth c Q D A G nx bc bs pc L (.double x :: S) := by
  intro H locs ls cells slots hR hz hS hL hc hs
  exact lv_dstore hC.ex hC.cb d (gx_as_has hL) (by rw [hC.ml]; exact hn) rfl (fun ls hL1 => n H locs ls cells slots hR hz hS (gx_L.st2 hck hL1) hc hs)
theorem gx_astore_n (hC : gx_C p l s m args meth c D A T cc nL ret own mn tb) {k : Fin 4} {i : Nat} {v : Value} (d : decode cc pc = .ok (.astore_n k, 1)) (hi : (k : Nat) = i) (hn : i < nL) (hck : gx_ck L i = true) (hv : gx_isr v = true) (n : gx_X p l e R s m args below meth c Q D A G nx bc bs (pc + 1) ((i, some v) :: L) S) : gx_X p l e R s m args below meth c Q D A G nx bc bs pc L (v :: S) := by
  intro H locs ls cells slots hR hz hS hL hc hs
  obtain ⟨r, rfl⟩ := gx_isr_o hv
  cases r with
  | none => exact lv_astore_nN hC.ex hC.cb d hi (gx_as_has hL) (by rw [hC.ml]; exact hn) rfl (fun ls hL1 => n H locs ls cells slots hR hz hS (gx_L.st1 hck hL1) hc hs)
  | some a => exact lv_astore_n hC.ex hC.cb d hi (gx_as_has hL) (by rw [hC.ml]; exact hn) rfl (fun ls hL1 => n H locs ls cells slots hR hz hS (gx_L.st1 hck hL1) hc hs)
theorem gx_astore (hC : gx_C p l s m args meth c D A T cc nL ret own mn tb) {i : Nat} {v : Value} (d : decode cc pc = .ok (.astore i, 2)) (hn : i < nL) (hck : gx_ck L i = true) (hv : gx_isr v = true) (n : gx_X p l e R s m args below meth c Q D A G nx bc bs (pc + 2) ((i, some v) :: L) S) : gx_X p l e R s m args below meth c Q D A G nx bc bs pc L (v :: S) := by
  intro H locs ls cells slots hR hz hS hL hc hs
  obtain ⟨r, rfl⟩ := gx_isr_o hv
  cases r with
  | none => exact lv_astoreN hC.ex hC.cb d (gx_as_has hL) (by rw [hC.ml]; exact hn) rfl (fun ls hL1 => n H locs ls cells slots hR hz hS (gx_L.st1 hck hL1) hc hs)
  | some a => exact lv_astore hC.ex hC.cb d (gx_as_has hL) (by rw [hC.ml]; exact hn) rfl (fun ls hL1 => n H locs ls cells slots hR hz hS (gx_L.st1 hck hL1) hc hs)
theorem gx_idx {α : Type} {l : List α} {x : α} (h : x ∈ l) : ∃ k : Nat, l[k]? = some x := List.getElem?_of_mem h
theorem gx_iinc (hC : gx_C p l s m args meth c D A T cc nL ret own mn tb) {i : Nat} {z x : Int} (d : decode cc pc = .ok (.iinc i z, 3)) (hl : gx_lk L i = some (some (.int (iz x)))) (hn : i < nL) (hck : gx_ck L i = true) (n : gx_X p l e R s m args below meth c Q D A G nx bc bs (pc + 3) ((i, some (.int (iz (x + z)))) :: L) S) : gx_X p l e R s m args below meth c Q D A G nx bc bs pc L S := by
  intro H locs ls cells slots hR hz hS hL hc hs
  obtain ⟨k, hk⟩ := gx_idx (gx_as_mem hl)
  exact lv_iinc hC.ex hC.cb d (gx_as_has hL) hk (iz_add x z) (by rw [hC.ml]; exact hn) rfl (fun ls hL1 => n H locs ls cells slots hR hz hS (gx_L.st1 hck hL1) hc hs)
theorem gx_iadd (hC : gx_C p l s m args meth c D A T cc nL ret own mn tb) {x y : Int} (d : decode cc pc = .ok (.iadd, 1)) (n : gx_X p l e R s m args below meth c Q D A G nx bc bs (pc + 1) L (.int (iz (x + y)) :: S)) : gx_X p l e R s m args below meth c Q D A G nx bc bs pc L (.int (iz y) :: .int (iz x) :: S) := by
  intro H locs ls cells slots hR hz hS hL hc hs
  refine lv_iadd hC.ex hC.cb d ?_
  rw [iz_add]
  exact n H locs ls cells slots hR hz hS hL hc hs
theorem gx_isub (hC : gx_C p l s m args meth c D A T cc nL ret own mn tb) {x y : Int} (d : decode cc pc = .ok (.isub, 1)) (n : gx_X p l e R s m args below meth c Q D A G nx bc bs (pc + 1) L (.int (iz (x - y)) :: S)) : gx_X p l e R s m args below meth c Q D A G nx bc bs pc L (.int (iz y) :: .int (iz x) :: S) := by
  intro H locs ls cells slots hR hz hS hL hc hs
  refine lv_isub hC.ex hC.cb d ?_
  rw [iz_sub]
  exact n H locs ls cells slots hR hz hS hL hc hs
theorem gx_imul (hC : gx_C p l s m args meth c D A T cc nL ret own mn tb) {x y : Int} (d : decode cc pc = .ok (.imul, 1)) (n : gx_X p l e R s m args below meth c Q D A G nx bc bs (pc + 1) L (.int (iz (x * y)) :: S)) : gx_X p l e R s m args below meth c Q D A G nx bc bs pc L (.int (iz y) :: .int (iz x) :: S) := by
  intro H locs ls cells slots hR hz hS hL hc hs
  refine lv_imul hC.ex hC.cb d ?_
  rw [iz_mul]
  exact n H locs ls cells slots hR hz hS hL hc hs
theorem gx_iand (hC : gx_C p l s m args meth c D A T cc nL ret own mn tb) {x y : Int32} {z : Int} (d : decode cc pc = .ok (.iand, 1)) (hv : x &&& y = iz z) (n : gx_X p l e R s m args below meth c Q D A G nx bc bs (pc + 1) L (.int (iz z) :: S)) : gx_X p l e R s m args below meth c Q D A G nx bc bs pc L (.int y :: .int x :: S) := by
  intro H locs ls cells slots hR hz hS hL hc hs
  refine lv_iand hC.ex hC.cb d ?_
  rw [hv]
  exact n H locs ls cells slots hR hz hS hL hc hs
theorem gx_ior (hC : gx_C p l s m args meth c D A T cc nL ret own mn tb) {x y : Int32} {z : Int} (d : decode cc pc = .ok (.ior, 1)) (hv : x ||| y = iz z) (n : gx_X p l e R s m args below meth c Q D A G nx bc bs (pc + 1) L (.int (iz z) :: S)) : gx_X p l e R s m args below meth c Q D A G nx bc bs pc L (.int y :: .int x :: S) := by
  intro H locs ls cells slots hR hz hS hL hc hs
  refine lv_ior hC.ex hC.cb d ?_
  rw [hv]
  exact n H locs ls cells slots hR hz hS hL hc hs
theorem gx_ineg (hC : gx_C p l s m args meth c D A T cc nL ret own mn tb) {x : Int} (d : decode cc pc = .ok (.ineg, 1)) (n : gx_X p l e R s m args below meth c Q D A G nx bc bs (pc + 1) L (.int (iz (-x)) :: S)) : gx_X p l e R s m args below meth c Q D A G nx bc bs pc L (.int (iz x) :: S) := by
  intro H locs ls cells slots hR hz hS hL hc hs
  refine lv_ineg hC.ex hC.cb d ?_
  rw [show -(iz x) = iz (-x) from (Int32.ofInt_neg x).symm]
  exact n H locs ls cells slots hR hz hS hL hc hs
theorem gx_ishr (hC : gx_C p l s m args meth c D A T cc nL ret own mn tb) {x y : Int32} {z : Int} (d : decode cc pc = .ok (.ishr, 1)) (hv : x >>> (y &&& 31) = iz z) (n : gx_X p l e R s m args below meth c Q D A G nx bc bs (pc + 1) L (.int (iz z) :: S)) : gx_X p l e R s m args below meth c Q D A G nx bc bs pc L (.int y :: .int x :: S) := by
  intro H locs ls cells slots hR hz hS hL hc hs
  refine lv_ishr hC.ex hC.cb d ?_
  rw [hv]
  exact n H locs ls cells slots hR hz hS hL hc hs
theorem gx_i2l (hC : gx_C p l s m args meth c D A T cc nL ret own mn tb) {x : Int32} {v : Int64} (d : decode cc pc = .ok (.i2l, 1)) (hv : x.toInt64 = v) (n : gx_X p l e R s m args below meth c Q D A G nx bc bs (pc + 1) L (.long v :: S)) : gx_X p l e R s m args below meth c Q D A G nx bc bs pc L (.int x :: S) := by
  intro H locs ls cells slots hR hz hS hL hc hs
  exact lv_i2l hC.ex hC.cb d hv (n H locs ls cells slots hR hz hS hL hc hs)
theorem gx_i2c (hC : gx_C p l s m args meth c D A T cc nL ret own mn tb) {x : Int32} {z : Int} (d : decode cc pc = .ok (.i2c, 1)) (hv : (x.toUInt32 % 65536).toInt32 = iz z) (n : gx_X p l e R s m args below meth c Q D A G nx bc bs (pc + 1) L (.int (iz z) :: S)) : gx_X p l e R s m args below meth c Q D A G nx bc bs pc L (.int x :: S) := by
  intro H locs ls cells slots hR hz hS hL hc hs
  exact lv_i2c hC.ex hC.cb d hv (n H locs ls cells slots hR hz hS hL hc hs)
theorem gx_i2b (hC : gx_C p l s m args meth c D A T cc nL ret own mn tb) {x : Int32} {z : Int} (d : decode cc pc = .ok (.i2b, 1)) (hv : x.toInt8.toInt32 = iz z) (n : gx_X p l e R s m args below meth c Q D A G nx bc bs (pc + 1) L (.int (iz z) :: S)) : gx_X p l e R s m args below meth c Q D A G nx bc bs pc L (.int x :: S) := by
  intro H locs ls cells slots hR hz hS hL hc hs
  exact lv_i2b hC.ex hC.cb d hv (n H locs ls cells slots hR hz hS hL hc hs)
theorem gx_i2f (hC : gx_C p l s m args meth c D A T cc nL ret own mn tb) {x : Int32} (d : decode cc pc = .ok (.i2f, 1)) (n : gx_X p l e R s m args below meth c Q D A G nx bc bs (pc + 1) L (.float (FP.i2f x) :: S)) : gx_X p l e R s m args below meth c Q D A G nx bc bs pc L (.int x :: S) := by
  intro H locs ls cells slots hR hz hS hL hc hs
  exact lv_i2f hC.ex hC.cb d (n H locs ls cells slots hR hz hS hL hc hs)
theorem gx_i2d (hC : gx_C p l s m args meth c D A T cc nL ret own mn tb) {x : Int32} (d : decode cc pc = .ok (.i2d, 1)) (n : gx_X p l e R s m args below meth c Q D A G nx bc bs (pc + 1) L (.double (FP.i2d x) :: S)) : gx_X p l e R s m args below meth c Q D A G nx bc bs pc L (.int x :: S) := by
  intro H locs ls cells slots hR hz hS hL hc hs
  exact lv_i2d hC.ex hC.cb d (n H locs ls cells slots hR hz hS hL hc hs)
theorem gx_fdiv (hC : gx_C p l s m args meth c D A T cc nL ret own mn tb) {x y : UInt32} (hne : vf_n32 (FP.fdiv x y)) (d : decode cc pc = .ok (.fdiv, 1)) (n : gx_X p l e R s m args below meth c Q D A G nx bc bs (pc + 1) L (.float (FP.fdiv x y) :: S)) : gx_X p l e R s m args below meth c Q D A G nx bc bs pc L (.float y :: .float x :: S) := by
  intro H locs ls cells slots hR hz hS hL hc hs
  exact lv_fdiv hC.ex hC.cb d hne (n H locs ls cells slots hR hz hS hL hc hs)
theorem gx_ddiv (hC : gx_C p l s m args meth c D A T cc nL ret own mn tb) {x y : UInt64} (hne : vf_n64 (FP.ddiv x y)) (d : decode cc pc = .ok (.ddiv, 1)) (n : gx_X p l e R s m args below meth c Q D A G nx bc bs (pc + 1) L (.double (FP.ddiv x y) :: S)) : gx_X p l e R s m args below meth c Q D A G nx bc bs pc L (.double y :: .double x :: S) := by
  intro H locs ls cells slots hR hz hS hL hc hs
  exact lv_ddiv hC.ex hC.cb d hne (n H locs ls cells slots hR hz hS hL hc hs)
theorem gx_f2d (hC : gx_C p l s m args meth c D A T cc nL ret own mn tb) {x : UInt32} (hne : vf_n64 (FP.f2d x)) (d : decode cc pc = .ok (.f2d, 1)) (n : gx_X p l e R s m args below meth c Q D A G nx bc bs (pc + 1) L (.double (FP.f2d x) :: S)) : gx_X p l e R s m args below meth c Q D A G nx bc bs pc L (.float x :: S) := by
  intro H locs ls cells slots hR hz hS hL hc hs
  exact lv_f2d hC.ex hC.cb d hne (n H locs ls cells slots hR hz hS hL hc hs)
theorem gx_dup (hC : gx_C p l s m args meth c D A T cc nL ret own mn tb) {v : Value} (d : decode cc pc = .ok (.dup, 1)) (hv : v.category = 1) (n : gx_X p l e R s m args below meth c Q D A G nx bc bs (pc + 1) L (v :: v :: S)) : gx_X p l e R s m args below meth c Q D A G nx bc bs pc L (v :: S) := by
  intro H locs ls cells slots hR hz hS hL hc hs
  exact lv_dup hC.ex hC.cb d hv (n H locs ls cells slots hR hz hS hL hc hs)
theorem gx_pop (hC : gx_C p l s m args meth c D A T cc nL ret own mn tb) {v : Value} (d : decode cc pc = .ok (.pop, 1)) (hv : v.category = 1) (n : gx_X p l e R s m args below meth c Q D A G nx bc bs (pc + 1) L S) : gx_X p l e R s m args below meth c Q D A G nx bc bs pc L (v :: S) := by
  intro H locs ls cells slots hR hz hS hL hc hs
  exact lv_pop hC.ex hC.cb d hv (n H locs ls cells slots hR hz hS hL hc hs)
theorem gx_dup_x1 (hC : gx_C p l s m args meth c D A T cc nL ret own mn tb) {v u : Value} (d : decode cc pc = .ok (.dup_x1, 1)) (hv : v.category = 1) (hu : u.category = 1) (n : gx_X p l e R s m args below meth c Q D A G nx bc bs (pc + 1) L (v :: u :: v :: S)) : gx_X p l e R s m args below meth c Q D A G nx bc bs pc L (v :: u :: S) := by
  intro H locs ls cells slots hR hz hS hL hc hs
  exact lv_dup_x1 hC.ex hC.cb d hv hu (n H locs ls cells slots hR hz hS hL hc hs)
theorem gx_dup_x2 (hC : gx_C p l s m args meth c D A T cc nL ret own mn tb) {v u t : Value} (d : decode cc pc = .ok (.dup_x2, 1)) (hv : v.category = 1) (hu : u.category = 1) (ht : t.category = 1) (n : gx_X p l e R s m args below meth c Q D A G nx bc bs (pc + 1) L (v :: u :: t :: v :: S)) : gx_X p l e R s m args below meth c Q D A G nx bc bs pc L (v :: u :: t :: S) := by
  intro H locs ls cells slots hR hz hS hL hc hs
  exact lv_dup_x2 hC.ex hC.cb d hv hu ht (n H locs ls cells slots hR hz hS hL hc hs)
theorem gx_dup2 (hC : gx_C p l s m args meth c D A T cc nL ret own mn tb) {v u : Value} (d : decode cc pc = .ok (.dup2, 1)) (hv : v.category = 1) (hu : u.category = 1) (n : gx_X p l e R s m args below meth c Q D A G nx bc bs (pc + 1) L (v :: u :: v :: u :: S)) : gx_X p l e R s m args below meth c Q D A G nx bc bs pc L (v :: u :: S) := by
  intro H locs ls cells slots hR hz hS hL hc hs
  exact lv_dup2_11 hC.ex hC.cb d hv hu (n H locs ls cells slots hR hz hS hL hc hs)
theorem gx_goto (hC : gx_C p l s m args meth c D A T cc nL ret own mn tb) {off : Int} {tgt : Nat} (d : decode cc pc = .ok (.goto off, 3)) (ht : (pc : Int) + off = (tgt : Int)) (n : gx_X p l e R s m args below meth c Q D A G nx bc bs tgt L S) : gx_X p l e R s m args below meth c Q D A G nx bc bs pc L S := by
  intro H locs ls cells slots hR hz hS hL hc hs
  exact lv_goto hC.ex hC.cb d ht (n H locs ls cells slots hR hz hS hL hc hs)
theorem gx_if_eq (hC : gx_C p l s m args meth c D A T cc nL ret own mn tb) {x off : Int} {tgt : Nat} (d : decode cc pc = .ok (.ifCond .eq off, 3)) (ht : (pc : Int) + off = (tgt : Int)) (hx : gx_rg x) (kt : x = 0 → gx_X p l e R s m args below meth c Q D A G nx bc bs tgt L S) (kf : ¬ x = 0 → gx_X p l e R s m args below meth c Q D A G nx bc bs (pc + 3) L S) : gx_X p l e R s m args below meth c Q D A G nx bc bs pc L (.int (iz x) :: S) := by
  intro H locs ls cells slots hR hz hS hL hc hs
  refine lv_if_eq hC.ex hC.cb d ht (fun hq => kt ?_ H locs ls cells slots hR hz hS hL hc hs) (fun hq => kf ?_ H locs ls cells slots hR hz hS hL hc hs)
  all_goals
    rw [← iz_0] at hq
    simp only [iz_eq hx gx_rg0, iz_lt hx gx_rg0, iz_le hx gx_rg0, iz_lt gx_rg0 hx, iz_le gx_rg0 hx, ge_iff_le, gt_iff_lt, ne_eq] at hq
    omega
theorem gx_icmp_eq (hC : gx_C p l s m args meth c D A T cc nL ret own mn tb) {x y off : Int} {tgt : Nat} (d : decode cc pc = .ok (.if_icmp .eq off, 3)) (ht : (pc : Int) + off = (tgt : Int)) (hx : gx_rg x) (hy : gx_rg y) (kt : x = y → gx_X p l e R s m args below meth c Q D A G nx bc bs tgt L S) (kf : ¬ x = y → gx_X p l e R s m args below meth c Q D A G nx bc bs (pc + 3) L S) : gx_X p l e R s m args below meth c Q D A G nx bc bs pc L (.int (iz y) :: .int (iz x) :: S) := by
  intro H locs ls cells slots hR hz hS hL hc hs
  refine lv_icmp_eq hC.ex hC.cb d ht (fun hq => kt ?_ H locs ls cells slots hR hz hS hL hc hs) (fun hq => kf ?_ H locs ls cells slots hR hz hS hL hc hs)
  all_goals
    simp only [iz_eq hx hy, iz_lt hx hy, iz_le hx hy, iz_lt hy hx, iz_le hy hx, ge_iff_le, gt_iff_lt, ne_eq] at hq
    omega
theorem gx_if_ne (hC : gx_C p l s m args meth c D A T cc nL ret own mn tb) {x off : Int} {tgt : Nat} (d : decode cc pc = .ok (.ifCond .ne off, 3)) (ht : (pc : Int) + off = (tgt : Int)) (hx : gx_rg x) (kt : ¬ x = 0 → gx_X p l e R s m args below meth c Q D A G nx bc bs tgt L S) (kf : x = 0 → gx_X p l e R s m args below meth c Q D A G nx bc bs (pc + 3) L S) : gx_X p l e R s m args below meth c Q D A G nx bc bs pc L (.int (iz x) :: S) := by
  intro H locs ls cells slots hR hz hS hL hc hs
  refine lv_if_ne hC.ex hC.cb d ht (fun hq => kt ?_ H locs ls cells slots hR hz hS hL hc hs) (fun hq => kf ?_ H locs ls cells slots hR hz hS hL hc hs)
  all_goals
    rw [← iz_0] at hq
    simp only [iz_eq hx gx_rg0, iz_lt hx gx_rg0, iz_le hx gx_rg0, iz_lt gx_rg0 hx, iz_le gx_rg0 hx, ge_iff_le, gt_iff_lt, ne_eq] at hq
    omega
theorem gx_icmp_ne (hC : gx_C p l s m args meth c D A T cc nL ret own mn tb) {x y off : Int} {tgt : Nat} (d : decode cc pc = .ok (.if_icmp .ne off, 3)) (ht : (pc : Int) + off = (tgt : Int)) (hx : gx_rg x) (hy : gx_rg y) (kt : ¬ x = y → gx_X p l e R s m args below meth c Q D A G nx bc bs tgt L S) (kf : x = y → gx_X p l e R s m args below meth c Q D A G nx bc bs (pc + 3) L S) : gx_X p l e R s m args below meth c Q D A G nx bc bs pc L (.int (iz y) :: .int (iz x) :: S) := by
  intro H locs ls cells slots hR hz hS hL hc hs
  refine lv_icmp_ne hC.ex hC.cb d ht (fun hq => kt ?_ H locs ls cells slots hR hz hS hL hc hs) (fun hq => kf ?_ H locs ls cells slots hR hz hS hL hc hs)
  all_goals
    simp only [iz_eq hx hy, iz_lt hx hy, iz_le hx hy, iz_lt hy hx, iz_le hy hx, ge_iff_le, gt_iff_lt, ne_eq] at hq
    omega
theorem gx_if_lt (hC : gx_C p l s m args meth c D A T cc nL ret own mn tb) {x off : Int} {tgt : Nat} (d : decode cc pc = .ok (.ifCond .lt off, 3)) (ht : (pc : Int) + off = (tgt : Int)) (hx : gx_rg x) (kt : x < 0 → gx_X p l e R s m args below meth c Q D A G nx bc bs tgt L S) (kf : 0 ≤ x → gx_X p l e R s m args below meth c Q D A G nx bc bs (pc + 3) L S) : gx_X p l e R s m args below meth c Q D A G nx bc bs pc L (.int (iz x) :: S) := by
  intro H locs ls cells slots hR hz hS hL hc hs
  refine lv_if_lt hC.ex hC.cb d ht (fun hq => kt ?_ H locs ls cells slots hR hz hS hL hc hs) (fun hq => kf ?_ H locs ls cells slots hR hz hS hL hc hs)
  all_goals
    rw [← iz_0] at hq
    simp only [iz_eq hx gx_rg0, iz_lt hx gx_rg0, iz_le hx gx_rg0, iz_lt gx_rg0 hx, iz_le gx_rg0 hx, ge_iff_le, gt_iff_lt, ne_eq] at hq
    omega
theorem gx_icmp_lt (hC : gx_C p l s m args meth c D A T cc nL ret own mn tb) {x y off : Int} {tgt : Nat} (d : decode cc pc = .ok (.if_icmp .lt off, 3)) (ht : (pc : Int) + off = (tgt : Int)) (hx : gx_rg x) (hy : gx_rg y) (kt : x < y → gx_X p l e R s m args below meth c Q D A G nx bc bs tgt L S) (kf : y ≤ x → gx_X p l e R s m args below meth c Q D A G nx bc bs (pc + 3) L S) : gx_X p l e R s m args below meth c Q D A G nx bc bs pc L (.int (iz y) :: .int (iz x) :: S) := by
  intro H locs ls cells slots hR hz hS hL hc hs
  refine lv_icmp_lt hC.ex hC.cb d ht (fun hq => kt ?_ H locs ls cells slots hR hz hS hL hc hs) (fun hq => kf ?_ H locs ls cells slots hR hz hS hL hc hs)
  all_goals
    simp only [iz_eq hx hy, iz_lt hx hy, iz_le hx hy, iz_lt hy hx, iz_le hy hx, ge_iff_le, gt_iff_lt, ne_eq] at hq
    omega
theorem gx_if_ge (hC : gx_C p l s m args meth c D A T cc nL ret own mn tb) {x off : Int} {tgt : Nat} (d : decode cc pc = .ok (.ifCond .ge off, 3)) (ht : (pc : Int) + off = (tgt : Int)) (hx : gx_rg x) (kt : 0 ≤ x → gx_X p l e R s m args below meth c Q D A G nx bc bs tgt L S) (kf : x < 0 → gx_X p l e R s m args below meth c Q D A G nx bc bs (pc + 3) L S) : gx_X p l e R s m args below meth c Q D A G nx bc bs pc L (.int (iz x) :: S) := by
  intro H locs ls cells slots hR hz hS hL hc hs
  refine lv_if_ge hC.ex hC.cb d ht (fun hq => kt ?_ H locs ls cells slots hR hz hS hL hc hs) (fun hq => kf ?_ H locs ls cells slots hR hz hS hL hc hs)
  all_goals
    rw [← iz_0] at hq
    simp only [iz_eq hx gx_rg0, iz_lt hx gx_rg0, iz_le hx gx_rg0, iz_lt gx_rg0 hx, iz_le gx_rg0 hx, ge_iff_le, gt_iff_lt, ne_eq] at hq
    omega
theorem gx_icmp_ge (hC : gx_C p l s m args meth c D A T cc nL ret own mn tb) {x y off : Int} {tgt : Nat} (d : decode cc pc = .ok (.if_icmp .ge off, 3)) (ht : (pc : Int) + off = (tgt : Int)) (hx : gx_rg x) (hy : gx_rg y) (kt : y ≤ x → gx_X p l e R s m args below meth c Q D A G nx bc bs tgt L S) (kf : x < y → gx_X p l e R s m args below meth c Q D A G nx bc bs (pc + 3) L S) : gx_X p l e R s m args below meth c Q D A G nx bc bs pc L (.int (iz y) :: .int (iz x) :: S) := by
  intro H locs ls cells slots hR hz hS hL hc hs
  refine lv_icmp_ge hC.ex hC.cb d ht (fun hq => kt ?_ H locs ls cells slots hR hz hS hL hc hs) (fun hq => kf ?_ H locs ls cells slots hR hz hS hL hc hs)
  all_goals
    simp only [iz_eq hx hy, iz_lt hx hy, iz_le hx hy, iz_lt hy hx, iz_le hy hx, ge_iff_le, gt_iff_lt, ne_eq] at hq
    omega
theorem gx_if_gt (hC : gx_C p l s m args meth c D A T cc nL ret own mn tb) {x off : Int} {tgt : Nat} (d : decode cc pc = .ok (.ifCond .gt off, 3)) (ht : (pc : Int) + off = (tgt : Int)) (hx : gx_rg x) (kt : 0 < x → gx_X p l e R s m args below meth c Q D A G nx bc bs tgt L S) (kf : x ≤ 0 → gx_X p l e R s m args below meth c Q D A G nx bc bs (pc + 3) L S) : gx_X p l e R s m args below meth c Q D A G nx bc bs pc L (.int (iz x) :: S) := by
  intro H locs ls cells slots hR hz hS hL hc hs
  refine lv_if_gt hC.ex hC.cb d ht (fun hq => kt ?_ H locs ls cells slots hR hz hS hL hc hs) (fun hq => kf ?_ H locs ls cells slots hR hz hS hL hc hs)
  all_goals
    rw [← iz_0] at hq
    simp only [iz_eq hx gx_rg0, iz_lt hx gx_rg0, iz_le hx gx_rg0, iz_lt gx_rg0 hx, iz_le gx_rg0 hx, ge_iff_le, gt_iff_lt, ne_eq] at hq
    omega
theorem gx_icmp_gt (hC : gx_C p l s m args meth c D A T cc nL ret own mn tb) {x y off : Int} {tgt : Nat} (d : decode cc pc = .ok (.if_icmp .gt off, 3)) (ht : (pc : Int) + off = (tgt : Int)) (hx : gx_rg x) (hy : gx_rg y) (kt : y < x → gx_X p l e R s m args below meth c Q D A G nx bc bs tgt L S) (kf : x ≤ y → gx_X p l e R s m args below meth c Q D A G nx bc bs (pc + 3) L S) : gx_X p l e R s m args below meth c Q D A G nx bc bs pc L (.int (iz y) :: .int (iz x) :: S) := by
  intro H locs ls cells slots hR hz hS hL hc hs
  refine lv_icmp_gt hC.ex hC.cb d ht (fun hq => kt ?_ H locs ls cells slots hR hz hS hL hc hs) (fun hq => kf ?_ H locs ls cells slots hR hz hS hL hc hs)
  all_goals
    simp only [iz_eq hx hy, iz_lt hx hy, iz_le hx hy, iz_lt hy hx, iz_le hy hx, ge_iff_le, gt_iff_lt, ne_eq] at hq
    omega
theorem gx_if_le (hC : gx_C p l s m args meth c D A T cc nL ret own mn tb) {x off : Int} {tgt : Nat} (d : decode cc pc = .ok (.ifCond .le off, 3)) (ht : (pc : Int) + off = (tgt : Int)) (hx : gx_rg x) (kt : x ≤ 0 → gx_X p l e R s m args below meth c Q D A G nx bc bs tgt L S) (kf : 0 < x → gx_X p l e R s m args below meth c Q D A G nx bc bs (pc + 3) L S) : gx_X p l e R s m args below meth c Q D A G nx bc bs pc L (.int (iz x) :: S) := by
  intro H locs ls cells slots hR hz hS hL hc hs
  refine lv_if_le hC.ex hC.cb d ht (fun hq => kt ?_ H locs ls cells slots hR hz hS hL hc hs) (fun hq => kf ?_ H locs ls cells slots hR hz hS hL hc hs)
  all_goals
    rw [← iz_0] at hq
    simp only [iz_eq hx gx_rg0, iz_lt hx gx_rg0, iz_le hx gx_rg0, iz_lt gx_rg0 hx, iz_le gx_rg0 hx, ge_iff_le, gt_iff_lt, ne_eq] at hq
    omega
theorem gx_icmp_le (hC : gx_C p l s m args meth c D A T cc nL ret own mn tb) {x y off : Int} {tgt : Nat} (d : decode cc pc = .ok (.if_icmp .le off, 3)) (ht : (pc : Int) + off = (tgt : Int)) (hx : gx_rg x) (hy : gx_rg y) (kt : x ≤ y → gx_X p l e R s m args below meth c Q D A G nx bc bs tgt L S) (kf : y < x → gx_X p l e R s m args below meth c Q D A G nx bc bs (pc + 3) L S) : gx_X p l e R s m args below meth c Q D A G nx bc bs pc L (.int (iz y) :: .int (iz x) :: S) := by
  intro H locs ls cells slots hR hz hS hL hc hs
  refine lv_icmp_le hC.ex hC.cb d ht (fun hq => kt ?_ H locs ls cells slots hR hz hS hL hc hs) (fun hq => kf ?_ H locs ls cells slots hR hz hS hL hc hs)
  all_goals
    simp only [iz_eq hx hy, iz_lt hx hy, iz_le hx hy, iz_lt hy hx, iz_le hy hx, ge_iff_le, gt_iff_lt, ne_eq] at hq
    omega
theorem gx_ifnull (hC : gx_C p l s m args meth c D A T cc nL ret own mn tb) {off : Int} {tgt : Nat} {r : Option Nat} (d : decode cc pc = .ok (.ifnull off, 3)) (ht : (pc : Int) + off = (tgt : Int)) (kt : r = none → gx_X p l e R s m args below meth c Q D A G nx bc bs tgt L S) (kf : ∀ a, r = some a → gx_X p l e R s m args below meth c Q D A G nx bc bs (pc + 3) L S) : gx_X p l e R s m args below meth c Q D A G nx bc bs pc L (va_rf r :: S) := by
  intro H locs ls cells slots hR hz hS hL hc hs
  cases r with
  | none => exact lv_ifnullN hC.ex hC.cb d ht (kt rfl H locs ls cells slots hR hz hS hL hc hs)
  | some a => exact lv_ifnull hC.ex hC.cb d (kf a rfl H locs ls cells slots hR hz hS hL hc hs)
theorem gx_ifnonnull (hC : gx_C p l s m args meth c D A T cc nL ret own mn tb) {off : Int} {tgt : Nat} {r : Option Nat} (d : decode cc pc = .ok (.ifnonnull off, 3)) (ht : (pc : Int) + off = (tgt : Int)) (kt : ∀ a, r = some a → gx_X p l e R s m args below meth c Q D A G nx bc bs tgt L S) (kf : r = none → gx_X p l e R s m args below meth c Q D A G nx bc bs (pc + 3) L S) : gx_X p l e R s m args below meth c Q D A G nx bc bs pc L (va_rf r :: S) := by
  intro H locs ls cells slots hR hz hS hL hc hs
  cases r with
  | none => exact lv_ifnonnullN hC.ex hC.cb d (kf rfl H locs ls cells slots hR hz hS hL hc hs)
  | some a => exact lv_ifnonnull hC.ex hC.cb d ht (kt a rfl H locs ls cells slots hR hz hS hL hc hs)
theorem gx_ifnullR (hC : gx_C p l s m args meth c D A T cc nL ret own mn tb) {off : Int} {a : Nat} (d : decode cc pc = .ok (.ifnull off, 3)) (n : gx_X p l e R s m args below meth c Q D A G nx bc bs (pc + 3) L S) : gx_X p l e R s m args below meth c Q D A G nx bc bs pc L (.ref a :: S) := by
  intro H locs ls cells slots hR hz hS hL hc hs
  exact lv_ifnull hC.ex hC.cb d (n H locs ls cells slots hR hz hS hL hc hs)
theorem gx_ifnullN (hC : gx_C p l s m args meth c D A T cc nL ret own mn tb) {off : Int} {tgt : Nat} (d : decode cc pc = .ok (.ifnull off, 3)) (ht : (pc : Int) + off = (tgt : Int)) (n : gx_X p l e R s m args below meth c Q D A G nx bc bs tgt L S) : gx_X p l e R s m args below meth c Q D A G nx bc bs pc L (.null :: S) := by
  intro H locs ls cells slots hR hz hS hL hc hs
  exact lv_ifnullN hC.ex hC.cb d ht (n H locs ls cells slots hR hz hS hL hc hs)
theorem gx_ifnonnullR (hC : gx_C p l s m args meth c D A T cc nL ret own mn tb) {off : Int} {tgt : Nat} {a : Nat} (d : decode cc pc = .ok (.ifnonnull off, 3)) (ht : (pc : Int) + off = (tgt : Int)) (n : gx_X p l e R s m args below meth c Q D A G nx bc bs tgt L S) : gx_X p l e R s m args below meth c Q D A G nx bc bs pc L (.ref a :: S) := by
  intro H locs ls cells slots hR hz hS hL hc hs
  exact lv_ifnonnull hC.ex hC.cb d ht (n H locs ls cells slots hR hz hS hL hc hs)
theorem gx_ifnonnullN (hC : gx_C p l s m args meth c D A T cc nL ret own mn tb) {off : Int} (d : decode cc pc = .ok (.ifnonnull off, 3)) (n : gx_X p l e R s m args below meth c Q D A G nx bc bs (pc + 3) L S) : gx_X p l e R s m args below meth c Q D A G nx bc bs pc L (.null :: S) := by
  intro H locs ls cells slots hR hz hS hL hc hs
  exact lv_ifnonnullN hC.ex hC.cb d (n H locs ls cells slots hR hz hS hL hc hs)
theorem gx_acmp_eq (hC : gx_C p l s m args meth c D A T cc nL ret own mn tb) {off : Int} {tgt : Nat} {rx ry : Option Nat} (d : decode cc pc = .ok (.if_acmp .eq off, 3)) (ht : (pc : Int) + off = (tgt : Int)) (kt : rx = ry → gx_X p l e R s m args below meth c Q D A G nx bc bs tgt L S) (kf : ¬ rx = ry → gx_X p l e R s m args below meth c Q D A G nx bc bs (pc + 3) L S) : gx_X p l e R s m args below meth c Q D A G nx bc bs pc L (va_rf ry :: va_rf rx :: S) := by
  intro H locs ls cells slots hR hz hS hL hc hs
  exact lv_acmp_eq hC.ex hC.cb d ht (fun hq => kt hq H locs ls cells slots hR hz hS hL hc hs) (fun hq => kf hq H locs ls cells slots hR hz hS hL hc hs)
theorem gx_acmp_ne (hC : gx_C p l s m args meth c D A T cc nL ret own mn tb) {off : Int} {tgt : Nat} {rx ry : Option Nat} (d : decode cc pc = .ok (.if_acmp .ne off, 3)) (ht : (pc : Int) + off = (tgt : Int)) (kt : ¬ rx = ry → gx_X p l e R s m args below meth c Q D A G nx bc bs tgt L S) (kf : rx = ry → gx_X p l e R s m args below meth c Q D A G nx bc bs (pc + 3) L S) : gx_X p l e R s m args below meth c Q D A G nx bc bs pc L (va_rf ry :: va_rf rx :: S) := by
  intro H locs ls cells slots hR hz hS hL hc hs
  exact lv_acmp_ne hC.ex hC.cb d ht (fun hq => kt hq H locs ls cells slots hR hz hS hL hc hs) (fun hq => kf hq H locs ls cells slots hR hz hS hL hc hs)
theorem gx_look (hC : gx_C p l s m args meth c D A T cc nL ret own mn tb) {dflt : Int} {ps : Array (Int × Int)} {len : Nat} {x off : Int} {tgt : Nat} (d : decode cc pc = .ok (.lookupswitch dflt ps, len)) (hp : (ps.toList.zip (ps.toList.drop 1)).all (fun (a, next) => a.1 < next.1) = true) (hx : gx_rg x) (ho : Op.lookupswitch.offset ps.toList dflt x = off) (ht : (pc : Int) + off = (tgt : Int)) (n : gx_X p l e R s m args below meth c Q D A G nx bc bs tgt L S) : gx_X p l e R s m args below meth c Q D A G nx bc bs pc L (.int (iz x) :: S) := by
  intro H locs ls cells slots hR hz hS hL hc hs
  exact lv_lookup hC.ex hC.cb d hp (by rw [iz_T hx]; exact ho) ht (n H locs ls cells slots hR hz hS hL hc hs)
theorem gx_tabO (hC : gx_C p l s m args meth c D A T cc nL ret own mn tb) {dflt lo hi : Int} {offs : Array Int} {len : Nat} {x : Int} {tgt : Nat} (d : decode cc pc = .ok (.tableswitch dflt lo hi offs, len)) (hx : gx_rg x) (h : x < lo ∨ hi < x) (ht : (pc : Int) + dflt = (tgt : Int)) (n : gx_X p l e R s m args below meth c Q D A G nx bc bs tgt L S) : gx_X p l e R s m args below meth c Q D A G nx bc bs pc L (.int (iz x) :: S) := by
  intro H locs ls cells slots hR hz hS hL hc hs
  exact lv_tableOut hC.ex hC.cb d (by rw [iz_T hx]; exact h) ht (n H locs ls cells slots hR hz hS hL hc hs)
theorem gx_tabI (hC : gx_C p l s m args meth c D A T cc nL ret own mn tb) {dflt lo hi : Int} {offs : Array Int} {len : Nat} {x off : Int} {tgt : Nat} (d : decode cc pc = .ok (.tableswitch dflt lo hi offs, len)) (hx : gx_rg x) (h : lo ≤ x ∧ x ≤ hi) (ho : offs[(x - lo).toNat]? = some off) (ht : (pc : Int) + off = (tgt : Int)) (n : gx_X p l e R s m args below meth c Q D A G nx bc bs tgt L S) : gx_X p l e R s m args below meth c Q D A G nx bc bs pc L (.int (iz x) :: S) := by
  intro H locs ls cells slots hR hz hS hL hc hs
  exact lv_tableIn hC.ex hC.cb d (by rw [iz_T hx]; omega) (by rw [iz_T hx]; omega) (by rw [iz_T hx]; exact ho) ht (n H locs ls cells slots hR hz hS hL hc hs)
theorem gx_get (hC : gx_C p l s m args meth c D A T cc nL ret own mn tb) {C ref : String} {Tf : u_T} {N ci k idx : Nat} {fs : List Value} {v : Value} {a : Nat} (hc : gx_cl[ci]? = some (C, Tf, N)) (hin : ∀ w ∈ u_ws C Tf N, w ∈ lw_all) (hk : k < N) (hlink : Cond.fieldLink own idx ref (Tf k).2.1 (Tf k).2.2.1 ∈ lw_all) (hsame : ∀ x, s.fieldFound? (Tf k).1 (Tf k).2.1 (Tf k).2.2.1 = some x → s.fieldFound? ref (Tf k).2.1 (Tf k).2.2.1 = some x) (d : decode cc pc = .ok (.getfield idx, 3)) (hG : T a (gx_O ci fs) ∨ G a (gx_O ci fs)) (hv : fs[k]? = some v) (n : gx_X p l e R s m args below meth c Q D A G nx bc bs (pc + 3) L (v :: S)) : gx_X p l e R s m args below meth c Q D A G nx bc bs pc L (.ref a :: S) := by
  intro H locs ls cells slots hR hz hS hL hc' hs
  obtain ⟨r, cell, h1, q1, q0, q3, q2, q4⟩ := gx_rd hC hR hS hG
  cases Option.some.inj (h1.symm.trans hc)
  obtain ⟨hSl, hfc, kC, hkC, hkind⟩ := hC.K.1 ci _ hc
  obtain ⟨cf, kf, fi, f, hi, hsl⟩ := hSl k hk
  refine W.getf hC.ex hC.cb hC.ow (hC.ts _ hlink) (hsame _ hi) (u_facts hfc hkC (u_lays (args := args) hC.ts hin hk) hi).1 q1 q3 (v := v) ?_ rfl rfl d (n H locs ls cells slots hR hz hS hL hc' hs)
  rw [hsl, q4 k hk]
  simp [vp_V, hv]
theorem gx_getN (hC : gx_C p l s m args meth c D A T cc nL ret own mn tb) {C ref : String} {Tf : u_T} {N ci k idx : Nat} {fs : List Value} {v : Value} {a : Nat} (hc : gx_cl[ci]? = some (C, Tf, N)) (hin : ∀ w ∈ u_ws C Tf N, w ∈ lw_all) (hk : k < N) {host : String} (hlink : Cond.fieldLinkNest own idx ref (Tf k).2.1 (Tf k).2.2.1 host ∈ lw_tbl) (hsame : ∀ x, s.fieldFound? (Tf k).1 (Tf k).2.1 (Tf k).2.2.1 = some x → s.fieldFound? ref (Tf k).2.1 (Tf k).2.2.1 = some x) (d : decode cc pc = .ok (.getfield idx, 3)) (hG : T a (gx_O ci fs) ∨ G a (gx_O ci fs)) (hv : fs[k]? = some v) (n : gx_X p l e R s m args below meth c Q D A G nx bc bs (pc + 3) L (v :: S)) : gx_X p l e R s m args below meth c Q D A G nx bc bs pc L (.ref a :: S) := by
  intro H locs ls cells slots hR hz hS hL hc' hs
  obtain ⟨r, cell, h1, q1, q0, q3, q2, q4⟩ := gx_rd hC hR hS hG
  cases Option.some.inj (h1.symm.trans hc)
  obtain ⟨hSl, hfc, kC, hkC, hkind⟩ := hC.K.1 ci _ hc
  obtain ⟨cf, kf, fi, f, hi, hsl⟩ := hSl k hk
  refine va_Wgetf hC.ex hC.cb hC.ow (va_Nw.use rfl (hC.nw hlink rfl)) (hsame _ hi) (u_facts hfc hkC (u_lays (args := args) hC.ts hin hk) hi).1 q1 q3 (v := v) ?_ rfl rfl d (n H locs ls cells slots hR hz hS hL hc' hs)
  rw [hsl, q4 k hk]
  simp [vp_V, hv]
theorem gx_apart (hC : gx_C p l s m args meth c D A T cc nL ret own mn tb) {C : String} {Tf : u_T} {N ci : Nat} (hin : ∀ w ∈ u_ws C Tf N, w ∈ lw_all) (ty : Nat → FieldType) (hty : ∀ k, k < N → parseFieldDescriptor (Tf k).2.2.1 = some (ty k)) (hnm : ∀ a, a < N → ∀ b, b < N → a ≠ b → (Tf a).2.1 ≠ (Tf b).2.1) (hc : gx_cl[ci]? = some (C, Tf, N)) : ∀ x y, x < N → y < N → x ≠ y → (D.1.2 ci) x ≠ (D.1.2 ci) y := va_apart (own := own) hC.ts hin ty hty hnm hC.K hc
theorem gx_put (hC : gx_C p l s m args meth c D A T cc nL ret own mn tb) {C ref : String} {Tf : u_T} {N ci k idx : Nat} {fs : List Value} {v : Value} {a : Nat} (hc : gx_cl[ci]? = some (C, Tf, N)) (hin : ∀ w ∈ u_ws C Tf N, w ∈ lw_all) (hk : k < N) (ty0 : Nat → FieldType) (hty : ∀ k, k < N → parseFieldDescriptor (Tf k).2.2.1 = some (ty0 k)) (hnm : ∀ a, a < N → ∀ b, b < N → a ≠ b → (Tf a).2.1 ≠ (Tf b).2.1) (hlink : Cond.fieldLink own idx ref (Tf k).2.1 (Tf k).2.2.1 ∈ lw_all) (hsame : ∀ x, s.fieldFound? (Tf k).1 (Tf k).2.1 (Tf k).2.2.1 = some x → s.fieldFound? ref (Tf k).2.1 (Tf k).2.2.1 = some x) (hfin : (Tf k).2.2.2 = false) (d : decode cc pc = .ok (.putfield idx, 3)) (hG : G a (gx_O ci fs)) (hA : A a) (hl : k < fs.length) (hn : narrow (ty0 k) v = v) (hfit : fits (ty0 k) v = true) (n : gx_X p l e R s m args below meth c Q D A (gx_up G a (gx_O ci (fs.set k v))) nx bc bs (pc + 3) L S) : gx_X p l e R s m args below meth c Q D A G nx bc bs pc L (v :: .ref a :: S) := by
  intro H locs ls cells slots hR hz hS hL hc' hs
  have hap := gx_apart hC hin ty0 hty hnm hc
  obtain ⟨r, h1, cell, q1, q2, q3, q4⟩ := hR a _ hG
  cases Option.some.inj (h1.symm.trans hc)
  obtain ⟨hSl, hfc, kC, hkC, hkind⟩ := hC.K.1 ci _ hc
  obtain ⟨cf, kf, fi, f, hi, hsl⟩ := hSl k hk
  have hlay := hC.ts _ (hin _ (u_in_lay hk))
  unfold u_lay at hlay
  rw [if_neg (by rw [hfin]; decide)] at hlay
  have hst := (u_facts hfc hkC (u_lays (args := args) hC.ts hin hk) hi).1
  have h6 := u_store hfc hkC hkind hlay hi (hty k hk) hn hfit
  refine W.putK hC.ex hC.cb (f := f) ⟨hC.ow, hC.ts _ hlink, ⟨_, _, _, hsame _ hi⟩, hst⟩ (by rw [q2]; exact h6) q1 q3 (by rw [hsl]; exact k2_hasslot (q4 k hk)) rfl rfl d fun H' e1 e2 e3 => ?_
  rw [hsl] at e1 ⊢
  refine n H' _ ls cells slots (hR.up ?_ e3) (e2.trans hz) (hS.put e2 e3 hA) hL hc' hs
  exact ⟨_, hc, t_OB.to (V := updV (vp_V fs) k v) ⟨_, e1, q2, q3, t_set q4 hap hk v⟩ (fun j _ => vp_updV_set hl v j)⟩
theorem gx_putN (hC : gx_C p l s m args meth c D A T cc nL ret own mn tb) {C ref : String} {Tf : u_T} {N ci k idx : Nat} {fs : List Value} {v : Value} {a : Nat} (hc : gx_cl[ci]? = some (C, Tf, N)) (hin : ∀ w ∈ u_ws C Tf N, w ∈ lw_all) (hk : k < N) (ty0 : Nat → FieldType) (hty : ∀ k, k < N → parseFieldDescriptor (Tf k).2.2.1 = some (ty0 k)) (hnm : ∀ a, a < N → ∀ b, b < N → a ≠ b → (Tf a).2.1 ≠ (Tf b).2.1) {host : String} (hlink : Cond.fieldLinkNest own idx ref (Tf k).2.1 (Tf k).2.2.1 host ∈ lw_tbl) (hsame : ∀ x, s.fieldFound? (Tf k).1 (Tf k).2.1 (Tf k).2.2.1 = some x → s.fieldFound? ref (Tf k).2.1 (Tf k).2.2.1 = some x) (hfin : (Tf k).2.2.2 = false) (d : decode cc pc = .ok (.putfield idx, 3)) (hG : G a (gx_O ci fs)) (hA : A a) (hl : k < fs.length) (hn : narrow (ty0 k) v = v) (hfit : fits (ty0 k) v = true) (n : gx_X p l e R s m args below meth c Q D A (gx_up G a (gx_O ci (fs.set k v))) nx bc bs (pc + 3) L S) : gx_X p l e R s m args below meth c Q D A G nx bc bs pc L (v :: .ref a :: S) := by
  intro H locs ls cells slots hR hz hS hL hc' hs
  have hap := gx_apart hC hin ty0 hty hnm hc
  obtain ⟨r, h1, cell, q1, q2, q3, q4⟩ := hR a _ hG
  cases Option.some.inj (h1.symm.trans hc)
  obtain ⟨hSl, hfc, kC, hkC, hkind⟩ := hC.K.1 ci _ hc
  obtain ⟨cf, kf, fi, f, hi, hsl⟩ := hSl k hk
  have hlay := hC.ts _ (hin _ (u_in_lay hk))
  unfold u_lay at hlay
  rw [if_neg (by rw [hfin]; decide)] at hlay
  have hst := (u_facts hfc hkC (u_lays (args := args) hC.ts hin hk) hi).1
  have h6 := u_store hfc hkC hkind hlay hi (hty k hk) hn hfit
  refine va_WputK hC.ex hC.cb (f := f) hC.ow (va_Nw.use rfl (hC.nw hlink rfl)) (hsame _ hi) hst (by rw [q2]; exact h6) q1 q3 (by rw [hsl]; exact k2_hasslot (q4 k hk)) rfl rfl d fun H' e1 e2 e3 => ?_
  rw [hsl] at e1 ⊢
  refine n H' _ ls cells slots (hR.up ?_ e3) (e2.trans hz) (hS.put e2 e3 hA) hL hc' hs
  exact ⟨_, hc, t_OB.to (V := updV (vp_V fs) k v) ⟨_, e1, q2, q3, t_set q4 hap hk v⟩ (fun j _ => vp_updV_set hl v j)⟩
theorem gx_putF (hC : gx_C p l s m args meth c D A T cc nL ret own mn tb) {C ref : String} {Tf : u_T} {N ci k idx : Nat} {fs : List Value} {v : Value} {a : Nat} (hc : gx_cl[ci]? = some (C, Tf, N)) (hin : ∀ w ∈ u_ws C Tf N, w ∈ lw_all) (hk : k < N) (ty0 : Nat → FieldType) (hty : ∀ k, k < N → parseFieldDescriptor (Tf k).2.2.1 = some (ty0 k)) (hnm : ∀ a, a < N → ∀ b, b < N → a ≠ b → (Tf a).2.1 ≠ (Tf b).2.1) (hlink : Cond.fieldLink own idx ref (Tf k).2.1 (Tf k).2.2.1 ∈ lw_all) (hsame : ∀ x, s.fieldFound? (Tf k).1 (Tf k).2.1 (Tf k).2.2.1 = some x → s.fieldFound? ref (Tf k).2.1 (Tf k).2.2.1 = some x) (hfin : (Tf k).2.2.2 = true) (hmn : mn = "<init>") (hdecl : (Tf k).1 = own) (d : decode cc pc = .ok (.putfield idx, 3)) (hG : G a (gx_O ci fs)) (hA : A a) (hl : k < fs.length) (hn : narrow (ty0 k) v = v) (hfit : fits (ty0 k) v = true) (n : gx_X p l e R s m args below meth c Q D A (gx_up G a (gx_O ci (fs.set k v))) nx bc bs (pc + 3) L S) : gx_X p l e R s m args below meth c Q D A G nx bc bs pc L (v :: .ref a :: S) := by
  intro H locs ls cells slots hR hz hS hL hc' hs
  have hap := gx_apart hC hin ty0 hty hnm hc
  obtain ⟨r, h1, cell, q1, q2, q3, q4⟩ := hR a _ hG
  cases Option.some.inj (h1.symm.trans hc)
  obtain ⟨hSl, hfc, kC, hkC, hkind⟩ := hC.K.1 ci _ hc
  obtain ⟨cf, kf, fi, f, hi, hsl⟩ := hSl k hk
  have hlay := hC.ts _ (hin _ (u_in_lay hk))
  unfold u_lay at hlay
  rw [if_pos hfin] at hlay
  have hst := (u_facts hfc hkC (u_lays (args := args) hC.ts hin hk) hi).1
  have hcf : m.cls = cf := by
    obtain ⟨_, _, c', _, _, _, -, -, hf', -, -, -, hown2, -⟩ := Cond.laysFinal_spec hlay
    have e1 : c' = cf := by have := hi.symm.trans hf'; simp at this; exact this.1.symm
    rw [hdecl] at hown2
    rw [← e1]; exact Option.some.inj (hC.ow.symm.trans hown2)
  have h6 := u_fits hfc hkC hkind (Or.inr hlay) hi (hty k hk) hn hfit
  refine W.putFinK hC.ex hC.cb hC.ow (hC.ts _ hlink) (hsame _ hi) hst hcf (hC.nm.trans hmn) (by rw [q2]; exact h6) q1 q3 (by rw [hsl]; exact k2_hasslot (q4 k hk)) rfl rfl d fun H' e1 e2 e3 => ?_
  rw [hsl] at e1 ⊢
  refine n H' _ ls cells slots (hR.up ?_ e3) (e2.trans hz) (hS.put e2 e3 hA) hL hc' hs
  exact ⟨_, hc, t_OB.to (V := updV (vp_V fs) k v) ⟨_, e1, q2, q3, t_set q4 hap hk v⟩ (fun j _ => vp_updV_set hl v j)⟩
theorem gx_S.new {A : Nat → Prop} {H0 H H1 : Heap} {locs : List Loc} (h : va_S A H0 H locs) (z : H1.size = H.size + 1) (oq : ∀ q : Nat, q < H.size → H1[q]? = H[q]?) : va_S A H0 H1 locs :=
  ⟨Nat.le_trans h.1 (by omega), fun x h1 h2 => (oq x (Nat.lt_of_lt_of_le h1 h.1)).trans (h.2.1 x h1 h2), h.2.2⟩
theorem gx_new (hC : gx_C p l s m args meth c D A T cc nL ret own mn tb) {C : String} {Tf : u_T} {N ci idx : Nat} {fs : List Value} (hc : gx_cl[ci]? = some (C, Tf, N)) (hin : ∀ w ∈ u_ws C Tf N, w ∈ lw_all) (ty : Nat → FieldType) (hty : ∀ k, k < N → parseFieldDescriptor (Tf k).2.2.1 = some (ty k)) (hcl : Cond.classLink own idx C ∈ lw_all) (hinst : Cond.instantiable C N ∈ lw_all) (hini : Cond.initialized C ∈ lw_all) (hfs : ∀ j, j < N → defaultValue (ty j) = vp_V fs j) (d : decode cc pc = .ok (.new idx, 3)) (n : gx_X p l e R s m args below meth c Q D A (gx_up G nx (gx_O ci fs)) (nx + 1) bc bs (pc + 3) L (.ref nx :: S)) : gx_X p l e R s m args below meth c Q D A G nx (bc + 1) (bs + N) pc L S := by
  intro H locs ls cells slots hR hz hS hL hc' hs
  have hKn := hC.K.1 ci _ hc
  subst hz
  refine W.newcK hC.ex hC.cb hC.ow (hC.ts _ hcl) (hC.ts _ hinst) (hC.ts _ hini) rfl d (by omega) (by omega) hKn.2.1 rfl fun H1 kC hkC e1 z1 o1 => ?_
  refine n H1 locs ls (cells + 1) (slots + N) (hR.new ?_ o1) z1 (gx_S.new hS z1 o1) hL (by omega) (by omega)
  exact ⟨_, hc, (u_born ty hC.ts hin hKn hkC e1 hty).to hfs⟩
theorem gx_newa (hC : gx_C p l s m args meth c D A T cc nL ret own mn tb) {atype : ArrayType} {t : Nat} {ty : FieldType} {x : vp_A} {z : Int} {N : Nat} (harr : Cond.arrayClass ty ∈ lw_all) (hat : newarray.typeOf atype = ty) (hp : ty.isReference = false) (ht : gx_tyL[t]? = some ty) (ha : ∀ cA : ClassId, vp_cell cA x = arrV cA N (fun _ => defaultValue ty)) (d : decode cc pc = .ok (.newarray atype, 2)) (hz0 : z = (N : Int)) (hN : N < 60000000) (n : gx_X p l e R s m args below meth c Q D A (gx_up G nx (.inl (.inl (D.2.1 t, x)))) (nx + 1) bc bs (pc + 2) L (.ref nx :: S)) : gx_X p l e R s m args below meth c Q D A G nx (bc + 1) (bs + N) pc L (.int (iz z) :: S) := by
  intro H locs ls cells slots hR hz hS hL hc' hs
  subst hat
  subst hz0
  have hcb : componentBytes (newarray.typeOf atype) ≤ 8 := by cases atype <;> decide
  have hz2 : (iz (N : Int)).toNatClampNeg = N := by rw [iz_cl (by omega) (by omega)]; omega
  refine va_newaK hC.ex hC.cb (hC.ts _ harr) rfl d rfl (by rw [iz_nat]; exact nI_pos (by omega)) hz2 ?_ (by omega) (by omega) hz fun H1 cA e1 z1 o1 hAr hNm => ?_
  · have := Nat.mul_le_mul_left N hcb
    omega
  · subst hz
    have h2 := (hC.K.2 t _ (gx_ty D ht)).2
    have h3 : s.vm.findClass ("[" ++ (newarray.typeOf atype).toString) = some (D.2.1 t) := by cases atype <;> exact h2
    have h4 : cA = D.2.1 t := Option.some.inj (hNm.symm.trans h3)
    subst h4
    refine n H1 locs ls (cells + 1) (slots + N) (hR.new ?_ o1) z1 (gx_S.new hS z1 o1) hL (by omega) (by omega)
    show H1[H.size]? = some (vp_cell _ _)
    rw [ha]
    exact e1
theorem gx_newq (hC : gx_C p l s m args meth c D A T cc nL ret own mn tb) {idx t : Nat} {C : String} {z : Int} {N : Nat} (hcl : Cond.classLink own idx C ∈ lw_all) (hov : Cond.arrayOver (.object C) ∈ lw_tbl) (ht : gx_tyL[t]? = some (.object C)) (d : decode cc pc = .ok (.anewarray idx, 3)) (hz0 : z = (N : Int)) (hN : N < 60000000) (n : gx_X p l e R s m args below meth c Q D A (gx_up G nx (gx_Q D t N (fun _ => none))) (nx + 1) bc bs (pc + 3) L (.ref nx :: S)) : gx_X p l e R s m args below meth c Q D A G nx (bc + 1) (bs + N) pc L (.int (iz z) :: S) := by
  intro H locs ls cells slots hR hz hS hL hc' hs
  subst hz0
  have hz2 : (iz (N : Int)).toNatClampNeg = N := by rw [iz_cl (by omega) (by omega)]; omega
  refine W.anew hC.ex hC.cb hC.ow (hC.ts _ hcl) (va_AO.use (hC.u.2.2.2.1 C hov)) rfl d rfl (by rw [iz_nat]; exact nI_pos (by omega)) (by rw [hz2]; omega) (by omega) (by rw [hz2]; omega) fun cA kA comp f1 f2 f3 f4 => ?_
  rw [hz2]
  generalize hH1 : H.push ({ cls := cA, slots := Array.replicate N .null, vm := .none } : Cell) = H1
  have z1 : H1.size = H.size + 1 := by rw [← hH1, Array.size_push]
  have e1 : H1[H.size]? = some (arrV cA N (fun _ => .null)) := by rw [← hH1, Array.getElem?_push_size, ← arrV_new]
  have o1 : ∀ q : Nat, q < H.size → H1[q]? = H[q]? := fun q hq => by rw [← hH1, Array.getElem?_push, if_neg (Nat.ne_of_lt hq)]
  subst hz
  obtain ⟨kA', comp', -, -, -, h3⟩ := (hC.K.2 t _ (gx_ty D ht)).2
  have h4 : cA = D.2.1 t := Option.some.inj (f1.symm.trans h3)
  subst h4
  exact n H1 locs ls (cells + 1) (slots + N) (hR.new e1 o1) z1 (gx_S.new hS z1 o1) hL (by omega) (by omega)
theorem gx_iald (hC : gx_C p l s m args meth c D A T cc nL ret own mn tb) {t N : Nat} {f : Nat → Int} {z : Int} {a : Nat} (ht : gx_tyL[t]? = some .int) (d : decode cc pc = .ok (.iaload, 1)) (hG : T a (gx_I D t N f) ∨ G a (gx_I D t N f)) (hj : 0 ≤ z ∧ z < N ∧ z < 2147483648) (n : gx_X p l e R s m args below meth c Q D A G nx bc bs (pc + 1) L (.int (iz (f z.toNat)) :: S)) : gx_X p l e R s m args below meth c Q D A G nx bc bs pc L (.int (iz z) :: .ref a :: S) := by
  intro H locs ls cells slots hR hz hS hL hc' hs
  obtain ⟨cell, h1, q0, q3, h4, h5, h6⟩ := gx_rd hC hR hS hG
  have hcl := iz_cl hj.1 hj.2.2
  have hlt : z.toNat < N := by omega
  refine W.iald (v := .int (iz (f z.toNat))) hC.ex hC.cb h1 (h6 t _ ht rfl) q3 (by rw [h4]; have := iz_in (n := N) hj.1 hj.2.1 hj.2.2; exact this) (by rw [hcl]; exact h5 _ hlt) rfl rfl d (n H locs ls cells slots hR hz hS hL hc' hs)
theorem gx_bald (hC : gx_C p l s m args meth c D A T cc nL ret own mn tb) {t N : Nat} {f : Nat → Int} {z : Int} {a : Nat} (ht : gx_tyL[t]? = some .byte) (d : decode cc pc = .ok (.baload, 1)) (hG : T a (gx_I D t N f) ∨ G a (gx_I D t N f)) (hj : 0 ≤ z ∧ z < N ∧ z < 2147483648) (n : gx_X p l e R s m args below meth c Q D A G nx bc bs (pc + 1) L (.int (iz (f z.toNat)) :: S)) : gx_X p l e R s m args below meth c Q D A G nx bc bs pc L (.int (iz z) :: .ref a :: S) := by
  intro H locs ls cells slots hR hz hS hL hc' hs
  obtain ⟨cell, h1, q0, q3, h4, h5, h6⟩ := gx_rd hC hR hS hG
  have hcl := iz_cl hj.1 hj.2.2
  have hlt : z.toNat < N := by omega
  refine W.bald (v := .int (iz (f z.toNat))) hC.ex hC.cb h1 (h6 t _ ht rfl) q3 (by rw [h4]; have := iz_in (n := N) hj.1 hj.2.1 hj.2.2; exact this) (by rw [hcl]; exact h5 _ hlt) rfl rfl d (n H locs ls cells slots hR hz hS hL hc' hs)
theorem gx_lald (hC : gx_C p l s m args meth c D A T cc nL ret own mn tb) {t N : Nat} {f : Nat → Int64} {z : Int} {a : Nat} (ht : gx_tyL[t]? = some .long) (d : decode cc pc = .ok (.laload, 1)) (hG : T a (gx_J D t N f) ∨ G a (gx_J D t N f)) (hj : 0 ≤ z ∧ z < N ∧ z < 2147483648) (n : gx_X p l e R s m args below meth c Q D A G nx bc bs (pc + 1) L (.long (f z.toNat) :: S)) : gx_X p l e R s m args below meth c Q D A G nx bc bs pc L (.int (iz z) :: .ref a :: S) := by
  intro H locs ls cells slots hR hz hS hL hc' hs
  obtain ⟨cell, h1, q0, q3, h4, h5, h6⟩ := gx_rd hC hR hS hG
  have hcl := iz_cl hj.1 hj.2.2
  have hlt : z.toNat < N := by omega
  refine W.lald (v := .long (f z.toNat)) hC.ex hC.cb h1 (h6 t _ ht rfl) q3 (by rw [h4]; have := iz_in (n := N) hj.1 hj.2.1 hj.2.2; exact this) (by rw [hcl]; exact h5 _ hlt) rfl rfl d (n H locs ls cells slots hR hz hS hL hc' hs)
theorem gx_dald (hC : gx_C p l s m args meth c D A T cc nL ret own mn tb) {t N : Nat} {f : Nat → UInt64} {z : Int} {a : Nat} (ht : gx_tyL[t]? = some .double) (d : decode cc pc = .ok (.daload, 1)) (hG : T a (gx_B D t N f) ∨ G a (gx_B D t N f)) (hj : 0 ≤ z ∧ z < N ∧ z < 2147483648) (n : gx_X p l e R s m args below meth c Q D A G nx bc bs (pc + 1) L (.double (f z.toNat) :: S)) : gx_X p l e R s m args below meth c Q D A G nx bc bs pc L (.int (iz z) :: .ref a :: S) := by
  intro H locs ls cells slots hR hz hS hL hc' hs
  obtain ⟨cell, h1, q0, q3, h4, h5, h6⟩ := gx_rd hC hR hS hG
  have hcl := iz_cl hj.1 hj.2.2
  have hlt : z.toNat < N := by omega
  refine W.dald (v := .double (f z.toNat)) hC.ex hC.cb h1 (h6 t _ ht rfl) q3 (by rw [h4]; have := iz_in (n := N) hj.1 hj.2.1 hj.2.2; exact this) (by rw [hcl]; exact h5 _ hlt) rfl rfl d (n H locs ls cells slots hR hz hS hL hc' hs)
theorem gx_aald (hC : gx_C p l s m args meth c D A T cc nL ret own mn tb) {t N : Nat} {C : String} {f : Nat → Option Nat} {z : Int} {a : Nat} {v : Value} (ht : gx_tyL[t]? = some (.object C)) (d : decode cc pc = .ok (.aaload, 1)) (hG : T a (gx_Q D t N f) ∨ G a (gx_Q D t N f)) (hj : 0 ≤ z ∧ z < N ∧ z < 2147483648) (hv : va_rf (f z.toNat) = v) (n : gx_X p l e R s m args below meth c Q D A G nx bc bs (pc + 1) L (v :: S)) : gx_X p l e R s m args below meth c Q D A G nx bc bs pc L (.int (iz z) :: .ref a :: S) := by
  intro H locs ls cells slots hR hz hS hL hc' hs
  obtain ⟨cell, h1, q0, q3, h4, h5, h6⟩ := gx_rd hC hR hS hG
  have hcl := iz_cl hj.1 hj.2.2
  have hlt : z.toNat < N := by omega
  subst hv
  refine W.aald (v := va_rf (f z.toNat)) hC.ex hC.cb h1 (h6 t _ ht rfl) rfl q3 (by rw [h4]; have := iz_in (n := N) hj.1 hj.2.1 hj.2.2; exact this) (by rw [hcl]; exact h5 _ hlt) rfl rfl d (n H locs ls cells slots hR hz hS hL hc' hs)
theorem gx_alen (hC : gx_C p l s m args meth c D A T cc nL ret own mn tb) {t N : Nat} {ty : FieldType} {x : (Nat → Int32) ⊕ (Nat → Int64) ⊕ (Nat → UInt32) ⊕ (Nat → UInt64) ⊕ (Nat → Option Nat)} {a : Nat} (ht : gx_tyL[t]? = some ty) (d : decode cc pc = .ok (.arraylength, 1)) (hG : T a (.inl (.inl (D.2.1 t, N, x))) ∨ G a (.inl (.inl (D.2.1 t, N, x)))) (n : gx_X p l e R s m args below meth c Q D A G nx bc bs (pc + 1) L (.int (iz N) :: S)) : gx_X p l e R s m args below meth c Q D A G nx bc bs pc L (.ref a :: S) := by
  intro H locs ls cells slots hR hz hS hL hc' hs
  obtain ⟨cell, h1, q0, q3, h4, h5, h6⟩ := gx_rd hC hR hS hG
  refine W.alen (n := iz N) hC.ex hC.cb h1 (h6 t _ ht rfl) (by rw [h4, iz_nat]; rfl) rfl rfl d (n H locs ls cells slots hR hz hS hL hc' hs)
def gx_fu (f : Nat → Int) (k : Nat) (x : Int) : Nat → Int := fun j => if j = k then x else f j
def gx_fq (f : Nat → Option Nat) (k : Nat) (x : Option Nat) : Nat → Option Nat := fun j => if j = k then x else f j
theorem gx_iast (hC : gx_C p l s m args meth c D A T cc nL ret own mn tb) {t N : Nat} {f : Nat → Int} {z : Int} {x : Int} {a : Nat} (ht : gx_tyL[t]? = some .int) (d : decode cc pc = .ok (.iastore, 1)) (hG : G a (gx_I D t N f)) (hA : A a) (hj : 0 ≤ z ∧ z < N ∧ z < 2147483648) (n : gx_X p l e R s m args below meth c Q D A (gx_up G a (gx_I D t N (gx_fu f z.toNat x))) nx bc bs (pc + 1) L S) : gx_X p l e R s m args below meth c Q D A G nx bc bs pc L (.int (iz x) :: .int (iz z) :: .ref a :: S) := by
  intro H locs ls cells slots hR hz hS hL hc' hs
  have h1 : H[a]? = some (vp_cell _ _) := hR a _ hG
  have hcl := iz_cl hj.1 hj.2.2
  refine W.iast hC.ex hC.cb h1 ((hC.K.2 t _ (gx_ty D ht)).1 N (fun j => .int (iz (f j)))) (fun q => (by cases q)) (by show ¬ (iz z < 0 ∨ (arrV _ _ _).slots.size ≤ _); rw [arrV_size]; have := iz_in (n := N) hj.1 hj.2.1 hj.2.2; exact this) rfl rfl d fun H1 e z1 oq => ?_
  refine n H1 _ ls cells slots (hR.up ?_ oq) (z1.trans hz) (hS.put z1 oq hA) hL hc' hs
  show H1[a]? = some (vp_cell _ _)
  rw [e, hcl]
  rw [vp_cell_i, vp_cell_i, arrV_store]
  congr 2
  funext q
  by_cases hq : q = z.toNat
  · subst hq
    simp [updV, gx_fu]
  · simp [updV, gx_fu, gx_fq, hq]
theorem gx_bast (hC : gx_C p l s m args meth c D A T cc nL ret own mn tb) {t N : Nat} {f : Nat → Int} {z : Int} {x : Int} {a : Nat} (ht : gx_tyL[t]? = some .byte) (d : decode cc pc = .ok (.bastore, 1)) (hG : G a (gx_I D t N f)) (hA : A a) (hj : 0 ≤ z ∧ z < N ∧ z < 2147483648) (hb : (iz x).toInt8.toInt32 = iz x) (n : gx_X p l e R s m args below meth c Q D A (gx_up G a (gx_I D t N (gx_fu f z.toNat x))) nx bc bs (pc + 1) L S) : gx_X p l e R s m args below meth c Q D A G nx bc bs pc L (.int (iz x) :: .int (iz z) :: .ref a :: S) := by
  intro H locs ls cells slots hR hz hS hL hc' hs
  have h1 : H[a]? = some (vp_cell _ _) := hR a _ hG
  have hcl := iz_cl hj.1 hj.2.2
  refine W.bast hC.ex hC.cb h1 ((hC.K.2 t _ (gx_ty D ht)).1 N (fun j => .int (iz (f j)))) (fun q => (by cases q)) (by show ¬ (iz z < 0 ∨ (arrV _ _ _).slots.size ≤ _); rw [arrV_size]; have := iz_in (n := N) hj.1 hj.2.1 hj.2.2; exact this) rfl rfl d fun H1 e z1 oq => ?_
  refine n H1 _ ls cells slots (hR.up ?_ oq) (z1.trans hz) (hS.put z1 oq hA) hL hc' hs
  show H1[a]? = some (vp_cell _ _)
  rw [e, hcl]
  rw [vp_cell_i, vp_cell_i, arrV_store]
  congr 2
  funext q
  by_cases hq : q = z.toNat
  · subst hq
    simp [updV, gx_fu, hb, narrow]
  · simp [updV, gx_fu, gx_fq, hq]
theorem gx_last (hC : gx_C p l s m args meth c D A T cc nL ret own mn tb) {t N : Nat} {f : Nat → Int64} {z : Int} {x : Int64} {a : Nat} (ht : gx_tyL[t]? = some .long) (d : decode cc pc = .ok (.lastore, 1)) (hG : G a (gx_J D t N f)) (hA : A a) (hj : 0 ≤ z ∧ z < N ∧ z < 2147483648) (n : gx_X p l e R s m args below meth c Q D A (gx_up G a (gx_J D t N (fun j => if j = z.toNat then x else f j))) nx bc bs (pc + 1) L S) : gx_X p l e R s m args below meth c Q D A G nx bc bs pc L (.long x :: .int (iz z) :: .ref a :: S) := by
  intro H locs ls cells slots hR hz hS hL hc' hs
  have h1 : H[a]? = some (vp_cell _ _) := hR a _ hG
  have hcl := iz_cl hj.1 hj.2.2
  refine W.last hC.ex hC.cb h1 ((hC.K.2 t _ (gx_ty D ht)).1 N (fun j => .long (f j))) (fun q => (by cases q)) (by show ¬ (iz z < 0 ∨ (arrV _ _ _).slots.size ≤ _); rw [arrV_size]; have := iz_in (n := N) hj.1 hj.2.1 hj.2.2; exact this) rfl rfl d fun H1 e z1 oq => ?_
  refine n H1 _ ls cells slots (hR.up ?_ oq) (z1.trans hz) (hS.put z1 oq hA) hL hc' hs
  show H1[a]? = some (vp_cell _ _)
  rw [e, hcl]
  rw [vp_cell_l, vp_cell_l, arrV_store]
  congr 2
  funext q
  by_cases hq : q = z.toNat
  · subst hq
    simp [updV]
  · simp [updV, gx_fu, gx_fq, hq]
theorem gx_dast (hC : gx_C p l s m args meth c D A T cc nL ret own mn tb) {t N : Nat} {f : Nat → UInt64} {z : Int} {x : UInt64} {a : Nat} (ht : gx_tyL[t]? = some .double) (d : decode cc pc = .ok (.dastore, 1)) (hG : G a (gx_B D t N f)) (hA : A a) (hj : 0 ≤ z ∧ z < N ∧ z < 2147483648) (n : gx_X p l e R s m args below meth c Q D A (gx_up G a (gx_B D t N (fun j => if j = z.toNat then x else f j))) nx bc bs (pc + 1) L S) : gx_X p l e R s m args below meth c Q D A G nx bc bs pc L (.double x :: .int (iz z) :: .ref a :: S) := by
  intro H locs ls cells slots hR hz hS hL hc' hs
  have h1 : H[a]? = some (vp_cell _ _) := hR a _ hG
  have hcl := iz_cl hj.1 hj.2.2
  refine W.dast hC.ex hC.cb h1 ((hC.K.2 t _ (gx_ty D ht)).1 N (fun j => .double (f j))) (fun q => (by cases q)) (by show ¬ (iz z < 0 ∨ (arrV _ _ _).slots.size ≤ _); rw [arrV_size]; have := iz_in (n := N) hj.1 hj.2.1 hj.2.2; exact this) rfl rfl d fun H1 e z1 oq => ?_
  refine n H1 _ ls cells slots (hR.up ?_ oq) (z1.trans hz) (hS.put z1 oq hA) hL hc' hs
  show H1[a]? = some (vp_cell _ _)
  rw [e, hcl]
  rw [vp_cell_d, vp_cell_d, arrV_store]
  congr 2
  funext q
  by_cases hq : q = z.toNat
  · subst hq
    simp [updV]
  · simp [updV, gx_fu, gx_fq, hq]
theorem gx_own {G : gx_H} {H : Heap} {locs : List Loc} {a ci N : Nat} {C : String} {Tf : u_T} {fs : List Value} (hC : gx_C p l s m args meth c D A T cc nL ret own mn tb) (hR : gx_R D G H) (hS : va_S A s.heap H locs) (hG : T a (gx_O ci fs) ∨ G a (gx_O ci fs)) (hc : gx_cl[ci]? = some (C, Tf, N)) : ∃ cell : Cell, H[a]? = some cell ∧ cell.vm.isStatics = false ∧ s.vm.findClass C = some cell.cls := by
  obtain ⟨r, cell, h1, q1, q0, q3, q2, q4⟩ := gx_rd hC hR hS hG
  cases Option.some.inj (h1.symm.trans hc)
  exact ⟨cell, q1, q0, by rw [q2]; exact (hC.K.1 ci _ hc).2.1⟩
theorem gx_nst {v : VmData} (h : v.isStatics = false) : ∀ z, v ≠ .statics z := by
  intro z q
  rw [q] at h
  cases h
theorem gx_aast (hC : gx_C p l s m args meth c D A T cc nL ret own mn tb) {t N : Nat} {C : String} {f : Nat → Option Nat} {z : Int} {a : Nat} (ht : gx_tyL[t]? = some (.object C)) (d : decode cc pc = .ok (.aastore, 1)) (hG : G a (gx_Q D t N f)) (hA : A a) (hj : 0 ≤ z ∧ z < N ∧ z < 2147483648) {E : String} {b ci Nb : Nat} {Tb : u_T} {gs : List Value} (hc : gx_cl[ci]? = some (E, Tb, Nb)) (hb : T b (gx_O ci gs) ∨ G b (gx_O ci gs)) (hca : Cond.castable E C ∈ lw_tbl) (n : gx_X p l e R s m args below meth c Q D A (gx_up G a (gx_Q D t N (gx_fq f z.toNat (some b)))) nx bc bs (pc + 1) L S) : gx_X p l e R s m args below meth c Q D A G nx bc bs pc L (.ref b :: .int (iz z) :: .ref a :: S) := by
  intro H locs ls cells slots hR hz hS hL hc' hs
  have h1 : H[a]? = some (vp_cell _ _) := hR a _ hG
  have hcl := iz_cl hj.1 hj.2.2
  obtain ⟨cellV, g1, g2, g3⟩ := gx_own hC hR hS hb hc
  obtain ⟨kA, comp, k1, k2, k3, -⟩ := (hC.K.2 t _ (gx_ty D ht)).2
  obtain ⟨kC, hkC, -⟩ := (hC.K.1 ci _ hc).2.2
  have hcv : cellV.cls = D.1.1 ci := Option.some.inj (g3.symm.trans (hC.K.1 ci _ hc).2.1)
  have hasg : s.vm.assignable cellV.cls comp = true := vb_asgC (hC.nw hca rfl) _ _ k3 g3
  have hin := iz_in (n := N) hj.1 hj.2.1 hj.2.2
  have hlt9 : (iz z).toNatClampNeg < N := by rw [hcl]; omega
  obtain ⟨kM, hkM⟩ : ∃ k9, s.vm.classes[comp]? = some k9 := by
    obtain ⟨k9, h9, -⟩ := Vm.findClass_spec k3
    exact ⟨k9, h9⟩
  refine W.aast hC.ex hC.cb h1 (fun q h => by cases h) (fun h => by cases h) k1 k2 rfl hkM ⟨fun q => hin (Or.inl q), by show _ < (arrV _ _ _).slots.size; rw [arrV_size]; exact hlt9⟩ g1 (fun q h => by rw [h] at g2; cases g2) (by rw [hcv]; exact hkC) hasg rfl rfl d fun H1 e z1 oq => ?_
  refine n H1 _ ls cells slots (hR.up ?_ oq) (z1.trans hz) (hS.put z1 oq hA) hL hc' hs
  show H1[a]? = some (vp_cell _ _)
  rw [e, hcl]
  rw [vp_cell_q, vp_cell_q, arrV_store]
  congr 2
  funext q
  by_cases hq : q = z.toNat
  · subst hq
    simp [updV, gx_fq, va_rf]
  · simp [updV, gx_fq, hq]
theorem gx_aastN (hC : gx_C p l s m args meth c D A T cc nL ret own mn tb) {t N : Nat} {C : String} {f : Nat → Option Nat} {z : Int} {a : Nat} (ht : gx_tyL[t]? = some (.object C)) (d : decode cc pc = .ok (.aastore, 1)) (hG : G a (gx_Q D t N f)) (hA : A a) (hj : 0 ≤ z ∧ z < N ∧ z < 2147483648)  (n : gx_X p l e R s m args below meth c Q D A (gx_up G a (gx_Q D t N (gx_fq f z.toNat none))) nx bc bs (pc + 1) L S) : gx_X p l e R s m args below meth c Q D A G nx bc bs pc L (.null :: .int (iz z) :: .ref a :: S) := by
  intro H locs ls cells slots hR hz hS hL hc' hs
  have h1 : H[a]? = some (vp_cell _ _) := hR a _ hG
  have hcl := iz_cl hj.1 hj.2.2
  refine va_WaastN (C := C) hC.ex hC.cb h1 ((hC.K.2 t _ (gx_ty D ht)).1 N (fun j => va_rf (f j))) (fun q => (by cases q)) (by show ¬ (iz z < 0 ∨ (arrV _ _ _).slots.size ≤ _); rw [arrV_size]; have := iz_in (n := N) hj.1 hj.2.1 hj.2.2; exact this) rfl rfl d fun H1 e z1 oq => ?_
  refine n H1 _ ls cells slots (hR.up ?_ oq) (z1.trans hz) (hS.put z1 oq hA) hL hc' hs
  show H1[a]? = some (vp_cell _ _)
  rw [e, hcl]
  rw [vp_cell_q, vp_cell_q, arrV_store]
  congr 2
  funext q
  by_cases hq : q = z.toNat
  · subst hq
    simp [updV, gx_fq, va_rf]
  · simp [updV, gx_fq, hq]
theorem gx_cast (hC : gx_C p l s m args meth c D A T cc nL ret own mn tb) {C nm : String} {Tf : u_T} {N ci idx a : Nat} {fs : List Value} (hc : gx_cl[ci]? = some (C, Tf, N)) (hcl : Cond.classLink own idx nm ∈ lw_all) (hca : Cond.castable C nm ∈ lw_tbl) (d : decode cc pc = .ok (.checkcast idx, 3)) (hG : T a (gx_O ci fs) ∨ G a (gx_O ci fs)) (n : gx_X p l e R s m args below meth c Q D A G nx bc bs (pc + 3) L (.ref a :: S)) : gx_X p l e R s m args below meth c Q D A G nx bc bs pc L (.ref a :: S) := by
  intro H locs ls cells slots hR hz hS hL hc' hs
  exact va_castY hC.ex hC.cb hC.ow (hC.ts _ hcl) (hC.nw hca rfl) (gx_own hC hR hS hG hc) d (n H locs ls cells slots hR hz hS hL hc' hs)
theorem gx_castE (hC : gx_C p l s m args meth c D A T cc nL ret own mn tb) {C : String} {Tf : u_T} {N ci idx a : Nat} {fs : List Value} (hc : gx_cl[ci]? = some (C, Tf, N)) (hcl : Cond.classLink own idx C ∈ lw_all) (d : decode cc pc = .ok (.checkcast idx, 3)) (hG : T a (gx_O ci fs) ∨ G a (gx_O ci fs)) (n : gx_X p l e R s m args below meth c Q D A G nx bc bs (pc + 3) L (.ref a :: S)) : gx_X p l e R s m args below meth c Q D A G nx bc bs pc L (.ref a :: S) := by
  intro H locs ls cells slots hR hz hS hL hc' hs
  exact va_castE hC.ex hC.cb hC.ow (hC.ts _ hcl) (gx_own hC hR hS hG hc) d (n H locs ls cells slots hR hz hS hL hc' hs)
theorem gx_castN (hC : gx_C p l s m args meth c D A T cc nL ret own mn tb) {idx : Nat} (d : decode cc pc = .ok (.checkcast idx, 3)) (n : gx_X p l e R s m args below meth c Q D A G nx bc bs (pc + 3) L (.null :: S)) : gx_X p l e R s m args below meth c Q D A G nx bc bs pc L (.null :: S) := by
  intro H locs ls cells slots hR hz hS hL hc' hs
  exact lv_castN hC.ex hC.cb d (n H locs ls cells slots hR hz hS hL hc' hs)
theorem gx_instE (hC : gx_C p l s m args meth c D A T cc nL ret own mn tb) {C : String} {Tf : u_T} {N ci idx a : Nat} {fs : List Value} (hc : gx_cl[ci]? = some (C, Tf, N)) (hcl : Cond.classLink own idx C ∈ lw_all) (d : decode cc pc = .ok (.instanceof idx, 3)) (hG : T a (gx_O ci fs) ∨ G a (gx_O ci fs)) (n : gx_X p l e R s m args below meth c Q D A G nx bc bs (pc + 3) L (.int (iz 1) :: S)) : gx_X p l e R s m args below meth c Q D A G nx bc bs pc L (.ref a :: S) := by
  intro H locs ls cells slots hR hz hS hL hc' hs
  exact va_instE hC.ex hC.cb hC.ow (hC.ts _ hcl) (gx_own hC hR hS hG hc) d (n H locs ls cells slots hR hz hS hL hc' hs)
theorem gx_gets (hC : gx_C p l s m args meth c D A T cc nL ret own mn tb) {C nm dd ref : String} {v : Value} {idx : Nat} (hz9 : (C, nm, dd, v) ∈ gx_zs D) (hlink : Cond.fieldLink own idx ref nm dd ∈ lw_all) (hsame : ∀ x, s.fieldFound? C nm dd = some x → s.fieldFound? ref nm dd = some x) (d : decode cc pc = .ok (.getstatic idx, 3)) (n : gx_X p l e R s m args below meth c Q D A G nx bc bs (pc + 3) L (v :: S)) : gx_X p l e R s m args below meth c Q D A G nx bc bs pc L S := by
  intro H locs ls cells slots hR hz hS hL hc' hs
  exact va_gets hC.ex hC.cb (hC.u.2.2.2.2.2.1 _ hz9) hS hC.ow (hC.ts _ hlink) hsame d (n H locs ls cells slots hR hz hS hL hc' hs)
theorem gx_ldcS (hC : gx_C p l s m args meth c D A T cc nL ret own mn tb) {tx : String} {idx q : Nat} (hz9 : (own, idx, tx, q) ∈ gx_ss D) (d : decode cc pc = .ok (.ldc idx, 2)) (n : gx_X p l e R s m args below meth c Q D A G nx bc bs (pc + 2) L (.ref q :: S)) : gx_X p l e R s m args below meth c Q D A G nx bc bs pc L S := by
  intro H locs ls cells slots hR hz hS hL hc' hs
  exact va_ldcS hC.ex hC.cb hC.ow (hC.u.2.2.2.2.2.2.1 _ hz9) d (n H locs ls cells slots hR hz hS hL hc' hs)
theorem gx_ldcSW (hC : gx_C p l s m args meth c D A T cc nL ret own mn tb) {tx : String} {idx q : Nat} (hz9 : (own, idx, tx, q) ∈ gx_ss D) (d : decode cc pc = .ok (.ldc_w idx, 3)) (n : gx_X p l e R s m args below meth c Q D A G nx bc bs (pc + 3) L (.ref q :: S)) : gx_X p l e R s m args below meth c Q D A G nx bc bs pc L S := by
  intro H locs ls cells slots hR hz hS hL hc' hs
  intro U hT X
  obtain ⟨t, a1, b1⟩ := n H locs ls cells slots hR hz hS hL hc' hs U hT X
  have h := hC.u.2.2.2.2.2.2.1 _ hz9
  exact ⟨t, X.ldcStringW hC.ex hC.ow (text := tx) (a := q) h.1 h.2 (g := F0 m pc ls S) rfl (by rw [hC.cb]; exact d) t a1, b1⟩
theorem gx_oinit (hC : gx_C p l s m args meth c D A T cc nL ret own mn tb) {idx a : Nat} (hlink : Cond.methodLink own idx Lib.objectInit ∈ lw_all) (hinst : Cond.instanceMethod Lib.objectInit ∈ lw_all) (hcode : Cond.code Lib.objectInit ⟨#[0xb1]⟩ 1 none ∈ lw_all) (d : decode cc pc = .ok (.invokespecial idx, 3)) (hfr : 1 ≤ R.frames) (hlo : (S.map fun v => v.category).sum + 12 ≤ R.locals) (n : gx_X p l e R s m args below meth c Q D A G nx bc bs (pc + 3) L S) : gx_X p l e R s m args below meth c Q D A G nx bc bs pc L (.ref a :: S) := by
  intro H locs ls cells slots hR hz hS hL hc' hs
  refine W.objInit hC.ex hC.cb hC.ow (hC.ts _ hlink) (hC.ts _ hinst) (hC.ts _ hcode) rfl (by exact hL.1) rfl d hfr (by show 2 * 0 + _ + 12 ≤ _; omega) ?_
  exact n H locs ls cells slots hR hz hS hL hc' hs
variable {Po : Option Value → gx_H → Nat → Prop} {Px : String → Nat → gx_H → Nat → Prop} {mc ms : Nat}
theorem gx_end {G : gx_H} {H : Heap} {locs : List Loc} {v : Option Value} (hR : gx_R D G H) (hz : H.size = nx) (hS : va_S A s.heap H locs) (hp : ∀ G', gx_le G G' → Po v G' nx) : ∀ t : State, t.heap = H → s.WarmedH t.vm → gx_Qc D A Po args s (.returned v) t := by
  intro t ht hW
  subst ht
  refine ⟨⟨v, rfl, ?_⟩, hS.F rfl⟩
  rw [hz]
  exact hp _ (fun a x h => hR a x h)
theorem gx_iret (hC : gx_C p l s m args meth c D A T cc nL ret own mn tb) {bc bs : Nat} (hmc : R.cells = mc) (hms : R.slots = ms) {x : Int} (hr : ret = some .int) (d : decode cc pc = .ok (.ireturn, 1)) (hp : ∀ G', gx_le G G' → Po (some (.int (iz x))) G' nx) : gx_X p l e R s m args below meth c (gx_QQ below D A Po Px args s mc ms) D A G nx bc bs pc L ([.int (iz x)]) := by
  intro H locs ls cells slots hR hz hS hL hc' hs
  exact vx_ret (W.widen (k := mc) (n := ms) (by omega) (by omega) (W.iret hC.ex hC.cb (hC.rt.trans hr) (gx_end hR hz hS hp) hS.2.2 d hC.lo))
theorem gx_zret (hC : gx_C p l s m args meth c D A T cc nL ret own mn tb) {bc bs : Nat} (hmc : R.cells = mc) (hms : R.slots = ms) {x : Int} {ty : FieldType} (hr : ret = some ty) (hn : narrow ty (.int (iz x)) = .int (iz x)) (d : decode cc pc = .ok (.ireturn, 1)) (hp : ∀ G', gx_le G G' → Po (some (.int (iz x))) G' nx) : gx_X p l e R s m args below meth c (gx_QQ below D A Po Px args s mc ms) D A G nx bc bs pc L ([.int (iz x)]) := by
  intro H locs ls cells slots hR hz hS hL hc' hs
  exact vx_ret (W.widen (k := mc) (n := ms) (by omega) (by omega) (W.zret hC.ex hC.cb (hC.rt.trans hr) hn (gx_end hR hz hS hp) hS.2.2 d hC.lo))
theorem gx_fret (hC : gx_C p l s m args meth c D A T cc nL ret own mn tb) {bc bs : Nat} (hmc : R.cells = mc) (hms : R.slots = ms) {x : UInt32} (hr : ret = some .float) (d : decode cc pc = .ok (.freturn, 1)) (hp : ∀ G', gx_le G G' → Po (some (.float x)) G' nx) : gx_X p l e R s m args below meth c (gx_QQ below D A Po Px args s mc ms) D A G nx bc bs pc L ([.float x]) := by
  intro H locs ls cells slots hR hz hS hL hc' hs
  exact vx_ret (W.widen (k := mc) (n := ms) (by omega) (by omega) (W.fret hC.ex hC.cb (hC.rt.trans hr) (gx_end hR hz hS hp) hS.2.2 d hC.lo))
theorem gx_dret (hC : gx_C p l s m args meth c D A T cc nL ret own mn tb) {bc bs : Nat} (hmc : R.cells = mc) (hms : R.slots = ms) {x : UInt64} (hr : ret = some .double) (d : decode cc pc = .ok (.dreturn, 1)) (hp : ∀ G', gx_le G G' → Po (some (.double x)) G' nx) : gx_X p l e R s m args below meth c (gx_QQ below D A Po Px args s mc ms) D A G nx bc bs pc L ([.double x]) := by
  intro H locs ls cells slots hR hz hS hL hc' hs
  exact vx_ret (W.widen (k := mc) (n := ms) (by omega) (by omega) (W.dret hC.ex hC.cb (hC.rt.trans hr) (gx_end hR hz hS hp) hS.2.2 d hC.lo))
theorem gx_vret (hC : gx_C p l s m args meth c D A T cc nL ret own mn tb) {bc bs : Nat} (hmc : R.cells = mc) (hms : R.slots = ms) (hr : ret = none) (d : decode cc pc = .ok (.return_, 1)) (hp : ∀ G', gx_le G G' → Po none G' nx) : gx_X p l e R s m args below meth c (gx_QQ below D A Po Px args s mc ms) D A G nx bc bs pc L ([]) := by
  intro H locs ls cells slots hR hz hS hL hc' hs
  exact vx_ret (W.widen (k := mc) (n := ms) (by omega) (by omega) (W.vret hC.ex hC.cb (hC.rt.trans hr) (gx_end hR hz hS hp) hS.2.2 d hC.lo))
theorem gx_aret (hC : gx_C p l s m args meth c D A T cc nL ret own mn tb) {bc bs : Nat} (hmc : R.cells = mc) (hms : R.slots = ms) {v : Value} {rt : FieldType} (hr : ret = some rt) (hrt : (∃ n, rt = .object n) ∨ ∃ t, rt = .array t) (hv : gx_isr v = true) (d : decode cc pc = .ok (.areturn, 1)) (hp : ∀ G', gx_le G G' → Po (some v) G' nx) : gx_X p l e R s m args below meth c (gx_QQ below D A Po Px args s mc ms) D A G nx bc bs pc L ([v]) := by
  intro H locs ls cells slots hR hz hS hL hc' hs
  exact vx_ret (W.widen (k := mc) (n := ms) (by omega) (by omega) (W.aret hC.ex hC.cb (hC.rt.trans hr) hrt (by cases v <;> first | exact Or.inl rfl | exact Or.inr ⟨_, rfl⟩ | cases hv) (gx_end hR hz hS hp) hS.2.2 d hC.lo))
end GXR
section GXS
variable {p : Program} {l : Launch} {e : Env} {R : Room} {s : State} {m : MethodId} {args : Array Value} {below : List Frame} {meth : Method} {c : Code} {Q : State → Prop} {D : gx_D} {A : Nat → Prop} {T : gx_H} {cc : ByteArray} {nL : Nat} {ret : Option FieldType} {own mn : String} {tb : List ExceptionTableEntry} {G : gx_H} {nx bc bs pc : Nat} {L : List (Nat × Option Value)} {S : List Value}
variable {y : MethodName} {bytes : ByteArray} {maxL mc ms h nA idx b : Nat} {rt : Option FieldType} {ws : List Cond} {M : Nat → Prop} {T1 G1 : gx_H} {As rest : List Value} {Po : Option Value → gx_H → Nat → Prop} {Px : String → Nat → gx_H → Nat → Prop} {hh : List (Nat × Nat × Nat × Nat)}
/-- how a call begins: the callee's world is among what is known here -/
def gx_in (A : Nat → Prop) (T G T1 G1 : gx_H) (M : Nat → Prop) : Prop := (∀ q, M q → A q) ∧ (∀ a x, G1 a x → G a x) ∧ (∀ a x, T1 a x → T a x ∨ G a x) ∧ ∀ a x, T1 a x → ¬ M a
theorem gx_in.id (hC : gx_C p l s m args meth c D A T cc nL ret own mn tb) (hM : ∀ q, M q → A q) : gx_in A T G T G M := ⟨hM, fun _ _ h => h, fun _ _ h => Or.inl h, fun a x h h2 => hC.TA a x h (hM a h2)⟩
theorem gx_in.id0 : gx_in A T G T G gx_M0 := ⟨fun _ h => h.elim, fun _ _ h => h, fun _ _ h => Or.inl h, fun _ _ _ h => h.elim⟩
theorem gx_blind {av : List Value} : FrameBlind (va_Pc av (fun U => gx_st D A T G nx U)) := by
  intro a U g mk ⟨h1, h2, h3, h4, h5, h6⟩
  exact ⟨h1, h2, h3, fun x z hx => (h4 x z hx).moved (u := U) (U := U.calling g mk a) (Vm.Alike.refl U.vm), h5, h6.on (U := U.calling g mk a) (State.WarmedH.refl U) (fun _ _ _ => rfl) (fun _ h => h)⟩
theorem gx_ent {H : Heap} {locs : List Loc} (hC : gx_C p l s m args meth c D A T cc nL ret own mn tb) (hR : gx_R D G H) (hz : H.size = nx) (hS : va_S A s.heap H locs) (hI : gx_in A T G T1 G1 M) (U : State) (hU : U.heap = H) (hW : s.WarmedH U.vm) : gx_st D (gx_A M nx) T1 G1 nx U := by
  subst hU
  obtain ⟨hM, hG, hT, hd⟩ := hI
  have hA : ∀ q, gx_A M nx q → A q := fun q hq => by
    rcases hq with hq | hq
    · exact hM q hq
    · exact hC.hA q (Nat.le_trans hS.1 (by omega))
  have h1 : ∀ a x, T1 a x → gx_aw D s U.heap a x := fun a x hx => gx_rd hC hR hS (hT a x hx)
  refine ⟨hz, fun a x hx => hR a x (hG a x hx), fun a x hx => (h1 a x hx).moved hW.alike, fun a x hx hq => ?_, hC.u.on hW hS.2.1 hA⟩
  rcases hq with hq | hq
  · exact hd a x hx hq
  · have := (h1 a x hx).lt
    omega
def gx_kx (p : Program) (l : Launch) (e : Env) (R : Room) (s : State) (m : MethodId) (args : Array Value) (below : List Frame) (meth : Method) (c : Code) (Q : State → Prop) (D : gx_D) (A : Nat → Prop) (M : Nat → Prop) (G : gx_H) (nx bc bs pc : Nat) (L : List (Nat × Option Value)) (rest : List Value) (Px : String → Nat → gx_H → Nat → Prop) : Prop :=
  ∀ (E : String) (q : Nat) (G2 : gx_H) (nx2 : Nat), Px E q G2 nx2 → (∀ a x, G a x → ¬ M a → G2 a x) → nx ≤ nx2 → (∀ a x, G2 a x → a < nx2) → gx_XX p l e R s m args below meth c Q D A E q G2 nx2 bc bs pc L rest
def gx_ps : Option Value → List Value → List Value
  | some w, S => w :: S
  | none, S => S
theorem gx_ps_eq (v : Option Value) (S : List Value) : gx_ps v S = v.toList ++ S := by cases v <;> rfl
def gx_kk (p : Program) (l : Launch) (e : Env) (R : Room) (s : State) (m : MethodId) (args : Array Value) (below : List Frame) (meth : Method) (c : Code) (Q : State → Prop) (D : gx_D) (A : Nat → Prop) (M : Nat → Prop) (G : gx_H) (nx bc bs pc : Nat) (L : List (Nat × Option Value)) (rest : List Value) (Po : Option Value → gx_H → Nat → Prop) : Prop :=
  ∀ (v : Option Value) (G2 : gx_H) (nx2 : Nat), Po v G2 nx2 → (∀ a x, G a x → ¬ M a → G2 a x) → nx ≤ nx2 → (∀ a x, G2 a x → a < nx2) → gx_X p l e R s m args below meth c Q D A G2 nx2 bc bs pc L (gx_ps v rest)
/-- a callee that changes nothing, makes nothing -/
def gx_P (v : Option Value) (nx : Nat) : Option Value → gx_H → Nat → Prop := fun v' _ nx' => v' = v ∧ nx' = nx
theorem gx_kp1 {w : Value} (n : gx_X p l e R s m args below meth c Q D A G nx bc bs pc L (w :: rest)) : gx_kk p l e R s m args below meth c Q D A gx_M0 G nx bc bs pc L rest (gx_P (some w) nx) := by
  intro v G2 nx2 hp hf _ _
  obtain ⟨rfl, rfl⟩ := hp
  exact fun H locs ls cells slots hR hz hS hL hc hs => n H locs ls cells slots (fun a x h => hR a x (hf a x h (fun q => q))) hz hS hL hc hs
theorem gx_kp0 (n : gx_X p l e R s m args below meth c Q D A G nx bc bs pc L rest) : gx_kk p l e R s m args below meth c Q D A gx_M0 G nx bc bs pc L rest (gx_P none nx) := by
  intro v G2 nx2 hp hf _ _
  obtain ⟨rfl, rfl⟩ := hp
  exact fun H locs ls cells slots hR hz hS hL hc hs => n H locs ls cells slots (fun a x h => hR a x (hf a x h (fun q => q))) hz hS hL hc hs
theorem gx_kno : gx_kx p l e R s m args below meth c Q D A M G nx bc bs pc L rest gx_no := fun _ _ _ _ h => h.elim
theorem gx_run3 {a : Array Value} (hC : gx_C p l s m args meth c D A T cc nL ret own mn tb) (hI : gx_in A T G T1 G1 M)
    (hr : ∀ (H : Heap) (locs : List Loc) (ls : Array Slot) (cells slots : Nat), gx_R D G H → H.size = nx → va_S A s.heap H locs → gx_L ls c.maxLocals L → cells + mc ≤ R.cells → slots + ms ≤ R.slots → vx_Run p l e R s m args below meth c H locs cells slots mc ms (F0 m pc ls S) rest (gx_Qc D (gx_A M nx) Po a) (gx_Xc D (gx_A M nx) Px) (gx_A M nx))
    (kx : gx_kx p l e R s m args below meth c Q D A M G nx bc bs pc L rest Px) (kk : gx_kk p l e R s m args below meth c Q D A M G nx bc bs (pc + 3) L rest Po) : gx_X p l e R s m args below meth c Q D A G nx (bc + mc) (bs + ms) pc L S := by
  intro H locs ls cells slots hR hz hS hL hc' hs U hT X
  have hf : ∀ q, gx_A M nx q → A q := fun q hq => by
    rcases hq with hq | hq
    · exact hI.1 q hq
    · exact hC.hA q (Nat.le_trans hS.1 (by omega))
  have hkeep : ∀ {T' : State} (k2 : ∀ q : Nat, q < H.size → ¬ gx_A M nx q → T'.heap[q]? = H[q]?), ∀ a x, G a x → ¬ M a → gx_at D T'.heap a x := fun k2 a x h h2 => (hR a x h).kept (k2 a (hR a x h).lt (fun h3 => by
    rcases h3 with h3 | h3
    · exact h2 h3
    · have := (hR a x h).lt
      omega))
  rcases hr H locs ls cells slots hR hz hS hL (by omega) (by omega) U hT X with ⟨v, st₀, t, T', L', h0, X', hLf, e1, e2, ⟨⟨v', hv, hpo⟩, hF⟩, st⟩ | ⟨q, st₀, t, T', L', E, ce, h0, X', hLf, e1, e2, ⟨hpx, hF⟩, hce, hcv, hcl, st⟩
  · cases hv
    obtain ⟨k1, k2, k3⟩ := vx_keep h0 e1 hS (fun q _ h => hf q h) hf hLf hF
    have kk2 := kk v (gx_at D t.heap) t.heap.size hpo (by rw [← e1]; exact hkeep k2) (by rw [← e1, ← hz]; exact k1) (fun a x h => h.lt)
    rw [gx_ps_eq] at kk2
    obtain ⟨t2, a1, b1⟩ := kk2 T'.heap (locs ++ L') ls (cells + mc) (slots + ms) (fun a x h => by rw [e1]; exact h) (by rw [e1]) k3 hL (by omega) (by omega) T' rfl X'
    exact ⟨t2, st t2 a1, b1⟩
  · obtain ⟨k1, k2, k3⟩ := vx_keep h0 e1 hS (fun q _ h => hf q h) hf hLf hF
    obtain ⟨t2, a1, b1⟩ := kx E q (gx_at D t.heap) t.heap.size hpx (by rw [← e1]; exact hkeep k2) (by rw [← e1, ← hz]; exact k1) (fun a x h => h.lt) T'.heap (locs ++ L') ls (cells + mc) (slots + ms) (fun a x h => by rw [e1]; exact h) (by rw [e1]) k3 hL (by omega) (by omega) ⟨ce, by rw [e1]; exact hce, hcv, hcl⟩ T' rfl X'
    exact ⟨t2, st.trans a1, b1⟩
theorem gx_run5 {a : Array Value} (hC : gx_C p l s m args meth c D A T cc nL ret own mn tb) (hI : gx_in A T G T1 G1 M)
    (hr : ∀ (H : Heap) (locs : List Loc) (ls : Array Slot) (cells slots : Nat), gx_R D G H → H.size = nx → va_S A s.heap H locs → gx_L ls c.maxLocals L → cells + mc ≤ R.cells → slots + ms ≤ R.slots → vx_Run5 p l e R s m args below meth c H locs cells slots mc ms (F0 m pc ls S) rest (gx_Qc D (gx_A M nx) Po a) (gx_Xc D (gx_A M nx) Px) (gx_A M nx))
    (kx : gx_kx p l e R s m args below meth c Q D A M G nx bc bs pc L rest Px) (kk : gx_kk p l e R s m args below meth c Q D A M G nx bc bs (pc + 5) L rest Po) : gx_X p l e R s m args below meth c Q D A G nx (bc + mc) (bs + ms) pc L S := by
  intro H locs ls cells slots hR hz hS hL hc' hs U hT X
  have hf : ∀ q, gx_A M nx q → A q := fun q hq => by
    rcases hq with hq | hq
    · exact hI.1 q hq
    · exact hC.hA q (Nat.le_trans hS.1 (by omega))
  have hkeep : ∀ {T' : State} (k2 : ∀ q : Nat, q < H.size → ¬ gx_A M nx q → T'.heap[q]? = H[q]?), ∀ a x, G a x → ¬ M a → gx_at D T'.heap a x := fun k2 a x h h2 => (hR a x h).kept (k2 a (hR a x h).lt (fun h3 => by
    rcases h3 with h3 | h3
    · exact h2 h3
    · have := (hR a x h).lt
      omega))
  rcases hr H locs ls cells slots hR hz hS hL (by omega) (by omega) U hT X with ⟨v, st₀, t, T', L', h0, X', hLf, e1, e2, ⟨⟨v', hv, hpo⟩, hF⟩, st⟩ | ⟨q, st₀, t, T', L', E, ce, h0, X', hLf, e1, e2, ⟨hpx, hF⟩, hce, hcv, hcl, st⟩
  · cases hv
    obtain ⟨k1, k2, k3⟩ := vx_keep h0 e1 hS (fun q _ h => hf q h) hf hLf hF
    have kk2 := kk v (gx_at D t.heap) t.heap.size hpo (by rw [← e1]; exact hkeep k2) (by rw [← e1, ← hz]; exact k1) (fun a x h => h.lt)
    rw [gx_ps_eq] at kk2
    obtain ⟨t2, a1, b1⟩ := kk2 T'.heap (locs ++ L') ls (cells + mc) (slots + ms) (fun a x h => by rw [e1]; exact h) (by rw [e1]) k3 hL (by omega) (by omega) T' rfl X'
    exact ⟨t2, st t2 a1, b1⟩
  · obtain ⟨k1, k2, k3⟩ := vx_keep h0 e1 hS (fun q _ h => hf q h) hf hLf hF
    obtain ⟨t2, a1, b1⟩ := kx E q (gx_at D t.heap) t.heap.size hpx (by rw [← e1]; exact hkeep k2) (by rw [← e1, ← hz]; exact k1) (fun a x h => h.lt) T'.heap (locs ++ L') ls (cells + mc) (slots + ms) (fun a x h => by rw [e1]; exact h) (by rw [e1]) k3 hL (by omega) (by omega) ⟨ce, by rw [e1]; exact hce, hcv, hcl⟩ T' rfl X'
    exact ⟨t2, st.trans a1, b1⟩
theorem gx_callV (hC : gx_C p l s m args meth c D A T cc nL ret own mn tb) (hM : gx_Met l y (ws_ y bytes maxL rt) h mc ms D M T1 G1 nx (.ref b :: As) Po Px) {C : String} {Tf : u_T} {Nf ci : Nat} {fs : List Value} (hc : gx_cl[ci]? = some (C, Tf, Nf)) (hb : T b (gx_O ci fs) ∨ G b (gx_O ci fs)) (hw : GoodIn lw_all (wsV own idx C y (ws_ y bytes maxL rt))) (hd : y.cls = C ∧ y.cls ≠ "java/lang/invoke/MethodHandle" ∧ y.cls ≠ "java/lang/invoke/VarHandle" ∧ (parseMethodDescriptor y.desc).map (fun d => d.parameters.length) = some nA) (d : decode cc pc = .ok (.invokevirtual idx, 3)) (hS0 : S = As.reverse ++ .ref b :: rest) (hfr : h + 1 ≤ R.frames ∧ 8 + (maxL + 11) + (100 * h + 100) ≤ R.locals) (hI : gx_in A T G T1 G1 M) (hn : As.length = nA) (hW : (rest.map fun v => v.category).sum ≤ 8) (kx : gx_kx p l e R s m args below meth c Q D A M G nx bc bs pc L rest Px) (kk : gx_kk p l e R s m args below meth c Q D A M G nx bc bs (pc + 3) L rest Po) : gx_X p l e R s m args below meth c Q D A G nx (bc + mc) (bs + ms) pc L S := by
  subst hS0
  refine gx_run3 (a := ((Value.ref b :: As)).toArray) hC hI (fun H locs ls cells slots hR hz hS hL hc' hs => ?_) kx kk
  exact vx_runV ⟨hC.ex, hC.cb, hC.ml, hC.ow, hC.ts⟩ (hM hC.tr) (cwV nA hC.ts hw rfl rfl rfl hd hfr) ⟨gx_blind, gx_own hC hR hS hb hc, fun U hU hW9 => ⟨rfl, gx_ent hC hR hz hS hI U hU hW9⟩⟩ rfl hn (hL.1.trans hC.ml) rfl (by show 2 * 0 + _ ≤ 8; omega) d ⟨hc', hs⟩
theorem gx_callVW (hC : gx_C p l s m args meth c D A T cc nL ret own mn tb) (hM : gx_Met l y (wsW_ y bytes maxL rt hh) h mc ms D M T1 G1 nx (.ref b :: As) Po Px) {C : String} {Tf : u_T} {Nf ci : Nat} {fs : List Value} (hc : gx_cl[ci]? = some (C, Tf, Nf)) (hb : T b (gx_O ci fs) ∨ G b (gx_O ci fs)) (hw : GoodIn lw_all (wsV own idx C y (wsW_ y bytes maxL rt hh))) (hd : y.cls = C ∧ y.cls ≠ "java/lang/invoke/MethodHandle" ∧ y.cls ≠ "java/lang/invoke/VarHandle" ∧ (parseMethodDescriptor y.desc).map (fun d => d.parameters.length) = some nA) (d : decode cc pc = .ok (.invokevirtual idx, 3)) (hS0 : S = As.reverse ++ .ref b :: rest) (hfr : h + 1 ≤ R.frames ∧ 8 + (maxL + 11) + (100 * h + 100) ≤ R.locals) (hI : gx_in A T G T1 G1 M) (hn : As.length = nA) (hW : (rest.map fun v => v.category).sum ≤ 8) (kx : gx_kx p l e R s m args below meth c Q D A M G nx bc bs pc L rest Px) (kk : gx_kk p l e R s m args below meth c Q D A M G nx bc bs (pc + 3) L rest Po) : gx_X p l e R s m args below meth c Q D A G nx (bc + mc) (bs + ms) pc L S := by
  subst hS0
  refine gx_run3 (a := ((Value.ref b :: As)).toArray) hC hI (fun H locs ls cells slots hR hz hS hL hc' hs => ?_) kx kk
  exact vx_runVX ⟨hC.ex, hC.cb, hC.ml, hC.ow, hC.ts⟩ (hM hC.tr) (vx_cwVW nA hC.ts hw rfl rfl rfl hd hfr) ⟨gx_blind, gx_own hC hR hS hb hc, fun U hU hW9 => ⟨rfl, gx_ent hC hR hz hS hI U hU hW9⟩⟩ rfl hn (hL.1.trans hC.ml) rfl (by show 2 * 0 + _ ≤ 8; omega) d ⟨hc', hs⟩
theorem gx_callS (hC : gx_C p l s m args meth c D A T cc nL ret own mn tb) (hM : gx_Met l y (ws_ y bytes maxL rt) h mc ms D M T1 G1 nx As Po Px) (hw : GoodIn lw_all (va_wsS own idx y (ws_ y bytes maxL rt))) (hd : y.cls ≠ "java/lang/invoke/MethodHandle" ∧ y.cls ≠ "java/lang/invoke/VarHandle" ∧ (parseMethodDescriptor y.desc).map (fun d => d.parameters.length) = some nA) (d : decode cc pc = .ok (.invokestatic idx, 3)) (hS0 : S = As.reverse ++ rest) (hfr : h + 1 ≤ R.frames ∧ 8 + (maxL + 11) + (100 * h + 100) ≤ R.locals) (hI : gx_in A T G T1 G1 M) (hn : As.length = nA) (hW : (rest.map fun v => v.category).sum ≤ 8) (kx : gx_kx p l e R s m args below meth c Q D A M G nx bc bs pc L rest Px) (kk : gx_kk p l e R s m args below meth c Q D A M G nx bc bs (pc + 3) L rest Po) : gx_X p l e R s m args below meth c Q D A G nx (bc + mc) (bs + ms) pc L S := by
  subst hS0
  refine gx_run3 (a := (As).toArray) hC hI (fun H locs ls cells slots hR hz hS hL hc' hs => ?_) kx kk
  exact vx_runS ⟨hC.ex, hC.cb, hC.ml, hC.ow, hC.ts⟩ (hM hC.tr) (va_cwS nA hC.ts hw rfl rfl rfl hd hfr) ⟨gx_blind, fun U hU hW9 => ⟨rfl, gx_ent hC hR hz hS hI U hU hW9⟩⟩ rfl hn (hL.1.trans hC.ml) rfl (by show 2 * 0 + _ ≤ 8; omega) d ⟨hc', hs⟩
theorem gx_callSW (hC : gx_C p l s m args meth c D A T cc nL ret own mn tb) (hM : gx_Met l y (wsW_ y bytes maxL rt hh) h mc ms D M T1 G1 nx As Po Px) (hw : GoodIn lw_all (va_wsS own idx y (wsW_ y bytes maxL rt hh))) (hd : y.cls ≠ "java/lang/invoke/MethodHandle" ∧ y.cls ≠ "java/lang/invoke/VarHandle" ∧ (parseMethodDescriptor y.desc).map (fun d => d.parameters.length) = some nA) (d : decode cc pc = .ok (.invokestatic idx, 3)) (hS0 : S = As.reverse ++ rest) (hfr : h + 1 ≤ R.frames ∧ 8 + (maxL + 11) + (100 * h + 100) ≤ R.locals) (hI : gx_in A T G T1 G1 M) (hn : As.length = nA) (hW : (rest.map fun v => v.category).sum ≤ 8) (kx : gx_kx p l e R s m args below meth c Q D A M G nx bc bs pc L rest Px) (kk : gx_kk p l e R s m args below meth c Q D A M G nx bc bs (pc + 3) L rest Po) : gx_X p l e R s m args below meth c Q D A G nx (bc + mc) (bs + ms) pc L S := by
  subst hS0
  refine gx_run3 (a := (As).toArray) hC hI (fun H locs ls cells slots hR hz hS hL hc' hs => ?_) kx kk
  exact vx_runSX ⟨hC.ex, hC.cb, hC.ml, hC.ow, hC.ts⟩ (hM hC.tr) (vx_cwSW nA hC.ts hw rfl rfl rfl hd hfr) ⟨gx_blind, fun U hU hW9 => ⟨rfl, gx_ent hC hR hz hS hI U hU hW9⟩⟩ rfl hn (hL.1.trans hC.ml) rfl (by show 2 * 0 + _ ≤ 8; omega) d ⟨hc', hs⟩
theorem gx_callI (hC : gx_C p l s m args meth c D A T cc nL ret own mn tb) (hM : gx_Met l y (ws_ y bytes maxL none) h mc ms D M T1 G1 nx (.ref b :: As) Po Px) (hw : GoodIn lw_all (ws_ y bytes maxL none)) (hini : Cond.initialized y.cls ∈ lw_all) (hlk : Cond.methodLink own idx y ∈ lw_all) (hins : Cond.instanceMethod y ∈ lw_all) (hy1 : y.name = "<init>") (hd : y.cls ≠ "java/lang/invoke/MethodHandle" ∧ y.cls ≠ "java/lang/invoke/VarHandle" ∧ (parseMethodDescriptor y.desc).map (fun d => d.parameters.length) = some nA) (d : decode cc pc = .ok (.invokespecial idx, 3)) (hS0 : S = As.reverse ++ .ref b :: rest) (hfr : h + 1 ≤ R.frames ∧ 8 + (maxL + 11) + (100 * h + 100) ≤ R.locals) (hI : gx_in A T G T1 G1 M) (hn : As.length = nA) (hW : (rest.map fun v => v.category).sum ≤ 8) (kx : gx_kx p l e R s m args below meth c Q D A M G nx bc bs pc L rest Px) (kk : gx_kk p l e R s m args below meth c Q D A M G nx bc bs (pc + 3) L rest Po) : gx_X p l e R s m args below meth c Q D A G nx (bc + mc) (bs + ms) pc L S := by
  subst hS0
  refine gx_run3 (a := ((Value.ref b :: As)).toArray) hC hI (fun H locs ls cells slots hR hz hS hL hc' hs => ?_) kx kk
  exact vx_runI ⟨hC.ex, hC.cb, hC.ml, hC.ow, hC.ts⟩ (hM hC.tr) ⟨callB_of nA hC.ts hw rfl rfl rfl (hC.ts _ hini) (hC.ts _ hlk) hd hfr, hy1, hC.ts _ hins⟩ ⟨gx_blind, fun U hU hW9 => ⟨rfl, gx_ent hC hR hz hS hI U hU hW9⟩⟩ rfl hn (hL.1.trans hC.ml) rfl (by show 2 * 0 + _ ≤ 8; omega) d ⟨hc', hs⟩
theorem gx_callIN (hC : gx_C p l s m args meth c D A T cc nL ret own mn tb) {host : String} (hM : gx_Met l y (ws_ y bytes maxL none) h mc ms D M T1 G1 nx (.ref b :: As) Po Px) (hw : GoodIn lw_all (ws_ y bytes maxL none)) (hini : Cond.initialized y.cls ∈ lw_all) (hlk : Cond.methodLinkNest own idx y host ∈ lw_tbl) (hins : Cond.instanceMethod y ∈ lw_all) (hy1 : y.name = "<init>") (hd : y.cls ≠ "java/lang/invoke/MethodHandle" ∧ y.cls ≠ "java/lang/invoke/VarHandle" ∧ (parseMethodDescriptor y.desc).map (fun d => d.parameters.length) = some nA) (d : decode cc pc = .ok (.invokespecial idx, 3)) (hS0 : S = As.reverse ++ .ref b :: rest) (hfr : h + 1 ≤ R.frames ∧ 8 + (maxL + 11) + (100 * h + 100) ≤ R.locals) (hI : gx_in A T G T1 G1 M) (hn : As.length = nA) (hW : (rest.map fun v => v.category).sum ≤ 8) (kx : gx_kx p l e R s m args below meth c Q D A M G nx bc bs pc L rest Px) (kk : gx_kk p l e R s m args below meth c Q D A M G nx bc bs (pc + 3) L rest Po) : gx_X p l e R s m args below meth c Q D A G nx (bc + mc) (bs + ms) pc L S := by
  subst hS0
  refine gx_run3 (a := ((Value.ref b :: As)).toArray) hC hI (fun H locs ls cells slots hR hz hS hL hc' hs => ?_) kx kk
  exact vx_runIN ⟨hC.ex, hC.cb, hC.ml, hC.ow, hC.ts⟩ (hM hC.tr) ⟨va_cnB nA hC.ts hw rfl rfl rfl (hC.nw hlk rfl) (hC.ts _ hini) hd hfr, hy1, hC.ts _ hins⟩ ⟨gx_blind, fun U hU hW9 => ⟨rfl, gx_ent hC hR hz hS hI U hU hW9⟩⟩ rfl hn (hL.1.trans hC.ml) rfl (by show 2 * 0 + _ ≤ 8; omega) d ⟨hc', hs⟩
theorem gx_callVN (hC : gx_C p l s m args meth c D A T cc nL ret own mn tb) {host : String} (hM : gx_Met l y (ws_ y bytes maxL rt) h mc ms D M T1 G1 nx (.ref b :: As) Po Px) {C : String} {Tf : u_T} {Nf ci : Nat} {fs : List Value} (hc : gx_cl[ci]? = some (C, Tf, Nf)) (hb : T b (gx_O ci fs) ∨ G b (gx_O ci fs)) (hw : GoodIn lw_all (ws_ y bytes maxL rt)) (hini : Cond.initialized y.cls ∈ lw_all) (hlk : Cond.methodLinkNest own idx y host ∈ lw_tbl) (hins : Cond.instanceMethod y ∈ lw_all) (hsel : Cond.selects C y y ∈ lw_all) (hd : y.cls ≠ "java/lang/invoke/MethodHandle" ∧ y.cls ≠ "java/lang/invoke/VarHandle" ∧ (parseMethodDescriptor y.desc).map (fun d => d.parameters.length) = some nA) (d : decode cc pc = .ok (.invokevirtual idx, 3)) (hS0 : S = As.reverse ++ .ref b :: rest) (hfr : h + 1 ≤ R.frames ∧ 8 + (maxL + 11) + (100 * h + 100) ≤ R.locals) (hI : gx_in A T G T1 G1 M) (hn : As.length = nA) (hW : (rest.map fun v => v.category).sum ≤ 8) (kx : gx_kx p l e R s m args below meth c Q D A M G nx bc bs pc L rest Px) (kk : gx_kk p l e R s m args below meth c Q D A M G nx bc bs (pc + 3) L rest Po) : gx_X p l e R s m args below meth c Q D A G nx (bc + mc) (bs + ms) pc L S := by
  subst hS0
  refine gx_run3 (a := ((Value.ref b :: As)).toArray) hC hI (fun H locs ls cells slots hR hz hS hL hc' hs => ?_) kx kk
  exact vx_runVN ⟨hC.ex, hC.cb, hC.ml, hC.ow, hC.ts⟩ (hM hC.tr) ⟨va_cnB nA hC.ts hw rfl rfl rfl (hC.nw hlk rfl) (hC.ts _ hini) hd hfr, hC.ts _ hins, hC.ts _ hsel⟩ ⟨gx_blind, gx_own hC hR hS hb hc, fun U hU hW9 => ⟨rfl, gx_ent hC hR hz hS hI U hU hW9⟩⟩ rfl hn (hL.1.trans hC.ml) rfl (by show 2 * 0 + _ ≤ 8; omega) d ⟨hc', hs⟩
theorem gx_callSN (hC : gx_C p l s m args meth c D A T cc nL ret own mn tb) {host : String} (hM : gx_Met l y (ws_ y bytes maxL rt) h mc ms D M T1 G1 nx As Po Px) (hw : GoodIn lw_all (ws_ y bytes maxL rt)) (hini : Cond.initialized y.cls ∈ lw_all) (hlk : Cond.methodLinkNest own idx y host ∈ lw_tbl) (hsta : Cond.static y ∈ lw_all) (hd : y.cls ≠ "java/lang/invoke/MethodHandle" ∧ y.cls ≠ "java/lang/invoke/VarHandle" ∧ (parseMethodDescriptor y.desc).map (fun d => d.parameters.length) = some nA) (d : decode cc pc = .ok (.invokestatic idx, 3)) (hS0 : S = As.reverse ++ rest) (hfr : h + 1 ≤ R.frames ∧ 8 + (maxL + 11) + (100 * h + 100) ≤ R.locals) (hI : gx_in A T G T1 G1 M) (hn : As.length = nA) (hW : (rest.map fun v => v.category).sum ≤ 8) (kx : gx_kx p l e R s m args below meth c Q D A M G nx bc bs pc L rest Px) (kk : gx_kk p l e R s m args below meth c Q D A M G nx bc bs (pc + 3) L rest Po) : gx_X p l e R s m args below meth c Q D A G nx (bc + mc) (bs + ms) pc L S := by
  subst hS0
  refine gx_run3 (a := (As).toArray) hC hI (fun H locs ls cells slots hR hz hS hL hc' hs => ?_) kx kk
  exact vx_runSN ⟨hC.ex, hC.cb, hC.ml, hC.ow, hC.ts⟩ (hM hC.tr) ⟨va_cnB nA hC.ts hw rfl rfl rfl (hC.nw hlk rfl) (hC.ts _ hini) hd hfr, hC.ts _ hsta, trivial⟩ ⟨gx_blind, fun U hU hW9 => ⟨rfl, gx_ent hC hR hz hS hI U hU hW9⟩⟩ rfl hn (hL.1.trans hC.ml) rfl (by show 2 * 0 + _ ≤ 8; omega) d ⟨hc', hs⟩
theorem gx_callU (hC : gx_C p l s m args meth c D A T cc nL ret own mn tb) {x : MethodName} {owner : String} (hM : gx_Met l y (ws_ y bytes maxL rt) h mc ms D M T1 G1 nx (.ref b :: As) Po Px) {C : String} {Tf : u_T} {Nf ci : Nat} {fs : List Value} (hc : gx_cl[ci]? = some (C, Tf, Nf)) (hb : T b (gx_O ci fs) ∨ G b (gx_O ci fs)) (hw : GoodIn lw_all (va_wsU own idx C owner x y (ws_ y bytes maxL rt))) (hyx : y = ⟨owner, x.name, x.desc⟩) (hd : owner ≠ "java/lang/invoke/MethodHandle" ∧ owner ≠ "java/lang/invoke/VarHandle" ∧ (parseMethodDescriptor x.desc).map (fun d => d.parameters.length) = some nA) (d : decode cc pc = .ok (.invokevirtual idx, 3)) (hS0 : S = As.reverse ++ .ref b :: rest) (hfr : h + 1 ≤ R.frames ∧ 8 + (maxL + 11) + (100 * h + 100) ≤ R.locals) (hI : gx_in A T G T1 G1 M) (hn : As.length = nA) (hW : (rest.map fun v => v.category).sum ≤ 8) (kx : gx_kx p l e R s m args below meth c Q D A M G nx bc bs pc L rest Px) (kk : gx_kk p l e R s m args below meth c Q D A M G nx bc bs (pc + 3) L rest Po) : gx_X p l e R s m args below meth c Q D A G nx (bc + mc) (bs + ms) pc L S := by
  subst hS0
  refine gx_run3 (a := ((Value.ref b :: As)).toArray) hC hI (fun H locs ls cells slots hR hz hS hL hc' hs => ?_) kx kk
  exact vx_runU ⟨hC.ex, hC.cb, hC.ml, hC.ow, hC.ts⟩ (hM hC.tr) (va_cwU nA hC.ts hw rfl rfl rfl hyx hd hfr) ⟨gx_blind, gx_own hC hR hS hb hc, fun U hU hW9 => ⟨rfl, gx_ent hC hR hz hS hI U hU hW9⟩⟩ rfl hn (hL.1.trans hC.ml) rfl (by show 2 * 0 + _ ≤ 8; omega) d ⟨hc', hs⟩
theorem gx_callF (hC : gx_C p l s m args meth c D A T cc nL ret own mn tb) {x : MethodName} {count : Nat} (hM : gx_Met l y (ws_ y bytes maxL rt) h mc ms D M T1 G1 nx (.ref b :: As) Po Px) {C : String} {Tf : u_T} {Nf ci : Nat} {fs : List Value} (hc : gx_cl[ci]? = some (C, Tf, Nf)) (hb : T b (gx_O ci fs) ∨ G b (gx_O ci fs)) (hw : GoodIn lw_all (va_wsF own idx C x y (ws_ y bytes maxL rt))) (hF1 : Cond.declares x ∈ lw_tbl) (hF2 : Cond.interfaceMethod x.cls x.cls x.name x.desc ∈ lw_tbl) (hF3 : Cond.publicMethod y ∈ lw_tbl) (hF4 : Cond.unhidden C x.name x.desc ∈ lw_tbl) (hF5 : Cond.castable C x.cls ∈ lw_tbl) (hd : x.cls ≠ "java/lang/invoke/MethodHandle" ∧ x.cls ≠ "java/lang/invoke/VarHandle" ∧ (parseMethodDescriptor x.desc).map (fun d => d.parameters.length) = some nA) (d : decode cc pc = .ok (.invokeinterface idx count, 5)) (hS0 : S = As.reverse ++ .ref b :: rest) (hfr : h + 1 ≤ R.frames ∧ 8 + (maxL + 11) + (100 * h + 100) ≤ R.locals) (hI : gx_in A T G T1 G1 M) (hn : As.length = nA) (hW : (rest.map fun v => v.category).sum ≤ 8) (kx : gx_kx p l e R s m args below meth c Q D A M G nx bc bs pc L rest Px) (kk : gx_kk p l e R s m args below meth c Q D A M G nx bc bs (pc + 5) L rest Po) : gx_X p l e R s m args below meth c Q D A G nx (bc + mc) (bs + ms) pc L S := by
  subst hS0
  refine gx_run5 (a := ((Value.ref b :: As)).toArray) hC hI (fun H locs ls cells slots hR hz hS hL hc' hs => ?_) kx kk
  exact vx_runF (hC.K.1 ci _ hc).2 ⟨hC.ex, hC.cb, hC.ml, hC.ow, hC.ts⟩ (hM hC.tr) (va_cwF nA hC.ts hw rfl rfl rfl (hC.u.2.2.1 C x y hF1 hF2 hF3 hF4 hF5 ⟨hd.1, hd.2.1⟩) hd hfr) ⟨gx_blind, gx_own hC hR hS hb hc, fun U hU hW9 => ⟨rfl, gx_ent hC hR hz hS hI U hU hW9⟩⟩ rfl hn (hL.1.trans hC.ml) rfl (by show 2 * 0 + _ ≤ 8; omega) d ⟨hc', hs⟩
end GXS
theorem gx_ar_lk : ∀ (av : List Value) (k : Nat) {i : Nat} {v : Value}, (i, some v) ∈ gx_ar k av → (i, v) ∈ lv_args k av
  | [], k, i, v, h => by cases h
  | u :: r, k, i, v, h => by
    have e : (if u.category = 2 then k + 2 else k + 1) = k + u.category := by
      rcases lv_cat u with h1 | h1 <;> simp [h1]
    show (i, v) ∈ (k, u) :: lv_args (if u.category = 2 then k + 2 else k + 1) r
    rw [e]
    rcases List.mem_cons.mp h with h1 | h1
    · cases h1; exact List.mem_cons_self
    · exact List.mem_cons_of_mem _ (gx_ar_lk r _ h1)
theorem gx_L.ent {ls : Array Slot} {n : Nat} {av : List Value} (h : lv_has ls n (lv_args 0 av)) : gx_L ls n (gx_ar 0 av) :=
  ⟨h.1, h.2.1, fun i v hv => h.2.2 (i, v) (gx_ar_lk av 0 (gx_lk_mem _ hv))⟩
section GXT
variable {l : Launch} {y : MethodName} {cc : ByteArray} {maxL h mc ms : Nat} {rt : Option FieldType} {D : gx_D} {M : Nat → Prop} {T G : gx_H} {nx : Nat} {av : List Value} {Po : Option Value → gx_H → Nat → Prop} {Px : String → Nat → gx_H → Nat → Prop} {hh : List (Nat × Nat × Nat × Nat)}
theorem gx_start {L0 : List (Nat × Option Value)} (hy : plainName y.cls = true) (hlen : (lg_sl av).length ≤ maxL) (hL0 : gx_ar 0 av = L0)
    (body : ∀ (p : Program) (e : Env) (s : State) (m : MethodId) (args : Array Value) (below : List Frame) (meth : Method) (c : Code), gx_C p l s m args meth c D (gx_A M nx) T cc maxL rt y.cls y.name [] → (∀ a x, G a x → a < nx) →
      gx_X p l e (headSpec (ws_ y cc maxL rt) (gx_rm h mc ms)).room s m args below meth c (gx_QQ below D (gx_A M nx) Po Px args s mc ms) D (gx_A M nx) G nx mc ms 0 L0 []) : gx_Met l y (ws_ y cc maxL rt) h mc ms D M T G nx av Po Px := by
  intro htr
  refine vx_ofW hy rfl ?_
  intro p e s m args below meth c s₁ B hml ht hv
  obtain ⟨rfl, hz, hG, hT, hTA, hU⟩ := hv
  have hts := atoms_spec (ws := ws_ y cc maxL rt) B.pre
  have hC : gx_C p l s m av.toArray meth c D (gx_A M nx) T cc maxL rt y.cls y.name [] := ⟨B.exec, B.bytes, hml, B.returns, B.notSynchronized, findClass_of_methodNamed B.named, fun w hw => hts w (List.mem_cons_of_mem _ hw), htr, hU, fun q hq => Or.inr (by rw [← hz]; exact hq), hT, hTA, (name_of_methodNamed B.named B.method).1, List.eq_nil_iff_forall_not_mem.mpr (fun x hx => ht x hx)⟩
  rw [lg_entry_eq]
  subst hL0
  exact body p e s m av.toArray below meth c hC (fun a x hx => by rw [← hz]; exact (hG a x hx).lt) s.heap [] _ 0 0 hG hz va_S.rf (by rw [hml]; exact gx_L.ent (lv_entry av hlen)) (by show 0 + mc ≤ mc; omega) (by show 0 + ms ≤ ms; omega)
theorem gx_startW {L0 : List (Nat × Option Value)} (hy : plainName y.cls = true) (hlen : (lg_sl av).length ≤ maxL) (hL0 : gx_ar 0 av = L0)
    (body : ∀ (p : Program) (e : Env) (s : State) (m : MethodId) (args : Array Value) (below : List Frame) (meth : Method) (c : Code), gx_C p l s m args meth c D (gx_A M nx) T cc maxL rt y.cls y.name (tableOf hh) → (∀ a x, G a x → a < nx) →
      gx_X p l e (headSpec (wsW_ y cc maxL rt hh) (gx_rm h mc ms)).room s m args below meth c (gx_QQ below D (gx_A M nx) Po Px args s mc ms) D (gx_A M nx) G nx mc ms 0 L0 []) : gx_Met l y (wsW_ y cc maxL rt hh) h mc ms D M T G nx av Po Px := by
  intro htr
  refine vx_ofWH hy rfl ?_
  intro p e s m args below meth c s₁ B hml hv
  obtain ⟨rfl, hz, hG, hT, hTA, hU⟩ := hv
  have hts := atoms_spec (ws := wsW_ y cc maxL rt hh) B.pre
  have hC : gx_C p l s m av.toArray meth c D (gx_A M nx) T cc maxL rt y.cls y.name (tableOf hh) := ⟨B.exec, B.bytes, hml, B.returns, B.notSynchronized, findClass_of_methodNamed B.named, fun w hw => hts w (List.mem_cons_of_mem _ hw), htr, hU, fun q hq => Or.inr (by rw [← hz]; exact hq), hT, hTA, (name_of_methodNamed B.named B.method).1, vx_table (x := y) B (hts _ List.mem_cons_self)⟩
  rw [lg_entry_eq]
  subst hL0
  exact body p e s m av.toArray below meth c hC (fun a x hx => by rw [← hz]; exact (hG a x hx).lt) s.heap [] _ 0 0 hG hz va_S.rf (by rw [hml]; exact gx_L.ent (lv_entry av hlen)) (by show 0 + mc ≤ mc; omega) (by show 0 + ms ≤ ms; omega)
end GXT
section GXU
variable {p : Program} {l : Launch} {e : Env} {R : Room} {s : State} {m : MethodId} {args : Array Value} {below : List Frame} {meth : Method} {c : Code} {Q : State → Prop} {D : gx_D} {A : Nat → Prop} {T : gx_H} {cc : ByteArray} {nL : Nat} {ret : Option FieldType} {own mn : String} {tb : List ExceptionTableEntry} {G : gx_H} {nx bc bs pc : Nat} {L : List (Nat × Option Value)} {S : List Value}
variable {Po : Option Value → gx_H → Nat → Prop} {Px : String → Nat → gx_H → Nat → Prop} {mc ms : Nat}
theorem gx_wd (hC : gx_C p l s m args meth c D A T cc nL ret own mn tb) {w : Cond} (hw : w ∈ lw_tbl) (hk : (goodWord w || gx_wk w) = true) : w.before args s = true := by
  by_cases g : goodWord w = true
  · exact hC.ts w (lw_g hw g)
  · have hk2 : gx_wk w = true := by
      rcases Bool.or_eq_true_iff.mp hk with h | h
      · exact absurd h g
      · exact h
    refine va_Nw.use ?_ (hC.nw hw hk2)
    cases w
    case methodLinkNest => rfl
    case fieldLinkNest => rfl
    case castable => rfl
    case declares => rfl
    case privateMethod => rfl
    all_goals cases hk2
theorem gx_pl {W : List Cond} (ps : List Nat) (hp : W = ps.filterMap (fun i => lw_tbl[i]?)) : ∀ w ∈ W, w ∈ lw_tbl := by
  intro w hw
  rw [hp] at hw
  obtain ⟨i, -, hi⟩ := List.mem_filterMap.mp hw
  exact List.mem_of_getElem? hi
/-- what a throw of class X asks of the tables, but its own link -/
def gx_tw (own : String) (ic : Nat) (X : String) (names : List String) : Prop := (∀ w ∈ vx_at0 own ic X names, w ∈ lw_tbl) ∧ (vx_at0 own ic X names).all (fun w => (goodWord w || gx_wk w) && vx_ot w) = true
theorem gx_throw0 (hC : gx_C p l s m args meth c D A T cc nL ret own mn tb) {cls : String} {names : List String} {ik ic : Nat} (hmc : R.cells = mc) (hms : R.slots = ms) (hcls : Bundle.fit cls = true) (hnames : ∀ n ∈ names, Bundle.fit n = true) (hk : Cond.classLink own ik cls ∈ lw_all) (hini : Cond.initialized cls ∈ lw_all) (htw : gx_tw own ic cls names)
    (d0 : decode cc pc = .ok (.new ik, 3)) (d3 : decode cc (pc + 3) = .ok (.dup, 1)) (d4 : decode cc (pc + 4) = .ok (.invokespecial ic, 3)) (d7 : decode cc (pc + 7) = .ok (.athrow, 1)) (hout : ∀ x ∈ tb, covers x (pc + 7) = false)
    (hfr : names.length + 3 < R.frames) (hlo : (S.map fun v => v.category).sum + (13 * (names.length + 1) + 42) ≤ R.locals) (hx : ∀ q G' nx', gx_le G G' → nx ≤ nx' → Px cls q G' nx') :
    gx_X p l e R s m args below meth c (gx_QQ below D A Po Px args s mc ms) D A G nx (bc + 1) (bs + 6) pc L S := by
  intro H locs ls cells slots hR hz hS hL hc hs
  have hall := List.all_eq_true.mp htw.2
  have hgd : ∀ w ∈ vx_at0 own ic cls names, (goodWord w || gx_wk w) = true ∧ vx_ot w = true := fun w hw => by
    have := hall w hw
    simpa [Bool.and_eq_true] using this
  refine vx_throw0 hC.ex hC.cb hC.tr hC.ow hcls hnames (hC.ts _ hk) (hC.ts _ hini) (fun w hw => gx_wd hC (htw.1 w hw) (hgd w hw).1) ?_ hC.u.2.2.2.2.2.2.2.1 hC.u.2.2.2.2.2.2.2.2.1 hS hL.1 d0 d3 d4 d7 (by rw [hC.xt]; exact hout) hfr hlo (by omega) (by omega) hC.lo ?_ hS.2.2 (by omega) (by omega)
  · intro w hw
    rcases List.mem_cons.mp hw with h | hw
    · rw [h]; rfl
    · rcases List.mem_cons.mp hw with h | hw
      · rw [h]; rfl
      · exact (hgd w hw).2
  · intro z t ha h1 h2
    refine ⟨hx z (gx_at D t.heap) t.heap.size (fun a x h => (hR a x h).kept (h2 a (hR a x h).lt)) (by omega), Nat.le_trans hS.1 h1, fun q g1 g2 => ?_⟩
    rw [h2 q (Nat.lt_of_lt_of_le g1 hS.1)]
    exact hS.2.1 q g1 g2
theorem gx_catch (hC : gx_C p l s m args meth c D A T cc nL ret own mn tb) {E name : String} {q : Nat} (pre : List ExceptionTableEntry) (x : ExceptionTableEntry) (suf : List ExceptionTableEntry) (htb : tb = pre ++ x :: suf)
    (hpass : ∀ z ∈ pre, covers z pc = false ∨ (z.catchType ≠ 0 ∧ ∃ nm : String, Cond.classLink own z.catchType nm ∈ lw_all ∧ (E, nm) ∈ gx_nc)) (hx : covers x pc = true) (h0 : x.catchType ≠ 0) (hlink : Cond.classLink own x.catchType name ∈ lw_all) (hcast : Cond.castable E name ∈ lw_tbl)
    (n : gx_X p l e R s m args below meth c Q D A G nx bc bs x.handlerPc L [.ref q]) : gx_XX p l e R s m args below meth c Q D A E q G nx bc bs pc L S := by
  intro H locs ls cells slots hR hz hS hL hc hs ⟨ce, h1, h2, h3⟩
  refine vx_catch hC.ow pre x suf (hC.xt.trans htb) (fun z hz9 => ?_) hx h0 (hC.ts _ hlink) (va_Nw.use rfl (hC.nw hcast rfl)) h1 h2 h3 (n H locs ls cells slots hR hz hS hL hc hs)
  rcases hpass z hz9 with h | ⟨h, nm, g1, g2⟩
  · exact Or.inl h
  · exact Or.inr ⟨h, nm, hC.ts _ g1, hC.u.2.2.2.2.1 _ g2⟩
theorem gx_catchA (hC : gx_C p l s m args meth c D A T cc nL ret own mn tb) {E : String} {q : Nat} (pre : List ExceptionTableEntry) (x : ExceptionTableEntry) (suf : List ExceptionTableEntry) (htb : tb = pre ++ x :: suf)
    (hpass : ∀ z ∈ pre, covers z pc = false ∨ (z.catchType ≠ 0 ∧ ∃ nm : String, Cond.classLink own z.catchType nm ∈ lw_all ∧ (E, nm) ∈ gx_nc)) (hx : covers x pc = true) (h0 : x.catchType = 0)
    (n : gx_X p l e R s m args below meth c Q D A G nx bc bs x.handlerPc L [.ref q]) : gx_XX p l e R s m args below meth c Q D A E q G nx bc bs pc L S := by
  intro H locs ls cells slots hR hz hS hL hc hs ⟨ce, h1, h2, h3⟩ U hT X
  have hpl : e.platform.magicAccessors = ({} : Platform).magicAccessors := by rw [X.admits.platform]
  obtain ⟨vm', X', st⟩ := X.thenCaughtThrough q (g := F0 m pc ls S) rfl (Steps.refl _) (by rw [hT]; exact h1) (by rw [h2]; rfl) (by obtain ⟨k9, h9, -⟩ := Vm.findClass_spec h3; exact ⟨k9, h9⟩) pre x suf (hC.xt.trans htb)
    (fun z hz9 => by
      rcases hpass z hz9 with h | ⟨hz0, nm, hl1, hn1⟩
      · exact Or.inl h
      · obtain ⟨c6, hc6, hcl6⟩ := Cond.classLink_spec hC.ow (hC.ts _ hl1) e.platform hpl
        obtain ⟨a8, b8, g1, g2, g3⟩ := hC.u.2.2.2.2.1 _ hn1
        cases Option.some.inj (g1.symm.trans h3)
        cases Option.some.inj (g2.symm.trans hc6)
        exact Or.inr ⟨hz0, _, hcl6, g3⟩) hx (Or.inl h0)
  obtain ⟨t, a1, b1⟩ := n H locs ls cells slots hR hz hS hL hc hs (U.setVm vm') hT X'
  exact ⟨t, st.trans a1, b1⟩
theorem gx_out (hC : gx_C p l s m args meth c D A T cc nL ret own mn tb) {E : String} {q : Nat} (hmc : R.cells = mc) (hms : R.slots = ms) (hout : ∀ x ∈ tb, covers x pc = false) (hp : ∀ G', gx_le G G' → Px E q G' nx) : gx_XX p l e R s m args below meth c (gx_QQ below D A Po Px args s mc ms) D A E q G nx bc bs pc L S := by
  intro H locs ls cells slots hR hz hS hL hc hs ⟨ce, h1, h2, h3⟩
  refine vx_out (by rw [hC.xt]; exact hout) hC.lo h1 h2 h3 (fun t ht ha => ?_) hS.2.2 (by omega) (by omega)
  subst ht
  exact ⟨by rw [hz]; exact hp _ (fun a x h => hR a x h), hS.F rfl⟩
theorem gx_athrow (hC : gx_C p l s m args meth c D A T cc nL ret own mn tb) {E : String} {Tf : u_T} {N ci q : Nat} {fs : List Value} (hc : gx_cl[ci]? = some (E, Tf, N)) (d : decode cc pc = .ok (.athrow, 1)) (hG : G q (gx_O ci fs)) (n : gx_XX p l e R s m args below meth c Q D A E q G nx bc bs pc L S) : gx_X p l e R s m args below meth c Q D A G nx bc bs pc L (.ref q :: S) := by
  intro H locs ls cells slots hR hz hS hL hc' hs
  obtain ⟨r, h1, cell, q1, q2, q3, q4⟩ := hR q _ hG
  cases Option.some.inj (h1.symm.trans hc)
  exact vx_athrow hC.ex hC.cb d (n H locs ls cells slots hR hz hS hL hc' hs ⟨cell, q1, q3, by rw [q2]; exact (hC.K.1 ci _ hc).2.1⟩)
end GXU
abbrev fdX1 : List Value := [.null, .null, .null, .null, .null, .null, .int (iz 0), .int (iz 0)]
theorem dvX1 : ∀ j, j < 8 → defaultValue (tyX1 j) = vp_V fdX1 j := by decide
abbrev fdX2 : List Value := [.null, .null]
theorem dvX2 : ∀ j, j < 2 → defaultValue (tyX2 j) = vp_V fdX2 j := by decide
abbrev fdX3 : List Value := [.null, .null, .int (iz 0), .int (iz 0)]
theorem dvX3 : ∀ j, j < 4 → defaultValue (tyX3 j) = vp_V fdX3 j := by decide
abbrev fdX4 : List Value := [.int (iz 0), .null, .int (iz 0)]
theorem dvX4 : ∀ j, j < 3 → defaultValue (tyX4 j) = vp_V fdX4 j := by decide
abbrev fdX5 : List Value := [.null, .int (iz 0)]
theorem dvX5 : ∀ j, j < 2 → defaultValue (tyX5 j) = vp_V fdX5 j := by decide
abbrev fdX6 : List Value := [.int (iz 0), .null, .null, .null, .null, .int (iz 0), .int (iz 0), .null, .null, .null, .int (iz 0), .int (iz 0), .int (iz 0), .int (iz 0), .int (iz 0), .null, .null, .null, .null, .null, .null, .null, .null, .int (iz 0), .int (iz 0), .int (iz 0), .int (iz 0), .int (iz 0), .int (iz 0), .int (iz 0), .int (iz 0), .int (iz 0), .int (iz 0)]
theorem dvX6 : ∀ j, j < 33 → defaultValue (tyX6 j) = vp_V fdX6 j := by decide
abbrev fdX7 : List Value := [.int (iz 0), .int (iz 0), .int (iz 0)]
theorem dvX7 : ∀ j, j < 3 → defaultValue (tyX7 j) = vp_V fdX7 j := by decide
abbrev fdX8 : List Value := [.null, .null, .int (iz 0), .int (iz 0)]
theorem dvX8 : ∀ j, j < 4 → defaultValue (tyX8 j) = vp_V fdX8 j := by decide
abbrev fdX9 : List Value := [.int (iz 0), .null, .null, .int (iz 0), .null, .null, .int (iz 0), .int (iz 0)]
theorem dvX9 : ∀ j, j < 8 → defaultValue (tyX9 j) = vp_V fdX9 j := by decide
abbrev fdX10 : List Value := [.null, .null, .null, .null, .null, .int (iz 0), .int (iz 0)]
theorem dvX10 : ∀ j, j < 7 → defaultValue (tyX10 j) = vp_V fdX10 j := by decide
abbrev fdX11 : List Value := [.int (iz 0), .int (iz 0), .int (iz 0), .int (iz 0)]
theorem dvX11 : ∀ j, j < 4 → defaultValue (tyX11 j) = vp_V fdX11 j := by decide
abbrev fdX12 : List Value := [.null, .null]
theorem dvX12 : ∀ j, j < 2 → defaultValue (tyX12 j) = vp_V fdX12 j := by decide
abbrev fdX13 : List Value := [.int (iz 0), .int (iz 0)]
theorem dvX13 : ∀ j, j < 2 → defaultValue (tyX13 j) = vp_V fdX13 j := by decide
abbrev fdX14 : List Value := [.int (iz 0), .int (iz 0)]
theorem dvX14 : ∀ j, j < 2 → defaultValue (tyX14 j) = vp_V fdX14 j := by decide
abbrev fdX15 : List Value := [.null]
theorem dvX15 : ∀ j, j < 1 → defaultValue (tyX15 j) = vp_V fdX15 j := by decide
abbrev fdX16 : List Value := [.null]
theorem dvX16 : ∀ j, j < 1 → defaultValue (tyX16 j) = vp_V fdX16 j := by decide
abbrev fdX17 : List Value := [.int (iz 0), .null]
theorem dvX17 : ∀ j, j < 2 → defaultValue (tyX17 j) = vp_V fdX17 j := by decide
abbrev fdX18 : List Value := [.null, .null, .null, .null, .null, .int (iz 0), .int (iz 0)]
theorem dvX18 : ∀ j, j < 7 → defaultValue (tyX18 j) = vp_V fdX18 j := by decide
abbrev fdX19 : List Value := [.null, .int (iz 0), .int (iz 0), .int (iz 0), .null]
theorem dvX19 : ∀ j, j < 5 → defaultValue (tyX19 j) = vp_V fdX19 j := by decide
abbrev fdJ2 : List Value := [.int (iz 0), .null, .int (iz 0)]
theorem dvJ2 : ∀ j, j < 3 → defaultValue (tyJ2 j) = vp_V fdJ2 j := by decide
abbrev fdJ8 : List Value := [.null, .int (iz 0), .int (iz 0), .int (iz 0)]
theorem dvJ8 : ∀ j, j < 4 → defaultValue (tyJ8 j) = vp_V fdJ8 j := by decide
abbrev fdJ9 : List Value := [.null, .int (iz 0), .int (iz 0), .int (iz 0)]
theorem dvJ9 : ∀ j, j < 4 → defaultValue (tyJ9 j) = vp_V fdJ9 j := by decide
abbrev fdJ17 : List Value := [.int (iz 0)]
theorem dvJ17 : ∀ j, j < 1 → defaultValue (tyJ17 j) = vp_V fdJ17 j := by decide
abbrev fdJ18 : List Value := [.null, .int (iz 0), .int (iz 0)]
theorem dvJ18 : ∀ j, j < 3 → defaultValue (tyJ18 j) = vp_V fdJ18 j := by decide
abbrev fdJ19 : List Value := [.int (iz 0), .int (iz 0), .int (iz 0), .null]
theorem dvJ19 : ∀ j, j < 4 → defaultValue (tyJ19 j) = vp_V fdJ19 j := by decide
abbrev fdJ30 : List Value := [.int (iz 0), .int (iz 0), .null, .null]
theorem dvJ30 : ∀ j, j < 4 → defaultValue (tyJ30 j) = vp_V fdJ30 j := by decide
abbrev fdJ25 : List Value := [.null, .null, .null]
theorem dvJ25 : ∀ j, j < 3 → defaultValue (tyJ25 j) = vp_V fdJ25 j := by decide
section GXV
variable {p : Program} {l : Launch} {e : Env} {R : Room} {s : State} {m : MethodId} {args : Array Value} {below : List Frame} {meth : Method} {c : Code} {Q : State → Prop} {D : gx_D} {A : Nat → Prop} {T : gx_H} {cc : ByteArray} {nL : Nat} {ret : Option FieldType} {own mn : String} {tb : List ExceptionTableEntry} {G : gx_H} {nx bc bs pc : Nat} {L : List (Nat × Option Value)} {S : List Value}
theorem gx_icmp_eqS (hC : gx_C p l s m args meth c D A T cc nL ret own mn tb) {x : Int32} {off : Int} {tgt : Nat} (d : decode cc pc = .ok (.if_icmp .eq off, 3)) (ht : (pc : Int) + off = (tgt : Int)) (n : gx_X p l e R s m args below meth c Q D A G nx bc bs tgt L S) : gx_X p l e R s m args below meth c Q D A G nx bc bs pc L (.int x :: .int x :: S) := by
  intro H locs ls cells slots hR hz hS hL hc' hs
  exact lv_icmp_eq hC.ex hC.cb d ht (fun _ => n H locs ls cells slots hR hz hS hL hc' hs) (fun h => absurd rfl h)
theorem gx_icmp_neS (hC : gx_C p l s m args meth c D A T cc nL ret own mn tb) {x : Int32} {off : Int} {tgt : Nat} (d : decode cc pc = .ok (.if_icmp .ne off, 3)) (ht : (pc : Int) + off = (tgt : Int)) (n : gx_X p l e R s m args below meth c Q D A G nx bc bs (pc + 3) L S) : gx_X p l e R s m args below meth c Q D A G nx bc bs pc L (.int x :: .int x :: S) := by
  intro H locs ls cells slots hR hz hS hL hc' hs
  exact lv_icmp_ne hC.ex hC.cb d ht (fun h => absurd rfl h) (fun _ => n H locs ls cells slots hR hz hS hL hc' hs)
theorem gx_ldcM (hC : gx_C p l s m args meth c D A T cc nL ret own mn tb) {idx : Nat} (hlink : Cond.classLink own idx "[Ljava/lang/Object;" ∈ lw_all) (d : decode cc pc = .ok (.ldc idx, 2)) (n : gx_X p l e R s m args below meth c Q D A G nx bc bs (pc + 2) L (.ref (D.2.2 5) :: S)) : gx_X p l e R s m args below meth c Q D A G nx bc bs pc L S := by
  intro H locs ls cells slots hR hz hS hL hc' hs
  exact va_ldcM hC.ex hC.cb hC.ow (hC.ts _ hlink) hC.u.2.2.2.2.2.2.2.2.2.1 d (n H locs ls cells slots hR hz hS hL hc' hs)
abbrev gx_gcN : MethodName := ⟨"java/lang/Object", "getClass", "()Ljava/lang/Class;"⟩
theorem gx_getC (hC : gx_C p l s m args meth c D A T cc nL ret own mn tb) {idx a N : Nat} {f : Nat → Option Nat} (hlink : Cond.methodLink own idx gx_gcN ∈ lw_all) (hdecl : Cond.declares gx_gcN ∈ lw_tbl) (hsel : Cond.selects "[Ljava/lang/Object;" gx_gcN gx_gcN ∈ lw_all) (hinst : Cond.instanceMethod gx_gcN ∈ lw_all) (hnat : Cond.native gx_gcN ∈ lw_all) (d : decode cc pc = .ok (.invokevirtual idx, 3)) (hG : G a (gx_Q D 2 N f)) (hfr : 1 ≤ R.frames) (hlo : (S.map fun v => v.category).sum + 14 ≤ R.locals)
    (n : gx_X p l e R s m args below meth c Q D A G nx bc bs (pc + 3) L (.ref (D.2.2 5) :: S)) : gx_X p l e R s m args below meth c Q D A G nx bc bs pc L (.ref a :: S) := by
  intro H locs ls cells slots hR hz hS hL hc' hs
  have h1 : H[a]? = some (vp_cell _ _) := hR a _ hG
  refine va_getC hC.ex hC.cb (by rw [hL.1]) hC.ow (hC.ts _ hlink) (va_Nw.use rfl (hC.nw hdecl rfl)) (hC.ts _ hsel) (hC.ts _ hinst) (hC.ts _ hnat) hC.u.2.2.2.2.2.2.2.2.2.1 ⟨_, h1, rfl, ?_⟩ hfr hlo d (n H locs ls cells slots hR hz hS hL hc' hs)
  exact va_nmO (hC.K.2 2 _ (gx_ty D (k := 2) rfl)).2 rfl
theorem gx_fitB {z : Int} (h : -128 ≤ z ∧ z < 128) : fits .byte (.int (iz z)) = true := by
  have hr : gx_rg z := by unfold gx_rg; omega
  have h1 : (-128 : Int32) ≤ iz z := (iz_le (a := -128) (b := z) (by unfold gx_rg; omega) hr).mpr h.1
  have h2 : iz z ≤ (127 : Int32) := (iz_le (a := z) (b := 127) hr (by unfold gx_rg; omega)).mpr (by omega)
  simp [fits, h1, h2]
theorem gx_cpz {f g : Nat → Int} {a b n : Nat} : (fun j => iz (va_cpy f g a b n j)) = va_cpy (fun j => iz (f j)) (fun j => iz (g j)) a b n := by
  funext j
  unfold va_cpy
  split <;> rfl
theorem gx_nn {z : Int} (h : 0 ≤ z) (h2 : z < 2147483648) : ¬ iz z < 0 := by
  rw [← iz_0, iz_lt (by unfold gx_rg; omega) gx_rg0]; omega

theorem gx_copyQ (hC : gx_C p l s m args meth c D A T cc nL ret own mn tb) {idx a0 a n0 n1 : Nat} {f g : Nat → Option Nat} {sp dp k : Int} (hlink : Cond.methodLink own idx arraycopyName ∈ lw_all) (hnat : Cond.native arraycopyName ∈ lw_all) (hstat : Cond.static arraycopyName ∈ lw_all) (hini : Cond.initialized "java/lang/System" ∈ lw_all) (d : decode cc pc = .ok (.invokestatic idx, 3)) (hs0 : T a0 (gx_Q D 2 n0 f) ∨ G a0 (gx_Q D 2 n0 f)) (hd0 : G a (gx_Q D 2 n1 g)) (hA : A a) (h1 : 0 ≤ sp ∧ 0 ≤ dp ∧ 0 ≤ k ∧ sp + k ≤ n0 ∧ dp + k ≤ n1 ∧ sp + k < 2147483648 ∧ dp + k < 2147483648) (hel : ∀ i : Nat, i < k.toNat → ∀ y : Nat, f (sp.toNat + i) = some y → ∃ (ci : Nat) (C : String) (Tf : u_T) (N : Nat) (fs : List Value), gx_cl[ci]? = some (C, Tf, N) ∧ (T y (gx_O ci fs) ∨ G y (gx_O ci fs)) ∧ Cond.castable C "java/lang/Object" ∈ lw_tbl) (hfr : 1 ≤ R.frames) (hlo : (S.map fun v => v.category).sum + (nativeFrameWords "java/lang/System" "arraycopy" 5 + 11) ≤ R.locals)
    (n : gx_X p l e R s m args below meth c Q D A (gx_up G a (gx_Q D 2 n1 (va_cpy f g sp.toNat dp.toNat k.toNat))) nx bc bs (pc + 3) L S) : gx_X p l e R s m args below meth c Q D A G nx bc bs pc L (.int (iz k) :: .int (iz dp) :: .ref a :: .int (iz sp) :: .ref a0 :: S) := by
  intro H locs ls cells slots hR hz hS hL hc' hs U hT X
  obtain ⟨cs, hc0, q0, q3, hsz, hsl, hty⟩ := gx_rd hC hR hS hs0
  have hc1 : H[a]? = some (vp_cell _ _) := hR a _ hd0
  have hai := hty 2 _ rfl rfl
  obtain ⟨-, k0, hk0, cm0, hkk0⟩ := hai
  obtain ⟨-, k1, hk1, cm1, hkk1⟩ := (hC.K.2 2 _ (gx_ty D (k := 2) rfl)).1 n1 (fun j => va_rf (g j))
  have e1s := iz_T (z := sp) ⟨by omega, by omega⟩
  have e1d := iz_T (z := dp) ⟨by omega, by omega⟩
  have e1k := iz_T (z := k) ⟨by omega, by omega⟩
  have e2s := iz_cl (z := sp) (by omega) (by omega)
  have e2d := iz_cl (z := dp) (by omega) (by omega)
  have e2k := iz_cl (z := k) (by omega) (by omega)
  obtain ⟨vm', X', step⟩ := X.arraycopy hC.ex hC.ow (hC.ts _ hlink) (hC.ts _ hnat) (hC.ts _ hstat) (hC.ts _ hini) (src := a0) (dst := a) (cs := cs) (cd := vp_cell (D.2.1 2) (n1, .inr (.inr (.inr (.inr g))))) (srcPos := iz sp) (destPos := iz dp) (n := iz k) (by rw [hT]; exact hc0) (by rw [hT]; exact hc1)
    (fun z h => by rw [h] at q0; cases q0) (fun _ h => by cases h) q3 (fun h => by cases h) hk0 hk1 hkk0 hkk1 rfl (gx_nn (by omega) (by omega)) (gx_nn (by omega) (by omega)) (gx_nn (by omega) (by omega))
    (by rw [e1s, e1k, hsz]; omega)
    (by rw [e1d, e1k]; show ¬ _ > ((arrV _ n1 _).slots.size : Int); rw [arrV_size]; omega)
    (fun vm₁ hal i hi => by
      rw [e2k] at hi
      rw [e2s]
      have e : cs.slots.getD (sp.toNat + i) .null = va_rf (f (sp.toNat + i)) := by
        rw [Array.getD_eq_getD_getElem?, hsl _ (by omega)]
        rfl
      rw [e]
      cases hy : f (sp.toNat + i) with
      | none => exact ⟨rfl, trivial⟩
      | some y =>
        obtain ⟨ci, C9, Tf, N9, fs, hcc, hob, hca⟩ := hel i hi y hy
        obtain ⟨cellV, g1, g2, g3⟩ := gx_own hC hR hS hob hcc
        obtain ⟨kA, comp, r1, r2, r3, -⟩ := (hC.K.2 2 _ (gx_ty D (k := 2) rfl)).2
        cases hk1.symm.trans r1
        cases hkk1.symm.trans r2
        obtain ⟨kC, hkC, -⟩ := Vm.findClass_spec g3
        obtain ⟨kE, hkE, -⟩ := Vm.findClass_spec r3
        obtain ⟨kC', hkC', -⟩ := hal.2.2 _ _ hkC
        obtain ⟨kE', hkE', -⟩ := hal.2.2 _ _ hkE
        refine ⟨rfl, cellV, (show U.heap[y]? = some cellV by rw [hT]; exact g1), (fun q h => by rw [h] at g2; cases g2), ⟨kC', hkC'⟩, ?_, ?_⟩
        · exact ⟨kE', hkE'⟩
        · show vm₁.assignable _ _ = true
          rw [hal.assignable]
          exact vb_asgC (hC.nw hca rfl) _ _ r3 g3)
    (g := F0 m pc ls _) rfl hL.1 (rest := S) rfl (by rw [hC.cb]; exact d) hfr (by show 2 * 0 + _ + _ ≤ _; omega)
  have ec : copied cs (vp_cell (D.2.1 2) (n1, .inr (.inr (.inr (.inr g))))) (iz sp) (iz dp) (iz k) = vp_cell (D.2.1 2) (n1, .inr (.inr (.inr (.inr (va_cpy f g sp.toNat dp.toNat k.toNat))))) := by
    unfold copied
    rw [e2s, e2d, e2k]
    exact va_copiedX va_rf cs (D.2.1 2) f g hsl (by omega)
  rw [ec] at X' step
  have hl : a < H.size := (Array.getElem?_eq_some_iff.mp hc1).1
  generalize hNew : (vp_cell (D.2.1 2) (n1, .inr (.inr (.inr (.inr (va_cpy f g sp.toNat dp.toNat k.toNat))))) : Cell) = nc at X' step
  have hheap : ((U.setVm vm').setCell a nc).heap = H.setIfInBounds a nc := by rw [← hT]; rfl
  have oq : ∀ q : Nat, q ≠ a → (H.setIfInBounds a nc)[q]? = H[q]? := fun q hq => by simp [Array.getElem?_setIfInBounds, Ne.symm hq]
  have hsz2 : (H.setIfInBounds a nc).size = H.size := by simp
  obtain ⟨t, a1, b1⟩ := n (H.setIfInBounds a nc) _ ls cells slots (hR.up (show (H.setIfInBounds a nc)[a]? = some (vp_cell _ _) by rw [← hNew]; simp [Array.getElem?_setIfInBounds, hl]) oq) (hsz2.trans hz) ⟨by rw [hsz2]; exact hS.1, fun q g1 g2 => by
      rw [oq q (fun e => g2 (by rw [e]; exact hA))]
      exact hS.2.1 q g1 g2, fun q hq => by
      rcases List.mem_append.mp hq with h | h
      · exact hS.2.2 q h
      · obtain ⟨z, -, hz9⟩ := List.mem_map.mp h
        rw [← hz9]
        exact hA⟩ hL hc' hs _ hheap X'
  exact ⟨t, step t a1, b1⟩
theorem gx_copyB (hC : gx_C p l s m args meth c D A T cc nL ret own mn tb) {idx a0 a n0 n1 : Nat} {f g : Nat → Int} {sp dp k : Int} (hlink : Cond.methodLink own idx arraycopyName ∈ lw_all) (hnat : Cond.native arraycopyName ∈ lw_all) (hstat : Cond.static arraycopyName ∈ lw_all) (hini : Cond.initialized "java/lang/System" ∈ lw_all) (d : decode cc pc = .ok (.invokestatic idx, 3)) (hs0 : T a0 (gx_I D 1 n0 f) ∨ G a0 (gx_I D 1 n0 f)) (hd0 : G a (gx_I D 1 n1 g)) (hA : A a) (h1 : 0 ≤ sp ∧ 0 ≤ dp ∧ 0 ≤ k ∧ sp + k ≤ n0 ∧ dp + k ≤ n1 ∧ sp + k < 2147483648 ∧ dp + k < 2147483648) (hel : ∀ i : Nat, i < k.toNat → -128 ≤ f (sp.toNat + i) ∧ f (sp.toNat + i) < 128) (hfr : 1 ≤ R.frames) (hlo : (S.map fun v => v.category).sum + (nativeFrameWords "java/lang/System" "arraycopy" 5 + 11) ≤ R.locals)
    (n : gx_X p l e R s m args below meth c Q D A (gx_up G a (gx_I D 1 n1 (va_cpy f g sp.toNat dp.toNat k.toNat))) nx bc bs (pc + 3) L S) : gx_X p l e R s m args below meth c Q D A G nx bc bs pc L (.int (iz k) :: .int (iz dp) :: .ref a :: .int (iz sp) :: .ref a0 :: S) := by
  intro H locs ls cells slots hR hz hS hL hc' hs U hT X
  obtain ⟨cs, hc0, q0, q3, hsz, hsl, hty⟩ := gx_rd hC hR hS hs0
  have hc1 : H[a]? = some (vp_cell _ _) := hR a _ hd0
  have hai := hty 1 _ rfl rfl
  obtain ⟨-, k0, hk0, cm0, hkk0⟩ := hai
  obtain ⟨-, k1, hk1, cm1, hkk1⟩ := (hC.K.2 1 _ (gx_ty D (k := 1) rfl)).1 n1 (fun j => (fun z : Int => Value.int (iz z)) (g j))
  have e1s := iz_T (z := sp) ⟨by omega, by omega⟩
  have e1d := iz_T (z := dp) ⟨by omega, by omega⟩
  have e1k := iz_T (z := k) ⟨by omega, by omega⟩
  have e2s := iz_cl (z := sp) (by omega) (by omega)
  have e2d := iz_cl (z := dp) (by omega) (by omega)
  have e2k := iz_cl (z := k) (by omega) (by omega)
  obtain ⟨vm', X', step⟩ := X.arraycopy hC.ex hC.ow (hC.ts _ hlink) (hC.ts _ hnat) (hC.ts _ hstat) (hC.ts _ hini) (src := a0) (dst := a) (cs := cs) (cd := vp_cell (D.2.1 1) (n1, .inl (fun j => iz (g j)))) (srcPos := iz sp) (destPos := iz dp) (n := iz k) (by rw [hT]; exact hc0) (by rw [hT]; exact hc1)
    (fun z h => by rw [h] at q0; cases q0) (fun _ h => by cases h) q3 (fun h => by cases h) hk0 hk1 hkk0 hkk1 rfl (gx_nn (by omega) (by omega)) (gx_nn (by omega) (by omega)) (gx_nn (by omega) (by omega))
    (by rw [e1s, e1k, hsz]; omega)
    (by rw [e1d, e1k]; show ¬ _ > ((arrV _ n1 _).slots.size : Int); rw [arrV_size]; omega)
    (fun vm₁ hal i hi => by
      rw [e2k] at hi
      rw [e2s]
      have e : cs.slots.getD (sp.toNat + i) .null = (fun z : Int => Value.int (iz z)) (f (sp.toNat + i)) := by
        rw [Array.getD_eq_getD_getElem?, hsl _ (by omega)]
        rfl
      rw [e]
      exact ⟨gx_fitB (hel i hi), trivial⟩)
    (g := F0 m pc ls _) rfl hL.1 (rest := S) rfl (by rw [hC.cb]; exact d) hfr (by show 2 * 0 + _ + _ ≤ _; omega)
  have ec : copied cs (vp_cell (D.2.1 1) (n1, .inl (fun j => iz (g j)))) (iz sp) (iz dp) (iz k) = vp_cell (D.2.1 1) (n1, .inl (fun j => iz (va_cpy f g sp.toNat dp.toNat k.toNat j))) := by
    unfold copied
    rw [e2s, e2d, e2k]
    exact va_copiedX (fun z : Int => Value.int (iz z)) cs (D.2.1 1) f g hsl (by omega)
  rw [ec] at X' step
  have hl : a < H.size := (Array.getElem?_eq_some_iff.mp hc1).1
  generalize hNew : (vp_cell (D.2.1 1) (n1, .inl (fun j => iz (va_cpy f g sp.toNat dp.toNat k.toNat j))) : Cell) = nc at X' step
  have hheap : ((U.setVm vm').setCell a nc).heap = H.setIfInBounds a nc := by rw [← hT]; rfl
  have oq : ∀ q : Nat, q ≠ a → (H.setIfInBounds a nc)[q]? = H[q]? := fun q hq => by simp [Array.getElem?_setIfInBounds, Ne.symm hq]
  have hsz2 : (H.setIfInBounds a nc).size = H.size := by simp
  obtain ⟨t, a1, b1⟩ := n (H.setIfInBounds a nc) _ ls cells slots (hR.up (show (H.setIfInBounds a nc)[a]? = some (vp_cell _ _) by rw [← hNew]; simp [Array.getElem?_setIfInBounds, hl]) oq) (hsz2.trans hz) ⟨by rw [hsz2]; exact hS.1, fun q g1 g2 => by
      rw [oq q (fun e => g2 (by rw [e]; exact hA))]
      exact hS.2.1 q g1 g2, fun q hq => by
      rcases List.mem_append.mp hq with h | h
      · exact hS.2.2 q h
      · obtain ⟨z, -, hz9⟩ := List.mem_map.mp h
        rw [← hz9]
        exact hA⟩ hL hc' hs _ hheap X'
  exact ⟨t, step t a1, b1⟩
theorem gx_mmax (hC : gx_C p l s m args meth c D A T cc nL ret own mn tb) {idx : Nat} {x y : Int} (hlink : Cond.methodLink own idx Lib.Math.max.name ∈ lw_all) (hstat : Cond.static Lib.Math.max.name ∈ lw_all) (hini : Cond.initialized "java/lang/Math" ∈ lw_all) (hcode : Cond.code Lib.Math.max.name Lib.Math.max.code 2 (some .int) ∈ lw_all) (d : decode cc pc = .ok (.invokestatic idx, 3)) (hx : gx_rg x) (hy : gx_rg y) (hfr : 1 ≤ R.frames) (hlo : (S.map fun v => v.category).sum + 13 ≤ R.locals)
    (n : gx_X p l e R s m args below meth c Q D A G nx bc bs (pc + 3) L (.int (iz (max x y)) :: S)) : gx_X p l e R s m args below meth c Q D A G nx bc bs pc L (.int (iz y) :: .int (iz x) :: S) := by
  intro H locs ls cells slots hR hz hS hL hc' hs
  refine va_mmax hC.ex hC.cb (by rw [hL.1]) hC.ow (hC.ts _ hlink) (hC.ts _ hstat) (hC.ts _ hini) (hC.ts _ hcode) hfr hlo (by omega) (by omega) d ?_
  have e9 : (if iz x < iz y then iz y else iz x) = iz (max x y) := by
    by_cases q : iz x < iz y
    · rw [if_pos q]
      rw [iz_lt hx hy] at q
      rw [show max x y = y by omega]
    · rw [if_neg q]
      rw [iz_lt hx hy] at q
      rw [show max x y = x by omega]
  rw [e9]
  exact n H locs ls cells slots hR hz hS hL hc' hs
theorem gx_mmin (hC : gx_C p l s m args meth c D A T cc nL ret own mn tb) {idx : Nat} {x y : Int} (hlink : Cond.methodLink own idx Lib.Math.min.name ∈ lw_all) (hstat : Cond.static Lib.Math.min.name ∈ lw_all) (hini : Cond.initialized "java/lang/Math" ∈ lw_all) (hcode : Cond.code Lib.Math.min.name Lib.Math.min.code 2 (some .int) ∈ lw_all) (d : decode cc pc = .ok (.invokestatic idx, 3)) (hx : gx_rg x) (hy : gx_rg y) (hfr : 1 ≤ R.frames) (hlo : (S.map fun v => v.category).sum + 13 ≤ R.locals)
    (n : gx_X p l e R s m args below meth c Q D A G nx bc bs (pc + 3) L (.int (iz (min x y)) :: S)) : gx_X p l e R s m args below meth c Q D A G nx bc bs pc L (.int (iz y) :: .int (iz x) :: S) := by
  intro H locs ls cells slots hR hz hS hL hc' hs
  refine va_mmin hC.ex hC.cb (by rw [hL.1]) hC.ow (hC.ts _ hlink) (hC.ts _ hstat) (hC.ts _ hini) (hC.ts _ hcode) hfr hlo (by omega) (by omega) d ?_
  have e9 : (if iz y < iz x then iz y else iz x) = iz (min x y) := by
    by_cases q : iz y < iz x
    · rw [if_pos q]
      rw [iz_lt hy hx] at q
      rw [show min x y = y by omega]
    · rw [if_neg q]
      rw [iz_lt hy hx] at q
      rw [show min x y = x by omega]
  rw [e9]
  exact n H locs ls cells slots hR hz hS hL hc' hs

/-- a loop: what holds at its head, and a measure that falls -/
theorem gx_loop {σ : Type} (I : σ → Prop) (μ : σ → Nat) (Gf : σ → gx_H) (nf bf sf : σ → Nat) (Lf : σ → List (Nat × Option Value)) (x0 : σ) (h0 : I x0) (body : ∀ x, I x → (∀ y, I y → μ y < μ x → gx_X p l e R s m args below meth c Q D A (Gf y) (nf y) (bf y) (sf y) pc (Lf y) S) → gx_X p l e R s m args below meth c Q D A (Gf x) (nf x) (bf x) (sf x) pc (Lf x) S) : gx_X p l e R s m args below meth c Q D A (Gf x0) (nf x0) (bf x0) (sf x0) pc (Lf x0) S := by
  have key : ∀ (k : Nat) (x : σ), μ x ≤ k → I x → gx_X p l e R s m args below meth c Q D A (Gf x) (nf x) (bf x) (sf x) pc (Lf x) S := by
    intro k
    induction k with
    | zero => exact fun x hx hI => body x hI (fun y _ hy => by omega)
    | succ k ih => exact fun x hx hI => body x hI (fun y hI2 hy => ih y (by omega) hI2)
  exact key _ x0 (Nat.le_refl _) h0

end GXV
