/-! what the class is about: tokens, gates, states -/
set_option maxRecDepth 100000
abbrev gs_T : Type := Int × Int × Int
abbrev gs_T.k (t : gs_T) : Int := t.1
abbrev gs_T.w (t : gs_T) : Int := t.2.1
abbrev gs_T.d (t : gs_T) : Int := t.2.2
/-- a gate: its tokens, its walks -/
abbrev gs_G : Type := List gs_T × Int
abbrev gs_G.tk (x : gs_G) : List gs_T := x.1
abbrev gs_G.wk (x : gs_G) : Int := x.2
/-- nouns, verbs, their genders, their cases, the gates -/
abbrev gs_S : Type := Int × Int × (Nat → Int) × (Nat → Int) × (Nat → gs_G)
abbrev gs_S.nn (x : gs_S) : Int := x.1
abbrev gs_S.vn (x : gs_S) : Int := x.2.1
abbrev gs_S.nf (x : gs_S) : Nat → Int := x.2.2.1
abbrev gs_S.vf (x : gs_S) : Nat → Int := x.2.2.2.1
abbrev gs_S.gt (x : gs_S) : Nat → gs_G := x.2.2.2.2
abbrev gs_tk (tk : List gs_T) (j : Nat) : gs_T := tk.getD j ⟨0, 0, 0⟩
def gs_okT (S : gs_S) (t : gs_T) : Prop := 0 ≤ t.k ∧ t.k ≤ 4 ∧ (t.k = 0 → 0 ≤ t.w ∧ t.w < S.nn ∧ 0 ≤ t.d ∧ t.d < 4) ∧ (t.k = 1 → 0 ≤ t.w ∧ t.w < S.vn ∧ 0 ≤ t.d ∧ t.d < 3) ∧ (2 ≤ t.k → t.w = 0 ∧ t.d = 0)
def gs_okG (S : gs_S) (B : Int) (G : gs_G) : Prop := G.tk.length ≤ 24 ∧ (∀ t ∈ G.tk, gs_okT S t) ∧ 0 ≤ G.wk ∧ G.wk ≤ B
def gs_okS (B : Int) (S : gs_S) : Prop := (0 ≤ S.nn ∧ S.nn ≤ 8) ∧ (0 ≤ S.vn ∧ S.vn ≤ 8) ∧ (∀ j, 0 ≤ S.nf j ∧ S.nf j ≤ 2) ∧ (∀ j, 0 ≤ S.vf j ∧ S.vf j ≤ 3) ∧ (∀ g, g < 4 → gs_okG S B (S.gt g))
theorem gs_okT.rg {S : gs_S} {t : gs_T} (h : gs_okT S t) (h1 : S.nn ≤ 8) (h2 : S.vn ≤ 8) : (0 ≤ t.k ∧ t.k ≤ 4) ∧ (0 ≤ t.w ∧ t.w < 8) ∧ (0 ≤ t.d ∧ t.d < 4) := by
  obtain ⟨a, b, c, d, e⟩ := h
  by_cases h0 : t.k = 0
  · have := c h0
    omega
  · by_cases h3 : t.k = 1
    · have := d h3
      omega
    · have := e (by omega)
      omega
theorem gs_gm {tk : List gs_T} {j : Nat} (h : j < tk.length) : gs_tk tk j ∈ tk := by
  unfold gs_tk
  rw [List.getD_eq_getElem?_getD, List.getElem?_eq_getElem h]
  exact List.getElem_mem _
/-- one gate of a state is changed -/
def gs_sg (S : gs_S) (g : Nat) (x : gs_G) : gs_S := ⟨S.nn, S.vn, S.nf, S.vf, fun j => if j = g then x else S.gt j⟩
theorem gs_sg_s (S : gs_S) (g : Nat) (x : gs_G) : (gs_sg S g x).gt g = x := if_pos rfl
theorem gs_sg_n (S : gs_S) {g j : Nat} (x : gs_G) (h : j ≠ g) : (gs_sg S g x).gt j = S.gt j := if_neg h
theorem gs_okS.sg {B : Int} {S : gs_S} {g : Nat} {x : gs_G} (h : gs_okS B S) (hx : gs_okG S B x) : gs_okS B (gs_sg S g x) := by
  refine ⟨h.1, h.2.1, h.2.2.1, h.2.2.2.1, fun j hj => ?_⟩
  by_cases e : j = g
  · subst e
    rw [gs_sg_s]
    exact hx
  · rw [gs_sg_n S x e]
    exact h.2.2.2.2 j hj
-- ===== in the heap =====
abbrev gx_tok (t : gs_T) : gx_E := gx_O 6 [.int (iz t.k), .int (iz t.w), .int (iz t.d)]
/-- the cells xs hold the tokens -/
def gx_tks (Y : gx_H) (xs : List Nat) (tk : List gs_T) : Prop := xs.length = tk.length ∧ ∀ j, j < tk.length → Y (xs.getD j 0) (gx_tok (gs_tk tk j))
theorem gx_tks.mono {Y Z : gx_H} {xs : List Nat} {tk : List gs_T} (h : gx_tks Y xs tk) (hd : ∀ a t, Y a (gx_tok t) → Z a (gx_tok t)) : gx_tks Z xs tk := ⟨h.1, fun j hj => hd _ _ (h.2 j hj)⟩
theorem gx_tks.push {Y : gx_H} {xs : List Nat} {tk : List gs_T} {v : Nat} {t : gs_T} (h : gx_tks Y xs tk) (hv : Y v (gx_tok t)) : gx_tks Y (xs ++ [v]) (tk ++ [t]) := by
  refine ⟨by simp [h.1], fun j hj => ?_⟩
  simp only [List.length_append, List.length_singleton] at hj
  unfold gs_tk
  by_cases e : j < tk.length
  · have := h.2 j e
    unfold gs_tk at this
    rw [List.getD_eq_getElem?_getD, List.getD_eq_getElem?_getD, List.getElem?_append_left e, List.getElem?_append_left (by rw [h.1]; exact e), ← List.getD_eq_getElem?_getD, ← List.getD_eq_getElem?_getD]
    exact this
  · have e2 : j = tk.length := by omega
    subst e2
    have e3 : (xs ++ [v]).getD tk.length 0 = v := by rw [← h.1]; simp
    rw [e3]
    simp
    exact hv
theorem gx_tks.ob {Y X : gx_H} {xs : List Nat} {tk : List gs_T} (h : gx_tks Y xs tk) (hd : ∀ a t, Y a (gx_tok t) → X a (gx_tok t)) {j : Nat} (hj : j < tk.length) : gx_ob X (xs.getD j 0) := ⟨6, _, _, _, _, rfl, hd _ _ (h.2 j hj), q3056⟩
/-- a gate at a, its list and its array behind it -/
def gx_gt (D : gx_D) (X Y : gx_H) (a : Nat) (g : Int) (G : gs_G) : Prop := X a (gx_O 3 [.int (iz g), .ref (a + 1), .int (iz G.wk)]) ∧ ∃ (mc : Int) (xs : List Nat), gx_AL D X (a + 1) (a + 2) mc 24 xs ∧ gx_tks Y xs G.tk
theorem gx_gt.mono {D : gx_D} {X X' Y Y' : gx_H} {a : Nat} {g : Int} {G : gs_G} (h : gx_gt D X Y a g G) (hd : ∀ q e, a ≤ q → q < a + 3 → X q e → X' q e) (hy : ∀ a t, Y a (gx_tok t) → Y' a (gx_tok t)) : gx_gt D X' Y' a g G := by
  obtain ⟨h1, mc, xs, h2, h3⟩ := h
  exact ⟨hd _ _ (by omega) (by omega) h1, mc, xs, h2.mono (hd _ · (by omega) (by omega)) (hd _ · (by omega) (by omega)), h3.mono hy⟩
/-- where gate g of a state at b stands; w: 0 in the first state, 1 in a copy -/
def gx_ga (b w g : Nat) : Nat := b + 6 + 3 * g + w * (1 + g)
theorem gx_ga_rg {b w g : Nat} (hw : w ≤ 1) (hg : g < 4) : b + 6 ≤ gx_ga b w g ∧ gx_ga b w g + 3 ≤ b + 18 + 5 * w := by
  unfold gx_ga
  have h : w = 0 ∨ w = 1 := by omega
  rcases h with h | h <;> subst h <;> omega
theorem gx_ga_lt {b w g k : Nat} (h : g < k) : gx_ga b w g + 3 ≤ gx_ga b w k := by
  unfold gx_ga
  have : w * (1 + g) ≤ w * (1 + k) := Nat.mul_le_mul_left _ (by omega)
  omega
/-- an int array with these entries -/
def gx_ia (D : gx_D) (X : gx_H) (a n : Nat) (F : Nat → Int) : Prop := ∃ f, X a (gx_I D 0 n f) ∧ ∀ j, j < n → f j = F j
theorem gx_ia.mono {D : gx_D} {X X' : gx_H} {a n : Nat} {F : Nat → Int} (h : gx_ia D X a n F) (hd : ∀ e, X a e → X' a e) : gx_ia D X' a n F := ⟨_, hd _ h.choose_spec.1, h.choose_spec.2⟩
/-- a state's lexicon -/
def gx_lx (D : gx_D) (X : gx_H) (b : Nat) (S : gs_S) : Prop := X b (gx_O 2 [.ref (b + 1), .ref (b + 2), .int (iz S.nn), .int (iz S.vn)]) ∧ gx_ia D X (b + 1) 8 S.nf ∧ gx_ia D X (b + 2) 8 S.vf
/-- a state at b; its tokens in Y -/
def gx_sst (D : gx_D) (X Y : gx_H) (b w : Nat) (S : gs_S) : Prop := w ≤ 1 ∧ X b (gx_O 1 [.ref (b + 1), .ref (b + 4)]) ∧ gx_lx D X (b + 1) S ∧ (∃ mc : Int, gx_AL D X (b + 4) (b + 5) mc 4 [gx_ga b w 0, gx_ga b w 1, gx_ga b w 2, gx_ga b w 3]) ∧ ∀ g, g < 4 → gx_gt D X Y (gx_ga b w g) g (S.gt g)
/-- a state's cells -/
def gx_rg1 (b w : Nat) : Nat → Prop := fun q => b ≤ q ∧ q < b + 18 + 5 * w
theorem gx_lx.mono {D : gx_D} {X X' : gx_H} {b : Nat} {S : gs_S} (h : gx_lx D X b S) (hd : ∀ q e, b ≤ q → q < b + 3 → X q e → X' q e) : gx_lx D X' b S := ⟨hd _ _ (by omega) (by omega) h.1, h.2.1.mono (hd _ · (by omega) (by omega)), h.2.2.mono (hd _ · (by omega) (by omega))⟩
theorem gx_sst.mono {D : gx_D} {X X' Y Y' : gx_H} {b w : Nat} {S : gs_S} (h : gx_sst D X Y b w S) (hd : ∀ q e, gx_rg1 b w q → X q e → X' q e) (hy : ∀ a t, Y a (gx_tok t) → Y' a (gx_tok t)) : gx_sst D X' Y' b w S := by
  obtain ⟨hw, h1, h2, ⟨mc, h3⟩, h4⟩ := h
  refine ⟨hw, hd _ _ ⟨by omega, by omega⟩ h1, h2.mono (fun q e p1 p2 => hd q e ⟨by omega, by omega⟩), ⟨mc, h3.mono (hd _ · ⟨by omega, by omega⟩) (hd _ · ⟨by omega, by omega⟩)⟩, fun g hg => (h4 g hg).mono (fun q e p1 p2 => hd q e ?_) hy⟩
  have := gx_ga_rg (b := b) hw hg
  exact ⟨by omega, by omega⟩
/-- tokens: those that stay, and new ones -/
def gx_TN (T : gx_H) (G : gx_H) (nx : Nat) : gx_H := fun a e => T a e ∨ (nx ≤ a ∧ G a e)
theorem gx_le.rf {G : gx_H} : gx_le G G := fun _ _ h => h
theorem gx_le.up {G G2 : gx_H} {n q : Nat} {e : gx_E} (h : gx_le G G2) (hl : ∀ a x, G a x → a < n) (hn : n ≤ q) : gx_le G (gx_up G2 q e) := fun a x hx => gx_un (by have := hl _ _ hx; omega) (h a x hx)
theorem gx_le.call {G G2 G3 : gx_H} {n : Nat} {M : Nat → Prop} (h : gx_le G G2) (hl : ∀ a x, G a x → a < n) (hf : ∀ a x, G2 a x → ¬ M a → G3 a x) (hM : ∀ a, a < n → ¬ M a) : gx_le G G3 := fun a x hx => hf a x (h a x hx) (hM a (hl _ _ hx))
theorem gx_le.tg {T G G2 : gx_H} (h : gx_le G G2) {a : Nat} {e : gx_E} (hx : gx_TG T G a e) : gx_TG T G2 a e := hx.imp id (fun q => h a e q)
theorem gx_le.tr {G G2 G3 : gx_H} (h : gx_le G G2) (h2 : gx_le G2 G3) : gx_le G G3 := fun a x hx => h2 a x (h a x hx)
-- ===== a call's receiver, out of its picture =====
theorem gx_AL.rc {D : gx_D} {T G : gx_H} {a ed cap : Nat} {mc : Int} {xs : List Nat} (h : gx_AL D (gx_TG T G) a ed mc cap xs) : T a (gx_O 19 [.int (iz mc), .ref ed, .int (iz xs.length)]) ∨ G a (gx_O 19 [.int (iz mc), .ref ed, .int (iz xs.length)]) := h.1
theorem gx_AL.rg {D : gx_D} {T G : gx_H} {a ed cap : Nat} {mc : Int} {xs : List Nat} (h : gx_AL D G a ed mc cap xs) : T a (gx_O 19 [.int (iz mc), .ref ed, .int (iz xs.length)]) ∨ G a (gx_O 19 [.int (iz mc), .ref ed, .int (iz xs.length)]) := Or.inr h.1
theorem gx_AL.rt {D : gx_D} {T G : gx_H} {a ed cap : Nat} {mc : Int} {xs : List Nat} (h : gx_AL D T a ed mc cap xs) : T a (gx_O 19 [.int (iz mc), .ref ed, .int (iz xs.length)]) ∨ G a (gx_O 19 [.int (iz mc), .ref ed, .int (iz xs.length)]) := Or.inl h.1
theorem gx_DQ.rc {D : gx_D} {T G : gx_H} {a ed : Nat} {xs : List Nat} (h : gx_DQ D (gx_TG T G) a ed xs) : T a (gx_O 23 [.ref ed, .int (iz (h.choose : Int)), .int (iz (((h.choose + xs.length) % 17 : Nat) : Int))]) ∨ G a (gx_O 23 [.ref ed, .int (iz (h.choose : Int)), .int (iz (((h.choose + xs.length) % 17 : Nat) : Int))]) := h.choose_spec.choose_spec.1
theorem gx_DQ.rg {D : gx_D} {T G : gx_H} {a ed : Nat} {xs : List Nat} (h : gx_DQ D G a ed xs) : T a (gx_O 23 [.ref ed, .int (iz (h.choose : Int)), .int (iz (((h.choose + xs.length) % 17 : Nat) : Int))]) ∨ G a (gx_O 23 [.ref ed, .int (iz (h.choose : Int)), .int (iz (((h.choose + xs.length) % 17 : Nat) : Int))]) := Or.inr h.choose_spec.choose_spec.1
theorem gx_SB.rc {D : gx_D} {T G : gx_H} {a v cap : Nat} {cs : List Int} (h : gx_SB D (gx_TG T G) a v cap cs) : T a (gx_O 20 [.ref v, .int (iz 0), .int (iz h.1.choose), .int (iz cs.length)]) ∨ G a (gx_O 20 [.ref v, .int (iz 0), .int (iz h.1.choose), .int (iz cs.length)]) := h.1.choose_spec
theorem gx_SB.rg {D : gx_D} {T G : gx_H} {a v cap : Nat} {cs : List Int} (h : gx_SB D G a v cap cs) : T a (gx_O 20 [.ref v, .int (iz 0), .int (iz h.1.choose), .int (iz cs.length)]) ∨ G a (gx_O 20 [.ref v, .int (iz 0), .int (iz h.1.choose), .int (iz cs.length)]) := Or.inr h.1.choose_spec
theorem gx_Sx.rc {D : gx_D} {T G : gx_H} {a v : Nat} {cs : List Int} (h : gx_Sx D (gx_TG T G) a v cs) : T a (gx_O 21 [.ref v, .int (iz 0), .int (iz h.1.choose), .int (iz h.1.choose_spec.choose)]) ∨ G a (gx_O 21 [.ref v, .int (iz 0), .int (iz h.1.choose), .int (iz h.1.choose_spec.choose)]) := h.1.choose_spec.choose_spec
theorem gx_Sx.rg {D : gx_D} {T G : gx_H} {a v : Nat} {cs : List Int} (h : gx_Sx D G a v cs) : T a (gx_O 21 [.ref v, .int (iz 0), .int (iz h.1.choose), .int (iz h.1.choose_spec.choose)]) ∨ G a (gx_O 21 [.ref v, .int (iz 0), .int (iz h.1.choose), .int (iz h.1.choose_spec.choose)]) := Or.inr h.1.choose_spec.choose_spec
theorem gx_IT.rc {T G : gx_H} {it a i : Nat} {mc : Int} (h : gx_IT (gx_TG T G) it a mc i) : T it (gx_O 24 [.int (iz i), .int (iz h.choose), .int (iz mc), .ref a]) ∨ G it (gx_O 24 [.int (iz i), .int (iz h.choose), .int (iz mc), .ref a]) := h.choose_spec
theorem gx_IT.rg {T G : gx_H} {it a i : Nat} {mc : Int} (h : gx_IT G it a mc i) : T it (gx_O 24 [.int (iz i), .int (iz h.choose), .int (iz mc), .ref a]) ∨ G it (gx_O 24 [.int (iz i), .int (iz h.choose), .int (iz mc), .ref a]) := Or.inr h.choose_spec
theorem gx_gt.rc {D : gx_D} {T G Y : gx_H} {a : Nat} {g : Int} {x : gs_G} (h : gx_gt D (gx_TG T G) Y a g x) : T a (gx_O 3 [.int (iz g), .ref (a + 1), .int (iz x.wk)]) ∨ G a (gx_O 3 [.int (iz g), .ref (a + 1), .int (iz x.wk)]) := h.1
theorem gx_gt.rg {D : gx_D} {T G Y : gx_H} {a : Nat} {g : Int} {x : gs_G} (h : gx_gt D G Y a g x) : T a (gx_O 3 [.int (iz g), .ref (a + 1), .int (iz x.wk)]) ∨ G a (gx_O 3 [.int (iz g), .ref (a + 1), .int (iz x.wk)]) := Or.inr h.1
theorem gx_lx.rc {D : gx_D} {T G : gx_H} {b : Nat} {S : gs_S} (h : gx_lx D (gx_TG T G) b S) : T b (gx_O 2 [.ref (b + 1), .ref (b + 2), .int (iz S.nn), .int (iz S.vn)]) ∨ G b (gx_O 2 [.ref (b + 1), .ref (b + 2), .int (iz S.nn), .int (iz S.vn)]) := h.1
theorem gx_lx.rg {D : gx_D} {T G : gx_H} {b : Nat} {S : gs_S} (h : gx_lx D G b S) : T b (gx_O 2 [.ref (b + 1), .ref (b + 2), .int (iz S.nn), .int (iz S.vn)]) ∨ G b (gx_O 2 [.ref (b + 1), .ref (b + 2), .int (iz S.nn), .int (iz S.vn)]) := Or.inr h.1
theorem gx_sst.rc {D : gx_D} {T G Y : gx_H} {b w : Nat} {S : gs_S} (h : gx_sst D (gx_TG T G) Y b w S) : T b (gx_O 1 [.ref (b + 1), .ref (b + 4)]) ∨ G b (gx_O 1 [.ref (b + 1), .ref (b + 4)]) := h.2.1
theorem gx_sst.rg {D : gx_D} {T G Y : gx_H} {b w : Nat} {S : gs_S} (h : gx_sst D G Y b w S) : T b (gx_O 1 [.ref (b + 1), .ref (b + 4)]) ∨ G b (gx_O 1 [.ref (b + 1), .ref (b + 4)]) := Or.inr h.2.1
/-- tokens that are there, outside M -/
def gx_yok (T G : gx_H) (M : Nat → Prop) (Y : gx_H) : Prop := ∀ x t, Y x (gx_tok t) → gx_TG T G x (gx_tok t) ∧ ¬ M x
theorem gx_C.tl {p : Program} {l : Launch} {s : State} {m : MethodId} {args : Array Value} {meth : Method} {c : Code} {D : gx_D} {T G : gx_H} {cc : ByteArray} {nL nx : Nat} {ret : Option FieldType} {own mn : String} {tb : List ExceptionTableEntry} {M : Nat → Prop} (hC : gx_C p l s m args meth c D (gx_A M nx) T cc nL ret own mn tb) (hlt : ∀ a x, G a x → a < nx) {a : Nat} {x : gx_E} (h : gx_TG T G a x) : a < nx := by
  rcases h with h | h
  · have := hC.TA a x h
    unfold gx_A at this
    omega
  · exact hlt _ _ h
theorem gx_take_s {xs : List Nat} {i : Nat} (h : i < xs.length) : xs.take (i + 1) = xs.take i ++ [xs.getD i 0] := by
  rw [List.take_succ, List.getD_eq_getElem?_getD, List.getElem?_eq_getElem h]
  rfl
theorem gx_dl_g {xs : List Nat} {j : Nat} (h : j < xs.length - 1) : xs.dropLast.getD j 0 = xs.getD j 0 := by
  simp [List.getD_eq_getElem?_getD, List.getElem?_dropLast, h, List.getElem?_eq_getElem (show j < xs.length by omega)]
theorem gs_dl_g {tk : List gs_T} {j : Nat} (h : j < tk.length - 1) : gs_tk tk.dropLast j = gs_tk tk j := by
  unfold gs_tk
  simp [List.getD_eq_getElem?_getD, List.getElem?_dropLast, h, List.getElem?_eq_getElem (show j < tk.length by omega)]
theorem gx_tks.pop {Y : gx_H} {xs : List Nat} {tk : List gs_T} (h : gx_tks Y xs tk) : gx_tks Y xs.dropLast tk.dropLast := by
  refine ⟨by simp [h.1], fun j hj => ?_⟩
  rw [List.length_dropLast] at hj
  rw [gx_dl_g (by rw [h.1]; exact hj), gs_dl_g hj]
  exact h.2 j (by omega)
theorem gx_tks.nil {Y : gx_H} : gx_tks Y [] [] := ⟨rfl, fun j hj => absurd hj (Nat.not_lt_zero j)⟩
-- ===== the constants =====
def gs_strs : List (List Int) := [[73, 108, 108, 101, 103, 97, 108, 32, 67, 97, 112, 97, 99, 105, 116, 121, 58, 32],[32, 62, 32],[],[83, 111, 114, 114, 121, 44, 32, 100, 101, 113, 117, 101, 32, 116, 111, 111, 32, 98, 105, 103],[73, 110, 100, 101, 120, 58, 32],[44, 32, 83, 105, 122, 101, 58, 32],[58, 32],[73, 110, 100, 101, 120, 58, 32],[44, 32, 83, 105, 122, 101, 58, 32],[97, 101, 105, 111, 117, 114, 115, 116, 108, 110, 109, 107],[110, 111, 117, 110, 32],[118, 101, 114, 98, 32],[111, 112, 101, 110, 32],[99, 108, 111, 115, 101, 32],[97, 110, 100, 32],[100, 114, 111, 112, 32],[115, 119, 105, 110, 103, 32],[119, 97, 108, 107, 32],[117, 110, 114, 101, 99, 111, 103, 110, 105, 122, 101, 100, 32, 98, 97, 115, 105, 99, 32, 116, 121, 112, 101, 58, 32],[110, 111, 117, 110, 32],[118, 101, 114, 98, 32],[111, 112, 101, 110, 32],[99, 108, 111, 115, 101, 32],[97, 110, 100, 32],[100, 114, 111, 112, 32],[115, 119, 105, 110, 103, 32],[83, 116, 114, 105, 110, 103, 32, 105, 110, 100, 101, 120, 32, 111, 117, 116, 32, 111, 102, 32, 114, 97, 110, 103, 101, 58, 32],[102, 114, 111, 109, 73, 110, 100, 101, 120, 40],[41, 32, 62, 32, 116, 111, 73, 110, 100, 101, 120, 40],[41],[65, 114, 114, 97, 121, 32, 105, 110, 100, 101, 120, 32, 111, 117, 116, 32, 111, 102, 32, 114, 97, 110, 103, 101, 58, 32],[32],[],[40],[41],[43],[118],[97, 101, 105, 111, 117, 114, 115, 116, 108, 110, 109, 107],[110, 111, 117, 110, 32],[118, 101, 114, 98, 32],[111, 112, 101, 110, 32],[99, 108, 111, 115, 101, 32],[97, 110, 100, 32],[100, 114, 111, 112, 32],[115, 119, 105, 110, 103, 32],[119, 97, 108, 107, 32],[32]]
def gs_hash : List Int := [396102794, 32706, 0, -802385437, -687023272, 186512763, 1830, -687023272, 186512763, -141012056, 105009990, 112096993, 105947926, -1357520600, 2998569, 95858449, -889478942, 112895863, -414256221, 105009990, 112096993, 105947926, -1357520600, 2998569, 95858449, -889478942, 1849176457, 1865747936, 252444138, 41, 127176833, 32, 0, 40, 41, 43, 118, -141012056, 105009990, 112096993, 105947926, -1357520600, 2998569, 95858449, -889478942, 112895863, 32]
/-- text j: its object, its bytes, its hash -/
def gx_kS (D : gx_D) (X : gx_H) (j : Nat) : Prop := (∃ zz : Int, X (D.2.2 (300 + 2 * j)) (gx_O 21 [.ref (D.2.2 (301 + 2 * j)), .int (iz 0), .int (iz (gs_hash.getD j 0)), .int (iz zz)])) ∧ ∃ f, X (D.2.2 (301 + 2 * j)) (gx_I D 1 (gs_strs.getD j []).length f) ∧ gx_pre f (gs_strs.getD j [])
/-- what stays all through: boxes, digits, texts -/
def gx_kn (D : gx_D) (X : gx_H) : Prop := gx_ic D X ∧ (∃ f, X (D.2.2 3) (gx_I D 1 100 f) ∧ ∀ j, j < 10 → f j = 48 + j) ∧ (∀ j, j < 47 → gx_kS D X j) ∧ ∃ f, X (D.2.2 1) (gx_Q D 2 0 f)
theorem gs_strs_ok : ∀ j : Fin 47, (gs_strs.getD j.val []).all (fun c => 0 ≤ c && c < 128) = true ∧ (gs_strs.getD j.val []).length < 1000 := by decide +kernel
theorem gx_kS.sx {D : gx_D} {X : gx_H} {j : Nat} (h : gx_kS D X j) (hj : j < 47) : gx_Sx D X (D.2.2 (300 + 2 * j)) (D.2.2 (301 + 2 * j)) (gs_strs.getD j []) := by
  obtain ⟨⟨zz, h1⟩, f, h2, h3⟩ := h
  have h4 := gs_strs_ok ⟨j, hj⟩
  refine ⟨⟨_, zz, h1⟩, ⟨f, h2, h3⟩, fun c hc => ?_, h4.2⟩
  have := List.all_eq_true.mp h4.1 c hc
  simp only [Bool.and_eq_true, decide_eq_true_eq] at this
  exact this
theorem gx_kS.mono {D : gx_D} {X Y : gx_H} {j : Nat} (h : gx_kS D X j) (hd : ∀ a e, X a e → Y a e) : gx_kS D Y j := by
  obtain ⟨⟨zz, h1⟩, f, h2, h3⟩ := h
  exact ⟨⟨zz, hd _ _ h1⟩, f, hd _ _ h2, h3⟩
theorem gx_kn.mono {D : gx_D} {X Y : gx_H} (h : gx_kn D X) (hd : ∀ a e, X a e → Y a e) : gx_kn D Y := by
  obtain ⟨h1, ⟨f, h2, h3⟩, h4, f5, h5⟩ := h
  exact ⟨⟨hd _ _ h1.1, fun j hj => hd _ _ (h1.2 j hj)⟩, ⟨f, hd _ _ h2, h3⟩, fun j hj => (h4 j hj).mono hd, f5, hd _ _ h5⟩
/-- the sum of the first n values -/
def gs_sum : Nat → (Nat → Int) → Int
  | 0, _ => 0
  | n + 1, F => gs_sum n F + F n
theorem gs_sum_s (n : Nat) (F : Nat → Int) : gs_sum (n + 1) F = gs_sum n F + F n := rfl
theorem gs_sum_b {n : Nat} {F : Nat → Int} {lo hi : Int} (h : ∀ j, j < n → lo ≤ F j ∧ F j ≤ hi) : lo * n ≤ gs_sum n F ∧ gs_sum n F ≤ hi * n := by
  induction n with
  | zero => simp [gs_sum]
  | succ n ih =>
    have h1 := ih (fun j hj => h j (by omega))
    have h2 := h n (by omega)
    rw [gs_sum_s]
    have e1 : lo * ((n + 1 : Nat) : Int) = lo * n + lo := by push_cast; rw [Int.mul_add, Int.mul_one]
    have e2 : hi * ((n + 1 : Nat) : Int) = hi * n + hi := by push_cast; rw [Int.mul_add, Int.mul_one]
    rw [e1, e2]
    omega
theorem gs_sum_c {n : Nat} {F H : Nat → Int} (h : ∀ j, j < n → F j = H j) : gs_sum n F = gs_sum n H := by
  induction n with
  | zero => rfl
  | succ n ih => rw [gs_sum_s, gs_sum_s, ih (fun j hj => h j (by omega)), h n (by omega)]

