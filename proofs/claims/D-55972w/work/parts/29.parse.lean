/-! Sentence.parseClause, parse: they follow the parser's function -/
set_option maxRecDepth 100000
theorem gp_cl_0 {tk : List gs_T} {rec : Nat → Nat → Int → gs_R} {q c : Nat} {pa : Int} (h : gp_n tk q = 0) : gp_cl tk rec q c pa = .inl q := by
  unfold gp_cl
  rw [if_pos h]
theorem gp_cl_1 {tk : List gs_T} {rec : Nat → Nat → Int → gs_R} {q c : Nat} {pa : Int} (h : gp_n tk q ≠ 0) (h1 : gs_kd tk (q + gp_n tk q) ≠ 1) : gp_cl tk rec q c pa = .inl (q + gp_n tk q) := by
  unfold gp_cl
  rw [if_neg h, if_pos h1]
theorem gp_cl_2 {tk : List gs_T} {rec : Nat → Nat → Int → gs_R} {q c : Nat} {pa : Int} (h : gp_n tk q ≠ 0) (h1 : gs_kd tk (q + gp_n tk q) = 1) (h2 : gs_kd tk (q + gp_n tk q + 1) = 0) : gp_cl tk rec q c pa = .inr (q + gp_n tk q + 2, [(q, gp_n tk q, ((q + gp_n tk q + 1 : Nat) : Int), pa, c + 1)]) := by
  unfold gp_cl
  rw [if_neg h, if_neg (fun x => x h1), if_pos h2]
theorem gp_cl_4 {tk : List gs_T} {rec : Nat → Nat → Int → gs_R} {q c : Nat} {pa : Int} (h : gp_n tk q ≠ 0) (h1 : gs_kd tk (q + gp_n tk q) = 1) (h2 : gs_kd tk (q + gp_n tk q + 1) ≠ 0) (h3 : gs_kd tk (q + gp_n tk q + 1) ≠ 2) : gp_cl tk rec q c pa = .inr (q + gp_n tk q + 1, [(q, gp_n tk q, -1, pa, c + 1)]) := by
  unfold gp_cl
  rw [if_neg h, if_neg (fun x => x h1), if_neg h2, if_neg h3]
theorem gp_cl_3i {tk : List gs_T} {rec : Nat → Nat → Int → gs_R} {q c i : Nat} {pa : Int} (h : gp_n tk q ≠ 0) (h1 : gs_kd tk (q + gp_n tk q) = 1) (h2 : gs_kd tk (q + gp_n tk q + 1) = 2) (h3 : rec (q + gp_n tk q + 2) (c + 1) c = .inl i) : gp_cl tk rec q c pa = .inl i := by
  unfold gp_cl
  rw [if_neg h, if_neg (fun x => x h1), if_neg (by omega), if_pos h2, h3]
theorem gp_cl_3 {tk : List gs_T} {rec : Nat → Nat → Int → gs_R} {q c : Nat} {x : Nat × List gs_K} {pa : Int} (h : gp_n tk q ≠ 0) (h1 : gs_kd tk (q + gp_n tk q) = 1) (h2 : gs_kd tk (q + gp_n tk q + 1) = 2) (h3 : rec (q + gp_n tk q + 2) (c + 1) c = .inr x) : gp_cl tk rec q c pa = if gs_kd tk x.1 = 3 then .inr (x.1 + 1, (q, gp_n tk q, -1, pa, c + 1 + x.2.length) :: x.2) else .inl x.1 := by
  unfold gp_cl
  rw [if_neg h, if_neg (fun x => x h1), if_neg (by omega), if_pos h2, h3]
theorem gp_cl_n {tk : List gs_T} {rec : Nat → Nat → Int → gs_R} {q c : Nat} {pa : Int} (hq : q ≤ tk.length) (hr : ∀ q' c' pa', q' ≤ tk.length → q' ≤ (rec q' c' pa').e ∧ (rec q' c' pa').e ≤ tk.length) : q + gp_n tk q ≤ (gp_cl tk rec q c pa).e := by
  by_cases h : gp_n tk q = 0
  · rw [gp_cl_0 h, h]
    exact Nat.le_refl _
  by_cases h1 : gs_kd tk (q + gp_n tk q) = 1
  · have g1 := gs_kd_lt h1 (by omega)
    by_cases h2 : gs_kd tk (q + gp_n tk q + 1) = 0
    · rw [gp_cl_2 h h1 h2]
      simp only [gs_R.e]
      omega
    by_cases h3 : gs_kd tk (q + gp_n tk q + 1) = 2
    · have g2 := gs_kd_lt h3 (by omega)
      have g3 := hr (q + gp_n tk q + 2) (c + 1) c (by omega)
      cases h4 : rec (q + gp_n tk q + 2) (c + 1) c with
      | inl i =>
        rw [gp_cl_3i h h1 h3 h4]
        rw [h4] at g3
        simp only [gs_R.e] at g3 ⊢
        omega
      | inr x =>
        rw [gp_cl_3 h h1 h3 h4]
        rw [h4] at g3
        simp only [gs_R.e] at g3
        split <;> simp only [gs_R.e] <;> omega
    · rw [gp_cl_4 h h1 h2 h3]
      simp only [gs_R.e]
      omega
  · rw [gp_cl_1 h h1]
    exact Nat.le_refl _
def gx_po (D : gx_D) (T : gx_H) (R9 : gs_R) (s9 tl top li edi capi c9 : Nat) (xs : List Nat) (pa : Int) (po : Option Nat) (nx : Nat) : Option Value → gx_H → Nat → Prop := fun w G' nx' => ∃ x, R9 = .inr x ∧ w = none ∧ G' s9 (gx_sO tl top x.1 (c9 + x.2.length)) ∧ ∃ (ad su ne : Nat → Nat) (ed' cap' : Nat), gx_CR D T (fun a e => G' a e ∧ nx ≤ a ∧ a ≠ ed') ad su ne c9 x.2 pa po li ∧ gx_GL D T G' li ed' cap' (xs ++ (gp_tops x.2 c9 pa).map ad) ∧ (ed' = edi ∧ 0 < capi ∨ nx ≤ ed') ∧ 0 < cap'
def gx_px (R9 : gs_R) (nx : Nat) : String → Nat → gx_H → Nat → Prop := fun E q G' _ => ∃ i : Nat, R9 = .inl i ∧ E = RX10 ∧ nx ≤ q ∧ G' q (gx_xX10 (i : Int))
def gx_pM (s9 li edi capi : Nat) : Nat → Prop := fun x => x = s9 ∨ x = li ∨ (x = edi ∧ 0 < capi)
def gx_ph (D : gx_D) (T G Y : gx_H) (s9 tl edt top li edi capi q9 c9 : Nat) (xs : List Nat) (pa : Int) (tk : List gs_T) : Prop := G s9 (gx_sO tl top q9 c9) ∧ gx_tl D T Y tl edt tk ∧ (∀ x t, Y x (gx_tok t) → T x (gx_tok t)) ∧ gx_kn D T ∧ gx_GL D T G li edi capi xs ∧ 3 * xs.length ≤ q9 ∧ q9 ≤ tk.length ∧ (∀ x ∈ xs, (∃ fs, G x (gx_O 8 fs)) ∧ x ≠ li ∧ x ≠ s9 ∧ x ≠ edi) ∧ (s9 ≠ li ∧ s9 ≠ edi) ∧ pa < (c9 : Int)
def gx_parseAt (f : Nat) : Prop := ∀ (l : Launch) (D : gx_D) (T G Y : gx_H) (nx s9 tl edt top li edi capi q9 c9 : Nat) (xs : List Nat) (pa : Int) (po : Option Nat) (tk : List gs_T), gx_ph D T G Y s9 tl edt top li edi capi q9 c9 xs pa tk → tk.length - q9 + 1 ≤ f →
  gx_Met l yX8_parse (ws_ yX8_parse cX8_parse 3 none) (20 + 2 * f) (6 * ((gp_pa tk f q9 c9 pa).e - q9) + 6) (90 * ((gp_pa tk f q9 c9 pa).e - q9) + 90) D (gx_pM s9 li edi capi) T G nx [.ref s9, .ref li, va_rf po] (gx_po D T (gp_pa tk f q9 c9 pa) s9 tl top li edi capi c9 xs pa po nx) (gx_px (gp_pa tk f q9 c9 pa) nx)
theorem gx_boxes_s {D : gx_D} {a j : Nat} : (List.range (j + 1)).map (fun j : Nat => gx_bx D ((a : Int) + (j : Int))) = (List.range j).map (fun j : Nat => gx_bx D ((a : Int) + (j : Int))) ++ [gx_bx D ((a : Int) + (j : Int))] := by
  rw [List.range_succ, List.map_append]
  rfl
theorem gx_po.fin {D : gx_D} {T G' : gx_H} {R9 : gs_R} {s9 tl top li edi capi c9 q9 n9 nx r ede cape eds caps edn capn nx' : Nat} {jo : Int} {xs : List Nat} {pa : Int} {po : Option Nat} {Ls : List gs_K} {ad su ne : Nat → Nat} {en : Nat} (hR : R9 = .inr (r, (q9, n9, jo, pa, en) :: Ls)) (h1 : G' s9 (gx_sO tl top r (c9 + 1 + Ls.length)))
    (h2 : G' nx (gx_O 8 [.int (iz (c9 : Int)), va_rf po, .ref li, .int (iz (q9 : Int)), .ref (nx + 1), .ref (nx + 1 + 1), .int (iz ((q9 + n9 : Nat) : Int)), .int (iz jo)])) (h3 : gx_GL D T G' (nx + 1) eds caps ((List.range n9).map (fun j : Nat => gx_bx D ((q9 : Int) + (j : Int))))) (h4 : caps = 0 ∨ (nx ≤ eds ∧ eds ≠ ede))
    (h5 : gx_CR D T (fun a e => G' a e ∧ nx ≤ a ∧ a ≠ ede) ad su ne (c9 + 1) Ls (c9 : Int) (some nx) (nx + 1 + 1)) (h6 : gp_ok Ls (c9 + 1) (c9 : Int)) (h7 : gx_GL D T G' (nx + 1 + 1) edn capn ((gp_tops Ls (c9 + 1) (c9 : Int)).map ad)) (h8 : capn = 0 ∨ (nx ≤ edn ∧ edn ≠ ede)) (h9 : gx_GL D T G' li ede cape (xs ++ [nx]))
    (ha : ede ≠ nx ∧ ede ≠ nx + 1 ∧ ede ≠ nx + 2) (hb : ede = edi ∧ 0 < capi ∨ nx ≤ ede) (hc : 0 < cape) (hpa : pa < (c9 : Int)) : gx_po D T R9 s9 tl top li edi capi c9 xs pa po nx none G' nx' := by
  refine ⟨_, hR, rfl, ?_, _, _, _, ede, cape, gx_CR.cons (K := (q9, n9, jo, pa, en)) (a := nx) (b := nx + 1) h5 h6 rfl hpa ⟨h2, Nat.le_refl _, fun z => ha.1 z.symm⟩ ⟨eds, caps, ?_⟩ ⟨edn, capn, ?_⟩, ?_, hb, hc⟩
  · have e1 : c9 + ((q9, n9, jo, pa, en) :: Ls).length = c9 + 1 + Ls.length := by
      rw [List.length_cons]
      omega
    rw [e1]
    exact h1
  · exact h3.mono (fun e h => ⟨h, by omega, fun z => ha.2.1 z.symm⟩) (fun e hz h => by rcases h4 with q | q; (exact absurd hz (by omega)); exact ⟨h, q.1, q.2⟩) (fun _ _ h => h)
  · exact h7.mono (fun e h => ⟨h, by omega, fun z => ha.2.2 (by omega)⟩) (fun e hz h => by rcases h8 with q | q; (exact absurd hz (by omega)); exact ⟨h, q.1, q.2⟩) (fun _ _ h => h)
  · have e2 : gp_tops ((q9, n9, jo, pa, en) :: Ls) c9 pa = [c9] := by
      rw [gp_tops_c, if_pos rfl, gp_tops_nil (fun K hK => by have := h6.mem K hK; omega)]
    rw [e2]
    have e3 : ([c9] : List Nat).map (gx_mg (c9 + 1) (fun _ => nx) ad) = [nx] := by
      rw [List.map_cons, List.map_nil, gx_mg_l (by omega)]
    rw [e3]
    exact h9

