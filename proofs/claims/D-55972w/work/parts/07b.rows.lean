/-! further rows: an abstract method that is overridden, comparisons, shifts -/
set_option maxRecDepth 100000
section GXW
variable {p : Program} {l : Launch} {e : Env} {R : Room} {s : State} {m : MethodId} {args : Array Value} {below : List Frame} {meth : Method} {c : Code} {Q : State → Prop} {D : gx_D} {A : Nat → Prop} {T : gx_H} {cc : ByteArray} {nL : Nat} {ret : Option FieldType} {own mn : String} {tb : List ExceptionTableEntry} {G : gx_H} {nx bc bs pc : Nat} {L : List (Nat × Option Value)} {S : List Value}
variable {y : MethodName} {bytes : ByteArray} {maxL mc ms h nA idx b : Nat} {rt : Option FieldType} {ws : List Cond} {M : Nat → Prop} {T1 G1 : gx_H} {As rest : List Value} {Po : Option Value → gx_H → Nat → Prop} {Px : String → Nat → gx_H → Nat → Prop} {hh : List (Nat × Nat × Nat × Nat)}
theorem gx_callA (hC : gx_C p l s m args meth c D A T cc nL ret own mn tb) {x : MethodName} {owner : String} (hM : gx_Met l y (ws_ y bytes maxL rt) h mc ms D M T1 G1 nx (.ref b :: As) Po Px) {C : String} {Tf : u_T} {Nf ci : Nat} {fs : List Value} (hc : gx_cl[ci]? = some (C, Tf, Nf)) (hb : T b (gx_O ci fs) ∨ G b (gx_O ci fs)) (hw : GoodIn lw_all (va_wsU own idx C owner x y (ws_ y bytes maxL rt))) (hyx : Cond.declares ⟨owner, x.name, x.desc⟩ ∈ lw_tbl) (hd : owner ≠ "java/lang/invoke/MethodHandle" ∧ owner ≠ "java/lang/invoke/VarHandle" ∧ (parseMethodDescriptor x.desc).map (fun d => d.parameters.length) = some nA) (d : decode cc pc = .ok (.invokevirtual idx, 3)) (hS0 : S = As.reverse ++ .ref b :: rest) (hfr : h + 1 ≤ R.frames ∧ 8 + (maxL + 11) + (100 * h + 100) ≤ R.locals) (hI : gx_in A T G T1 G1 M) (hn : As.length = nA) (hW : (rest.map fun v => v.category).sum ≤ 8) (kx : gx_kx p l e R s m args below meth c Q D A M G nx bc bs pc L rest Px) (kk : gx_kk p l e R s m args below meth c Q D A M G nx bc bs (pc + 3) L rest Po) : gx_X p l e R s m args below meth c Q D A G nx (bc + mc) (bs + ms) pc L S := by
  subst hS0
  refine gx_run3 (a := ((Value.ref b :: As)).toArray) hC hI (fun H locs ls cells slots hR hz hS hL hc' hs => ?_) kx kk
  exact vx_runU ⟨hC.ex, hC.cb, hC.ml, hC.ow, hC.ts⟩ (hM hC.tr) (va_cwA nA hC.ts hw rfl rfl rfl (hC.nw hyx rfl) hd hfr) ⟨gx_blind, gx_own hC hR hS hb hc, fun U hU hW9 => ⟨rfl, gx_ent hC hR hz hS hI U hU hW9⟩⟩ rfl hn (hL.1.trans hC.ml) rfl (by show 2 * 0 + _ ≤ 8; omega) d ⟨hc', hs⟩
theorem gx_ishl (hC : gx_C p l s m args meth c D A T cc nL ret own mn tb) {x y : Int32} {z : Int} (d : decode cc pc = .ok (.ishl, 1)) (hv : x <<< (y &&& 31) = iz z) (n : gx_X p l e R s m args below meth c Q D A G nx bc bs (pc + 1) L (.int (iz z) :: S)) : gx_X p l e R s m args below meth c Q D A G nx bc bs pc L (.int y :: .int x :: S) := by
  intro H locs ls cells slots hR hz hS hL hc hs
  refine lv_ishl hC.ex hC.cb d ?_
  rw [hv]
  exact n H locs ls cells slots hR hz hS hL hc hs
theorem gx_iushr (hC : gx_C p l s m args meth c D A T cc nL ret own mn tb) {x y : Int32} {z : Int} (d : decode cc pc = .ok (.iushr, 1)) (hv : (x.toUInt32 >>> (y.toUInt32 &&& Int32.toUInt32 31)).toInt32 = iz z) (n : gx_X p l e R s m args below meth c Q D A G nx bc bs (pc + 1) L (.int (iz z) :: S)) : gx_X p l e R s m args below meth c Q D A G nx bc bs pc L (.int y :: .int x :: S) := by
  intro H locs ls cells slots hR hz hS hL hc hs
  exact lv_iushr hC.ex hC.cb d hv (n H locs ls cells slots hR hz hS hL hc hs)
theorem gx_idiv (hC : gx_C p l s m args meth c D A T cc nL ret own mn tb) {x y : Int32} {z : Int} (d : decode cc pc = .ok (.idiv, 1)) (hne : ¬ y = 0) (hv : x / y = iz z) (n : gx_X p l e R s m args below meth c Q D A G nx bc bs (pc + 1) L (.int (iz z) :: S)) : gx_X p l e R s m args below meth c Q D A G nx bc bs pc L (.int y :: .int x :: S) := by
  intro H locs ls cells slots hR hz hS hL hc hs
  refine lv_idiv hC.ex hC.cb d hne ?_
  rw [hv]
  exact n H locs ls cells slots hR hz hS hL hc hs
theorem gx_fcmp (hC : gx_C p l s m args meth c D A T cc nL ret own mn tb) {x y : UInt32} {op : CmpOp} {z : Int} (d : decode cc pc = .ok (.fcmp op, 1)) (hv : Op.cmpValue (FP.fcmp x y) op = iz z) (n : gx_X p l e R s m args below meth c Q D A G nx bc bs (pc + 1) L (.int (iz z) :: S)) : gx_X p l e R s m args below meth c Q D A G nx bc bs pc L (.float y :: .float x :: S) := by
  intro H locs ls cells slots hR hz hS hL hc hs
  refine lv_fcmp hC.ex hC.cb d ?_
  rw [hv]
  exact n H locs ls cells slots hR hz hS hL hc hs
theorem gx_dcmp (hC : gx_C p l s m args meth c D A T cc nL ret own mn tb) {x y : UInt64} {op : CmpOp} {z : Int} (d : decode cc pc = .ok (.dcmp op, 1)) (hv : Op.cmpValue (FP.dcmp x y) op = iz z) (n : gx_X p l e R s m args below meth c Q D A G nx bc bs (pc + 1) L (.int (iz z) :: S)) : gx_X p l e R s m args below meth c Q D A G nx bc bs pc L (.double y :: .double x :: S) := by
  intro H locs ls cells slots hR hz hS hL hc hs
  refine lv_dcmp hC.ex hC.cb d ?_
  rw [hv]
  exact n H locs ls cells slots hR hz hS hL hc hs
theorem jz_T {z : Int} (h : gx_rg z) : (jz z).toInt = z := by
  unfold gx_rg at h
  exact Int64.toInt_ofInt_of_le (by omega) (by omega)
theorem jz_lt {a b : Int} (ha : gx_rg a) (hb : gx_rg b) : jz a < jz b ↔ a < b := by rw [Int64.lt_iff_toInt_lt, jz_T ha, jz_T hb]
theorem jz_eq {a b : Int} (ha : gx_rg a) (hb : gx_rg b) : jz a = jz b ↔ a = b := by rw [← Int64.toInt_inj, jz_T ha, jz_T hb]
theorem jz_of {z : Int} (h : gx_rg z) : (iz z).toInt64 = jz z := by
  rw [← Int64.toInt_inj, jz_T h, Int32.toInt_toInt64, iz_T h]
theorem gx_lcmp (hC : gx_C p l s m args meth c D A T cc nL ret own mn tb) {a b : Int} (d : decode cc pc = .ok (.lcmp, 1)) (ha : gx_rg a) (hb : gx_rg b) (n : gx_X p l e R s m args below meth c Q D A G nx bc bs (pc + 1) L (.int (iz (if b < a then 1 else if a = b then 0 else -1)) :: S)) : gx_X p l e R s m args below meth c Q D A G nx bc bs pc L (.long (jz b) :: .long (jz a) :: S) := by
  intro H locs ls cells slots hR hz hS hL hc hs
  intro T9 hT9 X9
  obtain ⟨t9, a9, b9⟩ := n H locs ls cells slots hR hz hS hL hc hs T9 hT9 X9
  refine ⟨t9, ?_, b9⟩
  have hdg : decode c.code pc = .ok (.lcmp, 1) := by rw [hC.cb]; exact d
  by_cases h1 : jz a > jz b
  · rw [if_pos ((jz_lt hb ha).mp h1)] at a9
    jvm_step X9.here [X9.here.top, hC.ex, hdg, h1]
    exact a9
  · rw [if_neg (fun q => h1 ((jz_lt hb ha).mpr q))] at a9
    by_cases h2 : a = b
    · subst h2
      rw [if_pos rfl] at a9
      jvm_step X9.here [X9.here.top, hC.ex, hdg, h1]
      exact a9
    · rw [if_neg h2] at a9
      have h3 : ¬ jz a = jz b := fun q => h2 ((jz_eq ha hb).mp q)
      jvm_step X9.here [X9.here.top, hC.ex, hdg, h1, h3]
      exact a9
theorem gx_callO (hC : gx_C p l s m args meth c D A T cc nL ret own mn tb) {x : MethodName} {owner : String} (hM : gx_Met l y (ws_ y bytes maxL rt) h mc ms D M T1 G1 nx (.ref b :: As) Po Px) {C : String} {Tf : u_T} {Nf ci : Nat} {fs : List Value} (hc : gx_cl[ci]? = some (C, Tf, Nf)) (hb : T b (gx_O ci fs) ∨ G b (gx_O ci fs)) (hw : GoodIn lw_all (va_wsO own idx C owner x y (ws_ y bytes maxL rt))) {b0 : ByteArray} {m0 : Nat} {r0 : Option FieldType} (hyx : Cond.code ⟨owner, x.name, x.desc⟩ b0 m0 r0 ∈ lw_all) (hd : owner ≠ "java/lang/invoke/MethodHandle" ∧ owner ≠ "java/lang/invoke/VarHandle" ∧ (parseMethodDescriptor x.desc).map (fun d => d.parameters.length) = some nA) (d : decode cc pc = .ok (.invokevirtual idx, 3)) (hS0 : S = As.reverse ++ .ref b :: rest) (hfr : h + 1 ≤ R.frames ∧ 8 + (maxL + 11) + (100 * h + 100) ≤ R.locals) (hI : gx_in A T G T1 G1 M) (hn : As.length = nA) (hW : (rest.map fun v => v.category).sum ≤ 8) (kx : gx_kx p l e R s m args below meth c Q D A M G nx bc bs pc L rest Px) (kk : gx_kk p l e R s m args below meth c Q D A M G nx bc bs (pc + 3) L rest Po) : gx_X p l e R s m args below meth c Q D A G nx (bc + mc) (bs + ms) pc L S := by
  subst hS0
  refine gx_run3 (a := ((Value.ref b :: As)).toArray) hC hI (fun H locs ls cells slots hR hz hS hL hc' hs => ?_) kx kk
  exact vx_runU ⟨hC.ex, hC.cb, hC.ml, hC.ow, hC.ts⟩ (hM hC.tr) (va_cwO nA hC.ts hw rfl rfl rfl hyx hd hfr) ⟨gx_blind, gx_own hC hR hS hb hc, fun U hU hW9 => ⟨rfl, gx_ent hC hR hz hS hI U hU hW9⟩⟩ rfl hn (hL.1.trans hC.ml) rfl (by show 2 * 0 + _ ≤ 8; omega) d ⟨hc', hs⟩
theorem gx_callP (hC : gx_C p l s m args meth c D A T cc nL ret own mn tb) (hM : gx_Met l y (ws_ y bytes maxL rt) h mc ms D M T1 G1 nx (.ref b :: As) Po Px) {C : String} {Tf : u_T} {Nf ci : Nat} {fs : List Value} (hc : gx_cl[ci]? = some (C, Tf, Nf)) (hb : T b (gx_O ci fs) ∨ G b (gx_O ci fs)) (hlink : Cond.methodLink own idx y ∈ lw_all) (hsame : Cond.sameMethod y.cls y.cls y.name y.desc ∈ lw_all) (hpriv : Cond.privateMethod y ∈ lw_tbl) (hinst : Cond.instanceMethod y ∈ lw_all) (hini : Cond.initialized y.cls ∈ lw_all) (hcode : Cond.code y bytes maxL rt ∈ lw_all) (hd : y.cls ≠ "java/lang/invoke/MethodHandle" ∧ y.cls ≠ "java/lang/invoke/VarHandle" ∧ (parseMethodDescriptor y.desc).map (fun d => d.parameters.length) = some nA) (d : decode cc pc = .ok (.invokevirtual idx, 3)) (hS0 : S = As.reverse ++ .ref b :: rest) (hfr : h + 1 ≤ R.frames ∧ 8 + (maxL + 11) + (100 * h + 100) ≤ R.locals) (hI : gx_in A T G T1 G1 M) (hn : As.length = nA) (hW : (rest.map fun v => v.category).sum ≤ 8) (kx : gx_kx p l e R s m args below meth c Q D A M G nx bc bs pc L rest Px) (kk : gx_kk p l e R s m args below meth c Q D A M G nx bc bs (pc + 3) L rest Po) : gx_X p l e R s m args below meth c Q D A G nx (bc + mc) (bs + ms) pc L S := by
  subst hS0
  have hs1 := hC.ts _ hsame
  have hsel : (Cond.selects C y y).before args s = true := by
    obtain ⟨cn, ck, r1, hcn, hck, hni, hf, hn1⟩ := Cond.sameMethod_found hs1
    obtain ⟨mk, methM, hnamed, hmethM, -, -⟩ := Cond.instanceMethod_spec (hC.ts _ hinst)
    cases hn1.symm.trans hnamed
    have hP := Cond.privateMethod_at (va_Nw.use (A := args) rfl (hC.nw hpriv rfl))
    have hS9 : selectMethod {} s.vm (D.1.1 ci) r1 = .method r1 := selectMethod_private hmethM (hP r1 methM hnamed hmethM)
    have hcl := (hC.K.1 ci _ hc).2.1
    have e1 := findClass_of_methodNamed hnamed
    cases e1.symm.trans hcn
    simp [Cond.before, Cond.holds, Cond.value, hcl, hf, hnamed, hS9, hck, hni]
  refine gx_run3 (a := ((Value.ref b :: As)).toArray) hC hI (fun H locs ls cells slots hR hz hS hL hc' hs => ?_) kx kk
  refine vx_runU (owner := y.cls) (x := y) (C := C) (bytes := bytes) (maxL := maxL) (ret := rt) (n := nA) ⟨hC.ex, hC.cb, hC.ml, hC.ow, hC.ts⟩ (hM hC.tr) ⟨⟨rfl, rfl, hfr.1, hfr.2, pay_in hC.ts (lw_meth hcode), List.mem_cons_self⟩, hC.ts _ hcode, hC.ts _ hini, ⟨hd.1, hd.2.1⟩, fun sig h => ?_, hC.ts _ hlink, hs1, va_Decl.of (hC.ts _ hinst) (hC.ts _ hcode), hsel, hC.ts _ hinst⟩ ⟨gx_blind, gx_own hC hR hS hb hc, fun U hU hW9 => ⟨rfl, gx_ent hC hR hz hS hI U hU hW9⟩⟩ rfl hn (hL.1.trans hC.ml) rfl (by show 2 * 0 + _ ≤ 8; omega) d ⟨hc', hs⟩
  have h2 := hd.2.2
  rw [h] at h2
  exact (Option.some.inj h2).symm
theorem gx_callSU (hC : gx_C p l s m args meth c D A T cc nL ret own mn tb) (hM : gx_Met l y (ws_ y bytes maxL rt) h mc ms D M T1 G1 nx (.ref b :: As) Po Px) {C : String} {Tf : u_T} {Nf ci : Nat} {fs : List Value} (hc : gx_cl[ci]? = some (C, Tf, Nf)) (hb : T b (gx_O ci fs) ∨ G b (gx_O ci fs)) (hw : GoodIn lw_all (va_wsSU own idx y (ws_ y bytes maxL rt))) (hd : y.name ≠ "<init>" ∧ (parseMethodDescriptor y.desc).map (fun d => d.parameters.length) = some nA) (d : decode cc pc = .ok (.invokespecial idx, 3)) (hS0 : S = As.reverse ++ .ref b :: rest) (hfr : h + 1 ≤ R.frames ∧ 8 + (maxL + 11) + (100 * h + 100) ≤ R.locals) (hI : gx_in A T G T1 G1 M) (hn : As.length = nA) (hW : (rest.map fun v => v.category).sum ≤ 8) (kx : gx_kx p l e R s m args below meth c Q D A M G nx bc bs pc L rest Px) (kk : gx_kk p l e R s m args below meth c Q D A M G nx bc bs (pc + 3) L rest Po) : gx_X p l e R s m args below meth c Q D A G nx (bc + mc) (bs + ms) pc L S := by
  subst hS0
  refine gx_run3 (a := ((Value.ref b :: As)).toArray) hC hI (fun H locs ls cells slots hR hz hS hL hc' hs => ?_) kx kk
  exact vx_runSU (hC.K.1 ci _ hc).2 ⟨hC.ex, hC.cb, hC.ml, hC.ow, hC.ts⟩ (hM hC.tr) (va_cwSU nA hC.ts hw rfl rfl rfl hd hfr) ⟨gx_blind, gx_own hC hR hS hb hc, fun U hU hW9 => ⟨rfl, gx_ent hC hR hz hS hI U hU hW9⟩⟩ rfl hn (hL.1.trans hC.ml) rfl (by show 2 * 0 + _ ≤ 8; omega) d ⟨hc', hs⟩
theorem gx_clone (hC : gx_C p l s m args meth c D A T cc nL ret own mn tb) {idx a N : Nat} {f : Nat → Int} (hlink : Cond.methodLink own idx ⟨"[B", "clone", "()Ljava/lang/Object;"⟩ ∈ lw_all) (hsame : Cond.sameMethod "[B" "java/lang/Object" "clone" "()Ljava/lang/Object;" ∈ lw_all) (hnat : Cond.native ⟨"java/lang/Object", "clone", "()Ljava/lang/Object;"⟩ ∈ lw_all) (hinst : Cond.instanceMethod ⟨"java/lang/Object", "clone", "()Ljava/lang/Object;"⟩ ∈ lw_all) (hsel : Cond.selects "[B" ⟨"[B", "clone", "()Ljava/lang/Object;"⟩ ⟨"java/lang/Object", "clone", "()Ljava/lang/Object;"⟩ ∈ lw_all) (hcl : Cond.castable "[B" "java/lang/Cloneable" ∈ lw_tbl) (d : decode cc pc = .ok (.invokevirtual idx, 3)) (hG : G a (gx_I D 1 N f)) (hf : ∀ j, j < N → -128 ≤ f j ∧ f j < 128) (hfr : 1 ≤ R.frames) (hlo : (S.map fun v => v.category).sum + 14 ≤ R.locals)
    (n : gx_X p l e R s m args below meth c Q D A (gx_up G nx (gx_I D 1 N f)) (nx + 1) bc bs (pc + 3) L (.ref nx :: S)) : gx_X p l e R s m args below meth c Q D A G nx (bc + 1) (bs + N) pc L (.ref a :: S) := by
  intro H locs ls cells slots hR hz hS hL hc' hs
  have hca : H[a]? = some (arrV (D.2.1 1) N (fun j => .int (iz (f j)))) := hR a _ hG
  have hnm : s.vm.findClass "[B" = some (D.2.1 1) := (hC.K.2 1 _ (gx_ty D (k := 1) rfl)).2
  obtain ⟨c0, t0', f1, f2, f3⟩ := Cond.castable_spec (va_Nw.use (A := args) rfl (hC.nw hcl rfl))
  cases hnm.symm.trans f1
  intro U hT X
  have hcellT : U.heap[a]? = some (arrV (D.2.1 1) N (fun j => .int (iz (f j)))) := by rw [hT]; exact hca
  obtain ⟨-, kA, hkA, comp, hkind⟩ := State.isArrayOf_alike X.warmed.alike ((hC.K.2 1 _ (gx_ty D (k := 1) rfl)).1 0 (fun _ => .null))
  obtain ⟨-, kS, hkS, compS, hkindS⟩ := (hC.K.2 1 _ (gx_ty D (k := 1) rfl)).1 0 (fun _ => .null)
  obtain ⟨vm', X', st⟩ := X.cloneArray hC.ex hC.ow (hC.ts _ hlink) (hC.ts _ hsame) (hC.ts _ hnat) (hC.ts _ hinst) (hC.ts _ hsel) (a := a) (cell := arrV (D.2.1 1) N (fun j => .int (iz (f j)))) hcellT (fun k h => by cases h) (fun h => by cases h) hnm f2 f3
    (fun i v hv => by
      have hi : i < N := by
        have := (Array.getElem?_eq_some_iff.mp hv).1
        rw [arrV_size] at this
        exact this
      rw [arrV_read _ _ hi] at hv
      cases hv
      have hk' : U.vm.classes[D.2.1 1]? = some kA := hkA
      have h9 := gx_fitB (hf i hi)
      have h8 : (arrV (D.2.1 1) N (fun j => Value.int (iz (f j)))).cls = D.2.1 1 := rfl
      rw [h8]
      simpa [State.fitsSlot, State.slotType?, hk', hkind] using h9)
    (g := F0 m pc ls (.ref a :: S)) rfl (by rw [hL.1, hC.ml]) rfl (by rw [hC.cb]; exact d) hfr (by show 2 * 0 + _ + 14 ≤ _; omega) (by omega) (by rw [arrV_size]; omega) (hloader := Vm.clonesLoader_of_array hkS hkindS)
  rw [arrV_size] at X'
  have hcellE : ({ cls := (arrV (D.2.1 1) N (fun j => Value.int (iz (f j)))).cls, slots := (arrV (D.2.1 1) N (fun j => Value.int (iz (f j)))).slots } : Cell) = arrV (D.2.1 1) N (fun j => .int (iz (f j))) := rfl
  rw [hcellE] at X'
  generalize hH1 : H.push (arrV (D.2.1 1) N (fun j => Value.int (iz (f j)))) = H1
  have z1 : H1.size = H.size + 1 := by rw [← hH1, Array.size_push]
  have e1 : H1[H.size]? = some (arrV (D.2.1 1) N (fun j => Value.int (iz (f j)))) := by rw [← hH1, Array.getElem?_push_size]
  have o1 : ∀ q : Nat, q < H.size → H1[q]? = H[q]? := fun q hq => by rw [← hH1, Array.getElem?_push, if_neg (Nat.ne_of_lt hq)]
  subst hz
  obtain ⟨t, b1, b2⟩ := n H1 locs ls (cells + 1) (slots + N) (hR.new (by exact e1) o1) z1 (gx_S.new hS z1 o1) hL (by omega) (by omega) ((U.setVm vm').pushCell (arrV (D.2.1 1) N (fun j => .int (iz (f j))))) (by rw [← hH1, ← hT]; rfl) X'
  refine ⟨t, st t ?_, b2⟩
  rw [hcellE, hT]
  exact b1
theorem gx_castA (hC : gx_C p l s m args meth c D A T cc nL ret own mn tb) {idx a N : Nat} {f : Nat → Int} (hlink : Cond.classLink own idx "[B" ∈ lw_all) (d : decode cc pc = .ok (.checkcast idx, 3)) (hG : G a (gx_I D 1 N f)) (n : gx_X p l e R s m args below meth c Q D A G nx bc bs (pc + 3) L (.ref a :: S)) : gx_X p l e R s m args below meth c Q D A G nx bc bs pc L (.ref a :: S) := by
  intro H locs ls cells slots hR hz hS hL hc' hs
  have hca : H[a]? = some (vp_cell (D.2.1 1) (N, .inl (fun j => iz (f j)))) := hR a _ hG
  refine va_castA hC.ex hC.cb hC.ow (hC.ts _ hlink) (D := D.1) (cl := gx_cl) (ws := [(a, .inl (D.2.1 1, (N, .inl (fun j => iz (f j)))))]) ?_ 0 rfl (hC.K.2 1 _ (gx_ty D (k := 1) rfl)).2 d (n H locs ls cells slots hR hz hS hL hc' hs)
  intro k y hy
  have hz : k < 1 := (List.getElem?_eq_some_iff.mp hy).1
  rw [show k = 0 by omega] at hy
  cases hy
  exact hca
/-- a call's cells that stay: all that is known, but what the call may change -/
def gx_fz (T G : gx_H) (M : Nat → Prop) : gx_H := fun a x => (T a x ∨ G a x) ∧ ¬ M a
theorem gx_in.fz {M : Nat → Prop} (hM : ∀ q, M q → A q) : gx_in A T G (gx_fz T G M) G M := ⟨hM, fun _ _ h => h, fun _ _ h => h.1, fun _ _ h => h.2⟩
theorem gx_fz.g {T G : gx_H} {M : Nat → Prop} {a : Nat} {x : gx_E} (h : G a x) (hn : ¬ M a) : gx_fz T G M a x := ⟨Or.inr h, hn⟩
theorem gx_fz.t {T G : gx_H} {M : Nat → Prop} {a : Nat} {x : gx_E} (h : T a x) (hn : ¬ M a) : gx_fz T G M a x := ⟨Or.inl h, hn⟩
theorem gx_isr_rn (n : Nat) : gx_isr (gx_rn n) = true := by unfold gx_rn; split <;> rfl
theorem gx_cat_rn (n : Nat) : (gx_rn n).category = 1 := by unfold gx_rn; split <;> rfl
theorem gx_shr0 (z : Int) : iz z >>> (iz 0 &&& 31) = iz z := by
  rw [show (iz 0 &&& 31 : Int32) = 0 by decide]
  exact Int32.shiftRight_zero
theorem gx_shl0 (z : Int) : iz z <<< (iz 0 &&& 31) = iz z := by
  rw [show (iz 0 &&& 31 : Int32) = 0 by decide]
  exact Int32.shiftLeft_zero
end GXW
theorem gx_eqG {p : Program} {l : Launch} {e : Env} {R : Room} {s : State} {m : MethodId} {args : Array Value} {below : List Frame} {meth : Method} {c : Code} {Q : State → Prop} {D : gx_D} {A : Nat → Prop} {G G' : gx_H} {nx bc bs pc : Nat} {L : List (Nat × Option Value)} {S : List Value} (h : G = G') (n : gx_X p l e R s m args below meth c Q D A G' nx bc bs pc L S) : gx_X p l e R s m args below meth c Q D A G nx bc bs pc L S := h ▸ n
theorem gx_Met.post {l : Launch} {y : MethodName} {ws : List Cond} {h mc ms : Nat} {D : gx_D} {M : Nat → Prop} {T G : gx_H} {nx : Nat} {av : List Value} {Po Po' : Option Value → gx_H → Nat → Prop} {Px Px' : String → Nat → gx_H → Nat → Prop} (k : gx_Met l y ws h mc ms D M T G nx av Po Px) (h1 : ∀ v G' nx', Po v G' nx' → Po' v G' nx') (h2 : ∀ E q G' nx', Px E q G' nx' → Px' E q G' nx') : gx_Met l y ws h mc ms D M T G nx av Po' Px' := by
  intro htr p e a1 a2 a3 s m args below b1 b2 b3 b4
  obtain ⟨n, o, c1, c2, c3, c4⟩ := k htr p e a1 a2 a3 s m args below b1 b2 b3 b4
  refine ⟨n, o, c1, c2, c3, ?_⟩
  rcases c4 with ⟨⟨⟨v, ho, hv⟩, hF⟩, L⟩ | ⟨q, ho, E, ce, L, ⟨hx, hF⟩, rest⟩
  · exact Or.inl ⟨⟨⟨v, ho, h1 _ _ _ hv⟩, hF⟩, L⟩
  · exact Or.inr ⟨q, ho, E, ce, L, ⟨h2 _ _ _ _ hx, hF⟩, rest⟩

