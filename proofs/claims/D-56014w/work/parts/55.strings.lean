/-! 55.strings.lean.txt (written by tools/walker.py)  -/
set_option maxRecDepth 100000
/-! strings, their builder, numbers as text -/
theorem iI_and255 {v : Int} (h : 0 ≤ v ∧ v ≤ 255) : iI v &&& iI 255 = iI v := by
  obtain ⟨n, rfl⟩ : ∃ n : Nat, v = n := ⟨v.toNat, by omega⟩
  have hn : n < 256 := by omega
  have h9 : ∀ m : Nat, m < 256 → iI (m : Int) &&& iI 255 = iI (m : Int) := by decide +kernel
  exact h9 n hn
theorem iI_shr0 (x : Int32) : x >>> (iI 0 &&& 31) = x := by
  rw [show iI 0 &&& 31 = 0 by decide +kernel]
  exact Int32.shiftRight_zero
theorem iI_shl0 (x : Int32) : x <<< (iI 0 &&& 31) = x := by
  rw [show iI 0 &&& 31 = 0 by decide +kernel]
  exact Int32.shiftLeft_zero
/-- a String of n chars f -/
def SO (g : GG) (w : WW) (t b n : Nat) (f : Int → Int) : Prop := ∃ (v1 v2 : Value), Ob w t 16 [.ref b, .int (iI 0), v1, v2] ∧ BA g w b n f ∧ n ≤ 1000 ∧ ∀ k : Int, 0 ≤ k → k < n → 0 ≤ f k ∧ f k ≤ 127
theorem SO.ext {g : GG} {w w' : WW} {t b n : Nat} {f : Int → Int} (h : SO g w t b n f) (hm : Mo w.2 w w') : SO g w' t b n f := by
  obtain ⟨v1, v2, h1, h2, h3⟩ := h
  exact ⟨v1, v2, h1.ext hm, h2.ext hm, h3⟩
theorem SO.lt {g : GG} {w : WW} {t b n : Nat} {f : Int → Int} (h : SO g w t b n f) : t < w.2 ∧ b < w.2 := by
  obtain ⟨v1, v2, h1, h2, -⟩ := h
  exact ⟨h1.2, h2.lt⟩
theorem SO.fr {g : GG} {S : Nat → Prop} {w w' : WW} {t b n : Nat} {f : Int → Int} (h : SO g w t b n f) (hf : Fr S w w') (h1 : ¬ S t) (h2 : ¬ S b) : SO g w' t b n f := by
  obtain ⟨v1, v2, g1, g2, g3⟩ := h
  exact ⟨v1, v2, g1.fr hf h1, g2.fr hf h2, g3⟩
theorem SO.ob {g : GG} {w : WW} {t b n : Nat} {f : Int → Int} (h : SO g w t b n f) : ∃ fs, Ob w t 16 fs := by
  obtain ⟨v1, v2, h1, -⟩ := h
  exact ⟨_, h1⟩
def txI (s : String) : Int → Int := fun k => ((s.toList.getD k.toNat 'x').toNat : Int)
def txN (s : String) : Nat := s.toList.length
def KT (g : GG) (own : String) (idx : Nat) (tx : String) : Prop := ∃ t b : Nat, vk_R own idx tx t (gU g) ∧ SO g (gK g, gb g) t b (txN tx) (txI tx)
def strs : List (String × Nat × String) := [("BenchBroker$Parser", 59, "bench"), ("BenchBroker$Parser", 61, "fountain"), ("BenchBroker$Parser", 94, "tenant"), ("BenchBroker$Parser", 96, "give"), ("BenchBroker$Parser", 78, "imit"), ("BenchBroker$Parser", 85, "ease"), ("BenchBroker$Parser", 102, "end"), ("BenchBroker$Parser", 104, "renew"), ("BenchBroker$Parser", 106, "switch"), ("BenchBroker$Parser", 108, "pass"), ("BenchBroker", 136, ""), ("BenchBrokerModel", 248, "bench"), ("BenchBrokerModel", 236, " "), ("BenchBrokerModel", 253, "fountain"), ("BenchBrokerModel", 254, "tenant"), ("BenchBrokerModel", 255, "give"), ("BenchBrokerModel", 257, "limit"), ("BenchBrokerModel", 259, "lease"), ("BenchBrokerModel", 261, "end"), ("BenchBrokerModel", 262, "renew"), ("BenchBrokerModel", 264, "switch"), ("BenchBrokerModel", 266, "pass")]
def KS (g : GG) : Prop := ∀ e ∈ strs, KT g e.1 e.2.1 e.2.2
def KJ (g : GG) : Prop := Sz g "java/lang/String" "COMPACT_STRINGS" "Z" (.int (iI 1)) ∧ (∃ o : Option Nat, Sz g "jdk/internal/util/Preconditions" "SIOOBE_FORMATTER" "Ljava/util/function/BiFunction;" (va_rf o)) ∧
  (Sz g "java/lang/Integer" "DigitOnes" "[B" (.ref (gC g 2)) ∧ gC g 2 < gb g ∧ BA g (gK g, gb g) (gC g 2) 100 (fun k => 48 + k % 10)) ∧ Sz g "java/lang/Integer" "DigitTens" "[B" (.ref (gC g 3)) ∧ gC g 3 < gb g ∧ BA g (gK g, gb g) (gC g 3) 100 (fun k => 48 + k / 10)
section Rw
variable {z : ZZ} {own : String} {cc : ByteArray} {nL fr lo rc rs pc : Nat} {ret : Option FieldType} {w : WW} {lv : List (Option Value)} {st : List Value}
theorem xr_ldc {idx : Nat} {v : Int32} {x : Int} (hc9 : Cond.constant own idx v ∈ lw_all) (hx : v = iI x) (d : decode cc pc = .ok (.ldc idx, 2)) (k : XJ z own cc nL ret fr lo w rc rs (pc + 2) lv (.int (iI x) :: st)) : XJ z own cc nL ret fr lo w rc rs pc lv st := by
  intro C H L n1 n2 ls hH hl hc hs hv
  subst hx
  exact lv_ldc C.hx C.hb C.hown (C.w _ hc9) d (k C H L n1 n2 ls hH hl hc hs hv)
theorem xr_ldcS {idx t : Nat} {tx : String} (hR : vk_R own idx tx t (gU (zg z))) (d : decode cc pc = .ok (.ldc idx, 2)) (k : XJ z own cc nL ret fr lo w rc rs (pc + 2) lv (.ref t :: st)) : XJ z own cc nL ret fr lo w rc rs pc lv st := by
  intro C H L n1 n2 ls hH hl hc hs hv
  exact va_ldcS C.hx C.hb C.hown (vk_R.warm C.warm hR) d (k C H L n1 n2 ls hH hl hc hs hv)
theorem xr_castBA {a n idx : Nat} {f : Int → Int} (h : BA (zg z) w a n f) (hlink : Cond.classLink own idx "[B" ∈ lw_all) (d : decode cc pc = .ok (.checkcast idx, 3)) (k : XJ z own cc nL ret fr lo w rc rs (pc + 3) lv (.ref a :: st)) : XJ z own cc nL ret fr lo w rc rs pc lv (.ref a :: st) := by
  intro C H L n1 n2 ls hH hl hc hs hv
  obtain ⟨x, g1, g2⟩ := h
  exact va_castA C.hx C.hb C.hown (C.w _ hlink) (hp_P hH g1) 0 rfl (va_nm_byte (C.K.2 2 _ rfl).2) d (k C H L n1 n2 ls hH hl hc hs hv)
theorem xr_cloneBA {a n idx rc' rs' : Nat} {f : Int → Int} (h : BA (zg z) w a n f) (hf : ∀ k : Int, 0 ≤ k → k < n → -128 ≤ f k ∧ f k < 128) (hlink : Cond.methodLink own idx ⟨"[B", "clone", "()Ljava/lang/Object;"⟩ ∈ lw_all) (hsame : Cond.sameMethod "[B" "java/lang/Object" "clone" "()Ljava/lang/Object;" ∈ lw_all) (hnat : Cond.native ⟨"java/lang/Object", "clone", "()Ljava/lang/Object;"⟩ ∈ lw_all) (hinst : Cond.instanceMethod ⟨"java/lang/Object", "clone", "()Ljava/lang/Object;"⟩ ∈ lw_all)
    (hsel : Cond.selects "[B" ⟨"[B", "clone", "()Ljava/lang/Object;"⟩ ⟨"java/lang/Object", "clone", "()Ljava/lang/Object;"⟩ ∈ lw_all) (hcl : Cond.castable "[B" "java/lang/Cloneable" ∈ lw_tbl) (hfr : 1 ≤ fr) (hlo : (st.map fun v => v.category).sum + 14 ≤ lo) (hb : rc' + 1 ≤ rc ∧ rs' + n ≤ rs) (d : decode cc pc = .ok (.invokevirtual idx, 3))
    (k : ∀ (a1 : Nat) (e : WE), w.2 ≤ a1 → gb (zg z) ≤ a1 → BA (zg z) (wnew w a1 e) a1 n f → XJ z own cc nL ret fr lo (wnew w a1 e) rc' rs' (pc + 3) lv (.ref a1 :: st)) : XJ z own cc nL ret fr lo w rc rs pc lv (.ref a :: st) := by
  intro C H L n1 n2 ls hH hl hc hs hv
  obtain ⟨x, g1, g2⟩ := h
  obtain ⟨hr1, hr2, hr3, hr4, -⟩ := C.rest
  have hcell : H[a]? = some (vp_cell (gA (zg z) 2) (n, .inl x)) := hH.at g1
  have hsz : (vp_cell (gA (zg z) 2) (n, .inl x)).slots.size = n := arrV_size _ _ _
  have hnm : (zs z).vm.findClass "[B" = some (gA (zg z) 2) := va_nm_byte (C.K.2 2 _ rfl).2
  obtain ⟨c0, t0', f1, f2, f3⟩ := Cond.castable_spec (va_Nw.use (A := za z) rfl (va_Nw.warmC C.warm (va_Nw.of rfl (C.base.2.1 _ hcl))))
  cases hnm.symm.trans f1
  intro T hT X
  have hcellT : T.heap[a]? = some (vp_cell (gA (zg z) 2) (n, .inl x)) := by rw [hT]; exact hcell
  obtain ⟨-, kA, hkA, comp, hkind⟩ := State.isArrayOf_alike X.warmed.alike ((C.K.2 2 _ rfl).1 0 (fun _ => .null))
  obtain ⟨-, kS, hkS, compS, hkindS⟩ := (C.K.2 2 _ rfl).1 0 (fun _ => .null)
  have hfit : ∀ (i : Nat) (v : Value), (vp_cell (gA (zg z) 2) (n, .inl x)).slots[i]? = some v → fits .byte v = true := va_fit (F := fun j => .int (x j)) (fun i hi => by
    show fits .byte (.int (x i)) = true
    rw [g2 i hi]
    exact fit_b8 (hf i (by omega) (by omega)))
  obtain ⟨vm', X', st1⟩ := X.cloneArray C.hx C.hown (C.w _ hlink) (C.w _ hsame) (C.w _ hnat) (C.w _ hinst) (C.w _ hsel) (a := a) (cell := vp_cell (gA (zg z) 2) (n, .inl x)) hcellT (fun k h => by cases h) (fun h => by cases h) hnm f2 f3
    (fun i v hv9 => by
      have hk' : T.vm.classes[gA (zg z) 2]? = some kA := hkA
      have := hfit i v hv9
      simpa [State.fitsSlot, State.slotType?, vp_cell, arrV, hk', hkind] using this)
    (g := F0 (zm z) pc ls (.ref a :: st)) rfl (hv.1.trans C.hml.symm) rfl (by rw [C.hb]; exact d) (by omega) (by show 2 * 0 + _ + 14 ≤ _; omega) (by omega) (by rw [hsz]; omega) (hloader := Vm.clonesLoader_of_array hkS hkindS)
  have hcellE : ({ cls := (vp_cell (gA (zg z) 2) (n, .inl x)).cls, slots := (vp_cell (gA (zg z) 2) (n, .inl x)).slots } : Cell) = vp_cell (gA (zg z) 2) (n, .inl x) := rfl
  rw [hcellE, hsz] at X'
  generalize hH1 : H.push (vp_cell (gA (zg z) 2) (n, .inl x)) = H1
  have z1 : H1.size = H.size + 1 := by rw [← hH1, Array.size_push]
  have e1 : H1[H.size]? = some (vp_cell (gA (zg z) 2) (n, .inl x)) := by rw [← hH1, Array.getElem?_push_size]
  have o1 : ∀ q : Nat, q < H.size → H1[q]? = H[q]? := fun q hq => by rw [← hH1, Array.getElem?_push, if_neg (Nat.ne_of_lt hq)]
  have hz := hH.1
  have hz2 := hH.2.1
  obtain ⟨t, b1, b2⟩ := k H.size (.inl (.inl (gA (zg z) 2, n, .inl x))) hH.1 (by omega) ⟨x, Wa.new_eq _ _ _, g2⟩ C H1 L _ _ ls (hH.new e1 z1 o1) hl (by omega) (by omega) hv ((T.setVm vm').pushCell (vp_cell (gA (zg z) 2) (n, .inl x))) (by rw [← hH1, ← hT]; rfl) X'
  refine ⟨t, st1 t ?_, b2⟩
  rw [hcellE, hT]
  exact b1
end Rw
section VXP
variable {p : Program} {l : Launch} {e : Env} {R : Room} {s : State} {m : MethodId} {args : Array Value} {below : List Frame} {meth : Method} {c : Code} {T : State} {locs : List Loc} {cells slots : Nat}
/-- after vx_callV: a private method, found by the reference alone -/
theorem vx_callP (X : Stand p l e R s m args below meth c T locs cells slots) (hexec : p.tables.exec = Jvm.exec) {own C : String} {index : Nat} {y x : MethodName} {bytes : ByteArray} {maxL : Nat} {ret : Option FieldType}
    (hown : s.vm.findClass own = some m.cls) (hlink : (Cond.methodLink own index y).before args s = true) (hinst : (Cond.instanceMethod y).before args s = true) (hsel : (Cond.selects C x x).before args s = true) (hxy : x.cls = y.cls) (hpriv : (Cond.privateMethod y).before args s = true)
    (hcode : (Cond.code y bytes maxL ret).before args s = true) (hy : y.cls ≠ "java/lang/invoke/MethodHandle" ∧ y.cls ≠ "java/lang/invoke/VarHandle")
    {W9 : Nat} {Pre : Pt → Array Value → Prop} {Post : Pt → Array Value → Option Value → Pt → Prop} {PostX : Pt → Array Value → Addr → Pt → Prop} (hK : vx_Back l R p e below s args y 3 W9 Pre Post PostX)
    {b : Addr} {cellB : Cell} (hcell : T.heap[b]? = some cellB) (hobj : cellB.vm.isStatics = false)
    {g : JFrame} (hg : g.method = m) (hsize : g.locals.size = c.maxLocals) {argsL rest : List Value} (hlen : ∀ sig, parseMethodDescriptor y.desc = some sig → argsL.length = sig.parameters.length)
    (hstack : g.stack = argsL.reverse ++ .ref b :: rest) (hW : 2 * g.monitorRoom + (rest.map fun v => v.category).sum ≤ W9) (hdg : decode c.code g.pc = .ok (.invokevirtual index, 3))
    (hpre : ∀ vm₁, s.WarmedH vm₁ → Pre ⟨T.setVm vm₁, locs, cells, slots⟩ (Value.ref b :: argsL).toArray) :
    (∃ (v : Option Value) (vm₁ : Vm) (B : Pt), s.WarmedH vm₁ ∧ Stand p l e R s m args below meth c B.U B.locs B.cells B.slots ∧ Post ⟨T.setVm vm₁, locs, cells, slots⟩ (Value.ref b :: argsL).toArray v B ∧
      ∀ target, Steps p.tables e below (B.U.setTop { g with pc := g.pc + 3, stack := v.toList ++ rest }) target → Steps p.tables e below (T.setTop g) target) ∨
    (∃ (q : Addr) (vm₁ : Vm) (B : Pt), s.WarmedH vm₁ ∧ Stand p l e R s m args below meth c B.U B.locs B.cells B.slots ∧ PostX ⟨T.setVm vm₁, locs, cells, slots⟩ (Value.ref b :: argsL).toArray q B ∧
      Steps p.tables e below (T.setTop g) ((B.U.setTop { g with stack := rest }).pushFrame (.throwing q))) := by
  obtain ⟨mk, methM, hnamed, hmethM, hstM, habM⟩ := Cond.instanceMethod_spec hinst
  obtain ⟨methM', cM, hmethM', -, -, -, -, -, -, hsigM⟩ := Cond.code_spec hnamed hcode
  cases hmethM.symm.trans hmethM'
  obtain ⟨c2, r2, m2, q1, q2, q3, q4, kP, hkP0, hkPi⟩ := Cond.selects_spec hsel
  have hkP : s.vm.classes[mk.cls]? = some kP := by
    have e1 := findClass_of_methodNamed hnamed
    have e2 := findClass_of_methodNamed q3
    rw [hxy] at e2
    have e3 := Option.some.inj (e1.symm.trans e2)
    rw [e3]; exact hkP0
  have hselP : selectMethod e.platform s.vm cellB.cls mk = .method mk := selectMethod_private hmethM (Cond.privateMethod_at hpriv mk methM hnamed hmethM)
  obtain ⟨vm₁, X₁, hstep₁⟩ := X.invokevirtual hexec hown hlink hnamed hmethM hstM hkP hkPi hy (a := b) (cell := cellB) hcell
    (fun z h => by rw [h] at hobj; cases hobj) hselP hmethM habM hkP hkPi (g := g) hg (argsL := argsL) (rest := rest) (hlen _ hsigM) hstack hdg
  rcases hK m meth c ⟨T.setVm vm₁, locs, cells, slots⟩ { g with stack := rest } (.invokevirtual index) mk (Value.ref b :: argsL).toArray X₁ hg hsize hdg hW (X₁.named hnamed) (hpre vm₁ X₁.warmed) with ⟨v, B, X', hpost, hsteps⟩ | ⟨q, B, X', hpost, hsteps⟩
  · exact Or.inl ⟨v, vm₁, B, X₁.warmed, X', hpost, fun target h => hstep₁ _ fun acts => by rw [doInvoke_state]; exact hsteps.trans h⟩
  · exact Or.inr ⟨q, vm₁, B, X₁.warmed, X', hpost, hstep₁ _ fun acts => by rw [doInvoke_state]; exact hsteps⟩
end VXP
section VXO
variable {p : Program} {l : Launch} {e : Env} {R : Room} {s : State} {m : MethodId} {args : Array Value} {below : List Frame} {meth : Method} {c : Code} {T : State} {locs : List Loc} {cells slots : Nat}
/-- after vx_callV: a method y that overrides the one of the reference, x -/
theorem vx_callO (X : Stand p l e R s m args below meth c T locs cells slots) (hexec : p.tables.exec = Jvm.exec) {own C : String} {index : Nat} {y x x' : MethodName} {C' : String} {bytesx : ByteArray} {maxLx : Nat} {retx : Option FieldType} {bytes : ByteArray} {maxL : Nat} {ret : Option FieldType}
    (hown : s.vm.findClass own = some m.cls) (hlink : (Cond.methodLink own index x).before args s = true) (hinx : (Cond.instanceMethod x).before args s = true) (hcodex : (Cond.code x bytesx maxLx retx).before args s = true) (hinst : (Cond.instanceMethod y).before args s = true) (hsel : (Cond.selects C x y).before args s = true) (hsel' : (Cond.selects C' x' x').before args s = true) (hxy : x'.cls = x.cls) (hdx : x.desc = y.desc)
    (hcode : (Cond.code y bytes maxL ret).before args s = true) (hy : x.cls ≠ "java/lang/invoke/MethodHandle" ∧ x.cls ≠ "java/lang/invoke/VarHandle")
    {W9 : Nat} {Pre : Pt → Array Value → Prop} {Post : Pt → Array Value → Option Value → Pt → Prop} {PostX : Pt → Array Value → Addr → Pt → Prop} (hK : vx_Back l R p e below s args y 3 W9 Pre Post PostX)
    {b : Addr} {cellB : Cell} (hcell : T.heap[b]? = some cellB) (hobj : cellB.vm.isStatics = false) (hcls : s.vm.findClass C = some cellB.cls)
    {g : JFrame} (hg : g.method = m) (hsize : g.locals.size = c.maxLocals) {argsL rest : List Value} (hlen : ∀ sig, parseMethodDescriptor y.desc = some sig → argsL.length = sig.parameters.length)
    (hstack : g.stack = argsL.reverse ++ .ref b :: rest) (hW : 2 * g.monitorRoom + (rest.map fun v => v.category).sum ≤ W9) (hdg : decode c.code g.pc = .ok (.invokevirtual index, 3))
    (hpre : ∀ vm₁, s.WarmedH vm₁ → Pre ⟨T.setVm vm₁, locs, cells, slots⟩ (Value.ref b :: argsL).toArray) :
    (∃ (v : Option Value) (vm₁ : Vm) (B : Pt), s.WarmedH vm₁ ∧ Stand p l e R s m args below meth c B.U B.locs B.cells B.slots ∧ Post ⟨T.setVm vm₁, locs, cells, slots⟩ (Value.ref b :: argsL).toArray v B ∧
      ∀ target, Steps p.tables e below (B.U.setTop { g with pc := g.pc + 3, stack := v.toList ++ rest }) target → Steps p.tables e below (T.setTop g) target) ∨
    (∃ (q : Addr) (vm₁ : Vm) (B : Pt), s.WarmedH vm₁ ∧ Stand p l e R s m args below meth c B.U B.locs B.cells B.slots ∧ PostX ⟨T.setVm vm₁, locs, cells, slots⟩ (Value.ref b :: argsL).toArray q B ∧
      Steps p.tables e below (T.setTop g) ((B.U.setTop { g with stack := rest }).pushFrame (.throwing q))) := by
  obtain ⟨mk, methM, hnamed, hmethM, hstM, habM⟩ := Cond.instanceMethod_spec hinst
  obtain ⟨methM', cM, hmethM', -, -, -, -, -, -, hsigM⟩ := Cond.code_spec hnamed hcode
  cases hmethM.symm.trans hmethM'
  obtain ⟨mkx, methX, hnamedx, hmethX, hstX, habX⟩ := Cond.instanceMethod_spec hinx
  obtain ⟨methX', cX, hmethX', -, -, -, -, -, -, hsigX⟩ := Cond.code_spec hnamedx hcodex
  cases hmethX.symm.trans hmethX'
  obtain ⟨c2, r2, m2, q1, q2, q3, q4, kP, hkP, hkPi⟩ := Cond.selects_spec hsel
  cases hcls.symm.trans q1
  cases (State.methodFound?_of_named hnamedx hy).symm.trans q2
  cases hnamed.symm.trans q3
  obtain ⟨c2', r2', m2', -, -, q3', -, kX, hkX0, hkXi⟩ := Cond.selects_spec hsel'
  have hkX : s.vm.classes[mkx.cls]? = some kX := by
    have e1 := findClass_of_methodNamed hnamedx
    have e2 := findClass_of_methodNamed q3'
    rw [hxy] at e2
    have e3 := Option.some.inj (e1.symm.trans e2)
    rw [e3]; exact hkX0
  have hselP : selectMethod e.platform s.vm cellB.cls mkx = .method mk := by rw [Launch.admits_selectMethod X.admits]; exact q4
  obtain ⟨vm₁, X₁, hstep₁⟩ := X.invokevirtual hexec hown hlink hnamedx hmethX hstX hkX hkXi hy (a := b) (cell := cellB) hcell
    (fun z h => by rw [h] at hobj; cases hobj) hselP hmethM habM hkP hkPi (g := g) hg (argsL := argsL) (rest := rest) (hlen _ (by rw [← hdx]; exact hsigX)) hstack hdg
  rcases hK m meth c ⟨T.setVm vm₁, locs, cells, slots⟩ { g with stack := rest } (.invokevirtual index) mk (Value.ref b :: argsL).toArray X₁ hg hsize hdg hW (X₁.named hnamed) (hpre vm₁ X₁.warmed) with ⟨v, B, X', hpost, hsteps⟩ | ⟨q, B, X', hpost, hsteps⟩
  · exact Or.inl ⟨v, vm₁, B, X₁.warmed, X', hpost, fun target h => hstep₁ _ fun acts => by rw [doInvoke_state]; exact hsteps.trans h⟩
  · exact Or.inr ⟨q, vm₁, B, X₁.warmed, X', hpost, hstep₁ _ fun acts => by rw [doInvoke_state]; exact hsteps⟩
end VXO
section Rw
variable {z : ZZ} {own : String} {cc : ByteArray} {nL fr lo rc rs pc : Nat} {ret : Option FieldType} {w : WW} {lv : List (Option Value)} {st : List Value}
theorem xr_callVP {y x : MethodName} {bytes : ByteArray} {idx n9 fr' lo' mc ms nL' rc' rs' b : Nat} {ret' : Option FieldType} {as rest : List Value} {po : Option Value → WW → Prop} {xp : String → Nat → WW → Prop} {ci : Nat} {q : vw_C} {fs : List Value} (hM : Ct (zg z) y (Cond.code y bytes nL' ret') fr' lo' mc ms w (.ref b :: as) po xp) (hf : Ob w b ci fs) (hq : vwCl[ci]? = some q) (hlink : Cond.methodLink own idx y ∈ lw_all) (hin : Cond.instanceMethod y ∈ lw_all) (hse : Cond.selects q.1 x x ∈ lw_all) (hxy : x.cls = y.cls) (hpriv : Cond.privateMethod y ∈ lw_tbl) (hini : Cond.initialized y.cls ∈ lw_all) (hcode : Cond.code y bytes nL' ret' ∈ lw_all) (hd : y.cls ≠ "java/lang/invoke/MethodHandle" ∧ y.cls ≠ "java/lang/invoke/VarHandle" ∧ (parseMethodDescriptor y.desc).map (fun d => d.parameters.length) = some n9) (hlen9 : as.length = n9) (hroom : fr' + 1 ≤ fr ∧ 8 + (nL' + 11) + lo' ≤ lo) (hb : rc' + mc ≤ rc ∧ rs' + ms ≤ rs) (hcat : (rest.map fun v => v.category).sum ≤ 8) (d : decode cc pc = .ok (.invokevirtual idx, 3)) (hst : st = as.reverse ++ .ref b :: rest)
    (k : ∀ (r : Option Value) (w' : WW), po r w' → XJ z own cc nL ret fr lo w' rc' rs' (pc + 3) lv (r.toList ++ rest)) (kx : ∀ (E : String) (q : Nat) (w' : WW), xp E q w' → XT z own cc nL ret fr lo w' rc' rs' pc lv E q) : XJ z own cc nL ret fr lo w rc rs pc lv st := by
  subst hst
  intro C H L n1 n2 ls hH hl hc hs hv
  obtain ⟨hr1, hr2, hr3, hr4, hzl⟩ := C.rest
  have hK := xx_back (l := zl z) (R := zR z) (p := zp z) (e := ze z) (below := zb z) (s := zs z) (sargs := za z) (len := 3) (W9 := 8) hM hzl (fun U mk hW hn => codeOk (zs z) U mk #[] hW hn (word_at hW (good_of_word (List.mem_filter.mp hcode).2) (C.w _ hcode))) (by omega) (by omega) (fun a' U hW => word_at hW (good_of_word (List.mem_filter.mp hcode).2) (C.w _ hcode)) (fun a' U hW => word_at hW (good_of_word (List.mem_filter.mp hini).2) (C.w _ hini))
  obtain ⟨cellB, hcB, hoB, hclB⟩ := xx_recv C hH hf hq
  have hp9 : (Cond.privateMethod y).before (za z) (zs z) = true := by
    have h0 : va_Nw (.privateMethod y) (gU (zg z)) := va_Nw.of rfl (C.base.2.1 _ hpriv)
    exact va_Nw.use rfl (va_tabs rfl (rfl : ((gU (zg z)).setVm (zs z).vm).vm = (zs z).vm) (by rw [Cond.privateMethod_setVm C.warm.alike]; exact h0))
  intro T hT X
  exact xx_fin C hl hc hs hb hv (vx_callP X C.hx (C := q.1) (x := x) (bytes := bytes) (maxL := nL') (ret := ret') C.hown (C.w _ hlink) (C.w _ hin) (C.w _ hse) hxy hp9 (C.w _ hcode) ⟨hd.1, hd.2.1⟩ hK (by rw [hT]; exact hcB) hoB (g := F0 (zm z) pc ls (as.reverse ++ .ref b :: rest)) rfl (hv.1.trans C.hml.symm) (argsL := as) (rest := rest) (hlen9 ▸ xx_arity hd.2.2) rfl (lv_room hcat) (by rw [C.hb]; exact d) (fun vm₁ hW₁ => ⟨by show n1 + mc ≤ _; omega, by show n2 + ms ≤ _; omega, rfl, State.WarmedH.trans C.warm hW₁, by show Hp _ _ T.heap; rw [hT]; exact hH⟩)) k kx
theorem xr_callSU {y : MethodName} {bytes : ByteArray} {idx n9 fr' lo' mc ms nL' rc' rs' b : Nat} {ret' : Option FieldType} {as rest : List Value} {po : Option Value → WW → Prop} {xp : String → Nat → WW → Prop} {ci : Nat} {q : vw_C} {fs : List Value} (hM : Ct (zg z) y (Cond.code y bytes nL' ret') fr' lo' mc ms w (.ref b :: as) po xp) (hf : Ob w b ci fs) (hq : vwCl[ci]? = some q) (hlink : Cond.methodLink own idx y ∈ lw_all) (hsame : Cond.sameMethod y.cls y.cls y.name y.desc ∈ lw_all) (hsup : Cond.superclass own y.cls ∈ lw_all) (hin : Cond.instanceMethod y ∈ lw_all) (hno : y.name ≠ "<init>") (hini : Cond.initialized y.cls ∈ lw_all) (hcode : Cond.code y bytes nL' ret' ∈ lw_all) (hd : y.cls ≠ "java/lang/invoke/MethodHandle" ∧ y.cls ≠ "java/lang/invoke/VarHandle" ∧ (parseMethodDescriptor y.desc).map (fun d => d.parameters.length) = some n9) (hlen9 : as.length = n9) (hroom : fr' + 1 ≤ fr ∧ 8 + (nL' + 11) + lo' ≤ lo) (hb : rc' + mc ≤ rc ∧ rs' + ms ≤ rs) (hcat : (rest.map fun v => v.category).sum ≤ 8) (d : decode cc pc = .ok (.invokespecial idx, 3)) (hst : st = as.reverse ++ .ref b :: rest)
    (k : ∀ (r : Option Value) (w' : WW), po r w' → XJ z own cc nL ret fr lo w' rc' rs' (pc + 3) lv (r.toList ++ rest)) (kx : ∀ (E : String) (q : Nat) (w' : WW), xp E q w' → XT z own cc nL ret fr lo w' rc' rs' pc lv E q) : XJ z own cc nL ret fr lo w rc rs pc lv st := by
  subst hst
  intro C H L n1 n2 ls hH hl hc hs hv
  obtain ⟨hr1, hr2, hr3, hr4, hzl⟩ := C.rest
  have hK := xx_back (l := zl z) (R := zR z) (p := zp z) (e := ze z) (below := zb z) (s := zs z) (sargs := za z) (len := 3) (W9 := 8) hM hzl (fun U mk hW hn => codeOk (zs z) U mk #[] hW hn (word_at hW (good_of_word (List.mem_filter.mp hcode).2) (C.w _ hcode))) (by omega) (by omega) (fun a' U hW => word_at hW (good_of_word (List.mem_filter.mp hcode).2) (C.w _ hcode)) (fun a' U hW => word_at hW (good_of_word (List.mem_filter.mp hini).2) (C.w _ hini))
  obtain ⟨cellB, hcB, hoB, hclB⟩ := xx_recv C hH hf hq
  obtain ⟨hfc, kB, hkB, -⟩ := (C.K.1 ci q hq).2
  have e9 := Option.some.inj (hfc.symm.trans hclB)
  rw [e9] at hkB
  intro T hT X
  exact xx_fin C hl hc hs hb hv (vx_callSU X C.hx (bytes := bytes) (maxL := nL') (ret := ret') C.hown (C.w _ hlink) (C.w _ hsame) (C.w _ hsup) (C.w _ hin) (C.w _ hcode) hno hK (by rw [hT]; exact hcB) hoB hkB (g := F0 (zm z) pc ls (as.reverse ++ .ref b :: rest)) rfl (hv.1.trans C.hml.symm) (argsL := as) (rest := rest) (hlen9 ▸ xx_arity hd.2.2) rfl (lv_room hcat) (by rw [C.hb]; exact d) (fun vm₁ hW₁ => ⟨by show n1 + mc ≤ _; omega, by show n2 + ms ≤ _; omega, rfl, State.WarmedH.trans C.warm hW₁, by show Hp _ _ T.heap; rw [hT]; exact hH⟩)) k kx
theorem xr_callVO {y x x' : MethodName} {C' : String} {bytesx : ByteArray} {maxLx : Nat} {retx : Option FieldType} {bytes : ByteArray} {idx n9 fr' lo' mc ms nL' rc' rs' b : Nat} {ret' : Option FieldType} {as rest : List Value} {po : Option Value → WW → Prop} {xp : String → Nat → WW → Prop} {ci : Nat} {q : vw_C} {fs : List Value} (hM : Ct (zg z) y (Cond.code y bytes nL' ret') fr' lo' mc ms w (.ref b :: as) po xp) (hf : Ob w b ci fs) (hq : vwCl[ci]? = some q) (hlink : Cond.methodLink own idx x ∈ lw_all) (hinx : Cond.instanceMethod x ∈ lw_all) (hcodex : Cond.code x bytesx maxLx retx ∈ lw_all) (hin : Cond.instanceMethod y ∈ lw_all) (hse : Cond.selects q.1 x y ∈ lw_all) (hse' : Cond.selects C' x' x' ∈ lw_all) (hxy : x'.cls = x.cls) (hdx : x.desc = y.desc) (hini : Cond.initialized y.cls ∈ lw_all) (hcode : Cond.code y bytes nL' ret' ∈ lw_all) (hd : x.cls ≠ "java/lang/invoke/MethodHandle" ∧ x.cls ≠ "java/lang/invoke/VarHandle" ∧ (parseMethodDescriptor y.desc).map (fun d => d.parameters.length) = some n9) (hlen9 : as.length = n9) (hroom : fr' + 1 ≤ fr ∧ 8 + (nL' + 11) + lo' ≤ lo) (hb : rc' + mc ≤ rc ∧ rs' + ms ≤ rs) (hcat : (rest.map fun v => v.category).sum ≤ 8) (d : decode cc pc = .ok (.invokevirtual idx, 3)) (hst : st = as.reverse ++ .ref b :: rest)
    (k : ∀ (r : Option Value) (w' : WW), po r w' → XJ z own cc nL ret fr lo w' rc' rs' (pc + 3) lv (r.toList ++ rest)) (kx : ∀ (E : String) (q : Nat) (w' : WW), xp E q w' → XT z own cc nL ret fr lo w' rc' rs' pc lv E q) : XJ z own cc nL ret fr lo w rc rs pc lv st := by
  subst hst
  intro C H L n1 n2 ls hH hl hc hs hv
  obtain ⟨hr1, hr2, hr3, hr4, hzl⟩ := C.rest
  have hK := xx_back (l := zl z) (R := zR z) (p := zp z) (e := ze z) (below := zb z) (s := zs z) (sargs := za z) (len := 3) (W9 := 8) hM hzl (fun U mk hW hn => codeOk (zs z) U mk #[] hW hn (word_at hW (good_of_word (List.mem_filter.mp hcode).2) (C.w _ hcode))) (by omega) (by omega) (fun a' U hW => word_at hW (good_of_word (List.mem_filter.mp hcode).2) (C.w _ hcode)) (fun a' U hW => word_at hW (good_of_word (List.mem_filter.mp hini).2) (C.w _ hini))
  obtain ⟨cellB, hcB, hoB, hclB⟩ := xx_recv C hH hf hq
  intro T hT X
  exact xx_fin C hl hc hs hb hv (vx_callO X C.hx (C := q.1) (C' := C') (x := x) (x' := x') (bytes := bytes) (maxL := nL') (ret := ret') C.hown (C.w _ hlink) (C.w _ hinx) (C.w _ hcodex) (C.w _ hin) (C.w _ hse) (C.w _ hse') hxy hdx (C.w _ hcode) ⟨hd.1, hd.2.1⟩ hK (by rw [hT]; exact hcB) hoB hclB (g := F0 (zm z) pc ls (as.reverse ++ .ref b :: rest)) rfl (hv.1.trans C.hml.symm) (argsL := as) (rest := rest) (hlen9 ▸ xx_arity hd.2.2) rfl (lv_room hcat) (by rw [C.hb]; exact d) (fun vm₁ hW₁ => ⟨by show n1 + mc ≤ _; omega, by show n2 + ms ≤ _; omega, rfl, State.WarmedH.trans C.warm hW₁, by show Hp _ _ T.heap; rw [hT]; exact hH⟩)) k kx
end Rw
theorem k_checkIndex3r {g : GG} {w : WW} {i n : Int} {o : Nat} (hG : Base g) (hi : 0 ≤ i ∧ i < n) (hn : n < 2147483648) : Ct g yJ14_checkIndex (.code yJ14_checkIndex cJ14_checkIndex 3 (some .int)) 0 0 0 0 w [.int (iI i), .int (iI n), .ref o] (fun r_ w1 => r_ = some (.int (iI i)) ∧ w1 = w) xF := by
  refine Ct.of (lv := [some _, some _, some _]) hG (by decide +kernel) (Nat.le_of_ble_eq_true rfl) rfl ?_
  intro z hg hpo hxp hnm htab
  subst hg
  refine xr_iload_n dJ14_checkIndex_0 rfl ?_
  refine xr_if_lt (tgt := 9) dJ14_checkIndex_1 (by decide) (by omega) (fun c1 => absurd c1 (by omega)) (fun c1 => ?_)
  refine xr_iload_n dJ14_checkIndex_4 rfl ?_
  refine xr_iload_n dJ14_checkIndex_5 rfl ?_
  refine xr_icmp_lt (tgt := 16) dJ14_checkIndex_6 (by decide) (by omega) (fun c6 => ?_) (fun c6 => absurd c6 (by omega))
  refine xr_iload_n dJ14_checkIndex_16 rfl ?_
  refine xr_ireturn rfl rfl dJ14_checkIndex_17 ?_
  rw [hpo]
  first | exact ⟨rfl, rfl⟩ | exact ⟨ret_bt (by omega), rfl⟩ | exact ⟨ret_bf (by omega), rfl⟩ | exact ⟨ret_i (by omega), rfl⟩
theorem k_checkIndex3v {g : GG} {w : WW} {i n : Int} {o : Option Nat} (hG : Base g) (hi : 0 ≤ i ∧ i < n) (hn : n < 2147483648) : Ct g yJ14_checkIndex (.code yJ14_checkIndex cJ14_checkIndex 3 (some .int)) 0 0 0 0 w [.int (iI i), .int (iI n), va_rf o] (fun r_ w1 => r_ = some (.int (iI i)) ∧ w1 = w) xF := by
  cases o
  · exact k_checkIndex3 hG hi hn
  · exact k_checkIndex3r hG hi hn
theorem k_S_checkIndex {g : GG} {w : WW} {i n : Int} (hG : Base g) (hJ : KJ g) (hi : 0 ≤ i ∧ i < n) (hn : n < 2147483648) : Ct g yJ5_checkIndex (.code yJ5_checkIndex cJ5_checkIndex 2 none) 1 22 0 0 w [.int (iI i), .int (iI n)] (fun r_ w1 => r_ = none ∧ w1 = w) xF := by
  refine Ct.of (lv := [some _, some _]) hG (by decide +kernel) (Nat.le_of_ble_eq_true rfl) rfl ?_
  intro z hg hpo hxp hnm htab
  subst hg
  obtain ⟨kc, ⟨fo, kf⟩, kd, kt⟩ := hJ
  refine xr_iload_n dJ5_checkIndex_0 rfl ?_
  refine xr_iload_n dJ5_checkIndex_1 rfl ?_
  refine xr_getstatic kf q1652 dJ5_checkIndex_2 ?_
  refine xr_callS (n9 := 3) (rc' := 0) (rs' := 0) (k_checkIndex3v hG hi hn) q1709 q374 q106 q375 (by decide +kernel) rfl ⟨by decide, Nat.le_of_ble_eq_true rfl⟩ ⟨Nat.le_of_ble_eq_true rfl, Nat.le_of_ble_eq_true rfl⟩ (Nat.le_of_ble_eq_true rfl) dJ5_checkIndex_5 rfl (xk_r ?_) (fun _ _ _ h => h.elim)
  refine xr_pop dJ5_checkIndex_8 (by first | rfl | exact cat_rf _) ?_
  refine xr_return rfl dJ5_checkIndex_9 ?_
  rw [hpo]
  first | exact ⟨rfl, rfl⟩ | exact rfl
theorem k_S_coder {g : GG} {w : WW} {t : Nat} {v0 v1 v2 : Value} (hG : Base g) (hJ : KJ g) (ho : Ob w t 16 [v0, .int (iI 0), v1, v2]) : Ct g yJ5_coder (.code yJ5_coder cJ5_coder 1 (some .byte)) 0 0 0 0 w [.ref t] (fun r_ w1 => r_ = some (.int (iI 0)) ∧ w1 = w) xF := by
  refine Ct.of (lv := [some _]) hG (by decide +kernel) (Nat.le_of_ble_eq_true rfl) rfl ?_
  intro z hg hpo hxp hnm htab
  subst hg
  obtain ⟨kc, ⟨fo, kf⟩, kd, kt⟩ := hJ
  refine xr_getstatic kc q1777 dJ5_coder_0 ?_
  refine xr_if_eq (tgt := 13) dJ5_coder_3 (by decide) (by omega) (fun c3 => absurd c3 (by decide)) (fun c3 => ?_)
  refine xr_aload_n dJ5_coder_6 rfl (by first | rfl | exact isRef_rf _) ?_
  refine xr_getfield (ci := 16) (T := TJ5) (N := 4) (i := 1) (by assumption) rfl (by decide) in_J5 q1812 (.inl rfl) dJ5_coder_7 (by rfl) ?_
  refine xr_goto (tgt := 14) dJ5_coder_10 (by decide) ?_
  refine xr_ireturn rfl (by first | rfl | exact nar_bI _ | decide +kernel) dJ5_coder_14 ?_
  rw [hpo]
  first | exact ⟨rfl, rfl⟩ | exact ⟨ret_bt (by omega), rfl⟩ | exact ⟨ret_bf (by omega), rfl⟩ | exact ⟨ret_i (by omega), rfl⟩
theorem k_S_length {g : GG} {w : WW} {t b n : Nat} {f : Int → Int} (hG : Base g) (hJ : KJ g) (hT : SO g w t b n f) : Ct g yJ5_length (.code yJ5_length cJ5_length 1 (some .int)) 1 20 0 0 w [.ref t] (fun r_ w1 => r_ = some (.int (iI n)) ∧ w1 = w) xF := by
  refine Ct.of (lv := [some _]) hG (by decide +kernel) (Nat.le_of_ble_eq_true rfl) rfl ?_
  intro z hg hpo hxp hnm htab
  subst hg
  obtain ⟨v1, v2, ho, hba, hn9, hch⟩ := hT
  refine xr_aload_n dJ5_length_0 rfl (by first | rfl | exact isRef_rf _) ?_
  refine xr_getfield (ci := 16) (T := TJ5) (N := 4) (i := 0) ho rfl (by decide) in_J5 q1811 (.inl rfl) dJ5_length_1 (by rfl) ?_
  refine xr_alenBA hba dJ5_length_4 ?_
  refine xr_aload_n dJ5_length_5 rfl (by first | rfl | exact isRef_rf _) ?_
  refine xr_callV (n9 := 0) (rc' := 0) (rs' := 0) (k_S_coder hG hJ ho) ho rfl q1773 q1774 q1775 q94 q1776 (by decide +kernel) rfl ⟨by decide, Nat.le_of_ble_eq_true rfl⟩ ⟨Nat.le_of_ble_eq_true rfl, Nat.le_of_ble_eq_true rfl⟩ (Nat.le_of_ble_eq_true rfl) dJ5_length_6 rfl (xk_r ?_) (fun _ _ _ h => h.elim)
  refine xr_ishr dJ5_length_9 ?_
  rw [iI_shr0]
  refine xr_ireturn rfl rfl dJ5_length_10 ?_
  rw [hpo]
  first | exact ⟨rfl, rfl⟩ | exact ⟨ret_bt (by omega), rfl⟩ | exact ⟨ret_bf (by omega), rfl⟩ | exact ⟨ret_i (by omega), rfl⟩
theorem k_S_isLatin1 {g : GG} {w : WW} {t : Nat} {v0 v1 v2 : Value} (hG : Base g) (hJ : KJ g) (ho : Ob w t 16 [v0, .int (iI 0), v1, v2]) : Ct g yJ5_isLatin1 (.code yJ5_isLatin1 cJ5_isLatin1 1 (some .boolean)) 0 0 0 0 w [.ref t] (fun r_ w1 => r_ = some (.int (iI 1)) ∧ w1 = w) xF := by
  refine Ct.of (lv := [some _]) hG (by decide +kernel) (Nat.le_of_ble_eq_true rfl) rfl ?_
  intro z hg hpo hxp hnm htab
  subst hg
  obtain ⟨kc, ⟨fo, kf⟩, kd, kt⟩ := hJ
  refine xr_getstatic kc q1777 dJ5_isLatin1_0 ?_
  refine xr_if_eq (tgt := 17) dJ5_isLatin1_3 (by decide) (by omega) (fun c3 => absurd c3 (by decide)) (fun c3 => ?_)
  refine xr_aload_n dJ5_isLatin1_6 rfl (by first | rfl | exact isRef_rf _) ?_
  refine xr_getfield (ci := 16) (T := TJ5) (N := 4) (i := 1) ho rfl (by decide) in_J5 q1812 (.inl rfl) dJ5_isLatin1_7 (by rfl) ?_
  refine xr_if_ne (tgt := 17) dJ5_isLatin1_10 (by decide) (by omega) (fun c10 => absurd c10 (fun h => h rfl)) (fun c10 => ?_)
  refine xr_iconst dJ5_isLatin1_13 ?_
  refine xr_goto (tgt := 18) dJ5_isLatin1_14 (by decide) ?_
  refine xr_ireturn rfl (by first | rfl | exact nar_bI _ | decide +kernel) dJ5_isLatin1_18 ?_
  rw [hpo]
  first | exact ⟨rfl, rfl⟩ | exact ⟨ret_bt (by omega), rfl⟩ | exact ⟨ret_bf (by omega), rfl⟩ | exact ⟨ret_i (by omega), rfl⟩
theorem k_L1_charAt {g : GG} {w : WW} {b n : Nat} {f : Int → Int} {i : Int} (hG : Base g) (hJ : KJ g) (hb : BA g w b n f) (hi : 0 ≤ i ∧ i < n) (hn : n ≤ 1000) (hf : 0 ≤ f i ∧ f i ≤ 127) : Ct g yJ25_charAt (.code yJ25_charAt cJ25_charAt 2 (some .char)) 2 43 0 0 w [.ref b, .int (iI i)] (fun r_ w1 => r_ = some (.int (iI (f i))) ∧ w1 = w) xF := by
  refine Ct.of (lv := [some _, some _]) hG (by decide +kernel) (Nat.le_of_ble_eq_true rfl) rfl ?_
  intro z hg hpo hxp hnm htab
  subst hg
  refine xr_iload_n dJ25_charAt_0 rfl ?_
  refine xr_aload_n dJ25_charAt_1 rfl (by first | rfl | exact isRef_rf _) ?_
  refine xr_alenBA hb dJ25_charAt_2 ?_
  refine xr_callS (n9 := 2) (rc' := 0) (rs' := 0) (k_S_checkIndex hG hJ hi (by omega)) q1858 q1707 q94 q1708 (by decide +kernel) rfl ⟨by decide, Nat.le_of_ble_eq_true rfl⟩ ⟨Nat.le_of_ble_eq_true rfl, Nat.le_of_ble_eq_true rfl⟩ (Nat.le_of_ble_eq_true rfl) dJ25_charAt_3 rfl (xk_v ?_) (fun _ _ _ h => h.elim)
  refine xr_aload_n dJ25_charAt_6 rfl (by first | rfl | exact isRef_rf _) ?_
  refine xr_iload_n dJ25_charAt_7 rfl ?_
  refine xr_baload hb (by omega) (by omega) dJ25_charAt_8 ?_
  refine xr_sipush dJ25_charAt_9 (by decide) ?_
  refine xr_iand dJ25_charAt_12 ?_
  rw [iI_and255 (by omega)]
  refine xr_i2cs dJ25_charAt_13 (by omega) ?_
  refine xr_ireturn rfl (nar_ch (by omega)) dJ25_charAt_14 ?_
  rw [hpo]
  first | exact ⟨rfl, rfl⟩ | exact ⟨ret_bt (by omega), rfl⟩ | exact ⟨ret_bf (by omega), rfl⟩ | exact ⟨ret_i (by omega), rfl⟩
theorem k_S_charAt {g : GG} {w : WW} {t b n : Nat} {f : Int → Int} {i : Int} (hG : Base g) (hJ : KJ g) (hT : SO g w t b n f) (hi : 0 ≤ i ∧ i < n) : Ct g yJ5_charAt (.code yJ5_charAt cJ5_charAt 2 (some .char)) 3 64 0 0 w [.ref t, .int (iI i)] (fun r_ w1 => r_ = some (.int (iI (f i))) ∧ w1 = w) xF := by
  refine Ct.of (lv := [some _, some _]) hG (by decide +kernel) (Nat.le_of_ble_eq_true rfl) rfl ?_
  intro z hg hpo hxp hnm htab
  subst hg
  obtain ⟨v1, v2, ho, hba, hn9, hch⟩ := hT
  have hci := hch i hi.1 hi.2
  refine xr_aload_n dJ5_charAt_0 rfl (by first | rfl | exact isRef_rf _) ?_
  refine xr_callV (n9 := 0) (rc' := 0) (rs' := 0) (k_S_isLatin1 hG hJ ho) ho rfl q1851 q1852 q1853 q94 q1854 (by decide +kernel) rfl ⟨by decide, Nat.le_of_ble_eq_true rfl⟩ ⟨Nat.le_of_ble_eq_true rfl, Nat.le_of_ble_eq_true rfl⟩ (Nat.le_of_ble_eq_true rfl) dJ5_charAt_1 rfl (xk_r ?_) (fun _ _ _ h => h.elim)
  refine xr_if_eq (tgt := 16) dJ5_charAt_4 (by decide) (by omega) (fun c4 => absurd c4 (by decide)) (fun c4 => ?_)
  refine xr_aload_n dJ5_charAt_7 rfl (by first | rfl | exact isRef_rf _) ?_
  refine xr_getfield (ci := 16) (T := TJ5) (N := 4) (i := 0) ho rfl (by decide) in_J5 q1811 (.inl rfl) dJ5_charAt_8 (by rfl) ?_
  refine xr_iload_n dJ5_charAt_11 rfl ?_
  refine xr_callS (n9 := 2) (rc' := 0) (rs' := 0) (k_L1_charAt hG hJ hba hi hn9 hci) q1855 q1856 q127 q1857 (by decide +kernel) rfl ⟨by decide, Nat.le_of_ble_eq_true rfl⟩ ⟨Nat.le_of_ble_eq_true rfl, Nat.le_of_ble_eq_true rfl⟩ (Nat.le_of_ble_eq_true rfl) dJ5_charAt_12 rfl (xk_r ?_) (fun _ _ _ h => h.elim)
  refine xr_ireturn rfl (nar_ch (by omega)) dJ5_charAt_15 ?_
  rw [hpo]
  first | exact ⟨rfl, rfl⟩ | exact ⟨ret_bt (by omega), rfl⟩ | exact ⟨ret_bf (by omega), rfl⟩ | exact ⟨ret_i (by omega), rfl⟩
