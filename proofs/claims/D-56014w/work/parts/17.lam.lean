/-! LAM: objects that lambda expressions make, and what calls them (the steps through the forwarder follow the library's F8a, F8b, F8b2, F8c, F8h, F12b; the made class's facts follow Example/ToyCaptured) -/
set_option maxRecDepth 100000
section XL
variable {p : Program} {l : Launch} {e : Env} {R : Room} {s : State} {m : MethodId} {args : Array Value} {below : List Frame} {meth : Method} {c : Code} {T : State} {locs : List Loc} {cells slots : Nat}
theorem xl_through {U : State} {L : List Loc} {n1 nn : Nat} (X : Stand p l e R s m args below meth c U L n1 nn) {g : JFrame} (hg : g.method = m) (hsize : g.locals.size = c.maxLocals) {ig : Instr} {len : Nat} (hdg : decode c.code g.pc = .ok (ig, len))
    {mk : MethodId} {methk : Method} {ck : Code} (a : Array Value) {R' : Room} (hmk : U.vm.method? mk = some methk) (hck : methk.code = some ck) (hlk : methk.locks = false) (hpk : U.plainMethod mk)
    (hframes : R'.frames + 1 ≤ R.frames) (hlocals : 2 * g.monitorRoom + (g.stack.map fun v => v.category).sum + (ck.maxLocals + 11) + R'.locals ≤ R.locals) (hcells : n1 + R'.cells ≤ R.cells) (hslots : nn + R'.slots ≤ R.slots)
    {Φ : Option Value → State → List Loc → Nat → Nat → Prop}
    (body : ∀ U₀, U₀ = (U.setTop g).pushFrame (.java (entryFrame mk a ck.maxLocals)) → Stand p l e R' (U.calling g mk a) mk a (.java g :: below) methk ck U₀ [] 0 0 →
      ∃ v U₁ L₁ c₁ n₁, Stand p l e R' (U.calling g mk a) mk a (.java g :: below) methk ck U₁ L₁ c₁ n₁ ∧ (methk.sig.returnType = none → v = none) ∧ Φ v U₁ L₁ c₁ n₁ ∧
        ∀ fs, (∀ (f : JFrame) (acts : List Action), f.method = mk → f.locked = none → f.entered = [] → (doReturn e (U₁.setTop f) acts v).1 = U₁.setFrames fs) → Steps p.tables e (.java g :: below) (U₀.setTop (entryFrame mk a ck.maxLocals)) (U₁.setFrames fs)) :
    ∃ v T' U₁ L₁ c₁ n₁, Stand p l e R s m args below meth c T' (L ++ L₁) (n1 + c₁) (nn + n₁) ∧ Φ v U₁ L₁ c₁ n₁ ∧ T'.heap = U₁.heap ∧ T'.vm = U₁.vm ∧ U.WarmedH T'.vm ∧
      Steps p.tables e below (doInvoke e (U.setTop g) [] mk a).1 (T'.setTop { g with pc := g.pc + len, stack := v.toList ++ g.stack }) := by
  obtain ⟨Y₀, hin⟩ := X.into hg hsize hdg a (R' := R') hmk hck hlk hpk hframes hlocals hcells hslots
  obtain ⟨v, U₁, L₁, c₁, n₁, Y₁, hv, hΦ, hsteps⟩ := body _ rfl Y₀
  obtain ⟨fs, hleave, -, hended, hWe, hsame⟩ := Y₁.leave (v := v) hv hlk
  obtain ⟨T', X', hW', -, ht⟩ := X.outOf hg hdg hended hWe hsame
  refine ⟨v, T', U₁, L₁, c₁, n₁, X', hΦ, (congrArg State.heap ht).symm, (congrArg State.vm ht).symm, hW', ?_⟩
  rw [hin [], ← ht]
  exact Steps.weaken (mid := [.java g]) (hsteps fs hleave)
theorem xl_getf (Y : Stand p l e R s m args below meth c T locs cells slots) (hexec : p.tables.exec = Jvm.exec) {g : JFrame} (hg : g.method = m) {index cF a : Nat} {field : Field} {cell : Cell} {v : Value} {rest : List Value}
    (hr : T.vm.fieldReady m.cls index cF field) (hst : field.isStatic = false) (hstack : g.stack = .ref a :: rest) (hcell : T.heap[a]? = some cell) (hknown : cell.vm ≠ .unknown) (hv : cell.slots[field.slot]? = some v)
    (hdg : decode c.code g.pc = .ok (.getfield index, 3)) {s₀ : State} (come : Steps p.tables e below s₀ (T.setTop g)) : Steps p.tables e below s₀ (T.setTop { g with pc := g.pc + 3, stack := v :: rest }) := by
  subst hg
  refine come.trans ?_
  jvm_step Y.here [hexec, hdg, getfield.wp_ready (e := e) (s := T) (c := cF) (field := field) (a := a) (rest := rest) (cell := cell) (v := v) (f := g) Y.here.top hr hst hstack hcell hknown hv]
  exact Steps.refl _
theorem xl_cast (Y : Stand p l e R s m args below meth c T locs cells slots) (hexec : p.tables.exec = Jvm.exec) {g : JFrame} (hg : g.method = m) {index cT a : Nat} {cell : Cell} {ks kt : Class} {rest : List Value}
    (hr : T.vm.classReady m.cls index cT) (hstack : g.stack = .ref a :: rest) (h1 : T.heap[a]? = some cell) (h2 : ∀ k, cell.vm ≠ .statics k) (h3 : T.vm.classes[cell.cls]? = some ks) (h4 : T.vm.classes[cT]? = some kt) (h5 : T.vm.assignable cell.cls cT = true)
    (hdg : decode c.code g.pc = .ok (.checkcast index, 3)) {s₀ : State} (come : Steps p.tables e below s₀ (T.setTop g)) : Steps p.tables e below s₀ (T.setTop { g with pc := g.pc + 3 }) := by
  subst hg
  refine come.trans ?_
  jvm_step Y.here [hexec, hdg, checkcast.wp_ready (e := e) (s := T) (c := cT) (x := .ref a) (rest := rest) (f := g) Y.here.top hr hstack]
  exact ⟨cell, h1, h2, ks, h3, kt, h4, by rw [if_pos h5]; exact Steps.refl _⟩
/-- entry mi of cK's pool is resolved to the static method y, of n parameters, of an initialised class -/
def xS (e : Env) (U : State) (cK mi : Nat) (y : MethodName) (n : Nat) : Prop :=
  ∃ t kt metht, plainRef U e cK mi ∧ U.vm.methodReady cK mi t ∧ U.vm.classes[t.cls]? = some kt ∧ U.vm.method? t = some metht ∧ signaturePolymorphic kt metht = false ∧ metht.isStatic = true ∧ kt.init = .initialized ∧ metht.sig.parameters.length = n ∧ U.methodNamed? y = some t
/-- .. to an instance method of n parameters, of a class; an object of the class cB selects y -/
def xV (e : Env) (U : State) (cK mi : Nat) (y : MethodName) (cB : ClassId) (n : Nat) : Prop :=
  ∃ r t kr kt methr metht, namesAClass U cK mi ∧ U.vm.methodReady cK mi r ∧ U.vm.classes[r.cls]? = some kr ∧ U.vm.method? r = some methr ∧ signaturePolymorphic kr methr = false ∧ methr.isStatic = false ∧ methr.sig.parameters.length = n ∧
    selectMethod e.platform U.vm cB r = .method t ∧ U.vm.method? t = some metht ∧ metht.isAbstract = false ∧ U.vm.classes[t.cls]? = some kt ∧ kt.isInterface = false ∧ U.methodNamed? y = some t
theorem xl_static {g : GG} {po : Option Value → WW → Prop} {mc ms W : Nat} {as rest : List Value} {w : WW} (Y : Stand p l e R s m args below meth c T locs cells slots) (hexec : p.tables.exec = Jvm.exec) {gf : JFrame} (hg : gf.method = m) (hsize : gf.locals.size = c.maxLocals) {index : Nat} {y : MethodName}
    (hS : xS e T m.cls index y as.length) (hstack : gf.stack = as.reverse ++ rest)
    (hK : vx_Back l R p e below s args y 3 W (xPre g w as R mc ms) (xPo g po mc ms) (xPx g xF mc ms)) (hW : 2 * gf.monitorRoom + (rest.map fun v => v.category).sum ≤ W)
    (hpre : xPre g w as R mc ms ⟨T, locs, cells, slots⟩ as.toArray) (hdg : decode c.code gf.pc = .ok (.invokestatic index, 3)) {s₀ : State} (come : Steps p.tables e below s₀ (T.setTop gf)) :
    ∃ (v : Option Value) (B : Pt), Stand p l e R s m args below meth c B.U B.locs B.cells B.slots ∧ xPo g po mc ms ⟨T, locs, cells, slots⟩ as.toArray v B ∧ Steps p.tables e below s₀ (B.U.setTop { gf with pc := gf.pc + 3, stack := v.toList ++ rest }) := by
  subst hg
  obtain ⟨t, kt, metht, href, hr, hkt, hmt, hpoly, hstatic, hinit, hlen, hnamed⟩ := hS
  rcases hK gf.method meth c ⟨T, locs, cells, slots⟩ { gf with stack := rest } (.invokestatic index) t as.toArray Y rfl hsize hdg hW hnamed hpre with ⟨v, B, Y', hpost, hsteps⟩ | ⟨q, B, Y', ⟨w', L, E, ce, hx, -⟩, -⟩
  · refine ⟨v, B, Y', hpost, (come.trans ?_).trans hsteps⟩
    jvm_step Y.here [hexec, hdg, invokestatic.wp_ready (e := e) (s := T) (m := t) (k := kt) (meth := metht) (args := as) (rest := rest) (f := gf) Y.here.top href hr hkt hmt hpoly hstatic hinit hlen.symm hstack]
    intro acts
    rw [doInvoke_state]
    exact Steps.refl _
  · exact hx.elim
theorem xl_virtual {g : GG} {po : Option Value → WW → Prop} {mc ms W : Nat} {as rest : List Value} {w : WW} (Y : Stand p l e R s m args below meth c T locs cells slots) (hexec : p.tables.exec = Jvm.exec) {gf : JFrame} (hg : gf.method = m) (hsize : gf.locals.size = c.maxLocals) {index a : Nat} {y : MethodName} {cell : Cell}
    (hV : xV e T m.cls index y cell.cls as.length) (hstack : gf.stack = as.reverse ++ .ref a :: rest) (hcell : T.heap[a]? = some cell) (hobj : ∀ q, cell.vm ≠ .statics q)
    (hK : vx_Back l R p e below s args y 3 W (xPre g w (.ref a :: as) R mc ms) (xPo g po mc ms) (xPx g xF mc ms)) (hW : 2 * gf.monitorRoom + (rest.map fun v => v.category).sum ≤ W)
    (hpre : xPre g w (.ref a :: as) R mc ms ⟨T, locs, cells, slots⟩ (Value.ref a :: as).toArray) (hdg : decode c.code gf.pc = .ok (.invokevirtual index, 3)) {s₀ : State} (come : Steps p.tables e below s₀ (T.setTop gf)) :
    ∃ (v : Option Value) (B : Pt), Stand p l e R s m args below meth c B.U B.locs B.cells B.slots ∧ xPo g po mc ms ⟨T, locs, cells, slots⟩ (Value.ref a :: as).toArray v B ∧ Steps p.tables e below s₀ (B.U.setTop { gf with pc := gf.pc + 3, stack := v.toList ++ rest }) := by
  subst hg
  obtain ⟨r, t, kr, kt, methr, metht, hnc, hr, hkr, hmr, hpoly, hstatic, hlen, hsel, hmt, habs, hkt, hitf, hnamed⟩ := hV
  rcases hK gf.method meth c ⟨T, locs, cells, slots⟩ { gf with stack := rest } (.invokevirtual index) t (Value.ref a :: as).toArray Y rfl hsize hdg hW hnamed hpre with ⟨v, B, Y', hpost, hsteps⟩ | ⟨q, B, Y', ⟨w', L, E, ce, hx, -⟩, -⟩
  · refine ⟨v, B, Y', hpost, (come.trans ?_).trans hsteps⟩
    jvm_step Y.here [hexec, hdg, invokevirtual.wp_ready (e := e) (s := T) (r := r) (m := t) (k := kr) (mk := kt) (rmeth := methr) (meth := metht) (a := a) (args := as) (rest := rest) (cell := cell) (f := gf) Y.here.top hnc hr hkr hmr hpoly hstatic hlen.symm hstack hcell hobj hsel hmt habs hkt hitf]
    intro acts
    rw [doInvoke_state]
    exact Steps.refl _
  · exact hx.elim
theorem xl_ret (Y : Stand p l e R s m args below meth c T locs cells slots) (hexec : p.tables.exec = Jvm.exec) {pc : Nat} {Ls : Array Slot} {w : Int32} {t : FieldType} (hret : meth.sig.returnType = some t) (hn : narrow t (.int w) = .int w)
    (hti : t = .int ∨ t = .boolean)
    (hdg : decode c.code pc = .ok (.ireturn, 1)) {fs : List Frame} (hleave : ∀ (f : JFrame) (acts : List Action), f.method = m → f.locked = none → f.entered = [] → (doReturn e (T.setTop f) acts (some (.int w))).1 = T.setFrames fs) :
    Steps p.tables e below (T.setTop { method := m, pc := pc, locals := Ls, stack := [.int w], locked := none }) (T.setFrames fs) := by
  have hm' : T.vm.method? m = some meth := Y.method'
  rcases hti with rfl | rfl <;>
  · jvm_step Y.here [Y.here.top, hexec, hdg, hm', hret, hn]
    first | (intro acts; rw [hleave _ acts rfl rfl rfl]) | rw [hleave _ _ rfl rfl rfl]
    exact Steps.refl _
theorem xl_look {U : State} {y : MethodName} {t : MethodId} (hn : U.methodNamed? y = some t) (hy : y.cls ≠ "java/lang/invoke/MethodHandle" ∧ y.cls ≠ "java/lang/invoke/VarHandle") :
    ∀ cI kI, U.vm.findClass y.cls = some cI → U.vm.classes[cI]? = some kI → ((methodIn cI y.name y.desc kI.isInterface none).ask { classPath := fun _ => none } U.vm).1 = .ok t := by
  intro cI kI hf hk
  have h1 : U.methodFound? y.cls y.name y.desc = some t := State.methodFound?_of_named hn hy
  simp only [State.methodFound?, hf, hk, Option.bind_eq_bind, Option.bind_some] at h1
  cases hq : ((methodIn cI y.name y.desc kI.isInterface none).ask { classPath := fun _ => none } U.vm).1 with
  | ok v => rw [hq] at h1; exact congrArg Except.ok (Option.some.inj h1)
  | error x => rw [hq] at h1; cases h1
theorem xS_made {e : Env} {U : State} {cK mi ci nt n : Nat} {y : MethodName} {kK tk : Class} {file : ClassFile} {toy : ClassId} {t : MethodId} {bytes : ByteArray} {maxL : Nat} {ret : Option FieldType} {sig : MethodDescriptor} {a' : Array Value}
    (hkK : U.vm.classes[cK]? = some kK) (hfile : kK.cf = some file) (hM : file.constantPool[mi]? = some (.methodref ci nt)) (hnt : file.constantPool.nameAndType? nt = some (y.name, y.desc))
    (hready : U.vm.methodReady cK mi t) (hclsR : U.vm.classReady cK ci toy) (htoy : U.vm.findClass y.cls = some toy) (htk : U.vm.classes[toy]? = some tk)
    (hlook : ((methodIn toy y.name y.desc tk.isInterface none).ask { classPath := fun _ => none } U.vm).1 = .ok t)
    (hy : y.cls ≠ "java/lang/invoke/MethodHandle" ∧ y.cls ≠ "java/lang/invoke/VarHandle")
    (hcode : (Cond.code y bytes maxL ret).before a' U = true) (hst : (Cond.static y).before a' U = true) (hini : (Cond.initialized y.cls).before a' U = true)
    (hsig : parseMethodDescriptor y.desc = some sig) (hn : sig.parameters.length = n) : xS e U cK mi y n := by
  cases hnB : U.methodNamed? y with
  | none => simp [Cond.before, Cond.holds, Cond.value, hnB] at hcode
  | some mB =>
  obtain ⟨methB, cB, hmB, -, -, -, -, -, -, hsigB⟩ := Cond.code_spec hnB hcode
  have hstaticB : methB.isStatic = true := Cond.static_spec hnB hmB hst
  have hfT : U.vm.findClass y.cls = some mB.cls := findClass_of_methodNamed hnB
  cases htoy.symm.trans hfT
  have hinitK : tk.init = .initialized := Cond.initialized_spec hfT htk hini
  obtain ⟨kT', hkT', hnameT⟩ := className_of_methodNamed hnB
  cases htk.symm.trans hkT'
  have htB : t = mB := by
    have h1 : U.methodFound? y.cls y.name y.desc = some mB := State.methodFound?_of_named hnB hy
    simp only [State.methodFound?, hfT, htk, Option.bind_eq_bind, Option.bind_some] at h1
    rw [hlook] at h1
    exact Option.some.inj h1
  subst htB
  have hsp : ∀ z : Method, signaturePolymorphic tk z = false := fun z => by simp [signaturePolymorphic, hnameT, hy.1, hy.2]
  obtain ⟨b, hmem⟩ := memberRef_ask' (e := e) (vm := U.vm) (d := cK) (index := mi) hkK hfile (Or.inl hM) hnt
  exact ⟨t, tk, methB, ⟨ci, _, _, b, t.cls, tk, hmem, hclsR, htk, by simp [hsp]⟩, hready, htk, hmB, hsp _, hstaticB, hinitK, by rw [← Option.some.inj (hsig.symm.trans hsigB)]; exact hn, hnB⟩
theorem xV_made (hadm : l.admits e) {U : State} {cK mi ci nt n : Nat} {y : MethodName} {kK tk : Class} {file : ClassFile} {cB : ClassId} {t : MethodId} {bytes : ByteArray} {maxL : Nat} {ret : Option FieldType} {sig : MethodDescriptor} {a' : Array Value}
    (hkK : U.vm.classes[cK]? = some kK) (hfile : kK.cf = some file) (hM : file.constantPool[mi]? = some (.methodref ci nt))
    (hready : U.vm.methodReady cK mi t) (hclsR : U.vm.classReady cK ci cB) (hcB : U.vm.findClass y.cls = some cB) (htk : U.vm.classes[cB]? = some tk) (hitf : tk.isInterface = false)
    (hlook : ((methodIn cB y.name y.desc tk.isInterface none).ask { classPath := fun _ => none } U.vm).1 = .ok t) (hy : y.cls ≠ "java/lang/invoke/MethodHandle" ∧ y.cls ≠ "java/lang/invoke/VarHandle")
    (hcode : (Cond.code y bytes maxL ret).before a' U = true) (hinst : (Cond.instanceMethod y).before a' U = true) (hsel : (Cond.selects y.cls y y).before a' U = true)
    (hsig : parseMethodDescriptor y.desc = some sig) (hn : sig.parameters.length = n) : xV e U cK mi y cB n := by
  cases hnB : U.methodNamed? y with
  | none => simp [Cond.before, Cond.holds, Cond.value, hnB] at hcode
  | some mB =>
  have et : t = mB := Except.ok.inj (hlook.symm.trans (xl_look hnB hy _ _ hcB htk))
  subst et
  obtain ⟨methB, cB', hmB, -, -, -, -, -, -, hsigB⟩ := Cond.code_spec hnB hcode
  obtain ⟨mk, methM, hnamed, hmethM, hst, hab⟩ := Cond.instanceMethod_spec hinst
  cases hnB.symm.trans hnamed
  cases hmB.symm.trans hmethM
  obtain ⟨c2, r2, m2, q1, q2, q3, q4, kP, hkP, hkPi⟩ := Cond.selects_spec hsel
  cases hcB.symm.trans q1
  cases (State.methodFound?_of_named hnB hy).symm.trans q2
  cases hnB.symm.trans q3
  have hcls : t.cls = cB := Option.some.inj ((findClass_of_methodNamed hnB).symm.trans hcB)
  obtain ⟨kT', hkT', hnameT⟩ := className_of_methodNamed hnB
  have hsp : signaturePolymorphic kT' methB = false := by simp [signaturePolymorphic, hnameT, hy.1, hy.2]
  exact ⟨t, t, kT', kP, methB, methB, ⟨kK, file, ci, nt, cB, tk, hkK, hfile, hM, hclsR, htk, hitf⟩, hready, hkT', hmB, hsp, hst, by rw [← Option.some.inj (hsig.symm.trans hsigB)]; exact hn,
    by rw [Launch.admits_selectMethod hadm]; exact q4, hmB, hab, hkP, hkPi, hnB⟩
/-- what the interface's own step asks of the made class -/
def xFn (xi : MethodName) (cF : ClassId) (s : State) : Prop :=
  ∃ (kF : Class) (methK : Method), s.vm.classes[cF]? = some kF ∧ s.vm.method? ⟨cF, 1⟩ = some methK ∧ hasFlag methK.accessFlags Acc.public_ = true ∧ methK.isAbstract = false ∧
    ∀ r0 r, s.methodNamed? xi = some r0 → s.vm.method? r0 = some r → s.vm.assignable cF r0.cls = true ∧ selectMethod {} s.vm cF r0 = .method ⟨cF, 1⟩ ∧
      ((cF :: s.vm.superclasses cF).any fun k => (declaredIn s.vm r.name r.desc k).any fun (_, y) => y.isPrivate || y.isStatic) = false
theorem xFn_site {s : State} {args : Array Value} {d cK : ClassId} {σ : Lambda.Shape} {xi : MethodName} {kK : Class} {methk : Method}
    (hmade : Lambda.isMade { classPath := fun _ => none } s.vm d σ cK = true) (hcan : s.lambdaCallable σ cK = true)
    (hcls : σ.iface = xi.cls) (hname : σ.name = xi.name) (hdesc : σ.sam.toString = xi.desc)
    (hword : (Cond.interfaceMethod xi.cls xi.cls xi.name xi.desc).before args s = true)
    (hkK : s.vm.classes[cK]? = some kK) (hmk : s.vm.method? ⟨cK, 1⟩ = some methk) (hfl : methk.accessFlags = 0x0001) : xFn xi cK s := by
  refine ⟨kK, methk, hkK, hmk, by rw [hfl]; decide, by simp [Method.isAbstract, hfl, hasFlag, Acc.abstract], fun r0 r hn hr => ?_⟩
  obtain ⟨cL, kL, r1', hcL, hkL, hiL, hfoundL, hn1⟩ := Cond.interfaceMethod_spec hword
  cases hn.symm.trans hn1
  have hr0cls : r0.cls = cL := Option.some.inj ((findClass_of_methodNamed hn).symm.trans hcL)
  obtain ⟨hnameR, hdescR⟩ := name_of_methodNamed hn hr
  obtain ⟨-, -, -, -, -, -, -, iface', -, -, -, -, found, -, -, -, -, -, hi', -, -, -, -, -, -, hfound', -, -, -, -, -, -, -, -, -, -, hsel⟩ := Lambda.isMade_spec hmade
  rw [hcls] at hi'
  cases hcL.symm.trans hi'
  have hfr : found = r0 := by
    have h1 : s.methodFound? xi.cls xi.name xi.desc = some r0 := hfoundL
    simp only [State.methodFound?, hcL, hkL, hiL, Option.bind_eq_bind, Option.bind_some] at h1
    rw [hname, hdesc] at hfound'
    rw [hfound'] at h1
    exact Option.some.inj h1
  subst hfr
  obtain ⟨i2, hi2, hasg, hway⟩ := State.lambdaCallable_spec hcan
  rw [hcls] at hi2
  cases hcL.symm.trans hi2
  exact ⟨by rw [hr0cls]; exact hasg, hsel, by rw [hnameR, hdescR]; rw [hname, hdesc] at hway; exact hway⟩
end XL
