/-! LAM: objects that lambda expressions make, and what calls them (the steps through the forwarder follow the library's F8a, F8b, F8b2, F8c, F8h, F12b; the made class's facts follow Example/ToyCaptured) -/
set_option maxRecDepth 100000
section XL
variable {p : Program} {l : Launch} {e : Env} {R : Room} {s : State} {m : MethodId} {args : Array Value} {below : List Frame} {meth : Method} {c : Code} {T : State} {locs : List Loc} {cells slots : Nat}
theorem xl_through {U : State} {L : List Loc} {n1 nn : Nat} (X : Stand p l e R s m args below meth c U L n1 nn) {g : JFrame} (hg : g.method = m) (hsize : g.locals.size = c.maxLocals) {ig : Instr} {len : Nat} (hdg : decode c.code g.pc = .ok (ig, len))
    {mk : MethodId} {methk : Method} {ck : Code} (a : Array Value) {R' : Room} (hmk : U.vm.method? mk = some methk) (hck : methk.code = some ck) (hlk : methk.locks = false) (hpk : U.plainMethod mk)
    (hframes : R'.frames + 1 ≤ R.frames) (hlocals : 2 * g.monitorRoom + (g.stack.map fun v => v.category).sum + (ck.maxLocals + 11) + R'.locals ≤ R.locals) (hcells : n1 + R'.cells ≤ R.cells) (hslots : nn + R'.slots ≤ R.slots)
    {Φ : Option Value → State → List Loc → Nat → Nat → Prop}
    (body : ∀ U₀, U₀ = (U.setTop g).pushFrame (.java (entryFrame mk a ck.maxLocals)) → Stand p l e R' (U.calling g mk a) mk a (.java g :: below) methk ck U₀ [] 0 0 →
      ∃ v U₁ L₁ c₁ n₁, Stand p l e R' (U.calling g mk a) mk a (.java g :: below) methk ck U₁ L₁ c₁ n₁ ∧ (methk.sig.returnType = none → v = none) ∧ Φ v U₁ L₁ c₁ n₁ ∧
        ∀ fs, (∀ (f : JFrame) (acts : List Action), f.method = mk → f.locked = none → f.entered = [] → (doReturn e (U₁.setTop f) acts v).1 = U₁.setFrames fs) → Steps p.tables e (.java g :: below) (U₀.setTop (entryFrame mk a ck.maxLocals)) (U₁.setFrames fs)) :
    ∃ v T' U₁ L₁ c₁ n₁, Stand p l e R s m args below meth c T' (L ++ L₁) (n1 + c₁) (nn + n₁) ∧ Φ v U₁ L₁ c₁ n₁ ∧ T'.heap = U₁.heap ∧ T'.vm = U₁.vm ∧ U.WarmedH T'.vm ∧
      Steps p.tables e below (doInvoke e (U.setTop g) [] mk a).1 (T'.setTop { g with pc := g.pc + len, stack := v.toList ++ g.stack }) := by
  obtain ⟨Y₀, hin⟩ := X.into hg hsize hdg a (R' := R') hmk hck hlk hpk hframes hlocals hcells hslots
  obtain ⟨v, U₁, L₁, c₁, n₁, Y₁, hv, hΦ, hsteps⟩ := body _ rfl Y₀
  obtain ⟨fs, hleave, -, hended, hWe, hsame⟩ := Y₁.leave (v := v) hv hlk
  obtain ⟨T', X', hW', -, ht⟩ := X.outOf hg hdg hended hWe hsame
  refine ⟨v, T', U₁, L₁, c₁, n₁, X', hΦ, (congrArg State.heap ht).symm, (congrArg State.vm ht).symm, hW', ?_⟩
  rw [hin [], ← ht]
  exact Steps.weaken (mid := [.java g]) (hsteps fs hleave)
theorem xl_getf (Y : Stand p l e R s m args below meth c T locs cells slots) (hexec : p.tables.exec = Jvm.exec) {g : JFrame} (hg : g.method = m) {index cF a : Nat} {field : Field} {cell : Cell} {v : Value} {rest : List Value}
    (hr : T.vm.fieldReady m.cls index cF field) (hst : field.isStatic = false) (hstack : g.stack = .ref a :: rest) (hcell : T.heap[a]? = some cell) (hknown : cell.vm ≠ .unknown) (hv : cell.slots[field.slot]? = some v)
    (hdg : decode c.code g.pc = .ok (.getfield index, 3)) {s₀ : State} (come : Steps p.tables e below s₀ (T.setTop g)) : Steps p.tables e below s₀ (T.setTop { g with pc := g.pc + 3, stack := v :: rest }) := by
  subst hg
  refine come.trans ?_
  jvm_step Y.here [hexec, hdg, getfield.wp_ready (e := e) (s := T) (c := cF) (field := field) (a := a) (rest := rest) (cell := cell) (v := v) (f := g) Y.here.top hr hst hstack hcell hknown hv]
  exact Steps.refl _
theorem xl_cast (Y : Stand p l e R s m args below meth c T locs cells slots) (hexec : p.tables.exec = Jvm.exec) {g : JFrame} (hg : g.method = m) {index cT a : Nat} {cell : Cell} {ks kt : Class} {rest : List Value}
    (hr : T.vm.classReady m.cls index cT) (hstack : g.stack = .ref a :: rest) (h1 : T.heap[a]? = some cell) (h2 : ∀ k, cell.vm ≠ .statics k) (h3 : T.vm.classes[cell.cls]? = some ks) (h4 : T.vm.classes[cT]? = some kt) (h5 : T.vm.assignable cell.cls cT = true)
    (hdg : decode c.code g.pc = .ok (.checkcast index, 3)) {s₀ : State} (come : Steps p.tables e below s₀ (T.setTop g)) : Steps p.tables e below s₀ (T.setTop { g with pc := g.pc + 3 }) := by
  subst hg
  refine come.trans ?_
  jvm_step Y.here [hexec, hdg, checkcast.wp_ready (e := e) (s := T) (c := cT) (x := .ref a) (rest := rest) (f := g) Y.here.top hr hstack]
  exact ⟨cell, h1, h2, ks, h3, kt, h4, by rw [if_pos h5]; exact Steps.refl _⟩
/-- entry mi of cK's pool is resolved to the static method y, of n parameters, of an initialised class -/
def xS (e : Env) (U : State) (cK mi : Nat) (y : MethodName) (n : Nat) : Prop :=
  ∃ t kt metht, plainRef U e cK mi ∧ U.vm.methodReady cK mi t ∧ U.vm.classes[t.cls]? = some kt ∧ U.vm.method? t = some metht ∧ signaturePolymorphic kt metht = false ∧ metht.isStatic = true ∧ kt.init = .initialized ∧ metht.sig.parameters.length = n ∧ U.methodNamed? y = some t
/-- .. to an instance method of n parameters, of a class; an object of the class cB selects y -/
def xV (e : Env) (U : State) (cK mi : Nat) (y : MethodName) (cB : ClassId) (n : Nat) : Prop :=
  ∃ r t kr kt methr metht, namesAClass U cK mi ∧ U.vm.methodReady cK mi r ∧ U.vm.classes[r.cls]? = some kr ∧ U.vm.method? r = some methr ∧ signaturePolymorphic kr methr = false ∧ methr.isStatic = false ∧ methr.sig.parameters.length = n ∧
    selectMethod e.platform U.vm cB r = .method t ∧ U.vm.method? t = some metht ∧ metht.isAbstract = false ∧ U.vm.classes[t.cls]? = some kt ∧ kt.isInterface = false ∧ U.methodNamed? y = some t
theorem xl_static {g : GG} {po : Option Value → WW → Prop} {mc ms W : Nat} {as rest : List Value} {w : WW} (Y : Stand p l e R s m args below meth c T locs cells slots) (hexec : p.tables.exec = Jvm.exec) {gf : JFrame} (hg : gf.method = m) (hsize : gf.locals.size = c.maxLocals) {index : Nat} {y : MethodName}
    (hS : xS e T m.cls index y as.length) (hstack : gf.stack = as.reverse ++ rest)
    (hK : vx_Back l R p e below s args y 3 W (xPre g w as R mc ms) (xPo g po mc ms) (xPx g xF mc ms)) (hW : 2 * gf.monitorRoom + (rest.map fun v => v.category).sum ≤ W)
    (hpre : xPre g w as R mc ms ⟨T, locs, cells, slots⟩ as.toArray) (hdg : decode c.code gf.pc = .ok (.invokestatic index, 3)) {s₀ : State} (come : Steps p.tables e below s₀ (T.setTop gf)) :
    ∃ (v : Option Value) (B : Pt), Stand p l e R s m args below meth c B.U B.locs B.cells B.slots ∧ xPo g po mc ms ⟨T, locs, cells, slots⟩ as.toArray v B ∧ Steps p.tables e below s₀ (B.U.setTop { gf with pc := gf.pc + 3, stack := v.toList ++ rest }) := by
  subst hg
  obtain ⟨t, kt, metht, href, hr, hkt, hmt, hpoly, hstatic, hinit, hlen, hnamed⟩ := hS
  rcases hK gf.method meth c ⟨T, locs, cells, slots⟩ { gf with stack := rest } (.invokestatic index) t as.toArray Y rfl hsize hdg hW hnamed hpre with ⟨v, B, Y', hpost, hsteps⟩ | ⟨q, B, Y', ⟨w', L, E, ce, hx, -⟩, -⟩
  · refine ⟨v, B, Y', hpost, (come.trans ?_).trans hsteps⟩
    jvm_step Y.here [hexec, hdg, invokestatic.wp_ready (e := e) (s := T) (m := t) (k := kt) (meth := metht) (args := as) (rest := rest) (f := gf) Y.here.top href hr hkt hmt hpoly hstatic hinit hlen.symm hstack]
    intro acts
    rw [doInvoke_state]
    exact Steps.refl _
  · exact hx.elim
theorem xl_virtual {g : GG} {po : Option Value → WW → Prop} {mc ms W : Nat} {as rest : List Value} {w : WW} (Y : Stand p l e R s m args below meth c T locs cells slots) (hexec : p.tables.exec = Jvm.exec) {gf : JFrame} (hg : gf.method = m) (hsize : gf.locals.size = c.maxLocals) {index a : Nat} {y : MethodName} {cell : Cell}
    (hV : xV e T m.cls index y cell.cls as.length) (hstack : gf.stack = as.reverse ++ .ref a :: rest) (hcell : T.heap[a]? = some cell) (hobj : ∀ q, cell.vm ≠ .statics q)
    (hK : vx_Back l R p e below s args y 3 W (xPre g w (.ref a :: as) R mc ms) (xPo g po mc ms) (xPx g xF mc ms)) (hW : 2 * gf.monitorRoom + (rest.map fun v => v.category).sum ≤ W)
    (hpre : xPre g w (.ref a :: as) R mc ms ⟨T, locs, cells, slots⟩ (Value.ref a :: as).toArray) (hdg : decode c.code gf.pc = .ok (.invokevirtual index, 3)) {s₀ : State} (come : Steps p.tables e below s₀ (T.setTop gf)) :
    ∃ (v : Option Value) (B : Pt), Stand p l e R s m args below meth c B.U B.locs B.cells B.slots ∧ xPo g po mc ms ⟨T, locs, cells, slots⟩ (Value.ref a :: as).toArray v B ∧ Steps p.tables e below s₀ (B.U.setTop { gf with pc := gf.pc + 3, stack := v.toList ++ rest }) := by
  subst hg
  obtain ⟨r, t, kr, kt, methr, metht, hnc, hr, hkr, hmr, hpoly, hstatic, hlen, hsel, hmt, habs, hkt, hitf, hnamed⟩ := hV
  rcases hK gf.method meth c ⟨T, locs, cells, slots⟩ { gf with stack := rest } (.invokevirtual index) t (Value.ref a :: as).toArray Y rfl hsize hdg hW hnamed hpre with ⟨v, B, Y', hpost, hsteps⟩ | ⟨q, B, Y', ⟨w', L, E, ce, hx, -⟩, -⟩
  · refine ⟨v, B, Y', hpost, (come.trans ?_).trans hsteps⟩
    jvm_step Y.here [hexec, hdg, invokevirtual.wp_ready (e := e) (s := T) (r := r) (m := t) (k := kr) (mk := kt) (rmeth := methr) (meth := metht) (a := a) (args := as) (rest := rest) (cell := cell) (f := gf) Y.here.top hnc hr hkr hmr hpoly hstatic hlen.symm hstack hcell hobj hsel hmt habs hkt hitf]
    intro acts
    rw [doInvoke_state]
    exact Steps.refl _
  · exact hx.elim
theorem xl_ret (Y : Stand p l e R s m args below meth c T locs cells slots) (hexec : p.tables.exec = Jvm.exec) {pc : Nat} {Ls : Array Slot} {w : Int32} {t : FieldType} (hret : meth.sig.returnType = some t) (hn : narrow t (.int w) = .int w)
    (hti : t = .int ∨ t = .boolean)
    (hdg : decode c.code pc = .ok (.ireturn, 1)) {fs : List Frame} (hleave : ∀ (f : JFrame) (acts : List Action), f.method = m → f.locked = none → f.entered = [] → (doReturn e (T.setTop f) acts (some (.int w))).1 = T.setFrames fs) :
    Steps p.tables e below (T.setTop { method := m, pc := pc, locals := Ls, stack := [.int w], locked := none }) (T.setFrames fs) := by
  have hm' : T.vm.method? m = some meth := Y.method'
  rcases hti with rfl | rfl <;>
  · jvm_step Y.here [Y.here.top, hexec, hdg, hm', hret, hn]
    first | (intro acts; rw [hleave _ acts rfl rfl rfl]) | rw [hleave _ _ rfl rfl rfl]
    exact Steps.refl _
theorem xl_look {U : State} {y : MethodName} {t : MethodId} (hn : U.methodNamed? y = some t) (hy : y.cls ≠ "java/lang/invoke/MethodHandle" ∧ y.cls ≠ "java/lang/invoke/VarHandle") :
    ∀ cI kI, U.vm.findClass y.cls = some cI → U.vm.classes[cI]? = some kI → ((methodIn cI y.name y.desc kI.isInterface none).ask { classPath := fun _ => none } U.vm).1 = .ok t := by
  intro cI kI hf hk
  have h1 : U.methodFound? y.cls y.name y.desc = some t := State.methodFound?_of_named hn hy
  simp only [State.methodFound?, hf, hk, Option.bind_eq_bind, Option.bind_some] at h1
  cases hq : ((methodIn cI y.name y.desc kI.isInterface none).ask { classPath := fun _ => none } U.vm).1 with
  | ok v => rw [hq] at h1; exact congrArg Except.ok (Option.some.inj h1)
  | error x => rw [hq] at h1; cases h1
theorem xS_made {e : Env} {U : State} {cK mi ci nt n : Nat} {y : MethodName} {kK tk : Class} {file : ClassFile} {toy : ClassId} {t : MethodId} {bytes : ByteArray} {maxL : Nat} {ret : Option FieldType} {sig : MethodDescriptor} {a' : Array Value}
    (hkK : U.vm.classes[cK]? = some kK) (hfile : kK.cf = some file) (hM : file.constantPool[mi]? = some (.methodref ci nt)) (hnt : file.constantPool.nameAndType? nt = some (y.name, y.desc))
    (hready : U.vm.methodReady cK mi t) (hclsR : U.vm.classReady cK ci toy) (htoy : U.vm.findClass y.cls = some toy) (htk : U.vm.classes[toy]? = some tk)
    (hlook : ((methodIn toy y.name y.desc tk.isInterface none).ask { classPath := fun _ => none } U.vm).1 = .ok t)
    (hy : y.cls ≠ "java/lang/invoke/MethodHandle" ∧ y.cls ≠ "java/lang/invoke/VarHandle")
    (hcode : (Cond.code y bytes maxL ret).before a' U = true) (hst : (Cond.static y).before a' U = true) (hini : (Cond.initialized y.cls).before a' U = true)
    (hsig : parseMethodDescriptor y.desc = some sig) (hn : sig.parameters.length = n) : xS e U cK mi y n := by
  cases hnB : U.methodNamed? y with
  | none => simp [Cond.before, Cond.holds, Cond.value, hnB] at hcode
  | some mB =>
  obtain ⟨methB, cB, hmB, -, -, -, -, -, -, hsigB⟩ := Cond.code_spec hnB hcode
  have hstaticB : methB.isStatic = true := Cond.static_spec hnB hmB hst
  have hfT : U.vm.findClass y.cls = some mB.cls := findClass_of_methodNamed hnB
  cases htoy.symm.trans hfT
  have hinitK : tk.init = .initialized := Cond.initialized_spec hfT htk hini
  obtain ⟨kT', hkT', hnameT⟩ := className_of_methodNamed hnB
  cases htk.symm.trans hkT'
  have htB : t = mB := by
    have h1 : U.methodFound? y.cls y.name y.desc = some mB := State.methodFound?_of_named hnB hy
    simp only [State.methodFound?, hfT, htk, Option.bind_eq_bind, Option.bind_some] at h1
    rw [hlook] at h1
    exact Option.some.inj h1
  subst htB
  have hsp : ∀ z : Method, signaturePolymorphic tk z = false := fun z => by simp [signaturePolymorphic, hnameT, hy.1, hy.2]
  obtain ⟨b, hmem⟩ := memberRef_ask' (e := e) (vm := U.vm) (d := cK) (index := mi) hkK hfile (Or.inl hM) hnt
  exact ⟨t, tk, methB, ⟨ci, _, _, b, t.cls, tk, hmem, hclsR, htk, by simp [hsp]⟩, hready, htk, hmB, hsp _, hstaticB, hinitK, by rw [← Option.some.inj (hsig.symm.trans hsigB)]; exact hn, hnB⟩
theorem xV_made (hadm : l.admits e) {U : State} {cK mi ci nt n : Nat} {y : MethodName} {kK tk : Class} {file : ClassFile} {cB : ClassId} {t : MethodId} {bytes : ByteArray} {maxL : Nat} {ret : Option FieldType} {sig : MethodDescriptor} {a' : Array Value}
    (hkK : U.vm.classes[cK]? = some kK) (hfile : kK.cf = some file) (hM : file.constantPool[mi]? = some (.methodref ci nt))
    (hready : U.vm.methodReady cK mi t) (hclsR : U.vm.classReady cK ci cB) (hcB : U.vm.findClass y.cls = some cB) (htk : U.vm.classes[cB]? = some tk) (hitf : tk.isInterface = false)
    (hlook : ((methodIn cB y.name y.desc tk.isInterface none).ask { classPath := fun _ => none } U.vm).1 = .ok t) (hy : y.cls ≠ "java/lang/invoke/MethodHandle" ∧ y.cls ≠ "java/lang/invoke/VarHandle")
    (hcode : (Cond.code y bytes maxL ret).before a' U = true) (hinst : (Cond.instanceMethod y).before a' U = true) (hsel : (Cond.selects y.cls y y).before a' U = true)
    (hsig : parseMethodDescriptor y.desc = some sig) (hn : sig.parameters.length = n) : xV e U cK mi y cB n := by
  cases hnB : U.methodNamed? y with
  | none => simp [Cond.before, Cond.holds, Cond.value, hnB] at hcode
  | some mB =>
  have et : t = mB := Except.ok.inj (hlook.symm.trans (xl_look hnB hy _ _ hcB htk))
  subst et
  obtain ⟨methB, cB', hmB, -, -, -, -, -, -, hsigB⟩ := Cond.code_spec hnB hcode
  obtain ⟨mk, methM, hnamed, hmethM, hst, hab⟩ := Cond.instanceMethod_spec hinst
  cases hnB.symm.trans hnamed
  cases hmB.symm.trans hmethM
  obtain ⟨c2, r2, m2, q1, q2, q3, q4, kP, hkP, hkPi⟩ := Cond.selects_spec hsel
  cases hcB.symm.trans q1
  cases (State.methodFound?_of_named hnB hy).symm.trans q2
  cases hnB.symm.trans q3
  have hcls : t.cls = cB := Option.some.inj ((findClass_of_methodNamed hnB).symm.trans hcB)
  obtain ⟨kT', hkT', hnameT⟩ := className_of_methodNamed hnB
  have hsp : signaturePolymorphic kT' methB = false := by simp [signaturePolymorphic, hnameT, hy.1, hy.2]
  exact ⟨t, t, kT', kP, methB, methB, ⟨kK, file, ci, nt, cB, tk, hkK, hfile, hM, hclsR, htk, hitf⟩, hready, hkT', hmB, hsp, hst, by rw [← Option.some.inj (hsig.symm.trans hsigB)]; exact hn,
    by rw [Launch.admits_selectMethod hadm]; exact q4, hmB, hab, hkP, hkPi, hnB⟩
/-- what the interface's own step asks of the made class -/
def xFn (xi : MethodName) (cF : ClassId) (s : State) : Prop :=
  ∃ (kF : Class) (methK : Method), s.vm.classes[cF]? = some kF ∧ s.vm.method? ⟨cF, 1⟩ = some methK ∧ hasFlag methK.accessFlags Acc.public_ = true ∧ methK.isAbstract = false ∧
    ∀ r0 r, s.methodNamed? xi = some r0 → s.vm.method? r0 = some r → s.vm.assignable cF r0.cls = true ∧ selectMethod {} s.vm cF r0 = .method ⟨cF, 1⟩ ∧
      ((cF :: s.vm.superclasses cF).any fun k => (declaredIn s.vm r.name r.desc k).any fun (_, y) => y.isPrivate || y.isStatic) = false
theorem xFn_site {s : State} {args : Array Value} {d cK : ClassId} {σ : Lambda.Shape} {xi : MethodName} {kK : Class} {methk : Method}
    (hmade : Lambda.isMade { classPath := fun _ => none } s.vm d σ cK = true) (hcan : s.lambdaCallable σ cK = true)
    (hcls : σ.iface = xi.cls) (hname : σ.name = xi.name) (hdesc : σ.sam.toString = xi.desc)
    (hword : (Cond.interfaceMethod xi.cls xi.cls xi.name xi.desc).before args s = true)
    (hkK : s.vm.classes[cK]? = some kK) (hmk : s.vm.method? ⟨cK, 1⟩ = some methk) (hfl : methk.accessFlags = 0x0001) : xFn xi cK s := by
  refine ⟨kK, methk, hkK, hmk, by rw [hfl]; decide, by simp [Method.isAbstract, hfl, hasFlag, Acc.abstract], fun r0 r hn hr => ?_⟩
  obtain ⟨cL, kL, r1', hcL, hkL, hiL, hfoundL, hn1⟩ := Cond.interfaceMethod_spec hword
  cases hn.symm.trans hn1
  have hr0cls : r0.cls = cL := Option.some.inj ((findClass_of_methodNamed hn).symm.trans hcL)
  obtain ⟨hnameR, hdescR⟩ := name_of_methodNamed hn hr
  obtain ⟨-, -, -, -, -, -, -, iface', -, -, -, -, found, -, -, -, -, -, hi', -, -, -, -, -, -, hfound', -, -, -, -, -, -, -, -, -, -, hsel⟩ := Lambda.isMade_spec hmade
  rw [hcls] at hi'
  cases hcL.symm.trans hi'
  have hfr : found = r0 := by
    have h1 : s.methodFound? xi.cls xi.name xi.desc = some r0 := hfoundL
    simp only [State.methodFound?, hcL, hkL, hiL, Option.bind_eq_bind, Option.bind_some] at h1
    rw [hname, hdesc] at hfound'
    rw [hfound'] at h1
    exact Option.some.inj h1
  subst hfr
  obtain ⟨i2, hi2, hasg, hway⟩ := State.lambdaCallable_spec hcan
  rw [hcls] at hi2
  cases hcL.symm.trans hi2
  exact ⟨by rw [hr0cls]; exact hasg, hsel, by rw [hnameR, hdescR]; rw [hname, hdesc] at hway; exact hway⟩
end XL
/-- a is an object of the site's class that holds vals -/
def LO (g : GG) (w : WW) (a : Nat) (x : MethodName) (pc idx : Nat) (σ : Lambda.Shape) (vals : List Value) : Prop :=
  ∃ (cK : ClassId) (one : Option Nat) (cell : Cell), (gU g).lambdaAt? x pc idx σ = some (cK, one) ∧ cell.cls = cK ∧ cell.vm = .none ∧ cell.slots = vals.toArray ∧ (Wa w a (.inr cell) ∨ (a < gb g ∧ (gU g).heap[a]? = some cell))
theorem LO.mo {g : GG} {n : Nat} {w w' : WW} {a pc idx : Nat} {x : MethodName} {σ : Lambda.Shape} {vals : List Value} (h : LO g w a x pc idx σ vals) (hm : Mo n w w') (ha : a < n) : LO g w' a x pc idx σ vals := by
  obtain ⟨cK, one, cell, h1, h2, h3, h4, h5⟩ := h
  refine ⟨cK, one, cell, h1, h2, h3, h4, ?_⟩
  rcases h5 with h5 | h5
  · exact Or.inl (h5.mo hm ha)
  · exact Or.inr h5
theorem LO.ext {g : GG} {w w' : WW} {a pc idx : Nat} {x : MethodName} {σ : Lambda.Shape} {vals : List Value} (h : LO g w a x pc idx σ vals) (hm : Mo w.2 w w') : LO g w' a x pc idx σ vals := by
  obtain ⟨cK, one, cell, h1, h2, h3, h4, h5⟩ := h
  refine ⟨cK, one, cell, h1, h2, h3, h4, ?_⟩
  rcases h5 with h5 | h5
  · exact Or.inl (h5.ext hm)
  · exact Or.inr h5
/-- the site's facts, in any later state -/
theorem xl_site {g : GG} {s : State} {x : MethodName} {pc idx : Nat} {σ : Lambda.Shape} {cK : ClassId} {one : Option Nat} (h : (gU g).lambdaAt? x pc idx σ = some (cK, one)) (hW : (gU g).WarmedH s.vm) :
    ∃ (m : MethodId) (dk : Class), s.vm.classes[m.cls]? = some dk ∧ dk.name = x.cls ∧ Lambda.isMade { classPath := fun _ => none } s.vm m.cls σ cK = true ∧ s.lambdaCallable σ cK = true := by
  obtain ⟨m, kS, cfS, i0, p0, lk, hm, hkS, -, -, -, -, hmade, hcan, -⟩ := State.lambdaAt?_spec h
  obtain ⟨kS', hkS', hnameS⟩ := className_of_methodNamed hm
  cases Option.some.inj (hkS.symm.trans hkS')
  obtain ⟨k2, hk2, he⟩ := hW.alike.2.2 _ _ hkS
  refine ⟨m, k2, hk2, by rw [he]; exact hnameS, Lambda.isMade_warmer hW hmade, ?_⟩
  have hA := hW.alike
  simp only [State.lambdaCallable, hA.findClass, hA.assignable, hA.superclasses, hA.declaredIn] at hcan ⊢
  exact hcan
theorem xl_obj {g : GG} {s : State} (hB : Base g) (hW : (gU g).WarmedH s.vm) (hw : Cond.instantiable "java/lang/Object" 0 ∈ lw_all) : ∀ o ok, s.vm.findClass "java/lang/Object" = some o → s.vm.classes[o]? = some ok → ok.instanceTypes.size = 0 := by
  intro o ok h1 h2
  have h3 : (Cond.instantiable "java/lang/Object" 0).before #[] s = true := word_at hW (good_of_word (List.mem_filter.mp hw).2) (hB.2.1 _ (lw_all_tbl hw))
  obtain ⟨c, k, q1, q2, -, -, -, q3⟩ := Cond.instantiable_spec h3
  cases Option.some.inj (q1.symm.trans h1)
  cases Option.some.inj (q2.symm.trans h2)
  exact q3
section XL2
variable {z : ZZ} {own : String} {cc : ByteArray} {nL fr lo rc rs pc : Nat} {ret : Option FieldType} {w : WW} {lv : List (Option Value)} {st : List Value}
theorem Cx.wF (C : Cx z own cc nL ret fr lo) {x : MethodName} (hdecl : Cond.declares x ∈ lw_tbl) (hface : Cond.interfaceMethod x.cls x.cls x.name x.desc ∈ lw_tbl) (hx : x.cls ≠ "java/lang/invoke/MethodHandle" ∧ x.cls ≠ "java/lang/invoke/VarHandle") :
    (Cond.declares x).before (za z) (zs z) = true ∧ (Cond.interfaceMethod x.cls x.cls x.name x.desc).before (za z) (zs z) = true := by
  have h1 := C.base.2.1 _ hdecl
  have h2 := C.base.2.1 _ hface
  obtain ⟨r, meth, hn, -⟩ := Cond.declares_spec h1
  exact ⟨va_Nw.use rfl (va_Nw.warmD C.warm (va_Nw.of rfl h1)), va_tabs rfl (rfl : ((gU (zg z)).setVm (zs z).vm).vm = (zs z).vm) (by rw [Cond.interfaceMethod_setVm C.warm.alike (r := r) hn hx]; exact h2)⟩
/-- what the forwarder's body does, seen from any frame below it -/
def xLB (z : ZZ) (w : WW) (cK maxL pcR fr9 lo9 mc ms : Nat) (as asI : List Value) (po : Option Value → WW → Prop) (methk : Method) (ck : Code) : Prop :=
  ∀ (R' : Room) (s' : State) (below' : List Frame) (U₀ : State), Stand (zp z) (zl z) (ze z) R' s' ⟨cK, 1⟩ as.toArray below' methk ck U₀ [] 0 0 → St (zg z) w U₀ → (zs z).WarmedH s'.vm → (zs z).WarmedH U₀.vm → fr9 ≤ R'.frames → lo9 ≤ R'.locals → mc ≤ R'.cells → ms ≤ R'.slots →
    ∃ (v : Option Value) (B : Pt) (Ls : Array Slot), Stand (zp z) (zl z) (ze z) R' s' ⟨cK, 1⟩ as.toArray below' methk ck B.U B.locs B.cells B.slots ∧ xPo (zg z) po mc ms ⟨U₀, [], 0, 0⟩ asI.toArray v B ∧
      Steps (zp z).tables (ze z) below' (U₀.setTop (entryFrame ⟨cK, 1⟩ as.toArray maxL)) (B.U.setTop { method := ⟨cK, 1⟩, pc := pcR, locals := Ls, stack := v.toList, locked := none })
set_option maxHeartbeats 1000000 in
theorem xr_lam {x : MethodName} {idx cnt n9 a maxL pcR fr9 lo9 mc ms rc' rs' : Nat} {cell : Cell} {as asI rest : List Value} {po : Option Value → WW → Prop} {rt : FieldType}
    (hcell : ∀ H, Hp (zg z) w H → H[a]? = some cell) (hvm : cell.vm = .none) (hFn : Cx z own cc nL ret fr lo → xFn x cell.cls (zs z))
    (hB : Cx z own cc nL ret fr lo → ∃ (methk : Method) (ck : Code) (kK : Class), (zs z).vm.classes[cell.cls]? = some kK ∧ kK.name = "BenchBroker$Park$$Lambda" ∧ (zs z).vm.method? ⟨cell.cls, 1⟩ = some methk ∧ methk.code = some ck ∧ methk.locks = false ∧ ck.maxLocals = maxL ∧ methk.sig.returnType = some rt ∧ decode ck.code pcR = .ok (.ireturn, 1) ∧ xLB z w cell.cls maxL pcR fr9 lo9 mc ms (.ref a :: as) asI po methk ck)
    (hlink : Cond.methodLink own idx x ∈ lw_all) (hdecl : Cond.declares x ∈ lw_tbl) (hface : Cond.interfaceMethod x.cls x.cls x.name x.desc ∈ lw_tbl)
    (hd : x.cls ≠ "java/lang/invoke/MethodHandle" ∧ x.cls ≠ "java/lang/invoke/VarHandle" ∧ (parseMethodDescriptor x.desc).map (fun d => d.parameters.length) = some n9) (hlen9 : as.length = n9)
    (hroom : fr9 + 1 ≤ fr ∧ 8 + (maxL + 11) + lo9 ≤ lo) (hb : rc' + mc ≤ rc ∧ rs' + ms ≤ rs) (hcat : (rest.map fun v => v.category).sum ≤ 8) (d : decode cc pc = .ok (.invokeinterface idx cnt, 5)) (hst : st = as.reverse ++ .ref a :: rest)
    (hrt : rt = .int ∨ rt = .boolean) (hpo : ∀ v w', po v w' → ∃ i : Int32, v = some (.int i) ∧ narrow rt (.int i) = .int i)
    (k : ∀ (r : Option Value) (w' : WW), po r w' → XJ z own cc nL ret fr lo w' rc' rs' (pc + 5) lv (r.toList ++ rest)) : XJ z own cc nL ret fr lo w rc rs pc lv st := by
  subst hst
  intro C H L n1 n2 ls hH hl hc hs hv
  obtain ⟨hr1, hr2, hr3, hr4, hzl⟩ := C.rest
  obtain ⟨hw1, hw2⟩ := C.wF hdecl hface ⟨hd.1, hd.2.1⟩
  obtain ⟨kF, methK, hkF, hmK, hpub, habs, hsel⟩ := hFn C
  obtain ⟨methk, ck, kK, hkK, hkn, hmk, hck, hlk, hmaxL, hret, hdR, body⟩ := hB C
  obtain ⟨r0, r, hn, hrm, hstR, hsigR⟩ := Cond.declares_spec hw1
  obtain ⟨cL, kL, r1, hcL, hkL, hiL, hfoundL, hn1⟩ := Cond.interfaceMethod_spec hw2
  cases hn.symm.trans hn1
  have hr0cls : r0.cls = cL := Option.some.inj ((findClass_of_methodNamed hn).symm.trans hcL)
  obtain ⟨hasg, hselK, hway⟩ := hsel r0 r hn hrm
  intro T hT X
  have hcT : T.heap[a]? = some cell := by rw [hT]; exact hcell H hH
  have hsz : (F0 (zm z) pc ls (as.reverse ++ .ref a :: rest)).locals.size = (zc z).maxLocals := hv.1.trans C.hml.symm
  obtain ⟨vm₁, X₁, hstep₁⟩ := X.invokeinterface C.hx C.hown (C.w _ hlink) hn hrm hstR (by rw [hr0cls]; exact hkL) hiL ⟨hd.1, hd.2.1⟩ (a := a) (cell := cell) (kcell := kF) hcT
    (fun q h => by rw [hvm] at h; cases h) hkF hasg (by rw [Launch.admits_selectMethod X.admits]; exact hselK) hmK hway hpub habs (g := F0 (zm z) pc ls (as.reverse ++ .ref a :: rest)) rfl (argsL := as) (rest := rest) (hlen9 ▸ xx_arity (y := x) hd.2.2 _ hsigR) rfl (by rw [C.hb]; exact d)
  have hW1 : (zs z).WarmedH vm₁ := X₁.warmed
  have hal := hW1.alike
  obtain ⟨kK', hkK', heK⟩ := hal.2.2 _ _ hkK
  have hSt : ∀ U : State, U.vm = vm₁ → U.heap = T.heap → St (zg z) w U := fun U h1 h2 => ⟨by rw [h1]; exact State.WarmedH.trans C.warm hW1, by rw [h2, hT]; exact hH⟩
  obtain ⟨v, T', U₁, L₁, c₁, n₁, X', ⟨w', hp, hSt', hL₁, hc₁, hn₁⟩, hh, hvm', hW', steps⟩ := xl_through X₁ (g := { F0 (zm z) pc ls (as.reverse ++ .ref a :: rest) with stack := rest }) rfl hsz (by rw [C.hb]; exact d) (mk := ⟨cell.cls, 1⟩) (methk := methk) (ck := ck) (Value.ref a :: as).toArray (R' := { frames := fr9, locals := lo9, cells := mc, slots := ms })
    (by show vm₁.method? _ = _; rw [hal.method?]; exact hmk) hck hlk (State.plainMethod.of_name (fun k' hk' => by
      cases Option.some.inj (hkK'.symm.trans hk')
      rw [heK]
      show plainName kK.name = true
      rw [hkn]; decide)) (by show fr9 + 1 ≤ _; omega) (by show 2 * 0 + (rest.map fun v => v.category).sum + (ck.maxLocals + 11) + lo9 ≤ (zR z).locals; omega) (by show n1 + mc ≤ _; omega) (by show n2 + ms ≤ _; omega)
    (Φ := fun v U₁ L₁ c₁ n₁ => ∃ w', po v w' ∧ St (zg z) w' U₁ ∧ (∀ q ∈ L₁, gb (zg z) ≤ q.base) ∧ c₁ = mc ∧ n₁ = ms)
    (fun U₀ hU₀ Y₀ => by
      have hvm0 : U₀.vm = vm₁ := by rw [hU₀]; rfl
      have hheap : U₀.heap = T.heap := by rw [hU₀]; rfl
      obtain ⟨v, ⟨U₁, L₁, c₁, n₁⟩, Ls, Y₁, ⟨w', L2, hp, hSt2, h1, hL, h2, h3⟩, hsteps⟩ := body _ _ _ U₀ Y₀ (hSt U₀ hvm0 hheap) (show (zs z).WarmedH vm₁ from hW1) (by rw [hvm0]; exact hW1) (Nat.le_refl _) (Nat.le_refl _) (Nat.le_refl _) (Nat.le_refl _)
      dsimp only [Pt.U, Pt.locs, Pt.cells, Pt.slots] at Y₁ h1 h2 h3 hSt2 hsteps
      obtain ⟨i, rfl, hi⟩ := hpo _ _ hp
      refine ⟨some (.int i), U₁, L₁, c₁, n₁, Y₁, (fun h => by rw [hret] at h; cases h), ⟨w', hp, hSt2, by rw [h1]; exact fun q hq => hL q hq, by omega, by omega⟩, fun fs hleave => ?_⟩
      rw [hmaxL]
      exact hsteps.trans (xl_ret Y₁ C.hx hret hi hrt hdR hleave))
  subst hc₁; subst hn₁
  obtain ⟨t, a1, b1⟩ := k v w' hp C T'.heap (L ++ L₁) (n1 + c₁) (n2 + n₁) ls (by rw [hh]; exact hSt'.2) (fun q hq => (List.mem_append.mp hq).elim (hl q) (hL₁ q)) (by omega) (by omega) hv T' rfl X'
  refine ⟨t, hstep₁ _ (fun acts => ?_), b1⟩
  rw [doInvoke_state]
  exact steps.trans a1
end XL2
