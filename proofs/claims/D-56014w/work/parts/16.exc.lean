/-! EXC: own exceptions with fields of their own: the object is made raw, then its super constructor runs (after vx_ctorMade0, vx_make0 of kit/laws/EXCEPTIONS) -/
set_option maxRecDepth 100000
/-- the words of a constructor of class Y that begins with X's -/
def exAt (own : String) (ic : Nat) (X : String) (names : List String) (Y : String) (n : Nat) : List Cond :=
  Bundle.throwableAtoms ++ Bundle.chain0Atoms X names ++
  [.methodLink own ic (Bundle.init0 X), .instantiable Y n, .selects Y Bundle.tFill0 Bundle.tFill0, .selects Y Bundle.tFill Bundle.tFill,
   .lays Y Bundle.tN "cause" "Ljava/lang/Throwable;", .lays Y Bundle.tN "stackTrace" Bundle.steD, .lays Y Bundle.tN "suppressedExceptions" Bundle.listD,
   .isRef (.static Bundle.tN "UNASSIGNED_STACK" Bundle.steD), .isRef (.static Bundle.tN "SUPPRESSED_SENTINEL" Bundle.listD),
   .fieldLink Bundle.tN 198 Bundle.tN "backtrace" "Ljava/lang/Object;", .lays Bundle.tN Bundle.tN "backtrace" "Ljava/lang/Object;", .lays Y Bundle.tN "backtrace" "Ljava/lang/Object;"]
section EX1
variable {p : Program} {l : Launch} {e : Env} {R : Room} {s : State} {m₀ : MethodId} {args : Array Value} {below : List Frame} {meth : Method} {c : Code} {W : State} {locs : List Loc} {cells slots : Nat}
set_option maxHeartbeats 1000000 in
theorem xc_ctor (X : Stand p l e R s m₀ args below meth c W locs cells slots) (hexec : p.tables.exec = Jvm.exec) (htr : e.platform.stackTraces = false) {own cls Yn : String} {names : List String} {ic n9 : Nat}
    (hown : s.vm.findClass own = some m₀.cls) (hcls : Bundle.fit cls = true) (hnames : ∀ n ∈ names, Bundle.fit n = true)
    (h : ∀ a ∈ exAt own ic cls names Yn n9, a.before args s = true)
    (hlocs : ∀ x ∈ locs, ∀ cell, s.heap[x.base]? = some cell → cell.vm.isStatics = false)
    {a : Addr} {cX : ClassId} {kX : Class} (hfoundX : s.vm.findClass Yn = some cX) (hkX : s.vm.classes[cX]? = some kX) (hcell : W.heap[a]? = some (freshCell cX kX)) (hns : ∀ x, s.heap[a]? = some x → x.vm.isStatics = false)
    {g : JFrame} (hg : g.method = m₀) (hsize : g.locals.size = c.maxLocals) {rest : List Value} (hstack : g.stack = .ref a :: rest)
    (hd6 : decode c.code g.pc = .ok (.invokespecial ic, 3))
    (hRframes : names.length + 3 < R.frames) (hRlocals : 2 * g.monitorRoom + (rest.map fun v => v.category).sum + (13 * (names.length + 1) + 41) ≤ R.locals) :
    ∃ (V : State) (ce : Cell) (L : List Loc), Stand p l e R s m₀ args below meth c (V.setCell a ce) (locs ++ L) cells slots ∧ (∀ y ∈ L, y.base = a) ∧ a < V.heap.size ∧ ce.cls = cX ∧ ce.vm = .none ∧ V.heap = W.heap ∧
      (∀ i : Nat, kX.instanceTypes[i]? = some .int → ce.slots[i]? = (freshCell cX kX).slots[i]?) ∧
      ∀ target, Steps p.tables e below ((V.setCell a ce).setTop { g with stack := rest, pc := g.pc + 3 }) target → Steps p.tables e below (W.setTop g) target := by
  have howns : e.platform.frameOwnsMonitors = true := by rw [X.admits.platform]
  have hfin : e.platform.finalization = false := by rw [X.admits.platform]
  have hpl : e.platform.magicAccessors = ({} : Platform).magicAccessors := by rw [X.admits.platform]
  have a' : ∀ x, x ∈ exAt own ic cls names Yn n9 → x.holds args s none s [] = true := fun x hx => h x hx
  obtain ⟨T, Z, L, LZ, Y⟩ := ThrowableC.of_atoms (args := args) howns hfin hpl (fun x hx => h x (by simp [exAt, hx]))
  obtain ⟨P1, Ps, hlen, L1, hL, hP1m, hlink1, hlink⟩ := Bundle.chain0 (args := args) hpl Y.init0 names cls hcls hnames (fun x hx => h x (by simp [exAt, hx]))
  obtain ⟨c1, kX', hc1, hk, hord, -, -, hn6⟩ := Cond.instantiable_spec (a' (.instantiable Yn n9) (by simp [exAt]))
  cases Option.some.inj (hc1.symm.trans hfoundX)
  cases Option.some.inj (hkX.symm.trans hk)
  have hfound := hfoundX
  have hsel0 : selectMethod e.platform s.vm cX T.fill0 = .method T.fill0 := by
    obtain ⟨c2, r2, m2, q1, q2, q3, q4, -⟩ := Cond.selects_spec (a' (.selects Yn Bundle.tFill0 Bundle.tFill0) (by simp [exAt]))
    cases Option.some.inj (q1.symm.trans hfound)
    cases Option.some.inj (q2.symm.trans (State.methodFound?_of_named Y.fill0 (by decide)))
    cases Option.some.inj (q3.symm.trans Y.fill0)
    rw [Launch.admits_selectMethod X.admits]; exact q4
  have hselF : selectMethod e.platform s.vm cX T.fill = .method T.fill := by
    obtain ⟨c2, r2, m2, q1, q2, q3, q4, -⟩ := Cond.selects_spec (a' (.selects Yn Bundle.tFill Bundle.tFill) (by simp [exAt]))
    cases Option.some.inj (q1.symm.trans hfound)
    cases Option.some.inj (q2.symm.trans (State.methodFound?_of_named Y.fill (by decide)))
    cases Option.some.inj (q3.symm.trans Y.fill)
    rw [Launch.admits_selectMethod X.admits]; exact q4
  obtain ⟨cellS0, hcS0, hiss⟩ := Y.statics
  obtain ⟨u0, hu0⟩ := Cond.staticRefV Y.unassigned L.unassignedStatic L.statics hcS0 hiss (a' (.isRef (.static Bundle.tN "UNASSIGNED_STACK" Bundle.steD)) (by simp [exAt]))
  obtain ⟨sen, hsen⟩ := Cond.staticRefV Y.sentinel L.sentinelStatic L.statics hcS0 hiss (a' (.isRef (.static Bundle.tN "SUPPRESSED_SENTINEL" Bundle.listD)) (by simp [exAt]))
  obtain ⟨ci198, i198, fB, hk198, hg198, ha198, hsB, -, hnB, htB, hffB⟩ := Cond.ownField (t := .object "java/lang/Object") Y.found L.cls (by decide +kernel) (a' (.fieldLink Bundle.tN 198 Bundle.tN "backtrace" "Ljava/lang/Object;") (by simp [exAt])) (a' (.lays Bundle.tN Bundle.tN "backtrace" "Ljava/lang/Object;") (by simp [exAt])) e.platform hpl
  obtain ⟨cellS, hcS', heS, -, hkeep⟩ := X.same.2.2.2.2.2 T.aS cellS0 hcS0
  have hcellS : W.heap[T.aS]? = some cellS := hcS'
  have hout' : ∀ i, (⟨T.aS, i⟩ : Loc) ∉ locs := fun i hmem => by
    have := hlocs _ hmem cellS0 hcS0
    rw [hiss] at this; cases this
  have hknownS : cellS.vm ≠ .unknown := by
    rw [heS]; intro hu
    rw [show cellS0.vm = .unknown from hu] at hiss
    cases hiss
  have hneS : T.aS ≠ a := fun q => by
    rw [q] at hcS0
    have := hns _ hcS0
    rw [hiss] at this; cases this
  obtain ⟨tyC, dC, hdC, hdnC⟩ := Cond.laysAt hfound hk Y.cause (a' (.lays Yn Bundle.tN "cause" "Ljava/lang/Throwable;") (by simp [exAt]))
  obtain ⟨tyS, dS, hdS, hdnS⟩ := Cond.laysAt hfound hk Y.stack (a' (.lays Yn Bundle.tN "stackTrace" Bundle.steD) (by simp [exAt]))
  obtain ⟨tyP, dP, hdP, hdnP⟩ := Cond.laysAt hfound hk Y.supp (a' (.lays Yn Bundle.tN "suppressedExceptions" Bundle.listD) (by simp [exAt]))
  obtain ⟨tyB, dB, hdB, hdnB⟩ := Cond.laysAt hfound hk hffB (a' (.lays Yn Bundle.tN "backtrace" "Ljava/lang/Object;") (by simp [exAt]))
  have bC := Cond.laysApart hdB hdC hdnB hdnC (by rw [hnB, Y.causeName]; decide)
  have bS := Cond.laysApart hdB hdS hdnB hdnS (by rw [hnB, Y.stackName]; decide)
  have bP := Cond.laysApart hdB hdP hdnB hdnP (by rw [hnB, Y.suppName]; decide)
  have hskip : SkipFacts T e.platform s (fun u => u) u0 ((preparedCellV T.toThrowableT (freshCell cX kX) a u0 sen).withEntry W.cur) :=
    ⟨{ ci198 := ci198, i198 := i198, fBack := fB }, ⟨hk198, hg198, ha198, hsB⟩, by
      have := fresh_default (c := cX) tyB
      rw [htB] at this
      simpa [preparedCellV, Cell.setSlot, Cell.withEntry, Array.getElem?_setIfInBounds, bC, bS, bP, bC.symm, bS.symm, bP.symm, defaultValue] using this, fun _ _ => rfl⟩
  obtain ⟨tm, methC, cdC, kC, vm₁, hnC, -, -, -, -, -, -, -, hW₁, st1⟩ := Steps.initCold (tb := p.tables) (e := e) (below := below) (s := s) (U := W) X.here hexec X.warmed hpl hown (t := Bundle.init0 cls) rfl rfl (Bundle.fit_spec hcls).2
    (a' (.methodLink own ic (Bundle.init0 cls)) (by simp [exAt])) (h (.instanceMethod (Bundle.init0 cls)) (by cases names <;> simp [exAt, Bundle.chain0Atoms, Bundle.passAtoms])) (bytes := Bundle.five) (maxL := 1) (h (.code (Bundle.init0 cls) Bundle.five 1 none) (by cases names <;> simp [exAt, Bundle.chain0Atoms, Bundle.passAtoms]))
    (f := g) hg (a := a) (rest := rest) hstack hd6
  cases Option.some.inj (hnC.symm.trans hP1m)
  have X₁ := X.noted hW₁
  obtain ⟨vm₂, X₂, st2⟩ := X₁.ctorPlainOffV hexec (g := { g with stack := rest }) hg hsize T L Z LZ (P1 :: Ps)
    (fun P hP => by rcases List.mem_cons.mp hP with rfl | hP; exact L1; exact hL P hP) ⟨hlink1, hlink⟩ (u0 := u0) (sen := sen) (self := a) (cell := freshCell cX kX) (cellS := cellS)
    hcell (fun _ => by simp) (by simp) rfl rfl hsel0 hselF hcellS hneS hknownS (by rw [hkeep _ (hout' _)]; exact hu0) (by rw [hkeep _ (hout' _)]; exact hsen)
    (Takes.of_laid hk hord tyC (by rw [Y.causeType]; rfl)) (Takes.of_laid hk hord tyS (by rw [Y.stackType]; exact fits_refV_array _ u0)) (Takes.of_laid hk hord tyP (by rw [Y.suppType]; exact fits_refV_object _ sen)) Y.objLocals hskip htr [] hd6
    (by simp only [List.length_cons, hlen]; omega) (by simp only [List.length_cons, hlen]; exact hRlocals)
  have hlt : a < ((W.setVm vm₁).setVm vm₂).heap.size := (Array.getElem?_eq_some_iff.mp hcell).1
  refine ⟨(W.setVm vm₁).setVm vm₂, _, _, X₂, fun y hy => ?_, hlt, rfl, rfl, rfl, fun i hi => ?_, fun target hwalk => st1 _ (fun acts => ?_)⟩
  · simp only [List.mem_cons, List.not_mem_nil, or_false] at hy
    rcases hy with rfl | rfl | rfl | rfl <;> rfl
  · have i1 : T.fCause.slot ≠ i := fun q => by rw [← q, tyC, Y.causeType] at hi; cases hi
    have i2 : T.fStack.slot ≠ i := fun q => by rw [← q, tyS, Y.stackType] at hi; cases hi
    have i3 : T.fSupp.slot ≠ i := fun q => by rw [← q, tyP, Y.suppType] at hi; cases hi
    simp [preparedCellV, Cell.setSlot, Array.getElem?_setIfInBounds, i1, i2, i3]
  · rw [doInvoke_state]
    exact st2 _ hwalk
end EX1
section EX2
variable {p : Program} {l : Launch} {e : Env} {R : Room} {s : State} {m : MethodId} {args : Array Value} {below : List Frame} {meth : Method} {c : Code} {locs : List Loc} {cells slots : Nat}
theorem xc_back {T S : State} {R' : Room} {L' : List Loc} {k n : Nat} (X : Stand p l e R s m args below meth c T locs cells slots) (Y : Stand p l e R' ((T.setVm s.vm).setFrames (.invoking m args :: below)) m args below meth c T [] 0 0) (Z : Stand p l e R' ((T.setVm s.vm).setFrames (.invoking m args :: below)) m args below meth c S L' k n) :
    Stand p l e R s m args below meth c S (locs ++ L') (cells + k) (slots + n) := by
  have hW0 : s.WarmedH ((T.setVm s.vm).setFrames (.invoking m args :: below)).vm := State.WarmedH.refl s
  refine { admits := X.admits, cas := X.cas, clock := X.clock, frames := X.frames, room := X.room, hears := X.hears, method := X.method, code := X.code, here := Z.here, tail := Z.tail, warmed := State.WarmedH.trans hW0 Z.warmed, limits := Z.limits.trans (Y.limits.symm.trans X.limits), bytes := Z.bytes.trans (Y.bytes.symm.trans X.bytes), same := ?_ }
  obtain ⟨e1, e2⟩ := Z.same
  rw [State.setFrames_setFrames] at e1
  have h2 : (T.setVm s.vm).sameButNew (S.setVm s.vm) L' k n := ⟨e1, e2⟩
  exact X.same.trans h2
end EX2
/-- a raw new object of class Cn -/
def Fz (g : GG) (w : WW) (a : Nat) (Cn : String) : Prop := ∃ (cX : ClassId) (kX : Class), (gU g).vm.findClass Cn = some cX ∧ (gU g).vm.classes[cX]? = some kX ∧ Wa w a (.inr (freshCell cX kX))
theorem Fz.ext {g : GG} {w w' : WW} {a : Nat} {Cn : String} (h : Fz g w a Cn) (hm : Mo w.2 w w') : Fz g w' a Cn := by
  obtain ⟨cX, kX, h1, h2, h3⟩ := h
  exact ⟨cX, kX, h1, h2, h3.ext hm⟩
section EX3
variable {z : ZZ} {own : String} {cc : ByteArray} {nL fr lo rc rs pc : Nat} {ret : Option FieldType} {w : WW} {lv : List (Option Value)} {st : List Value}
theorem xr_newZ {idx n9 rc' rs' : Nat} {Cn : String} (hcl : Cond.classLink own idx Cn ∈ lw_all) (hinst : Cond.instantiable Cn n9 ∈ lw_all) (hini : Cond.initialized Cn ∈ lw_all) (hb : rc' + 1 ≤ rc ∧ rs' + n9 ≤ rs) (d : decode cc pc = .ok (.new idx, 3))
    (k : ∀ (a : Nat) (e : WE), w.2 ≤ a → gb (zg z) ≤ a → Fz (zg z) (wnew w a e) a Cn → XJ z own cc nL ret fr lo (wnew w a e) rc' rs' (pc + 3) lv (.ref a :: st)) : XJ z own cc nL ret fr lo w rc rs pc lv st := by
  intro C H L n1 n2 ls hH hl hc' hs' hv'
  obtain ⟨-, -, hr1, hr2, -⟩ := C.rest
  obtain ⟨cC, kC0, hfc, hkC0, -⟩ := Cond.instantiable_spec (C.w _ hinst)
  refine W.newcK C.hx C.hb C.hown (C.w _ hcl) (C.w _ hinst) (C.w _ hini) rfl d (by omega) (by omega) hfc rfl fun H1 kC hkC e1 z1 o1 => ?_
  have hfU : (gU (zg z)).vm.findClass Cn = some cC := by rw [← C.warm.alike.findClass]; exact hfc
  obtain ⟨kX, hkX⟩ : ∃ kX, (gU (zg z)).vm.classes[cC]? = some kX := by
    cases hk : (gU (zg z)).vm.classes[cC]? with
    | none => rw [C.warm.alike.none hk] at hkC; cases hkC
    | some kX => exact ⟨kX, rfl⟩
  obtain ⟨k', hk', he⟩ := C.warm.alike.2.2 _ _ hkX
  have e9 : kC = k' := Option.some.inj (hkC.symm.trans hk')
  have hcell : blank cC kC = freshCell cC kX := by
    rw [e9, he]
    rfl
  rw [hcell] at e1
  exact k H.size (.inr (freshCell cC kX)) hH.1 (Nat.le_trans hH.2.1 hH.1) ⟨cC, kX, hfU, hkX, Wa.new_eq _ _ _⟩ C H1 L _ _ ls (hH.new e1 z1 o1) hl (by omega) (by omega) hv'
set_option maxHeartbeats 1000000 in
theorem xr_excInit {a ci N n9 ic : Nat} {Cn Xn : String} {names : List String} {T : u_T} (ty0 : Nat → FieldType) (fs : List Value) (hz : Fz (zg z) w a Cn) (hge : gb (zg z) ≤ a) (hc : vwCl[ci]? = some (Cn, T, N)) (hin : ∀ w ∈ u_ws Cn T N, w ∈ lw_all) (hty : ∀ k, k < N → parseFieldDescriptor (T k).2.2.1 = some (ty0 k)) (hint : ∀ k, k < N → ty0 k = .int) (hfs : ∀ j, j < N → Value.int 0 = vp_V fs j)
    (hX : Bundle.fit Xn = true) (hnames : ∀ n ∈ names, Bundle.fit n = true) (hat : ∀ x ∈ (exAt own ic Xn names Cn n9).filter vx_no, x ∈ lw_tbl ∧ wkind x = true ∧ vx_ot x = true)
    (hfr : names.length + 3 < fr) (hlo : (st.map fun v => v.category).sum + (13 * (names.length + 1) + 41) ≤ lo) (d : decode cc pc = .ok (.invokespecial ic, 3))
    (k : Ob (wput w a (.inl (.inr (ci, fs)))) a ci fs → XJ z own cc nL ret fr lo (wput w a (.inl (.inr (ci, fs)))) rc rs (pc + 3) lv st) : XJ z own cc nL ret fr lo w rc rs pc lv (.ref a :: st) := by
  intro C H L n1 n2 ls hH hl hc' hs' hv'
  obtain ⟨hr1, hr2, hr3, hr4, hzl⟩ := C.rest
  obtain ⟨cX, kX, hfX, hkX, ha⟩ := hz
  have hcellH : H[a]? = some (freshCell cX kX) := hH.at ha
  intro Tt hT X
  have htr : (ze z).platform.stackTraces = false := (show (ze z).platform.stackTraces = (zl z).stackTraces by rw [X.admits.platform]).trans (by rw [hzl]; exact base_tr C.base)
  have Y := vx_rebase X (R' := { frames := (zR z).frames, locals := (zR z).locals, cells := 0, slots := 0 }) (Nat.le_refl _) (Nat.le_refl _) (by show n1 + 0 ≤ _; omega) (by show n2 + 0 ≤ _; omega)
  have Y0 := Y
  obtain ⟨s', hA⟩ : ∃ x, x = (Tt.setVm (zs z).vm).setFrames (.invoking (zm z) (za z) :: (zb z)) := ⟨_, rfl⟩
  rw [← hA] at Y
  have hvm : s'.vm = (zs z).vm := by rw [hA]; rfl
  have hhp : s'.heap = H := by rw [hA]; exact hT
  have hW0 : (zs z).WarmedH s'.vm := by rw [hvm]; exact State.WarmedH.refl (zs z)
  have hat' : ∀ x ∈ (exAt own ic Xn names Cn n9).filter vx_no, x.before (za z) s' = true := fun x hx => vx_ot_at hW0 hvm.symm (hat x hx).2.2 (C.wt (hat x hx).1 (hat x hx).2.1)
  have hU' : vx_Zq Bundle.tN "UNASSIGNED_STACK" Bundle.steD (fun q => gb (zg z) ≤ q) s' s'.heap := by rw [hhp]; exact hp_Zq (State.WarmedH.trans C.warm hW0) hH (base_U C.base)
  have hN' : vx_Zq Bundle.tN "SUPPRESSED_SENTINEL" Bundle.listD (fun q => gb (zg z) ≤ q) s' s'.heap := by rw [hhp]; exact hp_Zq (State.WarmedH.trans C.warm hW0) hH (base_N C.base)
  have hw9 : ∀ x ∈ exAt own ic Xn names Cn n9, x.before (za z) s' = true := vx_own hat' (vx_isRefq hU'.1) (vx_isRefq hN'.1) hU'.2.word hN'.2.word
  have hown' : s'.vm.findClass own = some (zm z).cls := by rw [hvm]; exact C.hown
  obtain ⟨k', hk', he⟩ := C.warm.alike.2.2 _ _ hkX
  have hcl : freshCell cX kX = freshCell cX k' := by rw [he]
  have hfs' : s'.vm.findClass Cn = some cX := by rw [hvm, C.warm.alike.findClass]; exact hfX
  obtain ⟨V, ce, L', Z, hL, hlt, hcl9, hvm9, hVh, hsl, hst⟩ := xc_ctor Y C.hx htr (own := own) (cls := Xn) (Yn := Cn) (names := names) (ic := ic) (n9 := n9) hown' hX hnames hw9 (fun x hx => nomatch hx) hfs' (by rw [hvm]; exact hk')
    (a := a) (by rw [hT, hcellH, hcl]) (fun x hx => by rw [hhp, hcellH] at hx; cases hx; rfl)
    (g := F0 (zm z) pc ls (.ref a :: st)) rfl (hv'.1.trans C.hml.symm) (rest := st) rfl (by rw [C.hb]; exact d) (by show _ < (zR z).frames; omega) (by show 2 * 0 + _ + _ ≤ (zR z).locals; omega)
  subst hA
  have X5 := xc_back X Y0 Z
  have hKn := C.K.1 ci _ hc
  have hcid : cX = (gD (zg z)).1 ci := by
    have h1 := hKn.2.1
    rw [C.warm.alike.findClass] at h1
    exact Option.some.inj (hfX.symm.trans h1)
  have hborn := u_born (H := H) (o := a) ty0 C.w hin hKn (by rw [← hcid]; exact hk') (by rw [← hcid, hcellH, hcl]; rfl) hty
  have hVH : V.heap = H := by rw [hVh]; exact hT
  have hae : (V.setCell a ce).heap[a]? = some ce := heapAt_setCell_self (s := V) ce hlt
  obtain ⟨t, a1, b1⟩ := k (Wa.put_eq ha _) C (V.setCell a ce).heap (L ++ L') (n1 + 0) (n2 + 0) ls (hH.put ha hge (by
      refine ⟨_, hc, ce, hae, hcl9.trans hcid, hvm9, fun j hj => ?_⟩
      obtain ⟨cf, kf, fi, fd, hi, hes⟩ := hKn.1 j hj
      have h3 := (u_facts hKn.2.1 (by rw [← hcid]; exact hk') (u_lays C.w hin hj) hi).2.2
      rw [(State.fieldFound?_type hi (hty j hj)).2, hint j hj] at h3
      rw [← hes, hsl _ h3, ← hfs j hj]
      exact k2_blank h3) (by rw [← hVH]; simp [State.setCell]) (fun q hq => by rw [← hVH]; simp [State.setCell, Array.getElem?_setIfInBounds, Ne.symm hq])) (fun q hq => by
      rcases List.mem_append.mp hq with hq | hq
      · exact hl q hq
      · rw [hL q hq]; exact hge) (by omega) (by omega) hv' _ rfl X5
  exact ⟨t, hst _ a1, b1⟩
end EX3
