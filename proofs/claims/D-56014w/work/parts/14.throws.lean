/-! THROWS: a contract's entry, what is thrown, caught, goes on to the caller; exceptions of the JDK made and thrown; own exceptions' constructors (after vx_throw0, vx_ctorMade0, vx_make0 of kit/laws/EXCEPTIONS) -/
set_option maxRecDepth 100000
theorem base_tr {g : GG} (h : Base g) : (gL g).stackTraces = false := by
  have h1 := h.2.2.2
  unfold Launch.stackTraces
  rw [h1]
  decide +kernel
/-- a word of the tables that holds in any method: good, or declares, or castable -/
def wkind (w : Cond) : Bool := goodWord w || match w with
  | .declares _ => true
  | .castable _ _ => true
  | _ => false
theorem Cx.wt {z : ZZ} {own : String} {cc : ByteArray} {nL : Nat} {ret : Option FieldType} {fr lo : Nat} (C : Cx z own cc nL ret fr lo) {w : Cond} (h : w ∈ lw_tbl) (hk : wkind w = true) : w.before (za z) (zs z) = true := by
  have h0 := C.base.2.1 w h
  by_cases hg : goodWord w = true
  · exact word_at C.warm (good_of_word hg) h0
  · unfold wkind at hk
    rw [Bool.or_eq_true] at hk
    rcases hk with hk | hk
    · exact absurd hk hg
    · cases w <;> first | exact va_Nw.use rfl (va_Nw.warmD C.warm (va_Nw.of rfl h0)) | exact va_Nw.use rfl (va_Nw.warmC C.warm (va_Nw.of rfl h0)) | simp at hk
theorem base_U {g : GG} (h : Base g) : vx_Zq Bundle.tN "UNASSIGNED_STACK" Bundle.steD (fun q => gb g ≤ q) (gU g) (gU g).heap :=
  vx_Zqof (h.2.1 _ q551) (h.2.1 _ (lw_all_tbl q97)) (flat_of_before _ h.2.2.1 _ (by decide +kernel)) (fun a h1 h2 => absurd h2 (Nat.not_le.mpr h1))
theorem base_N {g : GG} (h : Base g) : vx_Zq Bundle.tN "SUPPRESSED_SENTINEL" Bundle.listD (fun q => gb g ≤ q) (gU g) (gU g).heap :=
  vx_Zqof (h.2.1 _ q553) (h.2.1 _ (lw_all_tbl q97)) (flat_of_before _ h.2.2.1 _ (by decide +kernel)) (fun a h1 h2 => absurd h2 (Nat.not_le.mpr h1))
/-- the locals with which a method begins -/
def lv0 (as : List Value) (n : Nat) : List (Option Value) := (as.flatMap fun v => if v.category = 2 then [some v, none] else [some v]) ++ List.replicate (n - (lg_sl as).length) none
theorem lv0_key : ∀ (as : List Value) (i : Nat) (v : Value), (as.flatMap fun v => if v.category = 2 then [some v, none] else [some v])[i]? = some (some v) → (lg_sl as)[i]? = some (.val v) := by
  intro as
  induction as with
  | nil => intro i v h; simp at h
  | cons a l ih =>
    intro i v h
    by_cases hc : a.category = 2
    · simp only [List.flatMap_cons, hc, if_true, lg_sl] at h ⊢
      match i, h with
      | 0, h => simpa using h
      | 1, h => simp at h
      | i + 2, h => exact ih i v (by simpa using h)
    · simp only [List.flatMap_cons, hc, if_false, lg_sl] at h ⊢
      match i, h with
      | 0, h => simpa using h
      | i + 1, h => exact ih i v (by simpa using h)
theorem lv0_len (as : List Value) : (as.flatMap fun v => if v.category = 2 then [some v, none] else [some v]).length = (lg_sl as).length := by
  unfold lg_sl
  induction as with
  | nil => rfl
  | cons a l ih =>
    simp only [List.flatMap_cons, List.length_append]
    rw [ih]
    split <;> rfl
theorem lv0_lh (as : List Value) {n : Nat} (h : (lg_sl as).length ≤ n) : LH ((lg_sl as ++ List.replicate (n - (lg_sl as).length) Slot.unset).toArray) n (lv0 as n) := by
  have h0 := lv_entry as h
  refine ⟨h0.1, h0.2.1, fun i v hi => ?_⟩
  have hlen := lv0_len as
  unfold lv0 at hi
  by_cases hl : i < (as.flatMap fun v => if v.category = 2 then [some v, none] else [some v]).length
  · rw [List.getElem?_append_left hl] at hi
    have h1 := lv0_key as i v hi
    simp only [List.getElem?_toArray]
    rw [List.getElem?_append_left (by rw [← hlen]; exact hl)]
    exact h1
  · rw [List.getElem?_append_right (by omega)] at hi
    have := List.mem_of_getElem? hi
    rw [List.mem_replicate] at this
    exact absurd this.2 (by simp)
/-- A CONTRACT OUT OF A WALK -/
theorem Ct.of {g : GG} {y : MethodName} {cc : ByteArray} {nL fr lo mc ms : Nat} {ret : Option FieldType} {w : WW} {as : List Value} {po : Option Value → WW → Prop} {xp : String → Nat → WW → Prop} {lv : List (Option Value)} (hG : Base g) (hy : plainName y.cls = true) (hn : (lg_sl as).length ≤ nL) (hlv : lv0 as nL = lv)
    (body : ∀ z : ZZ, zg z = g → zpo z = po → zxp z = xp → (zt z).name = y.name → (∀ x ∈ (zc z).exceptionTable.toList, False) → XJ z y.cls cc nL ret fr lo w mc ms 0 lv []) : Ct g y (.code y cc nL ret) fr lo mc ms w as po xp := by
  refine MetFree.of_bodyS (code := cc) (maxLocals := nL) (ret := ret) hy ?_ ?_
  · intro args s m h hn
    obtain ⟨meth, c, h1, h2, h3, h4, h5, h6, -, -⟩ := Cond.code_spec hn (atoms_spec (ws := [.code y cc nL ret]) h _ List.mem_cons_self)
    exact ⟨meth, c, h1, h2, h3, h4, h5, h6⟩
  · intro p e s m args below meth c s₁ B hml hP _
    obtain ⟨rfl, hSt⟩ := hP
    have hh0 : s₁.heap = s.heap := by rw [B.state]; rfl
    have ht : ∀ x ∈ c.exceptionTable.toList, False := by
      obtain ⟨meth9, c9, h1, h2, -, -, -, -, h7, -⟩ := Cond.code_spec B.named (atoms_spec (ws := [.code y cc nL ret]) B.pre _ List.mem_cons_self)
      cases Option.some.inj (h1.symm.trans B.method)
      cases Option.some.inj (h2.symm.trans (Stand.of_body B).code)
      intro x hx
      rw [Array.isEmpty_iff.mp h7] at hx
      cases hx
    have hX := Stand.of_body B
    obtain ⟨t, a1, o, b1, b2, b3⟩ := body (p, gL g, e, (headSpec [.code y cc nL ret] ({ frames := fr, cells := mc, slots := ms, locals := lo } : Room)).room, s, m, as.toArray, below, meth, c, g, mc, ms, po, xp) rfl rfl rfl (name_of_methodNamed B.named B.method).1 ht
      ⟨B.exec, B.bytes, B.returns, B.notSynchronized, hml, findClass_of_methodNamed B.named, hSt.1, hG, rfl, rfl, rfl, rfl, rfl⟩ s.heap [] 0 0 _ hSt.2 (fun q hq => nomatch hq) (by show 0 + mc ≤ mc; omega) (by show 0 + ms ≤ ms; omega) (hlv ▸ lv0_lh as hn) s₁ hh0 hX
    refine ⟨t, o, ?_, b1, b2, b3⟩
    rw [lg_entry_eq]
    exact a1
/-- .. of a method with handlers -/
theorem Ct.ofH {g : GG} {y : MethodName} {cc : ByteArray} {nL fr lo mc ms : Nat} {ret : Option FieldType} {hh : List (Nat × Nat × Nat × Nat)} {w : WW} {as : List Value} {po : Option Value → WW → Prop} {xp : String → Nat → WW → Prop} {lv : List (Option Value)} (hG : Base g) (hy : plainName y.cls = true) (hn : (lg_sl as).length ≤ nL) (hlv : lv0 as nL = lv)
    (body : ∀ z : ZZ, zg z = g → zpo z = po → zxp z = xp → (zt z).name = y.name → (zc z).exceptionTable.toList = tableOf hh → XJ z y.cls cc nL ret fr lo w mc ms 0 lv []) : Ct g y (.codeWith y cc nL ret hh) fr lo mc ms w as po xp := by
  refine MetFree.of_bodyS (code := cc) (maxLocals := nL) (ret := ret) hy ?_ ?_
  · intro args s m h hn
    obtain ⟨m9, meth, c, hn9, h1, h2, h3, h4, -, h5, h6, -⟩ := Cond.codeWith_spec (atoms_spec (ws := [.codeWith y cc nL ret hh]) h _ List.mem_cons_self)
    cases hn.symm.trans hn9
    exact ⟨meth, c, h1, h2, h3, h4, h5, h6⟩
  · intro p e s m args below meth c s₁ B hml hP _
    obtain ⟨rfl, hSt⟩ := hP
    have hh0 : s₁.heap = s.heap := by rw [B.state]; rfl
    have ht : c.exceptionTable.toList = tableOf hh := vx_table (x := y) B (atoms_spec (ws := [.codeWith y cc nL ret hh]) B.pre _ List.mem_cons_self)
    have hX := Stand.of_body B
    obtain ⟨t, a1, o, b1, b2, b3⟩ := body (p, gL g, e, (headSpec [.codeWith y cc nL ret hh] ({ frames := fr, cells := mc, slots := ms, locals := lo } : Room)).room, s, m, as.toArray, below, meth, c, g, mc, ms, po, xp) rfl rfl rfl (name_of_methodNamed B.named B.method).1 ht
      ⟨B.exec, B.bytes, B.returns, B.notSynchronized, hml, findClass_of_methodNamed B.named, hSt.1, hG, rfl, rfl, rfl, rfl, rfl⟩ s.heap [] 0 0 _ hSt.2 (fun q hq => nomatch hq) (by show 0 + mc ≤ mc; omega) (by show 0 + ms ≤ ms; omega) (hlv ▸ lv0_lh as hn) s₁ hh0 hX
    refine ⟨t, o, ?_, b1, b2, b3⟩
    rw [lg_entry_eq]
    exact a1
section Thr
variable {z : ZZ} {own : String} {cc : ByteArray} {nL fr lo rc rs pc : Nat} {ret : Option FieldType} {w : WW} {lv : List (Option Value)} {st : List Value} {E : String} {q : Nat}
theorem xt_wk {rc' rs' : Nat} (h : rc' ≤ rc ∧ rs' ≤ rs) (k : XT z own cc nL ret fr lo w rc' rs' pc lv E q) : XT z own cc nL ret fr lo w rc rs pc lv E q := by
  intro C H L n1 n2 ls st ce hH hl hc hs hv h1 h2 h3
  exact k C H L n1 n2 ls st ce hH hl (by omega) (by omega) hv h1 h2 h3
/-- athrow of an object of a known class -/
theorem xr_athrow {a ci : Nat} {q : vw_C} {fs : List Value} (hf : Ob w a ci fs) (hq : vwCl[ci]? = some q) (d : decode cc pc = .ok (.athrow, 1)) (k : XT z own cc nL ret fr lo w rc rs pc lv q.1 a) : XJ z own cc nL ret fr lo w rc rs pc lv (.ref a :: st) := by
  intro C H L n1 n2 ls hH hl hc hs hv
  obtain ⟨cell, h1, h2, h3⟩ := xx_recv C hH hf hq
  obtain ⟨r, -, cell', g1, g2, g3, -⟩ := hH.at hf
  cases Option.some.inj (h1.symm.trans g1)
  exact vx_athrow C.hx C.hb d (k C H L n1 n2 ls st cell hH hl hc hs hv h1 g3 h3)
/-- no row of the table stands here: it goes on to the caller -/
theorem xt_out (hout : ∀ x ∈ (zc z).exceptionTable.toList, covers x pc = false) (h : zxp z E q w) : XT z own cc nL ret fr lo w rc rs pc lv E q := by
  intro C H L n1 n2 ls st ce hH hl hc hs hv h1 h2 h3
  intro T hT X
  obtain ⟨st1, hrun, hend, hW, hsm⟩ := X.leaveThrown q (g := F0 (zm z) pc ls st) rfl rfl rfl hout C.hlocks
  have hcell9 : (T.setFrames (.throwing q :: (zb z))).heap[q]? = some ce := by
    show T.heap[q]? = some ce
    rw [hT]; exact h1
  exact ⟨_, st1, .threw q, hrun, hend, Or.inr ⟨q, w, E, ce, L, rfl, h, ⟨State.WarmedH.trans C.warm hW, by show Hp _ _ T.heap; rw [hT]; exact hH⟩, hcell9, h2, h3, hW, hsm.mono (by omega) (by omega), hl⟩⟩
/-- .. past rows that name other classes -/
theorem xt_outP (hpass : ∀ x ∈ (zc z).exceptionTable.toList, covers x pc = false ∨ (x.catchType ≠ 0 ∧ ∃ nm : String, Cond.classLink own x.catchType nm ∈ lw_all ∧ (∀ own' cc' nL' ret' fr' lo', Cx z own' cc' nL' ret' fr' lo' → va_Nc E nm (zs z)))) (h : zxp z E q w) : XT z own cc nL ret fr lo w rc rs pc lv E q := by
  intro C H L n1 n2 ls st ce hH hl hc hs hv h1 h2 h3
  intro T hT X
  have hpl : (ze z).platform.magicAccessors = ({} : Platform).magicAccessors := by rw [X.admits.platform]
  obtain ⟨vm', hW', X', st9⟩ := X.outThrough C.hlocks q (g := F0 (zm z) pc ls st) rfl rfl rfl (cell := ce) (by rw [hT]; exact h1) (by rw [h2]; rfl)
    (by obtain ⟨k9, h9, -⟩ := Vm.findClass_spec h3; exact ⟨k9, h9⟩) (fun x hx => by
      rcases hpass x hx with h | ⟨hz0, nm, hl1, hn1⟩
      · exact Or.inl h
      · obtain ⟨c6, hc6, hcl6⟩ := Cond.classLink_spec C.hown (C.w _ hl1) (ze z).platform hpl
        obtain ⟨a8, b8, h1, h2, h3'⟩ := hn1 _ _ _ _ _ _ C
        cases Option.some.inj (h1.symm.trans h3)
        cases Option.some.inj (h2.symm.trans hc6)
        exact Or.inr ⟨hz0, _, hcl6, h3'⟩)
  obtain ⟨g₀, hfr⟩ := X'.frames_eq
  have hcell9 : ((T.setVm vm').setFrames (.throwing q :: (zb z))).heap[q]? = some ce := by
    show T.heap[q]? = some ce
    rw [hT]; exact h1
  have hend : Ended ((T.setVm vm').setFrames (.throwing q :: (zb z))) (zb z) (.threw q) := State.frames_setFrames _ (State.cur_lt_of_frames hfr)
  refine ⟨(T.setVm vm').setFrames (.throwing q :: (zb z)), ?_, .threw q, X'.here.running, hend, Or.inr ⟨q, w, E, ce, L, rfl, h, ⟨State.WarmedH.trans C.warm (X'.ends _).1, by show Hp _ _ T.heap; rw [hT]; exact hH⟩, hcell9, h2, h3, (X'.ends _).1, (X'.ends _).2.mono (by omega) (by omega), hl⟩⟩
  rw [X.pushThrowing_eq]
  exact st9
/-- caught by the row x of the table; the rows ahead don't take it -/
theorem xt_catch {name : String} (pre : List ExceptionTableEntry) (x : ExceptionTableEntry) (suf : List ExceptionTableEntry) (hsplit : (zc z).exceptionTable.toList = pre ++ x :: suf)
    (hpass : ∀ y ∈ pre, covers y pc = false ∨ (y.catchType ≠ 0 ∧ ∃ nm : String, Cond.classLink own y.catchType nm ∈ lw_all ∧ (∀ own' cc' nL' ret' fr' lo', Cx z own' cc' nL' ret' fr' lo' → va_Nc E nm (zs z)))) (hx : covers x pc = true) (h0 : x.catchType ≠ 0)
    (hlink : Cond.classLink own x.catchType name ∈ lw_all) (hcast : Cond.castable E name ∈ lw_tbl)
    (k : XJ z own cc nL ret fr lo w rc rs x.handlerPc lv [.ref q]) : XT z own cc nL ret fr lo w rc rs pc lv E q := by
  intro C H L n1 n2 ls st ce hH hl hc hs hv h1 h2 h3
  exact vx_catch C.hown pre x suf hsplit (fun y hy => (hpass y hy).imp id (fun ⟨a, nm, b, c⟩ => ⟨a, nm, C.w _ b, c _ _ _ _ _ _ C⟩)) hx h0 (C.w _ hlink) (C.wt hcast rfl) h1 h2 h3 (k C H L n1 n2 ls hH hl hc hs hv)
theorem hp_Zq {g : GG} {H : Heap} {s : State} {Cn n d : String} (hW : (gU g).WarmedH s.vm) (hH : Hp g w H) (h : vx_Zq Cn n d (fun q => gb g ≤ q) (gU g) (gU g).heap) : vx_Zq Cn n d (fun q => gb g ≤ q) s H :=
  vx_Zq.moved hW.alike (h.kept (fun a h1 h2 => (hH.2.2.1 a h1).1))
/-- 'throw new E()' of the JDK: new; dup; invokespecial; athrow -/
theorem xr_throw0 {cls : String} {names : List String} {ik ic : Nat} (hcls : Bundle.fit cls = true) (hnames : ∀ n ∈ names, Bundle.fit n = true)
    (hk : Cond.classLink own ik cls ∈ lw_all) (hini : Cond.initialized cls ∈ lw_all) (hat : ∀ x ∈ vx_at0 own ic cls names, x ∈ lw_tbl ∧ wkind x = true ∧ vx_ot x = true) (hgood : vx_ot (Cond.classLink own ik cls) = true ∧ vx_ot (Cond.initialized cls) = true)
    (d0 : decode cc pc = .ok (.new ik, 3)) (d3 : decode cc (pc + 3) = .ok (.dup, 1)) (d4 : decode cc (pc + 4) = .ok (.invokespecial ic, 3)) (d7 : decode cc (pc + 7) = .ok (.athrow, 1))
    (hout : ∀ x ∈ (zc z).exceptionTable.toList, covers x (pc + 7) = false)
    (hfr : names.length + 3 < fr) (hlo : (st.map fun v => v.category).sum + (13 * (names.length + 1) + 42) ≤ lo) (hb : 1 ≤ rc ∧ 6 ≤ rs) (h : ∀ q : Nat, w.2 ≤ q → zxp z cls q w) : XJ z own cc nL ret fr lo w rc rs pc lv st := by
  intro C H L n1 n2 ls hH hl hc hs hv
  obtain ⟨hr1, hr2, hr3, hr4, hzl⟩ := C.rest
  intro T hT X
  have htr : (ze z).platform.stackTraces = false := (show (ze z).platform.stackTraces = (zl z).stackTraces by rw [X.admits.platform]).trans (by rw [hzl]; exact base_tr C.base)
  have Y := vx_rebase X (R' := { frames := (zR z).frames, locals := (zR z).locals, cells := 1, slots := 6 }) (Nat.le_refl _) (Nat.le_refl _) (by show n1 + 1 ≤ _; omega) (by show n2 + 6 ≤ _; omega)
  obtain ⟨s', hA⟩ : ∃ x, x = (T.setVm (zs z).vm).setFrames (.invoking (zm z) (za z) :: (zb z)) := ⟨_, rfl⟩
  rw [← hA] at Y
  have hvm : s'.vm = (zs z).vm := by rw [hA]; rfl
  have hhp : s'.heap = H := by rw [hA]; exact hT
  have hW0 : (zs z).WarmedH s'.vm := by rw [hvm]; exact State.WarmedH.refl (zs z)
  have hat' : ∀ x ∈ vx_at0 own ic cls names, x.before (za z) s' = true := fun x hx => vx_ot_at hW0 hvm.symm (hat x hx).2.2 (C.wt (hat x hx).1 (hat x hx).2.1)
  have hk' : (Cond.classLink own ik cls).before (za z) s' = true := vx_ot_at hW0 hvm.symm hgood.1 (C.w _ hk)
  have hini' : (Cond.initialized cls).before (za z) s' = true := vx_ot_at hW0 hvm.symm hgood.2 (C.w _ hini)
  have hU' : vx_Zq Bundle.tN "UNASSIGNED_STACK" Bundle.steD (fun q => gb (zg z) ≤ q) s' s'.heap := by rw [hhp]; exact hp_Zq (State.WarmedH.trans C.warm hW0) hH (base_U C.base)
  have hN' : vx_Zq Bundle.tN "SUPPRESSED_SENTINEL" Bundle.listD (fun q => gb (zg z) ≤ q) s' s'.heap := by rw [hhp]; exact hp_Zq (State.WarmedH.trans C.warm hW0) hH (base_N C.base)
  have hw9 : ∀ x ∈ Bundle.ownAtoms0 own ic cls names, x.before (za z) s' = true := vx_own hat' (vx_isRefq hU'.1) (vx_isRefq hN'.1) hU'.2.word hN'.2.word
  have hown' : s'.vm.findClass own = some (zm z).cls := by rw [hvm]; exact C.hown
  have hins : (Cond.instantiable cls 6).before (za z) s' = true := hw9 _ (by simp [Bundle.ownAtoms0])
  obtain ⟨vm₁, cX, kX, hfX, hkX, -, -, X₁, st1⟩ := Y.newCold C.hx (own := own) (C := cls) (index := ik) (n := 6) hown' hk' hins hini'
    (g := F0 (zm z) pc ls st) rfl (by rw [C.hb]; exact d0) (Nat.le_refl _) (Nat.le_refl _)
  generalize hT1 : (T.setVm vm₁).pushCell { cls := cX, slots := kX.instanceTypes.map defaultValue, vm := .none } = T1 at X₁ st1
  have hcat : (Value.ref T.heap.size).category = 1 := rfl
  have hcellA : T1.heap[T.heap.size]? = some (freshCell cX kX) := by rw [← hT1]; exact State.heap_pushCell_size _ _
  have d3' : decode (zc z).code (pc + 3) = .ok (.dup, 1) := by rw [C.hb]; exact d3
  obtain ⟨U, hsteps, hrun, hend, hW, hsame, ce, hce, hO⟩ := X₁.ctorThrow0 C.hx htr (own := own) (cls := cls) (names := names) (ic := ic) hown' hcls hnames hw9 (fun x hx => nomatch hx) hfX hkX hcellA (by rw [hhp, hT]; exact Nat.le_refl _)
    (g := { method := zm z, pc := pc + 4, locals := ls, stack := .ref T.heap.size :: .ref T.heap.size :: st, locked := none }) rfl (hv.1.trans C.hml.symm) rfl rfl (rest := st) rfl
    (by rw [C.hb]; exact d4) (by rw [C.hb]; exact d7) hout (by show _ < (zR z).frames; omega) (by simp only [List.map_cons, List.sum_cons, hcat]; omega) C.hlocks
  obtain ⟨f1, f2⟩ := vx_frame hsame
  rw [hhp] at f1 f2
  have hWs : (zs z).WarmedH U.vm := State.WarmedH.trans hW0 hW
  have hcl : (zs z).vm.findClass cls = some ce.cls := by
    have h9 := hO.cls
    rw [hvm] at h9
    exact h9
  have hall : (zs z).sameButNew ({ U with vm := (zs z).vm } : State) L (zmc z) (zms z) := by
    subst hA
    obtain ⟨e1, e2⟩ := hsame
    rw [State.setFrames_setFrames] at e1
    have h2 : (T.setVm (zs z).vm).sameButNew ({ U with vm := (zs z).vm } : State) [] (0 + 1) (0 + 6) := ⟨e1, e2⟩
    have h3 := X.same.trans h2
    rw [List.append_nil] at h3
    exact h3.mono (by omega) (by omega)
  have f3 : ∀ q : Nat, q < H.size → U.heap[q]? = H[q]? := fun q hq => f2 q hq (fun z hz => nomatch hz)
  have hHU : Hp (zg z) w U.heap := ⟨Nat.le_trans hH.1 f1, hH.2.1, fun q hq => ⟨(f3 q (Nat.lt_of_lt_of_le hq (Nat.le_trans hH.2.1 hH.1))).trans (hH.2.2.1 q hq).1, (hH.2.2.1 q hq).2⟩, fun a e ha hb => ⟨(hH.2.2.2 a e ha hb).1, (hH.2.2.2 a e ha hb).2.kept (f3 a (Nat.lt_of_lt_of_le hb hH.1))⟩⟩
  refine ⟨U, ?_, .threw T.heap.size, hrun, hend, Or.inr ⟨T.heap.size, w, cls, ce, L, rfl, h _ (by rw [hT]; exact hH.1), ⟨State.WarmedH.trans C.warm hWs, hHU⟩, hce, hO.vm, hcl, hWs, hall, hl⟩⟩
  refine st1 _ ?_
  show Steps (zp z).tables (ze z) (zb z) (T1.setTop { method := zm z, pc := pc + 3, locals := ls, stack := .ref T.heap.size :: st, locked := none }) _
  have hx9 := C.hx
  jvm_step X₁.here [X₁.here.top, hx9, d3', Value.category]
  exact hsteps
end Thr
