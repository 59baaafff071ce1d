/-! ROWS (written by tools/mkrows.py): the judgement XJ and a row an instruction -/
set_option maxRecDepth 100000
/-- the start: the tables' words, what the Statement gives, the classes and array classes -/
def Base (g : GG) : Prop := va_K (gD g) vwCl (tyL g) (gU g) ∧ (∀ w ∈ lw_tbl, w.before (gW g) (gU g) = true) ∧ (Jvm.Cond.and given_1 narrow_1).before (gW g) (gU g) = true ∧ (gL g).flags = flags0
/-- what a method owes at its end: it returns v with post v w', or throws q of class E with xp E q w' -/
def xQ (g : GG) (po : Option Value → WW → Prop) (xp : String → Nat → WW → Prop) (mc ms : Nat) (st : State) (o : Outcome) (t : State) : Prop :=
  (∃ (r : Option Value) (w' : WW), o = .returned r ∧ po r w' ∧ St g w' t ∧ ∃ L, FrameEnd st o t L mc ms ∧ ∀ q ∈ L, gb g ≤ q.base) ∨
  ∃ (q : Nat) (w' : WW) (E : String) (ce : Cell) (L : List Loc), o = .threw q ∧ xp E q w' ∧ St g w' t ∧ t.heap[q]? = some ce ∧ ce.vm = .none ∧ st.vm.findClass E = some ce.cls ∧ st.WarmedH t.vm ∧ st.sameButNew ({ t with vm := st.vm } : State) L mc ms ∧ ∀ z ∈ L, gb g ≤ z.base
abbrev ZZ : Type := Program × Launch × Env × Room × State × MethodId × Array Value × List Frame × Method × Code × GG × Nat × Nat × (Option Value → WW → Prop) × (String → Nat → WW → Prop)
abbrev zp (z : ZZ) : Program := z.1
abbrev zl (z : ZZ) : Launch := z.2.1
abbrev ze (z : ZZ) : Env := z.2.2.1
abbrev zR (z : ZZ) : Room := z.2.2.2.1
abbrev zs (z : ZZ) : State := z.2.2.2.2.1
abbrev zm (z : ZZ) : MethodId := z.2.2.2.2.2.1
abbrev za (z : ZZ) : Array Value := z.2.2.2.2.2.2.1
abbrev zb (z : ZZ) : List Frame := z.2.2.2.2.2.2.2.1
abbrev zt (z : ZZ) : Method := z.2.2.2.2.2.2.2.2.1
abbrev zc (z : ZZ) : Code := z.2.2.2.2.2.2.2.2.2.1
abbrev zg (z : ZZ) : GG := z.2.2.2.2.2.2.2.2.2.2.1
abbrev zmc (z : ZZ) : Nat := z.2.2.2.2.2.2.2.2.2.2.2.1
abbrev zms (z : ZZ) : Nat := z.2.2.2.2.2.2.2.2.2.2.2.2.1
abbrev zpo (z : ZZ) : Option Value → WW → Prop := z.2.2.2.2.2.2.2.2.2.2.2.2.2.1
abbrev zxp (z : ZZ) : String → Nat → WW → Prop := z.2.2.2.2.2.2.2.2.2.2.2.2.2.2
abbrev zQ (z : ZZ) : State → Prop := fun t => ∃ o, t.status = .running ∧ Ended t (zb z) o ∧ xQ (zg z) (zpo z) (zxp z) (zmc z) (zms z) (zs z) o t
def Cx (z : ZZ) (own : String) (cc : ByteArray) (nL : Nat) (ret : Option FieldType) (fr lo : Nat) : Prop :=
  (zp z).tables.exec = Jvm.exec ∧ (zc z).code = cc ∧ (zt z).sig.returnType = ret ∧ (zt z).locks = false ∧ (zc z).maxLocals = nL ∧ (zs z).vm.findClass own = some (zm z).cls ∧ (gU (zg z)).WarmedH (zs z).vm ∧ Base (zg z) ∧
  (zR z).frames = fr ∧ (zR z).locals = lo ∧ (zR z).cells = zmc z ∧ (zR z).slots = zms z ∧ zl z = gL (zg z)
section CxLaws
variable {z : ZZ} {own : String} {cc : ByteArray} {nL : Nat} {ret : Option FieldType} {fr lo : Nat}
theorem Cx.hx (C : Cx z own cc nL ret fr lo) : (zp z).tables.exec = Jvm.exec := C.1
theorem Cx.hb (C : Cx z own cc nL ret fr lo) : (zc z).code = cc := C.2.1
theorem Cx.hret (C : Cx z own cc nL ret fr lo) : (zt z).sig.returnType = ret := C.2.2.1
theorem Cx.hlocks (C : Cx z own cc nL ret fr lo) : (zt z).locks = false := C.2.2.2.1
theorem Cx.hml (C : Cx z own cc nL ret fr lo) : (zc z).maxLocals = nL := C.2.2.2.2.1
theorem Cx.hown (C : Cx z own cc nL ret fr lo) : (zs z).vm.findClass own = some (zm z).cls := C.2.2.2.2.2.1
theorem Cx.warm (C : Cx z own cc nL ret fr lo) : (gU (zg z)).WarmedH (zs z).vm := C.2.2.2.2.2.2.1
theorem Cx.base (C : Cx z own cc nL ret fr lo) : Base (zg z) := C.2.2.2.2.2.2.2.1
theorem Cx.rest (C : Cx z own cc nL ret fr lo) : (zR z).frames = fr ∧ (zR z).locals = lo ∧ (zR z).cells = zmc z ∧ (zR z).slots = zms z ∧ zl z = gL (zg z) := C.2.2.2.2.2.2.2.2
theorem Cx.K (C : Cx z own cc nL ret fr lo) : va_K (gD (zg z)) vwCl (tyL (zg z)) (zs z) := va_K.moved C.warm.alike C.base.1
/-- a good word of the tables, in any method -/
theorem Cx.w (C : Cx z own cc nL ret fr lo) : ∀ w ∈ lw_all, w.before (za z) (zs z) = true := fun w h => word_at C.warm (good_of_word (List.mem_filter.mp h).2) (C.base.2.1 w (lw_all_tbl h))
end CxLaws
/-- the locals: of size nL; a place of lv that is some v holds v -/
def LH (ls : Array Slot) (nL : Nat) (lv : List (Option Value)) : Prop := ls.size = nL ∧ lv_wf ls ∧ ∀ (i : Nat) (v : Value), lv[i]? = some (some v) → ls[i]? = some (.val v)
def al (lv : List (Option Value)) : List (Nat × Value) := (List.range lv.length).filterMap fun j => (lv.getD j none).map fun v => (j, v)
theorem al_mem {lv : List (Option Value)} {i : Nat} {v : Value} (h : lv[i]? = some (some v)) : (i, v) ∈ al lv := by
  have hl : i < lv.length := (List.getElem?_eq_some_iff.mp h).1
  exact List.mem_filterMap.mpr ⟨i, List.mem_range.mpr hl, by simp [List.getD, h]⟩
theorem al_of {lv : List (Option Value)} {q : Nat × Value} (h : q ∈ al lv) : lv[q.1]? = some (some q.2) := by
  obtain ⟨j, hj, he⟩ := List.mem_filterMap.mp h
  have hl := List.mem_range.mp hj
  cases hx : lv[j]? with
  | none => simp [List.getD, hx] at he
  | some o =>
    cases o with
    | none => simp [List.getD, hx] at he
    | some v =>
      simp [List.getD, hx] at he
      subst he
      exact hx
/-- the place below i is no long's first half -/
def lok (lv : List (Option Value)) (i : Nat) : Bool := match i with
  | 0 => true
  | j + 1 => match lv[j]? with
    | some (some w) => w.category == 1
    | _ => true
theorem LH.toA {ls : Array Slot} {nL : Nat} {lv : List (Option Value)} (h : LH ls nL lv) : lv_has ls nL (al lv) := ⟨h.1, h.2.1, fun q hq => h.2.2 _ _ (al_of hq)⟩
theorem lok_spec {lv : List (Option Value)} {i j : Nat} {w : Value} (hq : lok lv i = true) (hj : lv[j]? = some (some w)) (e : j + 1 = i) : w.category = 1 := by
  subst e
  simpa [lok, hj] using hq
theorem lv_has.ofS {ls' : Array Slot} {nL i : Nat} {v : Value} {lv : List (Option Value)} (h : lv_has ls' nL ((i, v) :: (al lv).filter (fun q => !(q.1 == i) && !(q.1 + 1 == i && q.2.category == 2)))) (hq : lok lv i = true) : LH ls' nL (lv.set i (some v)) := by
  refine ⟨h.1, h.2.1, fun j w hj => ?_⟩
  by_cases hji : j = i
  · subst hji
    have hl : j < lv.length := by
      have := (List.getElem?_eq_some_iff.mp hj).1
      simpa using this
    rw [List.getElem?_set_self hl] at hj
    cases hj
    exact h.2.2 (j, _) List.mem_cons_self
  · rw [List.getElem?_set_ne (Ne.symm hji)] at hj
    refine h.2.2 (j, w) (List.mem_cons_of_mem _ (List.mem_filter.mpr ⟨al_mem hj, ?_⟩))
    by_cases e : j + 1 = i
    · have hc := lok_spec hq hj e
      simp [hji, hc]
    · simp [hji, e]
theorem lv_has.ofS2 {ls' : Array Slot} {nL i : Nat} {v : Value} {lv : List (Option Value)} (h : lv_has ls' nL ((i, v) :: (al lv).filter (fun q => !(q.1 == i) && (!(q.1 == i + 1) && !(q.1 + 1 == i && q.2.category == 2))))) (hq : lok lv i = true) : LH ls' nL ((lv.set i (some v)).set (i + 1) none) := by
  refine ⟨h.1, h.2.1, fun j w hj => ?_⟩
  by_cases hj1 : j = i + 1
  · subst hj1
    by_cases hl : i + 1 < (lv.set i (some v)).length
    · rw [List.getElem?_set_self hl] at hj
      cases hj
    · rw [List.getElem?_eq_none (by simpa using Nat.not_lt.mp hl)] at hj
      cases hj
  · rw [List.getElem?_set_ne (Ne.symm hj1)] at hj
    by_cases hji : j = i
    · subst hji
      have hl : j < lv.length := by
        have := (List.getElem?_eq_some_iff.mp hj).1
        simpa using this
      rw [List.getElem?_set_self hl] at hj
      cases hj
      exact h.2.2 (j, _) List.mem_cons_self
    · rw [List.getElem?_set_ne (Ne.symm hji)] at hj
      refine h.2.2 (j, w) (List.mem_cons_of_mem _ (List.mem_filter.mpr ⟨al_mem hj, ?_⟩))
      by_cases e : j + 1 = i
      · have hc := lok_spec hq hj e
        simp [hji, hj1, hc]
      · simp [hji, hj1, e]
/-- THE JUDGEMENT: the frame at pc with these locals and this stack, in any heap that holds the world w, with rc cells and rs slots still to be made, comes to the method's end as it owes -/
def XJ (z : ZZ) (own : String) (cc : ByteArray) (nL : Nat) (ret : Option FieldType) (fr lo : Nat) (w : WW) (rc rs pc : Nat) (lv : List (Option Value)) (st : List Value) : Prop :=
  Cx z own cc nL ret fr lo → ∀ (H : Heap) (L : List Loc) (n1 n2 : Nat) (ls : Array Slot), Hp (zg z) w H → (∀ q ∈ L, gb (zg z) ≤ q.base) → n1 + rc ≤ zmc z → n2 + rs ≤ zms z → LH ls nL lv →
    W (zp z) (zl z) (ze z) (zR z) (zs z) (zm z) (za z) (zb z) (zt z) (zc z) H L n1 n2 (zQ z) (F0 (zm z) pc ls st)
/-- .. with q, of class E, thrown at pc -/
def XT (z : ZZ) (own : String) (cc : ByteArray) (nL : Nat) (ret : Option FieldType) (fr lo : Nat) (w : WW) (rc rs pc : Nat) (lv : List (Option Value)) (E : String) (q : Nat) : Prop :=
  Cx z own cc nL ret fr lo → ∀ (H : Heap) (L : List Loc) (n1 n2 : Nat) (ls : Array Slot) (st : List Value) (ce : Cell), Hp (zg z) w H → (∀ q ∈ L, gb (zg z) ≤ q.base) → n1 + rc ≤ zmc z → n2 + rs ≤ zms z → LH ls nL lv →
    H[q]? = some ce → ce.vm = .none → (zs z).vm.findClass E = some ce.cls →
    vx_W (zp z) (zl z) (ze z) (zR z) (zs z) (zm z) (za z) (zb z) (zt z) (zc z) H L n1 n2 (zQ z) (F0 (zm z) pc ls st) q
/-- A CONTRACT: from any state that holds w, called with as: it returns with po, or throws with xp; at most mc cells of ms slots are made -/
def Ct (g : GG) (y : MethodName) (cw : Cond) (fr lo mc ms : Nat) (w : WW) (as : List Value) (po : Option Value → WW → Prop) (xp : String → Nat → WW → Prop) : Prop :=
  MetFree (gL g) y (headSpec [cw] ({ frames := fr, cells := mc, slots := ms, locals := lo } : Room)) (fun v U => v = as.toArray ∧ St g w U) (fun _ _ _ _ _ => True) (fun _ st o t => xQ g po xp mc ms st o t)
/-- nothing is thrown -/
abbrev xF : String → Nat → WW → Prop := fun _ _ _ => False

section Rows
variable {z : ZZ} {own : String} {cc : ByteArray} {nL fr lo rc rs pc : Nat} {ret : Option FieldType} {w : WW} {lv : List (Option Value)} {st : List Value}
theorem xr_iconst {n : Int} (d : decode cc pc = .ok (.iconst n, 1)) (k : XJ z own cc nL ret fr lo w rc rs (pc + 1) lv (.int (iI n) :: st)) : XJ z own cc nL ret fr lo w rc rs pc lv (st) := by
  intro C H L n1 n2 ls hH hl hc hs hv
  exact lv_iconst C.hx C.hb d rfl (k C H L n1 n2 ls hH hl hc hs hv)
theorem xr_bipush {n : Int} (d : decode cc pc = .ok (.bipush n, 2)) (hn : (Int8.ofInt n).toInt32 = iI n) (k : XJ z own cc nL ret fr lo w rc rs (pc + 2) lv (.int (iI n) :: st)) : XJ z own cc nL ret fr lo w rc rs pc lv (st) := by
  intro C H L n1 n2 ls hH hl hc hs hv
  exact lv_bipush C.hx C.hb d hn (k C H L n1 n2 ls hH hl hc hs hv)
theorem xr_sipush {n : Int} (d : decode cc pc = .ok (.sipush n, 3)) (hn : (Int16.ofInt n).toInt32 = iI n) (k : XJ z own cc nL ret fr lo w rc rs (pc + 3) lv (.int (iI n) :: st)) : XJ z own cc nL ret fr lo w rc rs pc lv (st) := by
  intro C H L n1 n2 ls hH hl hc hs hv
  exact lv_sipush C.hx C.hb d hn (k C H L n1 n2 ls hH hl hc hs hv)
theorem xr_lconst {n : Fin 2} (d : decode cc pc = .ok (.lconst n, 1)) (k : XJ z own cc nL ret fr lo w rc rs (pc + 1) lv (.long (Int64.ofNat (n : Nat)) :: st)) : XJ z own cc nL ret fr lo w rc rs pc lv (st) := by
  intro C H L n1 n2 ls hH hl hc hs hv
  exact lv_lconst C.hx C.hb d rfl (k C H L n1 n2 ls hH hl hc hs hv)
theorem xr_null (d : decode cc pc = .ok (.aconst_null, 1)) (k : XJ z own cc nL ret fr lo w rc rs (pc + 1) lv (.null :: st)) : XJ z own cc nL ret fr lo w rc rs pc lv (st) := by
  intro C H L n1 n2 ls hH hl hc hs hv
  exact lv_null C.hx C.hb d (k C H L n1 n2 ls hH hl hc hs hv)
theorem xr_iload {i : Nat} {x : Int32} (d : decode cc pc = .ok (.iload i, 2)) (h : lv[i]? = some (some (.int x))) (k : XJ z own cc nL ret fr lo w rc rs (pc + 2) lv (.int x :: st)) : XJ z own cc nL ret fr lo w rc rs pc lv (st) := by
  intro C H L n1 n2 ls hH hl hc hs hv
  exact lv_iload C.hx C.hb d (hv.2.2 _ _ h) (k C H L n1 n2 ls hH hl hc hs hv)
theorem xr_iload_n {i : Fin 4} {x : Int32} (d : decode cc pc = .ok (.iload_n i, 1)) (h : lv[(i : Nat)]? = some (some (.int x))) (k : XJ z own cc nL ret fr lo w rc rs (pc + 1) lv (.int x :: st)) : XJ z own cc nL ret fr lo w rc rs pc lv (st) := by
  intro C H L n1 n2 ls hH hl hc hs hv
  exact lv_iload_n C.hx C.hb d rfl (hv.2.2 _ _ h) (k C H L n1 n2 ls hH hl hc hs hv)
theorem xr_fload {i : Nat} {x : UInt32} (d : decode cc pc = .ok (.fload i, 2)) (h : lv[i]? = some (some (.float x))) (k : XJ z own cc nL ret fr lo w rc rs (pc + 2) lv (.float x :: st)) : XJ z own cc nL ret fr lo w rc rs pc lv (st) := by
  intro C H L n1 n2 ls hH hl hc hs hv
  exact lv_fload C.hx C.hb d (hv.2.2 _ _ h) (k C H L n1 n2 ls hH hl hc hs hv)
theorem xr_dload {i : Nat} {x : UInt64} (d : decode cc pc = .ok (.dload i, 2)) (h : lv[i]? = some (some (.double x))) (k : XJ z own cc nL ret fr lo w rc rs (pc + 2) lv (.double x :: st)) : XJ z own cc nL ret fr lo w rc rs pc lv (st) := by
  intro C H L n1 n2 ls hH hl hc hs hv
  exact lv_dload C.hx C.hb d (hv.2.2 _ _ h) (k C H L n1 n2 ls hH hl hc hs hv)
theorem xr_aload {i : Nat} {v : Value} (d : decode cc pc = .ok (.aload i, 2)) (h : lv[i]? = some (some v)) (hr : v.isRef = true) (k : XJ z own cc nL ret fr lo w rc rs (pc + 2) lv (v :: st)) : XJ z own cc nL ret fr lo w rc rs pc lv (st) := by
  intro C H L n1 n2 ls hH hl hc hs hv
  have hq := hv.2.2 _ _ h
  cases v <;> first | exact lv_aload C.hx C.hb d hq (k C H L n1 n2 ls hH hl hc hs hv) | exact lv_aloadN C.hx C.hb d hq (k C H L n1 n2 ls hH hl hc hs hv) | simp [Value.isRef] at hr
theorem xr_aload_n {i : Fin 4} {v : Value} (d : decode cc pc = .ok (.aload_n i, 1)) (h : lv[(i : Nat)]? = some (some v)) (hr : v.isRef = true) (k : XJ z own cc nL ret fr lo w rc rs (pc + 1) lv (v :: st)) : XJ z own cc nL ret fr lo w rc rs pc lv (st) := by
  intro C H L n1 n2 ls hH hl hc hs hv
  have hq := hv.2.2 _ _ h
  cases v <;> first | exact lv_aload_n C.hx C.hb d rfl hq (k C H L n1 n2 ls hH hl hc hs hv) | exact lv_aload_nN C.hx C.hb d rfl hq (k C H L n1 n2 ls hH hl hc hs hv) | simp [Value.isRef] at hr
theorem xr_istore {i : Nat} {x : Int32} {lv' : List (Option Value)} (d : decode cc pc = .ok (.istore i, 2)) (hi : i < nL) (hq : lok lv i = true) (hl' : lv.set i (some (.int x)) = lv') (k : XJ z own cc nL ret fr lo w rc rs (pc + 2) lv' (st)) : XJ z own cc nL ret fr lo w rc rs pc lv (.int x :: st) := by
  intro C H L n1 n2 ls hH hl hc hs hv
  subst hl'
  exact lv_istore C.hx C.hb d hv.toA hi rfl (fun ls' h' => k C H L n1 n2 ls' hH hl hc hs (h'.ofS hq))
theorem xr_istore_n {i : Fin 4} {x : Int32} {lv' : List (Option Value)} (d : decode cc pc = .ok (.istore_n i, 1)) (hi : (i : Nat) < nL) (hq : lok lv i = true) (hl' : lv.set i (some (.int x)) = lv') (k : XJ z own cc nL ret fr lo w rc rs (pc + 1) lv' (st)) : XJ z own cc nL ret fr lo w rc rs pc lv (.int x :: st) := by
  intro C H L n1 n2 ls hH hl hc hs hv
  subst hl'
  exact lv_istore_n C.hx C.hb d rfl hv.toA hi rfl (fun ls' h' => k C H L n1 n2 ls' hH hl hc hs (h'.ofS hq))
theorem xr_astore {i : Nat} {v : Value} {lv' : List (Option Value)} (d : decode cc pc = .ok (.astore i, 2)) (hi : i < nL) (hq : lok lv i = true) (hr : v.isRef = true) (hl' : lv.set i (some v) = lv') (k : XJ z own cc nL ret fr lo w rc rs (pc + 2) lv' (st)) : XJ z own cc nL ret fr lo w rc rs pc lv (v :: st) := by
  intro C H L n1 n2 ls hH hl hc hs hv
  subst hl'
  cases v <;> first | exact lv_astore C.hx C.hb d hv.toA hi rfl (fun ls' h' => k C H L n1 n2 ls' hH hl hc hs (h'.ofS hq)) | exact lv_astoreN C.hx C.hb d hv.toA hi rfl (fun ls' h' => k C H L n1 n2 ls' hH hl hc hs (h'.ofS hq)) | simp [Value.isRef] at hr
theorem xr_astore_n {i : Fin 4} {v : Value} {lv' : List (Option Value)} (d : decode cc pc = .ok (.astore_n i, 1)) (hi : (i : Nat) < nL) (hq : lok lv i = true) (hr : v.isRef = true) (hl' : lv.set i (some v) = lv') (k : XJ z own cc nL ret fr lo w rc rs (pc + 1) lv' (st)) : XJ z own cc nL ret fr lo w rc rs pc lv (v :: st) := by
  intro C H L n1 n2 ls hH hl hc hs hv
  subst hl'
  cases v <;> first | exact lv_astore_n C.hx C.hb d rfl hv.toA hi rfl (fun ls' h' => k C H L n1 n2 ls' hH hl hc hs (h'.ofS hq)) | exact lv_astore_nN C.hx C.hb d rfl hv.toA hi rfl (fun ls' h' => k C H L n1 n2 ls' hH hl hc hs (h'.ofS hq)) | simp [Value.isRef] at hr
theorem xr_fstore {i : Nat} {x : UInt32} {lv' : List (Option Value)} (d : decode cc pc = .ok (.fstore i, 2)) (hi : i < nL) (hq : lok lv i = true) (hl' : lv.set i (some (.float x)) = lv') (k : XJ z own cc nL ret fr lo w rc rs (pc + 2) lv' (st)) : XJ z own cc nL ret fr lo w rc rs pc lv (.float x :: st) := by
  intro C H L n1 n2 ls hH hl hc hs hv
  subst hl'
  exact lv_fstore C.hx C.hb d hv.toA hi rfl (fun ls' h' => k C H L n1 n2 ls' hH hl hc hs (h'.ofS hq))
theorem xr_dstore {i : Nat} {x : UInt64} {lv' : List (Option Value)} (d : decode cc pc = .ok (.dstore i, 2)) (hi : i + 1 < nL) (hq : lok lv i = true) (hl' : (lv.set i (some (.double x))).set (i + 1) none = lv') (k : XJ z own cc nL ret fr lo w rc rs (pc + 2) lv' (st)) : XJ z own cc nL ret fr lo w rc rs pc lv (.double x :: st) := by
  intro C H L n1 n2 ls hH hl hc hs hv
  subst hl'
  exact lv_dstore C.hx C.hb d hv.toA hi rfl (fun ls' h' => k C H L n1 n2 ls' hH hl hc hs (h'.ofS2 hq))
theorem xr_iinc {i : Nat} {n a : Int} {lv' : List (Option Value)} (d : decode cc pc = .ok (.iinc i n, 3)) (h : lv[i]? = some (some (.int (iI a)))) (hi : i < nL) (hq : lok lv i = true) (hl' : lv.set i (some (.int (iI (a + n)))) = lv') (k : XJ z own cc nL ret fr lo w rc rs (pc + 3) lv' (st)) : XJ z own cc nL ret fr lo w rc rs pc lv (st) := by
  intro C H L n1 n2 ls hH hl hc hs hv
  subst hl'
  obtain ⟨j, hj⟩ := List.getElem?_of_mem (al_mem h)
  exact lv_iinc C.hx C.hb d hv.toA hj (iI_add a n) hi rfl (fun ls' h' => k C H L n1 n2 ls' hH hl hc hs (h'.ofS hq))
theorem xr_iadd {a b : Int} (d : decode cc pc = .ok (.iadd, 1)) (k : XJ z own cc nL ret fr lo w rc rs (pc + 1) lv (.int (iI (a + b)) :: st)) : XJ z own cc nL ret fr lo w rc rs pc lv (.int (iI b) :: .int (iI a) :: st) := by
  intro C H L n1 n2 ls hH hl hc hs hv
  refine lv_iadd C.hx C.hb d ?_
  rw [iI_add]
  exact (k C H L n1 n2 ls hH hl hc hs hv)
theorem xr_isub {a b : Int} (d : decode cc pc = .ok (.isub, 1)) (k : XJ z own cc nL ret fr lo w rc rs (pc + 1) lv (.int (iI (a - b)) :: st)) : XJ z own cc nL ret fr lo w rc rs pc lv (.int (iI b) :: .int (iI a) :: st) := by
  intro C H L n1 n2 ls hH hl hc hs hv
  refine lv_isub C.hx C.hb d ?_
  rw [iI_sub]
  exact (k C H L n1 n2 ls hH hl hc hs hv)
theorem xr_imul {a b : Int} (d : decode cc pc = .ok (.imul, 1)) (k : XJ z own cc nL ret fr lo w rc rs (pc + 1) lv (.int (iI (a * b)) :: st)) : XJ z own cc nL ret fr lo w rc rs pc lv (.int (iI b) :: .int (iI a) :: st) := by
  intro C H L n1 n2 ls hH hl hc hs hv
  refine lv_imul C.hx C.hb d ?_
  rw [iI_mul]
  exact (k C H L n1 n2 ls hH hl hc hs hv)
theorem xr_ineg {a : Int} (d : decode cc pc = .ok (.ineg, 1)) (k : XJ z own cc nL ret fr lo w rc rs (pc + 1) lv (.int (iI (-a)) :: st)) : XJ z own cc nL ret fr lo w rc rs pc lv (.int (iI a) :: st) := by
  intro C H L n1 n2 ls hH hl hc hs hv
  refine lv_ineg C.hx C.hb d ?_
  rw [iI_neg]
  exact (k C H L n1 n2 ls hH hl hc hs hv)
theorem xr_iand {x y : Int32} (d : decode cc pc = .ok (.iand, 1)) (k : XJ z own cc nL ret fr lo w rc rs (pc + 1) lv (.int (x &&& y) :: st)) : XJ z own cc nL ret fr lo w rc rs pc lv (.int y :: .int x :: st) := by
  intro C H L n1 n2 ls hH hl hc hs hv
  exact lv_iand C.hx C.hb d (k C H L n1 n2 ls hH hl hc hs hv)
theorem xr_ior {x y : Int32} (d : decode cc pc = .ok (.ior, 1)) (k : XJ z own cc nL ret fr lo w rc rs (pc + 1) lv (.int (x ||| y) :: st)) : XJ z own cc nL ret fr lo w rc rs pc lv (.int y :: .int x :: st) := by
  intro C H L n1 n2 ls hH hl hc hs hv
  exact lv_ior C.hx C.hb d (k C H L n1 n2 ls hH hl hc hs hv)
theorem xr_ishl {x y : Int32} (d : decode cc pc = .ok (.ishl, 1)) (k : XJ z own cc nL ret fr lo w rc rs (pc + 1) lv (.int (x <<< (y &&& 31)) :: st)) : XJ z own cc nL ret fr lo w rc rs pc lv (.int y :: .int x :: st) := by
  intro C H L n1 n2 ls hH hl hc hs hv
  exact lv_ishl C.hx C.hb d (k C H L n1 n2 ls hH hl hc hs hv)
theorem xr_ishr {x y : Int32} (d : decode cc pc = .ok (.ishr, 1)) (k : XJ z own cc nL ret fr lo w rc rs (pc + 1) lv (.int (x >>> (y &&& 31)) :: st)) : XJ z own cc nL ret fr lo w rc rs pc lv (.int y :: .int x :: st) := by
  intro C H L n1 n2 ls hH hl hc hs hv
  exact lv_ishr C.hx C.hb d (k C H L n1 n2 ls hH hl hc hs hv)
theorem xr_iushr {x y : Int32} (d : decode cc pc = .ok (.iushr, 1)) (k : XJ z own cc nL ret fr lo w rc rs (pc + 1) lv (.int ((x.toUInt32 >>> (y.toUInt32 &&& Int32.toUInt32 31)).toInt32) :: st)) : XJ z own cc nL ret fr lo w rc rs pc lv (.int y :: .int x :: st) := by
  intro C H L n1 n2 ls hH hl hc hs hv
  exact lv_iushr C.hx C.hb d rfl (k C H L n1 n2 ls hH hl hc hs hv)
theorem xr_idiv {a b : Int} (d : decode cc pc = .ok (.idiv, 1)) (hr : (-2147483648 ≤ a ∧ a < 2147483648) ∧ (-2147483648 ≤ b ∧ b < 2147483648)) (h0 : 0 < b) (k : XJ z own cc nL ret fr lo w rc rs (pc + 1) lv (.int (iI (a.tdiv b)) :: st)) : XJ z own cc nL ret fr lo w rc rs pc lv (.int (iI b) :: .int (iI a) :: st) := by
  intro C H L n1 n2 ls hH hl hc hs hv
  refine lv_idiv C.hx C.hb d (iI_ne0 hr.2 (by omega)) ?_
  rw [iI_div hr h0]
  exact (k C H L n1 n2 ls hH hl hc hs hv)
theorem xr_irem {a b : Int} (d : decode cc pc = .ok (.irem, 1)) (hr : (-2147483648 ≤ a ∧ a < 2147483648) ∧ (-2147483648 ≤ b ∧ b < 2147483648)) (h0 : 0 < b) (k : XJ z own cc nL ret fr lo w rc rs (pc + 1) lv (.int (iI (a.tmod b)) :: st)) : XJ z own cc nL ret fr lo w rc rs pc lv (.int (iI b) :: .int (iI a) :: st) := by
  intro C H L n1 n2 ls hH hl hc hs hv
  refine lv_irem C.hx C.hb d (iI_ne0 hr.2 (by omega)) ?_
  rw [iI_rem hr h0]
  exact (k C H L n1 n2 ls hH hl hc hs hv)
theorem xr_i2l {x : Int32} (d : decode cc pc = .ok (.i2l, 1)) (k : XJ z own cc nL ret fr lo w rc rs (pc + 1) lv (.long x.toInt64 :: st)) : XJ z own cc nL ret fr lo w rc rs pc lv (.int x :: st) := by
  intro C H L n1 n2 ls hH hl hc hs hv
  exact lv_i2l C.hx C.hb d rfl (k C H L n1 n2 ls hH hl hc hs hv)
theorem xr_i2c {x : Int32} (d : decode cc pc = .ok (.i2c, 1)) (k : XJ z own cc nL ret fr lo w rc rs (pc + 1) lv (.int ((x.toUInt32 % 65536).toInt32) :: st)) : XJ z own cc nL ret fr lo w rc rs pc lv (.int x :: st) := by
  intro C H L n1 n2 ls hH hl hc hs hv
  exact lv_i2c C.hx C.hb d rfl (k C H L n1 n2 ls hH hl hc hs hv)
theorem xr_i2b {x : Int32} (d : decode cc pc = .ok (.i2b, 1)) (k : XJ z own cc nL ret fr lo w rc rs (pc + 1) lv (.int x.toInt8.toInt32 :: st)) : XJ z own cc nL ret fr lo w rc rs pc lv (.int x :: st) := by
  intro C H L n1 n2 ls hH hl hc hs hv
  exact lv_i2b C.hx C.hb d rfl (k C H L n1 n2 ls hH hl hc hs hv)
theorem xr_i2f {x : Int32} (d : decode cc pc = .ok (.i2f, 1)) (k : XJ z own cc nL ret fr lo w rc rs (pc + 1) lv (.float (FP.i2f x) :: st)) : XJ z own cc nL ret fr lo w rc rs pc lv (.int x :: st) := by
  intro C H L n1 n2 ls hH hl hc hs hv
  exact lv_i2f C.hx C.hb d (k C H L n1 n2 ls hH hl hc hs hv)
theorem xr_i2d {x : Int32} (d : decode cc pc = .ok (.i2d, 1)) (k : XJ z own cc nL ret fr lo w rc rs (pc + 1) lv (.double (FP.i2d x) :: st)) : XJ z own cc nL ret fr lo w rc rs pc lv (.int x :: st) := by
  intro C H L n1 n2 ls hH hl hc hs hv
  exact lv_i2d C.hx C.hb d (k C H L n1 n2 ls hH hl hc hs hv)
theorem xr_f2d {x : UInt32} (d : decode cc pc = .ok (.f2d, 1)) (hn : vf_n64 (FP.f2d x)) (k : XJ z own cc nL ret fr lo w rc rs (pc + 1) lv (.double (FP.f2d x) :: st)) : XJ z own cc nL ret fr lo w rc rs pc lv (.float x :: st) := by
  intro C H L n1 n2 ls hH hl hc hs hv
  exact lv_f2d C.hx C.hb d hn (k C H L n1 n2 ls hH hl hc hs hv)
theorem xr_fdiv {x y : UInt32} (d : decode cc pc = .ok (.fdiv, 1)) (hn : vf_n32 (FP.fdiv x y)) (k : XJ z own cc nL ret fr lo w rc rs (pc + 1) lv (.float (FP.fdiv x y) :: st)) : XJ z own cc nL ret fr lo w rc rs pc lv (.float y :: .float x :: st) := by
  intro C H L n1 n2 ls hH hl hc hs hv
  exact lv_fdiv C.hx C.hb d hn (k C H L n1 n2 ls hH hl hc hs hv)
theorem xr_ddiv {x y : UInt64} (d : decode cc pc = .ok (.ddiv, 1)) (hn : vf_n64 (FP.ddiv x y)) (k : XJ z own cc nL ret fr lo w rc rs (pc + 1) lv (.double (FP.ddiv x y) :: st)) : XJ z own cc nL ret fr lo w rc rs pc lv (.double y :: .double x :: st) := by
  intro C H L n1 n2 ls hH hl hc hs hv
  exact lv_ddiv C.hx C.hb d hn (k C H L n1 n2 ls hH hl hc hs hv)
theorem xr_fcmp {x y : UInt32} {op : CmpOp} (d : decode cc pc = .ok (.fcmp op, 1)) (k : XJ z own cc nL ret fr lo w rc rs (pc + 1) lv (.int (Op.cmpValue (FP.fcmp x y) op) :: st)) : XJ z own cc nL ret fr lo w rc rs pc lv (.float y :: .float x :: st) := by
  intro C H L n1 n2 ls hH hl hc hs hv
  exact lv_fcmp C.hx C.hb d (k C H L n1 n2 ls hH hl hc hs hv)
theorem xr_dcmp {x y : UInt64} {op : CmpOp} (d : decode cc pc = .ok (.dcmp op, 1)) (k : XJ z own cc nL ret fr lo w rc rs (pc + 1) lv (.int (Op.cmpValue (FP.dcmp x y) op) :: st)) : XJ z own cc nL ret fr lo w rc rs pc lv (.double y :: .double x :: st) := by
  intro C H L n1 n2 ls hH hl hc hs hv
  exact lv_dcmp C.hx C.hb d (k C H L n1 n2 ls hH hl hc hs hv)
theorem xr_lcmp {x y : Int64} (d : decode cc pc = .ok (.lcmp, 1)) (k : XJ z own cc nL ret fr lo w rc rs (pc + 1) lv (.int (lg_cmp x y) :: st)) : XJ z own cc nL ret fr lo w rc rs pc lv (.long y :: .long x :: st) := by
  intro C H L n1 n2 ls hH hl hc hs hv
  exact W.lcmp C.hx C.hb d (k C H L n1 n2 ls hH hl hc hs hv)
theorem xr_dup {v : Value} (d : decode cc pc = .ok (.dup, 1)) (h1 : v.category = 1) (k : XJ z own cc nL ret fr lo w rc rs (pc + 1) lv (v :: v :: st)) : XJ z own cc nL ret fr lo w rc rs pc lv (v :: st) := by
  intro C H L n1 n2 ls hH hl hc hs hv
  exact lv_dup C.hx C.hb d h1 (k C H L n1 n2 ls hH hl hc hs hv)
theorem xr_pop {v : Value} (d : decode cc pc = .ok (.pop, 1)) (h1 : v.category = 1) (k : XJ z own cc nL ret fr lo w rc rs (pc + 1) lv (st)) : XJ z own cc nL ret fr lo w rc rs pc lv (v :: st) := by
  intro C H L n1 n2 ls hH hl hc hs hv
  exact lv_pop C.hx C.hb d h1 (k C H L n1 n2 ls hH hl hc hs hv)
theorem xr_dup_x1 {v u : Value} (d : decode cc pc = .ok (.dup_x1, 1)) (h1 : v.category = 1) (h2 : u.category = 1) (k : XJ z own cc nL ret fr lo w rc rs (pc + 1) lv (v :: u :: v :: st)) : XJ z own cc nL ret fr lo w rc rs pc lv (v :: u :: st) := by
  intro C H L n1 n2 ls hH hl hc hs hv
  exact lv_dup_x1 C.hx C.hb d h1 h2 (k C H L n1 n2 ls hH hl hc hs hv)
theorem xr_dup2 {v u : Value} (d : decode cc pc = .ok (.dup2, 1)) (h1 : v.category = 1) (h2 : u.category = 1) (k : XJ z own cc nL ret fr lo w rc rs (pc + 1) lv (v :: u :: v :: u :: st)) : XJ z own cc nL ret fr lo w rc rs pc lv (v :: u :: st) := by
  intro C H L n1 n2 ls hH hl hc hs hv
  exact lv_dup2_11 C.hx C.hb d h1 h2 (k C H L n1 n2 ls hH hl hc hs hv)
theorem xr_icmp_eq {a b off : Int} {tgt : Nat} (d : decode cc pc = .ok (.if_icmp .eq off, 3)) (ht : (pc : Int) + off = (tgt : Int)) (hr : (-2147483648 ≤ a ∧ a < 2147483648) ∧ (-2147483648 ≤ b ∧ b < 2147483648)) (kt : a = b → XJ z own cc nL ret fr lo w rc rs tgt lv st) (kf : ¬ a = b → XJ z own cc nL ret fr lo w rc rs (pc + 3) lv st) : XJ z own cc nL ret fr lo w rc rs pc lv (.int (iI b) :: .int (iI a) :: st) := by
  intro C H L n1 n2 ls hH hl hc hs hv
  exact lv_icmp_eq C.hx C.hb d ht (fun q => kt ((iI_eq hr).mp q) C H L n1 n2 ls hH hl hc hs hv) (fun q => kf (fun q' => q ((iI_eq hr).mpr q')) C H L n1 n2 ls hH hl hc hs hv)
theorem xr_if_eq {a off : Int} {tgt : Nat} (d : decode cc pc = .ok (.ifCond .eq off, 3)) (ht : (pc : Int) + off = (tgt : Int)) (hr : (-2147483648 ≤ a ∧ a < 2147483648)) (kt : a = 0 → XJ z own cc nL ret fr lo w rc rs tgt lv st) (kf : ¬ a = 0 → XJ z own cc nL ret fr lo w rc rs (pc + 3) lv st) : XJ z own cc nL ret fr lo w rc rs pc lv (.int (iI a) :: st) := by
  intro C H L n1 n2 ls hH hl hc hs hv
  have h0r : (-2147483648 ≤ (0 : Int) ∧ (0 : Int) < 2147483648) := by decide
  refine lv_if_eq C.hx C.hb d ht ?_ ?_
  all_goals rw [iI_0]
  · exact (fun q => kt ((iI_eq ⟨hr, h0r⟩).mp q) C H L n1 n2 ls hH hl hc hs hv)
  · exact (fun q => kf (fun q' => q ((iI_eq ⟨hr, h0r⟩).mpr q')) C H L n1 n2 ls hH hl hc hs hv)
theorem xr_icmp_ne {a b off : Int} {tgt : Nat} (d : decode cc pc = .ok (.if_icmp .ne off, 3)) (ht : (pc : Int) + off = (tgt : Int)) (hr : (-2147483648 ≤ a ∧ a < 2147483648) ∧ (-2147483648 ≤ b ∧ b < 2147483648)) (kt : ¬ a = b → XJ z own cc nL ret fr lo w rc rs tgt lv st) (kf : a = b → XJ z own cc nL ret fr lo w rc rs (pc + 3) lv st) : XJ z own cc nL ret fr lo w rc rs pc lv (.int (iI b) :: .int (iI a) :: st) := by
  intro C H L n1 n2 ls hH hl hc hs hv
  exact lv_icmp_ne C.hx C.hb d ht (fun q => kt (fun q' => q ((iI_eq hr).mpr q')) C H L n1 n2 ls hH hl hc hs hv) (fun q => kf ((iI_eq hr).mp q) C H L n1 n2 ls hH hl hc hs hv)
theorem xr_if_ne {a off : Int} {tgt : Nat} (d : decode cc pc = .ok (.ifCond .ne off, 3)) (ht : (pc : Int) + off = (tgt : Int)) (hr : (-2147483648 ≤ a ∧ a < 2147483648)) (kt : ¬ a = 0 → XJ z own cc nL ret fr lo w rc rs tgt lv st) (kf : a = 0 → XJ z own cc nL ret fr lo w rc rs (pc + 3) lv st) : XJ z own cc nL ret fr lo w rc rs pc lv (.int (iI a) :: st) := by
  intro C H L n1 n2 ls hH hl hc hs hv
  have h0r : (-2147483648 ≤ (0 : Int) ∧ (0 : Int) < 2147483648) := by decide
  refine lv_if_ne C.hx C.hb d ht ?_ ?_
  all_goals rw [iI_0]
  · exact (fun q => kt (fun q' => q ((iI_eq ⟨hr, h0r⟩).mpr q')) C H L n1 n2 ls hH hl hc hs hv)
  · exact (fun q => kf ((iI_eq ⟨hr, h0r⟩).mp q) C H L n1 n2 ls hH hl hc hs hv)
theorem xr_icmp_lt {a b off : Int} {tgt : Nat} (d : decode cc pc = .ok (.if_icmp .lt off, 3)) (ht : (pc : Int) + off = (tgt : Int)) (hr : (-2147483648 ≤ a ∧ a < 2147483648) ∧ (-2147483648 ≤ b ∧ b < 2147483648)) (kt : a < b → XJ z own cc nL ret fr lo w rc rs tgt lv st) (kf : ¬ a < b → XJ z own cc nL ret fr lo w rc rs (pc + 3) lv st) : XJ z own cc nL ret fr lo w rc rs pc lv (.int (iI b) :: .int (iI a) :: st) := by
  intro C H L n1 n2 ls hH hl hc hs hv
  exact lv_icmp_lt C.hx C.hb d ht (fun q => kt ((iI_lt hr).mp q) C H L n1 n2 ls hH hl hc hs hv) (fun q => kf (fun q' => q ((iI_lt hr).mpr q')) C H L n1 n2 ls hH hl hc hs hv)
theorem xr_if_lt {a off : Int} {tgt : Nat} (d : decode cc pc = .ok (.ifCond .lt off, 3)) (ht : (pc : Int) + off = (tgt : Int)) (hr : (-2147483648 ≤ a ∧ a < 2147483648)) (kt : a < 0 → XJ z own cc nL ret fr lo w rc rs tgt lv st) (kf : ¬ a < 0 → XJ z own cc nL ret fr lo w rc rs (pc + 3) lv st) : XJ z own cc nL ret fr lo w rc rs pc lv (.int (iI a) :: st) := by
  intro C H L n1 n2 ls hH hl hc hs hv
  have h0r : (-2147483648 ≤ (0 : Int) ∧ (0 : Int) < 2147483648) := by decide
  refine lv_if_lt C.hx C.hb d ht ?_ ?_
  all_goals rw [iI_0]
  · exact (fun q => kt ((iI_lt ⟨hr, h0r⟩).mp q) C H L n1 n2 ls hH hl hc hs hv)
  · exact (fun q => kf (fun q' => q ((iI_lt ⟨hr, h0r⟩).mpr q')) C H L n1 n2 ls hH hl hc hs hv)
theorem xr_icmp_ge {a b off : Int} {tgt : Nat} (d : decode cc pc = .ok (.if_icmp .ge off, 3)) (ht : (pc : Int) + off = (tgt : Int)) (hr : (-2147483648 ≤ a ∧ a < 2147483648) ∧ (-2147483648 ≤ b ∧ b < 2147483648)) (kt : b ≤ a → XJ z own cc nL ret fr lo w rc rs tgt lv st) (kf : ¬ b ≤ a → XJ z own cc nL ret fr lo w rc rs (pc + 3) lv st) : XJ z own cc nL ret fr lo w rc rs pc lv (.int (iI b) :: .int (iI a) :: st) := by
  intro C H L n1 n2 ls hH hl hc hs hv
  exact lv_icmp_ge C.hx C.hb d ht (fun q => kt ((iI_le ⟨hr.2, hr.1⟩).mp q) C H L n1 n2 ls hH hl hc hs hv) (fun q => kf (fun q' => q ((iI_le ⟨hr.2, hr.1⟩).mpr q')) C H L n1 n2 ls hH hl hc hs hv)
theorem xr_if_ge {a off : Int} {tgt : Nat} (d : decode cc pc = .ok (.ifCond .ge off, 3)) (ht : (pc : Int) + off = (tgt : Int)) (hr : (-2147483648 ≤ a ∧ a < 2147483648)) (kt : 0 ≤ a → XJ z own cc nL ret fr lo w rc rs tgt lv st) (kf : ¬ 0 ≤ a → XJ z own cc nL ret fr lo w rc rs (pc + 3) lv st) : XJ z own cc nL ret fr lo w rc rs pc lv (.int (iI a) :: st) := by
  intro C H L n1 n2 ls hH hl hc hs hv
  have h0r : (-2147483648 ≤ (0 : Int) ∧ (0 : Int) < 2147483648) := by decide
  refine lv_if_ge C.hx C.hb d ht ?_ ?_
  all_goals rw [iI_0]
  · exact (fun q => kt ((iI_le ⟨h0r, hr⟩).mp q) C H L n1 n2 ls hH hl hc hs hv)
  · exact (fun q => kf (fun q' => q ((iI_le ⟨h0r, hr⟩).mpr q')) C H L n1 n2 ls hH hl hc hs hv)
theorem xr_icmp_gt {a b off : Int} {tgt : Nat} (d : decode cc pc = .ok (.if_icmp .gt off, 3)) (ht : (pc : Int) + off = (tgt : Int)) (hr : (-2147483648 ≤ a ∧ a < 2147483648) ∧ (-2147483648 ≤ b ∧ b < 2147483648)) (kt : b < a → XJ z own cc nL ret fr lo w rc rs tgt lv st) (kf : ¬ b < a → XJ z own cc nL ret fr lo w rc rs (pc + 3) lv st) : XJ z own cc nL ret fr lo w rc rs pc lv (.int (iI b) :: .int (iI a) :: st) := by
  intro C H L n1 n2 ls hH hl hc hs hv
  exact lv_icmp_gt C.hx C.hb d ht (fun q => kt ((iI_lt ⟨hr.2, hr.1⟩).mp q) C H L n1 n2 ls hH hl hc hs hv) (fun q => kf (fun q' => q ((iI_lt ⟨hr.2, hr.1⟩).mpr q')) C H L n1 n2 ls hH hl hc hs hv)
theorem xr_if_gt {a off : Int} {tgt : Nat} (d : decode cc pc = .ok (.ifCond .gt off, 3)) (ht : (pc : Int) + off = (tgt : Int)) (hr : (-2147483648 ≤ a ∧ a < 2147483648)) (kt : 0 < a → XJ z own cc nL ret fr lo w rc rs tgt lv st) (kf : ¬ 0 < a → XJ z own cc nL ret fr lo w rc rs (pc + 3) lv st) : XJ z own cc nL ret fr lo w rc rs pc lv (.int (iI a) :: st) := by
  intro C H L n1 n2 ls hH hl hc hs hv
  have h0r : (-2147483648 ≤ (0 : Int) ∧ (0 : Int) < 2147483648) := by decide
  refine lv_if_gt C.hx C.hb d ht ?_ ?_
  all_goals rw [iI_0]
  · exact (fun q => kt ((iI_lt ⟨h0r, hr⟩).mp q) C H L n1 n2 ls hH hl hc hs hv)
  · exact (fun q => kf (fun q' => q ((iI_lt ⟨h0r, hr⟩).mpr q')) C H L n1 n2 ls hH hl hc hs hv)
theorem xr_icmp_le {a b off : Int} {tgt : Nat} (d : decode cc pc = .ok (.if_icmp .le off, 3)) (ht : (pc : Int) + off = (tgt : Int)) (hr : (-2147483648 ≤ a ∧ a < 2147483648) ∧ (-2147483648 ≤ b ∧ b < 2147483648)) (kt : a ≤ b → XJ z own cc nL ret fr lo w rc rs tgt lv st) (kf : ¬ a ≤ b → XJ z own cc nL ret fr lo w rc rs (pc + 3) lv st) : XJ z own cc nL ret fr lo w rc rs pc lv (.int (iI b) :: .int (iI a) :: st) := by
  intro C H L n1 n2 ls hH hl hc hs hv
  exact lv_icmp_le C.hx C.hb d ht (fun q => kt ((iI_le hr).mp q) C H L n1 n2 ls hH hl hc hs hv) (fun q => kf (fun q' => q ((iI_le hr).mpr q')) C H L n1 n2 ls hH hl hc hs hv)
theorem xr_if_le {a off : Int} {tgt : Nat} (d : decode cc pc = .ok (.ifCond .le off, 3)) (ht : (pc : Int) + off = (tgt : Int)) (hr : (-2147483648 ≤ a ∧ a < 2147483648)) (kt : a ≤ 0 → XJ z own cc nL ret fr lo w rc rs tgt lv st) (kf : ¬ a ≤ 0 → XJ z own cc nL ret fr lo w rc rs (pc + 3) lv st) : XJ z own cc nL ret fr lo w rc rs pc lv (.int (iI a) :: st) := by
  intro C H L n1 n2 ls hH hl hc hs hv
  have h0r : (-2147483648 ≤ (0 : Int) ∧ (0 : Int) < 2147483648) := by decide
  refine lv_if_le C.hx C.hb d ht ?_ ?_
  all_goals rw [iI_0]
  · exact (fun q => kt ((iI_le ⟨hr, h0r⟩).mp q) C H L n1 n2 ls hH hl hc hs hv)
  · exact (fun q => kf (fun q' => q ((iI_le ⟨hr, h0r⟩).mpr q')) C H L n1 n2 ls hH hl hc hs hv)
theorem xr_ifx_eq {x : Int32} {off : Int} {tgt : Nat} (d : decode cc pc = .ok (.ifCond .eq off, 3)) (ht : (pc : Int) + off = (tgt : Int)) (kt : x = 0 → XJ z own cc nL ret fr lo w rc rs tgt lv st) (kf : ¬ x = 0 → XJ z own cc nL ret fr lo w rc rs (pc + 3) lv st) : XJ z own cc nL ret fr lo w rc rs pc lv (.int x :: st) := by
  intro C H L n1 n2 ls hH hl hc hs hv
  exact lv_if_eq C.hx C.hb d ht (fun q => kt q C H L n1 n2 ls hH hl hc hs hv) (fun q => kf q C H L n1 n2 ls hH hl hc hs hv)
theorem xr_ifx_ne {x : Int32} {off : Int} {tgt : Nat} (d : decode cc pc = .ok (.ifCond .ne off, 3)) (ht : (pc : Int) + off = (tgt : Int)) (kt : ¬ x = 0 → XJ z own cc nL ret fr lo w rc rs tgt lv st) (kf : x = 0 → XJ z own cc nL ret fr lo w rc rs (pc + 3) lv st) : XJ z own cc nL ret fr lo w rc rs pc lv (.int x :: st) := by
  intro C H L n1 n2 ls hH hl hc hs hv
  exact lv_if_ne C.hx C.hb d ht (fun q => kt q C H L n1 n2 ls hH hl hc hs hv) (fun q => kf q C H L n1 n2 ls hH hl hc hs hv)
theorem xr_ifb_eq {b : Bool} {off : Int} {tgt : Nat} (d : decode cc pc = .ok (.ifCond .eq off, 3)) (ht : (pc : Int) + off = (tgt : Int)) (kt : b = false → XJ z own cc nL ret fr lo w rc rs tgt lv st) (kf : b = true → XJ z own cc nL ret fr lo w rc rs (pc + 3) lv st) : XJ z own cc nL ret fr lo w rc rs pc lv (.int (bI b) :: st) := by
  intro C H L n1 n2 ls hH hl hc hs hv
  cases b
  · exact lv_if_eq C.hx C.hb d ht (fun _ => kt rfl C H L n1 n2 ls hH hl hc hs hv) (fun q => absurd (by decide +kernel) q)
  · exact lv_if_eq C.hx C.hb d ht (fun q => absurd q (by decide +kernel)) (fun _ => kf rfl C H L n1 n2 ls hH hl hc hs hv)
theorem xr_ifb_ne {b : Bool} {off : Int} {tgt : Nat} (d : decode cc pc = .ok (.ifCond .ne off, 3)) (ht : (pc : Int) + off = (tgt : Int)) (kt : b = true → XJ z own cc nL ret fr lo w rc rs tgt lv st) (kf : b = false → XJ z own cc nL ret fr lo w rc rs (pc + 3) lv st) : XJ z own cc nL ret fr lo w rc rs pc lv (.int (bI b) :: st) := by
  intro C H L n1 n2 ls hH hl hc hs hv
  cases b
  · exact lv_if_ne C.hx C.hb d ht (fun q => absurd (by decide +kernel) q) (fun _ => kf rfl C H L n1 n2 ls hH hl hc hs hv)
  · exact lv_if_ne C.hx C.hb d ht (fun _ => kt rfl C H L n1 n2 ls hH hl hc hs hv) (fun q => absurd q (by decide +kernel))
theorem xr_goto {off : Int} {tgt : Nat} (d : decode cc pc = .ok (.goto off, 3)) (ht : (pc : Int) + off = (tgt : Int)) (k : XJ z own cc nL ret fr lo w rc rs tgt lv st) : XJ z own cc nL ret fr lo w rc rs pc lv st := by
  intro C H L n1 n2 ls hH hl hc hs hv
  exact lv_goto C.hx C.hb d ht (k C H L n1 n2 ls hH hl hc hs hv)
theorem xr_ifnull {r : Option Nat} {off : Int} {tgt : Nat} (d : decode cc pc = .ok (.ifnull off, 3)) (ht : (pc : Int) + off = (tgt : Int)) (kt : r = none → XJ z own cc nL ret fr lo w rc rs tgt lv st) (kf : ¬ r = none → XJ z own cc nL ret fr lo w rc rs (pc + 3) lv st) : XJ z own cc nL ret fr lo w rc rs pc lv (va_rf r :: st) := by
  intro C H L n1 n2 ls hH hl hc hs hv
  cases r
  · exact lv_ifnullN C.hx C.hb d ht (kt rfl C H L n1 n2 ls hH hl hc hs hv)
  · exact lv_ifnull C.hx C.hb d (kf (fun q => by cases q) C H L n1 n2 ls hH hl hc hs hv)
theorem xr_ifnonnull {r : Option Nat} {off : Int} {tgt : Nat} (d : decode cc pc = .ok (.ifnonnull off, 3)) (ht : (pc : Int) + off = (tgt : Int)) (kt : ¬ r = none → XJ z own cc nL ret fr lo w rc rs tgt lv st) (kf : r = none → XJ z own cc nL ret fr lo w rc rs (pc + 3) lv st) : XJ z own cc nL ret fr lo w rc rs pc lv (va_rf r :: st) := by
  intro C H L n1 n2 ls hH hl hc hs hv
  cases r
  · exact lv_ifnonnullN C.hx C.hb d (kf rfl C H L n1 n2 ls hH hl hc hs hv)
  · exact lv_ifnonnull C.hx C.hb d ht (kt (fun q => by cases q) C H L n1 n2 ls hH hl hc hs hv)
theorem xr_acmp_eq {rx ry : Option Nat} {off : Int} {tgt : Nat} (d : decode cc pc = .ok (.if_acmp .eq off, 3)) (ht : (pc : Int) + off = (tgt : Int)) (kt : rx = ry → XJ z own cc nL ret fr lo w rc rs tgt lv st) (kf : ¬ rx = ry → XJ z own cc nL ret fr lo w rc rs (pc + 3) lv st) : XJ z own cc nL ret fr lo w rc rs pc lv (va_rf ry :: va_rf rx :: st) := by
  intro C H L n1 n2 ls hH hl hc hs hv
  exact lv_acmp_eq C.hx C.hb d ht (fun q => kt q C H L n1 n2 ls hH hl hc hs hv) (fun q => kf q C H L n1 n2 ls hH hl hc hs hv)
theorem xr_acmp_ne {rx ry : Option Nat} {off : Int} {tgt : Nat} (d : decode cc pc = .ok (.if_acmp .ne off, 3)) (ht : (pc : Int) + off = (tgt : Int)) (kt : ¬ rx = ry → XJ z own cc nL ret fr lo w rc rs tgt lv st) (kf : rx = ry → XJ z own cc nL ret fr lo w rc rs (pc + 3) lv st) : XJ z own cc nL ret fr lo w rc rs pc lv (va_rf ry :: va_rf rx :: st) := by
  intro C H L n1 n2 ls hH hl hc hs hv
  exact lv_acmp_ne C.hx C.hb d ht (fun q => kt q C H L n1 n2 ls hH hl hc hs hv) (fun q => kf q C H L n1 n2 ls hH hl hc hs hv)
theorem xr_tableIn {dflt lo' hi : Int} {offs : Array Int} {len : Nat} {a off : Int} {tgt : Nat} (d : decode cc pc = .ok (.tableswitch dflt lo' hi offs, len)) (hr : (-2147483648 ≤ a ∧ a < 2147483648)) (h1 : lo' ≤ a ∧ a ≤ hi) (ho : offs[(a - lo').toNat]? = some off) (ht : (pc : Int) + off = (tgt : Int)) (k : XJ z own cc nL ret fr lo w rc rs tgt lv st) : XJ z own cc nL ret fr lo w rc rs pc lv (.int (iI a) :: st) := by
  intro C H L n1 n2 ls hH hl hc hs hv
  exact lv_tableIn C.hx C.hb d (by rw [iI_toInt hr]; omega) (by rw [iI_toInt hr]; omega) (by rw [iI_toInt hr]; exact ho) ht (k C H L n1 n2 ls hH hl hc hs hv)
theorem xr_tableOut {dflt lo' hi : Int} {offs : Array Int} {len : Nat} {a : Int} {tgt : Nat} (d : decode cc pc = .ok (.tableswitch dflt lo' hi offs, len)) (hr : (-2147483648 ≤ a ∧ a < 2147483648)) (h1 : a < lo' ∨ hi < a) (ht : (pc : Int) + dflt = (tgt : Int)) (k : XJ z own cc nL ret fr lo w rc rs tgt lv st) : XJ z own cc nL ret fr lo w rc rs pc lv (.int (iI a) :: st) := by
  intro C H L n1 n2 ls hH hl hc hs hv
  exact lv_tableOut C.hx C.hb d (by rw [iI_toInt hr]; exact h1) ht (k C H L n1 n2 ls hH hl hc hs hv)
theorem xr_lookup {dflt : Int} {ps : Array (Int × Int)} {len : Nat} {a off : Int} {tgt : Nat} (d : decode cc pc = .ok (.lookupswitch dflt ps, len)) (hr : (-2147483648 ≤ a ∧ a < 2147483648)) (hp : (ps.toList.zip (ps.toList.drop 1)).all (fun (a, next) => a.1 < next.1) = true) (ho : Op.lookupswitch.offset ps.toList dflt a = off) (ht : (pc : Int) + off = (tgt : Int)) (k : XJ z own cc nL ret fr lo w rc rs tgt lv st) : XJ z own cc nL ret fr lo w rc rs pc lv (.int (iI a) :: st) := by
  intro C H L n1 n2 ls hH hl hc hs hv
  exact lv_lookup C.hx C.hb d hp (by rw [iI_toInt hr]; exact ho) ht (k C H L n1 n2 ls hH hl hc hs hv)
/-! ===== the heap ===== -/
theorem xr_wk {rc' rs' : Nat} (h : rc' ≤ rc ∧ rs' ≤ rs) (k : XJ z own cc nL ret fr lo w rc' rs' pc lv st) : XJ z own cc nL ret fr lo w rc rs pc lv st := by
  intro C H L n1 n2 ls hH hl hc hs hv
  exact k C H L n1 n2 ls hH hl (by omega) (by omega) hv
/-- fewer locals -/
theorem xr_lv {lv' : List (Option Value)} (h : ∀ (i : Nat) (v : Value), lv'[i]? = some (some v) → lv[i]? = some (some v)) (k : XJ z own cc nL ret fr lo w rc rs pc lv' st) : XJ z own cc nL ret fr lo w rc rs pc lv st := by
  intro C H L n1 n2 ls hH hl hc hs hv
  exact k C H L n1 n2 ls hH hl hc hs ⟨hv.1, hv.2.1, fun i v hi => hv.2.2 i v (h i v hi)⟩
/-- the start's words, the world's bound, the constants, for a goal -/
theorem xr_base (k : Base (zg z) → Mo (gb (zg z)) (gK (zg z), gb (zg z)) w → XJ z own cc nL ret fr lo w rc rs pc lv st) : XJ z own cc nL ret fr lo w rc rs pc lv st := by
  intro C H L n1 n2 ls hH hl hc hs hv
  exact k C.base hH.kst C H L n1 n2 ls hH hl hc hs hv
/-- an object of a class that no constant has lies behind the start -/
theorem xr_ge {a ci : Nat} {fs : List Value} (hf : Ob w a ci fs) (hk : (ci == 16 || ci == 18) = false) (k : gb (zg z) ≤ a → XJ z own cc nL ret fr lo w rc rs pc lv st) : XJ z own cc nL ret fr lo w rc rs pc lv st := by
  intro C H L n1 n2 ls hH hl hc hs hv
  exact k (hH.ge hf hk) C H L n1 n2 ls hH hl hc hs hv
/-- a smaller world -/
theorem xr_world {w' : WW} (h2 : w'.2 ≤ w.2) (hb : gb (zg z) ≤ w.2 → gb (zg z) ≤ w'.2 ∧ ∀ a, a < gb (zg z) → w'.1 a = w.1 a) (h1 : ∀ (a : Nat) (e : WE), Wa w' a e → Wa w a e) (k : XJ z own cc nL ret fr lo w' rc rs pc lv st) : XJ z own cc nL ret fr lo w rc rs pc lv st := by
  intro C H L n1 n2 ls hH hl hc hs hv
  exact k C H L n1 n2 ls ⟨Nat.le_trans h2 hH.1, (hb hH.2.1).1, fun q hq => ⟨(hH.2.2.1 q hq).1, ((hb hH.2.1).2 q hq).trans (hH.2.2.1 q hq).2⟩, fun a e ha hb => by obtain ⟨g1, g2⟩ := h1 a e ⟨ha, hb⟩; exact hH.2.2.2 a e g1 g2⟩ hl hc hs hv
theorem hp_P {g : GG} {H : Heap} {a : Nat} {x : va_E} (hH : Hp g w H) (ha : Wa w a (.inl x)) : va_P (gD g) vwCl [(a, x)] H := by
  intro k q hq
  match k, hq with
  | 0, hq => cases hq; exact hH.at ha
theorem xx_same {f d ref O : String} (C : Cx z own cc nL ret fr lo) (hs : O = ref ∨ Cond.sameField ref O f d ∈ lw_all) : ∀ x, (zs z).fieldFound? O f d = some x → (zs z).fieldFound? ref f d = some x := by
  rcases hs with rfl | hs
  · exact fun x h => h
  · exact fun x h => u_same (C.w _ hs) x h
/-- getfield: field i of an object of class ci -/
theorem xr_getfield {a ci N i idx : Nat} {fs : List Value} {Cn ref : String} {T : u_T} (hf : Ob w a ci fs) (hc : vwCl[ci]? = some (Cn, T, N)) (hi : i < N) (hin : ∀ w ∈ u_ws Cn T N, w ∈ lw_all) (hlink : Cond.fieldLink own idx ref (T i).2.1 (T i).2.2.1 ∈ lw_all) (hs : (T i).1 = ref ∨ Cond.sameField ref (T i).1 (T i).2.1 (T i).2.2.1 ∈ lw_all) (d : decode cc pc = .ok (.getfield idx, 3)) {v : Value} (hv : fs[i]? = some v)
    (k : XJ z own cc nL ret fr lo w rc rs (pc + 3) lv (v :: st)) : XJ z own cc nL ret fr lo w rc rs pc lv (.ref a :: st) := by
  intro C H L n1 n2 ls hH hl hc' hs' hv'
  exact va_get C.hx C.hb C.w hin C.hown C.K (hp_P hH hf) 0 rfl hc i hi (C.w _ hlink) (xx_same C hs) hv d (k C H L n1 n2 ls hH hl hc' hs' hv')
/-- .. of a nest mate -/
theorem xr_getfieldN {a ci N i idx : Nat} {fs : List Value} {Cn ref host : String} {T : u_T} (hf : Ob w a ci fs) (hc : vwCl[ci]? = some (Cn, T, N)) (hi : i < N) (hin : ∀ w ∈ u_ws Cn T N, w ∈ lw_all) (hlink : Cond.fieldLinkNest own idx ref (T i).2.1 (T i).2.2.1 host ∈ lw_tbl) (hs : (T i).1 = ref ∨ Cond.sameField ref (T i).1 (T i).2.1 (T i).2.2.1 ∈ lw_all) (d : decode cc pc = .ok (.getfield idx, 3)) {v : Value} (hv : fs[i]? = some v)
    (k : XJ z own cc nL ret fr lo w rc rs (pc + 3) lv (v :: st)) : XJ z own cc nL ret fr lo w rc rs pc lv (.ref a :: st) := by
  intro C H L n1 n2 ls hH hl hc' hs' hv'
  exact va_getN C.hx C.hb C.w hin C.hown C.K (hp_P hH hf) 0 rfl hc i hi (va_Nw.use rfl (va_Nw.warmF C.warm (va_Nw.of rfl (C.base.2.1 _ hlink)))) (xx_same C hs) hv d (k C H L n1 n2 ls hH hl hc' hs' hv')
theorem st_loc {g : GG} {L : List Loc} {a i : Nat} (hl : ∀ q ∈ L, gb g ≤ q.base) (ha : gb g ≤ a) : ∀ q ∈ L ++ [(⟨a, i⟩ : Loc)], gb g ≤ q.base := by
  intro q hq
  rcases List.mem_append.mp hq with h | h
  · exact hl q h
  · rw [List.mem_singleton] at h
    subst h
    exact ha
/-- an object whose field i is rewritten -/
theorem ob_set {g : GG} {H1 : Heap} {s : State} {args : Array Value} {a ci N i : Nat} {fs : List Value} {Cn own : String} {T : u_T} {cell : Cell} {v : Value} (ty0 : Nat → FieldType) (hty : ∀ k, k < N → parseFieldDescriptor (T k).2.2.1 = some (ty0 k)) (hap : ∀ x y, x < N → y < N → x ≠ y → ((gD g).2 ci) x ≠ ((gD g).2 ci) y) (hc : vwCl[ci]? = some (Cn, T, N)) (hi : i < N) (hlen : i < fs.length)
    (e1 : H1[a]? = some (cell.setSlot ((gD g).2 ci i) v)) (q2 : cell.cls = (gD g).1 ci) (q3 : cell.vm = .none) (q4 : ∀ k, k < N → cell.slots[(gD g).2 ci k]? = some (vp_V fs k)) : va_at (gD g) vwCl (a, .inr (ci, fs.set i v)) H1 :=
  ⟨_, hc, t_OB.to (V := updV (vp_V fs) i v) ⟨_, e1, q2, q3, t_set q4 hap hi v⟩ (fun j _ => vp_updV_set hlen v j)⟩
/-- putfield, a field that isn't final -/
theorem xr_putfield {a ci N i idx : Nat} {fs fs' : List Value} {Cn ref : String} {T : u_T} (hf : Ob w a ci fs) (hc : vwCl[ci]? = some (Cn, T, N)) (hi : i < N) (hin : ∀ w ∈ u_ws Cn T N, w ∈ lw_all) (ty0 : Nat → FieldType) (hty : ∀ k, k < N → parseFieldDescriptor (T k).2.2.1 = some (ty0 k)) (hnm : ∀ a, a < N → ∀ b, b < N → a ≠ b → (T a).2.1 ≠ (T b).2.1) (hlink : Cond.fieldLink own idx ref (T i).2.1 (T i).2.2.1 ∈ lw_all) (hs : (T i).1 = ref ∨ Cond.sameField ref (T i).1 (T i).2.1 (T i).2.2.1 ∈ lw_all) (hfin : (T i).2.2.2 = false) (d : decode cc pc = .ok (.putfield idx, 3))
    {v : Value} (hn : narrow (ty0 i) v = v) (hfit : fits (ty0 i) v = true) (hlen : i < fs.length) (hfs : fs.set i v = fs') (hge : (ci == 16 || ci == 18) = false ∨ gb (zg z) ≤ a)
    (k : Ob (wput w a (.inl (.inr (ci, fs')))) a ci fs' → XJ z own cc nL ret fr lo (wput w a (.inl (.inr (ci, fs')))) rc rs (pc + 3) lv st) : XJ z own cc nL ret fr lo w rc rs pc lv (v :: .ref a :: st) := by
  subst hfs
  intro C H L n1 n2 ls hH hl hc' hs' hv'
  have hge : gb (zg z) ≤ a := hge.elim (fun q => hH.ge hf q) id
  have hK := C.K
  have hap := va_apart (own := own) C.w hin ty0 hty hnm hK hc
  obtain ⟨r, h1, cell, q1, q2, q3, q4⟩ := hH.at hf
  have hr : r = (Cn, T, N) := Option.some.inj (h1.symm.trans hc)
  subst hr
  obtain ⟨hS, hfc, kC, hkC, hkind⟩ := hK.1 ci _ hc
  obtain ⟨cf, kf, fi, f, hi9, hsl⟩ := hS i hi
  have hlay := C.w _ (hin _ (u_in_lay hi))
  unfold u_lay at hlay
  rw [if_neg (by rw [hfin]; decide)] at hlay
  have hst := (u_facts hfc hkC (u_lays C.w hin hi) hi9).1
  have h6 := u_store hfc hkC hkind hlay hi9 (hty i hi) hn hfit
  refine W.putK C.hx C.hb (f := f) ⟨C.hown, C.w _ hlink, ⟨_, _, _, xx_same C hs _ hi9⟩, hst⟩ (by rw [q2]; exact h6) q1 q3 (by rw [hsl]; exact k2_hasslot (q4 i hi)) rfl rfl d fun H' e1 e2 e3 => ?_
  rw [hsl] at e1 ⊢
  exact k (Ob.put_eq hf _) C H' _ n1 n2 ls (hH.put hf hge (ob_set (s := zs z) (args := za z) (own := own) ty0 hty hap hc hi hlen e1 q2 q3 q4) e2 e3) (st_loc hl hge) hc' hs' hv'
/-- .. of a nest mate -/
theorem xr_putfieldN {a ci N i idx : Nat} {fs fs' : List Value} {Cn ref host : String} {T : u_T} (hf : Ob w a ci fs) (hc : vwCl[ci]? = some (Cn, T, N)) (hi : i < N) (hin : ∀ w ∈ u_ws Cn T N, w ∈ lw_all) (ty0 : Nat → FieldType) (hty : ∀ k, k < N → parseFieldDescriptor (T k).2.2.1 = some (ty0 k)) (hnm : ∀ a, a < N → ∀ b, b < N → a ≠ b → (T a).2.1 ≠ (T b).2.1) (hlink : Cond.fieldLinkNest own idx ref (T i).2.1 (T i).2.2.1 host ∈ lw_tbl) (hs : (T i).1 = ref ∨ Cond.sameField ref (T i).1 (T i).2.1 (T i).2.2.1 ∈ lw_all) (hfin : (T i).2.2.2 = false) (d : decode cc pc = .ok (.putfield idx, 3))
    {v : Value} (hn : narrow (ty0 i) v = v) (hfit : fits (ty0 i) v = true) (hlen : i < fs.length) (hfs : fs.set i v = fs') (hge : (ci == 16 || ci == 18) = false ∨ gb (zg z) ≤ a)
    (k : Ob (wput w a (.inl (.inr (ci, fs')))) a ci fs' → XJ z own cc nL ret fr lo (wput w a (.inl (.inr (ci, fs')))) rc rs (pc + 3) lv st) : XJ z own cc nL ret fr lo w rc rs pc lv (v :: .ref a :: st) := by
  subst hfs
  intro C H L n1 n2 ls hH hl hc' hs' hv'
  have hge : gb (zg z) ≤ a := hge.elim (fun q => hH.ge hf q) id
  have hK := C.K
  have hap := va_apart (own := own) C.w hin ty0 hty hnm hK hc
  obtain ⟨r, h1, cell, q1, q2, q3, q4⟩ := hH.at hf
  have hr : r = (Cn, T, N) := Option.some.inj (h1.symm.trans hc)
  subst hr
  obtain ⟨hS, hfc, kC, hkC, hkind⟩ := hK.1 ci _ hc
  obtain ⟨cf, kf, fi, f, hi9, hsl⟩ := hS i hi
  have hlay := C.w _ (hin _ (u_in_lay hi))
  unfold u_lay at hlay
  rw [if_neg (by rw [hfin]; decide)] at hlay
  have hst := (u_facts hfc hkC (u_lays C.w hin hi) hi9).1
  have h6 := u_store hfc hkC hkind hlay hi9 (hty i hi) hn hfit
  refine va_WputK C.hx C.hb (f := f) C.hown (va_Nw.use rfl (va_Nw.warmF C.warm (va_Nw.of rfl (C.base.2.1 _ hlink)))) (xx_same C hs _ hi9) hst (by rw [q2]; exact h6) q1 q3 (by rw [hsl]; exact k2_hasslot (q4 i hi)) rfl rfl d fun H' e1 e2 e3 => ?_
  rw [hsl] at e1 ⊢
  exact k (Ob.put_eq hf _) C H' _ n1 n2 ls (hH.put hf hge (ob_set (s := zs z) (args := za z) (own := own) ty0 hty hap hc hi hlen e1 q2 q3 q4) e2 e3) (st_loc hl hge) hc' hs' hv'
/-- a final field in its class's constructor -/
theorem xr_putfieldF {a ci N i idx : Nat} {fs fs' : List Value} {Cn ref : String} {T : u_T} (hf : Ob w a ci fs) (hc : vwCl[ci]? = some (Cn, T, N)) (hi : i < N) (hin : ∀ w ∈ u_ws Cn T N, w ∈ lw_all) (ty0 : Nat → FieldType) (hty : ∀ k, k < N → parseFieldDescriptor (T k).2.2.1 = some (ty0 k)) (hnm : ∀ a, a < N → ∀ b, b < N → a ≠ b → (T a).2.1 ≠ (T b).2.1) (hlink : Cond.fieldLink own idx ref (T i).2.1 (T i).2.2.1 ∈ lw_all) (hs : (T i).1 = ref ∨ Cond.sameField ref (T i).1 (T i).2.1 (T i).2.2.1 ∈ lw_all) (hfin : (T i).2.2.2 = true) (hdecl : (T i).1 = own) (hin2 : (zt z).name = "<init>") (d : decode cc pc = .ok (.putfield idx, 3))
    {v : Value} (hn : narrow (ty0 i) v = v) (hfit : fits (ty0 i) v = true) (hlen : i < fs.length) (hfs : fs.set i v = fs') (hge : (ci == 16 || ci == 18) = false ∨ gb (zg z) ≤ a)
    (k : Ob (wput w a (.inl (.inr (ci, fs')))) a ci fs' → XJ z own cc nL ret fr lo (wput w a (.inl (.inr (ci, fs')))) rc rs (pc + 3) lv st) : XJ z own cc nL ret fr lo w rc rs pc lv (v :: .ref a :: st) := by
  subst hfs
  intro C H L n1 n2 ls hH hl hc' hs' hv'
  have hge : gb (zg z) ≤ a := hge.elim (fun q => hH.ge hf q) id
  have hK := C.K
  have hap := va_apart (own := own) C.w hin ty0 hty hnm hK hc
  obtain ⟨r, h1, cell, q1, q2, q3, q4⟩ := hH.at hf
  have hr : r = (Cn, T, N) := Option.some.inj (h1.symm.trans hc)
  subst hr
  obtain ⟨hS, hfc, kC, hkC, hkind⟩ := hK.1 ci _ hc
  obtain ⟨cf, kf, fi, f, hi9, hsl⟩ := hS i hi
  have hlay := C.w _ (hin _ (u_in_lay hi))
  unfold u_lay at hlay
  rw [if_pos hfin] at hlay
  have hcf : (zm z).cls = cf := by
    obtain ⟨_, _, c', _, _, _, -, -, hf', -, -, -, hown2, -⟩ := Cond.laysFinal_spec hlay
    have e1 : c' = cf := by have := hi9.symm.trans hf'; simp at this; exact this.1.symm
    rw [hdecl] at hown2
    rw [← e1]; exact Option.some.inj (C.hown.symm.trans hown2)
  have hst := (u_facts hfc hkC (u_lays C.w hin hi) hi9).1
  have h6 := u_fits hfc hkC hkind (Or.inr hlay) hi9 (hty i hi) hn hfit
  refine W.putFinK C.hx C.hb C.hown (C.w _ hlink) (xx_same C hs _ hi9) hst hcf hin2 (by rw [q2]; exact h6) q1 q3 (by rw [hsl]; exact k2_hasslot (q4 i hi)) rfl rfl d fun H' e1 e2 e3 => ?_
  rw [hsl] at e1 ⊢
  exact k (Ob.put_eq hf _) C H' _ n1 n2 ls (hH.put hf hge (ob_set (s := zs z) (args := za z) (own := own) ty0 hty hap hc hi hlen e1 q2 q3 q4) e2 e3) (st_loc hl hge) hc' hs' hv'
/-- new -/
theorem xr_new {ci N n9 idx rc' rs' : Nat} {fs : List Value} {Cn : String} {T : u_T} (hc : vwCl[ci]? = some (Cn, T, N)) (hin : ∀ w ∈ u_ws Cn T N, w ∈ lw_all) (ty0 : Nat → FieldType) (hty : ∀ k, k < N → parseFieldDescriptor (T k).2.2.1 = some (ty0 k)) (hcl : Cond.classLink own idx Cn ∈ lw_all) (hinst : Cond.instantiable Cn n9 ∈ lw_all) (hini : Cond.initialized Cn ∈ lw_all) (hfs : ∀ j, j < N → defaultValue (ty0 j) = vp_V fs j) (hb : rc' + 1 ≤ rc ∧ rs' + n9 ≤ rs) (d : decode cc pc = .ok (.new idx, 3))
    (k : ∀ a : Nat, w.2 ≤ a → Ob (wnew w a (.inl (.inr (ci, fs)))) a ci fs → XJ z own cc nL ret fr lo (wnew w a (.inl (.inr (ci, fs)))) rc' rs' (pc + 3) lv (.ref a :: st)) : XJ z own cc nL ret fr lo w rc rs pc lv st := by
  intro C H L n1 n2 ls hH hl hc' hs' hv'
  have hKn := C.K.1 ci _ hc
  obtain ⟨-, -, hr1, hr2, -⟩ := C.rest
  refine W.newcK C.hx C.hb C.hown (C.w _ hcl) (C.w _ hinst) (C.w _ hini) rfl d (by omega) (by omega) hKn.2.1 rfl fun H1 kC hkC e1 z1 o1 => ?_
  refine k H.size hH.1 (Ob.new_eq _ _ _ _) C H1 L _ _ ls (hH.new ?_ z1 o1) hl (by omega) (by omega) hv'
  exact ⟨_, hc, (u_born ty0 C.w hin hKn hkC e1 hty).to hfs⟩

end Rows
