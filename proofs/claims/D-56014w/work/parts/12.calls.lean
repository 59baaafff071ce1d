/-! CALLS: a contract paid at a call, with what is thrown known by its address (the payer follows vx_back of kit/laws/EXCEPTIONS) -/
set_option maxRecDepth 100000
def xPre (g : GG) (w : WW) (as : List Value) (R : Room) (mc ms : Nat) : Pt → Array Value → Prop := fun A a => A.cells + mc ≤ R.cells ∧ A.slots + ms ≤ R.slots ∧ a = as.toArray ∧ St g w A.U
def xPo (g : GG) (po : Option Value → WW → Prop) (mc ms : Nat) : Pt → Array Value → Option Value → Pt → Prop := fun A _ v B =>
  ∃ (w' : WW) (L : List Loc), po v w' ∧ St g w' B.U ∧ B.locs = A.locs ++ L ∧ (∀ q ∈ L, gb g ≤ q.base) ∧ B.cells = A.cells + mc ∧ B.slots = A.slots + ms
def xPx (g : GG) (xp : String → Nat → WW → Prop) (mc ms : Nat) : Pt → Array Value → Addr → Pt → Prop := fun A _ q B =>
  ∃ (w' : WW) (L : List Loc) (E : String) (ce : Cell), xp E q w' ∧ St g w' B.U ∧ B.U.heap[q]? = some ce ∧ ce.vm = .none ∧ A.U.vm.findClass E = some ce.cls ∧ B.locs = A.locs ++ L ∧ (∀ z ∈ L, gb g ≤ z.base) ∧ B.cells = A.cells + mc ∧ B.slots = A.slots + ms
section Payer
variable {l : Launch} {R : Room} {p : Program} {e : Env} {below : List Frame} {s : State} {sargs : Array Value} {y : MethodName} {len W9 : Nat}
theorem xx_back {g : GG} {cw : Cond} {fr lo mc ms maxL : Nat} {w : WW} {as : List Value} {po : Option Value → WW → Prop} {xp : String → Nat → WW → Prop} (hM : Ct g y cw fr lo mc ms w as po xp) (hl9 : l = gL g)
    (hY : ∀ (U : State) (mk : MethodId), s.WarmedH U.vm → U.methodNamed? y = some mk → ∃ (methY : Method) (cY : Code), U.vm.method? mk = some methY ∧ methY.code = some cY ∧ cY.maxLocals = maxL)
    (hframes : fr + 1 ≤ R.frames) (hlocals : W9 + (maxL + 11) + lo ≤ R.locals)
    (hws : ∀ (a' : Array Value) (U : State), s.WarmedH U.vm → cw.before a' U = true) (hinit : ∀ (a' : Array Value) (U : State), s.WarmedH U.vm → (Cond.initialized y.cls).before a' U = true) :
    vx_Back l R p e below s sargs y len W9 (xPre g w as R mc ms) (xPo g po mc ms) (xPx g xp mc ms) := by
  subst hl9
  intro m meth c A gg ig mk a X hg hsize hdg hW hn hp
  have h1 : (headSpec [cw] ({ frames := fr, cells := mc, slots := ms, locals := lo } : Room)).pre.before a A.U = true := atoms_intro fun w hw => by
    rw [List.mem_singleton] at hw
    subst hw
    exact hws _ _ X.warmed
  have h3 : (Cond.initialized y.cls).before a A.U = true := hinit _ _ X.warmed
  have h4 : A.cells + (headSpec [cw] ({ frames := fr, cells := mc, slots := ms, locals := lo } : Room)).room.cells ≤ R.cells := hp.1
  have h5 : A.slots + (headSpec [cw] ({ frames := fr, cells := mc, slots := ms, locals := lo } : Room)).room.slots ≤ R.slots := hp.2.1
  have hPc : a = as.toArray ∧ St g w (A.U.calling gg mk a) := ⟨hp.2.2.1, hp.2.2.2⟩
  obtain ⟨U, Ls, c0, s0⟩ := A
  dsimp only [Pt.U, Pt.locs, Pt.cells, Pt.slots] at h1 h3 h4 h5 X hn hPc ⊢
  obtain ⟨methY, cY, hmY, hcY, hlY⟩ := hY U mk X.warmed hn
  obtain ⟨kY, hkY, -⟩ := className_of_methodNamed hn
  have hinitY : kY.init = .initialized := Cond.initialized_spec (findClass_of_methodNamed hn) hkY h3
  have h : At U gg.method c below := by rw [hg]; exact X.here
  have hlocals9 : W9 + (maxL + 11) + (headSpec [cw] ({ frames := fr, cells := mc, slots := ms, locals := lo } : Room)).room.locals ≤ R.locals := hlocals
  have happ : (headSpec [cw] ({ frames := fr, cells := mc, slots := ms, locals := lo } : Room)).appliesLoose y e.platform (U.calling gg mk a) = true :=
    Spec.appliesLoose_calling (g := gg) h hdg hn hkY hinitY
      (X.room_calling (g := gg) (R' := (headSpec [cw] ({ frames := fr, cells := mc, slots := ms, locals := lo } : Room)).room) hsize hmY hcY hframes (by rw [hlY]; omega) h4 h5) h1
  obtain ⟨mid, hmid⟩ := h.above
  have hfr : (U.setTop gg).frames = (.java gg :: mid) ++ below := by rw [State.frames_setTop' gg h.top, hmid]; rfl
  obtain ⟨o, s₂, hsteps, -, hend, hq⟩ := Steps.callFree hM p X.admits X.cas X.clock (acts := []) hfr happ hPc trivial
  have hq' : xQ g po xp mc ms (U.calling gg mk a) o s₂ := hq
  rw [State.frames_setTop' gg h.top] at hend
  obtain ⟨g₀, hg0⟩ := Option.isSome_iff_exists.mp h.top
  obtain ⟨r, hr⟩ := State.topJava?_eq_some.mp hg0
  have hr' : (({ U with heap := s₂.heap, slotsUsed := s₂.slotsUsed } : State).setVm s₂.vm).frames = .java g₀ :: r := hr
  rcases hq' with ⟨v, w', rfl, hqc, hSt, L, hfe, hL⟩ | ⟨q, w', E, ce, L, rfl, hx, hSt, hce, hcv, hcl, hW₂, hsm, hL⟩
  · obtain ⟨-, hW₂, e2, q2, q3, q4, q5, q6⟩ := id hfe
    have e3 : s₂ = ({ (U.calling gg mk a).setFrames s₂.frames with heap := s₂.heap, slotsUsed := s₂.slotsUsed } : State).setVm s₂.vm := by
      have : s₂ = ({ s₂ with vm := (U.calling gg mk a).vm } : State).setVm s₂.vm := rfl
      rw [e2] at this
      exact this
    obtain ⟨c₂, i₂, len₂, hc₂, hd₂, hf₂⟩ := hend
    have hW' : U.WarmedH s₂.vm := hW₂
    have hcc : c₂ = c := by
      have h1 : s₂.code? gg.method = U.code? gg.method := by
        rw [State.code?_eq, State.code?_eq, hW'.alike.method?]
      exact Option.some.inj (hc₂.symm.trans (h1.trans h.code))
    subst hcc
    have hlen : len₂ = len := by rw [hdg] at hd₂; cases hd₂; rfl
    subst hlen
    have hs₂ : s₂ = (({ U with heap := s₂.heap, slotsUsed := s₂.slotsUsed } : State).setVm s₂.vm).setTop { gg with pc := gg.pc + len₂, stack := v.toList ++ gg.stack } := by
      refine e3.trans ?_
      rw [hf₂, State.calling_eq h.top, State.setFrames_setFrames, State.setTop_of_frames _ hr', hr]
      rfl
    have hsame : U.sameButNew ({ U with heap := s₂.heap, slotsUsed := s₂.slotsUsed } : State) L mc ms := by
      refine ⟨?_, q2, q3, q4, q5, q6⟩
      obtain ⟨t, ht, -⟩ := State.frames_cons hr
      show ({ U with heap := s₂.heap, slotsUsed := s₂.slotsUsed } : State) = { U.setFrames U.frames with heap := s₂.heap, slotsUsed := s₂.slotsUsed }
      rw [State.setFrames_self ht]
    subst hg
    refine Or.inl ⟨v, ⟨(({ U with heap := s₂.heap, slotsUsed := s₂.slotsUsed } : State).setVm s₂.vm), Ls ++ L, c0 + mc, s0 + ms⟩,
      ⟨X.admits, X.cas, X.clock, X.frames, X.room, X.hears, X.method, X.code, (X.here.setHeapUsed s₂.heap s₂.slotsUsed).setVm hW'.alike, X.tail, State.WarmedH.trans X.warmed hW', X.limits, X.bytes, X.same.trans (hsame.setVm s.vm)⟩,
      ⟨w', L, hqc, hSt, rfl, hL, rfl, rfl⟩, ?_⟩
    show Steps p.tables e below _ ((({ U with heap := s₂.heap, slotsUsed := s₂.slotsUsed } : State).setVm s₂.vm).setTop { gg with pc := gg.pc + len₂, stack := v.toList ++ gg.stack })
    rw [← hs₂]
    exact hsteps
  · obtain ⟨e2, q2, q3, q4, q5, q6⟩ := id hsm
    have e3 : s₂ = ({ (U.calling gg mk a).setFrames s₂.frames with heap := s₂.heap, slotsUsed := s₂.slotsUsed } : State).setVm s₂.vm := by
      have : s₂ = ({ s₂ with vm := (U.calling gg mk a).vm } : State).setVm s₂.vm := rfl
      rw [e2] at this
      exact this
    have hf₂ : s₂.frames = .throwing q :: .java gg :: U.frames.tail := hend
    have hW' : U.WarmedH s₂.vm := hW₂
    have hs₂ : s₂ = ((({ U with heap := s₂.heap, slotsUsed := s₂.slotsUsed } : State).setVm s₂.vm).setTop gg).pushFrame (.throwing q) := by
      refine e3.trans ?_
      rw [hf₂, State.calling_eq h.top, State.setFrames_setFrames, State.pushFrame, State.frames_setTop _ hr', State.setTop_of_frames _ hr', State.setFrames_setFrames, hr]
      rfl
    have hsame : U.sameButNew ({ U with heap := s₂.heap, slotsUsed := s₂.slotsUsed } : State) L mc ms := by
      refine ⟨?_, q2, q3, q4, q5, q6⟩
      obtain ⟨t, ht, -⟩ := State.frames_cons hr
      show ({ U with heap := s₂.heap, slotsUsed := s₂.slotsUsed } : State) = { U.setFrames U.frames with heap := s₂.heap, slotsUsed := s₂.slotsUsed }
      rw [State.setFrames_self ht]
    subst hg
    refine Or.inr ⟨q, ⟨(({ U with heap := s₂.heap, slotsUsed := s₂.slotsUsed } : State).setVm s₂.vm), Ls ++ L, c0 + mc, s0 + ms⟩,
      ⟨X.admits, X.cas, X.clock, X.frames, X.room, X.hears, X.method, X.code, (X.here.setHeapUsed s₂.heap s₂.slotsUsed).setVm hW'.alike, X.tail, State.WarmedH.trans X.warmed hW', X.limits, X.bytes, X.same.trans (hsame.setVm s.vm)⟩,
      ⟨w', L, E, ce, hx, hSt, hce, hcv, hcl, rfl, hL, rfl, rfl⟩, ?_⟩
    show Steps p.tables e below _ (((({ U with heap := s₂.heap, slotsUsed := s₂.slotsUsed } : State).setVm s₂.vm).setTop gg).pushFrame (.throwing q))
    rw [← hs₂]
    exact hsteps
end Payer
/-- the code word, plain or with handlers, gives the method's locals -/
def CodeOk (y : MethodName) (cw : Cond) (nL' : Nat) : Prop := ∀ (s U : State) (mk : MethodId) (a' : Array Value), s.WarmedH U.vm → U.methodNamed? y = some mk → cw.before a' U = true → ∃ (methY : Method) (cY : Code), U.vm.method? mk = some methY ∧ methY.code = some cY ∧ cY.maxLocals = nL'
theorem codeOk {y : MethodName} {b : ByteArray} {nL' : Nat} {r : Option FieldType} : CodeOk y (.code y b nL' r) nL' := by
  intro s U mk a' hW hn h2
  obtain ⟨methY, cY, hmY, hcY, -, hlY, -, -, -, -⟩ := Cond.code_spec hn h2
  exact ⟨methY, cY, hmY, hcY, hlY⟩
theorem codeOkW {y : MethodName} {b : ByteArray} {nL' : Nat} {r : Option FieldType} {hh : List (Nat × Nat × Nat × Nat)} : CodeOk y (.codeWith y b nL' r hh) nL' := by
  intro s U mk a' hW hn h2
  obtain ⟨m9, methY, cY, hn9, hmY, hcY, -, hlY, -⟩ := Cond.codeWith_spec h2
  cases Option.some.inj (hn9.symm.trans hn)
  exact ⟨methY, cY, hmY, hcY, hlY⟩

section Fin
variable {z : ZZ} {own : String} {cc : ByteArray} {nL fr lo rc rs pc : Nat} {ret : Option FieldType} {w : WW} {lv : List (Option Value)} {st : List Value}
/-- behind a call: it has returned, or thrown -/
theorem xx_fin {T : State} {L : List Loc} {n1 n2 mc ms len rc' rs' : Nat} {ls : Array Slot} {po : Option Value → WW → Prop} {xp : String → Nat → WW → Prop} {as rest st0 : List Value} (C : Cx z own cc nL ret fr lo) (hl : ∀ q ∈ L, gb (zg z) ≤ q.base) (hc : n1 + rc ≤ zmc z) (hs : n2 + rs ≤ zms z) (hb : rc' + mc ≤ rc ∧ rs' + ms ≤ rs) (hv : LH ls nL lv)
    (h : (∃ (v : Option Value) (vm₁ : Vm) (B : Pt), (zs z).WarmedH vm₁ ∧ Stand (zp z) (zl z) (ze z) (zR z) (zs z) (zm z) (za z) (zb z) (zt z) (zc z) B.U B.locs B.cells B.slots ∧ xPo (zg z) po mc ms ⟨T.setVm vm₁, L, n1, n2⟩ as.toArray v B ∧
      ∀ target, Steps (zp z).tables (ze z) (zb z) (B.U.setTop { F0 (zm z) pc ls st0 with pc := pc + len, stack := v.toList ++ rest }) target → Steps (zp z).tables (ze z) (zb z) (T.setTop (F0 (zm z) pc ls st0)) target) ∨
    (∃ (q : Addr) (vm₁ : Vm) (B : Pt), (zs z).WarmedH vm₁ ∧ Stand (zp z) (zl z) (ze z) (zR z) (zs z) (zm z) (za z) (zb z) (zt z) (zc z) B.U B.locs B.cells B.slots ∧ xPx (zg z) xp mc ms ⟨T.setVm vm₁, L, n1, n2⟩ as.toArray q B ∧
      Steps (zp z).tables (ze z) (zb z) (T.setTop (F0 (zm z) pc ls st0)) ((B.U.setTop { F0 (zm z) pc ls st0 with stack := rest }).pushFrame (.throwing q))))
    (k : ∀ (r : Option Value) (w' : WW), po r w' → XJ z own cc nL ret fr lo w' rc' rs' (pc + len) lv (r.toList ++ rest)) (kx : ∀ (E : String) (q : Nat) (w' : WW), xp E q w' → XT z own cc nL ret fr lo w' rc' rs' pc lv E q) :
    ∃ t, Steps (zp z).tables (ze z) (zb z) (T.setTop (F0 (zm z) pc ls st0)) t ∧ zQ z t := by
  rcases h with ⟨v, vm₁, ⟨U', l2, c2, s2⟩, hW₁, X', ⟨w', L2, hp, hSt, h1, hL, h2, h3⟩, st⟩ | ⟨q, vm₁, ⟨U', l2, c2, s2⟩, hW₁, X', ⟨w', L2, E, ce, hp, hSt, hce, hcv, hcl, h1, hL, h2, h3⟩, st⟩
  · dsimp only [Pt.U, Pt.locs, Pt.cells, Pt.slots] at X' h1 h2 h3 st hSt
    subst h1; subst h2; subst h3
    obtain ⟨t, a1, b1⟩ := k v w' hp C U'.heap (L ++ L2) (n1 + mc) (n2 + ms) ls hSt.2 (fun x hx => (List.mem_append.mp hx).elim (hl x) (hL x)) (by omega) (by omega) hv U' rfl X'
    exact ⟨t, st t a1, b1⟩
  · dsimp only [Pt.U, Pt.locs, Pt.cells, Pt.slots] at X' h1 h2 h3 st hSt hce hcl
    subst h1; subst h2; subst h3
    obtain ⟨t, a1, b1⟩ := kx E q w' hp C U'.heap (L ++ L2) (n1 + mc) (n2 + ms) ls rest ce hSt.2 (fun x hx => (List.mem_append.mp hx).elim (hl x) (hL x)) (by omega) (by omega) hv hce hcv (vx_cls hW₁ hcl) U' rfl X'
    exact ⟨t, st.trans a1, b1⟩
theorem xx_arity {y : MethodName} {n : Nat} (h : (parseMethodDescriptor y.desc).map (fun d => d.parameters.length) = some n) : ∀ sig, parseMethodDescriptor y.desc = some sig → n = sig.parameters.length := fun sig hs => by
  rw [hs] at h
  exact (Option.some.inj h).symm
theorem xx_recv {H : Heap} {b ci : Nat} {q : vw_C} {fs : List Value} (C : Cx z own cc nL ret fr lo) (hH : Hp (zg z) w H) (hf : Ob w b ci fs) (hc : vwCl[ci]? = some q) : ∃ cell : Cell, H[b]? = some cell ∧ cell.vm.isStatics = false ∧ (zs z).vm.findClass q.1 = some cell.cls := va_recv C.K (hp_P hH hf) hc (show ([(b, Sum.inr (ci, fs))] : va_W)[0]? = _ from rfl)
theorem xx_onT {w : Cond} (hw : w.onTables = true) {s U : State} {args a' : Array Value} (h : s.vm = U.vm) (hb : w.before args s = true) : w.before a' U = true := va_tabs hw h hb
theorem xr_callV {y : MethodName} {bytes : ByteArray} {idx n9 fr' lo' mc ms nL' rc' rs' b : Nat} {ret' : Option FieldType} {as rest : List Value} {po : Option Value → WW → Prop} {xp : String → Nat → WW → Prop} {ci : Nat} {q : vw_C} {fs : List Value} (hM : Ct (zg z) y (Cond.code y bytes nL' ret') fr' lo' mc ms w (.ref b :: as) po xp) (hf : Ob w b ci fs) (hq : vwCl[ci]? = some q) (hlink : Cond.methodLink own idx y ∈ lw_all) (hin : Cond.instanceMethod y ∈ lw_all) (hse : Cond.selects q.1 y y ∈ lw_all) (hini : Cond.initialized y.cls ∈ lw_all) (hcode : Cond.code y bytes nL' ret' ∈ lw_all) (hd : y.cls ≠ "java/lang/invoke/MethodHandle" ∧ y.cls ≠ "java/lang/invoke/VarHandle" ∧ (parseMethodDescriptor y.desc).map (fun d => d.parameters.length) = some n9) (hlen9 : as.length = n9) (hroom : fr' + 1 ≤ fr ∧ 8 + (nL' + 11) + lo' ≤ lo) (hb : rc' + mc ≤ rc ∧ rs' + ms ≤ rs) (hcat : (rest.map fun v => v.category).sum ≤ 8) (d : decode cc pc = .ok (.invokevirtual idx, 3)) (hst : st = as.reverse ++ .ref b :: rest)
    (k : ∀ (r : Option Value) (w' : WW), po r w' → XJ z own cc nL ret fr lo w' rc' rs' (pc + 3) lv (r.toList ++ rest)) (kx : ∀ (E : String) (q : Nat) (w' : WW), xp E q w' → XT z own cc nL ret fr lo w' rc' rs' pc lv E q) : XJ z own cc nL ret fr lo w rc rs pc lv st := by
  subst hst
  intro C H L n1 n2 ls hH hl hc hs hv
  obtain ⟨hr1, hr2, hr3, hr4, hzl⟩ := C.rest
  have hK := xx_back (l := zl z) (R := zR z) (p := zp z) (e := ze z) (below := zb z) (s := zs z) (sargs := za z) (len := 3) (W9 := 8) hM hzl (fun U mk hW hn => codeOk (zs z) U mk #[] hW hn (word_at hW (good_of_word (List.mem_filter.mp hcode).2) (C.w _ hcode))) (by omega) (by omega) (fun a' U hW => word_at hW (good_of_word (List.mem_filter.mp hcode).2) (C.w _ hcode)) (fun a' U hW => word_at hW (good_of_word (List.mem_filter.mp hini).2) (C.w _ hini))
  obtain ⟨cellB, hcB, hoB, hclB⟩ := xx_recv C hH hf hq
  intro T hT X
  exact xx_fin C hl hc hs hb hv (vx_callV X C.hx (C := q.1) (bytes := bytes) (maxL := nL') (ret := ret') C.hown (C.w _ hlink) (C.w _ hin) (C.w _ hse) (C.w _ hcode) ⟨hd.1, hd.2.1⟩ hK (by rw [hT]; exact hcB) hoB hclB (g := F0 (zm z) pc ls (as.reverse ++ .ref b :: rest)) rfl (hv.1.trans C.hml.symm) (argsL := as) (rest := rest) (hlen9 ▸ xx_arity hd.2.2) rfl (lv_room hcat) (by rw [C.hb]; exact d) (fun vm₁ hW₁ => ⟨by show n1 + mc ≤ _; omega, by show n2 + ms ≤ _; omega, rfl, State.WarmedH.trans C.warm hW₁, by show Hp _ _ T.heap; rw [hT]; exact hH⟩)) k kx
theorem xr_callVX {y : MethodName} {bytes : ByteArray} {idx n9 fr' lo' mc ms nL' rc' rs' b : Nat} {ret' : Option FieldType} {hh : List (Nat × Nat × Nat × Nat)} {as rest : List Value} {po : Option Value → WW → Prop} {xp : String → Nat → WW → Prop} {ci : Nat} {q : vw_C} {fs : List Value} (hM : Ct (zg z) y (Cond.codeWith y bytes nL' ret' hh) fr' lo' mc ms w (.ref b :: as) po xp) (hf : Ob w b ci fs) (hq : vwCl[ci]? = some q) (hlink : Cond.methodLink own idx y ∈ lw_all) (hin : Cond.instanceMethod y ∈ lw_all) (hse : Cond.selects q.1 y y ∈ lw_all) (hini : Cond.initialized y.cls ∈ lw_all) (hcode : Cond.codeWith y bytes nL' ret' hh ∈ lw_all) (hd : y.cls ≠ "java/lang/invoke/MethodHandle" ∧ y.cls ≠ "java/lang/invoke/VarHandle" ∧ (parseMethodDescriptor y.desc).map (fun d => d.parameters.length) = some n9) (hlen9 : as.length = n9) (hroom : fr' + 1 ≤ fr ∧ 8 + (nL' + 11) + lo' ≤ lo) (hb : rc' + mc ≤ rc ∧ rs' + ms ≤ rs) (hcat : (rest.map fun v => v.category).sum ≤ 8) (d : decode cc pc = .ok (.invokevirtual idx, 3)) (hst : st = as.reverse ++ .ref b :: rest)
    (k : ∀ (r : Option Value) (w' : WW), po r w' → XJ z own cc nL ret fr lo w' rc' rs' (pc + 3) lv (r.toList ++ rest)) (kx : ∀ (E : String) (q : Nat) (w' : WW), xp E q w' → XT z own cc nL ret fr lo w' rc' rs' pc lv E q) : XJ z own cc nL ret fr lo w rc rs pc lv st := by
  subst hst
  intro C H L n1 n2 ls hH hl hc hs hv
  obtain ⟨hr1, hr2, hr3, hr4, hzl⟩ := C.rest
  have hK := xx_back (l := zl z) (R := zR z) (p := zp z) (e := ze z) (below := zb z) (s := zs z) (sargs := za z) (len := 3) (W9 := 8) hM hzl (fun U mk hW hn => codeOkW (zs z) U mk #[] hW hn (word_at hW (good_of_word (List.mem_filter.mp hcode).2) (C.w _ hcode))) (by omega) (by omega) (fun a' U hW => word_at hW (good_of_word (List.mem_filter.mp hcode).2) (C.w _ hcode)) (fun a' U hW => word_at hW (good_of_word (List.mem_filter.mp hini).2) (C.w _ hini))
  obtain ⟨cellB, hcB, hoB, hclB⟩ := xx_recv C hH hf hq
  intro T hT X
  exact xx_fin C hl hc hs hb hv (vx_callVX X C.hx (C := q.1) (hh := hh) (bytes := bytes) (maxL := nL') (ret := ret') C.hown (C.w _ hlink) (C.w _ hin) (C.w _ hse) (C.w _ hcode) ⟨hd.1, hd.2.1⟩ hK (by rw [hT]; exact hcB) hoB hclB (g := F0 (zm z) pc ls (as.reverse ++ .ref b :: rest)) rfl (hv.1.trans C.hml.symm) (argsL := as) (rest := rest) (hlen9 ▸ xx_arity hd.2.2) rfl (lv_room hcat) (by rw [C.hb]; exact d) (fun vm₁ hW₁ => ⟨by show n1 + mc ≤ _; omega, by show n2 + ms ≤ _; omega, rfl, State.WarmedH.trans C.warm hW₁, by show Hp _ _ T.heap; rw [hT]; exact hH⟩)) k kx
theorem xr_callVU {y x : MethodName} {bytes : ByteArray} {idx n9 fr' lo' mc ms nL' rc' rs' b : Nat} {ret' : Option FieldType} {as rest : List Value} {po : Option Value → WW → Prop} {xp : String → Nat → WW → Prop} {ci : Nat} {q : vw_C} {fs : List Value} {owner : String} (hM : Ct (zg z) y (Cond.code y bytes nL' ret') fr' lo' mc ms w (.ref b :: as) po xp) (hf : Ob w b ci fs) (hq : vwCl[ci]? = some q) (hlink : Cond.methodLink own idx x ∈ lw_all) (hsame : Cond.sameMethod x.cls owner x.name x.desc ∈ lw_all) (hyx : y = ⟨owner, x.name, x.desc⟩) (hin : Cond.instanceMethod y ∈ lw_all) (hse : Cond.selects q.1 x y ∈ lw_all) (hini : Cond.initialized y.cls ∈ lw_all) (hcode : Cond.code y bytes nL' ret' ∈ lw_all) (hd : owner ≠ "java/lang/invoke/MethodHandle" ∧ owner ≠ "java/lang/invoke/VarHandle" ∧ (parseMethodDescriptor x.desc).map (fun d => d.parameters.length) = some n9) (hlen9 : as.length = n9) (hroom : fr' + 1 ≤ fr ∧ 8 + (nL' + 11) + lo' ≤ lo) (hb : rc' + mc ≤ rc ∧ rs' + ms ≤ rs) (hcat : (rest.map fun v => v.category).sum ≤ 8) (d : decode cc pc = .ok (.invokevirtual idx, 3)) (hst : st = as.reverse ++ .ref b :: rest)
    (k : ∀ (r : Option Value) (w' : WW), po r w' → XJ z own cc nL ret fr lo w' rc' rs' (pc + 3) lv (r.toList ++ rest)) (kx : ∀ (E : String) (q : Nat) (w' : WW), xp E q w' → XT z own cc nL ret fr lo w' rc' rs' pc lv E q) : XJ z own cc nL ret fr lo w rc rs pc lv st := by
  subst hst
  intro C H L n1 n2 ls hH hl hc hs hv
  obtain ⟨hr1, hr2, hr3, hr4, hzl⟩ := C.rest
  have hK := xx_back (l := zl z) (R := zR z) (p := zp z) (e := ze z) (below := zb z) (s := zs z) (sargs := za z) (len := 3) (W9 := 8) hM hzl (fun U mk hW hn => codeOk (zs z) U mk #[] hW hn (word_at hW (good_of_word (List.mem_filter.mp hcode).2) (C.w _ hcode))) (by omega) (by omega) (fun a' U hW => word_at hW (good_of_word (List.mem_filter.mp hcode).2) (C.w _ hcode)) (fun a' U hW => word_at hW (good_of_word (List.mem_filter.mp hini).2) (C.w _ hini))
  obtain ⟨cellB, hcB, hoB, hclB⟩ := xx_recv C hH hf hq
  intro T hT X
  exact xx_fin C hl hc hs hb hv (vx_callVU X C.hx (C := q.1) (bytes := bytes) (maxL := nL') (ret := ret') C.hown (C.w _ hlink) (C.w _ hsame) (by rw [← hyx]; exact va_Decl.of (C.w _ hin) (C.w _ hcode)) ⟨hd.1, hd.2.1⟩ (C.w _ hse) (C.w _ hin) (C.w _ hcode) hK (by rw [hT]; exact hcB) hoB hclB (g := F0 (zm z) pc ls (as.reverse ++ .ref b :: rest)) rfl (hv.1.trans C.hml.symm) (argsL := as) (rest := rest) (hlen9 ▸ xx_arity (y := x) hd.2.2) rfl (lv_room hcat) (by rw [C.hb]; exact d) (fun vm₁ hW₁ => ⟨by show n1 + mc ≤ _; omega, by show n2 + ms ≤ _; omega, rfl, State.WarmedH.trans C.warm hW₁, by show Hp _ _ T.heap; rw [hT]; exact hH⟩)) k kx
theorem xr_callVA {y x : MethodName} {bytes : ByteArray} {idx n9 fr' lo' mc ms nL' rc' rs' b : Nat} {ret' : Option FieldType} {as rest : List Value} {po : Option Value → WW → Prop} {xp : String → Nat → WW → Prop} {ci : Nat} {q : vw_C} {fs : List Value} {owner : String} (hM : Ct (zg z) y (Cond.code y bytes nL' ret') fr' lo' mc ms w (.ref b :: as) po xp) (hf : Ob w b ci fs) (hq : vwCl[ci]? = some q) (hlink : Cond.methodLink own idx x ∈ lw_all) (hsame : Cond.sameMethod x.cls owner x.name x.desc ∈ lw_all) (hdecl : Cond.declares ⟨owner, x.name, x.desc⟩ ∈ lw_tbl) (hin : Cond.instanceMethod y ∈ lw_all) (hse : Cond.selects q.1 x y ∈ lw_all) (hini : Cond.initialized y.cls ∈ lw_all) (hcode : Cond.code y bytes nL' ret' ∈ lw_all) (hd : owner ≠ "java/lang/invoke/MethodHandle" ∧ owner ≠ "java/lang/invoke/VarHandle" ∧ (parseMethodDescriptor x.desc).map (fun d => d.parameters.length) = some n9) (hlen9 : as.length = n9) (hroom : fr' + 1 ≤ fr ∧ 8 + (nL' + 11) + lo' ≤ lo) (hb : rc' + mc ≤ rc ∧ rs' + ms ≤ rs) (hcat : (rest.map fun v => v.category).sum ≤ 8) (d : decode cc pc = .ok (.invokevirtual idx, 3)) (hst : st = as.reverse ++ .ref b :: rest)
    (k : ∀ (r : Option Value) (w' : WW), po r w' → XJ z own cc nL ret fr lo w' rc' rs' (pc + 3) lv (r.toList ++ rest)) (kx : ∀ (E : String) (q : Nat) (w' : WW), xp E q w' → XT z own cc nL ret fr lo w' rc' rs' pc lv E q) : XJ z own cc nL ret fr lo w rc rs pc lv st := by
  subst hst
  intro C H L n1 n2 ls hH hl hc hs hv
  obtain ⟨hr1, hr2, hr3, hr4, hzl⟩ := C.rest
  have hK := xx_back (l := zl z) (R := zR z) (p := zp z) (e := ze z) (below := zb z) (s := zs z) (sargs := za z) (len := 3) (W9 := 8) hM hzl (fun U mk hW hn => codeOk (zs z) U mk #[] hW hn (word_at hW (good_of_word (List.mem_filter.mp hcode).2) (C.w _ hcode))) (by omega) (by omega) (fun a' U hW => word_at hW (good_of_word (List.mem_filter.mp hcode).2) (C.w _ hcode)) (fun a' U hW => word_at hW (good_of_word (List.mem_filter.mp hini).2) (C.w _ hini))
  obtain ⟨cellB, hcB, hoB, hclB⟩ := xx_recv C hH hf hq
  intro T hT X
  exact xx_fin C hl hc hs hb hv (vx_callVU X C.hx (C := q.1) (bytes := bytes) (maxL := nL') (ret := ret') C.hown (C.w _ hlink) (C.w _ hsame) (va_Decl.abs (va_Nw.warmD C.warm (va_Nw.of rfl (C.base.2.1 _ hdecl)))) ⟨hd.1, hd.2.1⟩ (C.w _ hse) (C.w _ hin) (C.w _ hcode) hK (by rw [hT]; exact hcB) hoB hclB (g := F0 (zm z) pc ls (as.reverse ++ .ref b :: rest)) rfl (hv.1.trans C.hml.symm) (argsL := as) (rest := rest) (hlen9 ▸ xx_arity (y := x) hd.2.2) rfl (lv_room hcat) (by rw [C.hb]; exact d) (fun vm₁ hW₁ => ⟨by show n1 + mc ≤ _; omega, by show n2 + ms ≤ _; omega, rfl, State.WarmedH.trans C.warm hW₁, by show Hp _ _ T.heap; rw [hT]; exact hH⟩)) k kx
theorem xr_callVN {y : MethodName} {bytes : ByteArray} {idx n9 fr' lo' mc ms nL' rc' rs' b : Nat} {ret' : Option FieldType} {as rest : List Value} {po : Option Value → WW → Prop} {xp : String → Nat → WW → Prop} {ci : Nat} {q : vw_C} {fs : List Value} {host : String} (hM : Ct (zg z) y (Cond.code y bytes nL' ret') fr' lo' mc ms w (.ref b :: as) po xp) (hf : Ob w b ci fs) (hq : vwCl[ci]? = some q) (hlink : Cond.methodLinkNest own idx y host ∈ lw_tbl) (hin : Cond.instanceMethod y ∈ lw_all) (hse : Cond.selects q.1 y y ∈ lw_all) (hini : Cond.initialized y.cls ∈ lw_all) (hcode : Cond.code y bytes nL' ret' ∈ lw_all) (hd : y.cls ≠ "java/lang/invoke/MethodHandle" ∧ y.cls ≠ "java/lang/invoke/VarHandle" ∧ (parseMethodDescriptor y.desc).map (fun d => d.parameters.length) = some n9) (hlen9 : as.length = n9) (hroom : fr' + 1 ≤ fr ∧ 8 + (nL' + 11) + lo' ≤ lo) (hb : rc' + mc ≤ rc ∧ rs' + ms ≤ rs) (hcat : (rest.map fun v => v.category).sum ≤ 8) (d : decode cc pc = .ok (.invokevirtual idx, 3)) (hst : st = as.reverse ++ .ref b :: rest)
    (k : ∀ (r : Option Value) (w' : WW), po r w' → XJ z own cc nL ret fr lo w' rc' rs' (pc + 3) lv (r.toList ++ rest)) (kx : ∀ (E : String) (q : Nat) (w' : WW), xp E q w' → XT z own cc nL ret fr lo w' rc' rs' pc lv E q) : XJ z own cc nL ret fr lo w rc rs pc lv st := by
  subst hst
  intro C H L n1 n2 ls hH hl hc hs hv
  obtain ⟨hr1, hr2, hr3, hr4, hzl⟩ := C.rest
  have hK := xx_back (l := zl z) (R := zR z) (p := zp z) (e := ze z) (below := zb z) (s := zs z) (sargs := za z) (len := 3) (W9 := 8) hM hzl (fun U mk hW hn => codeOk (zs z) U mk #[] hW hn (word_at hW (good_of_word (List.mem_filter.mp hcode).2) (C.w _ hcode))) (by omega) (by omega) (fun a' U hW => word_at hW (good_of_word (List.mem_filter.mp hcode).2) (C.w _ hcode)) (fun a' U hW => word_at hW (good_of_word (List.mem_filter.mp hini).2) (C.w _ hini))
  obtain ⟨cellB, hcB, hoB, hclB⟩ := xx_recv C hH hf hq
  intro T hT X
  exact xx_fin C hl hc hs hb hv (vx_callVN X C.hx (C := q.1) (bytes := bytes) (maxL := nL') (ret := ret') C.hown (va_Nw.use rfl (va_Nw.warmM C.warm (va_Nw.of rfl (C.base.2.1 _ hlink)))) (C.w _ hin) (C.w _ hse) (C.w _ hcode) ⟨hd.1, hd.2.1⟩ hK (by rw [hT]; exact hcB) hoB hclB (g := F0 (zm z) pc ls (as.reverse ++ .ref b :: rest)) rfl (hv.1.trans C.hml.symm) (argsL := as) (rest := rest) (hlen9 ▸ xx_arity hd.2.2) rfl (lv_room hcat) (by rw [C.hb]; exact d) (fun vm₁ hW₁ => ⟨by show n1 + mc ≤ _; omega, by show n2 + ms ≤ _; omega, rfl, State.WarmedH.trans C.warm hW₁, by show Hp _ _ T.heap; rw [hT]; exact hH⟩)) k kx
theorem xr_callS {y : MethodName} {bytes : ByteArray} {idx n9 fr' lo' mc ms nL' rc' rs' : Nat} {ret' : Option FieldType} {as rest : List Value} {po : Option Value → WW → Prop} {xp : String → Nat → WW → Prop} (hM : Ct (zg z) y (Cond.code y bytes nL' ret') fr' lo' mc ms w as po xp) (hlink : Cond.methodLink own idx y ∈ lw_all) (hstat : Cond.static y ∈ lw_all) (hini : Cond.initialized y.cls ∈ lw_all) (hcode : Cond.code y bytes nL' ret' ∈ lw_all) (hd : y.cls ≠ "java/lang/invoke/MethodHandle" ∧ y.cls ≠ "java/lang/invoke/VarHandle" ∧ (parseMethodDescriptor y.desc).map (fun d => d.parameters.length) = some n9) (hlen9 : as.length = n9) (hroom : fr' + 1 ≤ fr ∧ 8 + (nL' + 11) + lo' ≤ lo) (hb : rc' + mc ≤ rc ∧ rs' + ms ≤ rs) (hcat : (rest.map fun v => v.category).sum ≤ 8) (d : decode cc pc = .ok (.invokestatic idx, 3)) (hst : st = as.reverse ++ rest)
    (k : ∀ (r : Option Value) (w' : WW), po r w' → XJ z own cc nL ret fr lo w' rc' rs' (pc + 3) lv (r.toList ++ rest)) (kx : ∀ (E : String) (q : Nat) (w' : WW), xp E q w' → XT z own cc nL ret fr lo w' rc' rs' pc lv E q) : XJ z own cc nL ret fr lo w rc rs pc lv st := by
  subst hst
  intro C H L n1 n2 ls hH hl hc hs hv
  obtain ⟨hr1, hr2, hr3, hr4, hzl⟩ := C.rest
  have hK := xx_back (l := zl z) (R := zR z) (p := zp z) (e := ze z) (below := zb z) (s := zs z) (sargs := za z) (len := 3) (W9 := 8) hM hzl (fun U mk hW hn => codeOk (zs z) U mk #[] hW hn (word_at hW (good_of_word (List.mem_filter.mp hcode).2) (C.w _ hcode))) (by omega) (by omega) (fun a' U hW => word_at hW (good_of_word (List.mem_filter.mp hcode).2) (C.w _ hcode)) (fun a' U hW => word_at hW (good_of_word (List.mem_filter.mp hini).2) (C.w _ hini))
  intro T hT X
  exact xx_fin C hl hc hs hb hv (vx_callS X C.hx (bytes := bytes) (maxL := nL') (ret := ret') C.hown (C.w _ hlink) (C.w _ hstat) (C.w _ hini) (C.w _ hcode) ⟨hd.1, hd.2.1⟩ hK (g := F0 (zm z) pc ls (as.reverse ++ rest)) rfl (hv.1.trans C.hml.symm) (argsL := as) (rest := rest) (hlen9 ▸ xx_arity hd.2.2) rfl (lv_room hcat) (by rw [C.hb]; exact d) (fun vm₁ hW₁ => ⟨by show n1 + mc ≤ _; omega, by show n2 + ms ≤ _; omega, rfl, State.WarmedH.trans C.warm hW₁, by show Hp _ _ T.heap; rw [hT]; exact hH⟩)) k kx
theorem xr_callSX {y : MethodName} {bytes : ByteArray} {idx n9 fr' lo' mc ms nL' rc' rs' : Nat} {ret' : Option FieldType} {hh : List (Nat × Nat × Nat × Nat)} {as rest : List Value} {po : Option Value → WW → Prop} {xp : String → Nat → WW → Prop} (hM : Ct (zg z) y (Cond.codeWith y bytes nL' ret' hh) fr' lo' mc ms w as po xp) (hlink : Cond.methodLink own idx y ∈ lw_all) (hstat : Cond.static y ∈ lw_all) (hini : Cond.initialized y.cls ∈ lw_all) (hcode : Cond.codeWith y bytes nL' ret' hh ∈ lw_all) (hd : y.cls ≠ "java/lang/invoke/MethodHandle" ∧ y.cls ≠ "java/lang/invoke/VarHandle" ∧ (parseMethodDescriptor y.desc).map (fun d => d.parameters.length) = some n9) (hlen9 : as.length = n9) (hroom : fr' + 1 ≤ fr ∧ 8 + (nL' + 11) + lo' ≤ lo) (hb : rc' + mc ≤ rc ∧ rs' + ms ≤ rs) (hcat : (rest.map fun v => v.category).sum ≤ 8) (d : decode cc pc = .ok (.invokestatic idx, 3)) (hst : st = as.reverse ++ rest)
    (k : ∀ (r : Option Value) (w' : WW), po r w' → XJ z own cc nL ret fr lo w' rc' rs' (pc + 3) lv (r.toList ++ rest)) (kx : ∀ (E : String) (q : Nat) (w' : WW), xp E q w' → XT z own cc nL ret fr lo w' rc' rs' pc lv E q) : XJ z own cc nL ret fr lo w rc rs pc lv st := by
  subst hst
  intro C H L n1 n2 ls hH hl hc hs hv
  obtain ⟨hr1, hr2, hr3, hr4, hzl⟩ := C.rest
  have hK := xx_back (l := zl z) (R := zR z) (p := zp z) (e := ze z) (below := zb z) (s := zs z) (sargs := za z) (len := 3) (W9 := 8) hM hzl (fun U mk hW hn => codeOkW (zs z) U mk #[] hW hn (word_at hW (good_of_word (List.mem_filter.mp hcode).2) (C.w _ hcode))) (by omega) (by omega) (fun a' U hW => word_at hW (good_of_word (List.mem_filter.mp hcode).2) (C.w _ hcode)) (fun a' U hW => word_at hW (good_of_word (List.mem_filter.mp hini).2) (C.w _ hini))
  intro T hT X
  exact xx_fin C hl hc hs hb hv (vx_callSX X C.hx (hh := hh) (bytes := bytes) (maxL := nL') (ret := ret') C.hown (C.w _ hlink) (C.w _ hstat) (C.w _ hini) (C.w _ hcode) ⟨hd.1, hd.2.1⟩ hK (g := F0 (zm z) pc ls (as.reverse ++ rest)) rfl (hv.1.trans C.hml.symm) (argsL := as) (rest := rest) (hlen9 ▸ xx_arity hd.2.2) rfl (lv_room hcat) (by rw [C.hb]; exact d) (fun vm₁ hW₁ => ⟨by show n1 + mc ≤ _; omega, by show n2 + ms ≤ _; omega, rfl, State.WarmedH.trans C.warm hW₁, by show Hp _ _ T.heap; rw [hT]; exact hH⟩)) k kx
theorem xr_callSN {y : MethodName} {bytes : ByteArray} {idx n9 fr' lo' mc ms nL' rc' rs' : Nat} {ret' : Option FieldType} {as rest : List Value} {po : Option Value → WW → Prop} {xp : String → Nat → WW → Prop} {host : String} (hM : Ct (zg z) y (Cond.code y bytes nL' ret') fr' lo' mc ms w as po xp) (hlink : Cond.methodLinkNest own idx y host ∈ lw_tbl) (hstat : Cond.static y ∈ lw_all) (hini : Cond.initialized y.cls ∈ lw_all) (hcode : Cond.code y bytes nL' ret' ∈ lw_all) (hd : y.cls ≠ "java/lang/invoke/MethodHandle" ∧ y.cls ≠ "java/lang/invoke/VarHandle" ∧ (parseMethodDescriptor y.desc).map (fun d => d.parameters.length) = some n9) (hlen9 : as.length = n9) (hroom : fr' + 1 ≤ fr ∧ 8 + (nL' + 11) + lo' ≤ lo) (hb : rc' + mc ≤ rc ∧ rs' + ms ≤ rs) (hcat : (rest.map fun v => v.category).sum ≤ 8) (d : decode cc pc = .ok (.invokestatic idx, 3)) (hst : st = as.reverse ++ rest)
    (k : ∀ (r : Option Value) (w' : WW), po r w' → XJ z own cc nL ret fr lo w' rc' rs' (pc + 3) lv (r.toList ++ rest)) (kx : ∀ (E : String) (q : Nat) (w' : WW), xp E q w' → XT z own cc nL ret fr lo w' rc' rs' pc lv E q) : XJ z own cc nL ret fr lo w rc rs pc lv st := by
  subst hst
  intro C H L n1 n2 ls hH hl hc hs hv
  obtain ⟨hr1, hr2, hr3, hr4, hzl⟩ := C.rest
  have hK := xx_back (l := zl z) (R := zR z) (p := zp z) (e := ze z) (below := zb z) (s := zs z) (sargs := za z) (len := 3) (W9 := 8) hM hzl (fun U mk hW hn => codeOk (zs z) U mk #[] hW hn (word_at hW (good_of_word (List.mem_filter.mp hcode).2) (C.w _ hcode))) (by omega) (by omega) (fun a' U hW => word_at hW (good_of_word (List.mem_filter.mp hcode).2) (C.w _ hcode)) (fun a' U hW => word_at hW (good_of_word (List.mem_filter.mp hini).2) (C.w _ hini))
  intro T hT X
  exact xx_fin C hl hc hs hb hv (vx_callSN X C.hx (bytes := bytes) (maxL := nL') (ret := ret') C.hown (va_Nw.use rfl (va_Nw.warmM C.warm (va_Nw.of rfl (C.base.2.1 _ hlink)))) (C.w _ hstat) (C.w _ hini) (C.w _ hcode) ⟨hd.1, hd.2.1⟩ hK (g := F0 (zm z) pc ls (as.reverse ++ rest)) rfl (hv.1.trans C.hml.symm) (argsL := as) (rest := rest) (hlen9 ▸ xx_arity hd.2.2) rfl (lv_room hcat) (by rw [C.hb]; exact d) (fun vm₁ hW₁ => ⟨by show n1 + mc ≤ _; omega, by show n2 + ms ≤ _; omega, rfl, State.WarmedH.trans C.warm hW₁, by show Hp _ _ T.heap; rw [hT]; exact hH⟩)) k kx
theorem xr_callI {y : MethodName} {bytes : ByteArray} {idx n9 fr' lo' mc ms nL' rc' rs' b : Nat} {as rest : List Value} {po : Option Value → WW → Prop} {xp : String → Nat → WW → Prop} (hM : Ct (zg z) y (Cond.code y bytes nL' none) fr' lo' mc ms w (.ref b :: as) po xp) (hlink : Cond.methodLink own idx y ∈ lw_all) (hin : Cond.instanceMethod y ∈ lw_all) (hini : Cond.initialized y.cls ∈ lw_all) (hcode : Cond.code y bytes nL' none ∈ lw_all) (hy1 : y.name = "<init>") (hd : y.cls ≠ "java/lang/invoke/MethodHandle" ∧ y.cls ≠ "java/lang/invoke/VarHandle" ∧ (parseMethodDescriptor y.desc).map (fun d => d.parameters.length) = some n9) (hlen9 : as.length = n9) (hroom : fr' + 1 ≤ fr ∧ 8 + (nL' + 11) + lo' ≤ lo) (hb : rc' + mc ≤ rc ∧ rs' + ms ≤ rs) (hcat : (rest.map fun v => v.category).sum ≤ 8) (d : decode cc pc = .ok (.invokespecial idx, 3)) (hst : st = as.reverse ++ .ref b :: rest)
    (k : ∀ (r : Option Value) (w' : WW), po r w' → XJ z own cc nL ret fr lo w' rc' rs' (pc + 3) lv (r.toList ++ rest)) (kx : ∀ (E : String) (q : Nat) (w' : WW), xp E q w' → XT z own cc nL ret fr lo w' rc' rs' pc lv E q) : XJ z own cc nL ret fr lo w rc rs pc lv st := by
  subst hst
  intro C H L n1 n2 ls hH hl hc hs hv
  obtain ⟨hr1, hr2, hr3, hr4, hzl⟩ := C.rest
  have hK := xx_back (l := zl z) (R := zR z) (p := zp z) (e := ze z) (below := zb z) (s := zs z) (sargs := za z) (len := 3) (W9 := 8) hM hzl (fun U mk hW hn => codeOk (zs z) U mk #[] hW hn (word_at hW (good_of_word (List.mem_filter.mp hcode).2) (C.w _ hcode))) (by omega) (by omega) (fun a' U hW => word_at hW (good_of_word (List.mem_filter.mp hcode).2) (C.w _ hcode)) (fun a' U hW => word_at hW (good_of_word (List.mem_filter.mp hini).2) (C.w _ hini))
  intro T hT X
  exact xx_fin C hl hc hs hb hv (vx_callI X C.hx (bytes := bytes) (maxL := nL') C.hown hy1 (C.w _ hlink) (C.w _ hin) (C.w _ hcode) ⟨hd.1, hd.2.1⟩ hK (g := F0 (zm z) pc ls (as.reverse ++ .ref b :: rest)) rfl (hv.1.trans C.hml.symm) (a := b) (argsL := as) (rest := rest) (hlen9 ▸ xx_arity hd.2.2) rfl (lv_room hcat) (by rw [C.hb]; exact d) (fun vm₁ hW₁ => ⟨by show n1 + mc ≤ _; omega, by show n2 + ms ≤ _; omega, rfl, State.WarmedH.trans C.warm hW₁, by show Hp _ _ T.heap; rw [hT]; exact hH⟩)) k kx
theorem xr_callIN {y : MethodName} {bytes : ByteArray} {idx n9 fr' lo' mc ms nL' rc' rs' b : Nat} {as rest : List Value} {po : Option Value → WW → Prop} {xp : String → Nat → WW → Prop} {host : String} (hM : Ct (zg z) y (Cond.code y bytes nL' none) fr' lo' mc ms w (.ref b :: as) po xp) (hlink : Cond.methodLinkNest own idx y host ∈ lw_tbl) (hin : Cond.instanceMethod y ∈ lw_all) (hini : Cond.initialized y.cls ∈ lw_all) (hcode : Cond.code y bytes nL' none ∈ lw_all) (hy1 : y.name = "<init>") (hd : y.cls ≠ "java/lang/invoke/MethodHandle" ∧ y.cls ≠ "java/lang/invoke/VarHandle" ∧ (parseMethodDescriptor y.desc).map (fun d => d.parameters.length) = some n9) (hlen9 : as.length = n9) (hroom : fr' + 1 ≤ fr ∧ 8 + (nL' + 11) + lo' ≤ lo) (hb : rc' + mc ≤ rc ∧ rs' + ms ≤ rs) (hcat : (rest.map fun v => v.category).sum ≤ 8) (d : decode cc pc = .ok (.invokespecial idx, 3)) (hst : st = as.reverse ++ .ref b :: rest)
    (k : ∀ (r : Option Value) (w' : WW), po r w' → XJ z own cc nL ret fr lo w' rc' rs' (pc + 3) lv (r.toList ++ rest)) (kx : ∀ (E : String) (q : Nat) (w' : WW), xp E q w' → XT z own cc nL ret fr lo w' rc' rs' pc lv E q) : XJ z own cc nL ret fr lo w rc rs pc lv st := by
  subst hst
  intro C H L n1 n2 ls hH hl hc hs hv
  obtain ⟨hr1, hr2, hr3, hr4, hzl⟩ := C.rest
  have hK := xx_back (l := zl z) (R := zR z) (p := zp z) (e := ze z) (below := zb z) (s := zs z) (sargs := za z) (len := 3) (W9 := 8) hM hzl (fun U mk hW hn => codeOk (zs z) U mk #[] hW hn (word_at hW (good_of_word (List.mem_filter.mp hcode).2) (C.w _ hcode))) (by omega) (by omega) (fun a' U hW => word_at hW (good_of_word (List.mem_filter.mp hcode).2) (C.w _ hcode)) (fun a' U hW => word_at hW (good_of_word (List.mem_filter.mp hini).2) (C.w _ hini))
  intro T hT X
  exact xx_fin C hl hc hs hb hv (vx_callIN X C.hx (bytes := bytes) (maxL := nL') C.hown hy1 (va_Nw.use rfl (va_Nw.warmM C.warm (va_Nw.of rfl (C.base.2.1 _ hlink)))) (C.w _ hin) (C.w _ hcode) ⟨hd.1, hd.2.1⟩ hK (g := F0 (zm z) pc ls (as.reverse ++ .ref b :: rest)) rfl (hv.1.trans C.hml.symm) (a := b) (argsL := as) (rest := rest) (hlen9 ▸ xx_arity hd.2.2) rfl (lv_room hcat) (by rw [C.hb]; exact d) (fun vm₁ hW₁ => ⟨by show n1 + mc ≤ _; omega, by show n2 + ms ≤ _; omega, rfl, State.WarmedH.trans C.warm hW₁, by show Hp _ _ T.heap; rw [hT]; exact hH⟩)) k kx
theorem xr_callF {y x : MethodName} {bytes : ByteArray} {idx n9 fr' lo' mc ms nL' rc' rs' b : Nat} {ret' : Option FieldType} {as rest : List Value} {po : Option Value → WW → Prop} {xp : String → Nat → WW → Prop} {ci : Nat} {q : vw_C} {fs : List Value} {cnt : Nat} (hM : Ct (zg z) y (Cond.code y bytes nL' ret') fr' lo' mc ms w (.ref b :: as) po xp) (hf : Ob w b ci fs) (hq : vwCl[ci]? = some q) (hlink : Cond.methodLink own idx x ∈ lw_all) (hin : Cond.instanceMethod y ∈ lw_all) (hse : Cond.selects q.1 x y ∈ lw_all) (hdecl : Cond.declares x ∈ lw_tbl) (hface : Cond.interfaceMethod x.cls x.cls x.name x.desc ∈ lw_tbl) (hpub : Cond.publicMethod y ∈ lw_tbl) (hunh : Cond.unhidden q.1 x.name x.desc ∈ lw_tbl) (hcast : Cond.castable q.1 x.cls ∈ lw_tbl) (hini : Cond.initialized y.cls ∈ lw_all) (hcode : Cond.code y bytes nL' ret' ∈ lw_all) (hd : x.cls ≠ "java/lang/invoke/MethodHandle" ∧ x.cls ≠ "java/lang/invoke/VarHandle" ∧ (parseMethodDescriptor x.desc).map (fun d => d.parameters.length) = some n9) (hlen9 : as.length = n9) (hroom : fr' + 1 ≤ fr ∧ 8 + (nL' + 11) + lo' ≤ lo) (hb : rc' + mc ≤ rc ∧ rs' + ms ≤ rs) (hcat : (rest.map fun v => v.category).sum ≤ 8) (d : decode cc pc = .ok (.invokeinterface idx cnt, 5)) (hst : st = as.reverse ++ .ref b :: rest)
    (k : ∀ (r : Option Value) (w' : WW), po r w' → XJ z own cc nL ret fr lo w' rc' rs' (pc + 5) lv (r.toList ++ rest)) (kx : ∀ (E : String) (q : Nat) (w' : WW), xp E q w' → XT z own cc nL ret fr lo w' rc' rs' pc lv E q) : XJ z own cc nL ret fr lo w rc rs pc lv st := by
  subst hst
  intro C H L n1 n2 ls hH hl hc hs hv
  obtain ⟨hr1, hr2, hr3, hr4, hzl⟩ := C.rest
  have hK := xx_back (l := zl z) (R := zR z) (p := zp z) (e := ze z) (below := zb z) (s := zs z) (sargs := za z) (len := 5) (W9 := 8) hM hzl (fun U mk hW hn => codeOk (zs z) U mk #[] hW hn (word_at hW (good_of_word (List.mem_filter.mp hcode).2) (C.w _ hcode))) (by omega) (by omega) (fun a' U hW => word_at hW (good_of_word (List.mem_filter.mp hcode).2) (C.w _ hcode)) (fun a' U hW => word_at hW (good_of_word (List.mem_filter.mp hini).2) (C.w _ hini))
  obtain ⟨cellB, hcB, hoB, hclB⟩ := xx_recv C hH hf hq
  obtain ⟨kB, hkB, -⟩ := Vm.findClass_spec hclB
  have hF0 : va_Fw q.1 x y (gU (zg z)) := ⟨va_tabs rfl rfl (C.base.2.1 _ hdecl), va_tabs rfl rfl (C.base.2.1 _ hface), va_tabs rfl rfl (C.base.2.1 _ hpub), va_tabs rfl rfl (C.base.2.1 _ hunh), va_tabs rfl rfl (C.base.2.1 _ hcast)⟩
  have hF9 : va_Fw q.1 x y (zs z) := va_Fw.moved ⟨hd.1, hd.2.1⟩ C.warm.alike hF0
  intro T hT X
  exact xx_fin C hl hc hs hb hv (vx_callIF X C.hx (C := q.1) (bytes := bytes) (maxL := nL') (ret := ret') C.hown (C.w _ hlink) (va_Nw.use rfl hF9.1) (va_Nw.use rfl hF9.2.1) (C.w _ hse) (C.w _ hin) (va_Nw.use rfl hF9.2.2.1) (va_Nw.use rfl hF9.2.2.2.1) (va_Nw.use rfl hF9.2.2.2.2) (C.w _ hcode) ⟨hd.1, hd.2.1⟩ hK (by rw [hT]; exact hcB) hoB hclB hkB (g := F0 (zm z) pc ls (as.reverse ++ .ref b :: rest)) rfl (hv.1.trans C.hml.symm) (argsL := as) (rest := rest) (hlen9 ▸ xx_arity (y := x) hd.2.2) rfl (lv_room hcat) (by rw [C.hb]; exact d) (fun vm₁ hW₁ => ⟨by show n1 + mc ≤ _; omega, by show n2 + ms ≤ _; omega, rfl, State.WarmedH.trans C.warm hW₁, by show Hp _ _ T.heap; rw [hT]; exact hH⟩)) k kx
end Fin
