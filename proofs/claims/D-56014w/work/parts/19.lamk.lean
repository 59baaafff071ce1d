/-! LAMK: invokedynamic at the ten sites: the one object, or a new one that holds what is captured (after the library's NT81, NT82) -/
set_option maxRecDepth 100000
section XM0
variable {α : Type}
theorem xm19 {x : Option CpInfo} {f : Nat → Nat → Option α} {r : α} (h : Lambda.shapeOf?.match_19 (fun _ => Option α) x f (fun _ => none) = some r) : ∃ b nt, x = some (.invokeDynamic b nt) ∧ f b nt = some r := by
  split at h
  · exact ⟨_, _, rfl, h⟩
  · cases h
theorem xm17 {x : Option CpInfo} {f : Nat → Option α} {r : α} (h : Lambda.shapeOf?.match_17 (fun _ => Option α) x f (fun _ => none) = some r) : ∃ y, f y = some r := by
  split at h
  · exact ⟨_, h⟩
  · cases h
theorem xm15 {x : Array Nat} {f : Nat → Nat → Nat → Option α} {r : α} (h : Lambda.shapeOf?.match_15 (fun _ => Option α) x f (fun _ => none) = some r) : ∃ a0 a1 a2, f a0 a1 a2 = some r := by
  rcases x with ⟨L⟩
  match L, h with
  | [], h => cases h
  | [_], h => cases h
  | [_, _], h => cases h
  | [a, b, c], h => exact ⟨a, b, c, h⟩
  | _ :: _ :: _ :: _ :: _, h => cases h
theorem xm9 {x : Option CpInfo} {f : Nat → Option α} {r : α} (h : Lambda.shapeOf?.match_9 (fun _ => Option α) x f (fun _ => none) = some r) : ∃ y, f y = some r := by
  split at h
  · exact ⟨_, h⟩
  · cases h
theorem xm12 {x : Option CpInfo} {f : Nat → Nat → Option α} {r : α} (h : Lambda.shapeOf?.match_12 (fun _ => Option α) x f (fun _ => none) = some r) : ∃ y z, f y z = some r := by
  split at h
  · exact ⟨_, _, h⟩
  · cases h
theorem xm6 {x : Option FieldType} {f : String → Option α} {r : α} (h : Lambda.shapeOf?.match_6 (fun _ => Option α) x f (fun _ => none) = some r) : ∃ y, f y = some r := by
  split at h
  · exact ⟨_, h⟩
  · cases h
end XM0
theorem xm_shape {cf : ClassFile} {index : Nat} {σ : Lambda.Shape} (h : Lambda.shapeOf? cf index = some σ) :
    ∃ (b nt : Nat) (desc : String) (site : MethodDescriptor), cf.constantPool[index]? = some (.invokeDynamic b nt) ∧ cf.constantPool.nameAndType? nt = some (σ.name, desc) ∧ parseMethodDescriptor desc = some site ∧ site.parameters = σ.captured := by
  unfold Lambda.shapeOf? at h
  obtain ⟨b, nt, hc, h⟩ := xm19 h
  obtain ⟨entries, -, h⟩ := Option.bind_eq_some_iff.mp h
  obtain ⟨bm, -, h⟩ := Option.bind_eq_some_iff.mp h
  obtain ⟨r, h⟩ := xm17 h
  obtain ⟨_, -, h⟩ := Option.bind_eq_some_iff.mp h
  obtain ⟨a0, a1, a2, h⟩ := xm15 h
  obtain ⟨d0, h⟩ := xm9 h
  obtain ⟨kind, r1, h⟩ := xm12 h
  obtain ⟨d2, h⟩ := xm9 h
  obtain ⟨⟨name, desc⟩, hnt, h⟩ := Option.bind_eq_some_iff.mp h
  obtain ⟨site, hsite, h⟩ := Option.bind_eq_some_iff.mp h
  obtain ⟨iface, h⟩ := xm6 h
  obtain ⟨⟨implClass, implName, implDesc, implItf⟩, -, h⟩ := Option.bind_eq_some_iff.mp h
  obtain ⟨x1, -, h⟩ := Option.bind_eq_some_iff.mp h
  obtain ⟨x2, -, h⟩ := Option.bind_eq_some_iff.mp h
  obtain ⟨x3, -, h⟩ := Option.bind_eq_some_iff.mp h
  obtain ⟨x4, -, h⟩ := Option.bind_eq_some_iff.mp h
  obtain ⟨x5, -, h⟩ := Option.bind_eq_some_iff.mp h
  cases h
  exact ⟨b, nt, desc, site, hc, hnt, hsite, rfl⟩
theorem xm_types {s : State} {d c : ClassId} {σ : Lambda.Shape} {dk : Class} {T : Array FieldType} (h : Lambda.isMade { classPath := fun _ => none } s.vm d σ c = true) (hd : s.vm.classes[d]? = some dk)
    (hO : ∀ o ok, s.vm.findClass "java/lang/Object" = some o → s.vm.classes[o]? = some ok → ok.instanceTypes.size = 0) (hlay : ((σ.file dk.name).bind (layoutFields · 0)).map (·.2.1) = some T) :
    ∃ k, s.vm.classes[c]? = some k ∧ k.instanceTypes = T ∧ k.kind = .ordinary := by
  obtain ⟨dk', k, ok, tk, file, cf, object, iface, t, lay, methods, target, found, h1, h2, h3, h4, h5, h6, h7, h8, h9, h10, h11, h12, h13, ⟨-, hkind, -⟩, -, hhid, -, -, -, -, -, ⟨hty, -⟩, -⟩ := Lambda.isMade_spec h
  cases hd.symm.trans h1
  have hsz := hO object ok h5 h7
  have hemp : ok.instanceTypes = #[] := Array.eq_empty_of_size_eq_zero hsz
  rw [hsz] at h8
  rw [h4] at hlay
  simp only [Option.bind_some, h8, Option.map_some, Option.some.injEq] at hlay
  exact ⟨k, h2, by rw [hty, hemp, hlay]; simp, hkind⟩
/-- A CONTRACT OUT OF A WALK, the method's place known -/
theorem Ct.ofN {g : GG} {y : MethodName} {cc : ByteArray} {nL fr lo mc ms : Nat} {ret : Option FieldType} {w : WW} {as : List Value} {po : Option Value → WW → Prop} {xp : String → Nat → WW → Prop} {lv : List (Option Value)} (hG : Base g) (hy : plainName y.cls = true) (hn : (lg_sl as).length ≤ nL) (hlv : lv0 as nL = lv)
    (body : ∀ z : ZZ, zg z = g → zpo z = po → zxp z = xp → (zt z).name = y.name → (∀ x ∈ (zc z).exceptionTable.toList, False) → (zs z).methodNamed? y = some (zm z) → XJ z y.cls cc nL ret fr lo w mc ms 0 lv []) : Ct g y (.code y cc nL ret) fr lo mc ms w as po xp := by
  refine MetFree.of_bodyS (code := cc) (maxLocals := nL) (ret := ret) hy ?_ ?_
  · intro args s m h hn
    obtain ⟨meth, c, h1, h2, h3, h4, h5, h6, -, -⟩ := Cond.code_spec hn (atoms_spec (ws := [.code y cc nL ret]) h _ List.mem_cons_self)
    exact ⟨meth, c, h1, h2, h3, h4, h5, h6⟩
  · intro p e s m args below meth c s₁ B hml hP _
    obtain ⟨rfl, hSt⟩ := hP
    have hh0 : s₁.heap = s.heap := by rw [B.state]; rfl
    have ht : ∀ x ∈ c.exceptionTable.toList, False := by
      obtain ⟨meth9, c9, h1, h2, -, -, -, -, h7, -⟩ := Cond.code_spec B.named (atoms_spec (ws := [.code y cc nL ret]) B.pre _ List.mem_cons_self)
      cases Option.some.inj (h1.symm.trans B.method)
      cases Option.some.inj (h2.symm.trans (Stand.of_body B).code)
      intro x hx
      rw [Array.isEmpty_iff.mp h7] at hx
      cases hx
    have hX := Stand.of_body B
    obtain ⟨t, a1, o, b1, b2, b3⟩ := body (p, gL g, e, (headSpec [.code y cc nL ret] ({ frames := fr, cells := mc, slots := ms, locals := lo } : Room)).room, s, m, as.toArray, below, meth, c, g, mc, ms, po, xp) rfl rfl rfl (name_of_methodNamed B.named B.method).1 ht B.named
      ⟨B.exec, B.bytes, B.returns, B.notSynchronized, hml, findClass_of_methodNamed B.named, hSt.1, hG, rfl, rfl, rfl, rfl, rfl⟩ s.heap [] 0 0 _ hSt.2 (fun q hq => nomatch hq) (by show 0 + mc ≤ mc; omega) (by show 0 + ms ≤ ms; omega) (hlv ▸ lv0_lh as hn) s₁ hh0 hX
    refine ⟨t, o, ?_, b1, b2, b3⟩
    rw [lg_entry_eq]
    exact a1
section XM1
variable {z : ZZ} {own : String} {cc : ByteArray} {nL fr lo rc rs pc : Nat} {ret : Option FieldType} {w : WW} {lv : List (Option Value)} {st : List Value}
theorem xm_at {g : GG} {s : State} {m : MethodId} {x : MethodName} {pc idx : Nat} {σ : Lambda.Shape} (hB : Base g) (hW : (gU g).WarmedH s.vm) (hmn : s.methodNamed? x = some m) (hsite : Cond.lambdaSite x pc idx σ ∈ flatC (Jvm.Cond.and given_1 narrow_1)) :
    ∃ (cK : ClassId) (one : Option Nat) (kS : Class) (cfS : ClassFile) (i0 p0 : Nat) (lk : Linked), (gU g).lambdaAt? x pc idx σ = some (cK, one) ∧ s.vm.classes[m.cls]? = some kS ∧ kS.cf = some cfS ∧ Lambda.shapeOf? cfS idx = some σ ∧ kS.name = x.cls ∧
      (kS.callSites.find? fun y => y.1 == m.idx && y.2.1 == pc) = some (i0, p0, lk) ∧ Lambda.isMade { classPath := fun _ => none } s.vm m.cls σ cK = true ∧
      ((∃ a cell, lk = .constant a ∧ one = some a ∧ σ.captured = [] ∧ (gU g).heap[a]? = some cell ∧ cell.cls = cK ∧ cell.vm = .none ∧ cell.slots = #[]) ∨ (lk = .makes cK ∧ one = none ∧ σ.captured ≠ [])) := by
  obtain ⟨cK, one, hat⟩ := Cond.lambdaSite_spec (flat_of_before _ hB.2.2.1 _ hsite)
  obtain ⟨m', kS, cfS, i0, p0, lk, hm', hkS, hcfS, hshape, hin, hfind, hmade, hcan, hlk⟩ := State.lambdaAt?_spec hat
  have hmm : m = m' := by
    have h9 := State.methodNamed?_setVm (s := gU g) hW.alike x
    rw [hm'] at h9
    exact Option.some.inj (hmn.symm.trans h9)
  subst hmm
  obtain ⟨kS', hkS', hnameS⟩ := className_of_methodNamed hm'
  cases Option.some.inj (hkS.symm.trans hkS')
  obtain ⟨k2, hk2, he⟩ := hW.alike.2.2 _ _ hkS
  exact ⟨cK, one, k2, cfS, i0, p0, lk, hat, hk2, by rw [he]; exact hcfS, hshape, by rw [he]; exact hnameS, by rw [he]; exact hfind, Lambda.isMade_warmer hW hmade, hlk⟩
theorem xr_lamC {x : MethodName} {idx : Nat} {σ : Lambda.Shape} (hmn : (zs z).methodNamed? x = some (zm z)) (hsite : Cond.lambdaSite x pc idx σ ∈ flatC (Jvm.Cond.and given_1 narrow_1)) (hcap : σ.captured = []) (hlo : (st.map fun v => v.category).sum + 3072 ≤ lo) (d : decode cc pc = .ok (.invokedynamic idx, 5))
    (k : ∀ a : Nat, LO (zg z) w a x pc idx σ [] → XJ z own cc nL ret fr lo w rc rs (pc + 5) lv (.ref a :: st)) : XJ z own cc nL ret fr lo w rc rs pc lv st := by
  intro C H L n1 n2 ls hH hl hc hs hv
  obtain ⟨hr1, hr2, -⟩ := C.rest
  obtain ⟨cK, one, kS, cfS, i0, p0, lk, hat, hk, hcf, hshape, -, hfind, -, hlk⟩ := xm_at C.base C.warm hmn hsite
  rcases hlk with ⟨a, cell, rfl, rfl, -, hcell, hcls, hvm, hsl⟩ | ⟨-, -, h⟩
  · intro T hT X
    have hab : a < gb (zg z) := (Array.getElem?_eq_some_iff.mp hcell).1
    obtain ⟨t, a1, b1⟩ := k a ⟨cK, some a, cell, hat, hcls, hvm, hsl, Or.inr ⟨hab, hcell⟩⟩ C H L n1 n2 ls hH hl hc hs hv T hT X
    exact ⟨t, X.lambdaConstant C.hx (g := F0 (zm z) pc ls st) rfl (hv.1.trans C.hml.symm) (by rw [C.hb]; exact d) hk hfind (by rw [X.admits.platform]; show 2 * 0 + (st.map fun v => v.category).sum + 3072 ≤ (zR z).locals; omega) a1, b1⟩
  · exact absurd hcap h
theorem xr_lamM {x : MethodName} {idx n9 rc' rs' : Nat} {σ : Lambda.Shape} {vals rest : List Value} {tys : Array FieldType} (hmn : (zs z).methodNamed? x = some (zm z)) (hsite : Cond.lambdaSite x pc idx σ ∈ flatC (Jvm.Cond.and given_1 narrow_1)) (hcap : σ.captured ≠ [])
    (hobj : Cond.instantiable "java/lang/Object" 0 ∈ lw_all) (hlay : ((σ.file x.cls).bind (layoutFields · 0)).map (·.2.1) = some tys) (hlen : vals.length = σ.captured.length) (hnar : ((tys.toList.zip vals).map fun (t, v) => narrow t v) = vals) (hn9 : vals.length = n9)
    (hfit : ∀ (i : Nat) (v : Value), vals[i]? = some v → ∃ t, tys[i]? = some t ∧ fits t v = true) (hlo : ((vals.reverse ++ rest).map fun v => v.category).sum + 3072 ≤ lo) (hb : rc' + 1 ≤ rc ∧ rs' + n9 ≤ rs) (d : decode cc pc = .ok (.invokedynamic idx, 5)) (hst : st = vals.reverse ++ rest)
    (k : ∀ (a : Nat) (e : WE), w.2 ≤ a → gb (zg z) ≤ a → LO (zg z) (wnew w a e) a x pc idx σ vals → XJ z own cc nL ret fr lo (wnew w a e) rc' rs' (pc + 5) lv (.ref a :: rest)) : XJ z own cc nL ret fr lo w rc rs pc lv st := by
  subst hst
  intro C H L n1 n2 ls hH hl hc hs hv
  obtain ⟨hr1, hr2, hr3, hr4, -⟩ := C.rest
  obtain ⟨cK, one, kS, cfS, i0, p0, lk, hat, hk, hcf, hshape, hname, hfind, hmade, hlk⟩ := xm_at C.base C.warm hmn hsite
  rcases hlk with ⟨a, cell, -, -, h, -⟩ | ⟨rfl, rfl, -⟩
  · exact absurd h hcap
  · obtain ⟨bsm, nt, desc, sig, hcp, hnt, hsig, hpar⟩ := xm_shape hshape
    obtain ⟨kK, hkK, htyK, hkindK⟩ := xm_types hmade hk (xl_obj C.base C.warm hobj) (by rw [hname]; exact hlay)
    intro T hT X
    have hE : ((kK.instanceTypes.toList.zip vals).map fun (t, v) => narrow t v) = vals := by rw [htyK]; exact hnar
    obtain ⟨X₁, st1⟩ := X.lambdaMakes C.hx (g := F0 (zm z) pc ls (vals.reverse ++ rest)) rfl (hv.1.trans C.hml.symm) (by rw [C.hb]; exact d) (vals := vals) (rest := rest) hk hfind hcf hcp hnt (parseLong_of_parse hsig) (by rw [hpar]; exact hlen) rfl hkK
      (by rw [X.admits.platform]; show 2 * 0 + ((vals.reverse ++ rest).map fun v => v.category).sum + 3072 ≤ (zR z).locals; omega) (by omega) (by rw [hE]; omega)
      (fun i v hv => by
        rw [hE] at hv
        have hv' : vals[i]? = some v := by simpa using hv
        obtain ⟨t, ht, hf⟩ := hfit i v hv'
        have ht' : kK.instanceTypes[i]? = some t := by rw [htyK]; exact ht
        simp [State.fitsSlot, State.slotType?, hkK, hkindK, ht', hf])
    rw [hE] at X₁ st1
    have hnew : (T.pushCell { cls := cK, slots := vals.toArray, vm := .none }).heap[T.heap.size]? = some { cls := cK, slots := vals.toArray, vm := .none } := State.heap_pushCell_size _ _
    have hsize : (T.pushCell { cls := cK, slots := vals.toArray, vm := .none }).heap.size = T.heap.size + 1 := by simp [State.pushCell]
    have hold : ∀ q : Nat, q < T.heap.size → (T.pushCell { cls := cK, slots := vals.toArray, vm := .none }).heap[q]? = T.heap[q]? := fun q hq => State.heap_pushCell_of_lt _ _ hq
    have hcnt : vals.toArray.size = n9 := by rw [← hn9]; rfl
    generalize T.pushCell { cls := cK, slots := vals.toArray, vm := .none } = T1 at X₁ st1 hnew hsize hold
    rw [hcnt] at X₁
    rw [hT] at hnew hsize hold st1
    obtain ⟨t, a1, b1⟩ := k H.size (.inr { cls := cK, slots := vals.toArray, vm := .none }) hH.1 (Nat.le_trans hH.2.1 hH.1) ⟨cK, none, _, hat, rfl, rfl, rfl, Or.inl (Wa.new_eq _ _ _)⟩ C T1.heap L (n1 + 1) (n2 + n9) ls (hH.new hnew hsize hold) hl (by omega) (by omega) hv T1 rfl X₁
    exact ⟨t, st1 _ a1, b1⟩
end XM1
