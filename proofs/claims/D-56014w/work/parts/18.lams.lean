/-! 18.lams.lean.txt (written by tools/mklams.py): the ten lambda sites: the made class, its call; after Example/ToyCaptured of the library -/
set_option maxRecDepth 100000
/-! lambda$quietCount$5 -/
def sg1 : Lambda.Shape := ({ iface := "BenchBroker$Value", name := "of", sam := ({ parameters := [(Jvm.ClassFile.FieldType.object "BenchBroker$Item")], returnType := (Option.some Jvm.ClassFile.FieldType.int) } : Jvm.ClassFile.MethodDescriptor), captured := [(Jvm.ClassFile.FieldType.object "BenchBroker$Park")], kind := 5, implClass := "BenchBroker$Park", implName := "lambda$quietCount$5", implDesc := ({ parameters := [(Jvm.ClassFile.FieldType.object "BenchBroker$Bench")], returnType := (Option.some Jvm.ClassFile.FieldType.int) } : Jvm.ClassFile.MethodDescriptor), implItf := false, inst := ({ parameters := [(Jvm.ClassFile.FieldType.object "BenchBroker$Bench")], returnType := (Option.some Jvm.ClassFile.FieldType.int) } : Jvm.ClassFile.MethodDescriptor) } : Jvm.Lambda.Shape)
def sD1 : ClassFile := (sg1.file "BenchBroker$Park").getD { minorVersion := 0, majorVersion := 0, constantPool := #[], accessFlags := 0, thisClass := 0, superClass := 0, interfaces := #[], fields := #[], methods := #[], attributes := #[] }
def sf1 : Method := ((layoutMethods sD1).bind (·[1]?)).getD default
def sl1 : Array Field × Array FieldType × Array FieldType := (layoutFields sD1 0).getD (#[], #[], #[])
theorem sfile1 : sg1.file "BenchBroker$Park" = some sD1 := by
  have h : (sg1.file "BenchBroker$Park").isSome = true := by decide +kernel
  obtain ⟨x, hx⟩ := Option.isSome_iff_exists.mp h
  simp [sD1, hx]
theorem ssec1 : ∀ ms, layoutMethods sD1 = some ms → ms[1]? = some sf1 := by
  intro ms hms
  have h : ((layoutMethods sD1).bind (·[1]?)).isSome = true := by decide +kernel
  obtain ⟨x, hx⟩ := Option.isSome_iff_exists.mp h
  have hf : sf1 = x := by simp [sf1, hx]
  rw [hms] at hx
  rw [hf]
  exact hx
theorem slaid1 : layoutFields sD1 0 = some sl1 := by
  have h : (layoutFields sD1 0).isSome = true := by decide +kernel
  obtain ⟨x, hx⟩ := Option.isSome_iff_exists.mp h
  simp [sl1, hx]
def sB1 : ByteArray := ⟨#[42, 180, 0, 15, 43, 192, 0, 19, 182, 0, 25, 172]⟩
theorem sd1_0 : decode sB1 0 = .ok (.aload_n 0, 1) := by decide +kernel
theorem sd1_1 : decode sB1 1 = .ok (.getfield 15, 3) := by decide +kernel
theorem sd1_4 : decode sB1 4 = .ok (.aload_n 1, 1) := by decide +kernel
theorem sd1_5 : decode sB1 5 = .ok (.checkcast 19, 3) := by decide +kernel
theorem sd1_8 : decode sB1 8 = .ok (.invokevirtual 25, 3) := by decide +kernel
theorem sd1_11 : decode sB1 11 = .ok (.ireturn, 1) := by decide +kernel
theorem scode1 : (sf1.code.map fun c => (c.code.data, c.maxLocals)) = some (sB1.data, 2) := by decide +kernel
theorem sflag1 : (sf1.accessFlags, sf1.name, sf1.sig.returnType) = (0x0001, "of", some FieldType.int) := by decide +kernel
theorem seM1 : sD1.constantPool[25]? = some (.methodref 21 24) ∧ sD1.constantPool.className? 21 = some "BenchBroker$Park" ∧ sD1.constantPool.nameAndType? 24 = some ("lambda$quietCount$5", "(LBenchBroker$Bench;)I") := by decide +kernel
theorem seC1 : sD1.constantPool[21]? = some (.class_ 20) ∧ sD1.constantPool.string? 20 = some "BenchBroker$Park" ∧ 21 ≠ sD1.thisClass := by decide +kernel
theorem seX1 : sD1.constantPool[19]? = some (.class_ 18) ∧ sD1.constantPool.string? 18 = some "BenchBroker$Bench" ∧ 19 ≠ sD1.thisClass := by decide +kernel
theorem seF1_0 : sD1.constantPool[15]? = some (.fieldref 2 14) ∧ sD1.constantPool.nameAndType? 14 = some ("arg$1", "LBenchBroker$Park;") ∧ sl1.1.findIdx? (·.name == "arg$1") = some 0 ∧ (sl1.1[0]?).map (fun f => (f.isStatic, f.slot)) = some (false, 0) := by decide +kernel
theorem smade1 {vm : Vm} {d c cT : ClassId} {dk : Class} (hd : vm.classes[d]? = some dk) (hname : dk.name = "BenchBroker$Park") (h : Lambda.isMade { classPath := fun _ => none } vm d sg1 c = true)
    (hO : ∀ o ok, vm.findClass "java/lang/Object" = some o → vm.classes[o]? = some ok → ok.instanceTypes.size = 0) (hT : vm.findClass "BenchBroker$Bench" = some cT) :
    ∃ (k tk : Class) (file : ClassFile) (methk : Method) (ck : Code) (toy : ClassId) (t : MethodId) (f0 : Field),
      vm.classes[c]? = some k ∧ k.name = "BenchBroker$Park$$Lambda" ∧ k.cf = some file ∧ file.constantPool = sD1.constantPool ∧
      vm.method? ⟨c, 1⟩ = some methk ∧ methk.code = some ck ∧ ck.code = sB1 ∧ ck.maxLocals = 2 ∧ methk.locks = false ∧ methk.accessFlags = 0x0001 ∧ methk.sig.returnType = some .int ∧
      vm.findClass "BenchBroker$Park" = some toy ∧ vm.classes[toy]? = some tk ∧ tk.isInterface = false ∧ ((methodIn toy "lambda$quietCount$5" "(LBenchBroker$Bench;)I" tk.isInterface none).ask { classPath := fun _ => none } vm).1 = .ok t ∧
      vm.methodReady c 25 t ∧ vm.classReady c 21 toy ∧ vm.classReady c 19 cT ∧ vm.fieldReady c 15 c f0 ∧ f0.isStatic = false ∧ f0.slot = 0 := by
  obtain ⟨dk', k, ok, tk, file, cf, object, iface, toy, lay, methods, target, found, hd', hk, hfile, hcf, hobj, -, hok, hlay, hms, ht, htk, hg, -, hrec, -, -, -, hitf, hpool, hmeth, hfields, -, hres, -⟩ := Lambda.isMade_spec h
  cases hd.symm.trans hd'
  rw [hname, sfile1] at hcf
  cases hcf
  rw [hO object ok hobj hok, slaid1] at hlay
  cases hlay
  obtain ⟨b, hb, hsame⟩ := hmeth 1 sf1 (ssec1 methods hms)
  simp only [Lambda.sameMethod, Bool.and_eq_true, decide_eq_true_eq] at hsame
  obtain ⟨⟨hn, -, hsig, hfl⟩, hcode⟩ := hsame
  have fc := scode1
  have ff := sflag1
  simp only [Prod.mk.injEq] at ff
  obtain ⟨g0, hg0, hp0⟩ := Option.map_eq_some_iff.mp seF1_0.2.2.2
  simp only [Prod.mk.injEq] at hp0
  cases hfc : sf1.code with
  | none => rw [hfc] at fc; cases fc
  | some x =>
    cases hbc : b.code with
    | none => simp [hfc, hbc] at hcode
    | some y =>
      simp only [hfc, hbc, Bool.and_eq_true, decide_eq_true_eq] at hcode
      simp only [hfc, Option.map_some, Option.some.injEq, Prod.mk.injEq] at fc
      refine ⟨k, tk, file, b, y, toy, target, g0, hk, by rw [hrec.1, hname]; rfl, hfile, hpool.2.1, by simp [Vm.method?, hk, hb], hbc, ?_, by rw [← hcode.1.1.1.1.2.1]; exact fc.2, ?_, by rw [← hfl]; exact ff.1, by rw [← hsig]; exact ff.2.2, ht, htk, hitf, hg,
        ⟨k, hk, hres 25 _ (Lambda.resolvedOf_method seM1.1 seM1.2.1 ht htk seM1.2.2 hg)⟩, ⟨k, hk, hres 21 _ (Lambda.resolvedOf_class seC1.1 seC1.2.2 seC1.2.1 ht)⟩, ⟨k, hk, hres 19 _ (Lambda.resolvedOf_class seX1.1 seX1.2.2 seX1.2.1 hT)⟩, ⟨k, 0, k, hk, hres 15 _ (Lambda.resolvedOf_field seF1_0.1 seF1_0.2.1 seF1_0.2.2.1), hk, hfields 0 _ hg0⟩, hp0.1, hp0.2⟩
      · rw [← hcode.1.1.1.1.2.2]
        exact ByteArray.ext fc.1
      · simp [Method.locks, Method.isSynchronized, ← hfl, ff.1, hasFlag, Acc.synchronized]
set_option maxHeartbeats 1000000 in
theorem xr_lam1 {z : ZZ} {own : String} {cc : ByteArray} {nL fr lo rc rs pc : Nat} {ret : Option FieldType} {w : WW} {lv : List (Option Value)} {st : List Value} {idx cnt a x1 b fr' lo' mc ms rc' rs' : Nat}  {fsx1 fsb rest : List Value} {po : Option Value → WW → Prop}
    (hlo9 : LO (zg z) w a ⟨"BenchBroker$Park", "quietCount", "()I"⟩ 5 255 sg1 [.ref b]) (hx1 : Ob w x1 3 fsx1) (hb9 : Ob w b 0 fsb)
    (hM : Ct (zg z) yX2_lambda_quietCount_5 (.code yX2_lambda_quietCount_5 cX2_lambda_quietCount_5 2 (some .int)) fr' lo' mc ms w [.ref b, .ref x1] po xF) (hlink : Cond.methodLink own idx ⟨"BenchBroker$Value", "of", "(LBenchBroker$Item;)I"⟩ ∈ lw_all)
    (hroom : fr' + 2 ≤ fr ∧ 8 + (2 + 11) + (2 + 11 + lo') ≤ lo) (hb : rc' + mc ≤ rc ∧ rs' + ms ≤ rs) (hcat : (rest.map fun v => v.category).sum ≤ 8) (d : decode cc pc = .ok (.invokeinterface idx cnt, 5)) (hst : st = [.ref x1].reverse ++ .ref a :: rest)
    (hpo : ∀ v w', po v w' → ∃ i : Int32, v = some (.int i) ∧ narrow .int (.int i) = .int i)
    (k : ∀ (r : Option Value) (w' : WW), po r w' → XJ z own cc nL ret fr lo w' rc' rs' (pc + 5) lv (r.toList ++ rest)) : XJ z own cc nL ret fr lo w rc rs pc lv st := by
  obtain ⟨cK, one, cell, hat, rfl, hvm, hsl, hwhere⟩ := hlo9
  have hcellH : ∀ H, Hp (zg z) w H → H[a]? = some cell := fun H hH => by
    rcases hwhere with h | ⟨h1, h2⟩
    · exact hH.at h
    · exact ((hH.2.2.1 a h1).1).trans h2
  refine xr_lam (x := ⟨"BenchBroker$Value", "of", "(LBenchBroker$Item;)I"⟩) (as := [.ref x1]) (asI := [.ref b, .ref x1]) (maxL := 2) (pcR := 11) (fr9 := fr' + 1) (lo9 := 2 + 11 + lo') hcellH hvm (fun C => ?_) (fun C => ?_) hlink q384 q383 (n9 := 1) (by decide +kernel) rfl ⟨by omega, hroom.2⟩ hb hcat d hst (rt := .int) (by decide) hpo k
  · obtain ⟨m, dk, hdk, hdn, hmade, hcan⟩ := xl_site hat C.warm
    obtain ⟨kK, tk, file, methk, ck, toy, t, f0, hkK, hkn, hfile, hpool, hmk, hck, hbytes, hml, hlk, hfl, -⟩ := smade1 hdk hdn hmade (xl_obj C.base C.warm q2802) (C.K.1 3 _ rfl).2.1
    exact xFn_site hmade hcan rfl rfl (by decide +kernel) (C.wF q384 q383 (by decide)).2 hkK hmk hfl
  · obtain ⟨m, dk, hdk, hdn, hmade, hcan⟩ := xl_site hat C.warm
    obtain ⟨kK, tk, file, methk, ck, toy, t, f0, hkK, hkn, hfile, hpool, hmk, hck, hbytes, hml, hlk, hfl, hret, -⟩ := smade1 hdk hdn hmade (xl_obj C.base C.warm q2802) (C.K.1 3 _ rfl).2.1
    refine ⟨methk, ck, kK, hkK, hkn, hmk, hck, hlk, hml, hret, by rw [hbytes]; exact sd1_11, ?_⟩
    intro R' s' below' U₀ Y₀ hSt hWs hWU hfr9 hlo9 hmc9 hms9
    obtain ⟨hr1, hr2, hr3, hr4, hzl⟩ := C.rest
    have hx9 := C.hx
    have hKU := va_K.moved hSt.1.alike C.base.1
    have hCT := (hKU.1 3 _ rfl).2
    obtain ⟨hCT1, kT, hkT, -⟩ := id hCT
    obtain ⟨m2, dk2, hdk2, hdn2, hmade2, hcan2⟩ := xl_site hat hSt.1
    obtain ⟨kK2, tk2, file2, methk2, ck2, toy2, t2, g0, hkK2, hkn2, hfile2, hpool2, hmk2, hck2, hbytes2, hml2, hlk2, hfl2, hret2, htoy2, htk2, hitf2, hlook2, hmr2, hcr2, hxr2, hf0, hfs0, hfn0⟩ := smade1 hdk2 hdn2 hmade2 (xl_obj C.base hSt.1 q2802) hCT1
    have hcU : U₀.heap[a]? = some cell := hcellH _ hSt.2
    obtain ⟨-, -, cx1, hcx1, hccx1, hcvx1, -⟩ := hSt.2.at hx1
    have hK := xx_back (l := zl z) (R := R') (p := zp z) (e := ze z) (below := below') (s := s') (sargs := (Value.ref a :: [.ref x1]).toArray) (len := 3) (W9 := 0) hM hzl (fun U mk hW hn => codeOk s' U mk #[] hW hn (word_at (State.WarmedH.trans hWs hW) (good_of_word (List.mem_filter.mp q319).2) (C.w _ q319))) (by omega) (by omega) (fun a' U hW => word_at (State.WarmedH.trans hWs hW) (good_of_word (List.mem_filter.mp q319).2) (C.w _ q319)) (fun a' U hW => word_at (State.WarmedH.trans hWs hW) (good_of_word (List.mem_filter.mp q87).2) (C.w _ q87))
    obtain ⟨-, -, cb, hcb, hccb, hcvb, -⟩ := hSt.2.at hb9
    have htb : cb.cls = toy2 := by
      rw [hccb]
      exact Option.some.inj ((hKU.1 0 _ rfl).2.1.symm.trans htoy2)
    have k0 : Steps (zp z).tables (ze z) below' (U₀.setTop (entryFrame ⟨cell.cls, 1⟩ (Value.ref a :: [.ref x1]).toArray 2)) (U₀.setTop { method := ⟨cell.cls, 1⟩, pc := 0, locals := #[.val (.ref a), .val (.ref x1)], stack := [], locked := none }) := Steps.refl _
    have k1 : Steps (zp z).tables (ze z) below' (U₀.setTop (entryFrame ⟨cell.cls, 1⟩ (Value.ref a :: [.ref x1]).toArray 2)) (U₀.setTop { method := ⟨cell.cls, 1⟩, pc := 1, locals := #[.val (.ref a), .val (.ref x1)], stack := [.ref a], locked := none }) := by
      refine k0.trans ?_
      have hd9 : decode ck.code 0 = .ok (.aload_n 0, 1) := by rw [hbytes]; exact sd1_0
      jvm_step Y₀.here [hx9, hd9, Value.isRef]
      exact Steps.refl _
    have k2 := xl_getf Y₀ hx9 (g := { method := ⟨cell.cls, 1⟩, pc := 1, locals := #[.val (.ref a), .val (.ref x1)], stack := [.ref a], locked := none }) rfl (index := 15) (a := a) (field := g0) (cell := cell) (v := .ref b) (rest := []) hf0 hfs0 rfl hcU (by rw [hvm]; simp) (by rw [hfn0, hsl]; rfl) (by rw [hbytes]; exact sd1_1) k1
    have k3 : Steps (zp z).tables (ze z) below' (U₀.setTop (entryFrame ⟨cell.cls, 1⟩ (Value.ref a :: [.ref x1]).toArray 2)) (U₀.setTop { method := ⟨cell.cls, 1⟩, pc := 5, locals := #[.val (.ref a), .val (.ref x1)], stack := [.ref x1, .ref b], locked := none }) := by
      refine k2.trans ?_
      have hd9 : decode ck.code 4 = .ok (.aload_n 1, 1) := by rw [hbytes]; exact sd1_4
      jvm_step Y₀.here [hx9, hd9, Value.isRef]
      exact Steps.refl _
    have k4 := xl_cast Y₀ hx9 (g := { method := ⟨cell.cls, 1⟩, pc := 5, locals := #[.val (.ref a), .val (.ref x1)], stack := [.ref x1, .ref b], locked := none }) rfl (index := 19) (a := x1) (cell := cx1) (ks := kT) (kt := kT) (rest := [.ref b]) hxr2 rfl hcx1 (fun q h => by rw [hcvx1] at h; cases h) (by rw [hccx1]; exact hkT) hkT (by rw [hccx1]; exact va_assign hCT) (by rw [hbytes]; exact sd1_5) k3
    obtain ⟨v, B, Y₁, hpost, kE⟩ := xl_virtual Y₀ hx9 (gf := { method := ⟨cell.cls, 1⟩, pc := 8, locals := #[.val (.ref a), .val (.ref x1)], stack := [.ref x1, .ref b], locked := none }) rfl (by rw [hml]; rfl) (index := 25) (a := b) (cell := cb) (y := yX2_lambda_quietCount_5) (as := [.ref x1]) (rest := []) (by rw [htb]; exact xV_made Y₀.admits (a' := #[]) (n := 1) hkK2 hfile2 (by rw [hpool2]; exact seM1.1) hmr2 hcr2 htoy2 htk2 hitf2 hlook2 (by decide) (word_at hWU (good_of_word (List.mem_filter.mp q319).2) (C.w _ q319)) (word_at hWU (good_of_word (List.mem_filter.mp q318).2) (C.w _ q318)) (word_at hWU (good_of_word (List.mem_filter.mp qs0).2) (C.w _ qs0)) (sig := ⟨[.object "BenchBroker$Bench"], some .int⟩) (by decide +kernel) rfl) rfl hcb (fun q h => by rw [hcvb] at h; cases h) hK (by show 2 * 0 + 0 ≤ 0; decide) ⟨by show 0 + mc ≤ _; omega, by show 0 + ms ≤ _; omega, rfl, hSt⟩ (by rw [hbytes]; exact sd1_8) k4
    rw [List.append_nil] at kE
    exact ⟨v, B, _, Y₁, hpost, kE⟩
/-! lambda$noiseAt$0 -/
def sg2 : Lambda.Shape := ({ iface := "BenchBroker$Value", name := "of", sam := ({ parameters := [(Jvm.ClassFile.FieldType.object "BenchBroker$Item")], returnType := (Option.some Jvm.ClassFile.FieldType.int) } : Jvm.ClassFile.MethodDescriptor), captured := [Jvm.ClassFile.FieldType.int, Jvm.ClassFile.FieldType.int], kind := 6, implClass := "BenchBroker$Park", implName := "lambda$noiseAt$0", implDesc := ({ parameters := [Jvm.ClassFile.FieldType.int, Jvm.ClassFile.FieldType.int, (Jvm.ClassFile.FieldType.object "BenchBroker$Fountain")], returnType := (Option.some Jvm.ClassFile.FieldType.int) } : Jvm.ClassFile.MethodDescriptor), implItf := false, inst := ({ parameters := [(Jvm.ClassFile.FieldType.object "BenchBroker$Fountain")], returnType := (Option.some Jvm.ClassFile.FieldType.int) } : Jvm.ClassFile.MethodDescriptor) } : Jvm.Lambda.Shape)
def sD2 : ClassFile := (sg2.file "BenchBroker$Park").getD { minorVersion := 0, majorVersion := 0, constantPool := #[], accessFlags := 0, thisClass := 0, superClass := 0, interfaces := #[], fields := #[], methods := #[], attributes := #[] }
def sf2 : Method := ((layoutMethods sD2).bind (·[1]?)).getD default
def sl2 : Array Field × Array FieldType × Array FieldType := (layoutFields sD2 0).getD (#[], #[], #[])
theorem sfile2 : sg2.file "BenchBroker$Park" = some sD2 := by
  have h : (sg2.file "BenchBroker$Park").isSome = true := by decide +kernel
  obtain ⟨x, hx⟩ := Option.isSome_iff_exists.mp h
  simp [sD2, hx]
theorem ssec2 : ∀ ms, layoutMethods sD2 = some ms → ms[1]? = some sf2 := by
  intro ms hms
  have h : ((layoutMethods sD2).bind (·[1]?)).isSome = true := by decide +kernel
  obtain ⟨x, hx⟩ := Option.isSome_iff_exists.mp h
  have hf : sf2 = x := by simp [sf2, hx]
  rw [hms] at hx
  rw [hf]
  exact hx
theorem slaid2 : layoutFields sD2 0 = some sl2 := by
  have h : (layoutFields sD2 0).isSome = true := by decide +kernel
  obtain ⟨x, hx⟩ := Option.isSome_iff_exists.mp h
  simp [sl2, hx]
def sB2 : ByteArray := ⟨#[42, 180, 0, 16, 42, 180, 0, 18, 43, 192, 0, 22, 184, 0, 28, 172]⟩
theorem sd2_0 : decode sB2 0 = .ok (.aload_n 0, 1) := by decide +kernel
theorem sd2_1 : decode sB2 1 = .ok (.getfield 16, 3) := by decide +kernel
theorem sd2_4 : decode sB2 4 = .ok (.aload_n 0, 1) := by decide +kernel
theorem sd2_5 : decode sB2 5 = .ok (.getfield 18, 3) := by decide +kernel
theorem sd2_8 : decode sB2 8 = .ok (.aload_n 1, 1) := by decide +kernel
theorem sd2_9 : decode sB2 9 = .ok (.checkcast 22, 3) := by decide +kernel
theorem sd2_12 : decode sB2 12 = .ok (.invokestatic 28, 3) := by decide +kernel
theorem sd2_15 : decode sB2 15 = .ok (.ireturn, 1) := by decide +kernel
theorem scode2 : (sf2.code.map fun c => (c.code.data, c.maxLocals)) = some (sB2.data, 2) := by decide +kernel
theorem sflag2 : (sf2.accessFlags, sf2.name, sf2.sig.returnType) = (0x0001, "of", some FieldType.int) := by decide +kernel
theorem seM2 : sD2.constantPool[28]? = some (.methodref 24 27) ∧ sD2.constantPool.className? 24 = some "BenchBroker$Park" ∧ sD2.constantPool.nameAndType? 27 = some ("lambda$noiseAt$0", "(IILBenchBroker$Fountain;)I") := by decide +kernel
theorem seC2 : sD2.constantPool[24]? = some (.class_ 23) ∧ sD2.constantPool.string? 23 = some "BenchBroker$Park" ∧ 24 ≠ sD2.thisClass := by decide +kernel
theorem seX2 : sD2.constantPool[22]? = some (.class_ 21) ∧ sD2.constantPool.string? 21 = some "BenchBroker$Fountain" ∧ 22 ≠ sD2.thisClass := by decide +kernel
theorem seF2_0 : sD2.constantPool[16]? = some (.fieldref 2 15) ∧ sD2.constantPool.nameAndType? 15 = some ("arg$1", "I") ∧ sl2.1.findIdx? (·.name == "arg$1") = some 0 ∧ (sl2.1[0]?).map (fun f => (f.isStatic, f.slot)) = some (false, 0) := by decide +kernel
theorem seF2_1 : sD2.constantPool[18]? = some (.fieldref 2 17) ∧ sD2.constantPool.nameAndType? 17 = some ("arg$2", "I") ∧ sl2.1.findIdx? (·.name == "arg$2") = some 1 ∧ (sl2.1[1]?).map (fun f => (f.isStatic, f.slot)) = some (false, 1) := by decide +kernel
theorem smade2 {vm : Vm} {d c cT : ClassId} {dk : Class} (hd : vm.classes[d]? = some dk) (hname : dk.name = "BenchBroker$Park") (h : Lambda.isMade { classPath := fun _ => none } vm d sg2 c = true)
    (hO : ∀ o ok, vm.findClass "java/lang/Object" = some o → vm.classes[o]? = some ok → ok.instanceTypes.size = 0) (hT : vm.findClass "BenchBroker$Fountain" = some cT) :
    ∃ (k tk : Class) (file : ClassFile) (methk : Method) (ck : Code) (toy : ClassId) (t : MethodId) (f0 : Field) (f1 : Field),
      vm.classes[c]? = some k ∧ k.name = "BenchBroker$Park$$Lambda" ∧ k.cf = some file ∧ file.constantPool = sD2.constantPool ∧
      vm.method? ⟨c, 1⟩ = some methk ∧ methk.code = some ck ∧ ck.code = sB2 ∧ ck.maxLocals = 2 ∧ methk.locks = false ∧ methk.accessFlags = 0x0001 ∧ methk.sig.returnType = some .int ∧
      vm.findClass "BenchBroker$Park" = some toy ∧ vm.classes[toy]? = some tk ∧ tk.isInterface = false ∧ ((methodIn toy "lambda$noiseAt$0" "(IILBenchBroker$Fountain;)I" tk.isInterface none).ask { classPath := fun _ => none } vm).1 = .ok t ∧
      vm.methodReady c 28 t ∧ vm.classReady c 24 toy ∧ vm.classReady c 22 cT ∧ vm.fieldReady c 16 c f0 ∧ f0.isStatic = false ∧ f0.slot = 0 ∧ vm.fieldReady c 18 c f1 ∧ f1.isStatic = false ∧ f1.slot = 1 := by
  obtain ⟨dk', k, ok, tk, file, cf, object, iface, toy, lay, methods, target, found, hd', hk, hfile, hcf, hobj, -, hok, hlay, hms, ht, htk, hg, -, hrec, -, -, -, hitf, hpool, hmeth, hfields, -, hres, -⟩ := Lambda.isMade_spec h
  cases hd.symm.trans hd'
  rw [hname, sfile2] at hcf
  cases hcf
  rw [hO object ok hobj hok, slaid2] at hlay
  cases hlay
  obtain ⟨b, hb, hsame⟩ := hmeth 1 sf2 (ssec2 methods hms)
  simp only [Lambda.sameMethod, Bool.and_eq_true, decide_eq_true_eq] at hsame
  obtain ⟨⟨hn, -, hsig, hfl⟩, hcode⟩ := hsame
  have fc := scode2
  have ff := sflag2
  simp only [Prod.mk.injEq] at ff
  obtain ⟨g0, hg0, hp0⟩ := Option.map_eq_some_iff.mp seF2_0.2.2.2
  simp only [Prod.mk.injEq] at hp0
  obtain ⟨g1, hg1, hp1⟩ := Option.map_eq_some_iff.mp seF2_1.2.2.2
  simp only [Prod.mk.injEq] at hp1
  cases hfc : sf2.code with
  | none => rw [hfc] at fc; cases fc
  | some x =>
    cases hbc : b.code with
    | none => simp [hfc, hbc] at hcode
    | some y =>
      simp only [hfc, hbc, Bool.and_eq_true, decide_eq_true_eq] at hcode
      simp only [hfc, Option.map_some, Option.some.injEq, Prod.mk.injEq] at fc
      refine ⟨k, tk, file, b, y, toy, target, g0, g1, hk, by rw [hrec.1, hname]; rfl, hfile, hpool.2.1, by simp [Vm.method?, hk, hb], hbc, ?_, by rw [← hcode.1.1.1.1.2.1]; exact fc.2, ?_, by rw [← hfl]; exact ff.1, by rw [← hsig]; exact ff.2.2, ht, htk, hitf, hg,
        ⟨k, hk, hres 28 _ (Lambda.resolvedOf_method seM2.1 seM2.2.1 ht htk seM2.2.2 hg)⟩, ⟨k, hk, hres 24 _ (Lambda.resolvedOf_class seC2.1 seC2.2.2 seC2.2.1 ht)⟩, ⟨k, hk, hres 22 _ (Lambda.resolvedOf_class seX2.1 seX2.2.2 seX2.2.1 hT)⟩, ⟨k, 0, k, hk, hres 16 _ (Lambda.resolvedOf_field seF2_0.1 seF2_0.2.1 seF2_0.2.2.1), hk, hfields 0 _ hg0⟩, hp0.1, hp0.2, ⟨k, 1, k, hk, hres 18 _ (Lambda.resolvedOf_field seF2_1.1 seF2_1.2.1 seF2_1.2.2.1), hk, hfields 1 _ hg1⟩, hp1.1, hp1.2⟩
      · rw [← hcode.1.1.1.1.2.2]
        exact ByteArray.ext fc.1
      · simp [Method.locks, Method.isSynchronized, ← hfl, ff.1, hasFlag, Acc.synchronized]
set_option maxHeartbeats 1000000 in
theorem xr_lam2 {z : ZZ} {own : String} {cc : ByteArray} {nL fr lo rc rs pc : Nat} {ret : Option FieldType} {w : WW} {lv : List (Option Value)} {st : List Value} {idx cnt a x1 fr' lo' mc ms rc' rs' : Nat} {i0 i1 : Int32} {fsx1 rest : List Value} {po : Option Value → WW → Prop}
    (hlo9 : LO (zg z) w a ⟨"BenchBroker$Park", "noiseAt", "(II)I"⟩ 6 109 sg2 [.int i0, .int i1]) (hx1 : Ob w x1 4 fsx1)
    (hM : Ct (zg z) yX2_lambda_noiseAt_0 (.code yX2_lambda_noiseAt_0 cX2_lambda_noiseAt_0 3 (some .int)) fr' lo' mc ms w [.int i0, .int i1, .ref x1] po xF) (hlink : Cond.methodLink own idx ⟨"BenchBroker$Value", "of", "(LBenchBroker$Item;)I"⟩ ∈ lw_all)
    (hroom : fr' + 2 ≤ fr ∧ 8 + (2 + 11) + (3 + 11 + lo') ≤ lo) (hb : rc' + mc ≤ rc ∧ rs' + ms ≤ rs) (hcat : (rest.map fun v => v.category).sum ≤ 8) (d : decode cc pc = .ok (.invokeinterface idx cnt, 5)) (hst : st = [.ref x1].reverse ++ .ref a :: rest)
    (hpo : ∀ v w', po v w' → ∃ i : Int32, v = some (.int i) ∧ narrow .int (.int i) = .int i)
    (k : ∀ (r : Option Value) (w' : WW), po r w' → XJ z own cc nL ret fr lo w' rc' rs' (pc + 5) lv (r.toList ++ rest)) : XJ z own cc nL ret fr lo w rc rs pc lv st := by
  obtain ⟨cK, one, cell, hat, rfl, hvm, hsl, hwhere⟩ := hlo9
  have hcellH : ∀ H, Hp (zg z) w H → H[a]? = some cell := fun H hH => by
    rcases hwhere with h | ⟨h1, h2⟩
    · exact hH.at h
    · exact ((hH.2.2.1 a h1).1).trans h2
  refine xr_lam (x := ⟨"BenchBroker$Value", "of", "(LBenchBroker$Item;)I"⟩) (as := [.ref x1]) (asI := [.int i0, .int i1, .ref x1]) (maxL := 2) (pcR := 15) (fr9 := fr' + 1) (lo9 := 3 + 11 + lo') hcellH hvm (fun C => ?_) (fun C => ?_) hlink q384 q383 (n9 := 1) (by decide +kernel) rfl ⟨by omega, hroom.2⟩ hb hcat d hst (rt := .int) (by decide) hpo k
  · obtain ⟨m, dk, hdk, hdn, hmade, hcan⟩ := xl_site hat C.warm
    obtain ⟨kK, tk, file, methk, ck, toy, t, f0, f1, hkK, hkn, hfile, hpool, hmk, hck, hbytes, hml, hlk, hfl, -⟩ := smade2 hdk hdn hmade (xl_obj C.base C.warm q2802) (C.K.1 4 _ rfl).2.1
    exact xFn_site hmade hcan rfl rfl (by decide +kernel) (C.wF q384 q383 (by decide)).2 hkK hmk hfl
  · obtain ⟨m, dk, hdk, hdn, hmade, hcan⟩ := xl_site hat C.warm
    obtain ⟨kK, tk, file, methk, ck, toy, t, f0, f1, hkK, hkn, hfile, hpool, hmk, hck, hbytes, hml, hlk, hfl, hret, -⟩ := smade2 hdk hdn hmade (xl_obj C.base C.warm q2802) (C.K.1 4 _ rfl).2.1
    refine ⟨methk, ck, kK, hkK, hkn, hmk, hck, hlk, hml, hret, by rw [hbytes]; exact sd2_15, ?_⟩
    intro R' s' below' U₀ Y₀ hSt hWs hWU hfr9 hlo9 hmc9 hms9
    obtain ⟨hr1, hr2, hr3, hr4, hzl⟩ := C.rest
    have hx9 := C.hx
    have hKU := va_K.moved hSt.1.alike C.base.1
    have hCT := (hKU.1 4 _ rfl).2
    obtain ⟨hCT1, kT, hkT, -⟩ := id hCT
    obtain ⟨m2, dk2, hdk2, hdn2, hmade2, hcan2⟩ := xl_site hat hSt.1
    obtain ⟨kK2, tk2, file2, methk2, ck2, toy2, t2, g0, g1, hkK2, hkn2, hfile2, hpool2, hmk2, hck2, hbytes2, hml2, hlk2, hfl2, hret2, htoy2, htk2, hitf2, hlook2, hmr2, hcr2, hxr2, hf0, hfs0, hfn0, hf1, hfs1, hfn1⟩ := smade2 hdk2 hdn2 hmade2 (xl_obj C.base hSt.1 q2802) hCT1
    have hcU : U₀.heap[a]? = some cell := hcellH _ hSt.2
    obtain ⟨-, -, cx1, hcx1, hccx1, hcvx1, -⟩ := hSt.2.at hx1
    have hK := xx_back (l := zl z) (R := R') (p := zp z) (e := ze z) (below := below') (s := s') (sargs := (Value.ref a :: [.ref x1]).toArray) (len := 3) (W9 := 0) hM hzl (fun U mk hW hn => codeOk s' U mk #[] hW hn (word_at (State.WarmedH.trans hWs hW) (good_of_word (List.mem_filter.mp q345).2) (C.w _ q345))) (by omega) (by omega) (fun a' U hW => word_at (State.WarmedH.trans hWs hW) (good_of_word (List.mem_filter.mp q345).2) (C.w _ q345)) (fun a' U hW => word_at (State.WarmedH.trans hWs hW) (good_of_word (List.mem_filter.mp q87).2) (C.w _ q87))
    have k0 : Steps (zp z).tables (ze z) below' (U₀.setTop (entryFrame ⟨cell.cls, 1⟩ (Value.ref a :: [.ref x1]).toArray 2)) (U₀.setTop { method := ⟨cell.cls, 1⟩, pc := 0, locals := #[.val (.ref a), .val (.ref x1)], stack := [], locked := none }) := Steps.refl _
    have k1 : Steps (zp z).tables (ze z) below' (U₀.setTop (entryFrame ⟨cell.cls, 1⟩ (Value.ref a :: [.ref x1]).toArray 2)) (U₀.setTop { method := ⟨cell.cls, 1⟩, pc := 1, locals := #[.val (.ref a), .val (.ref x1)], stack := [.ref a], locked := none }) := by
      refine k0.trans ?_
      have hd9 : decode ck.code 0 = .ok (.aload_n 0, 1) := by rw [hbytes]; exact sd2_0
      jvm_step Y₀.here [hx9, hd9, Value.isRef]
      exact Steps.refl _
    have k2 := xl_getf Y₀ hx9 (g := { method := ⟨cell.cls, 1⟩, pc := 1, locals := #[.val (.ref a), .val (.ref x1)], stack := [.ref a], locked := none }) rfl (index := 16) (a := a) (field := g0) (cell := cell) (v := .int i0) (rest := []) hf0 hfs0 rfl hcU (by rw [hvm]; simp) (by rw [hfn0, hsl]; rfl) (by rw [hbytes]; exact sd2_1) k1
    have k3 : Steps (zp z).tables (ze z) below' (U₀.setTop (entryFrame ⟨cell.cls, 1⟩ (Value.ref a :: [.ref x1]).toArray 2)) (U₀.setTop { method := ⟨cell.cls, 1⟩, pc := 5, locals := #[.val (.ref a), .val (.ref x1)], stack := [.ref a, .int i0], locked := none }) := by
      refine k2.trans ?_
      have hd9 : decode ck.code 4 = .ok (.aload_n 0, 1) := by rw [hbytes]; exact sd2_4
      jvm_step Y₀.here [hx9, hd9, Value.isRef]
      exact Steps.refl _
    have k4 := xl_getf Y₀ hx9 (g := { method := ⟨cell.cls, 1⟩, pc := 5, locals := #[.val (.ref a), .val (.ref x1)], stack := [.ref a, .int i0], locked := none }) rfl (index := 18) (a := a) (field := g1) (cell := cell) (v := .int i1) (rest := [.int i0]) hf1 hfs1 rfl hcU (by rw [hvm]; simp) (by rw [hfn1, hsl]; rfl) (by rw [hbytes]; exact sd2_5) k3
    have k5 : Steps (zp z).tables (ze z) below' (U₀.setTop (entryFrame ⟨cell.cls, 1⟩ (Value.ref a :: [.ref x1]).toArray 2)) (U₀.setTop { method := ⟨cell.cls, 1⟩, pc := 9, locals := #[.val (.ref a), .val (.ref x1)], stack := [.ref x1, .int i1, .int i0], locked := none }) := by
      refine k4.trans ?_
      have hd9 : decode ck.code 8 = .ok (.aload_n 1, 1) := by rw [hbytes]; exact sd2_8
      jvm_step Y₀.here [hx9, hd9, Value.isRef]
      exact Steps.refl _
    have k6 := xl_cast Y₀ hx9 (g := { method := ⟨cell.cls, 1⟩, pc := 9, locals := #[.val (.ref a), .val (.ref x1)], stack := [.ref x1, .int i1, .int i0], locked := none }) rfl (index := 22) (a := x1) (cell := cx1) (ks := kT) (kt := kT) (rest := [.int i1, .int i0]) hxr2 rfl hcx1 (fun q h => by rw [hcvx1] at h; cases h) (by rw [hccx1]; exact hkT) hkT (by rw [hccx1]; exact va_assign hCT) (by rw [hbytes]; exact sd2_9) k5
    obtain ⟨v, B, Y₁, hpost, kE⟩ := xl_static Y₀ hx9 (gf := { method := ⟨cell.cls, 1⟩, pc := 12, locals := #[.val (.ref a), .val (.ref x1)], stack := [.ref x1, .int i1, .int i0], locked := none }) rfl (by rw [hml]; rfl) (index := 28) (y := yX2_lambda_noiseAt_0) (as := [.int i0, .int i1, .ref x1]) (rest := []) (xS_made (a' := #[]) (n := 3) hkK2 hfile2 (by rw [hpool2]; exact seM2.1) (by rw [hpool2]; exact seM2.2.2) hmr2 hcr2 htoy2 htk2 hlook2 (by decide) (word_at hWU (good_of_word (List.mem_filter.mp q345).2) (C.w _ q345)) (word_at hWU (good_of_word (List.mem_filter.mp q344).2) (C.w _ q344)) (word_at hWU (good_of_word (List.mem_filter.mp q87).2) (C.w _ q87)) (sig := ⟨[.int, .int, .object "BenchBroker$Fountain"], some .int⟩) (by decide +kernel) rfl) rfl hK (by show 2 * 0 + 0 ≤ 0; decide) ⟨by show 0 + mc ≤ _; omega, by show 0 + ms ≤ _; omega, rfl, hSt⟩ (by rw [hbytes]; exact sd2_12) k6
    rw [List.append_nil] at kE
    exact ⟨v, B, _, Y₁, hpost, kE⟩
/-! lambda$depositTotal$2 -/
def sg3 : Lambda.Shape := ({ iface := "BenchBroker$Value", name := "of", sam := ({ parameters := [(Jvm.ClassFile.FieldType.object "BenchBroker$Item")], returnType := (Option.some Jvm.ClassFile.FieldType.int) } : Jvm.ClassFile.MethodDescriptor), captured := [], kind := 6, implClass := "BenchBroker$Park", implName := "lambda$depositTotal$2", implDesc := ({ parameters := [(Jvm.ClassFile.FieldType.object "BenchBroker$Bench")], returnType := (Option.some Jvm.ClassFile.FieldType.int) } : Jvm.ClassFile.MethodDescriptor), implItf := false, inst := ({ parameters := [(Jvm.ClassFile.FieldType.object "BenchBroker$Bench")], returnType := (Option.some Jvm.ClassFile.FieldType.int) } : Jvm.ClassFile.MethodDescriptor) } : Jvm.Lambda.Shape)
def sD3 : ClassFile := (sg3.file "BenchBroker$Park").getD { minorVersion := 0, majorVersion := 0, constantPool := #[], accessFlags := 0, thisClass := 0, superClass := 0, interfaces := #[], fields := #[], methods := #[], attributes := #[] }
def sf3 : Method := ((layoutMethods sD3).bind (·[1]?)).getD default
def sl3 : Array Field × Array FieldType × Array FieldType := (layoutFields sD3 0).getD (#[], #[], #[])
theorem sfile3 : sg3.file "BenchBroker$Park" = some sD3 := by
  have h : (sg3.file "BenchBroker$Park").isSome = true := by decide +kernel
  obtain ⟨x, hx⟩ := Option.isSome_iff_exists.mp h
  simp [sD3, hx]
theorem ssec3 : ∀ ms, layoutMethods sD3 = some ms → ms[1]? = some sf3 := by
  intro ms hms
  have h : ((layoutMethods sD3).bind (·[1]?)).isSome = true := by decide +kernel
  obtain ⟨x, hx⟩ := Option.isSome_iff_exists.mp h
  have hf : sf3 = x := by simp [sf3, hx]
  rw [hms] at hx
  rw [hf]
  exact hx
theorem slaid3 : layoutFields sD3 0 = some sl3 := by
  have h : (layoutFields sD3 0).isSome = true := by decide +kernel
  obtain ⟨x, hx⟩ := Option.isSome_iff_exists.mp h
  simp [sl3, hx]
def sB3 : ByteArray := ⟨#[43, 192, 0, 14, 184, 0, 20, 172]⟩
theorem sd3_0 : decode sB3 0 = .ok (.aload_n 1, 1) := by decide +kernel
theorem sd3_1 : decode sB3 1 = .ok (.checkcast 14, 3) := by decide +kernel
theorem sd3_4 : decode sB3 4 = .ok (.invokestatic 20, 3) := by decide +kernel
theorem sd3_7 : decode sB3 7 = .ok (.ireturn, 1) := by decide +kernel
theorem scode3 : (sf3.code.map fun c => (c.code.data, c.maxLocals)) = some (sB3.data, 2) := by decide +kernel
theorem sflag3 : (sf3.accessFlags, sf3.name, sf3.sig.returnType) = (0x0001, "of", some FieldType.int) := by decide +kernel
theorem seM3 : sD3.constantPool[20]? = some (.methodref 16 19) ∧ sD3.constantPool.className? 16 = some "BenchBroker$Park" ∧ sD3.constantPool.nameAndType? 19 = some ("lambda$depositTotal$2", "(LBenchBroker$Bench;)I") := by decide +kernel
theorem seC3 : sD3.constantPool[16]? = some (.class_ 15) ∧ sD3.constantPool.string? 15 = some "BenchBroker$Park" ∧ 16 ≠ sD3.thisClass := by decide +kernel
theorem seX3 : sD3.constantPool[14]? = some (.class_ 13) ∧ sD3.constantPool.string? 13 = some "BenchBroker$Bench" ∧ 14 ≠ sD3.thisClass := by decide +kernel
theorem smade3 {vm : Vm} {d c cT : ClassId} {dk : Class} (hd : vm.classes[d]? = some dk) (hname : dk.name = "BenchBroker$Park") (h : Lambda.isMade { classPath := fun _ => none } vm d sg3 c = true)
    (hO : ∀ o ok, vm.findClass "java/lang/Object" = some o → vm.classes[o]? = some ok → ok.instanceTypes.size = 0) (hT : vm.findClass "BenchBroker$Bench" = some cT) :
    ∃ (k tk : Class) (file : ClassFile) (methk : Method) (ck : Code) (toy : ClassId) (t : MethodId),
      vm.classes[c]? = some k ∧ k.name = "BenchBroker$Park$$Lambda" ∧ k.cf = some file ∧ file.constantPool = sD3.constantPool ∧
      vm.method? ⟨c, 1⟩ = some methk ∧ methk.code = some ck ∧ ck.code = sB3 ∧ ck.maxLocals = 2 ∧ methk.locks = false ∧ methk.accessFlags = 0x0001 ∧ methk.sig.returnType = some .int ∧
      vm.findClass "BenchBroker$Park" = some toy ∧ vm.classes[toy]? = some tk ∧ tk.isInterface = false ∧ ((methodIn toy "lambda$depositTotal$2" "(LBenchBroker$Bench;)I" tk.isInterface none).ask { classPath := fun _ => none } vm).1 = .ok t ∧
      vm.methodReady c 20 t ∧ vm.classReady c 16 toy ∧ vm.classReady c 14 cT := by
  obtain ⟨dk', k, ok, tk, file, cf, object, iface, toy, lay, methods, target, found, hd', hk, hfile, hcf, hobj, -, hok, hlay, hms, ht, htk, hg, -, hrec, -, -, -, hitf, hpool, hmeth, hfields, -, hres, -⟩ := Lambda.isMade_spec h
  cases hd.symm.trans hd'
  rw [hname, sfile3] at hcf
  cases hcf
  rw [hO object ok hobj hok, slaid3] at hlay
  cases hlay
  obtain ⟨b, hb, hsame⟩ := hmeth 1 sf3 (ssec3 methods hms)
  simp only [Lambda.sameMethod, Bool.and_eq_true, decide_eq_true_eq] at hsame
  obtain ⟨⟨hn, -, hsig, hfl⟩, hcode⟩ := hsame
  have fc := scode3
  have ff := sflag3
  simp only [Prod.mk.injEq] at ff
  cases hfc : sf3.code with
  | none => rw [hfc] at fc; cases fc
  | some x =>
    cases hbc : b.code with
    | none => simp [hfc, hbc] at hcode
    | some y =>
      simp only [hfc, hbc, Bool.and_eq_true, decide_eq_true_eq] at hcode
      simp only [hfc, Option.map_some, Option.some.injEq, Prod.mk.injEq] at fc
      refine ⟨k, tk, file, b, y, toy, target, hk, by rw [hrec.1, hname]; rfl, hfile, hpool.2.1, by simp [Vm.method?, hk, hb], hbc, ?_, by rw [← hcode.1.1.1.1.2.1]; exact fc.2, ?_, by rw [← hfl]; exact ff.1, by rw [← hsig]; exact ff.2.2, ht, htk, hitf, hg,
        ⟨k, hk, hres 20 _ (Lambda.resolvedOf_method seM3.1 seM3.2.1 ht htk seM3.2.2 hg)⟩, ⟨k, hk, hres 16 _ (Lambda.resolvedOf_class seC3.1 seC3.2.2 seC3.2.1 ht)⟩, ⟨k, hk, hres 14 _ (Lambda.resolvedOf_class seX3.1 seX3.2.2 seX3.2.1 hT)⟩⟩
      · rw [← hcode.1.1.1.1.2.2]
        exact ByteArray.ext fc.1
      · simp [Method.locks, Method.isSynchronized, ← hfl, ff.1, hasFlag, Acc.synchronized]
set_option maxHeartbeats 1000000 in
theorem xr_lam3 {z : ZZ} {own : String} {cc : ByteArray} {nL fr lo rc rs pc : Nat} {ret : Option FieldType} {w : WW} {lv : List (Option Value)} {st : List Value} {idx cnt a x1 fr' lo' mc ms rc' rs' : Nat}  {fsx1 rest : List Value} {po : Option Value → WW → Prop}
    (hlo9 : LO (zg z) w a ⟨"BenchBroker$Park", "depositTotal", "()I"⟩ 4 247 sg3 []) (hx1 : Ob w x1 3 fsx1)
    (hM : Ct (zg z) yX2_lambda_depositTotal_2 (.code yX2_lambda_depositTotal_2 cX2_lambda_depositTotal_2 1 (some .int)) fr' lo' mc ms w [.ref x1] po xF) (hlink : Cond.methodLink own idx ⟨"BenchBroker$Value", "of", "(LBenchBroker$Item;)I"⟩ ∈ lw_all)
    (hroom : fr' + 2 ≤ fr ∧ 8 + (2 + 11) + (1 + 11 + lo') ≤ lo) (hb : rc' + mc ≤ rc ∧ rs' + ms ≤ rs) (hcat : (rest.map fun v => v.category).sum ≤ 8) (d : decode cc pc = .ok (.invokeinterface idx cnt, 5)) (hst : st = [.ref x1].reverse ++ .ref a :: rest)
    (hpo : ∀ v w', po v w' → ∃ i : Int32, v = some (.int i) ∧ narrow .int (.int i) = .int i)
    (k : ∀ (r : Option Value) (w' : WW), po r w' → XJ z own cc nL ret fr lo w' rc' rs' (pc + 5) lv (r.toList ++ rest)) : XJ z own cc nL ret fr lo w rc rs pc lv st := by
  obtain ⟨cK, one, cell, hat, rfl, hvm, hsl, hwhere⟩ := hlo9
  have hcellH : ∀ H, Hp (zg z) w H → H[a]? = some cell := fun H hH => by
    rcases hwhere with h | ⟨h1, h2⟩
    · exact hH.at h
    · exact ((hH.2.2.1 a h1).1).trans h2
  refine xr_lam (x := ⟨"BenchBroker$Value", "of", "(LBenchBroker$Item;)I"⟩) (as := [.ref x1]) (asI := [.ref x1]) (maxL := 2) (pcR := 7) (fr9 := fr' + 1) (lo9 := 1 + 11 + lo') hcellH hvm (fun C => ?_) (fun C => ?_) hlink q384 q383 (n9 := 1) (by decide +kernel) rfl ⟨by omega, hroom.2⟩ hb hcat d hst (rt := .int) (by decide) hpo k
  · obtain ⟨m, dk, hdk, hdn, hmade, hcan⟩ := xl_site hat C.warm
    obtain ⟨kK, tk, file, methk, ck, toy, t, hkK, hkn, hfile, hpool, hmk, hck, hbytes, hml, hlk, hfl, -⟩ := smade3 hdk hdn hmade (xl_obj C.base C.warm q2802) (C.K.1 3 _ rfl).2.1
    exact xFn_site hmade hcan rfl rfl (by decide +kernel) (C.wF q384 q383 (by decide)).2 hkK hmk hfl
  · obtain ⟨m, dk, hdk, hdn, hmade, hcan⟩ := xl_site hat C.warm
    obtain ⟨kK, tk, file, methk, ck, toy, t, hkK, hkn, hfile, hpool, hmk, hck, hbytes, hml, hlk, hfl, hret, -⟩ := smade3 hdk hdn hmade (xl_obj C.base C.warm q2802) (C.K.1 3 _ rfl).2.1
    refine ⟨methk, ck, kK, hkK, hkn, hmk, hck, hlk, hml, hret, by rw [hbytes]; exact sd3_7, ?_⟩
    intro R' s' below' U₀ Y₀ hSt hWs hWU hfr9 hlo9 hmc9 hms9
    obtain ⟨hr1, hr2, hr3, hr4, hzl⟩ := C.rest
    have hx9 := C.hx
    have hKU := va_K.moved hSt.1.alike C.base.1
    have hCT := (hKU.1 3 _ rfl).2
    obtain ⟨hCT1, kT, hkT, -⟩ := id hCT
    obtain ⟨m2, dk2, hdk2, hdn2, hmade2, hcan2⟩ := xl_site hat hSt.1
    obtain ⟨kK2, tk2, file2, methk2, ck2, toy2, t2, hkK2, hkn2, hfile2, hpool2, hmk2, hck2, hbytes2, hml2, hlk2, hfl2, hret2, htoy2, htk2, hitf2, hlook2, hmr2, hcr2, hxr2⟩ := smade3 hdk2 hdn2 hmade2 (xl_obj C.base hSt.1 q2802) hCT1
    have hcU : U₀.heap[a]? = some cell := hcellH _ hSt.2
    obtain ⟨-, -, cx1, hcx1, hccx1, hcvx1, -⟩ := hSt.2.at hx1
    have hK := xx_back (l := zl z) (R := R') (p := zp z) (e := ze z) (below := below') (s := s') (sargs := (Value.ref a :: [.ref x1]).toArray) (len := 3) (W9 := 0) hM hzl (fun U mk hW hn => codeOk s' U mk #[] hW hn (word_at (State.WarmedH.trans hWs hW) (good_of_word (List.mem_filter.mp q409).2) (C.w _ q409))) (by omega) (by omega) (fun a' U hW => word_at (State.WarmedH.trans hWs hW) (good_of_word (List.mem_filter.mp q409).2) (C.w _ q409)) (fun a' U hW => word_at (State.WarmedH.trans hWs hW) (good_of_word (List.mem_filter.mp q87).2) (C.w _ q87))
    have k0 : Steps (zp z).tables (ze z) below' (U₀.setTop (entryFrame ⟨cell.cls, 1⟩ (Value.ref a :: [.ref x1]).toArray 2)) (U₀.setTop { method := ⟨cell.cls, 1⟩, pc := 0, locals := #[.val (.ref a), .val (.ref x1)], stack := [], locked := none }) := Steps.refl _
    have k1 : Steps (zp z).tables (ze z) below' (U₀.setTop (entryFrame ⟨cell.cls, 1⟩ (Value.ref a :: [.ref x1]).toArray 2)) (U₀.setTop { method := ⟨cell.cls, 1⟩, pc := 1, locals := #[.val (.ref a), .val (.ref x1)], stack := [.ref x1], locked := none }) := by
      refine k0.trans ?_
      have hd9 : decode ck.code 0 = .ok (.aload_n 1, 1) := by rw [hbytes]; exact sd3_0
      jvm_step Y₀.here [hx9, hd9, Value.isRef]
      exact Steps.refl _
    have k2 := xl_cast Y₀ hx9 (g := { method := ⟨cell.cls, 1⟩, pc := 1, locals := #[.val (.ref a), .val (.ref x1)], stack := [.ref x1], locked := none }) rfl (index := 14) (a := x1) (cell := cx1) (ks := kT) (kt := kT) (rest := []) hxr2 rfl hcx1 (fun q h => by rw [hcvx1] at h; cases h) (by rw [hccx1]; exact hkT) hkT (by rw [hccx1]; exact va_assign hCT) (by rw [hbytes]; exact sd3_1) k1
    obtain ⟨v, B, Y₁, hpost, kE⟩ := xl_static Y₀ hx9 (gf := { method := ⟨cell.cls, 1⟩, pc := 4, locals := #[.val (.ref a), .val (.ref x1)], stack := [.ref x1], locked := none }) rfl (by rw [hml]; rfl) (index := 20) (y := yX2_lambda_depositTotal_2) (as := [.ref x1]) (rest := []) (xS_made (a' := #[]) (n := 1) hkK2 hfile2 (by rw [hpool2]; exact seM3.1) (by rw [hpool2]; exact seM3.2.2) hmr2 hcr2 htoy2 htk2 hlook2 (by decide) (word_at hWU (good_of_word (List.mem_filter.mp q409).2) (C.w _ q409)) (word_at hWU (good_of_word (List.mem_filter.mp q408).2) (C.w _ q408)) (word_at hWU (good_of_word (List.mem_filter.mp q87).2) (C.w _ q87)) (sig := ⟨[.object "BenchBroker$Bench"], some .int⟩) (by decide +kernel) rfl) rfl hK (by show 2 * 0 + 0 ≤ 0; decide) ⟨by show 0 + mc ≤ _; omega, by show 0 + ms ≤ _; omega, rfl, hSt⟩ (by rw [hbytes]; exact sd3_4) k2
    rw [List.append_nil] at kE
    exact ⟨v, B, _, Y₁, hpost, kE⟩
/-! lambda$allCoins$3 -/
def sg4 : Lambda.Shape := ({ iface := "BenchBroker$Value", name := "of", sam := ({ parameters := [(Jvm.ClassFile.FieldType.object "BenchBroker$Item")], returnType := (Option.some Jvm.ClassFile.FieldType.int) } : Jvm.ClassFile.MethodDescriptor), captured := [], kind := 6, implClass := "BenchBroker$Park", implName := "lambda$allCoins$3", implDesc := ({ parameters := [(Jvm.ClassFile.FieldType.object "BenchBroker$Tenant")], returnType := (Option.some Jvm.ClassFile.FieldType.int) } : Jvm.ClassFile.MethodDescriptor), implItf := false, inst := ({ parameters := [(Jvm.ClassFile.FieldType.object "BenchBroker$Tenant")], returnType := (Option.some Jvm.ClassFile.FieldType.int) } : Jvm.ClassFile.MethodDescriptor) } : Jvm.Lambda.Shape)
def sD4 : ClassFile := (sg4.file "BenchBroker$Park").getD { minorVersion := 0, majorVersion := 0, constantPool := #[], accessFlags := 0, thisClass := 0, superClass := 0, interfaces := #[], fields := #[], methods := #[], attributes := #[] }
def sf4 : Method := ((layoutMethods sD4).bind (·[1]?)).getD default
def sl4 : Array Field × Array FieldType × Array FieldType := (layoutFields sD4 0).getD (#[], #[], #[])
theorem sfile4 : sg4.file "BenchBroker$Park" = some sD4 := by
  have h : (sg4.file "BenchBroker$Park").isSome = true := by decide +kernel
  obtain ⟨x, hx⟩ := Option.isSome_iff_exists.mp h
  simp [sD4, hx]
theorem ssec4 : ∀ ms, layoutMethods sD4 = some ms → ms[1]? = some sf4 := by
  intro ms hms
  have h : ((layoutMethods sD4).bind (·[1]?)).isSome = true := by decide +kernel
  obtain ⟨x, hx⟩ := Option.isSome_iff_exists.mp h
  have hf : sf4 = x := by simp [sf4, hx]
  rw [hms] at hx
  rw [hf]
  exact hx
theorem slaid4 : layoutFields sD4 0 = some sl4 := by
  have h : (layoutFields sD4 0).isSome = true := by decide +kernel
  obtain ⟨x, hx⟩ := Option.isSome_iff_exists.mp h
  simp [sl4, hx]
def sB4 : ByteArray := ⟨#[43, 192, 0, 14, 184, 0, 20, 172]⟩
theorem sd4_0 : decode sB4 0 = .ok (.aload_n 1, 1) := by decide +kernel
theorem sd4_1 : decode sB4 1 = .ok (.checkcast 14, 3) := by decide +kernel
theorem sd4_4 : decode sB4 4 = .ok (.invokestatic 20, 3) := by decide +kernel
theorem sd4_7 : decode sB4 7 = .ok (.ireturn, 1) := by decide +kernel
theorem scode4 : (sf4.code.map fun c => (c.code.data, c.maxLocals)) = some (sB4.data, 2) := by decide +kernel
theorem sflag4 : (sf4.accessFlags, sf4.name, sf4.sig.returnType) = (0x0001, "of", some FieldType.int) := by decide +kernel
theorem seM4 : sD4.constantPool[20]? = some (.methodref 16 19) ∧ sD4.constantPool.className? 16 = some "BenchBroker$Park" ∧ sD4.constantPool.nameAndType? 19 = some ("lambda$allCoins$3", "(LBenchBroker$Tenant;)I") := by decide +kernel
theorem seC4 : sD4.constantPool[16]? = some (.class_ 15) ∧ sD4.constantPool.string? 15 = some "BenchBroker$Park" ∧ 16 ≠ sD4.thisClass := by decide +kernel
theorem seX4 : sD4.constantPool[14]? = some (.class_ 13) ∧ sD4.constantPool.string? 13 = some "BenchBroker$Tenant" ∧ 14 ≠ sD4.thisClass := by decide +kernel
theorem smade4 {vm : Vm} {d c cT : ClassId} {dk : Class} (hd : vm.classes[d]? = some dk) (hname : dk.name = "BenchBroker$Park") (h : Lambda.isMade { classPath := fun _ => none } vm d sg4 c = true)
    (hO : ∀ o ok, vm.findClass "java/lang/Object" = some o → vm.classes[o]? = some ok → ok.instanceTypes.size = 0) (hT : vm.findClass "BenchBroker$Tenant" = some cT) :
    ∃ (k tk : Class) (file : ClassFile) (methk : Method) (ck : Code) (toy : ClassId) (t : MethodId),
      vm.classes[c]? = some k ∧ k.name = "BenchBroker$Park$$Lambda" ∧ k.cf = some file ∧ file.constantPool = sD4.constantPool ∧
      vm.method? ⟨c, 1⟩ = some methk ∧ methk.code = some ck ∧ ck.code = sB4 ∧ ck.maxLocals = 2 ∧ methk.locks = false ∧ methk.accessFlags = 0x0001 ∧ methk.sig.returnType = some .int ∧
      vm.findClass "BenchBroker$Park" = some toy ∧ vm.classes[toy]? = some tk ∧ tk.isInterface = false ∧ ((methodIn toy "lambda$allCoins$3" "(LBenchBroker$Tenant;)I" tk.isInterface none).ask { classPath := fun _ => none } vm).1 = .ok t ∧
      vm.methodReady c 20 t ∧ vm.classReady c 16 toy ∧ vm.classReady c 14 cT := by
  obtain ⟨dk', k, ok, tk, file, cf, object, iface, toy, lay, methods, target, found, hd', hk, hfile, hcf, hobj, -, hok, hlay, hms, ht, htk, hg, -, hrec, -, -, -, hitf, hpool, hmeth, hfields, -, hres, -⟩ := Lambda.isMade_spec h
  cases hd.symm.trans hd'
  rw [hname, sfile4] at hcf
  cases hcf
  rw [hO object ok hobj hok, slaid4] at hlay
  cases hlay
  obtain ⟨b, hb, hsame⟩ := hmeth 1 sf4 (ssec4 methods hms)
  simp only [Lambda.sameMethod, Bool.and_eq_true, decide_eq_true_eq] at hsame
  obtain ⟨⟨hn, -, hsig, hfl⟩, hcode⟩ := hsame
  have fc := scode4
  have ff := sflag4
  simp only [Prod.mk.injEq] at ff
  cases hfc : sf4.code with
  | none => rw [hfc] at fc; cases fc
  | some x =>
    cases hbc : b.code with
    | none => simp [hfc, hbc] at hcode
    | some y =>
      simp only [hfc, hbc, Bool.and_eq_true, decide_eq_true_eq] at hcode
      simp only [hfc, Option.map_some, Option.some.injEq, Prod.mk.injEq] at fc
      refine ⟨k, tk, file, b, y, toy, target, hk, by rw [hrec.1, hname]; rfl, hfile, hpool.2.1, by simp [Vm.method?, hk, hb], hbc, ?_, by rw [← hcode.1.1.1.1.2.1]; exact fc.2, ?_, by rw [← hfl]; exact ff.1, by rw [← hsig]; exact ff.2.2, ht, htk, hitf, hg,
        ⟨k, hk, hres 20 _ (Lambda.resolvedOf_method seM4.1 seM4.2.1 ht htk seM4.2.2 hg)⟩, ⟨k, hk, hres 16 _ (Lambda.resolvedOf_class seC4.1 seC4.2.2 seC4.2.1 ht)⟩, ⟨k, hk, hres 14 _ (Lambda.resolvedOf_class seX4.1 seX4.2.2 seX4.2.1 hT)⟩⟩
      · rw [← hcode.1.1.1.1.2.2]
        exact ByteArray.ext fc.1
      · simp [Method.locks, Method.isSynchronized, ← hfl, ff.1, hasFlag, Acc.synchronized]
set_option maxHeartbeats 1000000 in
theorem xr_lam4 {z : ZZ} {own : String} {cc : ByteArray} {nL fr lo rc rs pc : Nat} {ret : Option FieldType} {w : WW} {lv : List (Option Value)} {st : List Value} {idx cnt a x1 fr' lo' mc ms rc' rs' : Nat}  {fsx1 rest : List Value} {po : Option Value → WW → Prop}
    (hlo9 : LO (zg z) w a ⟨"BenchBroker$Park", "allCoins", "()I"⟩ 4 250 sg4 []) (hx1 : Ob w x1 5 fsx1)
    (hM : Ct (zg z) yX2_lambda_allCoins_3 (.code yX2_lambda_allCoins_3 cX2_lambda_allCoins_3 1 (some .int)) fr' lo' mc ms w [.ref x1] po xF) (hlink : Cond.methodLink own idx ⟨"BenchBroker$Value", "of", "(LBenchBroker$Item;)I"⟩ ∈ lw_all)
    (hroom : fr' + 2 ≤ fr ∧ 8 + (2 + 11) + (1 + 11 + lo') ≤ lo) (hb : rc' + mc ≤ rc ∧ rs' + ms ≤ rs) (hcat : (rest.map fun v => v.category).sum ≤ 8) (d : decode cc pc = .ok (.invokeinterface idx cnt, 5)) (hst : st = [.ref x1].reverse ++ .ref a :: rest)
    (hpo : ∀ v w', po v w' → ∃ i : Int32, v = some (.int i) ∧ narrow .int (.int i) = .int i)
    (k : ∀ (r : Option Value) (w' : WW), po r w' → XJ z own cc nL ret fr lo w' rc' rs' (pc + 5) lv (r.toList ++ rest)) : XJ z own cc nL ret fr lo w rc rs pc lv st := by
  obtain ⟨cK, one, cell, hat, rfl, hvm, hsl, hwhere⟩ := hlo9
  have hcellH : ∀ H, Hp (zg z) w H → H[a]? = some cell := fun H hH => by
    rcases hwhere with h | ⟨h1, h2⟩
    · exact hH.at h
    · exact ((hH.2.2.1 a h1).1).trans h2
  refine xr_lam (x := ⟨"BenchBroker$Value", "of", "(LBenchBroker$Item;)I"⟩) (as := [.ref x1]) (asI := [.ref x1]) (maxL := 2) (pcR := 7) (fr9 := fr' + 1) (lo9 := 1 + 11 + lo') hcellH hvm (fun C => ?_) (fun C => ?_) hlink q384 q383 (n9 := 1) (by decide +kernel) rfl ⟨by omega, hroom.2⟩ hb hcat d hst (rt := .int) (by decide) hpo k
  · obtain ⟨m, dk, hdk, hdn, hmade, hcan⟩ := xl_site hat C.warm
    obtain ⟨kK, tk, file, methk, ck, toy, t, hkK, hkn, hfile, hpool, hmk, hck, hbytes, hml, hlk, hfl, -⟩ := smade4 hdk hdn hmade (xl_obj C.base C.warm q2802) (C.K.1 5 _ rfl).2.1
    exact xFn_site hmade hcan rfl rfl (by decide +kernel) (C.wF q384 q383 (by decide)).2 hkK hmk hfl
  · obtain ⟨m, dk, hdk, hdn, hmade, hcan⟩ := xl_site hat C.warm
    obtain ⟨kK, tk, file, methk, ck, toy, t, hkK, hkn, hfile, hpool, hmk, hck, hbytes, hml, hlk, hfl, hret, -⟩ := smade4 hdk hdn hmade (xl_obj C.base C.warm q2802) (C.K.1 5 _ rfl).2.1
    refine ⟨methk, ck, kK, hkK, hkn, hmk, hck, hlk, hml, hret, by rw [hbytes]; exact sd4_7, ?_⟩
    intro R' s' below' U₀ Y₀ hSt hWs hWU hfr9 hlo9 hmc9 hms9
    obtain ⟨hr1, hr2, hr3, hr4, hzl⟩ := C.rest
    have hx9 := C.hx
    have hKU := va_K.moved hSt.1.alike C.base.1
    have hCT := (hKU.1 5 _ rfl).2
    obtain ⟨hCT1, kT, hkT, -⟩ := id hCT
    obtain ⟨m2, dk2, hdk2, hdn2, hmade2, hcan2⟩ := xl_site hat hSt.1
    obtain ⟨kK2, tk2, file2, methk2, ck2, toy2, t2, hkK2, hkn2, hfile2, hpool2, hmk2, hck2, hbytes2, hml2, hlk2, hfl2, hret2, htoy2, htk2, hitf2, hlook2, hmr2, hcr2, hxr2⟩ := smade4 hdk2 hdn2 hmade2 (xl_obj C.base hSt.1 q2802) hCT1
    have hcU : U₀.heap[a]? = some cell := hcellH _ hSt.2
    obtain ⟨-, -, cx1, hcx1, hccx1, hcvx1, -⟩ := hSt.2.at hx1
    have hK := xx_back (l := zl z) (R := R') (p := zp z) (e := ze z) (below := below') (s := s') (sargs := (Value.ref a :: [.ref x1]).toArray) (len := 3) (W9 := 0) hM hzl (fun U mk hW hn => codeOk s' U mk #[] hW hn (word_at (State.WarmedH.trans hWs hW) (good_of_word (List.mem_filter.mp q419).2) (C.w _ q419))) (by omega) (by omega) (fun a' U hW => word_at (State.WarmedH.trans hWs hW) (good_of_word (List.mem_filter.mp q419).2) (C.w _ q419)) (fun a' U hW => word_at (State.WarmedH.trans hWs hW) (good_of_word (List.mem_filter.mp q87).2) (C.w _ q87))
    have k0 : Steps (zp z).tables (ze z) below' (U₀.setTop (entryFrame ⟨cell.cls, 1⟩ (Value.ref a :: [.ref x1]).toArray 2)) (U₀.setTop { method := ⟨cell.cls, 1⟩, pc := 0, locals := #[.val (.ref a), .val (.ref x1)], stack := [], locked := none }) := Steps.refl _
    have k1 : Steps (zp z).tables (ze z) below' (U₀.setTop (entryFrame ⟨cell.cls, 1⟩ (Value.ref a :: [.ref x1]).toArray 2)) (U₀.setTop { method := ⟨cell.cls, 1⟩, pc := 1, locals := #[.val (.ref a), .val (.ref x1)], stack := [.ref x1], locked := none }) := by
      refine k0.trans ?_
      have hd9 : decode ck.code 0 = .ok (.aload_n 1, 1) := by rw [hbytes]; exact sd4_0
      jvm_step Y₀.here [hx9, hd9, Value.isRef]
      exact Steps.refl _
    have k2 := xl_cast Y₀ hx9 (g := { method := ⟨cell.cls, 1⟩, pc := 1, locals := #[.val (.ref a), .val (.ref x1)], stack := [.ref x1], locked := none }) rfl (index := 14) (a := x1) (cell := cx1) (ks := kT) (kt := kT) (rest := []) hxr2 rfl hcx1 (fun q h => by rw [hcvx1] at h; cases h) (by rw [hccx1]; exact hkT) hkT (by rw [hccx1]; exact va_assign hCT) (by rw [hbytes]; exact sd4_1) k1
    obtain ⟨v, B, Y₁, hpost, kE⟩ := xl_static Y₀ hx9 (gf := { method := ⟨cell.cls, 1⟩, pc := 4, locals := #[.val (.ref a), .val (.ref x1)], stack := [.ref x1], locked := none }) rfl (by rw [hml]; rfl) (index := 20) (y := yX2_lambda_allCoins_3) (as := [.ref x1]) (rest := []) (xS_made (a' := #[]) (n := 1) hkK2 hfile2 (by rw [hpool2]; exact seM4.1) (by rw [hpool2]; exact seM4.2.2) hmr2 hcr2 htoy2 htk2 hlook2 (by decide) (word_at hWU (good_of_word (List.mem_filter.mp q419).2) (C.w _ q419)) (word_at hWU (good_of_word (List.mem_filter.mp q418).2) (C.w _ q418)) (word_at hWU (good_of_word (List.mem_filter.mp q87).2) (C.w _ q87)) (sig := ⟨[.object "BenchBroker$Tenant"], some .int⟩) (by decide +kernel) rfl) rfl hK (by show 2 * 0 + 0 ≤ 0; decide) ⟨by show 0 + mc ≤ _; omega, by show 0 + ms ≤ _; omega, rfl, hSt⟩ (by rw [hbytes]; exact sd4_4) k2
    rw [List.append_nil] at kE
    exact ⟨v, B, _, Y₁, hpost, kE⟩
/-! lambda$letCount$4 -/
def sg5 : Lambda.Shape := ({ iface := "BenchBroker$Value", name := "of", sam := ({ parameters := [(Jvm.ClassFile.FieldType.object "BenchBroker$Item")], returnType := (Option.some Jvm.ClassFile.FieldType.int) } : Jvm.ClassFile.MethodDescriptor), captured := [], kind := 6, implClass := "BenchBroker$Park", implName := "lambda$letCount$4", implDesc := ({ parameters := [(Jvm.ClassFile.FieldType.object "BenchBroker$Bench")], returnType := (Option.some Jvm.ClassFile.FieldType.int) } : Jvm.ClassFile.MethodDescriptor), implItf := false, inst := ({ parameters := [(Jvm.ClassFile.FieldType.object "BenchBroker$Bench")], returnType := (Option.some Jvm.ClassFile.FieldType.int) } : Jvm.ClassFile.MethodDescriptor) } : Jvm.Lambda.Shape)
def sD5 : ClassFile := (sg5.file "BenchBroker$Park").getD { minorVersion := 0, majorVersion := 0, constantPool := #[], accessFlags := 0, thisClass := 0, superClass := 0, interfaces := #[], fields := #[], methods := #[], attributes := #[] }
def sf5 : Method := ((layoutMethods sD5).bind (·[1]?)).getD default
def sl5 : Array Field × Array FieldType × Array FieldType := (layoutFields sD5 0).getD (#[], #[], #[])
theorem sfile5 : sg5.file "BenchBroker$Park" = some sD5 := by
  have h : (sg5.file "BenchBroker$Park").isSome = true := by decide +kernel
  obtain ⟨x, hx⟩ := Option.isSome_iff_exists.mp h
  simp [sD5, hx]
theorem ssec5 : ∀ ms, layoutMethods sD5 = some ms → ms[1]? = some sf5 := by
  intro ms hms
  have h : ((layoutMethods sD5).bind (·[1]?)).isSome = true := by decide +kernel
  obtain ⟨x, hx⟩ := Option.isSome_iff_exists.mp h
  have hf : sf5 = x := by simp [sf5, hx]
  rw [hms] at hx
  rw [hf]
  exact hx
theorem slaid5 : layoutFields sD5 0 = some sl5 := by
  have h : (layoutFields sD5 0).isSome = true := by decide +kernel
  obtain ⟨x, hx⟩ := Option.isSome_iff_exists.mp h
  simp [sl5, hx]
def sB5 : ByteArray := ⟨#[43, 192, 0, 14, 184, 0, 20, 172]⟩
theorem sd5_0 : decode sB5 0 = .ok (.aload_n 1, 1) := by decide +kernel
theorem sd5_1 : decode sB5 1 = .ok (.checkcast 14, 3) := by decide +kernel
theorem sd5_4 : decode sB5 4 = .ok (.invokestatic 20, 3) := by decide +kernel
theorem sd5_7 : decode sB5 7 = .ok (.ireturn, 1) := by decide +kernel
theorem scode5 : (sf5.code.map fun c => (c.code.data, c.maxLocals)) = some (sB5.data, 2) := by decide +kernel
theorem sflag5 : (sf5.accessFlags, sf5.name, sf5.sig.returnType) = (0x0001, "of", some FieldType.int) := by decide +kernel
theorem seM5 : sD5.constantPool[20]? = some (.methodref 16 19) ∧ sD5.constantPool.className? 16 = some "BenchBroker$Park" ∧ sD5.constantPool.nameAndType? 19 = some ("lambda$letCount$4", "(LBenchBroker$Bench;)I") := by decide +kernel
theorem seC5 : sD5.constantPool[16]? = some (.class_ 15) ∧ sD5.constantPool.string? 15 = some "BenchBroker$Park" ∧ 16 ≠ sD5.thisClass := by decide +kernel
theorem seX5 : sD5.constantPool[14]? = some (.class_ 13) ∧ sD5.constantPool.string? 13 = some "BenchBroker$Bench" ∧ 14 ≠ sD5.thisClass := by decide +kernel
theorem smade5 {vm : Vm} {d c cT : ClassId} {dk : Class} (hd : vm.classes[d]? = some dk) (hname : dk.name = "BenchBroker$Park") (h : Lambda.isMade { classPath := fun _ => none } vm d sg5 c = true)
    (hO : ∀ o ok, vm.findClass "java/lang/Object" = some o → vm.classes[o]? = some ok → ok.instanceTypes.size = 0) (hT : vm.findClass "BenchBroker$Bench" = some cT) :
    ∃ (k tk : Class) (file : ClassFile) (methk : Method) (ck : Code) (toy : ClassId) (t : MethodId),
      vm.classes[c]? = some k ∧ k.name = "BenchBroker$Park$$Lambda" ∧ k.cf = some file ∧ file.constantPool = sD5.constantPool ∧
      vm.method? ⟨c, 1⟩ = some methk ∧ methk.code = some ck ∧ ck.code = sB5 ∧ ck.maxLocals = 2 ∧ methk.locks = false ∧ methk.accessFlags = 0x0001 ∧ methk.sig.returnType = some .int ∧
      vm.findClass "BenchBroker$Park" = some toy ∧ vm.classes[toy]? = some tk ∧ tk.isInterface = false ∧ ((methodIn toy "lambda$letCount$4" "(LBenchBroker$Bench;)I" tk.isInterface none).ask { classPath := fun _ => none } vm).1 = .ok t ∧
      vm.methodReady c 20 t ∧ vm.classReady c 16 toy ∧ vm.classReady c 14 cT := by
  obtain ⟨dk', k, ok, tk, file, cf, object, iface, toy, lay, methods, target, found, hd', hk, hfile, hcf, hobj, -, hok, hlay, hms, ht, htk, hg, -, hrec, -, -, -, hitf, hpool, hmeth, hfields, -, hres, -⟩ := Lambda.isMade_spec h
  cases hd.symm.trans hd'
  rw [hname, sfile5] at hcf
  cases hcf
  rw [hO object ok hobj hok, slaid5] at hlay
  cases hlay
  obtain ⟨b, hb, hsame⟩ := hmeth 1 sf5 (ssec5 methods hms)
  simp only [Lambda.sameMethod, Bool.and_eq_true, decide_eq_true_eq] at hsame
  obtain ⟨⟨hn, -, hsig, hfl⟩, hcode⟩ := hsame
  have fc := scode5
  have ff := sflag5
  simp only [Prod.mk.injEq] at ff
  cases hfc : sf5.code with
  | none => rw [hfc] at fc; cases fc
  | some x =>
    cases hbc : b.code with
    | none => simp [hfc, hbc] at hcode
    | some y =>
      simp only [hfc, hbc, Bool.and_eq_true, decide_eq_true_eq] at hcode
      simp only [hfc, Option.map_some, Option.some.injEq, Prod.mk.injEq] at fc
      refine ⟨k, tk, file, b, y, toy, target, hk, by rw [hrec.1, hname]; rfl, hfile, hpool.2.1, by simp [Vm.method?, hk, hb], hbc, ?_, by rw [← hcode.1.1.1.1.2.1]; exact fc.2, ?_, by rw [← hfl]; exact ff.1, by rw [← hsig]; exact ff.2.2, ht, htk, hitf, hg,
        ⟨k, hk, hres 20 _ (Lambda.resolvedOf_method seM5.1 seM5.2.1 ht htk seM5.2.2 hg)⟩, ⟨k, hk, hres 16 _ (Lambda.resolvedOf_class seC5.1 seC5.2.2 seC5.2.1 ht)⟩, ⟨k, hk, hres 14 _ (Lambda.resolvedOf_class seX5.1 seX5.2.2 seX5.2.1 hT)⟩⟩
      · rw [← hcode.1.1.1.1.2.2]
        exact ByteArray.ext fc.1
      · simp [Method.locks, Method.isSynchronized, ← hfl, ff.1, hasFlag, Acc.synchronized]
set_option maxHeartbeats 1000000 in
theorem xr_lam5 {z : ZZ} {own : String} {cc : ByteArray} {nL fr lo rc rs pc : Nat} {ret : Option FieldType} {w : WW} {lv : List (Option Value)} {st : List Value} {idx cnt a x1 fr' lo' mc ms rc' rs' : Nat}  {fsx1 rest : List Value} {po : Option Value → WW → Prop}
    (hlo9 : LO (zg z) w a ⟨"BenchBroker$Park", "letCount", "()I"⟩ 4 254 sg5 []) (hx1 : Ob w x1 3 fsx1)
    (hM : Ct (zg z) yX2_lambda_letCount_4 (.code yX2_lambda_letCount_4 cX2_lambda_letCount_4 1 (some .int)) fr' lo' mc ms w [.ref x1] po xF) (hlink : Cond.methodLink own idx ⟨"BenchBroker$Value", "of", "(LBenchBroker$Item;)I"⟩ ∈ lw_all)
    (hroom : fr' + 2 ≤ fr ∧ 8 + (2 + 11) + (1 + 11 + lo') ≤ lo) (hb : rc' + mc ≤ rc ∧ rs' + ms ≤ rs) (hcat : (rest.map fun v => v.category).sum ≤ 8) (d : decode cc pc = .ok (.invokeinterface idx cnt, 5)) (hst : st = [.ref x1].reverse ++ .ref a :: rest)
    (hpo : ∀ v w', po v w' → ∃ i : Int32, v = some (.int i) ∧ narrow .int (.int i) = .int i)
    (k : ∀ (r : Option Value) (w' : WW), po r w' → XJ z own cc nL ret fr lo w' rc' rs' (pc + 5) lv (r.toList ++ rest)) : XJ z own cc nL ret fr lo w rc rs pc lv st := by
  obtain ⟨cK, one, cell, hat, rfl, hvm, hsl, hwhere⟩ := hlo9
  have hcellH : ∀ H, Hp (zg z) w H → H[a]? = some cell := fun H hH => by
    rcases hwhere with h | ⟨h1, h2⟩
    · exact hH.at h
    · exact ((hH.2.2.1 a h1).1).trans h2
  refine xr_lam (x := ⟨"BenchBroker$Value", "of", "(LBenchBroker$Item;)I"⟩) (as := [.ref x1]) (asI := [.ref x1]) (maxL := 2) (pcR := 7) (fr9 := fr' + 1) (lo9 := 1 + 11 + lo') hcellH hvm (fun C => ?_) (fun C => ?_) hlink q384 q383 (n9 := 1) (by decide +kernel) rfl ⟨by omega, hroom.2⟩ hb hcat d hst (rt := .int) (by decide) hpo k
  · obtain ⟨m, dk, hdk, hdn, hmade, hcan⟩ := xl_site hat C.warm
    obtain ⟨kK, tk, file, methk, ck, toy, t, hkK, hkn, hfile, hpool, hmk, hck, hbytes, hml, hlk, hfl, -⟩ := smade5 hdk hdn hmade (xl_obj C.base C.warm q2802) (C.K.1 3 _ rfl).2.1
    exact xFn_site hmade hcan rfl rfl (by decide +kernel) (C.wF q384 q383 (by decide)).2 hkK hmk hfl
  · obtain ⟨m, dk, hdk, hdn, hmade, hcan⟩ := xl_site hat C.warm
    obtain ⟨kK, tk, file, methk, ck, toy, t, hkK, hkn, hfile, hpool, hmk, hck, hbytes, hml, hlk, hfl, hret, -⟩ := smade5 hdk hdn hmade (xl_obj C.base C.warm q2802) (C.K.1 3 _ rfl).2.1
    refine ⟨methk, ck, kK, hkK, hkn, hmk, hck, hlk, hml, hret, by rw [hbytes]; exact sd5_7, ?_⟩
    intro R' s' below' U₀ Y₀ hSt hWs hWU hfr9 hlo9 hmc9 hms9
    obtain ⟨hr1, hr2, hr3, hr4, hzl⟩ := C.rest
    have hx9 := C.hx
    have hKU := va_K.moved hSt.1.alike C.base.1
    have hCT := (hKU.1 3 _ rfl).2
    obtain ⟨hCT1, kT, hkT, -⟩ := id hCT
    obtain ⟨m2, dk2, hdk2, hdn2, hmade2, hcan2⟩ := xl_site hat hSt.1
    obtain ⟨kK2, tk2, file2, methk2, ck2, toy2, t2, hkK2, hkn2, hfile2, hpool2, hmk2, hck2, hbytes2, hml2, hlk2, hfl2, hret2, htoy2, htk2, hitf2, hlook2, hmr2, hcr2, hxr2⟩ := smade5 hdk2 hdn2 hmade2 (xl_obj C.base hSt.1 q2802) hCT1
    have hcU : U₀.heap[a]? = some cell := hcellH _ hSt.2
    obtain ⟨-, -, cx1, hcx1, hccx1, hcvx1, -⟩ := hSt.2.at hx1
    have hK := xx_back (l := zl z) (R := R') (p := zp z) (e := ze z) (below := below') (s := s') (sargs := (Value.ref a :: [.ref x1]).toArray) (len := 3) (W9 := 0) hM hzl (fun U mk hW hn => codeOk s' U mk #[] hW hn (word_at (State.WarmedH.trans hWs hW) (good_of_word (List.mem_filter.mp q715).2) (C.w _ q715))) (by omega) (by omega) (fun a' U hW => word_at (State.WarmedH.trans hWs hW) (good_of_word (List.mem_filter.mp q715).2) (C.w _ q715)) (fun a' U hW => word_at (State.WarmedH.trans hWs hW) (good_of_word (List.mem_filter.mp q87).2) (C.w _ q87))
    have k0 : Steps (zp z).tables (ze z) below' (U₀.setTop (entryFrame ⟨cell.cls, 1⟩ (Value.ref a :: [.ref x1]).toArray 2)) (U₀.setTop { method := ⟨cell.cls, 1⟩, pc := 0, locals := #[.val (.ref a), .val (.ref x1)], stack := [], locked := none }) := Steps.refl _
    have k1 : Steps (zp z).tables (ze z) below' (U₀.setTop (entryFrame ⟨cell.cls, 1⟩ (Value.ref a :: [.ref x1]).toArray 2)) (U₀.setTop { method := ⟨cell.cls, 1⟩, pc := 1, locals := #[.val (.ref a), .val (.ref x1)], stack := [.ref x1], locked := none }) := by
      refine k0.trans ?_
      have hd9 : decode ck.code 0 = .ok (.aload_n 1, 1) := by rw [hbytes]; exact sd5_0
      jvm_step Y₀.here [hx9, hd9, Value.isRef]
      exact Steps.refl _
    have k2 := xl_cast Y₀ hx9 (g := { method := ⟨cell.cls, 1⟩, pc := 1, locals := #[.val (.ref a), .val (.ref x1)], stack := [.ref x1], locked := none }) rfl (index := 14) (a := x1) (cell := cx1) (ks := kT) (kt := kT) (rest := []) hxr2 rfl hcx1 (fun q h => by rw [hcvx1] at h; cases h) (by rw [hccx1]; exact hkT) hkT (by rw [hccx1]; exact va_assign hCT) (by rw [hbytes]; exact sd5_1) k1
    obtain ⟨v, B, Y₁, hpost, kE⟩ := xl_static Y₀ hx9 (gf := { method := ⟨cell.cls, 1⟩, pc := 4, locals := #[.val (.ref a), .val (.ref x1)], stack := [.ref x1], locked := none }) rfl (by rw [hml]; rfl) (index := 20) (y := yX2_lambda_letCount_4) (as := [.ref x1]) (rest := []) (xS_made (a' := #[]) (n := 1) hkK2 hfile2 (by rw [hpool2]; exact seM5.1) (by rw [hpool2]; exact seM5.2.2) hmr2 hcr2 htoy2 htk2 hlook2 (by decide) (word_at hWU (good_of_word (List.mem_filter.mp q715).2) (C.w _ q715)) (word_at hWU (good_of_word (List.mem_filter.mp q714).2) (C.w _ q714)) (word_at hWU (good_of_word (List.mem_filter.mp q87).2) (C.w _ q87)) (sig := ⟨[.object "BenchBroker$Bench"], some .int⟩) (by decide +kernel) rfl) rfl hK (by show 2 * 0 + 0 ≤ 0; decide) ⟨by show 0 + mc ≤ _; omega, by show 0 + ms ≤ _; omega, rfl, hSt⟩ (by rw [hbytes]; exact sd5_4) k2
    rw [List.append_nil] at kE
    exact ⟨v, B, _, Y₁, hpost, kE⟩
/-! lambda$isConsistent$9 -/
def sg6 : Lambda.Shape := ({ iface := "BenchBroker$Value", name := "of", sam := ({ parameters := [(Jvm.ClassFile.FieldType.object "BenchBroker$Item")], returnType := (Option.some Jvm.ClassFile.FieldType.int) } : Jvm.ClassFile.MethodDescriptor), captured := [], kind := 6, implClass := "BenchBroker$Park", implName := "lambda$isConsistent$9", implDesc := ({ parameters := [(Jvm.ClassFile.FieldType.object "BenchBroker$Tenant")], returnType := (Option.some Jvm.ClassFile.FieldType.int) } : Jvm.ClassFile.MethodDescriptor), implItf := false, inst := ({ parameters := [(Jvm.ClassFile.FieldType.object "BenchBroker$Tenant")], returnType := (Option.some Jvm.ClassFile.FieldType.int) } : Jvm.ClassFile.MethodDescriptor) } : Jvm.Lambda.Shape)
def sD6 : ClassFile := (sg6.file "BenchBroker$Park").getD { minorVersion := 0, majorVersion := 0, constantPool := #[], accessFlags := 0, thisClass := 0, superClass := 0, interfaces := #[], fields := #[], methods := #[], attributes := #[] }
def sf6 : Method := ((layoutMethods sD6).bind (·[1]?)).getD default
def sl6 : Array Field × Array FieldType × Array FieldType := (layoutFields sD6 0).getD (#[], #[], #[])
theorem sfile6 : sg6.file "BenchBroker$Park" = some sD6 := by
  have h : (sg6.file "BenchBroker$Park").isSome = true := by decide +kernel
  obtain ⟨x, hx⟩ := Option.isSome_iff_exists.mp h
  simp [sD6, hx]
theorem ssec6 : ∀ ms, layoutMethods sD6 = some ms → ms[1]? = some sf6 := by
  intro ms hms
  have h : ((layoutMethods sD6).bind (·[1]?)).isSome = true := by decide +kernel
  obtain ⟨x, hx⟩ := Option.isSome_iff_exists.mp h
  have hf : sf6 = x := by simp [sf6, hx]
  rw [hms] at hx
  rw [hf]
  exact hx
theorem slaid6 : layoutFields sD6 0 = some sl6 := by
  have h : (layoutFields sD6 0).isSome = true := by decide +kernel
  obtain ⟨x, hx⟩ := Option.isSome_iff_exists.mp h
  simp [sl6, hx]
def sB6 : ByteArray := ⟨#[43, 192, 0, 14, 184, 0, 20, 172]⟩
theorem sd6_0 : decode sB6 0 = .ok (.aload_n 1, 1) := by decide +kernel
theorem sd6_1 : decode sB6 1 = .ok (.checkcast 14, 3) := by decide +kernel
theorem sd6_4 : decode sB6 4 = .ok (.invokestatic 20, 3) := by decide +kernel
theorem sd6_7 : decode sB6 7 = .ok (.ireturn, 1) := by decide +kernel
theorem scode6 : (sf6.code.map fun c => (c.code.data, c.maxLocals)) = some (sB6.data, 2) := by decide +kernel
theorem sflag6 : (sf6.accessFlags, sf6.name, sf6.sig.returnType) = (0x0001, "of", some FieldType.int) := by decide +kernel
theorem seM6 : sD6.constantPool[20]? = some (.methodref 16 19) ∧ sD6.constantPool.className? 16 = some "BenchBroker$Park" ∧ sD6.constantPool.nameAndType? 19 = some ("lambda$isConsistent$9", "(LBenchBroker$Tenant;)I") := by decide +kernel
theorem seC6 : sD6.constantPool[16]? = some (.class_ 15) ∧ sD6.constantPool.string? 15 = some "BenchBroker$Park" ∧ 16 ≠ sD6.thisClass := by decide +kernel
theorem seX6 : sD6.constantPool[14]? = some (.class_ 13) ∧ sD6.constantPool.string? 13 = some "BenchBroker$Tenant" ∧ 14 ≠ sD6.thisClass := by decide +kernel
theorem smade6 {vm : Vm} {d c cT : ClassId} {dk : Class} (hd : vm.classes[d]? = some dk) (hname : dk.name = "BenchBroker$Park") (h : Lambda.isMade { classPath := fun _ => none } vm d sg6 c = true)
    (hO : ∀ o ok, vm.findClass "java/lang/Object" = some o → vm.classes[o]? = some ok → ok.instanceTypes.size = 0) (hT : vm.findClass "BenchBroker$Tenant" = some cT) :
    ∃ (k tk : Class) (file : ClassFile) (methk : Method) (ck : Code) (toy : ClassId) (t : MethodId),
      vm.classes[c]? = some k ∧ k.name = "BenchBroker$Park$$Lambda" ∧ k.cf = some file ∧ file.constantPool = sD6.constantPool ∧
      vm.method? ⟨c, 1⟩ = some methk ∧ methk.code = some ck ∧ ck.code = sB6 ∧ ck.maxLocals = 2 ∧ methk.locks = false ∧ methk.accessFlags = 0x0001 ∧ methk.sig.returnType = some .int ∧
      vm.findClass "BenchBroker$Park" = some toy ∧ vm.classes[toy]? = some tk ∧ tk.isInterface = false ∧ ((methodIn toy "lambda$isConsistent$9" "(LBenchBroker$Tenant;)I" tk.isInterface none).ask { classPath := fun _ => none } vm).1 = .ok t ∧
      vm.methodReady c 20 t ∧ vm.classReady c 16 toy ∧ vm.classReady c 14 cT := by
  obtain ⟨dk', k, ok, tk, file, cf, object, iface, toy, lay, methods, target, found, hd', hk, hfile, hcf, hobj, -, hok, hlay, hms, ht, htk, hg, -, hrec, -, -, -, hitf, hpool, hmeth, hfields, -, hres, -⟩ := Lambda.isMade_spec h
  cases hd.symm.trans hd'
  rw [hname, sfile6] at hcf
  cases hcf
  rw [hO object ok hobj hok, slaid6] at hlay
  cases hlay
  obtain ⟨b, hb, hsame⟩ := hmeth 1 sf6 (ssec6 methods hms)
  simp only [Lambda.sameMethod, Bool.and_eq_true, decide_eq_true_eq] at hsame
  obtain ⟨⟨hn, -, hsig, hfl⟩, hcode⟩ := hsame
  have fc := scode6
  have ff := sflag6
  simp only [Prod.mk.injEq] at ff
  cases hfc : sf6.code with
  | none => rw [hfc] at fc; cases fc
  | some x =>
    cases hbc : b.code with
    | none => simp [hfc, hbc] at hcode
    | some y =>
      simp only [hfc, hbc, Bool.and_eq_true, decide_eq_true_eq] at hcode
      simp only [hfc, Option.map_some, Option.some.injEq, Prod.mk.injEq] at fc
      refine ⟨k, tk, file, b, y, toy, target, hk, by rw [hrec.1, hname]; rfl, hfile, hpool.2.1, by simp [Vm.method?, hk, hb], hbc, ?_, by rw [← hcode.1.1.1.1.2.1]; exact fc.2, ?_, by rw [← hfl]; exact ff.1, by rw [← hsig]; exact ff.2.2, ht, htk, hitf, hg,
        ⟨k, hk, hres 20 _ (Lambda.resolvedOf_method seM6.1 seM6.2.1 ht htk seM6.2.2 hg)⟩, ⟨k, hk, hres 16 _ (Lambda.resolvedOf_class seC6.1 seC6.2.2 seC6.2.1 ht)⟩, ⟨k, hk, hres 14 _ (Lambda.resolvedOf_class seX6.1 seX6.2.2 seX6.2.1 hT)⟩⟩
      · rw [← hcode.1.1.1.1.2.2]
        exact ByteArray.ext fc.1
      · simp [Method.locks, Method.isSynchronized, ← hfl, ff.1, hasFlag, Acc.synchronized]
set_option maxHeartbeats 1000000 in
theorem xr_lam6 {z : ZZ} {own : String} {cc : ByteArray} {nL fr lo rc rs pc : Nat} {ret : Option FieldType} {w : WW} {lv : List (Option Value)} {st : List Value} {idx cnt a x1 fr' lo' mc ms rc' rs' : Nat}  {fsx1 rest : List Value} {po : Option Value → WW → Prop}
    (hlo9 : LO (zg z) w a ⟨"BenchBroker$Park", "isConsistent", "()Z"⟩ 26 279 sg6 []) (hx1 : Ob w x1 5 fsx1)
    (hM : Ct (zg z) yX2_lambda_isConsistent_9 (.code yX2_lambda_isConsistent_9 cX2_lambda_isConsistent_9 1 (some .int)) fr' lo' mc ms w [.ref x1] po xF) (hlink : Cond.methodLink own idx ⟨"BenchBroker$Value", "of", "(LBenchBroker$Item;)I"⟩ ∈ lw_all)
    (hroom : fr' + 2 ≤ fr ∧ 8 + (2 + 11) + (1 + 11 + lo') ≤ lo) (hb : rc' + mc ≤ rc ∧ rs' + ms ≤ rs) (hcat : (rest.map fun v => v.category).sum ≤ 8) (d : decode cc pc = .ok (.invokeinterface idx cnt, 5)) (hst : st = [.ref x1].reverse ++ .ref a :: rest)
    (hpo : ∀ v w', po v w' → ∃ i : Int32, v = some (.int i) ∧ narrow .int (.int i) = .int i)
    (k : ∀ (r : Option Value) (w' : WW), po r w' → XJ z own cc nL ret fr lo w' rc' rs' (pc + 5) lv (r.toList ++ rest)) : XJ z own cc nL ret fr lo w rc rs pc lv st := by
  obtain ⟨cK, one, cell, hat, rfl, hvm, hsl, hwhere⟩ := hlo9
  have hcellH : ∀ H, Hp (zg z) w H → H[a]? = some cell := fun H hH => by
    rcases hwhere with h | ⟨h1, h2⟩
    · exact hH.at h
    · exact ((hH.2.2.1 a h1).1).trans h2
  refine xr_lam (x := ⟨"BenchBroker$Value", "of", "(LBenchBroker$Item;)I"⟩) (as := [.ref x1]) (asI := [.ref x1]) (maxL := 2) (pcR := 7) (fr9 := fr' + 1) (lo9 := 1 + 11 + lo') hcellH hvm (fun C => ?_) (fun C => ?_) hlink q384 q383 (n9 := 1) (by decide +kernel) rfl ⟨by omega, hroom.2⟩ hb hcat d hst (rt := .int) (by decide) hpo k
  · obtain ⟨m, dk, hdk, hdn, hmade, hcan⟩ := xl_site hat C.warm
    obtain ⟨kK, tk, file, methk, ck, toy, t, hkK, hkn, hfile, hpool, hmk, hck, hbytes, hml, hlk, hfl, -⟩ := smade6 hdk hdn hmade (xl_obj C.base C.warm q2802) (C.K.1 5 _ rfl).2.1
    exact xFn_site hmade hcan rfl rfl (by decide +kernel) (C.wF q384 q383 (by decide)).2 hkK hmk hfl
  · obtain ⟨m, dk, hdk, hdn, hmade, hcan⟩ := xl_site hat C.warm
    obtain ⟨kK, tk, file, methk, ck, toy, t, hkK, hkn, hfile, hpool, hmk, hck, hbytes, hml, hlk, hfl, hret, -⟩ := smade6 hdk hdn hmade (xl_obj C.base C.warm q2802) (C.K.1 5 _ rfl).2.1
    refine ⟨methk, ck, kK, hkK, hkn, hmk, hck, hlk, hml, hret, by rw [hbytes]; exact sd6_7, ?_⟩
    intro R' s' below' U₀ Y₀ hSt hWs hWU hfr9 hlo9 hmc9 hms9
    obtain ⟨hr1, hr2, hr3, hr4, hzl⟩ := C.rest
    have hx9 := C.hx
    have hKU := va_K.moved hSt.1.alike C.base.1
    have hCT := (hKU.1 5 _ rfl).2
    obtain ⟨hCT1, kT, hkT, -⟩ := id hCT
    obtain ⟨m2, dk2, hdk2, hdn2, hmade2, hcan2⟩ := xl_site hat hSt.1
    obtain ⟨kK2, tk2, file2, methk2, ck2, toy2, t2, hkK2, hkn2, hfile2, hpool2, hmk2, hck2, hbytes2, hml2, hlk2, hfl2, hret2, htoy2, htk2, hitf2, hlook2, hmr2, hcr2, hxr2⟩ := smade6 hdk2 hdn2 hmade2 (xl_obj C.base hSt.1 q2802) hCT1
    have hcU : U₀.heap[a]? = some cell := hcellH _ hSt.2
    obtain ⟨-, -, cx1, hcx1, hccx1, hcvx1, -⟩ := hSt.2.at hx1
    have hK := xx_back (l := zl z) (R := R') (p := zp z) (e := ze z) (below := below') (s := s') (sargs := (Value.ref a :: [.ref x1]).toArray) (len := 3) (W9 := 0) hM hzl (fun U mk hW hn => codeOk s' U mk #[] hW hn (word_at (State.WarmedH.trans hWs hW) (good_of_word (List.mem_filter.mp q721).2) (C.w _ q721))) (by omega) (by omega) (fun a' U hW => word_at (State.WarmedH.trans hWs hW) (good_of_word (List.mem_filter.mp q721).2) (C.w _ q721)) (fun a' U hW => word_at (State.WarmedH.trans hWs hW) (good_of_word (List.mem_filter.mp q87).2) (C.w _ q87))
    have k0 : Steps (zp z).tables (ze z) below' (U₀.setTop (entryFrame ⟨cell.cls, 1⟩ (Value.ref a :: [.ref x1]).toArray 2)) (U₀.setTop { method := ⟨cell.cls, 1⟩, pc := 0, locals := #[.val (.ref a), .val (.ref x1)], stack := [], locked := none }) := Steps.refl _
    have k1 : Steps (zp z).tables (ze z) below' (U₀.setTop (entryFrame ⟨cell.cls, 1⟩ (Value.ref a :: [.ref x1]).toArray 2)) (U₀.setTop { method := ⟨cell.cls, 1⟩, pc := 1, locals := #[.val (.ref a), .val (.ref x1)], stack := [.ref x1], locked := none }) := by
      refine k0.trans ?_
      have hd9 : decode ck.code 0 = .ok (.aload_n 1, 1) := by rw [hbytes]; exact sd6_0
      jvm_step Y₀.here [hx9, hd9, Value.isRef]
      exact Steps.refl _
    have k2 := xl_cast Y₀ hx9 (g := { method := ⟨cell.cls, 1⟩, pc := 1, locals := #[.val (.ref a), .val (.ref x1)], stack := [.ref x1], locked := none }) rfl (index := 14) (a := x1) (cell := cx1) (ks := kT) (kt := kT) (rest := []) hxr2 rfl hcx1 (fun q h => by rw [hcvx1] at h; cases h) (by rw [hccx1]; exact hkT) hkT (by rw [hccx1]; exact va_assign hCT) (by rw [hbytes]; exact sd6_1) k1
    obtain ⟨v, B, Y₁, hpost, kE⟩ := xl_static Y₀ hx9 (gf := { method := ⟨cell.cls, 1⟩, pc := 4, locals := #[.val (.ref a), .val (.ref x1)], stack := [.ref x1], locked := none }) rfl (by rw [hml]; rfl) (index := 20) (y := yX2_lambda_isConsistent_9) (as := [.ref x1]) (rest := []) (xS_made (a' := #[]) (n := 1) hkK2 hfile2 (by rw [hpool2]; exact seM6.1) (by rw [hpool2]; exact seM6.2.2) hmr2 hcr2 htoy2 htk2 hlook2 (by decide) (word_at hWU (good_of_word (List.mem_filter.mp q721).2) (C.w _ q721)) (word_at hWU (good_of_word (List.mem_filter.mp q720).2) (C.w _ q720)) (word_at hWU (good_of_word (List.mem_filter.mp q87).2) (C.w _ q87)) (sig := ⟨[.object "BenchBroker$Tenant"], some .int⟩) (by decide +kernel) rfl) rfl hK (by show 2 * 0 + 0 ≤ 0; decide) ⟨by show 0 + mc ≤ _; omega, by show 0 + ms ≤ _; omega, rfl, hSt⟩ (by rw [hbytes]; exact sd6_4) k2
    rw [List.append_nil] at kE
    exact ⟨v, B, _, Y₁, hpost, kE⟩
/-! lambda$incomeByLeases$1 -/
def sg7 : Lambda.Shape := ({ iface := "BenchBroker$Value", name := "of", sam := ({ parameters := [(Jvm.ClassFile.FieldType.object "BenchBroker$Item")], returnType := (Option.some Jvm.ClassFile.FieldType.int) } : Jvm.ClassFile.MethodDescriptor), captured := [(Jvm.ClassFile.FieldType.object "BenchBroker$Park"), Jvm.ClassFile.FieldType.int], kind := 5, implClass := "BenchBroker$Park", implName := "lambda$incomeByLeases$1", implDesc := ({ parameters := [Jvm.ClassFile.FieldType.int, (Jvm.ClassFile.FieldType.object "BenchBroker$Bench")], returnType := (Option.some Jvm.ClassFile.FieldType.int) } : Jvm.ClassFile.MethodDescriptor), implItf := false, inst := ({ parameters := [(Jvm.ClassFile.FieldType.object "BenchBroker$Bench")], returnType := (Option.some Jvm.ClassFile.FieldType.int) } : Jvm.ClassFile.MethodDescriptor) } : Jvm.Lambda.Shape)
def sD7 : ClassFile := (sg7.file "BenchBroker$Park").getD { minorVersion := 0, majorVersion := 0, constantPool := #[], accessFlags := 0, thisClass := 0, superClass := 0, interfaces := #[], fields := #[], methods := #[], attributes := #[] }
def sf7 : Method := ((layoutMethods sD7).bind (·[1]?)).getD default
def sl7 : Array Field × Array FieldType × Array FieldType := (layoutFields sD7 0).getD (#[], #[], #[])
theorem sfile7 : sg7.file "BenchBroker$Park" = some sD7 := by
  have h : (sg7.file "BenchBroker$Park").isSome = true := by decide +kernel
  obtain ⟨x, hx⟩ := Option.isSome_iff_exists.mp h
  simp [sD7, hx]
theorem ssec7 : ∀ ms, layoutMethods sD7 = some ms → ms[1]? = some sf7 := by
  intro ms hms
  have h : ((layoutMethods sD7).bind (·[1]?)).isSome = true := by decide +kernel
  obtain ⟨x, hx⟩ := Option.isSome_iff_exists.mp h
  have hf : sf7 = x := by simp [sf7, hx]
  rw [hms] at hx
  rw [hf]
  exact hx
theorem slaid7 : layoutFields sD7 0 = some sl7 := by
  have h : (layoutFields sD7 0).isSome = true := by decide +kernel
  obtain ⟨x, hx⟩ := Option.isSome_iff_exists.mp h
  simp [sl7, hx]
def sB7 : ByteArray := ⟨#[42, 180, 0, 17, 42, 180, 0, 19, 43, 192, 0, 23, 182, 0, 29, 172]⟩
theorem sd7_0 : decode sB7 0 = .ok (.aload_n 0, 1) := by decide +kernel
theorem sd7_1 : decode sB7 1 = .ok (.getfield 17, 3) := by decide +kernel
theorem sd7_4 : decode sB7 4 = .ok (.aload_n 0, 1) := by decide +kernel
theorem sd7_5 : decode sB7 5 = .ok (.getfield 19, 3) := by decide +kernel
theorem sd7_8 : decode sB7 8 = .ok (.aload_n 1, 1) := by decide +kernel
theorem sd7_9 : decode sB7 9 = .ok (.checkcast 23, 3) := by decide +kernel
theorem sd7_12 : decode sB7 12 = .ok (.invokevirtual 29, 3) := by decide +kernel
theorem sd7_15 : decode sB7 15 = .ok (.ireturn, 1) := by decide +kernel
theorem scode7 : (sf7.code.map fun c => (c.code.data, c.maxLocals)) = some (sB7.data, 2) := by decide +kernel
theorem sflag7 : (sf7.accessFlags, sf7.name, sf7.sig.returnType) = (0x0001, "of", some FieldType.int) := by decide +kernel
theorem seM7 : sD7.constantPool[29]? = some (.methodref 25 28) ∧ sD7.constantPool.className? 25 = some "BenchBroker$Park" ∧ sD7.constantPool.nameAndType? 28 = some ("lambda$incomeByLeases$1", "(ILBenchBroker$Bench;)I") := by decide +kernel
theorem seC7 : sD7.constantPool[25]? = some (.class_ 24) ∧ sD7.constantPool.string? 24 = some "BenchBroker$Park" ∧ 25 ≠ sD7.thisClass := by decide +kernel
theorem seX7 : sD7.constantPool[23]? = some (.class_ 22) ∧ sD7.constantPool.string? 22 = some "BenchBroker$Bench" ∧ 23 ≠ sD7.thisClass := by decide +kernel
theorem seF7_0 : sD7.constantPool[17]? = some (.fieldref 2 16) ∧ sD7.constantPool.nameAndType? 16 = some ("arg$1", "LBenchBroker$Park;") ∧ sl7.1.findIdx? (·.name == "arg$1") = some 0 ∧ (sl7.1[0]?).map (fun f => (f.isStatic, f.slot)) = some (false, 0) := by decide +kernel
theorem seF7_1 : sD7.constantPool[19]? = some (.fieldref 2 18) ∧ sD7.constantPool.nameAndType? 18 = some ("arg$2", "I") ∧ sl7.1.findIdx? (·.name == "arg$2") = some 1 ∧ (sl7.1[1]?).map (fun f => (f.isStatic, f.slot)) = some (false, 1) := by decide +kernel
theorem smade7 {vm : Vm} {d c cT : ClassId} {dk : Class} (hd : vm.classes[d]? = some dk) (hname : dk.name = "BenchBroker$Park") (h : Lambda.isMade { classPath := fun _ => none } vm d sg7 c = true)
    (hO : ∀ o ok, vm.findClass "java/lang/Object" = some o → vm.classes[o]? = some ok → ok.instanceTypes.size = 0) (hT : vm.findClass "BenchBroker$Bench" = some cT) :
    ∃ (k tk : Class) (file : ClassFile) (methk : Method) (ck : Code) (toy : ClassId) (t : MethodId) (f0 : Field) (f1 : Field),
      vm.classes[c]? = some k ∧ k.name = "BenchBroker$Park$$Lambda" ∧ k.cf = some file ∧ file.constantPool = sD7.constantPool ∧
      vm.method? ⟨c, 1⟩ = some methk ∧ methk.code = some ck ∧ ck.code = sB7 ∧ ck.maxLocals = 2 ∧ methk.locks = false ∧ methk.accessFlags = 0x0001 ∧ methk.sig.returnType = some .int ∧
      vm.findClass "BenchBroker$Park" = some toy ∧ vm.classes[toy]? = some tk ∧ tk.isInterface = false ∧ ((methodIn toy "lambda$incomeByLeases$1" "(ILBenchBroker$Bench;)I" tk.isInterface none).ask { classPath := fun _ => none } vm).1 = .ok t ∧
      vm.methodReady c 29 t ∧ vm.classReady c 25 toy ∧ vm.classReady c 23 cT ∧ vm.fieldReady c 17 c f0 ∧ f0.isStatic = false ∧ f0.slot = 0 ∧ vm.fieldReady c 19 c f1 ∧ f1.isStatic = false ∧ f1.slot = 1 := by
  obtain ⟨dk', k, ok, tk, file, cf, object, iface, toy, lay, methods, target, found, hd', hk, hfile, hcf, hobj, -, hok, hlay, hms, ht, htk, hg, -, hrec, -, -, -, hitf, hpool, hmeth, hfields, -, hres, -⟩ := Lambda.isMade_spec h
  cases hd.symm.trans hd'
  rw [hname, sfile7] at hcf
  cases hcf
  rw [hO object ok hobj hok, slaid7] at hlay
  cases hlay
  obtain ⟨b, hb, hsame⟩ := hmeth 1 sf7 (ssec7 methods hms)
  simp only [Lambda.sameMethod, Bool.and_eq_true, decide_eq_true_eq] at hsame
  obtain ⟨⟨hn, -, hsig, hfl⟩, hcode⟩ := hsame
  have fc := scode7
  have ff := sflag7
  simp only [Prod.mk.injEq] at ff
  obtain ⟨g0, hg0, hp0⟩ := Option.map_eq_some_iff.mp seF7_0.2.2.2
  simp only [Prod.mk.injEq] at hp0
  obtain ⟨g1, hg1, hp1⟩ := Option.map_eq_some_iff.mp seF7_1.2.2.2
  simp only [Prod.mk.injEq] at hp1
  cases hfc : sf7.code with
  | none => rw [hfc] at fc; cases fc
  | some x =>
    cases hbc : b.code with
    | none => simp [hfc, hbc] at hcode
    | some y =>
      simp only [hfc, hbc, Bool.and_eq_true, decide_eq_true_eq] at hcode
      simp only [hfc, Option.map_some, Option.some.injEq, Prod.mk.injEq] at fc
      refine ⟨k, tk, file, b, y, toy, target, g0, g1, hk, by rw [hrec.1, hname]; rfl, hfile, hpool.2.1, by simp [Vm.method?, hk, hb], hbc, ?_, by rw [← hcode.1.1.1.1.2.1]; exact fc.2, ?_, by rw [← hfl]; exact ff.1, by rw [← hsig]; exact ff.2.2, ht, htk, hitf, hg,
        ⟨k, hk, hres 29 _ (Lambda.resolvedOf_method seM7.1 seM7.2.1 ht htk seM7.2.2 hg)⟩, ⟨k, hk, hres 25 _ (Lambda.resolvedOf_class seC7.1 seC7.2.2 seC7.2.1 ht)⟩, ⟨k, hk, hres 23 _ (Lambda.resolvedOf_class seX7.1 seX7.2.2 seX7.2.1 hT)⟩, ⟨k, 0, k, hk, hres 17 _ (Lambda.resolvedOf_field seF7_0.1 seF7_0.2.1 seF7_0.2.2.1), hk, hfields 0 _ hg0⟩, hp0.1, hp0.2, ⟨k, 1, k, hk, hres 19 _ (Lambda.resolvedOf_field seF7_1.1 seF7_1.2.1 seF7_1.2.2.1), hk, hfields 1 _ hg1⟩, hp1.1, hp1.2⟩
      · rw [← hcode.1.1.1.1.2.2]
        exact ByteArray.ext fc.1
      · simp [Method.locks, Method.isSynchronized, ← hfl, ff.1, hasFlag, Acc.synchronized]
set_option maxHeartbeats 1000000 in
theorem xr_lam7 {z : ZZ} {own : String} {cc : ByteArray} {nL fr lo rc rs pc : Nat} {ret : Option FieldType} {w : WW} {lv : List (Option Value)} {st : List Value} {idx cnt a x1 b fr' lo' mc ms rc' rs' : Nat} {i1 : Int32} {fsx1 fsb rest : List Value} {po : Option Value → WW → Prop}
    (hlo9 : LO (zg z) w a ⟨"BenchBroker$Park", "incomeByLeases", "(I)I"⟩ 6 244 sg7 [.ref b, .int i1]) (hx1 : Ob w x1 3 fsx1) (hb9 : Ob w b 0 fsb)
    (hM : Ct (zg z) yX2_lambda_incomeByLeases_1 (.code yX2_lambda_incomeByLeases_1 cX2_lambda_incomeByLeases_1 3 (some .int)) fr' lo' mc ms w [.ref b, .int i1, .ref x1] po xF) (hlink : Cond.methodLink own idx ⟨"BenchBroker$Value", "of", "(LBenchBroker$Item;)I"⟩ ∈ lw_all)
    (hroom : fr' + 2 ≤ fr ∧ 8 + (2 + 11) + (3 + 11 + lo') ≤ lo) (hb : rc' + mc ≤ rc ∧ rs' + ms ≤ rs) (hcat : (rest.map fun v => v.category).sum ≤ 8) (d : decode cc pc = .ok (.invokeinterface idx cnt, 5)) (hst : st = [.ref x1].reverse ++ .ref a :: rest)
    (hpo : ∀ v w', po v w' → ∃ i : Int32, v = some (.int i) ∧ narrow .int (.int i) = .int i)
    (k : ∀ (r : Option Value) (w' : WW), po r w' → XJ z own cc nL ret fr lo w' rc' rs' (pc + 5) lv (r.toList ++ rest)) : XJ z own cc nL ret fr lo w rc rs pc lv st := by
  obtain ⟨cK, one, cell, hat, rfl, hvm, hsl, hwhere⟩ := hlo9
  have hcellH : ∀ H, Hp (zg z) w H → H[a]? = some cell := fun H hH => by
    rcases hwhere with h | ⟨h1, h2⟩
    · exact hH.at h
    · exact ((hH.2.2.1 a h1).1).trans h2
  refine xr_lam (x := ⟨"BenchBroker$Value", "of", "(LBenchBroker$Item;)I"⟩) (as := [.ref x1]) (asI := [.ref b, .int i1, .ref x1]) (maxL := 2) (pcR := 15) (fr9 := fr' + 1) (lo9 := 3 + 11 + lo') hcellH hvm (fun C => ?_) (fun C => ?_) hlink q384 q383 (n9 := 1) (by decide +kernel) rfl ⟨by omega, hroom.2⟩ hb hcat d hst (rt := .int) (by decide) hpo k
  · obtain ⟨m, dk, hdk, hdn, hmade, hcan⟩ := xl_site hat C.warm
    obtain ⟨kK, tk, file, methk, ck, toy, t, f0, f1, hkK, hkn, hfile, hpool, hmk, hck, hbytes, hml, hlk, hfl, -⟩ := smade7 hdk hdn hmade (xl_obj C.base C.warm q2802) (C.K.1 3 _ rfl).2.1
    exact xFn_site hmade hcan rfl rfl (by decide +kernel) (C.wF q384 q383 (by decide)).2 hkK hmk hfl
  · obtain ⟨m, dk, hdk, hdn, hmade, hcan⟩ := xl_site hat C.warm
    obtain ⟨kK, tk, file, methk, ck, toy, t, f0, f1, hkK, hkn, hfile, hpool, hmk, hck, hbytes, hml, hlk, hfl, hret, -⟩ := smade7 hdk hdn hmade (xl_obj C.base C.warm q2802) (C.K.1 3 _ rfl).2.1
    refine ⟨methk, ck, kK, hkK, hkn, hmk, hck, hlk, hml, hret, by rw [hbytes]; exact sd7_15, ?_⟩
    intro R' s' below' U₀ Y₀ hSt hWs hWU hfr9 hlo9 hmc9 hms9
    obtain ⟨hr1, hr2, hr3, hr4, hzl⟩ := C.rest
    have hx9 := C.hx
    have hKU := va_K.moved hSt.1.alike C.base.1
    have hCT := (hKU.1 3 _ rfl).2
    obtain ⟨hCT1, kT, hkT, -⟩ := id hCT
    obtain ⟨m2, dk2, hdk2, hdn2, hmade2, hcan2⟩ := xl_site hat hSt.1
    obtain ⟨kK2, tk2, file2, methk2, ck2, toy2, t2, g0, g1, hkK2, hkn2, hfile2, hpool2, hmk2, hck2, hbytes2, hml2, hlk2, hfl2, hret2, htoy2, htk2, hitf2, hlook2, hmr2, hcr2, hxr2, hf0, hfs0, hfn0, hf1, hfs1, hfn1⟩ := smade7 hdk2 hdn2 hmade2 (xl_obj C.base hSt.1 q2802) hCT1
    have hcU : U₀.heap[a]? = some cell := hcellH _ hSt.2
    obtain ⟨-, -, cx1, hcx1, hccx1, hcvx1, -⟩ := hSt.2.at hx1
    have hK := xx_back (l := zl z) (R := R') (p := zp z) (e := ze z) (below := below') (s := s') (sargs := (Value.ref a :: [.ref x1]).toArray) (len := 3) (W9 := 0) hM hzl (fun U mk hW hn => codeOk s' U mk #[] hW hn (word_at (State.WarmedH.trans hWs hW) (good_of_word (List.mem_filter.mp q887).2) (C.w _ q887))) (by omega) (by omega) (fun a' U hW => word_at (State.WarmedH.trans hWs hW) (good_of_word (List.mem_filter.mp q887).2) (C.w _ q887)) (fun a' U hW => word_at (State.WarmedH.trans hWs hW) (good_of_word (List.mem_filter.mp q87).2) (C.w _ q87))
    obtain ⟨-, -, cb, hcb, hccb, hcvb, -⟩ := hSt.2.at hb9
    have htb : cb.cls = toy2 := by
      rw [hccb]
      exact Option.some.inj ((hKU.1 0 _ rfl).2.1.symm.trans htoy2)
    have k0 : Steps (zp z).tables (ze z) below' (U₀.setTop (entryFrame ⟨cell.cls, 1⟩ (Value.ref a :: [.ref x1]).toArray 2)) (U₀.setTop { method := ⟨cell.cls, 1⟩, pc := 0, locals := #[.val (.ref a), .val (.ref x1)], stack := [], locked := none }) := Steps.refl _
    have k1 : Steps (zp z).tables (ze z) below' (U₀.setTop (entryFrame ⟨cell.cls, 1⟩ (Value.ref a :: [.ref x1]).toArray 2)) (U₀.setTop { method := ⟨cell.cls, 1⟩, pc := 1, locals := #[.val (.ref a), .val (.ref x1)], stack := [.ref a], locked := none }) := by
      refine k0.trans ?_
      have hd9 : decode ck.code 0 = .ok (.aload_n 0, 1) := by rw [hbytes]; exact sd7_0
      jvm_step Y₀.here [hx9, hd9, Value.isRef]
      exact Steps.refl _
    have k2 := xl_getf Y₀ hx9 (g := { method := ⟨cell.cls, 1⟩, pc := 1, locals := #[.val (.ref a), .val (.ref x1)], stack := [.ref a], locked := none }) rfl (index := 17) (a := a) (field := g0) (cell := cell) (v := .ref b) (rest := []) hf0 hfs0 rfl hcU (by rw [hvm]; simp) (by rw [hfn0, hsl]; rfl) (by rw [hbytes]; exact sd7_1) k1
    have k3 : Steps (zp z).tables (ze z) below' (U₀.setTop (entryFrame ⟨cell.cls, 1⟩ (Value.ref a :: [.ref x1]).toArray 2)) (U₀.setTop { method := ⟨cell.cls, 1⟩, pc := 5, locals := #[.val (.ref a), .val (.ref x1)], stack := [.ref a, .ref b], locked := none }) := by
      refine k2.trans ?_
      have hd9 : decode ck.code 4 = .ok (.aload_n 0, 1) := by rw [hbytes]; exact sd7_4
      jvm_step Y₀.here [hx9, hd9, Value.isRef]
      exact Steps.refl _
    have k4 := xl_getf Y₀ hx9 (g := { method := ⟨cell.cls, 1⟩, pc := 5, locals := #[.val (.ref a), .val (.ref x1)], stack := [.ref a, .ref b], locked := none }) rfl (index := 19) (a := a) (field := g1) (cell := cell) (v := .int i1) (rest := [.ref b]) hf1 hfs1 rfl hcU (by rw [hvm]; simp) (by rw [hfn1, hsl]; rfl) (by rw [hbytes]; exact sd7_5) k3
    have k5 : Steps (zp z).tables (ze z) below' (U₀.setTop (entryFrame ⟨cell.cls, 1⟩ (Value.ref a :: [.ref x1]).toArray 2)) (U₀.setTop { method := ⟨cell.cls, 1⟩, pc := 9, locals := #[.val (.ref a), .val (.ref x1)], stack := [.ref x1, .int i1, .ref b], locked := none }) := by
      refine k4.trans ?_
      have hd9 : decode ck.code 8 = .ok (.aload_n 1, 1) := by rw [hbytes]; exact sd7_8
      jvm_step Y₀.here [hx9, hd9, Value.isRef]
      exact Steps.refl _
    have k6 := xl_cast Y₀ hx9 (g := { method := ⟨cell.cls, 1⟩, pc := 9, locals := #[.val (.ref a), .val (.ref x1)], stack := [.ref x1, .int i1, .ref b], locked := none }) rfl (index := 23) (a := x1) (cell := cx1) (ks := kT) (kt := kT) (rest := [.int i1, .ref b]) hxr2 rfl hcx1 (fun q h => by rw [hcvx1] at h; cases h) (by rw [hccx1]; exact hkT) hkT (by rw [hccx1]; exact va_assign hCT) (by rw [hbytes]; exact sd7_9) k5
    obtain ⟨v, B, Y₁, hpost, kE⟩ := xl_virtual Y₀ hx9 (gf := { method := ⟨cell.cls, 1⟩, pc := 12, locals := #[.val (.ref a), .val (.ref x1)], stack := [.ref x1, .int i1, .ref b], locked := none }) rfl (by rw [hml]; rfl) (index := 29) (a := b) (cell := cb) (y := yX2_lambda_incomeByLeases_1) (as := [.int i1, .ref x1]) (rest := []) (by rw [htb]; exact xV_made Y₀.admits (a' := #[]) (n := 2) hkK2 hfile2 (by rw [hpool2]; exact seM7.1) hmr2 hcr2 htoy2 htk2 hitf2 hlook2 (by decide) (word_at hWU (good_of_word (List.mem_filter.mp q887).2) (C.w _ q887)) (word_at hWU (good_of_word (List.mem_filter.mp q886).2) (C.w _ q886)) (word_at hWU (good_of_word (List.mem_filter.mp qs11).2) (C.w _ qs11)) (sig := ⟨[.int, .object "BenchBroker$Bench"], some .int⟩) (by decide +kernel) rfl) rfl hcb (fun q h => by rw [hcvb] at h; cases h) hK (by show 2 * 0 + 0 ≤ 0; decide) ⟨by show 0 + mc ≤ _; omega, by show 0 + ms ≤ _; omega, rfl, hSt⟩ (by rw [hbytes]; exact sd7_12) k6
    rw [List.append_nil] at kE
    exact ⟨v, B, _, Y₁, hpost, kE⟩
/-! lambda$benchByRent$7 -/
def sg8 : Lambda.Shape := ({ iface := "BenchBroker$Order", name := "isBefore", sam := ({ parameters := [(Jvm.ClassFile.FieldType.object "BenchBroker$Item"), (Jvm.ClassFile.FieldType.object "BenchBroker$Item")], returnType := (Option.some Jvm.ClassFile.FieldType.boolean) } : Jvm.ClassFile.MethodDescriptor), captured := [(Jvm.ClassFile.FieldType.object "BenchBroker$Park")], kind := 5, implClass := "BenchBroker$Park", implName := "lambda$benchByRent$7", implDesc := ({ parameters := [(Jvm.ClassFile.FieldType.object "BenchBroker$Bench"), (Jvm.ClassFile.FieldType.object "BenchBroker$Bench")], returnType := (Option.some Jvm.ClassFile.FieldType.boolean) } : Jvm.ClassFile.MethodDescriptor), implItf := false, inst := ({ parameters := [(Jvm.ClassFile.FieldType.object "BenchBroker$Bench"), (Jvm.ClassFile.FieldType.object "BenchBroker$Bench")], returnType := (Option.some Jvm.ClassFile.FieldType.boolean) } : Jvm.ClassFile.MethodDescriptor) } : Jvm.Lambda.Shape)
def sD8 : ClassFile := (sg8.file "BenchBroker$Park").getD { minorVersion := 0, majorVersion := 0, constantPool := #[], accessFlags := 0, thisClass := 0, superClass := 0, interfaces := #[], fields := #[], methods := #[], attributes := #[] }
def sf8 : Method := ((layoutMethods sD8).bind (·[1]?)).getD default
def sl8 : Array Field × Array FieldType × Array FieldType := (layoutFields sD8 0).getD (#[], #[], #[])
theorem sfile8 : sg8.file "BenchBroker$Park" = some sD8 := by
  have h : (sg8.file "BenchBroker$Park").isSome = true := by decide +kernel
  obtain ⟨x, hx⟩ := Option.isSome_iff_exists.mp h
  simp [sD8, hx]
theorem ssec8 : ∀ ms, layoutMethods sD8 = some ms → ms[1]? = some sf8 := by
  intro ms hms
  have h : ((layoutMethods sD8).bind (·[1]?)).isSome = true := by decide +kernel
  obtain ⟨x, hx⟩ := Option.isSome_iff_exists.mp h
  have hf : sf8 = x := by simp [sf8, hx]
  rw [hms] at hx
  rw [hf]
  exact hx
theorem slaid8 : layoutFields sD8 0 = some sl8 := by
  have h : (layoutFields sD8 0).isSome = true := by decide +kernel
  obtain ⟨x, hx⟩ := Option.isSome_iff_exists.mp h
  simp [sl8, hx]
def sB8 : ByteArray := ⟨#[42, 180, 0, 15, 43, 192, 0, 19, 44, 192, 0, 19, 182, 0, 25, 172]⟩
theorem sd8_0 : decode sB8 0 = .ok (.aload_n 0, 1) := by decide +kernel
theorem sd8_1 : decode sB8 1 = .ok (.getfield 15, 3) := by decide +kernel
theorem sd8_4 : decode sB8 4 = .ok (.aload_n 1, 1) := by decide +kernel
theorem sd8_5 : decode sB8 5 = .ok (.checkcast 19, 3) := by decide +kernel
theorem sd8_8 : decode sB8 8 = .ok (.aload_n 2, 1) := by decide +kernel
theorem sd8_9 : decode sB8 9 = .ok (.checkcast 19, 3) := by decide +kernel
theorem sd8_12 : decode sB8 12 = .ok (.invokevirtual 25, 3) := by decide +kernel
theorem sd8_15 : decode sB8 15 = .ok (.ireturn, 1) := by decide +kernel
theorem scode8 : (sf8.code.map fun c => (c.code.data, c.maxLocals)) = some (sB8.data, 3) := by decide +kernel
theorem sflag8 : (sf8.accessFlags, sf8.name, sf8.sig.returnType) = (0x0001, "isBefore", some FieldType.boolean) := by decide +kernel
theorem seM8 : sD8.constantPool[25]? = some (.methodref 21 24) ∧ sD8.constantPool.className? 21 = some "BenchBroker$Park" ∧ sD8.constantPool.nameAndType? 24 = some ("lambda$benchByRent$7", "(LBenchBroker$Bench;LBenchBroker$Bench;)Z") := by decide +kernel
theorem seC8 : sD8.constantPool[21]? = some (.class_ 20) ∧ sD8.constantPool.string? 20 = some "BenchBroker$Park" ∧ 21 ≠ sD8.thisClass := by decide +kernel
theorem seX8 : sD8.constantPool[19]? = some (.class_ 18) ∧ sD8.constantPool.string? 18 = some "BenchBroker$Bench" ∧ 19 ≠ sD8.thisClass := by decide +kernel
theorem seF8_0 : sD8.constantPool[15]? = some (.fieldref 2 14) ∧ sD8.constantPool.nameAndType? 14 = some ("arg$1", "LBenchBroker$Park;") ∧ sl8.1.findIdx? (·.name == "arg$1") = some 0 ∧ (sl8.1[0]?).map (fun f => (f.isStatic, f.slot)) = some (false, 0) := by decide +kernel
theorem smade8 {vm : Vm} {d c cT : ClassId} {dk : Class} (hd : vm.classes[d]? = some dk) (hname : dk.name = "BenchBroker$Park") (h : Lambda.isMade { classPath := fun _ => none } vm d sg8 c = true)
    (hO : ∀ o ok, vm.findClass "java/lang/Object" = some o → vm.classes[o]? = some ok → ok.instanceTypes.size = 0) (hT : vm.findClass "BenchBroker$Bench" = some cT) :
    ∃ (k tk : Class) (file : ClassFile) (methk : Method) (ck : Code) (toy : ClassId) (t : MethodId) (f0 : Field),
      vm.classes[c]? = some k ∧ k.name = "BenchBroker$Park$$Lambda" ∧ k.cf = some file ∧ file.constantPool = sD8.constantPool ∧
      vm.method? ⟨c, 1⟩ = some methk ∧ methk.code = some ck ∧ ck.code = sB8 ∧ ck.maxLocals = 3 ∧ methk.locks = false ∧ methk.accessFlags = 0x0001 ∧ methk.sig.returnType = some .boolean ∧
      vm.findClass "BenchBroker$Park" = some toy ∧ vm.classes[toy]? = some tk ∧ tk.isInterface = false ∧ ((methodIn toy "lambda$benchByRent$7" "(LBenchBroker$Bench;LBenchBroker$Bench;)Z" tk.isInterface none).ask { classPath := fun _ => none } vm).1 = .ok t ∧
      vm.methodReady c 25 t ∧ vm.classReady c 21 toy ∧ vm.classReady c 19 cT ∧ vm.fieldReady c 15 c f0 ∧ f0.isStatic = false ∧ f0.slot = 0 := by
  obtain ⟨dk', k, ok, tk, file, cf, object, iface, toy, lay, methods, target, found, hd', hk, hfile, hcf, hobj, -, hok, hlay, hms, ht, htk, hg, -, hrec, -, -, -, hitf, hpool, hmeth, hfields, -, hres, -⟩ := Lambda.isMade_spec h
  cases hd.symm.trans hd'
  rw [hname, sfile8] at hcf
  cases hcf
  rw [hO object ok hobj hok, slaid8] at hlay
  cases hlay
  obtain ⟨b, hb, hsame⟩ := hmeth 1 sf8 (ssec8 methods hms)
  simp only [Lambda.sameMethod, Bool.and_eq_true, decide_eq_true_eq] at hsame
  obtain ⟨⟨hn, -, hsig, hfl⟩, hcode⟩ := hsame
  have fc := scode8
  have ff := sflag8
  simp only [Prod.mk.injEq] at ff
  obtain ⟨g0, hg0, hp0⟩ := Option.map_eq_some_iff.mp seF8_0.2.2.2
  simp only [Prod.mk.injEq] at hp0
  cases hfc : sf8.code with
  | none => rw [hfc] at fc; cases fc
  | some x =>
    cases hbc : b.code with
    | none => simp [hfc, hbc] at hcode
    | some y =>
      simp only [hfc, hbc, Bool.and_eq_true, decide_eq_true_eq] at hcode
      simp only [hfc, Option.map_some, Option.some.injEq, Prod.mk.injEq] at fc
      refine ⟨k, tk, file, b, y, toy, target, g0, hk, by rw [hrec.1, hname]; rfl, hfile, hpool.2.1, by simp [Vm.method?, hk, hb], hbc, ?_, by rw [← hcode.1.1.1.1.2.1]; exact fc.2, ?_, by rw [← hfl]; exact ff.1, by rw [← hsig]; exact ff.2.2, ht, htk, hitf, hg,
        ⟨k, hk, hres 25 _ (Lambda.resolvedOf_method seM8.1 seM8.2.1 ht htk seM8.2.2 hg)⟩, ⟨k, hk, hres 21 _ (Lambda.resolvedOf_class seC8.1 seC8.2.2 seC8.2.1 ht)⟩, ⟨k, hk, hres 19 _ (Lambda.resolvedOf_class seX8.1 seX8.2.2 seX8.2.1 hT)⟩, ⟨k, 0, k, hk, hres 15 _ (Lambda.resolvedOf_field seF8_0.1 seF8_0.2.1 seF8_0.2.2.1), hk, hfields 0 _ hg0⟩, hp0.1, hp0.2⟩
      · rw [← hcode.1.1.1.1.2.2]
        exact ByteArray.ext fc.1
      · simp [Method.locks, Method.isSynchronized, ← hfl, ff.1, hasFlag, Acc.synchronized]
set_option maxHeartbeats 1000000 in
theorem xr_lam8 {z : ZZ} {own : String} {cc : ByteArray} {nL fr lo rc rs pc : Nat} {ret : Option FieldType} {w : WW} {lv : List (Option Value)} {st : List Value} {idx cnt a x1 x2 b fr' lo' mc ms rc' rs' : Nat}  {fsx1 fsx2 fsb rest : List Value} {po : Option Value → WW → Prop}
    (hlo9 : LO (zg z) w a ⟨"BenchBroker$Park", "benchByRent", "(I)I"⟩ 1 259 sg8 [.ref b]) (hx1 : Ob w x1 3 fsx1) (hx2 : Ob w x2 3 fsx2) (hb9 : Ob w b 0 fsb)
    (hM : Ct (zg z) yX2_lambda_benchByRent_7 (.code yX2_lambda_benchByRent_7 cX2_lambda_benchByRent_7 5 (some .boolean)) fr' lo' mc ms w [.ref b, .ref x1, .ref x2] po xF) (hlink : Cond.methodLink own idx ⟨"BenchBroker$Order", "isBefore", "(LBenchBroker$Item;LBenchBroker$Item;)Z"⟩ ∈ lw_all)
    (hroom : fr' + 2 ≤ fr ∧ 8 + (3 + 11) + (5 + 11 + lo') ≤ lo) (hb : rc' + mc ≤ rc ∧ rs' + ms ≤ rs) (hcat : (rest.map fun v => v.category).sum ≤ 8) (d : decode cc pc = .ok (.invokeinterface idx cnt, 5)) (hst : st = [.ref x1, .ref x2].reverse ++ .ref a :: rest)
    (hpo : ∀ v w', po v w' → ∃ i : Int32, v = some (.int i) ∧ narrow .boolean (.int i) = .int i)
    (k : ∀ (r : Option Value) (w' : WW), po r w' → XJ z own cc nL ret fr lo w' rc' rs' (pc + 5) lv (r.toList ++ rest)) : XJ z own cc nL ret fr lo w rc rs pc lv st := by
  obtain ⟨cK, one, cell, hat, rfl, hvm, hsl, hwhere⟩ := hlo9
  have hcellH : ∀ H, Hp (zg z) w H → H[a]? = some cell := fun H hH => by
    rcases hwhere with h | ⟨h1, h2⟩
    · exact hH.at h
    · exact ((hH.2.2.1 a h1).1).trans h2
  refine xr_lam (x := ⟨"BenchBroker$Order", "isBefore", "(LBenchBroker$Item;LBenchBroker$Item;)Z"⟩) (as := [.ref x1, .ref x2]) (asI := [.ref b, .ref x1, .ref x2]) (maxL := 3) (pcR := 15) (fr9 := fr' + 1) (lo9 := 5 + 11 + lo') hcellH hvm (fun C => ?_) (fun C => ?_) hlink q1530 q1529 (n9 := 2) (by decide +kernel) rfl ⟨by omega, hroom.2⟩ hb hcat d hst (rt := .boolean) (by decide) hpo k
  · obtain ⟨m, dk, hdk, hdn, hmade, hcan⟩ := xl_site hat C.warm
    obtain ⟨kK, tk, file, methk, ck, toy, t, f0, hkK, hkn, hfile, hpool, hmk, hck, hbytes, hml, hlk, hfl, -⟩ := smade8 hdk hdn hmade (xl_obj C.base C.warm q2802) (C.K.1 3 _ rfl).2.1
    exact xFn_site hmade hcan rfl rfl (by decide +kernel) (C.wF q1530 q1529 (by decide)).2 hkK hmk hfl
  · obtain ⟨m, dk, hdk, hdn, hmade, hcan⟩ := xl_site hat C.warm
    obtain ⟨kK, tk, file, methk, ck, toy, t, f0, hkK, hkn, hfile, hpool, hmk, hck, hbytes, hml, hlk, hfl, hret, -⟩ := smade8 hdk hdn hmade (xl_obj C.base C.warm q2802) (C.K.1 3 _ rfl).2.1
    refine ⟨methk, ck, kK, hkK, hkn, hmk, hck, hlk, hml, hret, by rw [hbytes]; exact sd8_15, ?_⟩
    intro R' s' below' U₀ Y₀ hSt hWs hWU hfr9 hlo9 hmc9 hms9
    obtain ⟨hr1, hr2, hr3, hr4, hzl⟩ := C.rest
    have hx9 := C.hx
    have hKU := va_K.moved hSt.1.alike C.base.1
    have hCT := (hKU.1 3 _ rfl).2
    obtain ⟨hCT1, kT, hkT, -⟩ := id hCT
    obtain ⟨m2, dk2, hdk2, hdn2, hmade2, hcan2⟩ := xl_site hat hSt.1
    obtain ⟨kK2, tk2, file2, methk2, ck2, toy2, t2, g0, hkK2, hkn2, hfile2, hpool2, hmk2, hck2, hbytes2, hml2, hlk2, hfl2, hret2, htoy2, htk2, hitf2, hlook2, hmr2, hcr2, hxr2, hf0, hfs0, hfn0⟩ := smade8 hdk2 hdn2 hmade2 (xl_obj C.base hSt.1 q2802) hCT1
    have hcU : U₀.heap[a]? = some cell := hcellH _ hSt.2
    obtain ⟨-, -, cx1, hcx1, hccx1, hcvx1, -⟩ := hSt.2.at hx1
    obtain ⟨-, -, cx2, hcx2, hccx2, hcvx2, -⟩ := hSt.2.at hx2
    have hK := xx_back (l := zl z) (R := R') (p := zp z) (e := ze z) (below := below') (s := s') (sargs := (Value.ref a :: [.ref x1, .ref x2]).toArray) (len := 3) (W9 := 0) hM hzl (fun U mk hW hn => codeOk s' U mk #[] hW hn (word_at (State.WarmedH.trans hWs hW) (good_of_word (List.mem_filter.mp q1523).2) (C.w _ q1523))) (by omega) (by omega) (fun a' U hW => word_at (State.WarmedH.trans hWs hW) (good_of_word (List.mem_filter.mp q1523).2) (C.w _ q1523)) (fun a' U hW => word_at (State.WarmedH.trans hWs hW) (good_of_word (List.mem_filter.mp q87).2) (C.w _ q87))
    obtain ⟨-, -, cb, hcb, hccb, hcvb, -⟩ := hSt.2.at hb9
    have htb : cb.cls = toy2 := by
      rw [hccb]
      exact Option.some.inj ((hKU.1 0 _ rfl).2.1.symm.trans htoy2)
    have k0 : Steps (zp z).tables (ze z) below' (U₀.setTop (entryFrame ⟨cell.cls, 1⟩ (Value.ref a :: [.ref x1, .ref x2]).toArray 3)) (U₀.setTop { method := ⟨cell.cls, 1⟩, pc := 0, locals := #[.val (.ref a), .val (.ref x1), .val (.ref x2)], stack := [], locked := none }) := Steps.refl _
    have k1 : Steps (zp z).tables (ze z) below' (U₀.setTop (entryFrame ⟨cell.cls, 1⟩ (Value.ref a :: [.ref x1, .ref x2]).toArray 3)) (U₀.setTop { method := ⟨cell.cls, 1⟩, pc := 1, locals := #[.val (.ref a), .val (.ref x1), .val (.ref x2)], stack := [.ref a], locked := none }) := by
      refine k0.trans ?_
      have hd9 : decode ck.code 0 = .ok (.aload_n 0, 1) := by rw [hbytes]; exact sd8_0
      jvm_step Y₀.here [hx9, hd9, Value.isRef]
      exact Steps.refl _
    have k2 := xl_getf Y₀ hx9 (g := { method := ⟨cell.cls, 1⟩, pc := 1, locals := #[.val (.ref a), .val (.ref x1), .val (.ref x2)], stack := [.ref a], locked := none }) rfl (index := 15) (a := a) (field := g0) (cell := cell) (v := .ref b) (rest := []) hf0 hfs0 rfl hcU (by rw [hvm]; simp) (by rw [hfn0, hsl]; rfl) (by rw [hbytes]; exact sd8_1) k1
    have k3 : Steps (zp z).tables (ze z) below' (U₀.setTop (entryFrame ⟨cell.cls, 1⟩ (Value.ref a :: [.ref x1, .ref x2]).toArray 3)) (U₀.setTop { method := ⟨cell.cls, 1⟩, pc := 5, locals := #[.val (.ref a), .val (.ref x1), .val (.ref x2)], stack := [.ref x1, .ref b], locked := none }) := by
      refine k2.trans ?_
      have hd9 : decode ck.code 4 = .ok (.aload_n 1, 1) := by rw [hbytes]; exact sd8_4
      jvm_step Y₀.here [hx9, hd9, Value.isRef]
      exact Steps.refl _
    have k4 := xl_cast Y₀ hx9 (g := { method := ⟨cell.cls, 1⟩, pc := 5, locals := #[.val (.ref a), .val (.ref x1), .val (.ref x2)], stack := [.ref x1, .ref b], locked := none }) rfl (index := 19) (a := x1) (cell := cx1) (ks := kT) (kt := kT) (rest := [.ref b]) hxr2 rfl hcx1 (fun q h => by rw [hcvx1] at h; cases h) (by rw [hccx1]; exact hkT) hkT (by rw [hccx1]; exact va_assign hCT) (by rw [hbytes]; exact sd8_5) k3
    have k5 : Steps (zp z).tables (ze z) below' (U₀.setTop (entryFrame ⟨cell.cls, 1⟩ (Value.ref a :: [.ref x1, .ref x2]).toArray 3)) (U₀.setTop { method := ⟨cell.cls, 1⟩, pc := 9, locals := #[.val (.ref a), .val (.ref x1), .val (.ref x2)], stack := [.ref x2, .ref x1, .ref b], locked := none }) := by
      refine k4.trans ?_
      have hd9 : decode ck.code 8 = .ok (.aload_n 2, 1) := by rw [hbytes]; exact sd8_8
      jvm_step Y₀.here [hx9, hd9, Value.isRef]
      exact Steps.refl _
    have k6 := xl_cast Y₀ hx9 (g := { method := ⟨cell.cls, 1⟩, pc := 9, locals := #[.val (.ref a), .val (.ref x1), .val (.ref x2)], stack := [.ref x2, .ref x1, .ref b], locked := none }) rfl (index := 19) (a := x2) (cell := cx2) (ks := kT) (kt := kT) (rest := [.ref x1, .ref b]) hxr2 rfl hcx2 (fun q h => by rw [hcvx2] at h; cases h) (by rw [hccx2]; exact hkT) hkT (by rw [hccx2]; exact va_assign hCT) (by rw [hbytes]; exact sd8_9) k5
    obtain ⟨v, B, Y₁, hpost, kE⟩ := xl_virtual Y₀ hx9 (gf := { method := ⟨cell.cls, 1⟩, pc := 12, locals := #[.val (.ref a), .val (.ref x1), .val (.ref x2)], stack := [.ref x2, .ref x1, .ref b], locked := none }) rfl (by rw [hml]; rfl) (index := 25) (a := b) (cell := cb) (y := yX2_lambda_benchByRent_7) (as := [.ref x1, .ref x2]) (rest := []) (by rw [htb]; exact xV_made Y₀.admits (a' := #[]) (n := 2) hkK2 hfile2 (by rw [hpool2]; exact seM8.1) hmr2 hcr2 htoy2 htk2 hitf2 hlook2 (by decide) (word_at hWU (good_of_word (List.mem_filter.mp q1523).2) (C.w _ q1523)) (word_at hWU (good_of_word (List.mem_filter.mp q1522).2) (C.w _ q1522)) (word_at hWU (good_of_word (List.mem_filter.mp qs23).2) (C.w _ qs23)) (sig := ⟨[.object "BenchBroker$Bench", .object "BenchBroker$Bench"], some .boolean⟩) (by decide +kernel) rfl) rfl hcb (fun q h => by rw [hcvb] at h; cases h) hK (by show 2 * 0 + 0 ≤ 0; decide) ⟨by show 0 + mc ≤ _; omega, by show 0 + ms ≤ _; omega, rfl, hSt⟩ (by rw [hbytes]; exact sd8_12) k6
    rw [List.append_nil] at kE
    exact ⟨v, B, _, Y₁, hpost, kE⟩
/-! lambda$tenantByCoins$8 -/
def sg9 : Lambda.Shape := ({ iface := "BenchBroker$Order", name := "isBefore", sam := ({ parameters := [(Jvm.ClassFile.FieldType.object "BenchBroker$Item"), (Jvm.ClassFile.FieldType.object "BenchBroker$Item")], returnType := (Option.some Jvm.ClassFile.FieldType.boolean) } : Jvm.ClassFile.MethodDescriptor), captured := [], kind := 6, implClass := "BenchBroker$Park", implName := "lambda$tenantByCoins$8", implDesc := ({ parameters := [(Jvm.ClassFile.FieldType.object "BenchBroker$Tenant"), (Jvm.ClassFile.FieldType.object "BenchBroker$Tenant")], returnType := (Option.some Jvm.ClassFile.FieldType.boolean) } : Jvm.ClassFile.MethodDescriptor), implItf := false, inst := ({ parameters := [(Jvm.ClassFile.FieldType.object "BenchBroker$Tenant"), (Jvm.ClassFile.FieldType.object "BenchBroker$Tenant")], returnType := (Option.some Jvm.ClassFile.FieldType.boolean) } : Jvm.ClassFile.MethodDescriptor) } : Jvm.Lambda.Shape)
def sD9 : ClassFile := (sg9.file "BenchBroker$Park").getD { minorVersion := 0, majorVersion := 0, constantPool := #[], accessFlags := 0, thisClass := 0, superClass := 0, interfaces := #[], fields := #[], methods := #[], attributes := #[] }
def sf9 : Method := ((layoutMethods sD9).bind (·[1]?)).getD default
def sl9 : Array Field × Array FieldType × Array FieldType := (layoutFields sD9 0).getD (#[], #[], #[])
theorem sfile9 : sg9.file "BenchBroker$Park" = some sD9 := by
  have h : (sg9.file "BenchBroker$Park").isSome = true := by decide +kernel
  obtain ⟨x, hx⟩ := Option.isSome_iff_exists.mp h
  simp [sD9, hx]
theorem ssec9 : ∀ ms, layoutMethods sD9 = some ms → ms[1]? = some sf9 := by
  intro ms hms
  have h : ((layoutMethods sD9).bind (·[1]?)).isSome = true := by decide +kernel
  obtain ⟨x, hx⟩ := Option.isSome_iff_exists.mp h
  have hf : sf9 = x := by simp [sf9, hx]
  rw [hms] at hx
  rw [hf]
  exact hx
theorem slaid9 : layoutFields sD9 0 = some sl9 := by
  have h : (layoutFields sD9 0).isSome = true := by decide +kernel
  obtain ⟨x, hx⟩ := Option.isSome_iff_exists.mp h
  simp [sl9, hx]
def sB9 : ByteArray := ⟨#[43, 192, 0, 14, 44, 192, 0, 14, 184, 0, 20, 172]⟩
theorem sd9_0 : decode sB9 0 = .ok (.aload_n 1, 1) := by decide +kernel
theorem sd9_1 : decode sB9 1 = .ok (.checkcast 14, 3) := by decide +kernel
theorem sd9_4 : decode sB9 4 = .ok (.aload_n 2, 1) := by decide +kernel
theorem sd9_5 : decode sB9 5 = .ok (.checkcast 14, 3) := by decide +kernel
theorem sd9_8 : decode sB9 8 = .ok (.invokestatic 20, 3) := by decide +kernel
theorem sd9_11 : decode sB9 11 = .ok (.ireturn, 1) := by decide +kernel
theorem scode9 : (sf9.code.map fun c => (c.code.data, c.maxLocals)) = some (sB9.data, 3) := by decide +kernel
theorem sflag9 : (sf9.accessFlags, sf9.name, sf9.sig.returnType) = (0x0001, "isBefore", some FieldType.boolean) := by decide +kernel
theorem seM9 : sD9.constantPool[20]? = some (.methodref 16 19) ∧ sD9.constantPool.className? 16 = some "BenchBroker$Park" ∧ sD9.constantPool.nameAndType? 19 = some ("lambda$tenantByCoins$8", "(LBenchBroker$Tenant;LBenchBroker$Tenant;)Z") := by decide +kernel
theorem seC9 : sD9.constantPool[16]? = some (.class_ 15) ∧ sD9.constantPool.string? 15 = some "BenchBroker$Park" ∧ 16 ≠ sD9.thisClass := by decide +kernel
theorem seX9 : sD9.constantPool[14]? = some (.class_ 13) ∧ sD9.constantPool.string? 13 = some "BenchBroker$Tenant" ∧ 14 ≠ sD9.thisClass := by decide +kernel
theorem smade9 {vm : Vm} {d c cT : ClassId} {dk : Class} (hd : vm.classes[d]? = some dk) (hname : dk.name = "BenchBroker$Park") (h : Lambda.isMade { classPath := fun _ => none } vm d sg9 c = true)
    (hO : ∀ o ok, vm.findClass "java/lang/Object" = some o → vm.classes[o]? = some ok → ok.instanceTypes.size = 0) (hT : vm.findClass "BenchBroker$Tenant" = some cT) :
    ∃ (k tk : Class) (file : ClassFile) (methk : Method) (ck : Code) (toy : ClassId) (t : MethodId),
      vm.classes[c]? = some k ∧ k.name = "BenchBroker$Park$$Lambda" ∧ k.cf = some file ∧ file.constantPool = sD9.constantPool ∧
      vm.method? ⟨c, 1⟩ = some methk ∧ methk.code = some ck ∧ ck.code = sB9 ∧ ck.maxLocals = 3 ∧ methk.locks = false ∧ methk.accessFlags = 0x0001 ∧ methk.sig.returnType = some .boolean ∧
      vm.findClass "BenchBroker$Park" = some toy ∧ vm.classes[toy]? = some tk ∧ tk.isInterface = false ∧ ((methodIn toy "lambda$tenantByCoins$8" "(LBenchBroker$Tenant;LBenchBroker$Tenant;)Z" tk.isInterface none).ask { classPath := fun _ => none } vm).1 = .ok t ∧
      vm.methodReady c 20 t ∧ vm.classReady c 16 toy ∧ vm.classReady c 14 cT := by
  obtain ⟨dk', k, ok, tk, file, cf, object, iface, toy, lay, methods, target, found, hd', hk, hfile, hcf, hobj, -, hok, hlay, hms, ht, htk, hg, -, hrec, -, -, -, hitf, hpool, hmeth, hfields, -, hres, -⟩ := Lambda.isMade_spec h
  cases hd.symm.trans hd'
  rw [hname, sfile9] at hcf
  cases hcf
  rw [hO object ok hobj hok, slaid9] at hlay
  cases hlay
  obtain ⟨b, hb, hsame⟩ := hmeth 1 sf9 (ssec9 methods hms)
  simp only [Lambda.sameMethod, Bool.and_eq_true, decide_eq_true_eq] at hsame
  obtain ⟨⟨hn, -, hsig, hfl⟩, hcode⟩ := hsame
  have fc := scode9
  have ff := sflag9
  simp only [Prod.mk.injEq] at ff
  cases hfc : sf9.code with
  | none => rw [hfc] at fc; cases fc
  | some x =>
    cases hbc : b.code with
    | none => simp [hfc, hbc] at hcode
    | some y =>
      simp only [hfc, hbc, Bool.and_eq_true, decide_eq_true_eq] at hcode
      simp only [hfc, Option.map_some, Option.some.injEq, Prod.mk.injEq] at fc
      refine ⟨k, tk, file, b, y, toy, target, hk, by rw [hrec.1, hname]; rfl, hfile, hpool.2.1, by simp [Vm.method?, hk, hb], hbc, ?_, by rw [← hcode.1.1.1.1.2.1]; exact fc.2, ?_, by rw [← hfl]; exact ff.1, by rw [← hsig]; exact ff.2.2, ht, htk, hitf, hg,
        ⟨k, hk, hres 20 _ (Lambda.resolvedOf_method seM9.1 seM9.2.1 ht htk seM9.2.2 hg)⟩, ⟨k, hk, hres 16 _ (Lambda.resolvedOf_class seC9.1 seC9.2.2 seC9.2.1 ht)⟩, ⟨k, hk, hres 14 _ (Lambda.resolvedOf_class seX9.1 seX9.2.2 seX9.2.1 hT)⟩⟩
      · rw [← hcode.1.1.1.1.2.2]
        exact ByteArray.ext fc.1
      · simp [Method.locks, Method.isSynchronized, ← hfl, ff.1, hasFlag, Acc.synchronized]
set_option maxHeartbeats 1000000 in
theorem xr_lam9 {z : ZZ} {own : String} {cc : ByteArray} {nL fr lo rc rs pc : Nat} {ret : Option FieldType} {w : WW} {lv : List (Option Value)} {st : List Value} {idx cnt a x1 x2 fr' lo' mc ms rc' rs' : Nat}  {fsx1 fsx2 rest : List Value} {po : Option Value → WW → Prop}
    (hlo9 : LO (zg z) w a ⟨"BenchBroker$Park", "tenantByCoins", "(I)I"⟩ 0 267 sg9 []) (hx1 : Ob w x1 5 fsx1) (hx2 : Ob w x2 5 fsx2)
    (hM : Ct (zg z) yX2_lambda_tenantByCoins_8 (.code yX2_lambda_tenantByCoins_8 cX2_lambda_tenantByCoins_8 4 (some .boolean)) fr' lo' mc ms w [.ref x1, .ref x2] po xF) (hlink : Cond.methodLink own idx ⟨"BenchBroker$Order", "isBefore", "(LBenchBroker$Item;LBenchBroker$Item;)Z"⟩ ∈ lw_all)
    (hroom : fr' + 2 ≤ fr ∧ 8 + (3 + 11) + (4 + 11 + lo') ≤ lo) (hb : rc' + mc ≤ rc ∧ rs' + ms ≤ rs) (hcat : (rest.map fun v => v.category).sum ≤ 8) (d : decode cc pc = .ok (.invokeinterface idx cnt, 5)) (hst : st = [.ref x1, .ref x2].reverse ++ .ref a :: rest)
    (hpo : ∀ v w', po v w' → ∃ i : Int32, v = some (.int i) ∧ narrow .boolean (.int i) = .int i)
    (k : ∀ (r : Option Value) (w' : WW), po r w' → XJ z own cc nL ret fr lo w' rc' rs' (pc + 5) lv (r.toList ++ rest)) : XJ z own cc nL ret fr lo w rc rs pc lv st := by
  obtain ⟨cK, one, cell, hat, rfl, hvm, hsl, hwhere⟩ := hlo9
  have hcellH : ∀ H, Hp (zg z) w H → H[a]? = some cell := fun H hH => by
    rcases hwhere with h | ⟨h1, h2⟩
    · exact hH.at h
    · exact ((hH.2.2.1 a h1).1).trans h2
  refine xr_lam (x := ⟨"BenchBroker$Order", "isBefore", "(LBenchBroker$Item;LBenchBroker$Item;)Z"⟩) (as := [.ref x1, .ref x2]) (asI := [.ref x1, .ref x2]) (maxL := 3) (pcR := 11) (fr9 := fr' + 1) (lo9 := 4 + 11 + lo') hcellH hvm (fun C => ?_) (fun C => ?_) hlink q1530 q1529 (n9 := 2) (by decide +kernel) rfl ⟨by omega, hroom.2⟩ hb hcat d hst (rt := .boolean) (by decide) hpo k
  · obtain ⟨m, dk, hdk, hdn, hmade, hcan⟩ := xl_site hat C.warm
    obtain ⟨kK, tk, file, methk, ck, toy, t, hkK, hkn, hfile, hpool, hmk, hck, hbytes, hml, hlk, hfl, -⟩ := smade9 hdk hdn hmade (xl_obj C.base C.warm q2802) (C.K.1 5 _ rfl).2.1
    exact xFn_site hmade hcan rfl rfl (by decide +kernel) (C.wF q1530 q1529 (by decide)).2 hkK hmk hfl
  · obtain ⟨m, dk, hdk, hdn, hmade, hcan⟩ := xl_site hat C.warm
    obtain ⟨kK, tk, file, methk, ck, toy, t, hkK, hkn, hfile, hpool, hmk, hck, hbytes, hml, hlk, hfl, hret, -⟩ := smade9 hdk hdn hmade (xl_obj C.base C.warm q2802) (C.K.1 5 _ rfl).2.1
    refine ⟨methk, ck, kK, hkK, hkn, hmk, hck, hlk, hml, hret, by rw [hbytes]; exact sd9_11, ?_⟩
    intro R' s' below' U₀ Y₀ hSt hWs hWU hfr9 hlo9 hmc9 hms9
    obtain ⟨hr1, hr2, hr3, hr4, hzl⟩ := C.rest
    have hx9 := C.hx
    have hKU := va_K.moved hSt.1.alike C.base.1
    have hCT := (hKU.1 5 _ rfl).2
    obtain ⟨hCT1, kT, hkT, -⟩ := id hCT
    obtain ⟨m2, dk2, hdk2, hdn2, hmade2, hcan2⟩ := xl_site hat hSt.1
    obtain ⟨kK2, tk2, file2, methk2, ck2, toy2, t2, hkK2, hkn2, hfile2, hpool2, hmk2, hck2, hbytes2, hml2, hlk2, hfl2, hret2, htoy2, htk2, hitf2, hlook2, hmr2, hcr2, hxr2⟩ := smade9 hdk2 hdn2 hmade2 (xl_obj C.base hSt.1 q2802) hCT1
    have hcU : U₀.heap[a]? = some cell := hcellH _ hSt.2
    obtain ⟨-, -, cx1, hcx1, hccx1, hcvx1, -⟩ := hSt.2.at hx1
    obtain ⟨-, -, cx2, hcx2, hccx2, hcvx2, -⟩ := hSt.2.at hx2
    have hK := xx_back (l := zl z) (R := R') (p := zp z) (e := ze z) (below := below') (s := s') (sargs := (Value.ref a :: [.ref x1, .ref x2]).toArray) (len := 3) (W9 := 0) hM hzl (fun U mk hW hn => codeOk s' U mk #[] hW hn (word_at (State.WarmedH.trans hWs hW) (good_of_word (List.mem_filter.mp q1545).2) (C.w _ q1545))) (by omega) (by omega) (fun a' U hW => word_at (State.WarmedH.trans hWs hW) (good_of_word (List.mem_filter.mp q1545).2) (C.w _ q1545)) (fun a' U hW => word_at (State.WarmedH.trans hWs hW) (good_of_word (List.mem_filter.mp q87).2) (C.w _ q87))
    have k0 : Steps (zp z).tables (ze z) below' (U₀.setTop (entryFrame ⟨cell.cls, 1⟩ (Value.ref a :: [.ref x1, .ref x2]).toArray 3)) (U₀.setTop { method := ⟨cell.cls, 1⟩, pc := 0, locals := #[.val (.ref a), .val (.ref x1), .val (.ref x2)], stack := [], locked := none }) := Steps.refl _
    have k1 : Steps (zp z).tables (ze z) below' (U₀.setTop (entryFrame ⟨cell.cls, 1⟩ (Value.ref a :: [.ref x1, .ref x2]).toArray 3)) (U₀.setTop { method := ⟨cell.cls, 1⟩, pc := 1, locals := #[.val (.ref a), .val (.ref x1), .val (.ref x2)], stack := [.ref x1], locked := none }) := by
      refine k0.trans ?_
      have hd9 : decode ck.code 0 = .ok (.aload_n 1, 1) := by rw [hbytes]; exact sd9_0
      jvm_step Y₀.here [hx9, hd9, Value.isRef]
      exact Steps.refl _
    have k2 := xl_cast Y₀ hx9 (g := { method := ⟨cell.cls, 1⟩, pc := 1, locals := #[.val (.ref a), .val (.ref x1), .val (.ref x2)], stack := [.ref x1], locked := none }) rfl (index := 14) (a := x1) (cell := cx1) (ks := kT) (kt := kT) (rest := []) hxr2 rfl hcx1 (fun q h => by rw [hcvx1] at h; cases h) (by rw [hccx1]; exact hkT) hkT (by rw [hccx1]; exact va_assign hCT) (by rw [hbytes]; exact sd9_1) k1
    have k3 : Steps (zp z).tables (ze z) below' (U₀.setTop (entryFrame ⟨cell.cls, 1⟩ (Value.ref a :: [.ref x1, .ref x2]).toArray 3)) (U₀.setTop { method := ⟨cell.cls, 1⟩, pc := 5, locals := #[.val (.ref a), .val (.ref x1), .val (.ref x2)], stack := [.ref x2, .ref x1], locked := none }) := by
      refine k2.trans ?_
      have hd9 : decode ck.code 4 = .ok (.aload_n 2, 1) := by rw [hbytes]; exact sd9_4
      jvm_step Y₀.here [hx9, hd9, Value.isRef]
      exact Steps.refl _
    have k4 := xl_cast Y₀ hx9 (g := { method := ⟨cell.cls, 1⟩, pc := 5, locals := #[.val (.ref a), .val (.ref x1), .val (.ref x2)], stack := [.ref x2, .ref x1], locked := none }) rfl (index := 14) (a := x2) (cell := cx2) (ks := kT) (kt := kT) (rest := [.ref x1]) hxr2 rfl hcx2 (fun q h => by rw [hcvx2] at h; cases h) (by rw [hccx2]; exact hkT) hkT (by rw [hccx2]; exact va_assign hCT) (by rw [hbytes]; exact sd9_5) k3
    obtain ⟨v, B, Y₁, hpost, kE⟩ := xl_static Y₀ hx9 (gf := { method := ⟨cell.cls, 1⟩, pc := 8, locals := #[.val (.ref a), .val (.ref x1), .val (.ref x2)], stack := [.ref x2, .ref x1], locked := none }) rfl (by rw [hml]; rfl) (index := 20) (y := yX2_lambda_tenantByCoins_8) (as := [.ref x1, .ref x2]) (rest := []) (xS_made (a' := #[]) (n := 2) hkK2 hfile2 (by rw [hpool2]; exact seM9.1) (by rw [hpool2]; exact seM9.2.2) hmr2 hcr2 htoy2 htk2 hlook2 (by decide) (word_at hWU (good_of_word (List.mem_filter.mp q1545).2) (C.w _ q1545)) (word_at hWU (good_of_word (List.mem_filter.mp q1544).2) (C.w _ q1544)) (word_at hWU (good_of_word (List.mem_filter.mp q87).2) (C.w _ q87)) (sig := ⟨[.object "BenchBroker$Tenant", .object "BenchBroker$Tenant"], some .boolean⟩) (by decide +kernel) rfl) rfl hK (by show 2 * 0 + 0 ≤ 0; decide) ⟨by show 0 + mc ≤ _; omega, by show 0 + ms ≤ _; omega, rfl, hSt⟩ (by rw [hbytes]; exact sd9_8) k4
    rw [List.append_nil] at kE
    exact ⟨v, B, _, Y₁, hpost, kE⟩
/-! lambda$rentTotal$6 -/
def sg10 : Lambda.Shape := ({ iface := "BenchBroker$Value", name := "of", sam := ({ parameters := [(Jvm.ClassFile.FieldType.object "BenchBroker$Item")], returnType := (Option.some Jvm.ClassFile.FieldType.int) } : Jvm.ClassFile.MethodDescriptor), captured := [(Jvm.ClassFile.FieldType.object "BenchBroker$Park")], kind := 5, implClass := "BenchBroker$Park", implName := "lambda$rentTotal$6", implDesc := ({ parameters := [(Jvm.ClassFile.FieldType.object "BenchBroker$Bench")], returnType := (Option.some Jvm.ClassFile.FieldType.int) } : Jvm.ClassFile.MethodDescriptor), implItf := false, inst := ({ parameters := [(Jvm.ClassFile.FieldType.object "BenchBroker$Bench")], returnType := (Option.some Jvm.ClassFile.FieldType.int) } : Jvm.ClassFile.MethodDescriptor) } : Jvm.Lambda.Shape)
def sD10 : ClassFile := (sg10.file "BenchBroker$Park").getD { minorVersion := 0, majorVersion := 0, constantPool := #[], accessFlags := 0, thisClass := 0, superClass := 0, interfaces := #[], fields := #[], methods := #[], attributes := #[] }
def sf10 : Method := ((layoutMethods sD10).bind (·[1]?)).getD default
def sl10 : Array Field × Array FieldType × Array FieldType := (layoutFields sD10 0).getD (#[], #[], #[])
theorem sfile10 : sg10.file "BenchBroker$Park" = some sD10 := by
  have h : (sg10.file "BenchBroker$Park").isSome = true := by decide +kernel
  obtain ⟨x, hx⟩ := Option.isSome_iff_exists.mp h
  simp [sD10, hx]
theorem ssec10 : ∀ ms, layoutMethods sD10 = some ms → ms[1]? = some sf10 := by
  intro ms hms
  have h : ((layoutMethods sD10).bind (·[1]?)).isSome = true := by decide +kernel
  obtain ⟨x, hx⟩ := Option.isSome_iff_exists.mp h
  have hf : sf10 = x := by simp [sf10, hx]
  rw [hms] at hx
  rw [hf]
  exact hx
theorem slaid10 : layoutFields sD10 0 = some sl10 := by
  have h : (layoutFields sD10 0).isSome = true := by decide +kernel
  obtain ⟨x, hx⟩ := Option.isSome_iff_exists.mp h
  simp [sl10, hx]
def sB10 : ByteArray := ⟨#[42, 180, 0, 15, 43, 192, 0, 19, 182, 0, 25, 172]⟩
theorem sd10_0 : decode sB10 0 = .ok (.aload_n 0, 1) := by decide +kernel
theorem sd10_1 : decode sB10 1 = .ok (.getfield 15, 3) := by decide +kernel
theorem sd10_4 : decode sB10 4 = .ok (.aload_n 1, 1) := by decide +kernel
theorem sd10_5 : decode sB10 5 = .ok (.checkcast 19, 3) := by decide +kernel
theorem sd10_8 : decode sB10 8 = .ok (.invokevirtual 25, 3) := by decide +kernel
theorem sd10_11 : decode sB10 11 = .ok (.ireturn, 1) := by decide +kernel
theorem scode10 : (sf10.code.map fun c => (c.code.data, c.maxLocals)) = some (sB10.data, 2) := by decide +kernel
theorem sflag10 : (sf10.accessFlags, sf10.name, sf10.sig.returnType) = (0x0001, "of", some FieldType.int) := by decide +kernel
theorem seM10 : sD10.constantPool[25]? = some (.methodref 21 24) ∧ sD10.constantPool.className? 21 = some "BenchBroker$Park" ∧ sD10.constantPool.nameAndType? 24 = some ("lambda$rentTotal$6", "(LBenchBroker$Bench;)I") := by decide +kernel
theorem seC10 : sD10.constantPool[21]? = some (.class_ 20) ∧ sD10.constantPool.string? 20 = some "BenchBroker$Park" ∧ 21 ≠ sD10.thisClass := by decide +kernel
theorem seX10 : sD10.constantPool[19]? = some (.class_ 18) ∧ sD10.constantPool.string? 18 = some "BenchBroker$Bench" ∧ 19 ≠ sD10.thisClass := by decide +kernel
theorem seF10_0 : sD10.constantPool[15]? = some (.fieldref 2 14) ∧ sD10.constantPool.nameAndType? 14 = some ("arg$1", "LBenchBroker$Park;") ∧ sl10.1.findIdx? (·.name == "arg$1") = some 0 ∧ (sl10.1[0]?).map (fun f => (f.isStatic, f.slot)) = some (false, 0) := by decide +kernel
theorem smade10 {vm : Vm} {d c cT : ClassId} {dk : Class} (hd : vm.classes[d]? = some dk) (hname : dk.name = "BenchBroker$Park") (h : Lambda.isMade { classPath := fun _ => none } vm d sg10 c = true)
    (hO : ∀ o ok, vm.findClass "java/lang/Object" = some o → vm.classes[o]? = some ok → ok.instanceTypes.size = 0) (hT : vm.findClass "BenchBroker$Bench" = some cT) :
    ∃ (k tk : Class) (file : ClassFile) (methk : Method) (ck : Code) (toy : ClassId) (t : MethodId) (f0 : Field),
      vm.classes[c]? = some k ∧ k.name = "BenchBroker$Park$$Lambda" ∧ k.cf = some file ∧ file.constantPool = sD10.constantPool ∧
      vm.method? ⟨c, 1⟩ = some methk ∧ methk.code = some ck ∧ ck.code = sB10 ∧ ck.maxLocals = 2 ∧ methk.locks = false ∧ methk.accessFlags = 0x0001 ∧ methk.sig.returnType = some .int ∧
      vm.findClass "BenchBroker$Park" = some toy ∧ vm.classes[toy]? = some tk ∧ tk.isInterface = false ∧ ((methodIn toy "lambda$rentTotal$6" "(LBenchBroker$Bench;)I" tk.isInterface none).ask { classPath := fun _ => none } vm).1 = .ok t ∧
      vm.methodReady c 25 t ∧ vm.classReady c 21 toy ∧ vm.classReady c 19 cT ∧ vm.fieldReady c 15 c f0 ∧ f0.isStatic = false ∧ f0.slot = 0 := by
  obtain ⟨dk', k, ok, tk, file, cf, object, iface, toy, lay, methods, target, found, hd', hk, hfile, hcf, hobj, -, hok, hlay, hms, ht, htk, hg, -, hrec, -, -, -, hitf, hpool, hmeth, hfields, -, hres, -⟩ := Lambda.isMade_spec h
  cases hd.symm.trans hd'
  rw [hname, sfile10] at hcf
  cases hcf
  rw [hO object ok hobj hok, slaid10] at hlay
  cases hlay
  obtain ⟨b, hb, hsame⟩ := hmeth 1 sf10 (ssec10 methods hms)
  simp only [Lambda.sameMethod, Bool.and_eq_true, decide_eq_true_eq] at hsame
  obtain ⟨⟨hn, -, hsig, hfl⟩, hcode⟩ := hsame
  have fc := scode10
  have ff := sflag10
  simp only [Prod.mk.injEq] at ff
  obtain ⟨g0, hg0, hp0⟩ := Option.map_eq_some_iff.mp seF10_0.2.2.2
  simp only [Prod.mk.injEq] at hp0
  cases hfc : sf10.code with
  | none => rw [hfc] at fc; cases fc
  | some x =>
    cases hbc : b.code with
    | none => simp [hfc, hbc] at hcode
    | some y =>
      simp only [hfc, hbc, Bool.and_eq_true, decide_eq_true_eq] at hcode
      simp only [hfc, Option.map_some, Option.some.injEq, Prod.mk.injEq] at fc
      refine ⟨k, tk, file, b, y, toy, target, g0, hk, by rw [hrec.1, hname]; rfl, hfile, hpool.2.1, by simp [Vm.method?, hk, hb], hbc, ?_, by rw [← hcode.1.1.1.1.2.1]; exact fc.2, ?_, by rw [← hfl]; exact ff.1, by rw [← hsig]; exact ff.2.2, ht, htk, hitf, hg,
        ⟨k, hk, hres 25 _ (Lambda.resolvedOf_method seM10.1 seM10.2.1 ht htk seM10.2.2 hg)⟩, ⟨k, hk, hres 21 _ (Lambda.resolvedOf_class seC10.1 seC10.2.2 seC10.2.1 ht)⟩, ⟨k, hk, hres 19 _ (Lambda.resolvedOf_class seX10.1 seX10.2.2 seX10.2.1 hT)⟩, ⟨k, 0, k, hk, hres 15 _ (Lambda.resolvedOf_field seF10_0.1 seF10_0.2.1 seF10_0.2.2.1), hk, hfields 0 _ hg0⟩, hp0.1, hp0.2⟩
      · rw [← hcode.1.1.1.1.2.2]
        exact ByteArray.ext fc.1
      · simp [Method.locks, Method.isSynchronized, ← hfl, ff.1, hasFlag, Acc.synchronized]
set_option maxHeartbeats 1000000 in
theorem xr_lam10 {z : ZZ} {own : String} {cc : ByteArray} {nL fr lo rc rs pc : Nat} {ret : Option FieldType} {w : WW} {lv : List (Option Value)} {st : List Value} {idx cnt a x1 b fr' lo' mc ms rc' rs' : Nat}  {fsx1 fsb rest : List Value} {po : Option Value → WW → Prop}
    (hlo9 : LO (zg z) w a ⟨"BenchBroker$Park", "rentTotal", "()I"⟩ 5 258 sg10 [.ref b]) (hx1 : Ob w x1 3 fsx1) (hb9 : Ob w b 0 fsb)
    (hM : Ct (zg z) yX2_lambda_rentTotal_6 (.code yX2_lambda_rentTotal_6 cX2_lambda_rentTotal_6 2 (some .int)) fr' lo' mc ms w [.ref b, .ref x1] po xF) (hlink : Cond.methodLink own idx ⟨"BenchBroker$Value", "of", "(LBenchBroker$Item;)I"⟩ ∈ lw_all)
    (hroom : fr' + 2 ≤ fr ∧ 8 + (2 + 11) + (2 + 11 + lo') ≤ lo) (hb : rc' + mc ≤ rc ∧ rs' + ms ≤ rs) (hcat : (rest.map fun v => v.category).sum ≤ 8) (d : decode cc pc = .ok (.invokeinterface idx cnt, 5)) (hst : st = [.ref x1].reverse ++ .ref a :: rest)
    (hpo : ∀ v w', po v w' → ∃ i : Int32, v = some (.int i) ∧ narrow .int (.int i) = .int i)
    (k : ∀ (r : Option Value) (w' : WW), po r w' → XJ z own cc nL ret fr lo w' rc' rs' (pc + 5) lv (r.toList ++ rest)) : XJ z own cc nL ret fr lo w rc rs pc lv st := by
  obtain ⟨cK, one, cell, hat, rfl, hvm, hsl, hwhere⟩ := hlo9
  have hcellH : ∀ H, Hp (zg z) w H → H[a]? = some cell := fun H hH => by
    rcases hwhere with h | ⟨h1, h2⟩
    · exact hH.at h
    · exact ((hH.2.2.1 a h1).1).trans h2
  refine xr_lam (x := ⟨"BenchBroker$Value", "of", "(LBenchBroker$Item;)I"⟩) (as := [.ref x1]) (asI := [.ref b, .ref x1]) (maxL := 2) (pcR := 11) (fr9 := fr' + 1) (lo9 := 2 + 11 + lo') hcellH hvm (fun C => ?_) (fun C => ?_) hlink q384 q383 (n9 := 1) (by decide +kernel) rfl ⟨by omega, hroom.2⟩ hb hcat d hst (rt := .int) (by decide) hpo k
  · obtain ⟨m, dk, hdk, hdn, hmade, hcan⟩ := xl_site hat C.warm
    obtain ⟨kK, tk, file, methk, ck, toy, t, f0, hkK, hkn, hfile, hpool, hmk, hck, hbytes, hml, hlk, hfl, -⟩ := smade10 hdk hdn hmade (xl_obj C.base C.warm q2802) (C.K.1 3 _ rfl).2.1
    exact xFn_site hmade hcan rfl rfl (by decide +kernel) (C.wF q384 q383 (by decide)).2 hkK hmk hfl
  · obtain ⟨m, dk, hdk, hdn, hmade, hcan⟩ := xl_site hat C.warm
    obtain ⟨kK, tk, file, methk, ck, toy, t, f0, hkK, hkn, hfile, hpool, hmk, hck, hbytes, hml, hlk, hfl, hret, -⟩ := smade10 hdk hdn hmade (xl_obj C.base C.warm q2802) (C.K.1 3 _ rfl).2.1
    refine ⟨methk, ck, kK, hkK, hkn, hmk, hck, hlk, hml, hret, by rw [hbytes]; exact sd10_11, ?_⟩
    intro R' s' below' U₀ Y₀ hSt hWs hWU hfr9 hlo9 hmc9 hms9
    obtain ⟨hr1, hr2, hr3, hr4, hzl⟩ := C.rest
    have hx9 := C.hx
    have hKU := va_K.moved hSt.1.alike C.base.1
    have hCT := (hKU.1 3 _ rfl).2
    obtain ⟨hCT1, kT, hkT, -⟩ := id hCT
    obtain ⟨m2, dk2, hdk2, hdn2, hmade2, hcan2⟩ := xl_site hat hSt.1
    obtain ⟨kK2, tk2, file2, methk2, ck2, toy2, t2, g0, hkK2, hkn2, hfile2, hpool2, hmk2, hck2, hbytes2, hml2, hlk2, hfl2, hret2, htoy2, htk2, hitf2, hlook2, hmr2, hcr2, hxr2, hf0, hfs0, hfn0⟩ := smade10 hdk2 hdn2 hmade2 (xl_obj C.base hSt.1 q2802) hCT1
    have hcU : U₀.heap[a]? = some cell := hcellH _ hSt.2
    obtain ⟨-, -, cx1, hcx1, hccx1, hcvx1, -⟩ := hSt.2.at hx1
    have hK := xx_back (l := zl z) (R := R') (p := zp z) (e := ze z) (below := below') (s := s') (sargs := (Value.ref a :: [.ref x1]).toArray) (len := 3) (W9 := 0) hM hzl (fun U mk hW hn => codeOk s' U mk #[] hW hn (word_at (State.WarmedH.trans hWs hW) (good_of_word (List.mem_filter.mp q1582).2) (C.w _ q1582))) (by omega) (by omega) (fun a' U hW => word_at (State.WarmedH.trans hWs hW) (good_of_word (List.mem_filter.mp q1582).2) (C.w _ q1582)) (fun a' U hW => word_at (State.WarmedH.trans hWs hW) (good_of_word (List.mem_filter.mp q87).2) (C.w _ q87))
    obtain ⟨-, -, cb, hcb, hccb, hcvb, -⟩ := hSt.2.at hb9
    have htb : cb.cls = toy2 := by
      rw [hccb]
      exact Option.some.inj ((hKU.1 0 _ rfl).2.1.symm.trans htoy2)
    have k0 : Steps (zp z).tables (ze z) below' (U₀.setTop (entryFrame ⟨cell.cls, 1⟩ (Value.ref a :: [.ref x1]).toArray 2)) (U₀.setTop { method := ⟨cell.cls, 1⟩, pc := 0, locals := #[.val (.ref a), .val (.ref x1)], stack := [], locked := none }) := Steps.refl _
    have k1 : Steps (zp z).tables (ze z) below' (U₀.setTop (entryFrame ⟨cell.cls, 1⟩ (Value.ref a :: [.ref x1]).toArray 2)) (U₀.setTop { method := ⟨cell.cls, 1⟩, pc := 1, locals := #[.val (.ref a), .val (.ref x1)], stack := [.ref a], locked := none }) := by
      refine k0.trans ?_
      have hd9 : decode ck.code 0 = .ok (.aload_n 0, 1) := by rw [hbytes]; exact sd10_0
      jvm_step Y₀.here [hx9, hd9, Value.isRef]
      exact Steps.refl _
    have k2 := xl_getf Y₀ hx9 (g := { method := ⟨cell.cls, 1⟩, pc := 1, locals := #[.val (.ref a), .val (.ref x1)], stack := [.ref a], locked := none }) rfl (index := 15) (a := a) (field := g0) (cell := cell) (v := .ref b) (rest := []) hf0 hfs0 rfl hcU (by rw [hvm]; simp) (by rw [hfn0, hsl]; rfl) (by rw [hbytes]; exact sd10_1) k1
    have k3 : Steps (zp z).tables (ze z) below' (U₀.setTop (entryFrame ⟨cell.cls, 1⟩ (Value.ref a :: [.ref x1]).toArray 2)) (U₀.setTop { method := ⟨cell.cls, 1⟩, pc := 5, locals := #[.val (.ref a), .val (.ref x1)], stack := [.ref x1, .ref b], locked := none }) := by
      refine k2.trans ?_
      have hd9 : decode ck.code 4 = .ok (.aload_n 1, 1) := by rw [hbytes]; exact sd10_4
      jvm_step Y₀.here [hx9, hd9, Value.isRef]
      exact Steps.refl _
    have k4 := xl_cast Y₀ hx9 (g := { method := ⟨cell.cls, 1⟩, pc := 5, locals := #[.val (.ref a), .val (.ref x1)], stack := [.ref x1, .ref b], locked := none }) rfl (index := 19) (a := x1) (cell := cx1) (ks := kT) (kt := kT) (rest := [.ref b]) hxr2 rfl hcx1 (fun q h => by rw [hcvx1] at h; cases h) (by rw [hccx1]; exact hkT) hkT (by rw [hccx1]; exact va_assign hCT) (by rw [hbytes]; exact sd10_5) k3
    obtain ⟨v, B, Y₁, hpost, kE⟩ := xl_virtual Y₀ hx9 (gf := { method := ⟨cell.cls, 1⟩, pc := 8, locals := #[.val (.ref a), .val (.ref x1)], stack := [.ref x1, .ref b], locked := none }) rfl (by rw [hml]; rfl) (index := 25) (a := b) (cell := cb) (y := yX2_lambda_rentTotal_6) (as := [.ref x1]) (rest := []) (by rw [htb]; exact xV_made Y₀.admits (a' := #[]) (n := 1) hkK2 hfile2 (by rw [hpool2]; exact seM10.1) hmr2 hcr2 htoy2 htk2 hitf2 hlook2 (by decide) (word_at hWU (good_of_word (List.mem_filter.mp q1582).2) (C.w _ q1582)) (word_at hWU (good_of_word (List.mem_filter.mp q1581).2) (C.w _ q1581)) (word_at hWU (good_of_word (List.mem_filter.mp qs24).2) (C.w _ qs24)) (sig := ⟨[.object "BenchBroker$Bench"], some .int⟩) (by decide +kernel) rfl) rfl hcb (fun q h => by rw [hcvb] at h; cases h) hK (by show 2 * 0 + 0 ≤ 0; decide) ⟨by show 0 + mc ≤ _; omega, by show 0 + ms ≤ _; omega, rfl, hSt⟩ (by rw [hbytes]; exact sd10_8) k4
    rw [List.append_nil] at kE
    exact ⟨v, B, _, Y₁, hpost, kE⟩
