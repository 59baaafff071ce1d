/-! 19z.sites.lean.txt (written by tools/mklams.py): the sites' words; calls of made objects -/
set_option maxRecDepth 100000
theorem ssite1 : Cond.lambdaSite ⟨"BenchBroker$Park", "quietCount", "()I"⟩ 5 255 sg1 ∈ flatC (Jvm.Cond.and given_1 narrow_1) := by decide +kernel
theorem slay1 : ((sg1.file "BenchBroker$Park").bind (layoutFields · 0)).map (·.2.1) = some #[FieldType.object "BenchBroker$Park"] := by decide +kernel
theorem ssite2 : Cond.lambdaSite ⟨"BenchBroker$Park", "noiseAt", "(II)I"⟩ 6 109 sg2 ∈ flatC (Jvm.Cond.and given_1 narrow_1) := by decide +kernel
theorem slay2 : ((sg2.file "BenchBroker$Park").bind (layoutFields · 0)).map (·.2.1) = some #[FieldType.int, FieldType.int] := by decide +kernel
theorem ssite3 : Cond.lambdaSite ⟨"BenchBroker$Park", "depositTotal", "()I"⟩ 4 247 sg3 ∈ flatC (Jvm.Cond.and given_1 narrow_1) := by decide +kernel
theorem ssite4 : Cond.lambdaSite ⟨"BenchBroker$Park", "allCoins", "()I"⟩ 4 250 sg4 ∈ flatC (Jvm.Cond.and given_1 narrow_1) := by decide +kernel
theorem ssite5 : Cond.lambdaSite ⟨"BenchBroker$Park", "letCount", "()I"⟩ 4 254 sg5 ∈ flatC (Jvm.Cond.and given_1 narrow_1) := by decide +kernel
theorem ssite6 : Cond.lambdaSite ⟨"BenchBroker$Park", "isConsistent", "()Z"⟩ 26 279 sg6 ∈ flatC (Jvm.Cond.and given_1 narrow_1) := by decide +kernel
theorem ssite7 : Cond.lambdaSite ⟨"BenchBroker$Park", "incomeByLeases", "(I)I"⟩ 6 244 sg7 ∈ flatC (Jvm.Cond.and given_1 narrow_1) := by decide +kernel
theorem slay7 : ((sg7.file "BenchBroker$Park").bind (layoutFields · 0)).map (·.2.1) = some #[FieldType.object "BenchBroker$Park", FieldType.int] := by decide +kernel
theorem ssite8 : Cond.lambdaSite ⟨"BenchBroker$Park", "benchByRent", "(I)I"⟩ 1 259 sg8 ∈ flatC (Jvm.Cond.and given_1 narrow_1) := by decide +kernel
theorem slay8 : ((sg8.file "BenchBroker$Park").bind (layoutFields · 0)).map (·.2.1) = some #[FieldType.object "BenchBroker$Park"] := by decide +kernel
theorem ssite9 : Cond.lambdaSite ⟨"BenchBroker$Park", "tenantByCoins", "(I)I"⟩ 0 267 sg9 ∈ flatC (Jvm.Cond.and given_1 narrow_1) := by decide +kernel
theorem ssite10 : Cond.lambdaSite ⟨"BenchBroker$Park", "rentTotal", "()I"⟩ 5 258 sg10 ∈ flatC (Jvm.Cond.and given_1 narrow_1) := by decide +kernel
theorem slay10 : ((sg10.file "BenchBroker$Park").bind (layoutFields · 0)).map (·.2.1) = some #[FieldType.object "BenchBroker$Park"] := by decide +kernel
/-- calling the object v's method yF with the objects xs, from the world w, in any frame: it answers i, and only new things are made -/
def LV (g : GG) (yF : MethodName) (fr9 lo9 mc ms : Nat) (w : WW) (v : Nat) (xs : List Nat) (i : Int32) : Prop :=
  ∀ (z : ZZ) (own : String) (cc : ByteArray) (nL : Nat) (ret : Option FieldType) (fr lo rc rs rc' rs' pc idx cnt : Nat) (lv : List (Option Value)) (st rest : List Value), zg z = g → Cond.methodLink own idx yF ∈ lw_all → fr9 ≤ fr ∧ lo9 ≤ lo → rc' + mc ≤ rc ∧ rs' + ms ≤ rs → (rest.map fun v => v.category).sum ≤ 8 →
    decode cc pc = .ok (.invokeinterface idx cnt, 5) → st = (xs.map Value.ref).reverse ++ .ref v :: rest → (∀ w' : WW, Mo w.2 w w' → XJ z own cc nL ret fr lo w' rc' rs' (pc + 5) lv (.int i :: rest)) → XJ z own cc nL ret fr lo w rc rs pc lv st
theorem LV.wk {g : GG} {yF : MethodName} {fr9 lo9 mc ms fr8 lo8 mc8 ms8 : Nat} {w : WW} {v : Nat} {xs : List Nat} {i : Int32} (h : LV g yF fr9 lo9 mc ms w v xs i) (h1 : fr9 ≤ fr8 ∧ lo9 ≤ lo8) (h2 : mc ≤ mc8 ∧ ms ≤ ms8) : LV g yF fr8 lo8 mc8 ms8 w v xs i := by
  intro z own cc nL ret fr lo rc rs rc' rs' pc idx cnt lv st rest hg hl hr hb hc d hst k
  exact h z own cc nL ret fr lo rc rs rc' rs' pc idx cnt lv st rest hg hl (by omega) (by omega) hc d hst k
