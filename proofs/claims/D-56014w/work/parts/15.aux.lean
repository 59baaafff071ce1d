/-! AUX: small lemmas that the printed walks use -/
set_option maxRecDepth 100000
theorem isRef_rf (r : Option Nat) : (va_rf r).isRef = true := by cases r <;> rfl
theorem cat_rf (r : Option Nat) : (va_rf r).category = 1 := by cases r <;> rfl
theorem nar_rf {ty : FieldType} (r : Option Nat) : narrow ty (va_rf r) = va_rf r := by cases r <;> cases ty <;> rfl
theorem fit_rf (Cn : String) (r : Option Nat) : fits (.object Cn) (va_rf r) = true := by cases r <;> rfl
theorem fit_rfA (ty : FieldType) (r : Option Nat) : fits (.array ty) (va_rf r) = true := by cases r <;> rfl
theorem nar_bI (b : Bool) : narrow .boolean (.int (bI b)) = .int (bI b) := by cases b <;> decide +kernel
theorem fit_bI (b : Bool) : fits .boolean (.int (bI b)) = true := by cases b <;> decide +kernel
theorem nar_ch {v : Int} (h : 0 ≤ v ∧ v < 65536) : narrow .char (.int (iI v)) = .int (iI v) := congrArg Value.int (iI_c16 h)
theorem wput_wput (w : WW) (a : Nat) (e e' : WE) : wput (wput w a e) a e' = wput w a e' := by
  simp only [wput, Prod.mk.injEq, and_true]
  funext b
  split <;> rfl
theorem bI_t : bI true = iI 1 := rfl
theorem bI_f : bI false = iI 0 := rfl
theorem bI_i (b : Bool) (p : Prop) (h : b = true ↔ p) (x : Int) (hx : (p → x = 1) ∧ (¬ p → x = 0)) : bI b = iI x := by
  cases b
  · rw [hx.2 (fun q => by simp at h; exact h q)]; rfl
  · rw [hx.1 (h.mp rfl)]; rfl
theorem lvw_nil {l : List (Option Value)} : ∀ (i : Nat) (v : Value), ([] : List (Option Value))[i]? = some (some v) → l[i]? = some (some v) := fun i v h => by simp at h
theorem lvw_s {l l' : List (Option Value)} {x : Option Value} (h : ∀ (i : Nat) (v : Value), l'[i]? = some (some v) → l[i]? = some (some v)) : ∀ (i : Nat) (v : Value), (x :: l')[i]? = some (some v) → (x :: l)[i]? = some (some v) := by
  intro i v hi
  cases i with
  | zero => exact hi
  | succ j => exact h j v hi
theorem lvw_n {l l' : List (Option Value)} {y : Option Value} (h : ∀ (i : Nat) (v : Value), l'[i]? = some (some v) → l[i]? = some (some v)) : ∀ (i : Nat) (v : Value), (none :: l')[i]? = some (some v) → (y :: l)[i]? = some (some v) := by
  intro i v hi
  cases i with
  | zero => simp at hi
  | succ j => exact h j v hi
section Ks
variable {z : ZZ} {own : String} {cc : ByteArray} {nL fr lo rc rs pc : Nat} {ret : Option FieldType} {w : WW} {lv : List (Option Value)} {st : List Value}
theorem xk_r {v : Value} (k : XJ z own cc nL ret fr lo w rc rs pc lv (v :: st)) : ∀ (r : Option Value) (w' : WW), (r = some v ∧ w' = w) → XJ z own cc nL ret fr lo w' rc rs pc lv (r.toList ++ st) := by
  rintro _ _ ⟨rfl, rfl⟩
  exact k
theorem xk_v (k : XJ z own cc nL ret fr lo w rc rs pc lv st) : ∀ (r : Option Value) (w' : WW), (r = none ∧ w' = w) → XJ z own cc nL ret fr lo w' rc rs pc lv (r.toList ++ st) := by
  rintro _ _ ⟨rfl, rfl⟩
  exact k
/-- behind a call that only makes new things -/
theorem xk_e {v : Value} (k : ∀ w' : WW, Mo w.2 w w' → XJ z own cc nL ret fr lo w' rc rs pc lv (v :: st)) : ∀ (r : Option Value) (w' : WW), (r = some v ∧ Mo w.2 w w') → XJ z own cc nL ret fr lo w' rc rs pc lv (r.toList ++ st) := by
  rintro _ w' ⟨rfl, h⟩
  exact k w' h
theorem xk_ev (k : ∀ w' : WW, Mo w.2 w w' → XJ z own cc nL ret fr lo w' rc rs pc lv st) : ∀ (r : Option Value) (w' : WW), (r = none ∧ Mo w.2 w w') → XJ z own cc nL ret fr lo w' rc rs pc lv (r.toList ++ st) := by
  rintro _ w' ⟨rfl, h⟩
  exact k w' h
/-- behind rejectIf(b) -/
theorem xk_req2 {b : Bool} (k : b = false → XJ z own cc nL ret fr lo w rc rs pc lv st) : ∀ (r : Option Value) (w' : WW), (b = false ∧ r = none ∧ w' = w) → XJ z own cc nL ret fr lo w' rc rs pc lv (r.toList ++ st) := by
  rintro _ _ ⟨h, rfl, rfl⟩
  exact k h
/-- behind require..(b) -/
theorem xk_req {b : Bool} (k : b = true → XJ z own cc nL ret fr lo w rc rs pc lv st) : ∀ (r : Option Value) (w' : WW), (b = true ∧ r = none ∧ w' = w) → XJ z own cc nL ret fr lo w' rc rs pc lv (r.toList ++ st) := by
  rintro _ _ ⟨h, rfl, rfl⟩
  exact k h
theorem xt_req {b : Bool} {Ec : String} (k : ∀ q : Nat, b = false → XT z own cc nL ret fr lo w rc rs pc lv Ec q) : ∀ (E : String) (q : Nat) (w' : WW), (b = false ∧ E = Ec ∧ w' = w) → XT z own cc nL ret fr lo w' rc rs pc lv E q := by
  rintro _ q _ ⟨h, rfl, rfl⟩
  exact k q h
theorem xr_icmpx_eq {x y : Int32} {off : Int} {tgt : Nat} (d : decode cc pc = .ok (.if_icmp .eq off, 3)) (ht : (pc : Int) + off = (tgt : Int)) (kt : x = y → XJ z own cc nL ret fr lo w rc rs tgt lv st) (kf : ¬ x = y → XJ z own cc nL ret fr lo w rc rs (pc + 3) lv st) : XJ z own cc nL ret fr lo w rc rs pc lv (.int y :: .int x :: st) := by
  intro C H L n1 n2 ls hH hl hc hs hv
  exact lv_icmp_eq C.hx C.hb d ht (fun q => kt q C H L n1 n2 ls hH hl hc hs hv) (fun q => kf q C H L n1 n2 ls hH hl hc hs hv)
theorem xr_icmpx_ne {x y : Int32} {off : Int} {tgt : Nat} (d : decode cc pc = .ok (.if_icmp .ne off, 3)) (ht : (pc : Int) + off = (tgt : Int)) (kt : ¬ x = y → XJ z own cc nL ret fr lo w rc rs tgt lv st) (kf : x = y → XJ z own cc nL ret fr lo w rc rs (pc + 3) lv st) : XJ z own cc nL ret fr lo w rc rs pc lv (.int y :: .int x :: st) := by
  intro C H L n1 n2 ls hH hl hc hs hv
  exact lv_icmp_ne C.hx C.hb d ht (fun q => kt q C H L n1 n2 ls hH hl hc hs hv) (fun q => kf q C H L n1 n2 ls hH hl hc hs hv)
end Ks
theorem at_words {ws : List Cond} (ps : List Nat) (hp : ws = ps.filterMap (fun i => lw_tbl[i]?)) (hg : ws.all (fun x => wkind x && vx_ot x) = true) : ∀ x ∈ ws, x ∈ lw_tbl ∧ wkind x = true ∧ vx_ot x = true := by
  intro x hx
  have h1 := List.all_eq_true.mp hg x hx
  rw [Bool.and_eq_true] at h1
  rw [hp] at hx
  obtain ⟨i, -, hi⟩ := List.mem_filterMap.mp hx
  exact ⟨List.mem_of_getElem? hi, h1.1, h1.2⟩
theorem ret_bt {p : Prop} [Decidable p] (h : p) : some (Value.int (iI 1)) = some (Value.int (bI (decide p))) := by rw [decide_eq_true h]; rfl
theorem ret_bf {p : Prop} [Decidable p] (h : ¬ p) : some (Value.int (iI 0)) = some (Value.int (bI (decide p))) := by rw [decide_eq_false h]; rfl
theorem ret_i {a b : Int} (h : a = b) : some (Value.int (iI a)) = some (Value.int (iI b)) := by rw [h]
