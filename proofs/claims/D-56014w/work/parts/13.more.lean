/-! MORE ROWS (written by tools/mkmore.py) -/
set_option maxRecDepth 100000
section More
variable {z : ZZ} {own : String} {cc : ByteArray} {nL fr lo rc rs pc : Nat} {ret : Option FieldType} {w : WW} {lv : List (Option Value)} {st : List Value}
theorem iI_max {a b : Int} (h : (-2147483648 ≤ a ∧ a < 2147483648) ∧ (-2147483648 ≤ b ∧ b < 2147483648)) : (if iI a < iI b then iI b else iI a) = iI (max a b) := by
  simp only [iI_lt h]
  by_cases q : a < b
  · rw [if_pos q, show max a b = b by omega]
  · rw [if_neg q, show max a b = a by omega]
theorem iI_min {a b : Int} (h : (-2147483648 ≤ a ∧ a < 2147483648) ∧ (-2147483648 ≤ b ∧ b < 2147483648)) : (if iI b < iI a then iI b else iI a) = iI (min a b) := by
  simp only [iI_lt ⟨h.2, h.1⟩]
  by_cases q : b < a
  · rw [if_pos q, show min a b = b by omega]
  · rw [if_neg q, show min a b = a by omega]
theorem iI_abs {a : Int} (h : -2147483648 < a ∧ a < 2147483648) : (if 0 ≤ iI a then iI a else 0 - iI a) = iI (a.natAbs : Int) := by
  rw [iI_0]
  simp only [iI_le (show (-2147483648 ≤ (0 : Int) ∧ (0 : Int) < 2147483648) ∧ (-2147483648 ≤ a ∧ a < 2147483648) by omega)]
  by_cases q : 0 ≤ a
  · rw [if_pos q, show (a.natAbs : Int) = a by omega]
  · rw [if_neg q, iI_sub, show (a.natAbs : Int) = 0 - a by omega]
theorem fit_b8 {v : Int} (h : -128 ≤ v ∧ v < 128) : fits .byte (.int (iI v)) = true := by
  have e1 : (-128 : Int32) = iI (-128) := by decide +kernel
  have e2 : (127 : Int32) = iI 127 := by decide +kernel
  simp only [fits, Bool.and_eq_true, decide_eq_true_eq]
  rw [e1, e2, iI_le (by omega), iI_le (by omega)]
  omega
theorem iI_b8 {v : Int} (h : -128 ≤ v ∧ v < 128) : (iI v).toInt8.toInt32 = iI v := by
  apply Int32.toInt_inj.mp
  rw [Int8.toInt_toInt32, Int32.toInt_toInt8, iI_toInt (by omega)]
  exact Int.bmod_eq_of_le (by omega) (by omega)
theorem iI_c16 {v : Int} (h : 0 ≤ v ∧ v < 65536) : ((iI v).toUInt32 % 65536).toInt32 = iI v := by
  obtain ⟨n, rfl⟩ : ∃ n : Nat, v = n := ⟨v.toNat, by omega⟩
  rw [← iI_nI, pk_char, pk_tn (by omega), Nat.mod_eq_of_lt (by omega)]
theorem xr_i2bs {a : Int} (d : decode cc pc = .ok (.i2b, 1)) (h : -128 ≤ a ∧ a < 128) (k : XJ z own cc nL ret fr lo w rc rs (pc + 1) lv (.int (iI a) :: st)) : XJ z own cc nL ret fr lo w rc rs pc lv (.int (iI a) :: st) := xr_i2b d (by rw [iI_b8 h]; exact k)
theorem xr_i2cs {a : Int} (d : decode cc pc = .ok (.i2c, 1)) (h : 0 ≤ a ∧ a < 65536) (k : XJ z own cc nL ret fr lo w rc rs (pc + 1) lv (.int (iI a) :: st)) : XJ z own cc nL ret fr lo w rc rs pc lv (.int (iI a) :: st) := xr_i2c d (by rw [iI_c16 h]; exact k)
theorem cl_nat {i : Int} {n : Nat} (h : 0 ≤ i ∧ i < n) (hn : (n : Int) ≤ 2147483647) : (iI i).toNatClampNeg = i.toNat ∧ i.toNat < n := ⟨iI_clamp (by omega), by omega⟩
theorem xr_iaload {a n : Nat} {f : Int → Int} {i : Int} (h : IA (zg z) w a n f) (hi : 0 ≤ i ∧ i < n) (hn : (n : Int) ≤ 2147483647) (d : decode cc pc = .ok (.iaload, 1)) (k : XJ z own cc nL ret fr lo w rc rs (pc + 1) lv (.int (iI (f i)) :: st)) : XJ z own cc nL ret fr lo w rc rs pc lv (.int (iI i) :: .ref a :: st) := by
  intro C H L n1 n2 ls hH hl hc hs hv
  obtain ⟨h0, x, h1, h2⟩ := h
  obtain ⟨e1, e2⟩ := cl_nat hi hn
  refine va_iald C.hx C.hb C.K (hp_P hH h1) 0 0 rfl rfl (iI_in hi hn) d ?_
  rw [e1, h2 _ e2, Int.toNat_of_nonneg hi.1]
  exact k C H L n1 n2 ls hH hl hc hs hv
theorem xr_baload {a n : Nat} {f : Int → Int} {i : Int} (h : BA (zg z) w a n f) (hi : 0 ≤ i ∧ i < n) (hn : (n : Int) ≤ 2147483647) (d : decode cc pc = .ok (.baload, 1)) (k : XJ z own cc nL ret fr lo w rc rs (pc + 1) lv (.int (iI (f i)) :: st)) : XJ z own cc nL ret fr lo w rc rs pc lv (.int (iI i) :: .ref a :: st) := by
  intro C H L n1 n2 ls hH hl hc hs hv
  obtain ⟨x, h1, h2⟩ := h
  obtain ⟨e1, e2⟩ := cl_nat hi hn
  refine va_bald C.hx C.hb C.K (hp_P hH h1) 0 2 rfl rfl (iI_in hi hn) d ?_
  rw [e1, h2 _ e2, Int.toNat_of_nonneg hi.1]
  exact k C H L n1 n2 ls hH hl hc hs hv
theorem xr_laload {a n : Nat} {f : Int → Int64} {i : Int} (h : LA (zg z) w a n f) (hi : 0 ≤ i ∧ i < n) (hn : (n : Int) ≤ 2147483647) (d : decode cc pc = .ok (.laload, 1)) (k : XJ z own cc nL ret fr lo w rc rs (pc + 1) lv (.long (f i) :: st)) : XJ z own cc nL ret fr lo w rc rs pc lv (.int (iI i) :: .ref a :: st) := by
  intro C H L n1 n2 ls hH hl hc hs hv
  obtain ⟨h0, x, h1, h2⟩ := h
  obtain ⟨e1, e2⟩ := cl_nat hi hn
  refine va_lald C.hx C.hb C.K (hp_P hH h1) 0 3 rfl rfl (iI_in hi hn) d ?_
  rw [e1, h2 _ e2, Int.toNat_of_nonneg hi.1]
  exact k C H L n1 n2 ls hH hl hc hs hv
theorem xr_daload {a n : Nat} {f : Int → UInt64} {i : Int} (h : DA (zg z) w a n f) (hi : 0 ≤ i ∧ i < n) (hn : (n : Int) ≤ 2147483647) (d : decode cc pc = .ok (.daload, 1)) (k : XJ z own cc nL ret fr lo w rc rs (pc + 1) lv (.double (f i) :: st)) : XJ z own cc nL ret fr lo w rc rs pc lv (.int (iI i) :: .ref a :: st) := by
  intro C H L n1 n2 ls hH hl hc hs hv
  obtain ⟨h0, x, h1, h2⟩ := h
  obtain ⟨e1, e2⟩ := cl_nat hi hn
  refine va_dald C.hx C.hb C.K (hp_P hH h1) 0 4 rfl rfl (iI_in hi hn) d ?_
  rw [e1, h2 _ e2, Int.toNat_of_nonneg hi.1]
  exact k C H L n1 n2 ls hH hl hc hs hv
theorem xr_aaload {a n : Nat} {f : Int → Option Nat} {i : Int} (h : RA (zg z) w a n f) (hi : 0 ≤ i ∧ i < n) (hn : (n : Int) ≤ 2147483647) (d : decode cc pc = .ok (.aaload, 1)) (k : XJ z own cc nL ret fr lo w rc rs (pc + 1) lv (va_rf (f i) :: st)) : XJ z own cc nL ret fr lo w rc rs pc lv (.int (iI i) :: .ref a :: st) := by
  intro C H L n1 n2 ls hH hl hc hs hv
  obtain ⟨x, h1, h2⟩ := h
  obtain ⟨e1, e2⟩ := cl_nat hi hn
  refine va_aldq C.hx C.hb C.K (hp_P hH h1) 0 1 rfl rfl (iI_in hi hn) d ?_
  rw [e1, h2 _ e2, Int.toNat_of_nonneg hi.1]
  exact k C H L n1 n2 ls hH hl hc hs hv
theorem xr_alenIA {a n : Nat} {f : Int → Int} (h : IA (zg z) w a n f) (d : decode cc pc = .ok (.arraylength, 1)) (k : XJ z own cc nL ret fr lo w rc rs (pc + 1) lv (.int (iI n) :: st)) : XJ z own cc nL ret fr lo w rc rs pc lv (.ref a :: st) := by
  intro C H L n1 n2 ls hH hl hc hs hv
  obtain ⟨h0, x, h1, h2⟩ := h
  exact va_alen C.hx C.hb C.K (hp_P hH h1) 0 0 rfl rfl (iI_nI n) d (k C H L n1 n2 ls hH hl hc hs hv)
theorem xr_alenBA {a n : Nat} {f : Int → Int} (h : BA (zg z) w a n f) (d : decode cc pc = .ok (.arraylength, 1)) (k : XJ z own cc nL ret fr lo w rc rs (pc + 1) lv (.int (iI n) :: st)) : XJ z own cc nL ret fr lo w rc rs pc lv (.ref a :: st) := by
  intro C H L n1 n2 ls hH hl hc hs hv
  obtain ⟨x, h1, h2⟩ := h
  exact va_alen C.hx C.hb C.K (hp_P hH h1) 0 2 rfl rfl (iI_nI n) d (k C H L n1 n2 ls hH hl hc hs hv)
theorem xr_alenLA {a n : Nat} {f : Int → Int64} (h : LA (zg z) w a n f) (d : decode cc pc = .ok (.arraylength, 1)) (k : XJ z own cc nL ret fr lo w rc rs (pc + 1) lv (.int (iI n) :: st)) : XJ z own cc nL ret fr lo w rc rs pc lv (.ref a :: st) := by
  intro C H L n1 n2 ls hH hl hc hs hv
  obtain ⟨h0, x, h1, h2⟩ := h
  exact va_alen C.hx C.hb C.K (hp_P hH h1) 0 3 rfl rfl (iI_nI n) d (k C H L n1 n2 ls hH hl hc hs hv)
theorem xr_alenDA {a n : Nat} {f : Int → UInt64} (h : DA (zg z) w a n f) (d : decode cc pc = .ok (.arraylength, 1)) (k : XJ z own cc nL ret fr lo w rc rs (pc + 1) lv (.int (iI n) :: st)) : XJ z own cc nL ret fr lo w rc rs pc lv (.ref a :: st) := by
  intro C H L n1 n2 ls hH hl hc hs hv
  obtain ⟨h0, x, h1, h2⟩ := h
  exact va_alen C.hx C.hb C.K (hp_P hH h1) 0 4 rfl rfl (iI_nI n) d (k C H L n1 n2 ls hH hl hc hs hv)
theorem xr_alenRA {a n : Nat} {f : Int → Option Nat} (h : RA (zg z) w a n f) (d : decode cc pc = .ok (.arraylength, 1)) (k : XJ z own cc nL ret fr lo w rc rs (pc + 1) lv (.int (iI n) :: st)) : XJ z own cc nL ret fr lo w rc rs pc lv (.ref a :: st) := by
  intro C H L n1 n2 ls hH hl hc hs hv
  obtain ⟨x, h1, h2⟩ := h
  exact va_alen C.hx C.hb C.K (hp_P hH h1) 0 1 rfl rfl (iI_nI n) d (k C H L n1 n2 ls hH hl hc hs hv)
theorem xr_iastore {a n : Nat} {f : Int → Int} {i : Int} {v : Int} (h : IA (zg z) w a n f) (hi : 0 ≤ i ∧ i < n) (hn : (n : Int) ≤ 2147483647) (d : decode cc pc = .ok (.iastore, 1)) (k : ∀ e : WE, IA (zg z) (wput w a e) a n (updI f i v) → XJ z own cc nL ret fr lo (wput w a e) rc rs (pc + 1) lv st) : XJ z own cc nL ret fr lo w rc rs pc lv (.int (iI v) :: .int (iI i) :: .ref a :: st) := by
  intro C H L n1 n2 ls hH hl hc hs hv
  obtain ⟨h0, x, h1, h2⟩ := h
  obtain ⟨e1, e2⟩ := cl_nat hi hn
  have hcell := hH.at h1
  refine W.iast C.hx C.hb hcell ((C.K.2 0 _ rfl).1 n _) (fun q => by cases q) (by show ¬ (_ < _ ∨ (arrV _ _ _).slots.size ≤ _); rw [arrV_size]; exact iI_in hi hn) rfl rfl d fun H1 e1' e2' e3' => ?_
  rw [e1] at e1' ⊢
  refine k (.inl (.inl (gA (zg z) 0, n, .inl (upd x i.toNat (iI v))))) ⟨h0, _, h1.put_eq _, fun j hj => ?_⟩ C H1 _ n1 n2 ls (hH.put h1 h0 ?_ e2' e3') (st_loc hl h0) hc hs hv
  · show upd x i.toNat (iI v) j = _
    have hq : (j : Int) = i ↔ j = i.toNat := by omega
    by_cases hj2 : j = i.toNat
    · have hj3 := hq.mpr hj2
      have hm : max i 0 = i := by omega
      simp [upd, updI, hj2, hj3, hm]
    · have hj3 : ¬ (j : Int) = i := fun q => hj2 (hq.mp q)
      simp [upd, updI, hj2, hj3, h2 j hj]
  · show H1[a]? = some (vp_cell _ _)
    rw [e1', vp_cell_i, vp_cell_i, arrV_store]
    congr 2
    funext q
    by_cases hq : q = i.toNat
    · subst hq
      simp [updV, upd, vp_nar]
      try rfl
    · simp [updV, upd, hq]
theorem xr_lastore {a n : Nat} {f : Int → Int64} {i : Int} {v : Int64} (h : LA (zg z) w a n f) (hi : 0 ≤ i ∧ i < n) (hn : (n : Int) ≤ 2147483647) (d : decode cc pc = .ok (.lastore, 1)) (k : ∀ e : WE, LA (zg z) (wput w a e) a n (fun j => if j = i then v else f j) → XJ z own cc nL ret fr lo (wput w a e) rc rs (pc + 1) lv st) : XJ z own cc nL ret fr lo w rc rs pc lv (.long v :: .int (iI i) :: .ref a :: st) := by
  intro C H L n1 n2 ls hH hl hc hs hv
  obtain ⟨h0, x, h1, h2⟩ := h
  obtain ⟨e1, e2⟩ := cl_nat hi hn
  have hcell := hH.at h1
  refine W.last C.hx C.hb hcell ((C.K.2 3 _ rfl).1 n _) (fun q => by cases q) (by show ¬ (_ < _ ∨ (arrV _ _ _).slots.size ≤ _); rw [arrV_size]; exact iI_in hi hn) rfl rfl d fun H1 e1' e2' e3' => ?_
  rw [e1] at e1' ⊢
  refine k (.inl (.inl (gA (zg z) 3, n, .inr (.inl (vp_updL x i.toNat v))))) ⟨h0, _, h1.put_eq _, fun j hj => ?_⟩ C H1 _ n1 n2 ls (hH.put h1 h0 ?_ e2' e3') (st_loc hl h0) hc hs hv
  · show vp_updL x i.toNat v j = _
    have hq : (j : Int) = i ↔ j = i.toNat := by omega
    by_cases hj2 : j = i.toNat
    · have hj3 := hq.mpr hj2
      have hm : max i 0 = i := by omega
      simp [vp_updL, updI, hj2, hj3, hm]
    · have hj3 : ¬ (j : Int) = i := fun q => hj2 (hq.mp q)
      simp [vp_updL, updI, hj2, hj3, h2 j hj]
  · show H1[a]? = some (vp_cell _ _)
    rw [e1', vp_cell_l, vp_cell_l, arrV_store]
    congr 2
    funext q
    by_cases hq : q = i.toNat
    · subst hq
      simp [updV, vp_updL, vp_nar]
      try rfl
    · simp [updV, vp_updL, hq]
theorem xr_dastore {a n : Nat} {f : Int → UInt64} {i : Int} {v : UInt64} (h : DA (zg z) w a n f) (hi : 0 ≤ i ∧ i < n) (hn : (n : Int) ≤ 2147483647) (d : decode cc pc = .ok (.dastore, 1)) (k : ∀ e : WE, DA (zg z) (wput w a e) a n (fun j => if j = i then v else f j) → XJ z own cc nL ret fr lo (wput w a e) rc rs (pc + 1) lv st) : XJ z own cc nL ret fr lo w rc rs pc lv (.double v :: .int (iI i) :: .ref a :: st) := by
  intro C H L n1 n2 ls hH hl hc hs hv
  obtain ⟨h0, x, h1, h2⟩ := h
  obtain ⟨e1, e2⟩ := cl_nat hi hn
  have hcell := hH.at h1
  refine W.dast C.hx C.hb hcell ((C.K.2 4 _ rfl).1 n _) (fun q => by cases q) (by show ¬ (_ < _ ∨ (arrV _ _ _).slots.size ≤ _); rw [arrV_size]; exact iI_in hi hn) rfl rfl d fun H1 e1' e2' e3' => ?_
  rw [e1] at e1' ⊢
  refine k (.inl (.inl (gA (zg z) 4, n, .inr (.inr (.inr (.inl (vf_upd x i.toNat v))))))) ⟨h0, _, h1.put_eq _, fun j hj => ?_⟩ C H1 _ n1 n2 ls (hH.put h1 h0 ?_ e2' e3') (st_loc hl h0) hc hs hv
  · show vf_upd x i.toNat v j = _
    have hq : (j : Int) = i ↔ j = i.toNat := by omega
    by_cases hj2 : j = i.toNat
    · have hj3 := hq.mpr hj2
      have hm : max i 0 = i := by omega
      simp [vf_upd, updI, hj2, hj3, hm]
    · have hj3 : ¬ (j : Int) = i := fun q => hj2 (hq.mp q)
      simp [vf_upd, updI, hj2, hj3, h2 j hj]
  · show H1[a]? = some (vp_cell _ _)
    rw [e1', vp_cell_d, vp_cell_d, arrV_store]
    congr 2
    funext q
    by_cases hq : q = i.toNat
    · subst hq
      simp [updV, vf_upd, vp_nar]
      try rfl
    · simp [updV, vf_upd, hq]
theorem xr_bastore {a n : Nat} {f : Int → Int} {i : Int} {v : Int} (h : BA (zg z) w a n f) (h0 : gb (zg z) ≤ a) (hv8 : -128 ≤ v ∧ v < 128) (hi : 0 ≤ i ∧ i < n) (hn : (n : Int) ≤ 2147483647) (d : decode cc pc = .ok (.bastore, 1)) (k : ∀ e : WE, BA (zg z) (wput w a e) a n (updI f i v) → XJ z own cc nL ret fr lo (wput w a e) rc rs (pc + 1) lv st) : XJ z own cc nL ret fr lo w rc rs pc lv (.int (iI v) :: .int (iI i) :: .ref a :: st) := by
  intro C H L n1 n2 ls hH hl hc hs hv
  obtain ⟨x, h1, h2⟩ := h
  obtain ⟨e1, e2⟩ := cl_nat hi hn
  have hcell := hH.at h1
  refine W.bast C.hx C.hb hcell ((C.K.2 2 _ rfl).1 n _) (fun q => by cases q) (by show ¬ (_ < _ ∨ (arrV _ _ _).slots.size ≤ _); rw [arrV_size]; exact iI_in hi hn) rfl rfl d fun H1 e1' e2' e3' => ?_
  rw [e1] at e1' ⊢
  refine k (.inl (.inl (gA (zg z) 2, n, .inl (upd x i.toNat (vp_nar .byte (iI v)))))) ⟨_, h1.put_eq _, fun j hj => ?_⟩ C H1 _ n1 n2 ls (hH.put h1 h0 ?_ e2' e3') (st_loc hl h0) hc hs hv
  · show upd x i.toNat (vp_nar .byte (iI v)) j = _
    have hq : (j : Int) = i ↔ j = i.toNat := by omega
    by_cases hj2 : j = i.toNat
    · have hj3 := hq.mpr hj2
      have hm : max i 0 = i := by omega
      rw [show upd x i.toNat (vp_nar .byte (iI v)) j = vp_nar .byte (iI v) from if_pos hj2, show updI f i v j = v from if_pos hj3, vp_nar_byte, iI_b8 hv8]
    · have hj3 : ¬ (j : Int) = i := fun q => hj2 (hq.mp q)
      simp [upd, updI, hj2, hj3, h2 j hj]
  · show H1[a]? = some (vp_cell _ _)
    rw [e1', vp_cell_i, vp_cell_i, arrV_store]
    congr 2
    funext q
    by_cases hq : q = i.toNat
    · subst hq
      simp [updV, upd, vp_nar]
      try rfl
    · simp [updV, upd, hq]
theorem xr_aastoreN {a n : Nat} {f : Int → Option Nat} {i : Int} (h : RA (zg z) w a n f) (h0 : gb (zg z) ≤ a) (hi : 0 ≤ i ∧ i < n) (hn : (n : Int) ≤ 2147483647) (d : decode cc pc = .ok (.aastore, 1)) (k : ∀ e : WE, RA (zg z) (wput w a e) a n (updR f i none) → XJ z own cc nL ret fr lo (wput w a e) rc rs (pc + 1) lv st) : XJ z own cc nL ret fr lo w rc rs pc lv (.null :: .int (iI i) :: .ref a :: st) := by
  intro C H L n1 n2 ls hH hl hc hs hv
  obtain ⟨x, h1, h2⟩ := h
  obtain ⟨e1, e2⟩ := cl_nat hi hn
  have hcell := hH.at h1
  refine va_WaastN C.hx C.hb hcell ((C.K.2 1 _ rfl).1 n _) (fun q => by cases q) (by show ¬ (_ < _ ∨ (arrV _ _ _).slots.size ≤ _); rw [arrV_size]; exact iI_in hi hn) rfl rfl d fun H1 e1' e2' e3' => ?_
  rw [e1] at e1' ⊢
  refine k (.inl (.inl (gA (zg z) 1, n, .inr (.inr (.inr (.inr (va_up x i.toNat none))))))) ⟨_, h1.put_eq _, fun j hj => ?_⟩ C H1 _ n1 n2 ls (hH.put h1 h0 ?_ e2' e3') (st_loc hl h0) hc hs hv
  · have hq : (j : Int) = i ↔ j = i.toNat := by omega
    by_cases hj2 : j = i.toNat
    · have hj3 := hq.mpr hj2
      simp [va_up, updR, hj2, hj3]
      try omega
    · have hj3 : ¬ (j : Int) = i := fun q => hj2 (hq.mp q)
      simp [va_up, updR, hj2, hj3, h2 j hj]
  · show H1[a]? = some (vp_cell _ _)
    rw [e1', vp_cell_q, vp_cell_q, arrV_store]
    congr 2
    funext q
    by_cases hq : q = i.toNat
    · subst hq
      simp [updV, va_up, va_rf]
    · simp [updV, va_up, hq]
theorem xx_asgObj {own' : String} {nL' fr' lo' : Nat} {cc' : ByteArray} {ret' : Option FieldType} (C : Cx z own' cc' nL' ret' fr' lo') {Cn : String} (hcast : Cond.castable Cn "java/lang/Object" ∈ lw_tbl) {comp c0 : ClassId} (h1 : (zs z).vm.findClass "java/lang/Object" = some comp) (h2 : (zs z).vm.findClass Cn = some c0) : (zs z).vm.assignable c0 comp = true := by
  have hz : va_Nw (.castable Cn "java/lang/Object") (zs z) := va_Nw.warmC C.warm (va_Nw.of rfl (C.base.2.1 _ hcast))
  obtain ⟨a1, a2, h3, h4, h5⟩ := Cond.castable_spec hz
  cases Option.some.inj (h3.symm.trans h2)
  cases Option.some.inj (h4.symm.trans h1)
  exact h5
theorem xr_aastore {a n v ci : Nat} {f : Int → Option Nat} {i : Int} {q : vw_C} {fs : List Value} (h : RA (zg z) w a n f) (h0 : gb (zg z) ≤ a) (hi : 0 ≤ i ∧ i < n) (hn : (n : Int) ≤ 2147483647) (hv0 : Ob w v ci fs) (hq : vwCl[ci]? = some q) (hcast : Cond.castable q.1 "java/lang/Object" ∈ lw_tbl) (d : decode cc pc = .ok (.aastore, 1)) (k : ∀ e : WE, RA (zg z) (wput w a e) a n (updR f i (some v)) → XJ z own cc nL ret fr lo (wput w a e) rc rs (pc + 1) lv st) : XJ z own cc nL ret fr lo w rc rs pc lv (.ref v :: .int (iI i) :: .ref a :: st) := by
  intro C H L n1 n2 ls hH hl hc hs hv
  obtain ⟨x, h1, h2⟩ := h
  obtain ⟨e1, e2⟩ := cl_nat hi hn
  have hcell := hH.at h1
  obtain ⟨cellV, g1, g3, g4⟩ := xx_recv C hH hv0 hq
  obtain ⟨kC, hkC, -⟩ := Vm.findClass_spec g4
  obtain ⟨kA, comp, k1, k2, k3, -⟩ := (C.K.2 1 _ rfl).2
  obtain ⟨kE, hkE, -⟩ := Vm.findClass_spec k3
  refine W.aast C.hx C.hb hcell (fun q h => by cases h) (fun h => by cases h) k1 k2 rfl hkE ⟨fun q => (iI_in hi hn) (Or.inl q), by show _ < (arrV _ _ _).slots.size; rw [arrV_size, e1]; exact e2⟩ g1 (fun q h => by rw [h] at g3; cases g3) hkC (xx_asgObj C hcast k3 g4) rfl rfl d fun H1 e1' e2' e3' => ?_
  rw [e1] at e1' ⊢
  refine k (.inl (.inl (gA (zg z) 1, n, .inr (.inr (.inr (.inr (va_up x i.toNat (some v)))))))) ⟨_, h1.put_eq _, fun j hj => ?_⟩ C H1 _ n1 n2 ls (hH.put h1 h0 ?_ e2' e3') (st_loc hl h0) hc hs hv
  · have hq : (j : Int) = i ↔ j = i.toNat := by omega
    by_cases hj2 : j = i.toNat
    · have hj3 := hq.mpr hj2
      simp [va_up, updR, hj2, hj3]
      try omega
    · have hj3 : ¬ (j : Int) = i := fun q => hj2 (hq.mp q)
      simp [va_up, updR, hj2, hj3, h2 j hj]
  · show H1[a]? = some (vp_cell _ _)
    rw [e1', vp_cell_q, vp_cell_q, arrV_store]
    congr 2
    funext q
    by_cases hq : q = i.toNat
    · subst hq
      simp [updV, va_up, va_rf]
    · simp [updV, va_up, hq]
theorem xr_newIA {i : Int} {rc' rs' : Nat} (hw : Cond.arrayClass .int ∈ lw_all) (hi : 0 ≤ i ∧ i ≤ 60000) (hb : rc' + 1 ≤ rc ∧ rs' + i.toNat ≤ rs) (d : decode cc pc = .ok (.newarray .int, 2)) (k : ∀ (a : Nat) (e : WE), w.2 ≤ a → gb (zg z) ≤ a → IA (zg z) (wnew w a e) a i.toNat (fun _ => 0) → XJ z own cc nL ret fr lo (wnew w a e) rc' rs' (pc + 2) lv (.ref a :: st)) : XJ z own cc nL ret fr lo w rc rs pc lv (.int (iI i) :: st) := by
  intro C H L n1 n2 ls hH hl hc hs hv
  obtain ⟨-, -, hr1, hr2, -⟩ := C.rest
  refine va_newaK C.hx C.hb (atype := .int) (C.w _ hw) rfl d rfl (by rw [iI_0, iI_lt (by omega)]; omega) (iI_clamp (by omega)) (by show _ * 4 ≤ _; omega) (by omega) (by omega) rfl fun H1 cA e1 z1 o1 hAr hNm => ?_
  have hcA : cA = gA (zg z) 0 := Option.some.inj (hNm.symm.trans (C.K.2 0 _ rfl).2)
  subst hcA
  have hz := hH.1
  have hz2 := hH.2.1
  exact k H.size (.inl (.inl (gA (zg z) 0, i.toNat, .inl (fun _ => 0)))) hH.1 (by omega) ⟨by omega, _, Wa.new_eq _ _ _, fun j hj => by first | rfl | exact iI_0⟩ C H1 L _ _ ls (hH.new (by show H1[H.size]? = some (vp_cell _ _); exact e1) z1 o1) hl (by omega) (by omega) hv
theorem xr_newBA {i : Int} {rc' rs' : Nat} (hw : Cond.arrayClass .byte ∈ lw_all) (hi : 0 ≤ i ∧ i ≤ 60000) (hb : rc' + 1 ≤ rc ∧ rs' + i.toNat ≤ rs) (d : decode cc pc = .ok (.newarray .byte, 2)) (k : ∀ (a : Nat) (e : WE), w.2 ≤ a → gb (zg z) ≤ a → BA (zg z) (wnew w a e) a i.toNat (fun _ => 0) → XJ z own cc nL ret fr lo (wnew w a e) rc' rs' (pc + 2) lv (.ref a :: st)) : XJ z own cc nL ret fr lo w rc rs pc lv (.int (iI i) :: st) := by
  intro C H L n1 n2 ls hH hl hc hs hv
  obtain ⟨-, -, hr1, hr2, -⟩ := C.rest
  refine va_newaK C.hx C.hb (atype := .byte) (C.w _ hw) rfl d rfl (by rw [iI_0, iI_lt (by omega)]; omega) (iI_clamp (by omega)) (by show _ * 1 ≤ _; omega) (by omega) (by omega) rfl fun H1 cA e1 z1 o1 hAr hNm => ?_
  have hcA : cA = gA (zg z) 2 := Option.some.inj (hNm.symm.trans (C.K.2 2 _ rfl).2)
  subst hcA
  have hz := hH.1
  have hz2 := hH.2.1
  exact k H.size (.inl (.inl (gA (zg z) 2, i.toNat, .inl (fun _ => 0)))) hH.1 (by omega) ⟨_, Wa.new_eq _ _ _, fun j hj => by first | rfl | exact iI_0⟩ C H1 L _ _ ls (hH.new (by show H1[H.size]? = some (vp_cell _ _); exact e1) z1 o1) hl (by omega) (by omega) hv
theorem xr_newLA {i : Int} {rc' rs' : Nat} (hw : Cond.arrayClass .long ∈ lw_all) (hi : 0 ≤ i ∧ i ≤ 60000) (hb : rc' + 1 ≤ rc ∧ rs' + i.toNat ≤ rs) (d : decode cc pc = .ok (.newarray .long, 2)) (k : ∀ (a : Nat) (e : WE), w.2 ≤ a → gb (zg z) ≤ a → LA (zg z) (wnew w a e) a i.toNat (fun _ => 0) → XJ z own cc nL ret fr lo (wnew w a e) rc' rs' (pc + 2) lv (.ref a :: st)) : XJ z own cc nL ret fr lo w rc rs pc lv (.int (iI i) :: st) := by
  intro C H L n1 n2 ls hH hl hc hs hv
  obtain ⟨-, -, hr1, hr2, -⟩ := C.rest
  refine va_newaK C.hx C.hb (atype := .long) (C.w _ hw) rfl d rfl (by rw [iI_0, iI_lt (by omega)]; omega) (iI_clamp (by omega)) (by show _ * 8 ≤ _; omega) (by omega) (by omega) rfl fun H1 cA e1 z1 o1 hAr hNm => ?_
  have hcA : cA = gA (zg z) 3 := Option.some.inj (hNm.symm.trans (C.K.2 3 _ rfl).2)
  subst hcA
  have hz := hH.1
  have hz2 := hH.2.1
  exact k H.size (.inl (.inl (gA (zg z) 3, i.toNat, .inr (.inl (fun _ => 0))))) hH.1 (by omega) ⟨by omega, _, Wa.new_eq _ _ _, fun j hj => by first | rfl | exact iI_0⟩ C H1 L _ _ ls (hH.new (by show H1[H.size]? = some (vp_cell _ _); exact e1) z1 o1) hl (by omega) (by omega) hv
theorem xr_newDA {i : Int} {rc' rs' : Nat} (hw : Cond.arrayClass .double ∈ lw_all) (hi : 0 ≤ i ∧ i ≤ 60000) (hb : rc' + 1 ≤ rc ∧ rs' + i.toNat ≤ rs) (d : decode cc pc = .ok (.newarray .double, 2)) (k : ∀ (a : Nat) (e : WE), w.2 ≤ a → gb (zg z) ≤ a → DA (zg z) (wnew w a e) a i.toNat (fun _ => 0) → XJ z own cc nL ret fr lo (wnew w a e) rc' rs' (pc + 2) lv (.ref a :: st)) : XJ z own cc nL ret fr lo w rc rs pc lv (.int (iI i) :: st) := by
  intro C H L n1 n2 ls hH hl hc hs hv
  obtain ⟨-, -, hr1, hr2, -⟩ := C.rest
  refine va_newaK C.hx C.hb (atype := .double) (C.w _ hw) rfl d rfl (by rw [iI_0, iI_lt (by omega)]; omega) (iI_clamp (by omega)) (by show _ * 8 ≤ _; omega) (by omega) (by omega) rfl fun H1 cA e1 z1 o1 hAr hNm => ?_
  have hcA : cA = gA (zg z) 4 := Option.some.inj (hNm.symm.trans (C.K.2 4 _ rfl).2)
  subst hcA
  have hz := hH.1
  have hz2 := hH.2.1
  exact k H.size (.inl (.inl (gA (zg z) 4, i.toNat, .inr (.inr (.inr (.inl (fun _ => 0))))))) hH.1 (by omega) ⟨by omega, _, Wa.new_eq _ _ _, fun j hj => by first | rfl | exact iI_0⟩ C H1 L _ _ ls (hH.new (by show H1[H.size]? = some (vp_cell _ _); exact e1) z1 o1) hl (by omega) (by omega) hv
theorem xr_newRA {i : Int} {idx rc' rs' : Nat} (hcl : Cond.classLink own idx "java/lang/Object" ∈ lw_all) (hao : Cond.arrayOver (.object "java/lang/Object") ∈ lw_tbl) (hi : 0 ≤ i ∧ i ≤ 60000) (hb : rc' + 1 ≤ rc ∧ rs' + i.toNat ≤ rs) (d : decode cc pc = .ok (.anewarray idx, 3)) (k : ∀ (a : Nat) (e : WE), w.2 ≤ a → gb (zg z) ≤ a → RA (zg z) (wnew w a e) a i.toNat (fun _ => none) → XJ z own cc nL ret fr lo (wnew w a e) rc' rs' (pc + 3) lv (.ref a :: st)) : XJ z own cc nL ret fr lo w rc rs pc lv (.int (iI i) :: st) := by
  intro C H L n1 n2 ls hH hl hc hs hv
  obtain ⟨-, -, hr1, hr2, -⟩ := C.rest
  have e0 : (iI i).toNatClampNeg = i.toNat := iI_clamp (by omega)
  refine W.anew C.hx C.hb C.hown (C.w _ hcl) (va_AO.use (va_AO.moved C.warm.alike (va_AO.of (C.base.2.1 _ hao)))) rfl d rfl (by rw [iI_0, iI_lt (by omega)]; omega) (by rw [e0]; omega) (by omega) (by rw [e0]; omega) fun cA kA comp f1 f2 f3 f4 => ?_
  rw [e0]
  obtain ⟨kA', comp', -, -, -, f5⟩ := (C.K.2 1 _ rfl).2
  have hcA : cA = gA (zg z) 1 := Option.some.inj (f1.symm.trans f5)
  subst hcA
  generalize hH1 : H.push ({ cls := gA (zg z) 1, slots := Array.replicate i.toNat .null, vm := .none } : Cell) = H1
  have z1 : H1.size = H.size + 1 := by rw [← hH1, Array.size_push]
  have e1 : H1[H.size]? = some (arrV (gA (zg z) 1) i.toNat (fun _ => .null)) := by rw [← hH1, Array.getElem?_push_size, ← arrV_new]
  have o1 : ∀ q : Nat, q < H.size → H1[q]? = H[q]? := fun q hq => by rw [← hH1, Array.getElem?_push, if_neg (Nat.ne_of_lt hq)]
  have hz := hH.1
  have hz2 := hH.2.1
  exact k H.size (.inl (.inl (gA (zg z) 1, i.toNat, .inr (.inr (.inr (.inr (fun _ => none))))))) hH.1 (by omega) ⟨_, Wa.new_eq _ _ _, fun j hj => rfl⟩ C H1 L _ _ ls (hH.new (by show H1[H.size]? = some (vp_cell _ _); exact e1) z1 o1) hl (by omega) (by omega) hv
/-- a static of the start, unchanged -/
def Sz (g : GG) (Cn n ds : String) (v : Value) : Prop := va_Z Cn n ds v (fun q => gb g ≤ q) (gU g) (gU g).heap
theorem xr_getstatic {Cn n ds : String} {v : Value} {idx : Nat} (hZ : Sz (zg z) Cn n ds v) (hlink : Cond.fieldLink own idx Cn n ds ∈ lw_all) (d : decode cc pc = .ok (.getstatic idx, 3)) (k : XJ z own cc nL ret fr lo w rc rs (pc + 3) lv (v :: st)) : XJ z own cc nL ret fr lo w rc rs pc lv st := by
  intro C H L n1 n2 ls hH hl hc hs hv
  obtain ⟨cf, kf, fi, f, a, cell, h1, h2, h3, h4, h5, h6, h7, h8⟩ := va_Z.moved C.warm.alike hZ
  exact W.gets C.hx C.hb C.hown (C.w _ hlink) h1 h2 h3 h4 (by rw [(hH.2.2.1 a (Nat.not_le.mp h8)).1]; exact h5) (fun e => by rw [e] at h6; cases h6) h7 rfl d (k C H L n1 n2 ls hH hl hc hs hv)
theorem xr_castNull {idx : Nat} (d : decode cc pc = .ok (.checkcast idx, 3)) (k : XJ z own cc nL ret fr lo w rc rs (pc + 3) lv (.null :: st)) : XJ z own cc nL ret fr lo w rc rs pc lv (.null :: st) := by
  intro C H L n1 n2 ls hH hl hc hs hv
  exact lv_castN C.hx C.hb d (k C H L n1 n2 ls hH hl hc hs hv)
/-- checkcast of an object of the class itself -/
theorem xr_castS {a ci idx : Nat} {q : vw_C} {fs : List Value} (hf : Ob w a ci fs) (hq : vwCl[ci]? = some q) (hlink : Cond.classLink own idx q.1 ∈ lw_all) (d : decode cc pc = .ok (.checkcast idx, 3)) (k : XJ z own cc nL ret fr lo w rc rs (pc + 3) lv (.ref a :: st)) : XJ z own cc nL ret fr lo w rc rs pc lv (.ref a :: st) := by
  intro C H L n1 n2 ls hH hl hc hs hv
  exact va_castS C.hx C.hb C.hown (C.w _ hlink) (C.K.1 ci q hq).2 (xx_recv C hH hf hq) d (k C H L n1 n2 ls hH hl hc hs hv)
/-- .. of a class below -/
theorem xr_castY {a ci idx : Nat} {q : vw_C} {nm : String} {fs : List Value} (hf : Ob w a ci fs) (hq : vwCl[ci]? = some q) (hlink : Cond.classLink own idx nm ∈ lw_all) (hcast : Cond.castable q.1 nm ∈ lw_tbl) (d : decode cc pc = .ok (.checkcast idx, 3)) (k : XJ z own cc nL ret fr lo w rc rs (pc + 3) lv (.ref a :: st)) : XJ z own cc nL ret fr lo w rc rs pc lv (.ref a :: st) := by
  intro C H L n1 n2 ls hH hl hc hs hv
  exact va_castY C.hx C.hb C.hown (C.w _ hlink) (va_Nw.warmC C.warm (va_Nw.of rfl (C.base.2.1 _ hcast))) (xx_recv C hH hf hq) d (k C H L n1 n2 ls hH hl hc hs hv)
theorem xr_objInit {a idx : Nat} (hlink : Cond.methodLink own idx Lib.objectInit ∈ lw_all) (hin : Cond.instanceMethod Lib.objectInit ∈ lw_all) (hcode : Cond.code Lib.objectInit ⟨#[0xb1]⟩ 1 none ∈ lw_all) (hfr : 1 ≤ fr) (hlo : (st.map fun v => v.category).sum + 12 ≤ lo) (d : decode cc pc = .ok (.invokespecial idx, 3)) (k : XJ z own cc nL ret fr lo w rc rs (pc + 3) lv st) : XJ z own cc nL ret fr lo w rc rs pc lv (.ref a :: st) := by
  intro C H L n1 n2 ls hH hl hc hs hv
  obtain ⟨hr1, hr2, -⟩ := C.rest
  exact W.objInit C.hx C.hb C.hown (C.w _ hlink) (C.w _ hin) (C.w _ hcode) rfl (by rw [C.hml]; exact hv.1) rfl d (by omega) (by show 2 * 0 + _ + 12 ≤ _; omega) (k C H L n1 n2 ls hH hl hc hs hv)
theorem xr_ireturn {x : Int32} {ty : FieldType} (hret9 : ret = some ty) (hn : narrow ty (.int x) = .int x) (d : decode cc pc = .ok (.ireturn, 1)) (h : zpo z (some (.int x)) w) : XJ z own cc nL ret fr lo w rc rs pc lv [.int x] := by
  intro C H L n1 n2 ls hH hl hc hs hv
  refine W.widen (k := zmc z) (n := zms z) (by omega) (by omega) ?_
  intro T hT X
  have hlocks := C.hlocks
  obtain ⟨fs, hret, hrun, hended, hW, hframe⟩ := X.leave (v := some (.int x)) (fun h => by rw [C.hret, hret9] at h; cases h)
  have hmeth' : T.vm.method? (zm z) = some (zt z) := X.method'
  have hr9 := C.hret
  have hb9 := C.hb
  have hx9 := C.hx
  refine ⟨T.setFrames fs, ?_, .returned (some (.int x)), hrun, hended, Or.inl ⟨_, w, rfl, h, ⟨State.WarmedH.trans C.warm hW, by show Hp _ _ T.heap; rw [hT]; exact hH⟩, L, ⟨⟨_, rfl⟩, hW, hframe⟩, hl⟩⟩
  jvm_step X.here [X.here.top, hx9, hb9, d, hmeth', hr9, hret9, hn]
  (try refine ⟨rfl, ?_⟩); (try refine ⟨rfl, ?_⟩)
  first | (intro acts; rw [hret _ acts rfl rfl rfl]) | rw [hret _ _ rfl rfl rfl]
  exact Steps.refl _
theorem xr_areturn {a : Nat} {ty : FieldType} (hret9 : ret = some ty) (hty : ty.isReference = true) (d : decode cc pc = .ok (.areturn, 1)) (h : zpo z (some (.ref a)) w) : XJ z own cc nL ret fr lo w rc rs pc lv [.ref a] := by
  intro C H L n1 n2 ls hH hl hc hs hv
  refine W.widen (k := zmc z) (n := zms z) (by omega) (by omega) ?_
  intro T hT X
  have hlocks := C.hlocks
  obtain ⟨fs, hret, hrun, hended, hW, hframe⟩ := X.leave (v := some (.ref a)) (fun h => by rw [C.hret, hret9] at h; cases h)
  have hmeth' : T.vm.method? (zm z) = some (zt z) := X.method'
  have hr9 := C.hret
  have hb9 := C.hb
  have hx9 := C.hx
  refine ⟨T.setFrames fs, ?_, .returned (some (.ref a)), hrun, hended, Or.inl ⟨_, w, rfl, h, ⟨State.WarmedH.trans C.warm hW, by show Hp _ _ T.heap; rw [hT]; exact hH⟩, L, ⟨⟨_, rfl⟩, hW, hframe⟩, hl⟩⟩
  jvm_step X.here [X.here.top, hx9, hb9, d, hmeth', hr9, hret9, hty, Value.isRef]
  (try refine ⟨rfl, ?_⟩); (try refine ⟨rfl, ?_⟩)
  first | (intro acts; rw [hret _ acts rfl rfl rfl]) | rw [hret _ _ rfl rfl rfl]
  exact Steps.refl _
theorem xr_areturnN {ty : FieldType} (hret9 : ret = some ty) (hty : ty.isReference = true) (d : decode cc pc = .ok (.areturn, 1)) (h : zpo z (some .null) w) : XJ z own cc nL ret fr lo w rc rs pc lv [.null] := by
  intro C H L n1 n2 ls hH hl hc hs hv
  refine W.widen (k := zmc z) (n := zms z) (by omega) (by omega) ?_
  intro T hT X
  have hlocks := C.hlocks
  obtain ⟨fs, hret, hrun, hended, hW, hframe⟩ := X.leave (v := some .null) (fun h => by rw [C.hret, hret9] at h; cases h)
  have hmeth' : T.vm.method? (zm z) = some (zt z) := X.method'
  have hr9 := C.hret
  have hb9 := C.hb
  have hx9 := C.hx
  refine ⟨T.setFrames fs, ?_, .returned (some .null), hrun, hended, Or.inl ⟨_, w, rfl, h, ⟨State.WarmedH.trans C.warm hW, by show Hp _ _ T.heap; rw [hT]; exact hH⟩, L, ⟨⟨_, rfl⟩, hW, hframe⟩, hl⟩⟩
  jvm_step X.here [X.here.top, hx9, hb9, d, hmeth', hr9, hret9, hty, Value.isRef]
  (try refine ⟨rfl, ?_⟩); (try refine ⟨rfl, ?_⟩)
  first | (intro acts; rw [hret _ acts rfl rfl rfl]) | rw [hret _ _ rfl rfl rfl]
  exact Steps.refl _
theorem xr_return (hret9 : ret = none) (d : decode cc pc = .ok (.return_, 1)) (h : zpo z (none) w) : XJ z own cc nL ret fr lo w rc rs pc lv [] := by
  intro C H L n1 n2 ls hH hl hc hs hv
  refine W.widen (k := zmc z) (n := zms z) (by omega) (by omega) ?_
  intro T hT X
  have hlocks := C.hlocks
  obtain ⟨fs, hret, hrun, hended, hW, hframe⟩ := X.leave (v := none) (fun _ => rfl)
  have hmeth' : T.vm.method? (zm z) = some (zt z) := X.method'
  have hr9 := C.hret
  have hb9 := C.hb
  have hx9 := C.hx
  refine ⟨T.setFrames fs, ?_, .returned (none), hrun, hended, Or.inl ⟨_, w, rfl, h, ⟨State.WarmedH.trans C.warm hW, by show Hp _ _ T.heap; rw [hT]; exact hH⟩, L, ⟨⟨_, rfl⟩, hW, hframe⟩, hl⟩⟩
  jvm_step X.here [X.here.top, hx9, hb9, d, hmeth', hr9, hret9]
  (try refine ⟨rfl, ?_⟩); (try refine ⟨rfl, ?_⟩)
  first | (intro acts; rw [hret _ acts rfl rfl rfl]) | rw [hret _ _ rfl rfl rfl]
  exact Steps.refl _
theorem xr_dreturn {x : UInt64} (hret9 : ret = some .double) (d : decode cc pc = .ok (.dreturn, 1)) (h : zpo z (some (.double x)) w) : XJ z own cc nL ret fr lo w rc rs pc lv [.double x] := by
  intro C H L n1 n2 ls hH hl hc hs hv
  refine W.widen (k := zmc z) (n := zms z) (by omega) (by omega) ?_
  intro T hT X
  have hlocks := C.hlocks
  obtain ⟨fs, hret, hrun, hended, hW, hframe⟩ := X.leave (v := some (.double x)) (fun h => by rw [C.hret, hret9] at h; cases h)
  have hmeth' : T.vm.method? (zm z) = some (zt z) := X.method'
  have hr9 := C.hret
  have hb9 := C.hb
  have hx9 := C.hx
  refine ⟨T.setFrames fs, ?_, .returned (some (.double x)), hrun, hended, Or.inl ⟨_, w, rfl, h, ⟨State.WarmedH.trans C.warm hW, by show Hp _ _ T.heap; rw [hT]; exact hH⟩, L, ⟨⟨_, rfl⟩, hW, hframe⟩, hl⟩⟩
  jvm_step X.here [X.here.top, hx9, hb9, d, hmeth', hr9, hret9]
  (try refine ⟨rfl, ?_⟩); (try refine ⟨rfl, ?_⟩)
  first | (intro acts; rw [hret _ acts rfl rfl rfl]) | rw [hret _ _ rfl rfl rfl]
  exact Steps.refl _
theorem xr_freturn {x : UInt32} (hret9 : ret = some .float) (d : decode cc pc = .ok (.freturn, 1)) (h : zpo z (some (.float x)) w) : XJ z own cc nL ret fr lo w rc rs pc lv [.float x] := by
  intro C H L n1 n2 ls hH hl hc hs hv
  refine W.widen (k := zmc z) (n := zms z) (by omega) (by omega) ?_
  intro T hT X
  have hlocks := C.hlocks
  obtain ⟨fs, hret, hrun, hended, hW, hframe⟩ := X.leave (v := some (.float x)) (fun h => by rw [C.hret, hret9] at h; cases h)
  have hmeth' : T.vm.method? (zm z) = some (zt z) := X.method'
  have hr9 := C.hret
  have hb9 := C.hb
  have hx9 := C.hx
  refine ⟨T.setFrames fs, ?_, .returned (some (.float x)), hrun, hended, Or.inl ⟨_, w, rfl, h, ⟨State.WarmedH.trans C.warm hW, by show Hp _ _ T.heap; rw [hT]; exact hH⟩, L, ⟨⟨_, rfl⟩, hW, hframe⟩, hl⟩⟩
  jvm_step X.here [X.here.top, hx9, hb9, d, hmeth', hr9, hret9]
  (try refine ⟨rfl, ?_⟩); (try refine ⟨rfl, ?_⟩)
  first | (intro acts; rw [hret _ acts rfl rfl rfl]) | rw [hret _ _ rfl rfl rfl]
  exact Steps.refl _
theorem xr_mmax {idx : Nat} {a b : Int} (hlink : Cond.methodLink own idx Lib.Math.max.name ∈ lw_all) (hstat : Cond.static Lib.Math.max.name ∈ lw_all) (hini : Cond.initialized "java/lang/Math" ∈ lw_all) (hcode : Cond.code Lib.Math.max.name Lib.Math.max.code 2 (some .int) ∈ lw_all) (hfr : 1 ≤ fr) (hlo : (st.map fun v => v.category).sum + 13 ≤ lo) (hr : (-2147483648 ≤ a ∧ a < 2147483648) ∧ (-2147483648 ≤ b ∧ b < 2147483648)) (d : decode cc pc = .ok (.invokestatic idx, 3)) (k : XJ z own cc nL ret fr lo w rc rs (pc + 3) lv (.int (iI (max a b)) :: st)) : XJ z own cc nL ret fr lo w rc rs pc lv (.int (iI b) :: .int (iI a) :: st) := by
  intro C H L n1 n2 ls hH hl hc hs hv
  obtain ⟨hr1, hr2, hr3, hr4, -⟩ := C.rest
  refine va_mmax C.hx C.hb (C.hml.trans hv.1.symm) C.hown (C.w _ hlink) (C.w _ hstat) (C.w _ hini) (C.w _ hcode) (by omega) (by omega) (by omega) (by omega) d ?_
  rw [iI_max hr]
  exact k C H L n1 n2 ls hH hl hc hs hv
theorem xr_mmin {idx : Nat} {a b : Int} (hlink : Cond.methodLink own idx Lib.Math.min.name ∈ lw_all) (hstat : Cond.static Lib.Math.min.name ∈ lw_all) (hini : Cond.initialized "java/lang/Math" ∈ lw_all) (hcode : Cond.code Lib.Math.min.name Lib.Math.min.code 2 (some .int) ∈ lw_all) (hfr : 1 ≤ fr) (hlo : (st.map fun v => v.category).sum + 13 ≤ lo) (hr : (-2147483648 ≤ a ∧ a < 2147483648) ∧ (-2147483648 ≤ b ∧ b < 2147483648)) (d : decode cc pc = .ok (.invokestatic idx, 3)) (k : XJ z own cc nL ret fr lo w rc rs (pc + 3) lv (.int (iI (min a b)) :: st)) : XJ z own cc nL ret fr lo w rc rs pc lv (.int (iI b) :: .int (iI a) :: st) := by
  intro C H L n1 n2 ls hH hl hc hs hv
  obtain ⟨hr1, hr2, hr3, hr4, -⟩ := C.rest
  refine va_mmin C.hx C.hb (C.hml.trans hv.1.symm) C.hown (C.w _ hlink) (C.w _ hstat) (C.w _ hini) (C.w _ hcode) (by omega) (by omega) (by omega) (by omega) d ?_
  rw [iI_min hr]
  exact k C H L n1 n2 ls hH hl hc hs hv
theorem xr_mabs {idx : Nat} {a : Int} (hlink : Cond.methodLink own idx Lib.Math.abs.name ∈ lw_all) (hstat : Cond.static Lib.Math.abs.name ∈ lw_all) (hini : Cond.initialized "java/lang/Math" ∈ lw_all) (hcode : Cond.code Lib.Math.abs.name Lib.Math.abs.code 1 (some .int) ∈ lw_all) (hfr : 1 ≤ fr) (hlo : (st.map fun v => v.category).sum + 13 ≤ lo) (hr : -2147483648 < a ∧ a < 2147483648) (d : decode cc pc = .ok (.invokestatic idx, 3)) (k : XJ z own cc nL ret fr lo w rc rs (pc + 3) lv (.int (iI ((a.natAbs : Int))) :: st)) : XJ z own cc nL ret fr lo w rc rs pc lv (.int (iI a) :: st) := by
  intro C H L n1 n2 ls hH hl hc hs hv
  obtain ⟨hr1, hr2, hr3, hr4, -⟩ := C.rest
  refine va_mabs C.hx C.hb (C.hml.trans hv.1.symm) C.hown (C.w _ hlink) (C.w _ hstat) (C.w _ hini) (C.w _ hcode) (by omega) (by omega) (by omega) (by omega) d ?_
  rw [iI_abs hr]
  exact k C H L n1 n2 ls hH hl hc hs hv
/-- System.arraycopy: what the target holds behind it -/
def cpyI {α : Type} (f h : Int → α) (sp dp n : Int) : Int → α := fun k => if dp ≤ k ∧ k < dp + n then f (sp + (k - dp)) else h k
theorem xr_acopyBA {a0 a na nb idx : Nat} {f h : Int → Int} {sp dp n : Int} (h0 : BA (zg z) w a0 na f) (h1 : BA (zg z) w a nb h) (hge : gb (zg z) ≤ a) (hlink : Cond.methodLink own idx arraycopyName ∈ lw_all) (hnat : Cond.native arraycopyName ∈ lw_all) (hstat : Cond.static arraycopyName ∈ lw_all) (hini : Cond.initialized "java/lang/System" ∈ lw_all)
    (hr : 0 ≤ sp ∧ 0 ≤ dp ∧ 0 ≤ n ∧ sp + n ≤ na ∧ dp + n ≤ nb ∧ na ≤ 60000 ∧ nb ≤ 60000) (hfit : ∀ k : Int, sp ≤ k → k < sp + n → -128 ≤ f k ∧ f k < 128) (hfr : 1 ≤ fr) (hlo : (st.map fun v => v.category).sum + (nativeFrameWords "java/lang/System" "arraycopy" 5 + 11) ≤ lo) (d : decode cc pc = .ok (.invokestatic idx, 3))
    (k : ∀ e : WE, BA (zg z) (wput w a e) a nb (cpyI f h sp dp n) → XJ z own cc nL ret fr lo (wput w a e) rc rs (pc + 3) lv st) : XJ z own cc nL ret fr lo w rc rs pc lv (.int (iI n) :: .int (iI dp) :: .ref a :: .int (iI sp) :: .ref a0 :: st) := by
  intro C H L n1 n2 ls hH hl hc hs hv
  obtain ⟨x0, g1, g2⟩ := h0
  obtain ⟨x1, g3, g4⟩ := h1
  obtain ⟨hr1, hr2, -⟩ := C.rest
  have e2 : (iI sp).toNatClampNeg = sp.toNat := iI_clamp (by omega)
  have e3 : (iI dp).toNatClampNeg = dp.toNat := iI_clamp (by omega)
  have e4 : (iI n).toNatClampNeg = n.toNat := iI_clamp (by omega)
  have t2 : (iI sp).toInt = sp := iI_toInt (by omega)
  have t3 : (iI dp).toInt = dp := iI_toInt (by omega)
  have t4 : (iI n).toInt = n := iI_toInt (by omega)
  intro T hT X
  have hc0 := hH.at g1
  have hc1 := hH.at g3
  obtain ⟨-, k0, hk0, cm0, hkk0⟩ := (C.K.2 2 _ rfl).1 na (fun j => .int (x0 j))
  obtain ⟨-, k1, hk1, cm1, hkk1⟩ := (C.K.2 2 _ rfl).1 nb (fun j => .int (x1 j))
  obtain ⟨vm', X', step⟩ := X.arraycopy C.hx C.hown (C.w _ hlink) (C.w _ hnat) (C.w _ hstat) (C.w _ hini) (src := a0) (dst := a) (cs := vp_cell (gA (zg z) 2) (na, (.inl x0))) (cd := vp_cell (gA (zg z) 2) (nb, (.inl x1))) (srcPos := iI sp) (destPos := iI dp) (n := iI n) (by rw [hT]; exact hc0) (by rw [hT]; exact hc1)
    (fun _ h => by cases h) (fun _ h => by cases h) (fun h => by cases h) (fun h => by cases h) hk0 hk1 hkk0 hkk1 (by simp [refKind]) (by rw [iI_0, iI_lt (by omega)]; omega) (by rw [iI_0, iI_lt (by omega)]; omega) (by rw [iI_0, iI_lt (by omega)]; omega)
    (by rw [t2, t4]; show ¬ _ > ((arrV _ na (fun j => .int (x0 j))).slots.size : Int); rw [arrV_size]; omega)
    (by rw [t3, t4]; show ¬ _ > ((arrV _ nb (fun j => .int (x1 j))).slots.size : Int); rw [arrV_size]; omega)
    (fun vm₁ _ i hi => by
      have e9 : (vp_cell (gA (zg z) 2) (na, .inl x0)).slots.getD (sp.toNat + i) .null = .int (iI (f (sp + i))) := by
        show (arrV _ na (fun j => .int (x0 j))).slots.getD _ _ = _
        rw [Array.getD_eq_getD_getElem?, arrV_read _ _ (by omega), g2 _ (by omega)]
        show Value.int _ = _
        congr 3
        omega
      rw [← e2] at e9
      refine ⟨?_, ?_⟩
      · rw [e9]
        have := hfit (sp + i) (by omega) (by omega)
        exact fit_b8 this
      · rw [e9]
        exact trivial)
    (g := F0 (zm z) pc ls (.int (iI n) :: .int (iI dp) :: .ref a :: .int (iI sp) :: .ref a0 :: st)) rfl (by rw [C.hml]; exact hv.1) (rest := st) rfl (by rw [C.hb]; exact d) (by omega) (by show 2 * 0 + _ + _ ≤ _; omega)
  have e1 : copied (vp_cell (gA (zg z) 2) (na, (.inl x0))) (vp_cell (gA (zg z) 2) (nb, (.inl x1))) (iI sp) (iI dp) (iI n) = vp_cell (gA (zg z) 2) (nb, (.inl (va_cpy x0 x1 sp.toNat dp.toNat n.toNat))) := by
    rw [vp_cell_i, vp_cell_i, vp_cell_i, ← e2, ← e3, ← e4]
    exact va_copied (fun z => .int z) _ _ x0 x1 (by rw [e2, e4]; omega)
  rw [e1] at X' step
  have hl9 : a < H.size := (Array.getElem?_eq_some_iff.mp hc1).1
  have hheap : ((T.setVm vm').setCell a (vp_cell (gA (zg z) 2) (nb, (.inl (va_cpy x0 x1 sp.toNat dp.toNat n.toNat))))).heap = H.setIfInBounds a (vp_cell (gA (zg z) 2) (nb, (.inl (va_cpy x0 x1 sp.toNat dp.toNat n.toNat)))) := by rw [← hT]; rfl
  have oq : ∀ q : Nat, q ≠ a → (H.setIfInBounds a (vp_cell (gA (zg z) 2) (nb, (.inl (va_cpy x0 x1 sp.toNat dp.toNat n.toNat)))))[q]? = H[q]? := fun q hq => by simp [Array.getElem?_setIfInBounds, Ne.symm hq]
  obtain ⟨t, a1, b1⟩ := k (.inl (.inl (gA (zg z) 2, nb, (.inl (va_cpy x0 x1 sp.toNat dp.toNat n.toNat))))) ⟨va_cpy x0 x1 sp.toNat dp.toNat n.toNat, g3.put_eq _, fun j hj => by
      by_cases hq : dp ≤ (j : Int) ∧ (j : Int) < dp + n
      · show va_cpy x0 x1 sp.toNat dp.toNat n.toNat j = _
        simp only [va_cpy, cpyI]
        rw [if_pos (by omega), if_pos hq, g2 _ (by omega)]
        congr 2
        omega
      · show va_cpy x0 x1 sp.toNat dp.toNat n.toNat j = _
        simp only [va_cpy, cpyI]
        rw [if_neg (by omega), if_neg hq, g4 _ hj]⟩ C _ _ _ _ ls (hH.put g3 hge (show (H.setIfInBounds a _)[a]? = some (vp_cell _ _) by simp [Array.getElem?_setIfInBounds, hl9]) (by simp) oq) (fun q hq => by
      rcases List.mem_append.mp hq with h | h
      · exact hl q h
      · obtain ⟨z9, -, hz⟩ := List.mem_map.mp h
        rw [← hz]
        exact hge) hc hs hv _ hheap X'
  exact ⟨t, step t a1, b1⟩
theorem xr_acopyRA {a0 a na nb idx : Nat} {f h : Int → Option Nat} {sp dp n : Int} (h0 : RA (zg z) w a0 na f) (h1 : RA (zg z) w a nb h) (hge : gb (zg z) ≤ a) (hlink : Cond.methodLink own idx arraycopyName ∈ lw_all) (hnat : Cond.native arraycopyName ∈ lw_all) (hstat : Cond.static arraycopyName ∈ lw_all) (hini : Cond.initialized "java/lang/System" ∈ lw_all)
    (hr : 0 ≤ sp ∧ 0 ≤ dp ∧ 0 ≤ n ∧ sp + n ≤ na ∧ dp + n ≤ nb ∧ na ≤ 60000 ∧ nb ≤ 60000) (hel : ∀ k : Int, sp ≤ k → k < sp + n → ∀ y : Nat, f k = some y → ∃ (ci : Nat) (q : vw_C) (fs : List Value), Ob w y ci fs ∧ vwCl[ci]? = some q ∧ Cond.castable q.1 "java/lang/Object" ∈ lw_tbl) (hfr : 1 ≤ fr) (hlo : (st.map fun v => v.category).sum + (nativeFrameWords "java/lang/System" "arraycopy" 5 + 11) ≤ lo) (d : decode cc pc = .ok (.invokestatic idx, 3))
    (k : ∀ e : WE, RA (zg z) (wput w a e) a nb (cpyI f h sp dp n) → XJ z own cc nL ret fr lo (wput w a e) rc rs (pc + 3) lv st) : XJ z own cc nL ret fr lo w rc rs pc lv (.int (iI n) :: .int (iI dp) :: .ref a :: .int (iI sp) :: .ref a0 :: st) := by
  intro C H L n1 n2 ls hH hl hc hs hv
  obtain ⟨x0, g1, g2⟩ := h0
  obtain ⟨x1, g3, g4⟩ := h1
  obtain ⟨hr1, hr2, -⟩ := C.rest
  have e2 : (iI sp).toNatClampNeg = sp.toNat := iI_clamp (by omega)
  have e3 : (iI dp).toNatClampNeg = dp.toNat := iI_clamp (by omega)
  have e4 : (iI n).toNatClampNeg = n.toNat := iI_clamp (by omega)
  have t2 : (iI sp).toInt = sp := iI_toInt (by omega)
  have t3 : (iI dp).toInt = dp := iI_toInt (by omega)
  have t4 : (iI n).toInt = n := iI_toInt (by omega)
  intro T hT X
  have hc0 := hH.at g1
  have hc1 := hH.at g3
  obtain ⟨-, k0, hk0, cm0, hkk0⟩ := (C.K.2 1 _ rfl).1 na (fun j => va_rf (x0 j))
  obtain ⟨-, k1, hk1, cm1, hkk1⟩ := (C.K.2 1 _ rfl).1 nb (fun j => va_rf (x1 j))
  obtain ⟨vm', X', step⟩ := X.arraycopy C.hx C.hown (C.w _ hlink) (C.w _ hnat) (C.w _ hstat) (C.w _ hini) (src := a0) (dst := a) (cs := vp_cell (gA (zg z) 1) (na, (.inr (.inr (.inr (.inr x0)))))) (cd := vp_cell (gA (zg z) 1) (nb, (.inr (.inr (.inr (.inr x1)))))) (srcPos := iI sp) (destPos := iI dp) (n := iI n) (by rw [hT]; exact hc0) (by rw [hT]; exact hc1)
    (fun _ h => by cases h) (fun _ h => by cases h) (fun h => by cases h) (fun h => by cases h) hk0 hk1 hkk0 hkk1 rfl (by rw [iI_0, iI_lt (by omega)]; omega) (by rw [iI_0, iI_lt (by omega)]; omega) (by rw [iI_0, iI_lt (by omega)]; omega)
    (by rw [t2, t4]; show ¬ _ > ((arrV _ na (fun j => va_rf (x0 j))).slots.size : Int); rw [arrV_size]; omega)
    (by rw [t3, t4]; show ¬ _ > ((arrV _ nb (fun j => va_rf (x1 j))).slots.size : Int); rw [arrV_size]; omega)
    (fun vm₁ hal i hi => by
      have e9 : (vp_cell (gA (zg z) 1) (na, .inr (.inr (.inr (.inr x0))))).slots.getD (sp.toNat + i) .null = va_rf (f (sp + i)) := by
        show (arrV _ na (fun j => va_rf (x0 j))).slots.getD _ _ = _
        rw [Array.getD_eq_getD_getElem?, arrV_read _ _ (by omega), g2 _ (by omega)]
        show va_rf _ = _
        congr 2
        omega
      rw [← e2] at e9
      rw [e9]
      cases hy : f (sp + i) with
      | none => exact ⟨rfl, trivial⟩
      | some y =>
        obtain ⟨ci, q, fs, hob, hq, hcast⟩ := hel (sp + i) (by omega) (by omega) y hy
        obtain ⟨cellV, v1, v2, v3⟩ := xx_recv C hH hob hq
        obtain ⟨kC, hkC, -⟩ := Vm.findClass_spec v3
        obtain ⟨kA, comp, r1, r2, r3, -⟩ := (C.K.2 1 _ rfl).2
        cases hk1.symm.trans r1
        cases hkk1.symm.trans r2
        obtain ⟨kE, hkE, -⟩ := Vm.findClass_spec r3
        obtain ⟨kC', hkC', -⟩ := hal.2.2 _ _ hkC
        obtain ⟨kE', hkE', -⟩ := hal.2.2 _ _ hkE
        refine ⟨rfl, cellV, (show T.heap[y]? = some cellV by rw [hT]; exact v1), (fun q h => by rw [h] at v2; cases v2), ⟨kC', hkC'⟩, ⟨kE', hkE'⟩, ?_⟩
        show vm₁.assignable _ _ = true
        rw [hal.assignable]
        exact xx_asgObj C hcast r3 v3)
    (g := F0 (zm z) pc ls (.int (iI n) :: .int (iI dp) :: .ref a :: .int (iI sp) :: .ref a0 :: st)) rfl (by rw [C.hml]; exact hv.1) (rest := st) rfl (by rw [C.hb]; exact d) (by omega) (by show 2 * 0 + _ + _ ≤ _; omega)
  have e1 : copied (vp_cell (gA (zg z) 1) (na, (.inr (.inr (.inr (.inr x0)))))) (vp_cell (gA (zg z) 1) (nb, (.inr (.inr (.inr (.inr x1)))))) (iI sp) (iI dp) (iI n) = vp_cell (gA (zg z) 1) (nb, (.inr (.inr (.inr (.inr (va_cpy x0 x1 sp.toNat dp.toNat n.toNat)))))) := by
    rw [vp_cell_q, vp_cell_q, vp_cell_q, ← e2, ← e3, ← e4]
    exact va_copied (fun z => va_rf z) _ _ x0 x1 (by rw [e2, e4]; omega)
  rw [e1] at X' step
  have hl9 : a < H.size := (Array.getElem?_eq_some_iff.mp hc1).1
  have hheap : ((T.setVm vm').setCell a (vp_cell (gA (zg z) 1) (nb, (.inr (.inr (.inr (.inr (va_cpy x0 x1 sp.toNat dp.toNat n.toNat)))))))).heap = H.setIfInBounds a (vp_cell (gA (zg z) 1) (nb, (.inr (.inr (.inr (.inr (va_cpy x0 x1 sp.toNat dp.toNat n.toNat))))))) := by rw [← hT]; rfl
  have oq : ∀ q : Nat, q ≠ a → (H.setIfInBounds a (vp_cell (gA (zg z) 1) (nb, (.inr (.inr (.inr (.inr (va_cpy x0 x1 sp.toNat dp.toNat n.toNat))))))))[q]? = H[q]? := fun q hq => by simp [Array.getElem?_setIfInBounds, Ne.symm hq]
  obtain ⟨t, a1, b1⟩ := k (.inl (.inl (gA (zg z) 1, nb, (.inr (.inr (.inr (.inr (va_cpy x0 x1 sp.toNat dp.toNat n.toNat)))))))) ⟨va_cpy x0 x1 sp.toNat dp.toNat n.toNat, g3.put_eq _, fun j hj => by
      by_cases hq : dp ≤ (j : Int) ∧ (j : Int) < dp + n
      · show va_cpy x0 x1 sp.toNat dp.toNat n.toNat j = _
        simp only [va_cpy, cpyI]
        rw [if_pos (by omega), if_pos hq, g2 _ (by omega)]
        congr 2
        omega
      · show va_cpy x0 x1 sp.toNat dp.toNat n.toNat j = _
        simp only [va_cpy, cpyI]
        rw [if_neg (by omega), if_neg hq, g4 _ hj]⟩ C _ _ _ _ ls (hH.put g3 hge (show (H.setIfInBounds a _)[a]? = some (vp_cell _ _) by simp [Array.getElem?_setIfInBounds, hl9]) (by simp) oq) (fun q hq => by
      rcases List.mem_append.mp hq with h | h
      · exact hl q h
      · obtain ⟨z9, -, hz⟩ := List.mem_map.mp h
        rw [← hz]
        exact hge) hc hs hv _ hheap X'
  exact ⟨t, step t a1, b1⟩
end More
