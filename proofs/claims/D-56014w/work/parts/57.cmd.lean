/-! COMMANDS: the ten acts as one: what is accepted, why it is rejected, what it does; the bounds kept -/
set_option maxRecDepth 100000
theorem PB.upd3 {P : Int → Int} {N v : Int} (h : PB P N) (hv : 0 ≤ v ∧ v ≤ 20) : PB (updI P 3 v) N := by
  have hg := h.g
  obtain ⟨h1, h2, h3, h4, h5, h6, h7, h8, h9⟩ := h
  have e : ∀ j : Int, j ≠ 3 → updI P 3 v j = P j := fun j hj => updI_ne hj
  refine ⟨by rw [e 0 (by omega)]; exact h1, by rw [e 1 (by omega)]; exact h2, by rw [e 2 (by omega)]; exact h3, by rw [updI_eq]; exact hv, h5, fun j a b => by rw [e j (by omega)]; exact h6 j a b, fun b a c => ?_, fun b a c => ?_, fun b a c => ?_⟩
  · rw [e 0 (by omega)] at c
    rw [e _ (by omega), e _ (by omega), e _ (by omega), e _ (by omega), e _ (by omega), e _ (by omega), e _ (by omega)]
    exact h7 b a c
  · rw [e 1 (by omega)] at c
    rw [e _ (by omega), e _ (by omega), e _ (by omega), e _ (by omega)]
    exact h8 b a c
  · rw [e 2 (by omega)] at c
    rw [e _ (by omega), e _ (by omega), e _ (by omega), e _ (by omega)]
    exact h9 b a c
theorem PB.updF {P : Int → Int} {N f k v : Int} (h : PB P N) (hf : 0 ≤ f ∧ f < P 1) (hk : (k = 72 + 4 * f ∧ 1 ≤ v ∧ v ≤ 9) ∨ (k = 73 + 4 * f ∧ 0 ≤ v ∧ v ≤ 1)) : PB (updI P k v) N := by
  have hg := h.g
  obtain ⟨h1, h2, h3, h4, h5, h6, h7, h8, h9⟩ := h
  have e : ∀ j : Int, j ≠ k → updI P k v j = P j := fun j hj => updI_ne hj
  refine ⟨by rw [e 0 (by omega)]; exact h1, by rw [e 1 (by omega)]; exact h2, by rw [e 2 (by omega)]; exact h3, by rw [e 3 (by omega)]; exact h4, h5, fun j a b => by rw [e j (by omega)]; exact h6 j a b, fun b a c => ?_, fun b a c => ?_, fun b a c => ?_⟩
  · rw [e 0 (by omega)] at c
    rw [e _ (by omega), e _ (by omega), e _ (by omega), e _ (by omega), e _ (by omega), e _ (by omega), e _ (by omega)]
    exact h7 b a c
  · rw [e 1 (by omega)] at c
    have h0 := h8 b a c
    rw [e (70 + 4 * b) (by omega), e (71 + 4 * b) (by omega)]
    simp only [updI]
    refine ⟨h0.1, h0.2.1, ?_, ?_⟩ <;> split <;> omega
  · rw [e 2 (by omega)] at c
    rw [e _ (by omega), e _ (by omega), e _ (by omega), e _ (by omega)]
    exact h9 b a c
theorem PB_oBench {P : Int → Int} {N x y v : Int} (h : PB P N) (h10 : P 0 < 10) (hx : 0 ≤ x ∧ x ≤ 5) (hy : 0 ≤ y ∧ y ≤ 5) (hv : 1 ≤ v ∧ v ≤ 20) : PB (oBench P x y v) N := by
  have hg := h.g
  obtain ⟨h1, h2, h3, h4, h5, h6, h7, h8, h9⟩ := h
  have e : ∀ j : Int, j ≠ 0 → (j < 10 + 6 * P 0 ∨ 15 + 6 * P 0 < j) → oBench P x y v j = P j := fun j hj hk => by
    unfold oBench
    rw [updI_ne (by omega), updI_ne (by omega), updI_ne (by omega), updI_ne (by omega), updI_ne (by omega), updI_ne (by omega), updI_ne (by omega)]
  have e0 : oBench P x y v 0 = P 0 + 1 := updI_eq
  have e1 : oBench P x y v (10 + 6 * P 0) = x := by simp only [oBench, updI, ↓reduceIte]; repeat first | rfl | rw [if_pos (by omega)] | rw [if_neg (by omega)]
  have e2 : oBench P x y v (11 + 6 * P 0) = y := by simp only [oBench, updI, ↓reduceIte]; repeat first | rfl | rw [if_pos (by omega)] | rw [if_neg (by omega)]
  have e3 : oBench P x y v (12 + 6 * P 0) = v := by simp only [oBench, updI, ↓reduceIte]; repeat first | rfl | rw [if_pos (by omega)] | rw [if_neg (by omega)]
  have e4 : oBench P x y v (13 + 6 * P 0) = 0 := by simp only [oBench, updI, ↓reduceIte]; repeat first | rfl | rw [if_pos (by omega)] | rw [if_neg (by omega)]
  have e5 : oBench P x y v (14 + 6 * P 0) = 0 := by simp only [oBench, updI, ↓reduceIte]; repeat first | rfl | rw [if_pos (by omega)] | rw [if_neg (by omega)]
  have e6 : oBench P x y v (15 + 6 * P 0) = 0 := by simp only [oBench, updI, ↓reduceIte]; repeat first | rfl | rw [if_pos (by omega)] | rw [if_neg (by omega)]
  refine ⟨by rw [e0]; omega, by rw [e 1 (by omega) (by omega)]; exact h2, by rw [e 2 (by omega) (by omega)]; exact h3, by rw [e 3 (by omega) (by omega)]; exact h4, h5, fun j a b => by rw [e j (by omega) (by omega)]; exact h6 j a b, fun b a c => ?_, fun b a c => ?_, fun b a c => ?_⟩
  · rw [e0] at c
    rw [e 2 (by omega) (by omega)]
    by_cases hb : b = P 0
    · subst hb
      rw [e1, e2, e3, e4, e5, e6]
      omega
    · rw [e _ (by omega) (by omega), e _ (by omega) (by omega), e _ (by omega) (by omega), e _ (by omega) (by omega), e _ (by omega) (by omega), e _ (by omega) (by omega)]
      exact h7 b a (by omega)
  · rw [e 1 (by omega) (by omega)] at c
    rw [e _ (by omega) (by omega), e _ (by omega) (by omega), e _ (by omega) (by omega), e _ (by omega) (by omega)]
    exact h8 b a c
  · rw [e 2 (by omega) (by omega)] at c
    have h0 := h9 b a c
    rw [e0, e _ (by omega) (by omega), e _ (by omega) (by omega), e _ (by omega) (by omega)]
    omega
theorem PB_oFount {P : Int → Int} {N x y v : Int} (h : PB P N) (h10 : P 1 < 4) (hx : 0 ≤ x ∧ x ≤ 5) (hy : 0 ≤ y ∧ y ≤ 5) (hv : 1 ≤ v ∧ v ≤ 9) : PB (oFount P x y v) N := by
  have hg := h.g
  obtain ⟨h1, h2, h3, h4, h5, h6, h7, h8, h9⟩ := h
  have e : ∀ j : Int, j ≠ 1 → (j < 70 + 4 * P 1 ∨ 73 + 4 * P 1 < j) → oFount P x y v j = P j := fun j hj hk => by
    unfold oFount
    rw [updI_ne (by omega), updI_ne (by omega), updI_ne (by omega), updI_ne (by omega), updI_ne (by omega)]
  have e0 : oFount P x y v 1 = P 1 + 1 := updI_eq
  have e1 : oFount P x y v (70 + 4 * P 1) = x := by simp only [oFount, updI, ↓reduceIte]; repeat first | rfl | rw [if_pos (by omega)] | rw [if_neg (by omega)]
  have e2 : oFount P x y v (71 + 4 * P 1) = y := by simp only [oFount, updI, ↓reduceIte]; repeat first | rfl | rw [if_pos (by omega)] | rw [if_neg (by omega)]
  have e3 : oFount P x y v (72 + 4 * P 1) = v := by simp only [oFount, updI, ↓reduceIte]; repeat first | rfl | rw [if_pos (by omega)] | rw [if_neg (by omega)]
  have e4 : oFount P x y v (73 + 4 * P 1) = 1 := by simp only [oFount, updI, ↓reduceIte]; repeat first | rfl | rw [if_pos (by omega)] | rw [if_neg (by omega)]
  refine ⟨by rw [e 0 (by omega) (by omega)]; exact h1, by rw [e0]; omega, by rw [e 2 (by omega) (by omega)]; exact h3, by rw [e 3 (by omega) (by omega)]; exact h4, h5, fun j a b => by rw [e j (by omega) (by omega)]; exact h6 j a b, fun b a c => ?_, fun b a c => ?_, fun b a c => ?_⟩
  · rw [e 0 (by omega) (by omega)] at c
    rw [e _ (by omega) (by omega), e _ (by omega) (by omega), e _ (by omega) (by omega), e _ (by omega) (by omega), e _ (by omega) (by omega), e _ (by omega) (by omega), e _ (by omega) (by omega)]
    exact h7 b a c
  · rw [e0] at c
    by_cases hb : b = P 1
    · subst hb
      rw [e1, e2, e3, e4]
      omega
    · rw [e _ (by omega) (by omega), e _ (by omega) (by omega), e _ (by omega) (by omega), e _ (by omega) (by omega)]
      exact h8 b a (by omega)
  · rw [e 2 (by omega) (by omega)] at c
    rw [e _ (by omega) (by omega), e _ (by omega) (by omega), e _ (by omega) (by omega), e _ (by omega) (by omega)]
    exact h9 b a c
theorem PB_oTenant {P : Int → Int} {N q : Int} (h : PB P N) (h10 : P 2 < 8) (hq : 0 ≤ q ∧ q ≤ 99) (hN : N + 100 ≤ 10000000) : PB (oTenant P q) (N + 100) := by
  have hg := h.g
  obtain ⟨h1, h2, h3, h4, h5, h6, h7, h8, h9⟩ := h
  have e : ∀ j : Int, j ≠ 2 → j ≠ 6 → j ≠ 86 + 2 * P 2 → j ≠ 87 + 2 * P 2 → j ≠ 102 + P 2 → oTenant P q j = P j := fun j a b c d f => by
    unfold oTenant
    rw [updI_ne b, updI_ne a, updI_ne f, updI_ne d, updI_ne c]
  have e0 : oTenant P q 2 = P 2 + 1 := by simp only [oTenant, updI, ↓reduceIte]; repeat first | rfl | rw [if_pos (by omega)] | rw [if_neg (by omega)]
  have e6 : oTenant P q 6 = P 6 + q := updI_eq
  have e1 : oTenant P q (86 + 2 * P 2) = q := by simp only [oTenant, updI, ↓reduceIte]; repeat first | rfl | rw [if_pos (by omega)] | rw [if_neg (by omega)]
  have e2 : oTenant P q (87 + 2 * P 2) = 0 := by simp only [oTenant, updI, ↓reduceIte]; repeat first | rfl | rw [if_pos (by omega)] | rw [if_neg (by omega)]
  have e3 : oTenant P q (102 + P 2) = 0 := by simp only [oTenant, updI, ↓reduceIte]; repeat first | rfl | rw [if_pos (by omega)] | rw [if_neg (by omega)]
  have h66 := h6 6 (by omega) (by omega)
  refine ⟨by rw [e 0 (by omega) (by omega) (by omega) (by omega) (by omega)]; exact h1, by rw [e 1 (by omega) (by omega) (by omega) (by omega) (by omega)]; exact h2, by rw [e0]; omega, by rw [e 3 (by omega) (by omega) (by omega) (by omega) (by omega)]; exact h4, by omega, fun j a b => ?_, fun b a c => ?_, fun b a c => ?_, fun b a c => ?_⟩
  · by_cases hj : j = 6
    · subst hj
      rw [e6]
      omega
    · rw [e j (by omega) (by omega) (by omega) (by omega) (by omega)]
      have := h6 j a b
      omega
  · rw [e 0 (by omega) (by omega) (by omega) (by omega) (by omega)] at c
    have h0 := h7 b a c
    rw [e0, e _ (by omega) (by omega) (by omega) (by omega) (by omega), e _ (by omega) (by omega) (by omega) (by omega) (by omega), e _ (by omega) (by omega) (by omega) (by omega) (by omega), e _ (by omega) (by omega) (by omega) (by omega) (by omega), e _ (by omega) (by omega) (by omega) (by omega) (by omega), e _ (by omega) (by omega) (by omega) (by omega) (by omega)]
    omega
  · rw [e 1 (by omega) (by omega) (by omega) (by omega) (by omega)] at c
    rw [e _ (by omega) (by omega) (by omega) (by omega) (by omega), e _ (by omega) (by omega) (by omega) (by omega) (by omega), e _ (by omega) (by omega) (by omega) (by omega) (by omega), e _ (by omega) (by omega) (by omega) (by omega) (by omega)]
    exact h8 b a c
  · rw [e0] at c
    rw [e 0 (by omega) (by omega) (by omega) (by omega) (by omega)]
    by_cases hb : b = P 2
    · subst hb
      rw [e1, e2, e3]
      omega
    · have h0 := h9 b a (by omega)
      rw [e _ (by omega) (by omega) (by omega) (by omega) (by omega), e _ (by omega) (by omega) (by omega) (by omega) (by omega), e _ (by omega) (by omega) (by omega) (by omega) (by omega)]
      omega
/-- a command: its sort and three numbers -/
abbrev Cm : Type := Int × Int × Int × Int
def cA (c : Cm) (P : Int → Int) : Bool :=
  if c.1 = 98 then decide (((0 ≤ c.2.1 ∧ c.2.1 ≤ 5) ∧ (0 ≤ c.2.2.1 ∧ c.2.2.1 ≤ 5)) ∧ (1 ≤ c.2.2.2 ∧ c.2.2.2 ≤ 20))
  else if c.1 = 102 then decide (((0 ≤ c.2.1 ∧ c.2.1 ≤ 5) ∧ (0 ≤ c.2.2.1 ∧ c.2.2.1 ≤ 5)) ∧ (1 ≤ c.2.2.2 ∧ c.2.2.2 ≤ 9))
  else if c.1 = 116 then decide (0 ≤ c.2.1 ∧ c.2.1 ≤ 99)
  else if c.1 = 108 then decide (((0 ≤ c.2.1 ∧ c.2.1 < P 2) ∧ (0 ≤ c.2.2.1 ∧ c.2.2.1 < P 0)) ∧ (1 ≤ c.2.2.2 ∧ c.2.2.2 ≤ 12))
  else if c.1 = 114 then decide ((0 ≤ c.2.1 ∧ c.2.1 < P 0) ∧ (1 ≤ c.2.2.1 ∧ c.2.2.1 ≤ 12))
  else if c.1 = 101 then decide (0 ≤ c.2.1 ∧ c.2.1 < P 0)
  else if c.1 = 103 then decide ((0 ≤ c.2.1 ∧ c.2.1 < P 2) ∧ (1 ≤ c.2.2.1 ∧ c.2.2.1 ≤ 99))
  else if c.1 = 115 then decide (0 ≤ c.2.1 ∧ c.2.1 < P 1)
  else if c.1 = 105 then decide (0 ≤ c.2.1 ∧ c.2.1 ≤ 20)
  else decide (1 ≤ c.2.1 ∧ c.2.1 ≤ 12)
def cR (c : Cm) (P : Int → Int) : Int × Int :=
  if c.1 = 98 then rjBench P c.2.1 c.2.2.1 else if c.1 = 102 then rjFount P c.2.1 c.2.2.1 else if c.1 = 116 then rjTenant P else if c.1 = 108 then barred P c.2.1 c.2.2.1
  else if c.1 = 114 then rjRenew P c.2.1 c.2.2.1 else if c.1 = 101 then rjEnd P c.2.1 else (0, 0)
def cO (c : Cm) (P : Int → Int) : Int → Int :=
  if c.1 = 98 then oBench P c.2.1 c.2.2.1 c.2.2.2 else if c.1 = 102 then oFount P c.2.1 c.2.2.1 c.2.2.2 else if c.1 = 116 then oTenant P c.2.1 else if c.1 = 108 then oLease P c.2.1 c.2.2.1 c.2.2.2
  else if c.1 = 114 then oRenew P c.2.1 c.2.2.1 else if c.1 = 101 then oFree P c.2.1 ((P (14 + 6 * c.2.1)).tdiv 2) else if c.1 = 103 then oGive P c.2.1 c.2.2.1
  else if c.1 = 115 then oSwitch P c.2.1 else if c.1 = 105 then oLimit P c.2.1 else (oMonths c.2.1.toNat P).1
/-- what it answers -/
def cV (c : Cm) (P : Int → Int) : Int :=
  if c.1 = 98 then P 0 else if c.1 = 102 then P 1 else if c.1 = 116 then P 2 else if c.1 = 108 then rent P c.2.2.1
  else if c.1 = 114 then P (15 + 6 * c.2.1) + c.2.2.1 else if c.1 = 101 then (P (14 + 6 * c.2.1)).tdiv 2 else if c.1 = 103 then P (86 + 2 * c.2.1) + c.2.2.1
  else if c.1 = 115 then 1 - P (73 + 4 * c.2.1) else if c.1 = 105 then P 3 else (oMonths c.2.1.toNat P).2
/-- the object of a command: its class and its fields -/
def cmF (c : Cm) : Nat × List Value :=
  if c.1 = 98 then (9, [.int (iI c.2.1), .int (iI c.2.2.1), .int (iI c.2.2.2), .int (iI 98)]) else if c.1 = 102 then (9, [.int (iI c.2.1), .int (iI c.2.2.1), .int (iI c.2.2.2), .int (iI 102)])
  else if c.1 = 116 then (9, [.int (iI (-1)), .int (iI (-1)), .int (iI c.2.1), .int (iI 116)]) else if c.1 = 108 then (10, [.int (iI c.2.1), .int (iI c.2.2.1), .int (iI c.2.2.2), .int (iI 108)])
  else if c.1 = 114 then (10, [.int (iI (-1)), .int (iI c.2.1), .int (iI c.2.2.1), .int (iI 114)]) else if c.1 = 101 then (10, [.int (iI (-1)), .int (iI c.2.1), .int (iI (-1)), .int (iI 101)])
  else if c.1 = 103 then (11, [.int (iI c.2.1), .int (iI (-1)), .int (iI c.2.2.1), .int (iI 103)]) else if c.1 = 115 then (11, [.int (iI c.2.1), .int (iI (-1)), .int (iI (-1)), .int (iI 115)])
  else if c.1 = 105 then (11, [.int (iI (-1)), .int (iI (-1)), .int (iI c.2.1), .int (iI 110)]) else (11, [.int (iI (-1)), .int (iI (-1)), .int (iI c.2.1), .int (iI 112)])
theorem oRenew_PB {P : Int → Int} {N b m : Int} (h : PB P N) (hb : 0 ≤ b ∧ b < P 0) (hm : 1 ≤ m ∧ m ≤ 12) (hr : (rjRenew P b m).1 = 0) : PB (oRenew P b m) N := by
  have hbb := h.b hb
  unfold rjRenew at hr
  unfold oRenew
  by_cases h1 : P (13 + 6 * b) = 0
  · rw [if_pos h1] at hr
    simp at hr
  · rw [if_neg h1] at hr
    by_cases h2 : 12 < P (15 + 6 * b) + m
    · rw [if_pos h2] at hr
      simp at hr
    · exact h.updB hb (Or.inr (Or.inr (Or.inr (Or.inr (Or.inr ⟨rfl, by omega, by omega⟩)))))
theorem oFree_PB {P : Int → Int} {N b v : Int} (h : PB P N) (hN : N + 100 ≤ 10000000) (hb : 0 ≤ b ∧ b < P 0) (hl : P (13 + 6 * b) ≠ 0) (hv : 0 ≤ v ∧ v ≤ P (14 + 6 * b)) : PB (oFree P b v) (N + 100) := by
  have hg := h.g
  have hbb := h.b hb
  have htt := h.t (t := P (13 + 6 * b) - 1) (by omega)
  have k5 := h.k (k := 5) (by omega) (by omega)
  obtain ⟨e1, e2, e3⟩ := PB_end (h.mono (M := N + 100) (by omega)) hb hl
  unfold oFree
  exact (e1.updT (by rw [e3]; omega) (Or.inl ⟨Or.inl rfl, by omega, by omega⟩)).updK (by omega) (by omega)
theorem oLease_PB {P : Int → Int} {N t b m : Int} (h : PB P N) (ht : 0 ≤ t ∧ t < P 2) (hb : 0 ≤ b ∧ b < P 0) (hm : 1 ≤ m ∧ m ≤ 12) (hr : (barred P t b).1 = 0) : PB (oLease P t b m) N := by
  have hg := h.g
  have htt := h.t ht
  have hbb := h.b hb
  have hrr := rent_bd h hb.1 hb.2
  have hpoor : rent P b ≤ P (86 + 2 * t) := by
    unfold barred at hr
    by_cases h1 : P (87 + 2 * t) = 3
    · rw [if_pos h1] at hr; simp at hr
    rw [if_neg h1] at hr
    by_cases h2 : P (102 + t) ≠ 0
    · rw [if_pos h2] at hr; simp at hr
    rw [if_neg h2] at hr
    by_cases h3 : P (13 + 6 * b) ≠ 0
    · rw [if_pos h3] at hr; simp at hr
    rw [if_neg h3] at hr
    by_cases h4 : P 3 < noiseOf P b
    · rw [if_pos h4] at hr; simp at hr
    rw [if_neg h4] at hr
    by_cases h5 : P (86 + 2 * t) < rent P b
    · rw [if_pos h5] at hr; simp at hr
    · omega
  unfold oLease
  have q1 := h.updB hb (k := 14 + 6 * b) (v := rent P b) (Or.inr (Or.inr (Or.inr (Or.inr (Or.inl ⟨rfl, by omega, by omega⟩)))))
  have q2 := q1.updB (b := b) (k := 15 + 6 * b) (v := m) (by rw [updI_ne (by omega)]; exact hb) (Or.inr (Or.inr (Or.inr (Or.inr (Or.inr ⟨rfl, by omega, by omega⟩)))))
  have q3 := q2.updT (t := t) (k := 86 + 2 * t) (v := P (86 + 2 * t) - rent P b) (by rw [updI_ne (by omega), updI_ne (by omega)]; exact ht) (Or.inl ⟨Or.inl rfl, by omega, by omega⟩)
  have q4 := q3.updT (t := t) (k := 102 + t) (v := b + 1) (by rw [updI_ne (by omega), updI_ne (by omega), updI_ne (by omega)]; exact ht) (Or.inr ⟨rfl, by omega, by rw [updI_ne (by omega), updI_ne (by omega), updI_ne (by omega)]; omega⟩)
  exact q4.updB (b := b) (k := 13 + 6 * b) (v := t + 1) (by rw [updI_ne (by omega), updI_ne (by omega), updI_ne (by omega), updI_ne (by omega)]; exact hb) (Or.inr (Or.inr (Or.inr (Or.inl ⟨rfl, by omega, by rw [updI_ne (by omega), updI_ne (by omega), updI_ne (by omega), updI_ne (by omega)]; omega⟩))))
theorem PB_act {c : Cm} {P : Int → Int} {N : Int} (h : PB P N) (hN : N + 13000 ≤ 10000000) (ha : cA c P = true) (hr : (cR c P).1 = 0) : PB (cO c P) (N + 13000) := by
  obtain ⟨s, a, b, v⟩ := c
  have hg := h.g
  have h0 := h.mono (M := N + 13000) (by omega)
  have k6 := h.k (k := 6) (by omega) (by omega)
  simp only [cA, cR, cO] at ha hr ⊢
  by_cases s1 : s = 98
  · simp only [if_pos s1, decide_eq_true_eq] at ha hr ⊢
    have h1 : P 0 ≠ 10 := fun q => by unfold rjBench at hr; rw [if_pos q] at hr; simp at hr
    exact PB_oBench h0 (by omega) ha.1.1 ha.1.2 ha.2
  simp only [if_neg s1] at ha hr ⊢
  by_cases s2 : s = 102
  · simp only [if_pos s2, decide_eq_true_eq] at ha hr ⊢
    have h1 : P 1 ≠ 4 := fun q => by unfold rjFount at hr; rw [if_pos q] at hr; simp at hr
    exact PB_oFount h0 (by omega) ha.1.1 ha.1.2 ha.2
  simp only [if_neg s2] at ha hr ⊢
  by_cases s3 : s = 116
  · simp only [if_pos s3, decide_eq_true_eq] at ha hr ⊢
    have h1 : P 2 ≠ 8 := fun q => by unfold rjTenant at hr; rw [if_pos q] at hr; simp at hr
    exact (PB_oTenant h (by omega) ha (by omega)).mono (by omega)
  simp only [if_neg s3] at ha hr ⊢
  by_cases s4 : s = 108
  · simp only [if_pos s4, decide_eq_true_eq] at ha hr ⊢
    exact oLease_PB h0 ha.1.1 ha.1.2 ha.2 hr
  simp only [if_neg s4] at ha hr ⊢
  by_cases s5 : s = 114
  · simp only [if_pos s5, decide_eq_true_eq] at ha hr ⊢
    exact oRenew_PB h0 ha.1 ha.2 hr
  simp only [if_neg s5] at ha hr ⊢
  by_cases s6 : s = 101
  · simp only [if_pos s6, decide_eq_true_eq] at ha hr ⊢
    have h1 : P (13 + 6 * a) ≠ 0 := fun q => by unfold rjEnd at hr; rw [if_pos q] at hr; simp at hr
    have hbb := h.b ha
    have e : (P (14 + 6 * a)).tdiv 2 = P (14 + 6 * a) / 2 := Int.tdiv_eq_ediv_of_nonneg hbb.2.2.2.2.1.1
    exact (oFree_PB h (by omega) ha h1 (by rw [e]; omega)).mono (by omega)
  simp only [if_neg s6] at ha hr ⊢
  by_cases s7 : s = 103
  · simp only [if_pos s7, decide_eq_true_eq] at ha hr ⊢
    have htt := h.t ha.1
    unfold oGive
    exact (h0.updT ha.1 (Or.inl ⟨Or.inl rfl, by omega, by omega⟩)).updK (by omega) (by omega)
  simp only [if_neg s7] at ha hr ⊢
  by_cases s8 : s = 115
  · simp only [if_pos s8, decide_eq_true_eq] at ha hr ⊢
    have hff := h.f ha
    unfold oSwitch
    exact h0.updF ha (Or.inr ⟨rfl, by omega, by omega⟩)
  simp only [if_neg s8] at ha hr ⊢
  by_cases s9 : s = 105
  · simp only [if_pos s9, decide_eq_true_eq] at ha hr ⊢
    unfold oLimit
    exact h0.upd3 ha
  simp only [if_neg s9, decide_eq_true_eq] at ha hr ⊢
  exact (PB_months a.toNat P N h (by omega)).1.mono (by omega)
