/-! BOUNDS: what the acts keep: the bounds PB -/
set_option maxRecDepth 100000
theorem PB.mono {P : Int → Int} {N M : Int} (h : PB P N) (hM : N ≤ M ∧ M ≤ 10000000) : PB P M := by
  obtain ⟨h1, h2, h3, h4, h5, h6, h7, h8, h9⟩ := h
  refine ⟨h1, h2, h3, h4, by omega, fun k a b => ?_, h7, h8, fun t a b => ?_⟩
  · have := h6 k a b; omega
  · have := h9 t a b; omega
/-- a place of the park itself -/
theorem PB.updK {P : Int → Int} {N k v : Int} (h : PB P N) (hk : 4 ≤ k ∧ k ≤ 9) (hv : 0 ≤ v ∧ v ≤ N) : PB (updI P k v) N := by
  have hg := h.g
  obtain ⟨h1, h2, h3, h4, h5, h6, h7, h8, h9⟩ := h
  refine ⟨?_, ?_, ?_, ?_, h5, fun j a b => ?_, fun b a c => ?_, fun b a c => ?_, fun b a c => ?_⟩
  · rw [updI, if_neg (by omega)]; exact h1
  · rw [updI, if_neg (by omega)]; exact h2
  · rw [updI, if_neg (by omega)]; exact h3
  · rw [updI, if_neg (by omega)]; exact h4
  · simp only [updI]; split
    · exact hv
    · exact h6 j a b
  · have e0 : updI P k v 0 = P 0 := by rw [updI, if_neg (by omega)]
    rw [e0] at c
    have := h7 b a c
    simp only [updI]
    rw [if_neg (by omega), if_neg (by omega), if_neg (by omega), if_neg (by omega), if_neg (by omega), if_neg (by omega), if_neg (by omega)]
    exact this
  · have e0 : updI P k v 1 = P 1 := by rw [updI, if_neg (by omega)]
    rw [e0] at c
    have := h8 b a c
    simp only [updI]
    rw [if_neg (by omega), if_neg (by omega), if_neg (by omega), if_neg (by omega)]
    exact this
  · have e0 : updI P k v 2 = P 2 := by rw [updI, if_neg (by omega)]
    rw [e0] at c
    have := h9 b a c
    simp only [updI]
    rw [if_neg (by omega), if_neg (by omega), if_neg (by omega), if_neg (by omega)]
    exact this
/-- a tenant's numbers, his bench -/
theorem PB.updT {P : Int → Int} {N t k v : Int} (h : PB P N) (ht : 0 ≤ t ∧ t < P 2) (hk : ((k = 86 + 2 * t ∨ k = 87 + 2 * t) ∧ 0 ≤ v ∧ v ≤ N) ∨ (k = 102 + t ∧ 0 ≤ v ∧ v ≤ P 0)) : PB (updI P k v) N := by
  have hg := h.g
  obtain ⟨h1, h2, h3, h4, h5, h6, h7, h8, h9⟩ := h
  refine ⟨?_, ?_, ?_, ?_, h5, fun j a b => ?_, fun b a c => ?_, fun b a c => ?_, fun b a c => ?_⟩
  · rw [updI, if_neg (by omega)]; exact h1
  · rw [updI, if_neg (by omega)]; exact h2
  · rw [updI, if_neg (by omega)]; exact h3
  · rw [updI, if_neg (by omega)]; exact h4
  · rw [updI, if_neg (by omega)]; exact h6 j a b
  · have e0 : updI P k v 0 = P 0 := by rw [updI, if_neg (by omega)]
    rw [e0] at c
    have := h7 b a c
    simp only [updI]
    rw [if_neg (by omega), if_neg (by omega), if_neg (by omega), if_neg (by omega), if_neg (by omega), if_neg (by omega), if_neg (by omega)]
    exact this
  · have e0 : updI P k v 1 = P 1 := by rw [updI, if_neg (by omega)]
    rw [e0] at c
    have := h8 b a c
    simp only [updI]
    rw [if_neg (by omega), if_neg (by omega), if_neg (by omega), if_neg (by omega)]
    exact this
  · have e0 : updI P k v 2 = P 2 := by rw [updI, if_neg (by omega)]
    have e1 : updI P k v 0 = P 0 := by rw [updI, if_neg (by omega)]
    rw [e0] at c
    have := h9 b a c
    rw [e1]
    simp only [updI]
    refine ⟨⟨?_, ?_⟩, ⟨?_, ?_⟩, ?_, ?_⟩ <;> split <;> omega
/-- a bench's numbers -/
theorem PB.updB {P : Int → Int} {N b k v : Int} (h : PB P N) (hb : 0 ≤ b ∧ b < P 0) (hk : (k = 10 + 6 * b ∧ 0 ≤ v ∧ v ≤ 5) ∨ (k = 11 + 6 * b ∧ 0 ≤ v ∧ v ≤ 5) ∨ (k = 12 + 6 * b ∧ 1 ≤ v ∧ v ≤ 20) ∨ (k = 13 + 6 * b ∧ 0 ≤ v ∧ v ≤ P 2) ∨ (k = 14 + 6 * b ∧ 0 ≤ v ∧ v ≤ 20) ∨ (k = 15 + 6 * b ∧ 0 ≤ v ∧ v ≤ 12)) : PB (updI P k v) N := by
  have hg := h.g
  obtain ⟨h1, h2, h3, h4, h5, h6, h7, h8, h9⟩ := h
  refine ⟨?_, ?_, ?_, ?_, h5, fun j a c => ?_, fun i a c => ?_, fun i a c => ?_, fun i a c => ?_⟩
  · rw [updI, if_neg (by omega)]; exact h1
  · rw [updI, if_neg (by omega)]; exact h2
  · rw [updI, if_neg (by omega)]; exact h3
  · rw [updI, if_neg (by omega)]; exact h4
  · rw [updI, if_neg (by omega)]; exact h6 j a c
  · have e0 : updI P k v 0 = P 0 := by rw [updI, if_neg (by omega)]
    have e1 : updI P k v 2 = P 2 := by rw [updI, if_neg (by omega)]
    rw [e0] at c
    have := h7 i a c
    rw [e1]
    simp only [updI]
    refine ⟨⟨?_, ?_⟩, ⟨?_, ?_⟩, ⟨?_, ?_⟩, ⟨?_, ?_⟩, ⟨?_, ?_⟩, ?_, ?_⟩ <;> split <;> omega
  · have e0 : updI P k v 1 = P 1 := by rw [updI, if_neg (by omega)]
    rw [e0] at c
    have := h8 i a c
    simp only [updI]
    rw [if_neg (by omega), if_neg (by omega), if_neg (by omega), if_neg (by omega)]
    exact this
  · have e0 : updI P k v 2 = P 2 := by rw [updI, if_neg (by omega)]
    rw [e0] at c
    have := h9 i a c
    have e1 : updI P k v 0 = P 0 := by rw [updI, if_neg (by omega)]
    rw [e1]
    simp only [updI]
    rw [if_neg (by omega), if_neg (by omega), if_neg (by omega)]
    exact this
theorem updI_ne {P : Int → Int} {k v j : Int} (h : j ≠ k) : updI P k v j = P j := if_neg h
theorem updI_eq {P : Int → Int} {k v : Int} : updI P k v k = v := if_pos rfl
theorem PB_end {P : Int → Int} {N b : Int} (h : PB P N) (hb : 0 ≤ b ∧ b < P 0) (hl : P (13 + 6 * b) ≠ 0) : PB (oEnd P b) N ∧ (oEnd P b) 0 = P 0 ∧ (oEnd P b) 2 = P 2 := by
  have hg := h.g
  have hbb := h.b hb
  have e : ∀ j : Int, (j = 0 ∨ j = 2) → (oEnd P b) j = P j := fun j hj => by
    unfold oEnd
    rw [updI_ne (by omega), updI_ne (by omega), updI_ne (by omega), updI_ne (by omega)]
  refine ⟨?_, e 0 (Or.inl rfl), e 2 (Or.inr rfl)⟩
  unfold oEnd
  have h1 := h.updT (t := P (13 + 6 * b) - 1) (k := 102 + (P (13 + 6 * b) - 1)) (v := 0) (by omega) (Or.inr ⟨rfl, by omega, by omega⟩)
  have h2 := h1.updB (b := b) (k := 13 + 6 * b) (v := 0) (by rw [updI_ne (by omega)]; exact hb) (Or.inr (Or.inr (Or.inr (Or.inl ⟨rfl, by omega, by rw [updI_ne (by omega)]; omega⟩))))
  have h3 := h2.updB (b := b) (k := 14 + 6 * b) (v := 0) (by rw [updI_ne (by omega), updI_ne (by omega)]; exact hb) (Or.inr (Or.inr (Or.inr (Or.inr (Or.inl ⟨rfl, by omega, by omega⟩)))))
  exact h3.updB (b := b) (k := 15 + 6 * b) (v := 0) (by rw [updI_ne (by omega), updI_ne (by omega), updI_ne (by omega)]; exact hb) (Or.inr (Or.inr (Or.inr (Or.inr (Or.inr ⟨rfl, by omega, by omega⟩)))))
theorem oEnd_left {Q : Int → Int} {b v : Int} : oEnd (updI Q (15 + 6 * b) v) b = oEnd Q b := by
  rw [oEnd_eq (Q := updI Q (15 + 6 * b) v) (updI_ne (by omega))]
  funext k
  unfold oEnd
  simp only [updI]
  split
  · rfl
  · split
    · rfl
    · split
      · rfl
      · rename_i h1 h2 h3
        by_cases h4 : k = 102 + (Q (13 + 6 * b) - 1)
        · rw [if_pos h4]
        · rw [if_neg h4]
theorem oBill_01 {P : Int → Int} {b : Int} : (oBill P b).2 = 0 ∨ (oBill P b).2 = 1 := by
  unfold oBill
  split
  · exact Or.inr rfl
  · split
    · exact Or.inr rfl
    · split
      · exact Or.inl rfl
      · exact Or.inr rfl
theorem PB_bill {P : Int → Int} {N b : Int} (h : PB P N) (hN : N + 100 ≤ 10000000) (hb : 0 ≤ b ∧ b < P 0) (hl : P (13 + 6 * b) ≠ 0) : PB (oBill P b).1 (N + 100) ∧ (oBill P b).1 0 = P 0 := by
  have hg := h.g
  have hbb := h.b hb
  have htt := h.t (t := P (13 + 6 * b) - 1) (by omega)
  have hrr := rent_bd h hb.1 hb.2
  have h' := h.mono (M := N + 100) (by omega)
  have k5 := h.k (k := 5) (by omega) (by omega)
  have k7 := h.k (k := 7) (by omega) (by omega)
  have k8 := h.k (k := 8) (by omega) (by omega)
  have k9 := h.k (k := 9) (by omega) (by omega)
  have ht : 0 ≤ P (13 + 6 * b) - 1 ∧ P (13 + 6 * b) - 1 < P 2 := by omega
  unfold oBill
  split
  · obtain ⟨e1, e2, e3⟩ := PB_end h' hb hl
    refine ⟨?_, ?_⟩
    · unfold oLoudEnd
      exact (e1.updT (by rw [e3]; exact ht) (Or.inl ⟨Or.inl rfl, by omega, by omega⟩)).updK (by omega) (by omega)
    · unfold oLoudEnd
      dsimp only
      rw [updI_ne (by omega), updI_ne (by omega), e2]
  · split
    · have h1 := h'.updT (t := P (13 + 6 * b) - 1) (k := 87 + 2 * (P (13 + 6 * b) - 1)) (v := P (87 + 2 * (P (13 + 6 * b) - 1)) + 1) ht (Or.inl ⟨Or.inr rfl, by omega, by omega⟩)
      obtain ⟨e1, e2, e3⟩ := PB_end h1 (b := b) (by rw [updI_ne (by omega)]; exact hb) (by rw [updI_ne (by omega)]; exact hl)
      refine ⟨?_, ?_⟩
      · unfold oDefault
        exact (e1.updK (by omega) (by omega)).updK (by omega) (by omega)
      · unfold oDefault
        dsimp only
        rw [updI_ne (by omega), updI_ne (by omega), e2, updI_ne (by omega)]
    · have h1 := h'.updT (t := P (13 + 6 * b) - 1) (k := 86 + 2 * (P (13 + 6 * b) - 1)) (v := P (86 + 2 * (P (13 + 6 * b) - 1)) - rent P b) ht (Or.inl ⟨Or.inl rfl, by omega, by omega⟩)
      have h2 := h1.updK (k := 5) (v := P 5 + rent P b) (by omega) (by omega)
      split
      · refine ⟨?_, ?_⟩
        · unfold oPaid
          exact h2.updB (b := b) (by rw [updI_ne (by omega), updI_ne (by omega)]; exact hb) (Or.inr (Or.inr (Or.inr (Or.inr (Or.inr ⟨rfl, by omega, by omega⟩)))))
        · unfold oPaid
          dsimp only
          rw [updI_ne (by omega), updI_ne (by omega), updI_ne (by omega)]
      · obtain ⟨e1, e2, e3⟩ := PB_end h2 (b := b) (by rw [updI_ne (by omega), updI_ne (by omega)]; exact hb) (by rw [updI_ne (by omega), updI_ne (by omega)]; exact hl)
        refine ⟨?_, ?_⟩
        · unfold oDone oPaid
          rw [oEnd_left]
          exact (e1.updT (by rw [e3, updI_ne (by omega), updI_ne (by omega)]; exact ht) (Or.inl ⟨Or.inl rfl, by omega, by omega⟩)).updK (by omega) (by omega)
        · unfold oDone oPaid
          dsimp only
          rw [oEnd_left, updI_ne (by omega), updI_ne (by omega), e2, updI_ne (by omega), updI_ne (by omega)]
theorem PB_one {P : Int → Int} {N b : Int} (h : PB P N) (hN : N + 100 ≤ 10000000) (hb : 0 ≤ b ∧ b < P 0) : PB (oOne P b).1 (N + 100) ∧ (oOne P b).1 0 = P 0 := by
  unfold oOne
  split
  · exact ⟨h.mono (by omega), rfl⟩
  · exact PB_bill h hN hb (by assumption)
theorem oOne_01 {P : Int → Int} {b : Int} : (oOne P b).2 = 0 ∨ (oOne P b).2 = 1 := by
  unfold oOne
  split
  · exact Or.inl rfl
  · exact oBill_01
theorem PB_row : ∀ (m : Nat) (k : Int) (P : Int → Int) (N : Int), PB P N → N + 100 * m ≤ 10000000 → 0 ≤ k → k + m ≤ P 0 → PB (oRow m k P).1 (N + 100 * m) ∧ (oRow m k P).1 0 = P 0 ∧ 0 ≤ (oRow m k P).2 ∧ (oRow m k P).2 ≤ m
  | 0, k, P, N, h, hN, h0, h1 => ⟨h.mono (by omega), rfl, Int.le_refl _, Int.le_refl _⟩
  | m + 1, k, P, N, h, hN, h0, h1 => by
    obtain ⟨e1, e2⟩ := PB_one (b := k) h (by omega) ⟨h0, by omega⟩
    obtain ⟨f1, f2, f3, f4⟩ := PB_row m (k + 1) (oOne P k).1 (N + 100) e1 (by omega) (by omega) (by omega)
    have h01 := oOne_01 (P := P) (b := k)
    refine ⟨f1.mono (by omega), f2.trans e2, ?_, ?_⟩
    · show 0 ≤ (oOne P k).2 + (oRow m (k + 1) (oOne P k).1).2
      omega
    · show (oOne P k).2 + (oRow m (k + 1) (oOne P k).1).2 ≤ ((m + 1 : Nat) : Int)
      omega
theorem PB_month {P : Int → Int} {N : Int} (h : PB P N) (hN : N + 1001 ≤ 10000000) : PB (oRow (P 0).toNat 0 (updI P 4 (P 4 + 1))).1 (N + 1001) ∧ (oRow (P 0).toNat 0 (updI P 4 (P 4 + 1))).1 0 = P 0 ∧ 0 ≤ (oRow (P 0).toNat 0 (updI P 4 (P 4 + 1))).2 ∧ (oRow (P 0).toNat 0 (updI P 4 (P 4 + 1))).2 ≤ 10 := by
  have hg := h.g
  have k4 := h.k (k := 4) (by omega) (by omega)
  have h1 := (h.mono (M := N + 1) (by omega)).updK (k := 4) (v := P 4 + 1) (by omega) (by omega)
  have e0 : updI P 4 (P 4 + 1) 0 = P 0 := updI_ne (by omega)
  obtain ⟨f1, f2, f3, f4⟩ := PB_row (P 0).toNat 0 (updI P 4 (P 4 + 1)) (N + 1) h1 (by omega) (by omega) (by omega)
  exact ⟨f1.mono (by omega), f2.trans e0, f3, by omega⟩
theorem PB_months : ∀ (m : Nat) (P : Int → Int) (N : Int), PB P N → N + 1001 * m ≤ 10000000 → PB (oMonths m P).1 (N + 1001 * m) ∧ (oMonths m P).1 0 = P 0 ∧ 0 ≤ (oMonths m P).2 ∧ (oMonths m P).2 ≤ 10 * m
  | 0, P, N, h, hN => ⟨h.mono (by omega), rfl, Int.le_refl _, Int.le_refl _⟩
  | m + 1, P, N, h, hN => by
    obtain ⟨e1, e2, e3, e4⟩ := PB_month h (by omega)
    obtain ⟨f1, f2, f3, f4⟩ := PB_months m (oRow (P 0).toNat 0 (updI P 4 (P 4 + 1))).1 (N + 1001) e1 (by omega)
    refine ⟨f1.mono (by omega), f2.trans e2, ?_, ?_⟩
    · show 0 ≤ (oRow (P 0).toNat 0 (updI P 4 (P 4 + 1))).2 + (oMonths m (oRow (P 0).toNat 0 (updI P 4 (P 4 + 1))).1).2
      omega
    · show (oRow (P 0).toNat 0 (updI P 4 (P 4 + 1))).2 + (oMonths m (oRow (P 0).toNat 0 (updI P 4 (P 4 + 1))).1).2 ≤ 10 * ((m + 1 : Nat) : Int)
      omega
