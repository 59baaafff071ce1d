/-! CONGR: a park's picture depends on the live places of its numbers alone -/
set_option maxRecDepth 100000
/-- P' and P agree on the live places -/
def PEq (P P' : Int → Int) : Prop := (∀ k : Int, 0 ≤ k → k ≤ 9 → P' k = P k) ∧ (∀ i k : Int, 0 ≤ i → i < P 0 → 10 + 6 * i ≤ k → k ≤ 15 + 6 * i → P' k = P k) ∧ (∀ i k : Int, 0 ≤ i → i < P 1 → 70 + 4 * i ≤ k → k ≤ 73 + 4 * i → P' k = P k) ∧
  ∀ i : Int, 0 ≤ i → i < P 2 → P' (86 + 2 * i) = P (86 + 2 * i) ∧ P' (87 + 2 * i) = P (87 + 2 * i) ∧ P' (102 + i) = P (102 + i)
theorem PEq.symm {P P' : Int → Int} (h : PEq P P') : PEq P' P := by
  obtain ⟨h1, h2, h3, h4⟩ := h
  have e0 := h1 0 (by omega) (by omega)
  have e1 := h1 1 (by omega) (by omega)
  have e2 := h1 2 (by omega) (by omega)
  refine ⟨fun k a b => (h1 k a b).symm, fun i k a b c d => (h2 i k a (by omega) c d).symm, fun i k a b c d => (h3 i k a (by omega) c d).symm, fun i a b => ?_⟩
  obtain ⟨q1, q2, q3⟩ := h4 i a (by omega)
  exact ⟨q1.symm, q2.symm, q3.symm⟩
theorem PK.congr {g : GG} {w : WW} {n0 : Nat → Prop} {q : Nat} {L : Int → Nat} {P P' : Int → Int} (h : PK g w n0 q L P) (he : PEq P P') : PK g w n0 q L P' := by
  obtain ⟨h1, h2, h3, h4⟩ := he
  have e0 := h1 0 (by omega) (by omega)
  have e1 := h1 1 (by omega) (by omega)
  have e2 := h1 2 (by omega) (by omega)
  have hq : qF L P' = qF L P := by
    simp only [qF, h1 3 (by omega) (by omega), h1 4 (by omega) (by omega), h1 5 (by omega) (by omega), h1 6 (by omega) (by omega), h1 7 (by omega) (by omega), h1 8 (by omega) (by omega), h1 9 (by omega) (by omega)]
  refine ⟨by rw [hq]; exact h.hq, h.r0, h.r1, h.r2, by rw [e0]; exact h.l0, by rw [e1]; exact h.l1, by rw [e2]; exact h.l2, by rw [e0, e1, e2]; exact h.cn, fun i a b => ?_, fun i a b => ?_, fun i a b => ?_, fun i a b => ?_, fun i a b => ?_, fun b hb => h.lo b (hb.cnt ⟨e0, e1, e2⟩), ⟨h.gn, h.up⟩, h.dl, h.da⟩
  · rw [e0] at b
    rw [bF_eq (i := i) (L := L) (P := P) (fun k c d => h2 i k a b c d) (Or.inr rfl)]
    exact h.be i a b
  · rw [e1] at b
    rw [fF_eq (i := i) (P := P) (fun k c d => h3 i k a b c d)]
    exact h.fo i a b
  · rw [e2] at b
    rw [tF_eq (i := i) (L := L) (P := P) (h4 i a b) (Or.inr rfl)]
    exact h.te i a b
  · rw [e0] at b
    rw [e2, h2 i _ a b (by omega) (by omega)]
    exact h.bt i a b
  · rw [e2] at b
    rw [e0, (h4 i a b).2.2]
    exact h.tb i a b
/-- a bench copied behind the others, its tenant left out -/
def cBench (P : Int → Int) (r c v d m : Int) : Int → Int := updI (updI (updI (updI (updI (updI (updI P (10 + 6 * P 0) r) (11 + 6 * P 0) c) (12 + 6 * P 0) v) (13 + 6 * P 0) 0) (14 + 6 * P 0) d) (15 + 6 * P 0) m) 0 (P 0 + 1)
