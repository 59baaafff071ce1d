/-! PARK: the picture of a park: P its numbers, L where its things lie (written by specs/s31.py) -/
set_option maxRecDepth 100000
abbrev qF (L : Int → Nat) (P : Int → Int) : List Value := [.ref (L 0), .ref (L 1), .ref (L 2), .int (iI (P 3)), .int (iI (P 4)), .int (iI (P 5)), .int (iI (P 6)), .int (iI (P 7)), .int (iI (P 8)), .int (iI (P 9))]
/-- the thing that a number names: 0 none, x the (x-1)-th from L b -/
abbrev opt (L : Int → Nat) (b x : Int) : Option Nat := if x = 0 then none else some (L (b + (x - 1)))
abbrev bF (L : Int → Nat) (P : Int → Int) (i : Int) : List Value := [.int (iI (P (10 + 6 * i))), .int (iI (P (11 + 6 * i))), .int (iI i), .int (iI (P (12 + 6 * i))), va_rf (opt L 50 (P (13 + 6 * i))), .int (iI (P (14 + 6 * i))), .int (iI (P (15 + 6 * i)))]
abbrev fF (P : Int → Int) (i : Int) : List Value := [.int (iI (P (70 + 4 * i))), .int (iI (P (71 + 4 * i))), .int (iI i), .int (iI (P (72 + 4 * i))), .int (bI (decide (P (73 + 4 * i) = 1)))]
abbrev tF (L : Int → Nat) (P : Int → Int) (i : Int) : List Value := [.int (iI i), .int (iI (P (86 + 2 * i))), .int (iI (P (87 + 2 * i))), va_rf (opt L 10 (P (102 + i)))]
/-- the addresses of a park's own things -/
def PA (g : GG) (q : Nat) (L : Int → Nat) (P : Int → Int) (b : Nat) : Prop := b = q ∨ (∃ k : Int, 0 ≤ k ∧ k < 6 ∧ b = L k) ∨ (∃ k : Int, 6 ≤ k ∧ k < 9 ∧ b = L k ∧ gb g ≤ b) ∨ (∃ i : Int, 0 ≤ i ∧ i < P 0 ∧ b = L (10 + i)) ∨ (∃ i : Int, 0 ≤ i ∧ i < P 1 ∧ b = L (30 + i)) ∨ (∃ i : Int, 0 ≤ i ∧ i < P 2 ∧ b = L (50 + i))
def PK (g : GG) (w : WW) (n0 : Nat → Prop) (q : Nat) (L : Int → Nat) (P : Int → Int) : Prop := (Ob w q 0 (qF L P)) ∧ (Ob w (L 0) 1 [.ref (L 3)]) ∧ (Ob w (L 1) 1 [.ref (L 4)]) ∧ (Ob w (L 2) 1 [.ref (L 5)]) ∧ (AL g w (L 3) (L 6) (P 0) (fun i => some (L (10 + i)))) ∧ (AL g w (L 4) (L 7) (P 1) (fun i => some (L (30 + i)))) ∧ (AL g w (L 5) (L 8) (P 2) (fun i => some (L (50 + i)))) ∧ (P 0 ≤ 10 ∧ P 1 ≤ 4 ∧ P 2 ≤ 8) ∧ (∀ i : Int, 0 ≤ i → i < P 0 → Ob w (L (10 + i)) 3 (bF L P i)) ∧ (∀ i : Int, 0 ≤ i → i < P 1 → Ob w (L (30 + i)) 4 (fF P i)) ∧ (∀ i : Int, 0 ≤ i → i < P 2 → Ob w (L (50 + i)) 5 (tF L P i)) ∧ (∀ i : Int, 0 ≤ i → i < P 0 → 0 ≤ P (13 + 6 * i) ∧ P (13 + 6 * i) ≤ P 2) ∧ (∀ i : Int, 0 ≤ i → i < P 2 → 0 ≤ P (102 + i) ∧ P (102 + i) ≤ P 0) ∧ (∀ b : Nat, PA g q L P b → n0 b) ∧ ((∀ b : Nat, n0 b → gb g ≤ b) ∧ ∀ b : Nat, w.2 ≤ b → n0 b) ∧ (L 3 ≠ L 4 ∧ L 3 ≠ L 5 ∧ L 4 ≠ L 5) ∧ ((gb g ≤ L 6 → L 6 ≠ L 7 ∧ L 6 ≠ L 8) ∧ (gb g ≤ L 7 → L 7 ≠ L 8))
section
variable {g : GG} {w w' : WW} {n0 : Nat → Prop} {q : Nat} {L L' : Int → Nat} {P P' : Int → Int}
theorem PK.hq (h : PK g w n0 q L P) : Ob w q 0 (qF L P) := h.1
theorem PK.r0 (h : PK g w n0 q L P) : Ob w (L 0) 1 [.ref (L 3)] := h.2.1
theorem PK.r1 (h : PK g w n0 q L P) : Ob w (L 1) 1 [.ref (L 4)] := h.2.2.1
theorem PK.r2 (h : PK g w n0 q L P) : Ob w (L 2) 1 [.ref (L 5)] := h.2.2.2.1
theorem PK.l0 (h : PK g w n0 q L P) : AL g w (L 3) (L 6) (P 0) (fun i => some (L (10 + i))) := h.2.2.2.2.1
theorem PK.l1 (h : PK g w n0 q L P) : AL g w (L 4) (L 7) (P 1) (fun i => some (L (30 + i))) := h.2.2.2.2.2.1
theorem PK.l2 (h : PK g w n0 q L P) : AL g w (L 5) (L 8) (P 2) (fun i => some (L (50 + i))) := h.2.2.2.2.2.2.1
theorem PK.cn (h : PK g w n0 q L P) : P 0 ≤ 10 ∧ P 1 ≤ 4 ∧ P 2 ≤ 8 := h.2.2.2.2.2.2.2.1
theorem PK.be (h : PK g w n0 q L P) : ∀ i : Int, 0 ≤ i → i < P 0 → Ob w (L (10 + i)) 3 (bF L P i) := h.2.2.2.2.2.2.2.2.1
theorem PK.fo (h : PK g w n0 q L P) : ∀ i : Int, 0 ≤ i → i < P 1 → Ob w (L (30 + i)) 4 (fF P i) := h.2.2.2.2.2.2.2.2.2.1
theorem PK.te (h : PK g w n0 q L P) : ∀ i : Int, 0 ≤ i → i < P 2 → Ob w (L (50 + i)) 5 (tF L P i) := h.2.2.2.2.2.2.2.2.2.2.1
theorem PK.bt (h : PK g w n0 q L P) : ∀ i : Int, 0 ≤ i → i < P 0 → 0 ≤ P (13 + 6 * i) ∧ P (13 + 6 * i) ≤ P 2 := h.2.2.2.2.2.2.2.2.2.2.2.1
theorem PK.tb (h : PK g w n0 q L P) : ∀ i : Int, 0 ≤ i → i < P 2 → 0 ≤ P (102 + i) ∧ P (102 + i) ≤ P 0 := h.2.2.2.2.2.2.2.2.2.2.2.2.1
theorem PK.lo (h : PK g w n0 q L P) : ∀ b : Nat, PA g q L P b → n0 b := h.2.2.2.2.2.2.2.2.2.2.2.2.2.1
theorem PK.gn (h : PK g w n0 q L P) : ∀ b : Nat, n0 b → gb g ≤ b := h.2.2.2.2.2.2.2.2.2.2.2.2.2.2.1.1
theorem PK.up (h : PK g w n0 q L P) : ∀ b : Nat, w.2 ≤ b → n0 b := h.2.2.2.2.2.2.2.2.2.2.2.2.2.2.1.2
theorem PK.dl (h : PK g w n0 q L P) : L 3 ≠ L 4 ∧ L 3 ≠ L 5 ∧ L 4 ≠ L 5 := h.2.2.2.2.2.2.2.2.2.2.2.2.2.2.2.1
theorem PK.da (h : PK g w n0 q L P) : (gb g ≤ L 6 → L 6 ≠ L 7 ∧ L 6 ≠ L 8) ∧ (gb g ≤ L 7 → L 7 ≠ L 8) := h.2.2.2.2.2.2.2.2.2.2.2.2.2.2.2.2
theorem PK.c0 (h : PK g w n0 q L P) : (0 ≤ P 0 ∧ P 0 ≤ 10) ∧ (0 ≤ P 1 ∧ P 1 ≤ 4) ∧ (0 ≤ P 2 ∧ P 2 ≤ 8) := by
  have h0 := h.l0.lt; have h1 := h.l1.lt; have h2 := h.l2.lt; have h3 := h.cn
  omega
theorem PK.hi (h : PK g w n0 q L P) {b : Nat} (hb : PA g q L P b) : b < w.2 := by
  rcases hb with rfl | ⟨k, h0, h1, rfl⟩ | ⟨k, h0, h1, rfl, -⟩ | ⟨k, h0, h1, rfl⟩ | ⟨k, h0, h1, rfl⟩ | ⟨k, h0, h1, rfl⟩
  · exact h.hq.2
  · rcases (show k = 0 ∨ k = 1 ∨ k = 2 ∨ k = 3 ∨ k = 4 ∨ k = 5 by omega) with rfl | rfl | rfl | rfl | rfl | rfl
    · exact h.r0.2
    · exact h.r1.2
    · exact h.r2.2
    · exact h.l0.lt.1
    · exact h.l1.lt.1
    · exact h.l2.lt.1
  · rcases (show k = 6 ∨ k = 7 ∨ k = 8 by omega) with rfl | rfl | rfl
    · exact h.l0.lt.2.1
    · exact h.l1.lt.2.1
    · exact h.l2.lt.2.1
  · exact (h.be k h0 h1).2
  · exact (h.fo k h0 h1).2
  · exact (h.te k h0 h1).2
theorem PK.fr (h : PK g w n0 q L P) {S : Nat → Prop} (hf : Fr S w w') (hS : ∀ b, PA g q L P b → ¬ S b) (hg : ∀ b, S b → gb g ≤ b) : PK g w' n0 q L P := by
  have ha : ∀ k : Int, 6 ≤ k → k < 9 → ¬ S (L k) := fun k h0 h1 hs => hS _ (Or.inr (Or.inr (Or.inl ⟨k, h0, h1, rfl, hg _ hs⟩))) hs
  have hb : ∀ k : Int, 0 ≤ k → k < 6 → ¬ S (L k) := fun k h0 h1 => hS _ (Or.inr (Or.inl ⟨k, h0, h1, rfl⟩))
  exact ⟨h.hq.fr hf (hS _ (Or.inl rfl)), h.r0.fr hf (hb 0 (by decide) (by decide)), h.r1.fr hf (hb 1 (by decide) (by decide)), h.r2.fr hf (hb 2 (by decide) (by decide)),
    h.l0.fr hf (hb 3 (by decide) (by decide)) (ha 6 (by decide) (by decide)), h.l1.fr hf (hb 4 (by decide) (by decide)) (ha 7 (by decide) (by decide)), h.l2.fr hf (hb 5 (by decide) (by decide)) (ha 8 (by decide) (by decide)), h.cn,
    fun i h0 h1 => (h.be i h0 h1).fr hf (hS _ (Or.inr (Or.inr (Or.inr (Or.inl ⟨i, h0, h1, rfl⟩))))), fun i h0 h1 => (h.fo i h0 h1).fr hf (hS _ (Or.inr (Or.inr (Or.inr (Or.inr (Or.inl ⟨i, h0, h1, rfl⟩)))))),
    fun i h0 h1 => (h.te i h0 h1).fr hf (hS _ (Or.inr (Or.inr (Or.inr (Or.inr (Or.inr ⟨i, h0, h1, rfl⟩)))))), h.bt, h.tb, h.lo, ⟨h.gn, fun b hb => h.up b (Nat.le_trans hf.1 hb)⟩, h.dl, h.da⟩
theorem PK.n0lt (h : PK g w n0 q L P) : n0 q ∧ q < w.2 ∧ gb g ≤ w.2 := ⟨h.lo _ (Or.inl rfl), h.hq.2, Nat.le_trans (h.gn _ (h.lo _ (Or.inl rfl))) (Nat.le_of_lt h.hq.2)⟩
theorem PK.ext (h : PK g w n0 q L P) (hm : Mo w.2 w w') : PK g w' n0 q L P := h.fr hm.fr (fun b hb hs => absurd (h.hi hb) (Nat.not_lt.mpr hs)) (fun b hs => Nat.le_trans h.n0lt.2.2 hs)
/-- frames of one set, one behind the other -/
theorem Fr.tq {S : Nat → Prop} {w w' w'' : WW} (h : Fr S w w') (h' : Fr S w' w'') : Fr S w w'' := h.tr h' (fun _ _ q => q)
theorem Fr.trm {S : Nat → Prop} {w w' w'' : WW} (h : Fr S w w') (h' : Mo w'.2 w' w'') : Fr S w w'' := h.tr h'.fr (fun b hb (q : w'.2 ≤ b) => absurd (Nat.lt_of_lt_of_le hb h.1) (Nat.not_lt.mpr q))
theorem Mo.trq {S : Nat → Prop} {w w' w'' : WW} (h : Mo w.2 w w') (h' : Fr S w' w'') : Fr S w w'' := (h.fr.to (S' := S) (fun b hb (q : w.2 ≤ b) => absurd hb (Nat.not_lt.mpr q))).tq h'
/-- the park's own things and what is new -/
def PN (g : GG) (w : WW) (q : Nat) (L : Int → Nat) (P : Int → Int) : Nat → Prop := fun b => PA g q L P b ∨ w.2 ≤ b
theorem PK.sub (h : PK g w n0 q L P) {m0 : Nat → Prop} (h1 : ∀ b, PA g q L P b → m0 b) (h2 : ∀ b, m0 b → gb g ≤ b) (h3 : ∀ b, w.2 ≤ b → m0 b) : PK g w m0 q L P := by
  obtain ⟨a1, a2, a3, a4, a5, a6, a7, a8, a9, b1, b2, b3, b4, b5, b6, b7⟩ := h
  exact ⟨a1, a2, a3, a4, a5, a6, a7, a8, a9, b1, b2, b3, b4, h1, ⟨h2, h3⟩, b7⟩
theorem PK.pn (h : PK g w n0 q L P) : PK g w (PN g w q L P) q L P := h.sub (fun _ hb => Or.inl hb) (fun b hb => hb.elim (fun q9 => h.gn _ (h.lo _ q9)) (fun q9 => Nat.le_trans h.n0lt.2.2 q9)) (fun _ hb => Or.inr hb)
/-- a park that lies from n0 on and below n1 -/
def PZ (g : GG) (w : WW) (n0 n1 : Nat) (q : Nat) (L : Int → Nat) (P : Int → Int) : Prop := (PK g w (fun b => n0 ≤ b) q L P ∧ gb g ≤ n0) ∧ ∀ b, PA g q L P b → b < n1
theorem PZ.fr {k0 n1 : Nat} (h : PZ g w k0 n1 q L P) {S : Nat → Prop} (hf : Fr S w w') (hS : ∀ b, S b → gb g ≤ b ∧ (b < k0 ∨ n1 ≤ b)) : PZ g w' k0 n1 q L P :=
  ⟨⟨h.1.1.fr hf (fun b hb hs => by have h1 : k0 ≤ b := h.1.1.lo b hb; have h2 := h.2 b hb; have h3 := hS b hs; omega) (fun b hs => (hS b hs).1), h.1.2⟩, h.2⟩
theorem PZ.mo {k0 n1 n : Nat} (h : PZ g w k0 n1 q L P) (hm : Mo n w w') (hn : n1 ≤ n) : PZ g w' k0 n1 q L P :=
  h.fr hm.fr (fun b hb => by
    have h1 := h.1.2; have h2 : k0 ≤ q := h.1.1.lo q (Or.inl rfl); have h3 := h.2 q (Or.inl rfl)
    have hb : n ≤ b := hb
    exact ⟨by omega, Or.inr (by omega)⟩)
theorem iI_inj {i j : Int} (hi : 0 ≤ i ∧ i < 100) (hj : 0 ≤ j ∧ j < 100) (h : Value.int (iI i) = Value.int (iI j)) : i = j := by
  injection h with h
  exact (iI_eq (by omega)).mp h
theorem bF_eq {i : Int} (h : ∀ k : Int, 10 + 6 * i ≤ k → k ≤ 15 + 6 * i → P' k = P k) (hL : P (13 + 6 * i) = 0 ∨ L' (50 + (P (13 + 6 * i) - 1)) = L (50 + (P (13 + 6 * i) - 1))) : bF L' P' i = bF L P i := by
  have h3 : opt L' 50 (P (13 + 6 * i)) = opt L 50 (P (13 + 6 * i)) := by
    simp only [opt]
    split
    · rfl
    · rename_i hn
      rw [hL.resolve_left hn]
  simp only [bF, h (10 + 6 * i) (by omega) (by omega), h (11 + 6 * i) (by omega) (by omega), h (12 + 6 * i) (by omega) (by omega), h (13 + 6 * i) (by omega) (by omega), h (14 + 6 * i) (by omega) (by omega), h (15 + 6 * i) (by omega) (by omega), h3]
theorem fF_eq {i : Int} (h : ∀ k : Int, 70 + 4 * i ≤ k → k ≤ 73 + 4 * i → P' k = P k) : fF P' i = fF P i := by
  simp only [fF, h (70 + 4 * i) (by omega) (by omega), h (71 + 4 * i) (by omega) (by omega), h (72 + 4 * i) (by omega) (by omega), h (73 + 4 * i) (by omega) (by omega)]
theorem tF_eq {i : Int} (h : P' (86 + 2 * i) = P (86 + 2 * i) ∧ P' (87 + 2 * i) = P (87 + 2 * i) ∧ P' (102 + i) = P (102 + i)) (hL : P (102 + i) = 0 ∨ L' (10 + (P (102 + i) - 1)) = L (10 + (P (102 + i) - 1))) : tF L' P' i = tF L P i := by
  have h3 : opt L' 10 (P (102 + i)) = opt L 10 (P (102 + i)) := by
    simp only [opt]
    split
    · rfl
    · rename_i hn
      rw [hL.resolve_left hn]
  simp only [tF, h.1, h.2.1, h.2.2, h3]
theorem PA.cnt {b : Nat} (h : PA g q L P' b) (h0 : P' 0 = P 0 ∧ P' 1 = P 1 ∧ P' 2 = P 2) : PA g q L P b := by
  unfold PA at h ⊢
  rw [h0.1, h0.2.1, h0.2.2] at h
  exact h
theorem PK.ne_b (h : PK g w n0 q L P) {i j : Int} (hi : 0 ≤ i ∧ i < P 0) (hj : 0 ≤ j ∧ j < P 0) (hn : j ≠ i) : L (10 + j) ≠ L (10 + i) := fun e => hn (by
  have h1 := h.be i hi.1 hi.2; have h2 := h.be j hj.1 hj.2; have hc := h.c0
  rw [e] at h2
  have h3 := h1.uniq h2
  injection h3 with h3; injection h3 with h3; injection h3 with _ h3
  injection h3 with _ h3; injection h3 with _ h3; injection h3 with h3 _
  exact (iI_inj (by omega) (by omega) h3).symm)
theorem PK.ne_f (h : PK g w n0 q L P) {i j : Int} (hi : 0 ≤ i ∧ i < P 1) (hj : 0 ≤ j ∧ j < P 1) (hn : j ≠ i) : L (30 + j) ≠ L (30 + i) := fun e => hn (by
  have h1 := h.fo i hi.1 hi.2; have h2 := h.fo j hj.1 hj.2; have hc := h.c0
  rw [e] at h2
  have h3 := h1.uniq h2
  injection h3 with h3; injection h3 with h3; injection h3 with _ h3
  injection h3 with _ h3; injection h3 with _ h3; injection h3 with h3 _
  exact (iI_inj (by omega) (by omega) h3).symm)
theorem PK.ne_t (h : PK g w n0 q L P) {i j : Int} (hi : 0 ≤ i ∧ i < P 2) (hj : 0 ≤ j ∧ j < P 2) (hn : j ≠ i) : L (50 + j) ≠ L (50 + i) := fun e => hn (by
  have h1 := h.te i hi.1 hi.2; have h2 := h.te j hj.1 hj.2; have hc := h.c0
  rw [e] at h2
  have h3 := h1.uniq h2
  injection h3 with h3; injection h3 with h3; injection h3 with _ h3
  injection h3 with h3 _
  exact (iI_inj (by omega) (by omega) h3).symm)
theorem AL.put_k {a arr b k : Nat} {n : Int} {f : Int → Option Nat} {fs : List Value} (h : AL g w a arr n f) (h' : Ob w b k fs) (hk : k ≠ 2) (e : WE) : AL g (wput w b e) a arr n f := by
  obtain ⟨mm, cap, x, g1, g2, g3⟩ := h
  exact ⟨mm, cap, x, g1.put_ne (Ob.apart g1 h' (Ne.symm hk)) e, g2.put_k h' e, g3⟩
theorem PK.setQ (h : PK g w n0 q L P) (hP : ∀ k : Int, (k < 3 ∨ 9 < k) → P' k = P k) : PK g (wput w q (.inl (.inr (0, qF L P')))) n0 q L P' := by
  have hc := h.c0
  have e0 := hP 0 (by omega); have e1 := hP 1 (by omega); have e2 := hP 2 (by omega)
  refine ⟨?_, (h.r0).put_k h.hq (by decide), (h.r1).put_k h.hq (by decide), (h.r2).put_k h.hq (by decide), ?_, ?_, ?_, by omega, fun j h0 h1 => ?_, fun j h0 h1 => ?_, fun j h0 h1 => ?_, fun j h0 h1 => ?_, fun j h0 h1 => ?_, fun b hb => h.lo b (hb.cnt ⟨e0, e1, e2⟩), ⟨h.gn, h.up⟩, h.dl, h.da⟩
  · exact h.hq.put_eq _
  · rw [e0]; exact h.l0.put_k h.hq (by decide) _
  · rw [e1]; exact h.l1.put_k h.hq (by decide) _
  · rw [e2]; exact h.l2.put_k h.hq (by decide) _
  · rw [e0] at h1
    rw [bF_eq (i := j) (L := L) (P := P) (fun k a b => hP k (by omega)) (Or.inr rfl)]
    exact (h.be j h0 h1).put_k h.hq (by decide)
  · rw [e1] at h1
    rw [fF_eq (i := j) (P := P) (fun k a b => hP k (by omega))]
    exact (h.fo j h0 h1).put_k h.hq (by decide)
  · rw [e2] at h1
    rw [tF_eq (i := j) (L := L) (P := P) ⟨hP _ (by omega), hP _ (by omega), hP _ (by omega)⟩ (Or.inr rfl)]
    exact (h.te j h0 h1).put_k h.hq (by decide)
  · rw [e0] at h1; rw [e2, hP _ (by omega)]; exact h.bt j h0 h1
  · rw [e2] at h1; rw [e0, hP _ (by omega)]; exact h.tb j h0 h1
theorem PK.setB (h : PK g w n0 q L P) {i : Int} (hi : 0 ≤ i ∧ i < P 0) (hP : ∀ k : Int, (k < 10 + 6 * i ∨ 15 + 6 * i < k) → P' k = P k) (hn : 0 ≤ P' (13 + 6 * i) ∧ P' (13 + 6 * i) ≤ P 2) : PK g (wput w (L (10 + i)) (.inl (.inr (3, bF L P' i)))) n0 q L P' := by
  have hc := h.c0
  have e0 := hP 0 (by omega); have e1 := hP 1 (by omega); have e2 := hP 2 (by omega)
  refine ⟨?_, (h.r0).put_k (h.be i hi.1 hi.2) (by decide), (h.r1).put_k (h.be i hi.1 hi.2) (by decide), (h.r2).put_k (h.be i hi.1 hi.2) (by decide), ?_, ?_, ?_, by omega, fun j h0 h1 => ?_, fun j h0 h1 => ?_, fun j h0 h1 => ?_, fun j h0 h1 => ?_, fun j h0 h1 => ?_, fun b hb => h.lo b (hb.cnt ⟨e0, e1, e2⟩), ⟨h.gn, h.up⟩, h.dl, h.da⟩
  · have hx : qF L P' = qF L P := by
      simp only [qF, hP 3 (by omega), hP 4 (by omega), hP 5 (by omega), hP 6 (by omega), hP 7 (by omega), hP 8 (by omega), hP 9 (by omega)]
    rw [hx]; exact (h.hq).put_k (h.be i hi.1 hi.2) (by decide)
  · rw [e0]; exact h.l0.put_k (h.be i hi.1 hi.2) (by decide) _
  · rw [e1]; exact h.l1.put_k (h.be i hi.1 hi.2) (by decide) _
  · rw [e2]; exact h.l2.put_k (h.be i hi.1 hi.2) (by decide) _
  · rw [e0] at h1
    by_cases hj : j = i
    · subst hj; exact (h.be j hi.1 hi.2).put_eq _
    · rw [bF_eq (i := j) (L := L) (P := P) (fun k a b => hP k (by omega)) (Or.inr rfl)]
      exact (h.be j h0 h1).put_ne (h.ne_b hi ⟨h0, h1⟩ hj) _
  · rw [e1] at h1
    rw [fF_eq (i := j) (P := P) (fun k a b => hP k (by omega))]
    exact (h.fo j h0 h1).put_k (h.be i hi.1 hi.2) (by decide)
  · rw [e2] at h1
    rw [tF_eq (i := j) (L := L) (P := P) ⟨hP _ (by omega), hP _ (by omega), hP _ (by omega)⟩ (Or.inr rfl)]
    exact (h.te j h0 h1).put_k (h.be i hi.1 hi.2) (by decide)
  · rw [e0] at h1; rw [e2]
    by_cases hj : j = i
    · rw [hj]; exact hn
    · rw [hP _ (by omega)]; exact h.bt j h0 h1
  · rw [e2] at h1; rw [e0, hP _ (by omega)]; exact h.tb j h0 h1
theorem PK.setF (h : PK g w n0 q L P) {i : Int} (hi : 0 ≤ i ∧ i < P 1) (hP : ∀ k : Int, (k < 70 + 4 * i ∨ 73 + 4 * i < k) → P' k = P k) : PK g (wput w (L (30 + i)) (.inl (.inr (4, fF P' i)))) n0 q L P' := by
  have hc := h.c0
  have e0 := hP 0 (by omega); have e1 := hP 1 (by omega); have e2 := hP 2 (by omega)
  refine ⟨?_, (h.r0).put_k (h.fo i hi.1 hi.2) (by decide), (h.r1).put_k (h.fo i hi.1 hi.2) (by decide), (h.r2).put_k (h.fo i hi.1 hi.2) (by decide), ?_, ?_, ?_, by omega, fun j h0 h1 => ?_, fun j h0 h1 => ?_, fun j h0 h1 => ?_, fun j h0 h1 => ?_, fun j h0 h1 => ?_, fun b hb => h.lo b (hb.cnt ⟨e0, e1, e2⟩), ⟨h.gn, h.up⟩, h.dl, h.da⟩
  · have hx : qF L P' = qF L P := by
      simp only [qF, hP 3 (by omega), hP 4 (by omega), hP 5 (by omega), hP 6 (by omega), hP 7 (by omega), hP 8 (by omega), hP 9 (by omega)]
    rw [hx]; exact (h.hq).put_k (h.fo i hi.1 hi.2) (by decide)
  · rw [e0]; exact h.l0.put_k (h.fo i hi.1 hi.2) (by decide) _
  · rw [e1]; exact h.l1.put_k (h.fo i hi.1 hi.2) (by decide) _
  · rw [e2]; exact h.l2.put_k (h.fo i hi.1 hi.2) (by decide) _
  · rw [e0] at h1
    rw [bF_eq (i := j) (L := L) (P := P) (fun k a b => hP k (by omega)) (Or.inr rfl)]
    exact (h.be j h0 h1).put_k (h.fo i hi.1 hi.2) (by decide)
  · rw [e1] at h1
    by_cases hj : j = i
    · subst hj; exact (h.fo j hi.1 hi.2).put_eq _
    · rw [fF_eq (i := j) (P := P) (fun k a b => hP k (by omega))]
      exact (h.fo j h0 h1).put_ne (h.ne_f hi ⟨h0, h1⟩ hj) _
  · rw [e2] at h1
    rw [tF_eq (i := j) (L := L) (P := P) ⟨hP _ (by omega), hP _ (by omega), hP _ (by omega)⟩ (Or.inr rfl)]
    exact (h.te j h0 h1).put_k (h.fo i hi.1 hi.2) (by decide)
  · rw [e0] at h1; rw [e2, hP _ (by omega)]; exact h.bt j h0 h1
  · rw [e2] at h1; rw [e0, hP _ (by omega)]; exact h.tb j h0 h1
theorem PK.setT (h : PK g w n0 q L P) {i : Int} (hi : 0 ≤ i ∧ i < P 2) (hP : ∀ k : Int, (k ≠ 86 + 2 * i ∧ k ≠ 87 + 2 * i ∧ k ≠ 102 + i) → P' k = P k) (hn : 0 ≤ P' (102 + i) ∧ P' (102 + i) ≤ P 0) : PK g (wput w (L (50 + i)) (.inl (.inr (5, tF L P' i)))) n0 q L P' := by
  have hc := h.c0
  have e0 := hP 0 (by omega); have e1 := hP 1 (by omega); have e2 := hP 2 (by omega)
  refine ⟨?_, (h.r0).put_k (h.te i hi.1 hi.2) (by decide), (h.r1).put_k (h.te i hi.1 hi.2) (by decide), (h.r2).put_k (h.te i hi.1 hi.2) (by decide), ?_, ?_, ?_, by omega, fun j h0 h1 => ?_, fun j h0 h1 => ?_, fun j h0 h1 => ?_, fun j h0 h1 => ?_, fun j h0 h1 => ?_, fun b hb => h.lo b (hb.cnt ⟨e0, e1, e2⟩), ⟨h.gn, h.up⟩, h.dl, h.da⟩
  · have hx : qF L P' = qF L P := by
      simp only [qF, hP 3 (by omega), hP 4 (by omega), hP 5 (by omega), hP 6 (by omega), hP 7 (by omega), hP 8 (by omega), hP 9 (by omega)]
    rw [hx]; exact (h.hq).put_k (h.te i hi.1 hi.2) (by decide)
  · rw [e0]; exact h.l0.put_k (h.te i hi.1 hi.2) (by decide) _
  · rw [e1]; exact h.l1.put_k (h.te i hi.1 hi.2) (by decide) _
  · rw [e2]; exact h.l2.put_k (h.te i hi.1 hi.2) (by decide) _
  · rw [e0] at h1
    rw [bF_eq (i := j) (L := L) (P := P) (fun k a b => hP k (by omega)) (Or.inr rfl)]
    exact (h.be j h0 h1).put_k (h.te i hi.1 hi.2) (by decide)
  · rw [e1] at h1
    rw [fF_eq (i := j) (P := P) (fun k a b => hP k (by omega))]
    exact (h.fo j h0 h1).put_k (h.te i hi.1 hi.2) (by decide)
  · rw [e2] at h1
    by_cases hj : j = i
    · subst hj; exact (h.te j hi.1 hi.2).put_eq _
    · rw [tF_eq (i := j) (L := L) (P := P) ⟨hP _ (by omega), hP _ (by omega), hP _ (by omega)⟩ (Or.inr rfl)]
      exact (h.te j h0 h1).put_ne (h.ne_t hi ⟨h0, h1⟩ hj) _
  · rw [e0] at h1; rw [e2, hP _ (by omega)]; exact h.bt j h0 h1
  · rw [e2] at h1; rw [e0]
    by_cases hj : j = i
    · rw [hj]; exact hn
    · rw [hP _ (by omega)]; exact h.tb j h0 h1
theorem PK.addB (h : PK g w n0 q L P) {a arr : Nat} (hf : Fr (fun b => b = L 3 ∨ (b = L 6 ∧ gb g ≤ b)) w w') (hA : AL g w' (L 3) arr (P 0 + 1) (updR (fun i => some (L (10 + i))) (P 0) (some a))) (ha : n0 a) (har : arr = L 6 ∨ w.2 ≤ arr) (hn : P 0 < 10) (ho : Ob w' a 3 (bF L P' (P 0))) (hP : ∀ k : Int, k ≠ 0 → (k < 10 + 6 * P 0 ∨ 15 + 6 * P 0 < k) → P' k = P k) (h1 : P' 0 = P 0 + 1) (hz : P' (13 + 6 * P 0) = 0) (eL : ∀ k : Int, k ≠ 10 + P 0 → k ≠ 6 → L' k = L k) (eLn : L' (10 + P 0) = a) (eLa : L' 6 = arr) : PK g w' n0 q L' P' := by
  have hc := h.c0
  have hgw := h.n0lt
  have e0 : P' 0 = P 0 + 1 := h1
  have e1 : P' 1 = P 1 := hP 1 (by decide) (by omega)
  have e2 : P' 2 = P 2 := hP 2 (by decide) (by omega)
  have hS : ∀ b, PA g q L P b → b ≠ L 3 → (b = L 6 → b < gb g) → ¬ (b = L 3 ∨ (b = L 6 ∧ gb g ≤ b)) := fun b _ h2 h3 h4 => by
    rcases h4 with h4 | ⟨h4, h5⟩
    · exact h2 h4
    · have := h3 h4; omega
  have hgarr : gb g ≤ arr := by
    obtain ⟨mm, cap, x, -, -, -, g4, g5⟩ := hA
    omega
  obtain ⟨mml, hol⟩ := h.l0.ob
  have hra : ∀ {b k : Nat} {fs : List Value}, Ob w b k fs → b ≠ L 6 := fun hb => by
    obtain ⟨mm, cap, x, -, g2, -⟩ := h.l0
    exact Ne.symm (g2.ob_ne hb)
  have hob : ∀ {b k : Nat} {fs : List Value}, Ob w b k fs → k ≠ 2 → Ob w' b k fs := fun hb hk => hb.fr hf (fun hs => by
    rcases hs with hs | ⟨hs, -⟩
    · exact (Ob.apart hb hol hk) hs
    · exact hra hb hs)
  have eL0 := eL 0 (by omega) (by decide)
  have eL1 := eL 1 (by omega) (by decide)
  have eL2 := eL 2 (by omega) (by decide)
  have eL3 := eL 3 (by omega) (by decide)
  have eL4 := eL 4 (by omega) (by decide)
  have eL5 := eL 5 (by omega) (by decide)
  have eL7 := eL 7 (by omega) (by decide)
  have eL8 := eL 8 (by omega) (by decide)
  have hdl := h.dl
  have hda := h.da
  have hl1 : AL g w' (L 4) (L 7) (P 1) (fun i => some (L (30 + i))) := h.l1.fr hf (fun hs => by
      rcases hs with hs | ⟨hs, -⟩
      · omega
      · obtain ⟨m2, ho2⟩ := h.l1.ob
        exact hra ho2 hs) (fun hs => by
      rcases hs with hs | ⟨hs, hs2⟩
      · obtain ⟨mm, cap, x, -, g2, -⟩ := h.l1
        exact g2.ob_ne hol hs
      · omega)
  have hl2 : AL g w' (L 5) (L 8) (P 2) (fun i => some (L (50 + i))) := h.l2.fr hf (fun hs => by
      rcases hs with hs | ⟨hs, -⟩
      · omega
      · obtain ⟨m2, ho2⟩ := h.l2.ob
        exact hra ho2 hs) (fun hs => by
      rcases hs with hs | ⟨hs, hs2⟩
      · obtain ⟨mm, cap, x, -, g2, -⟩ := h.l2
        exact g2.ob_ne hol hs
      · omega)
  refine ⟨?_, ?_, ?_, ?_, ?_, ?_, ?_, by omega, fun j j0 j1 => ?_, fun j j0 j1 => ?_, fun j j0 j1 => ?_, fun j j0 j1 => ?_, fun j j0 j1 => ?_, fun b hb => ?_, ⟨h.gn, fun b hb => h.up b (Nat.le_trans hf.1 hb)⟩, ?_, ?_⟩
  · have hx : qF L' P' = qF L P := by
      simp only [qF, eL0, eL1, eL2, hP 3 (by decide) (by omega), hP 4 (by decide) (by omega), hP 5 (by decide) (by omega), hP 6 (by decide) (by omega), hP 7 (by decide) (by omega), hP 8 (by decide) (by omega), hP 9 (by decide) (by omega)]
    rw [hx]; exact hob h.hq (by decide)
  · simp only [eL0, eL3]; exact hob h.r0 (by decide)
  · simp only [eL1, eL4]; exact hob h.r1 (by decide)
  · simp only [eL2, eL5]; exact hob h.r2 (by decide)
  · simp only [eL3, eLa]
    rw [e0]
    refine hA.to (fun i i0 i1 => ?_)
    simp only [updR]
    by_cases hi : i = P 0
    · rw [if_pos hi, hi, eLn]
    · rw [if_neg hi, eL _ (by omega) (by omega)]
  · simp only [eL4, eL7]
    rw [e1]
    exact hl1.to (fun i i0 i1 => by rw [eL _ (by omega) (by omega)])
  · simp only [eL5, eL8]
    rw [e2]
    exact hl2.to (fun i i0 i1 => by rw [eL _ (by omega) (by omega)])
  · rw [e0] at j1
    by_cases hj : j = P 0
    · rw [hj, eLn, bF_eq (i := P 0) (L := L) (P := P') (fun _ _ _ => rfl) (Or.inl hz)]; exact ho
    · rw [eL _ (by omega) (by omega), bF_eq (i := j) (L := L) (P := P) (fun k a b => hP k (by omega) (by omega)) (by
        by_cases hz0 : P (13 + 6 * j) = 0
        · exact Or.inl hz0
        · exact Or.inr (eL _ (by have := h.bt j j0 (by omega); omega) (by have := h.bt j j0 (by omega); omega)))]
      exact hob (h.be j j0 (by omega)) (by decide)
  · rw [e1] at j1
    rw [eL _ (by omega) (by omega), fF_eq (i := j) (P := P) (fun k a b => hP k (by omega) (by omega))]
    exact hob (h.fo j j0 j1) (by decide)
  · rw [e2] at j1
    rw [eL _ (by omega) (by omega), tF_eq (i := j) (L := L) (P := P) ⟨hP _ (by omega) (by omega), hP _ (by omega) (by omega), hP _ (by omega) (by omega)⟩ (by
        by_cases hz0 : P (102 + j) = 0
        · exact Or.inl hz0
        · exact Or.inr (eL _ (by have := h.tb j j0 (by omega); omega) (by have := h.tb j j0 (by omega); omega)))]
    exact hob (h.te j j0 j1) (by decide)
  · rw [e0] at j1; rw [e2]
    by_cases hj : j = P 0
    · rw [hj, hz]; omega
    · rw [hP _ (by omega) (by omega)]; exact h.bt j j0 (by omega)
  · rw [e2] at j1; rw [e0, hP _ (by omega) (by omega)]; have := h.tb j j0 j1; omega
  · have hlo : ∀ b, PA g q L P b → n0 b := h.lo
    rcases hb with rfl | ⟨k, k0, k1, rfl⟩ | ⟨k, k0, k1, rfl, k2⟩ | ⟨k, k0, k1, rfl⟩ | ⟨k, k0, k1, rfl⟩ | ⟨k, k0, k1, rfl⟩
    · exact hlo _ (Or.inl rfl)
    · rw [eL _ (by omega) (by omega)]; exact hlo _ (Or.inr (Or.inl ⟨k, k0, k1, rfl⟩))
    · by_cases hk : k = 6
      · rw [hk, eLa]
        rcases har with har | har
        · rw [har]; exact hlo _ (Or.inr (Or.inr (Or.inl ⟨6, by decide, by decide, rfl, by omega⟩)))
        · exact h.up _ har
      · rw [eL _ (by omega) hk] at k2 ⊢; exact hlo _ (Or.inr (Or.inr (Or.inl ⟨k, k0, k1, rfl, k2⟩)))
    · rw [e0] at k1
      by_cases hk : k = P 0
      · rw [hk, eLn]; exact ha
      · rw [eL _ (by omega) (by omega)]; exact hlo _ (Or.inr (Or.inr (Or.inr (Or.inl ⟨k, k0, by omega, rfl⟩))))
    · rw [e1] at k1; rw [eL _ (by omega) (by omega)]; exact hlo _ (Or.inr (Or.inr (Or.inr (Or.inr (Or.inl ⟨k, k0, k1, rfl⟩)))))
    · rw [e2] at k1; rw [eL _ (by omega) (by omega)]; exact hlo _ (Or.inr (Or.inr (Or.inr (Or.inr (Or.inr ⟨k, k0, k1, rfl⟩)))))
  · simp only [eL3, eL4, eL5]; exact h.dl
  · have hx6 := h.l1.lt
    have hx7 := h.l2.lt
    simp only [eL7, eL8, eLa]
    omega
theorem PK.addF (h : PK g w n0 q L P) {a arr : Nat} (hf : Fr (fun b => b = L 4 ∨ (b = L 7 ∧ gb g ≤ b)) w w') (hA : AL g w' (L 4) arr (P 1 + 1) (updR (fun i => some (L (30 + i))) (P 1) (some a))) (ha : n0 a) (har : arr = L 7 ∨ w.2 ≤ arr) (hn : P 1 < 4) (ho : Ob w' a 4 (fF P' (P 1))) (hP : ∀ k : Int, k ≠ 1 → (k < 70 + 4 * P 1 ∨ 73 + 4 * P 1 < k) → P' k = P k) (h1 : P' 1 = P 1 + 1) (eL : ∀ k : Int, k ≠ 30 + P 1 → k ≠ 7 → L' k = L k) (eLn : L' (30 + P 1) = a) (eLa : L' 7 = arr) : PK g w' n0 q L' P' := by
  have hc := h.c0
  have hgw := h.n0lt
  have e0 : P' 0 = P 0 := hP 0 (by decide) (by omega)
  have e1 : P' 1 = P 1 + 1 := h1
  have e2 : P' 2 = P 2 := hP 2 (by decide) (by omega)
  have hS : ∀ b, PA g q L P b → b ≠ L 4 → (b = L 7 → b < gb g) → ¬ (b = L 4 ∨ (b = L 7 ∧ gb g ≤ b)) := fun b _ h2 h3 h4 => by
    rcases h4 with h4 | ⟨h4, h5⟩
    · exact h2 h4
    · have := h3 h4; omega
  have hgarr : gb g ≤ arr := by
    obtain ⟨mm, cap, x, -, -, -, g4, g5⟩ := hA
    omega
  obtain ⟨mml, hol⟩ := h.l1.ob
  have hra : ∀ {b k : Nat} {fs : List Value}, Ob w b k fs → b ≠ L 7 := fun hb => by
    obtain ⟨mm, cap, x, -, g2, -⟩ := h.l1
    exact Ne.symm (g2.ob_ne hb)
  have hob : ∀ {b k : Nat} {fs : List Value}, Ob w b k fs → k ≠ 2 → Ob w' b k fs := fun hb hk => hb.fr hf (fun hs => by
    rcases hs with hs | ⟨hs, -⟩
    · exact (Ob.apart hb hol hk) hs
    · exact hra hb hs)
  have eL0 := eL 0 (by omega) (by decide)
  have eL1 := eL 1 (by omega) (by decide)
  have eL2 := eL 2 (by omega) (by decide)
  have eL3 := eL 3 (by omega) (by decide)
  have eL4 := eL 4 (by omega) (by decide)
  have eL5 := eL 5 (by omega) (by decide)
  have eL6 := eL 6 (by omega) (by decide)
  have eL8 := eL 8 (by omega) (by decide)
  have hdl := h.dl
  have hda := h.da
  have hl0 : AL g w' (L 3) (L 6) (P 0) (fun i => some (L (10 + i))) := h.l0.fr hf (fun hs => by
      rcases hs with hs | ⟨hs, -⟩
      · omega
      · obtain ⟨m2, ho2⟩ := h.l0.ob
        exact hra ho2 hs) (fun hs => by
      rcases hs with hs | ⟨hs, hs2⟩
      · obtain ⟨mm, cap, x, -, g2, -⟩ := h.l0
        exact g2.ob_ne hol hs
      · omega)
  have hl2 : AL g w' (L 5) (L 8) (P 2) (fun i => some (L (50 + i))) := h.l2.fr hf (fun hs => by
      rcases hs with hs | ⟨hs, -⟩
      · omega
      · obtain ⟨m2, ho2⟩ := h.l2.ob
        exact hra ho2 hs) (fun hs => by
      rcases hs with hs | ⟨hs, hs2⟩
      · obtain ⟨mm, cap, x, -, g2, -⟩ := h.l2
        exact g2.ob_ne hol hs
      · omega)
  refine ⟨?_, ?_, ?_, ?_, ?_, ?_, ?_, by omega, fun j j0 j1 => ?_, fun j j0 j1 => ?_, fun j j0 j1 => ?_, fun j j0 j1 => ?_, fun j j0 j1 => ?_, fun b hb => ?_, ⟨h.gn, fun b hb => h.up b (Nat.le_trans hf.1 hb)⟩, ?_, ?_⟩
  · have hx : qF L' P' = qF L P := by
      simp only [qF, eL0, eL1, eL2, hP 3 (by decide) (by omega), hP 4 (by decide) (by omega), hP 5 (by decide) (by omega), hP 6 (by decide) (by omega), hP 7 (by decide) (by omega), hP 8 (by decide) (by omega), hP 9 (by decide) (by omega)]
    rw [hx]; exact hob h.hq (by decide)
  · simp only [eL0, eL3]; exact hob h.r0 (by decide)
  · simp only [eL1, eL4]; exact hob h.r1 (by decide)
  · simp only [eL2, eL5]; exact hob h.r2 (by decide)
  · simp only [eL3, eL6]
    rw [e0]
    exact hl0.to (fun i i0 i1 => by rw [eL _ (by omega) (by omega)])
  · simp only [eL4, eLa]
    rw [e1]
    refine hA.to (fun i i0 i1 => ?_)
    simp only [updR]
    by_cases hi : i = P 1
    · rw [if_pos hi, hi, eLn]
    · rw [if_neg hi, eL _ (by omega) (by omega)]
  · simp only [eL5, eL8]
    rw [e2]
    exact hl2.to (fun i i0 i1 => by rw [eL _ (by omega) (by omega)])
  · rw [e0] at j1
    rw [eL _ (by omega) (by omega), bF_eq (i := j) (L := L) (P := P) (fun k a b => hP k (by omega) (by omega)) (by
        by_cases hz0 : P (13 + 6 * j) = 0
        · exact Or.inl hz0
        · exact Or.inr (eL _ (by have := h.bt j j0 (by omega); omega) (by have := h.bt j j0 (by omega); omega)))]
    exact hob (h.be j j0 j1) (by decide)
  · rw [e1] at j1
    by_cases hj : j = P 1
    · rw [hj, eLn, fF_eq (i := P 1) (P := P') (fun _ _ _ => rfl)]; exact ho
    · rw [eL _ (by omega) (by omega), fF_eq (i := j) (P := P) (fun k a b => hP k (by omega) (by omega))]
      exact hob (h.fo j j0 (by omega)) (by decide)
  · rw [e2] at j1
    rw [eL _ (by omega) (by omega), tF_eq (i := j) (L := L) (P := P) ⟨hP _ (by omega) (by omega), hP _ (by omega) (by omega), hP _ (by omega) (by omega)⟩ (by
        by_cases hz0 : P (102 + j) = 0
        · exact Or.inl hz0
        · exact Or.inr (eL _ (by have := h.tb j j0 (by omega); omega) (by have := h.tb j j0 (by omega); omega)))]
    exact hob (h.te j j0 j1) (by decide)
  · rw [e0] at j1; rw [e2, hP _ (by omega) (by omega)]; have := h.bt j j0 j1; omega
  · rw [e2] at j1; rw [e0, hP _ (by omega) (by omega)]; have := h.tb j j0 j1; omega
  · have hlo : ∀ b, PA g q L P b → n0 b := h.lo
    rcases hb with rfl | ⟨k, k0, k1, rfl⟩ | ⟨k, k0, k1, rfl, k2⟩ | ⟨k, k0, k1, rfl⟩ | ⟨k, k0, k1, rfl⟩ | ⟨k, k0, k1, rfl⟩
    · exact hlo _ (Or.inl rfl)
    · rw [eL _ (by omega) (by omega)]; exact hlo _ (Or.inr (Or.inl ⟨k, k0, k1, rfl⟩))
    · by_cases hk : k = 7
      · rw [hk, eLa]
        rcases har with har | har
        · rw [har]; exact hlo _ (Or.inr (Or.inr (Or.inl ⟨7, by decide, by decide, rfl, by omega⟩)))
        · exact h.up _ har
      · rw [eL _ (by omega) hk] at k2 ⊢; exact hlo _ (Or.inr (Or.inr (Or.inl ⟨k, k0, k1, rfl, k2⟩)))
    · rw [e0] at k1; rw [eL _ (by omega) (by omega)]; exact hlo _ (Or.inr (Or.inr (Or.inr (Or.inl ⟨k, k0, k1, rfl⟩))))
    · rw [e1] at k1
      by_cases hk : k = P 1
      · rw [hk, eLn]; exact ha
      · rw [eL _ (by omega) (by omega)]; exact hlo _ (Or.inr (Or.inr (Or.inr (Or.inr (Or.inl ⟨k, k0, by omega, rfl⟩)))))
    · rw [e2] at k1; rw [eL _ (by omega) (by omega)]; exact hlo _ (Or.inr (Or.inr (Or.inr (Or.inr (Or.inr ⟨k, k0, k1, rfl⟩)))))
  · simp only [eL3, eL4, eL5]; exact h.dl
  · have hx6 := h.l0.lt
    have hx7 := h.l2.lt
    simp only [eL6, eL8, eLa]
    omega
theorem PK.addT (h : PK g w n0 q L P) {a arr : Nat} (hf : Fr (fun b => b = L 5 ∨ (b = L 8 ∧ gb g ≤ b)) w w') (hA : AL g w' (L 5) arr (P 2 + 1) (updR (fun i => some (L (50 + i))) (P 2) (some a))) (ha : n0 a) (har : arr = L 8 ∨ w.2 ≤ arr) (hn : P 2 < 8) (ho : Ob w' a 5 (tF L P' (P 2))) (hP : ∀ k : Int, k ≠ 2 → (k ≠ 86 + 2 * P 2 ∧ k ≠ 87 + 2 * P 2 ∧ k ≠ 102 + P 2) → P' k = P k) (h1 : P' 2 = P 2 + 1) (hz : P' (102 + P 2) = 0) (eL : ∀ k : Int, k ≠ 50 + P 2 → k ≠ 8 → L' k = L k) (eLn : L' (50 + P 2) = a) (eLa : L' 8 = arr) : PK g w' n0 q L' P' := by
  have hc := h.c0
  have hgw := h.n0lt
  have e0 : P' 0 = P 0 := hP 0 (by decide) (by omega)
  have e1 : P' 1 = P 1 := hP 1 (by decide) (by omega)
  have e2 : P' 2 = P 2 + 1 := h1
  have hS : ∀ b, PA g q L P b → b ≠ L 5 → (b = L 8 → b < gb g) → ¬ (b = L 5 ∨ (b = L 8 ∧ gb g ≤ b)) := fun b _ h2 h3 h4 => by
    rcases h4 with h4 | ⟨h4, h5⟩
    · exact h2 h4
    · have := h3 h4; omega
  have hgarr : gb g ≤ arr := by
    obtain ⟨mm, cap, x, -, -, -, g4, g5⟩ := hA
    omega
  obtain ⟨mml, hol⟩ := h.l2.ob
  have hra : ∀ {b k : Nat} {fs : List Value}, Ob w b k fs → b ≠ L 8 := fun hb => by
    obtain ⟨mm, cap, x, -, g2, -⟩ := h.l2
    exact Ne.symm (g2.ob_ne hb)
  have hob : ∀ {b k : Nat} {fs : List Value}, Ob w b k fs → k ≠ 2 → Ob w' b k fs := fun hb hk => hb.fr hf (fun hs => by
    rcases hs with hs | ⟨hs, -⟩
    · exact (Ob.apart hb hol hk) hs
    · exact hra hb hs)
  have eL0 := eL 0 (by omega) (by decide)
  have eL1 := eL 1 (by omega) (by decide)
  have eL2 := eL 2 (by omega) (by decide)
  have eL3 := eL 3 (by omega) (by decide)
  have eL4 := eL 4 (by omega) (by decide)
  have eL5 := eL 5 (by omega) (by decide)
  have eL6 := eL 6 (by omega) (by decide)
  have eL7 := eL 7 (by omega) (by decide)
  have hdl := h.dl
  have hda := h.da
  have hl0 : AL g w' (L 3) (L 6) (P 0) (fun i => some (L (10 + i))) := h.l0.fr hf (fun hs => by
      rcases hs with hs | ⟨hs, -⟩
      · omega
      · obtain ⟨m2, ho2⟩ := h.l0.ob
        exact hra ho2 hs) (fun hs => by
      rcases hs with hs | ⟨hs, hs2⟩
      · obtain ⟨mm, cap, x, -, g2, -⟩ := h.l0
        exact g2.ob_ne hol hs
      · omega)
  have hl1 : AL g w' (L 4) (L 7) (P 1) (fun i => some (L (30 + i))) := h.l1.fr hf (fun hs => by
      rcases hs with hs | ⟨hs, -⟩
      · omega
      · obtain ⟨m2, ho2⟩ := h.l1.ob
        exact hra ho2 hs) (fun hs => by
      rcases hs with hs | ⟨hs, hs2⟩
      · obtain ⟨mm, cap, x, -, g2, -⟩ := h.l1
        exact g2.ob_ne hol hs
      · omega)
  refine ⟨?_, ?_, ?_, ?_, ?_, ?_, ?_, by omega, fun j j0 j1 => ?_, fun j j0 j1 => ?_, fun j j0 j1 => ?_, fun j j0 j1 => ?_, fun j j0 j1 => ?_, fun b hb => ?_, ⟨h.gn, fun b hb => h.up b (Nat.le_trans hf.1 hb)⟩, ?_, ?_⟩
  · have hx : qF L' P' = qF L P := by
      simp only [qF, eL0, eL1, eL2, hP 3 (by decide) (by omega), hP 4 (by decide) (by omega), hP 5 (by decide) (by omega), hP 6 (by decide) (by omega), hP 7 (by decide) (by omega), hP 8 (by decide) (by omega), hP 9 (by decide) (by omega)]
    rw [hx]; exact hob h.hq (by decide)
  · simp only [eL0, eL3]; exact hob h.r0 (by decide)
  · simp only [eL1, eL4]; exact hob h.r1 (by decide)
  · simp only [eL2, eL5]; exact hob h.r2 (by decide)
  · simp only [eL3, eL6]
    rw [e0]
    exact hl0.to (fun i i0 i1 => by rw [eL _ (by omega) (by omega)])
  · simp only [eL4, eL7]
    rw [e1]
    exact hl1.to (fun i i0 i1 => by rw [eL _ (by omega) (by omega)])
  · simp only [eL5, eLa]
    rw [e2]
    refine hA.to (fun i i0 i1 => ?_)
    simp only [updR]
    by_cases hi : i = P 2
    · rw [if_pos hi, hi, eLn]
    · rw [if_neg hi, eL _ (by omega) (by omega)]
  · rw [e0] at j1
    rw [eL _ (by omega) (by omega), bF_eq (i := j) (L := L) (P := P) (fun k a b => hP k (by omega) (by omega)) (by
        by_cases hz0 : P (13 + 6 * j) = 0
        · exact Or.inl hz0
        · exact Or.inr (eL _ (by have := h.bt j j0 (by omega); omega) (by have := h.bt j j0 (by omega); omega)))]
    exact hob (h.be j j0 j1) (by decide)
  · rw [e1] at j1
    rw [eL _ (by omega) (by omega), fF_eq (i := j) (P := P) (fun k a b => hP k (by omega) (by omega))]
    exact hob (h.fo j j0 j1) (by decide)
  · rw [e2] at j1
    by_cases hj : j = P 2
    · rw [hj, eLn, tF_eq (i := P 2) (L := L) (P := P') ⟨rfl, rfl, rfl⟩ (Or.inl hz)]; exact ho
    · rw [eL _ (by omega) (by omega), tF_eq (i := j) (L := L) (P := P) ⟨hP _ (by omega) (by omega), hP _ (by omega) (by omega), hP _ (by omega) (by omega)⟩ (by
        by_cases hz0 : P (102 + j) = 0
        · exact Or.inl hz0
        · exact Or.inr (eL _ (by have := h.tb j j0 (by omega); omega) (by have := h.tb j j0 (by omega); omega)))]
      exact hob (h.te j j0 (by omega)) (by decide)
  · rw [e0] at j1; rw [e2, hP _ (by omega) (by omega)]; have := h.bt j j0 j1; omega
  · rw [e2] at j1; rw [e0]
    by_cases hj : j = P 2
    · rw [hj, hz]; omega
    · rw [hP _ (by omega) (by omega)]; exact h.tb j j0 (by omega)
  · have hlo : ∀ b, PA g q L P b → n0 b := h.lo
    rcases hb with rfl | ⟨k, k0, k1, rfl⟩ | ⟨k, k0, k1, rfl, k2⟩ | ⟨k, k0, k1, rfl⟩ | ⟨k, k0, k1, rfl⟩ | ⟨k, k0, k1, rfl⟩
    · exact hlo _ (Or.inl rfl)
    · rw [eL _ (by omega) (by omega)]; exact hlo _ (Or.inr (Or.inl ⟨k, k0, k1, rfl⟩))
    · by_cases hk : k = 8
      · rw [hk, eLa]
        rcases har with har | har
        · rw [har]; exact hlo _ (Or.inr (Or.inr (Or.inl ⟨8, by decide, by decide, rfl, by omega⟩)))
        · exact h.up _ har
      · rw [eL _ (by omega) hk] at k2 ⊢; exact hlo _ (Or.inr (Or.inr (Or.inl ⟨k, k0, k1, rfl, k2⟩)))
    · rw [e0] at k1; rw [eL _ (by omega) (by omega)]; exact hlo _ (Or.inr (Or.inr (Or.inr (Or.inl ⟨k, k0, k1, rfl⟩))))
    · rw [e1] at k1; rw [eL _ (by omega) (by omega)]; exact hlo _ (Or.inr (Or.inr (Or.inr (Or.inr (Or.inl ⟨k, k0, k1, rfl⟩)))))
    · rw [e2] at k1
      by_cases hk : k = P 2
      · rw [hk, eLn]; exact ha
      · rw [eL _ (by omega) (by omega)]; exact hlo _ (Or.inr (Or.inr (Or.inr (Or.inr (Or.inr ⟨k, k0, by omega, rfl⟩)))))
  · simp only [eL3, eL4, eL5]; exact h.dl
  · have hx6 := h.l0.lt
    have hx7 := h.l1.lt
    simp only [eL6, eL7, eLa]
    omega
end
section
variable {g : GG} {w w' : WW} {n0 : Nat → Prop} {q : Nat} {L L' : Int → Nat} {P P' : Int → Int}
theorem PK.setQ' (h : PK g w n0 q L P) {fs : List Value} (hf : fs = qF L P') (hP : ∀ k : Int, (k < 3 ∨ 9 < k) → P' k = P k) : PK g (wput w q (.inl (.inr (0, fs)))) n0 q L P' := by rw [hf]; exact h.setQ hP
theorem PK.setB' (h : PK g w n0 q L P) {i : Int} (hi : 0 ≤ i ∧ i < P 0) {fs : List Value} (hf : fs = bF L P' i) (hP : ∀ k : Int, (k < 10 + 6 * i ∨ 15 + 6 * i < k) → P' k = P k) (hn : 0 ≤ P' (13 + 6 * i) ∧ P' (13 + 6 * i) ≤ P 2) : PK g (wput w (L (10 + i)) (.inl (.inr (3, fs)))) n0 q L P' := by rw [hf]; exact h.setB hi hP hn
theorem PK.setF' (h : PK g w n0 q L P) {i : Int} (hi : 0 ≤ i ∧ i < P 1) {fs : List Value} (hf : fs = fF P' i) (hP : ∀ k : Int, (k < 70 + 4 * i ∨ 73 + 4 * i < k) → P' k = P k) : PK g (wput w (L (30 + i)) (.inl (.inr (4, fs)))) n0 q L P' := by rw [hf]; exact h.setF hi hP
theorem PK.setT' (h : PK g w n0 q L P) {i : Int} (hi : 0 ≤ i ∧ i < P 2) {fs : List Value} (hf : fs = tF L P' i) (hP : ∀ k : Int, (k ≠ 86 + 2 * i ∧ k ≠ 87 + 2 * i ∧ k ≠ 102 + i) → P' k = P k) (hn : 0 ≤ P' (102 + i) ∧ P' (102 + i) ≤ P 0) : PK g (wput w (L (50 + i)) (.inl (.inr (5, fs)))) n0 q L P' := by rw [hf]; exact h.setT hi hP hn
theorem PK.ab (h : PK g w n0 q L P) {i : Int} (h0 : 0 ≤ i) (h1 : i < P 0) : n0 (L (10 + i)) := h.lo _ (Or.inr (Or.inr (Or.inr (Or.inl ⟨i, h0, h1, rfl⟩))))
theorem PK.af (h : PK g w n0 q L P) {i : Int} (h0 : 0 ≤ i) (h1 : i < P 1) : n0 (L (30 + i)) := h.lo _ (Or.inr (Or.inr (Or.inr (Or.inr (Or.inl ⟨i, h0, h1, rfl⟩)))))
theorem PK.at (h : PK g w n0 q L P) {i : Int} (h0 : 0 ≤ i) (h1 : i < P 2) : n0 (L (50 + i)) := h.lo _ (Or.inr (Or.inr (Or.inr (Or.inr (Or.inr ⟨i, h0, h1, rfl⟩)))))
theorem PK.ar (h : PK g w n0 q L P) {k : Int} (h0 : 0 ≤ k) (h1 : k < 6) : n0 (L k) := h.lo _ (Or.inr (Or.inl ⟨k, h0, h1, rfl⟩))
theorem PK.aa (h : PK g w n0 q L P) {k : Int} (h0 : 6 ≤ k) (h1 : k < 9) (h2 : gb g ≤ L k) : n0 (L k) := h.lo _ (Or.inr (Or.inr (Or.inl ⟨k, h0, h1, rfl, h2⟩)))
theorem PK.addB' (h : PK g w n0 q L P) {a arr : Nat} (hf : Fr (fun b => b = L 3 ∨ (b = L 6 ∧ gb g ≤ b)) w w') (hA : AL g w' (L 3) arr (P 0 + 1) (updR (fun i => some (L (10 + i))) (P 0) (some a))) (ha : n0 a) (har : arr = L 6 ∨ w.2 ≤ arr) (hn : P 0 < 10) {fs : List Value} (ho : Ob w' a 3 fs) (hfs : fs = bF L P' (P 0)) (hP : ∀ k : Int, k ≠ 0 → (k < 10 + 6 * P 0 ∨ 15 + 6 * P 0 < k) → P' k = P k) (h1 : P' 0 = P 0 + 1) (hz : P' (13 + 6 * P 0) = 0) (eL : ∀ k : Int, k ≠ 10 + P 0 → k ≠ 6 → L' k = L k) (eLn : L' (10 + P 0) = a) (eLa : L' 6 = arr) : PK g w' n0 q L' P' := h.addB hf hA ha har hn (hfs ▸ ho) hP h1 hz eL eLn eLa
theorem PK.addF' (h : PK g w n0 q L P) {a arr : Nat} (hf : Fr (fun b => b = L 4 ∨ (b = L 7 ∧ gb g ≤ b)) w w') (hA : AL g w' (L 4) arr (P 1 + 1) (updR (fun i => some (L (30 + i))) (P 1) (some a))) (ha : n0 a) (har : arr = L 7 ∨ w.2 ≤ arr) (hn : P 1 < 4) {fs : List Value} (ho : Ob w' a 4 fs) (hfs : fs = fF P' (P 1)) (hP : ∀ k : Int, k ≠ 1 → (k < 70 + 4 * P 1 ∨ 73 + 4 * P 1 < k) → P' k = P k) (h1 : P' 1 = P 1 + 1) (eL : ∀ k : Int, k ≠ 30 + P 1 → k ≠ 7 → L' k = L k) (eLn : L' (30 + P 1) = a) (eLa : L' 7 = arr) : PK g w' n0 q L' P' := h.addF hf hA ha har hn (hfs ▸ ho) hP h1 eL eLn eLa
theorem PK.addT' (h : PK g w n0 q L P) {a arr : Nat} (hf : Fr (fun b => b = L 5 ∨ (b = L 8 ∧ gb g ≤ b)) w w') (hA : AL g w' (L 5) arr (P 2 + 1) (updR (fun i => some (L (50 + i))) (P 2) (some a))) (ha : n0 a) (har : arr = L 8 ∨ w.2 ≤ arr) (hn : P 2 < 8) {fs : List Value} (ho : Ob w' a 5 fs) (hfs : fs = tF L P' (P 2)) (hP : ∀ k : Int, k ≠ 2 → (k ≠ 86 + 2 * P 2 ∧ k ≠ 87 + 2 * P 2 ∧ k ≠ 102 + P 2) → P' k = P k) (h1 : P' 2 = P 2 + 1) (hz : P' (102 + P 2) = 0) (eL : ∀ k : Int, k ≠ 50 + P 2 → k ≠ 8 → L' k = L k) (eLn : L' (50 + P 2) = a) (eLa : L' 8 = arr) : PK g w' n0 q L' P' := h.addT hf hA ha har hn (hfs ▸ ho) hP h1 hz eL eLn eLa
end
