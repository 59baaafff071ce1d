/-! 90.frames.lean.txt (written by tools/walker.py)  -/
set_option maxRecDepth 100000
/-! the broker stands when the other model writes -/
theorem PK.nia {g : GG} {w : WW} {n0 : Nat → Prop} {q : Nat} {L : Int → Nat} {P : Int → Int} (h : PK g w n0 q L P) {b n : Nat} {f : Int → Int} (ho : IA g w b n f) : ¬ PA g q L P b := by
  have ha : ∀ {l arr : Nat} {n : Int} {f : Int → Option Nat}, AL g w l arr n f → b ≠ l ∧ b ≠ arr := fun hl => by
    obtain ⟨mm, cap, x, g1, g2, -⟩ := hl
    exact ⟨ho.ob_ne g1, ho.ra_ne g2⟩
  rintro (rfl | ⟨i, h0, h1, rfl⟩ | ⟨i, h0, h1, rfl, -⟩ | ⟨i, h0, h1, rfl⟩ | ⟨i, h0, h1, rfl⟩ | ⟨i, h0, h1, rfl⟩)
  · exact (ho.ob_ne h.hq) rfl
  · rcases (show i = 0 ∨ i = 1 ∨ i = 2 ∨ i = 3 ∨ i = 4 ∨ i = 5 by omega) with rfl | rfl | rfl | rfl | rfl | rfl
    · exact (ho.ob_ne h.r0) rfl
    · exact (ho.ob_ne h.r1) rfl
    · exact (ho.ob_ne h.r2) rfl
    · exact (ha h.l0).1 rfl
    · exact (ha h.l1).1 rfl
    · exact (ha h.l2).1 rfl
  · rcases (show i = 6 ∨ i = 7 ∨ i = 8 by omega) with rfl | rfl | rfl
    · exact (ha h.l0).2 rfl
    · exact (ha h.l1).2 rfl
    · exact (ha h.l2).2 rfl
  · exact (ho.ob_ne (h.be i h0 h1)) rfl
  · exact (ho.ob_ne (h.fo i h0 h1)) rfl
  · exact (ho.ob_ne (h.te i h0 h1)) rfl
section
variable {g : GG} {w w' : WW} {m : Nat} {A : Int → Nat} {F Q : Int → Int} {C : Int → Int → Int}
theorem MD.nra (h : MD g w m A F Q C) {b n : Nat} {f : Int → Option Nat} (ho : RA g w b n f) : ¬ MS m A b := by
  rintro (q | q | ⟨j, hj, q⟩)
  · exact ho.ob_ne h.1 q
  · exact h.2.1.ra_ne ho q.symm
  · exact (h.2.2.1 j hj).ra_ne ho q.symm
theorem MD.ms_ge (h : MD g w m A F Q C) (hg : gb g ≤ m) : ∀ b, MS m A b → gb g ≤ b := by
  rintro b (rfl | rfl | ⟨j, hj, rfl⟩)
  · exact hg
  · exact h.2.1.ge
  · exact (h.2.2.1 j hj).ge
theorem FP.ms {hl harr q : Nat} {L : Int → Nat} {P : Int → Int} (h : FP g w hl harr q L P) (hM : MD g w m A F Q C) (hg : gb g ≤ m) (hf : Fr (MS m A) w w') : FP g w' hl harr q L P := by
  obtain ⟨n0, hK⟩ := h.1
  refine h.fr hf (hM.ms_ge hg) (fun b hb => ?_)
  rcases hb with rfl | rfl | ⟨j, hj, rfl⟩
  · exact hK.na hM.1 (by decide)
  · exact hK.nia hM.2.1
  · exact hK.nia (hM.2.2.1 j hj)
theorem AL.ms {l arr : Nat} {n : Int} {f : Int → Option Nat} (h : AL g w l arr n f) (hM : MD g w m A F Q C) (hf : Fr (MS m A) w w') : AL g w' l arr n f := by
  obtain ⟨mm, cap, x, g1, g2, g3⟩ := h
  exact ⟨mm, cap, x, g1.fr hf (hM.nob g1 (by decide)), g2.fr hf (hM.nra g2), g3⟩
theorem BR.ms (hG : Base g) {x : Nat} {P : Int → Int} {S : Option (Int → Int)} {H : List (Int → Int)} {I O : Tx} {se : Option Int} {rj : Option (Int × Int × Int)} (h : BR g w x P S H I O se rj) (hM : MD g w m A F Q C) (hg : gb g ≤ m) (hf : Fr (MS m A) w w') : BR g w' x P S H I O se rj := by
  obtain ⟨q, hl, harr, ib, bb, os, ob, L, oS, oE, oR, fH, h1, h2, h3, h4, h5, ⟨c, m9, y, k1, k2, k3⟩, ⟨u1, u2, k4, k5, k6⟩, h6, h7, h8⟩ := h
  refine ⟨q, hl, harr, ib, bb, os, ob, L, oS, oE, oR, fH, h1.fr hf (hM.nob h1 (by decide)), h2.ms hM hg hf, ⟨h3.1.ms hM hf, fun i Ph hi => ?_⟩, h4, ?_, ⟨c, m9, y, k1.fr hf (hM.nob k1 (by decide)), k2.fr hf (hM.nba hG k2), k3⟩, ⟨u1, u2, k4.fr hf (hM.nob k4 (by decide)), k5.fr hf (hM.nba hG k5), k6⟩, h6, h7.fr hf (fun b fs hb => hM.nob hb (by decide)), h8.fr hf (fun b fs hb => hM.nob hb (by decide))⟩
  · obtain ⟨qh, Lh, g1, g2⟩ := h3.2 i Ph hi
    exact ⟨qh, Lh, g1, g2.ms hM hg hf⟩
  · rcases h5 with h5 | ⟨e, a, l, e1, e2, e3⟩
    · exact Or.inl h5
    · exact Or.inr ⟨e, a, l, e1, e2, e3.ms hM hg hf⟩
/-- .. and the other model when the broker works -/
theorem MD.fx (h : MD g w m A F Q C) (hX : FX g w w') : MD g w' m A F Q C := by
  have hi : ∀ {b n : Nat} {f : Int → Int}, IA g w b n f → IA g w' b n f := fun ha => by
    obtain ⟨h0, x, h1, h2⟩ := ha
    exact ⟨h0, x, ⟨hX.2 _ _ h1.2 h1.1 (Or.inr (Or.inl ⟨_, _, rfl⟩)), Nat.lt_of_lt_of_le h1.2 hX.1⟩, h2⟩
  exact ⟨⟨hX.2 _ _ h.1.2 h.1.1 (Or.inl ⟨_, rfl⟩), Nat.lt_of_lt_of_le h.1.2 hX.1⟩, hi h.2.1, fun j hj => hi (h.2.2.1 j hj), h.2.2.2⟩
theorem MR.fx {th : Int} {P : Int → Int} {S : Option (Int → Int)} {H : List (Int → Int)} {I O : Tx} {se : Option Int} {rj : Option (Int × Int × Int)} (h : MR g w m A th P S H I O se rj) (hX : FX g w w') : MR g w' m A th P S H I O se rj := by
  obtain ⟨F, C, h1, h2⟩ := h
  exact ⟨F, C, h1.fx hX, h2⟩
end
