/-! 92.reach.lean.txt (written by tools/walker.py)  -/
set_option maxRecDepth 100000
/-! how far a command reaches -/
theorem pExp_r {T : Int → Int} {n c o o' : Int} (hc : 0 < c) (h : pExp T n c o = .inr o') : o' = o + 1 ∧ o < n := by
  unfold pExp at h
  by_cases h1 : curT T n o = c
  · rw [if_pos h1] at h
    injection h with h
    refine ⟨h.symm, ?_⟩
    apply Decidable.byContradiction
    intro q
    rw [curT, if_neg q] at h1
    omega
  · rw [if_neg h1] at h; cases h
theorem pWord_r {T : Int → Int} {n : Int} : ∀ (l : List Int) (o o' : Int), (∀ c ∈ l, 0 < c) → o ≤ n → pWord T n l o = .inr o' → o' = o + l.length ∧ o' ≤ n
  | [], o, o', _, hn, h => by
    have h : (Sum.inr o : Int ⊕ Int) = .inr o' := h
    injection h with h
    simp
    omega
  | c :: l, o, o', hc, hn, h => by
    have h : pB (pExp T n c o) (fun o1 => pWord T n l o1) = .inr o' := h
    cases he : pExp T n c o with
    | inl e => rw [he] at h; cases h
    | inr o1 =>
      rw [he] at h
      obtain ⟨h1, h2⟩ := pExp_r (hc c (by simp)) he
      obtain ⟨h3, h4⟩ := pWord_r l o1 o' (fun d hd => hc d (by simp [hd])) (by omega) h
      simp only [List.length_cons]
      omega
theorem pDig_r {T : Int → Int} {n o : Int} {d : Int × Int} (h : pDig T n o = .inr d) : d.2 = o + 1 ∧ o < n ∧ 0 ≤ d.1 ∧ d.1 ≤ 9 := by
  unfold pDig at h
  by_cases h1 : 48 ≤ curT T n o ∧ curT T n o ≤ 57
  · rw [if_pos h1] at h
    injection h with h
    subst h
    refine ⟨rfl, ?_, by dsimp only; omega, by dsimp only; omega⟩
    apply Decidable.byContradiction
    intro q
    rw [curT, if_neg q] at h1
    omega
  · rw [if_neg h1] at h; cases h
theorem pNum_r {T : Int → Int} {n o : Int} {d : Int × Int} (h : pNum T n o = .inr d) : (o + 1 ≤ d.2 ∧ d.2 ≤ n) ∧ 0 ≤ d.1 ∧ d.1 ≤ 99 := by
  unfold pNum at h
  cases he : pDig T n o with
  | inl e => rw [he] at h; cases h
  | inr a =>
    obtain ⟨h1, h2, h3, h4⟩ := pDig_r he
    rw [he] at h
    have h : (if 48 ≤ curT T n a.2 ∧ curT T n a.2 ≤ 57 then pB (pDig T n a.2) (fun e => .inr (10 * a.1 + e.1, e.2)) else .inr a) = (Sum.inr d : Int ⊕ (Int × Int)) := h
    by_cases hd : 48 ≤ curT T n a.2 ∧ curT T n a.2 ≤ 57
    · rw [if_pos hd] at h
      cases hf : pDig T n a.2 with
      | inl e => rw [hf] at h; cases h
      | inr b =>
        obtain ⟨g1, g2, g3, g4⟩ := pDig_r hf
        rw [hf] at h
        have h : (Sum.inr (10 * a.1 + b.1, b.2) : Int ⊕ (Int × Int)) = .inr d := h
        injection h with h
        subst h
        dsimp only
        omega
    · rw [if_neg hd] at h
      injection h with h
      subst h
      omega
theorem pSD_r {T : Int → Int} {n o : Int} {d : Int × Int} (h : pSD T n o = .inr d) : d.2 = o + 2 ∧ d.2 ≤ n ∧ 0 ≤ d.1 ∧ d.1 ≤ 9 := by
  unfold pSD at h
  cases he : pExp T n 32 o with
  | inl e => rw [he] at h; cases h
  | inr o1 =>
    rw [he] at h
    obtain ⟨h1, h2⟩ := pExp_r (by decide) he
    obtain ⟨h3, h4, h5, h6⟩ := pDig_r (show pDig T n o1 = .inr d from h)
    omega
theorem pSN_r {T : Int → Int} {n o : Int} {d : Int × Int} (h : pSN T n o = .inr d) : (o + 2 ≤ d.2 ∧ d.2 ≤ n) ∧ 0 ≤ d.1 ∧ d.1 ≤ 99 := by
  unfold pSN at h
  cases he : pExp T n 32 o with
  | inl e => rw [he] at h; cases h
  | inr o1 =>
    rw [he] at h
    obtain ⟨h1, h2⟩ := pExp_r (by decide) he
    obtain ⟨⟨h3, h4⟩, h5, h6⟩ := pNum_r (show pNum T n o1 = .inr d from h)
    omega
theorem pB_r2 {α β : Type} {x : Int ⊕ α} {f : α → Int ⊕ β} {b : β} (h : pB x f = .inr b) : ∃ a, x = .inr a ∧ f a = .inr b := by
  cases x with
  | inl e => cases h
  | inr a => exact ⟨a, rfl, h⟩
theorem pNm_r {q : Int} {T : Int → Int} {n o : Int} {d : Int × Int} (h : pNm q T n o = .inr d) : (o + 2 ≤ d.2 ∧ d.2 ≤ n) ∧ 0 ≤ d.1 ∧ d.1 ≤ 99 := by
  unfold pNm at h
  split at h
  · have := pSD_r h; omega
  · exact pSN_r h
theorem pOne_r {l : List Int} {q1 q2 q3 : Int} {T : Int → Int} {n o : Int} {r : (Int × Int × Int) × Int} (hc : ∀ c ∈ l, 0 < c) (hn : o ≤ n) (h : pOne l q1 q2 q3 T n o = .inr r) : (o + l.length + 2 ≤ r.2 ∧ r.2 ≤ n) ∧ (0 ≤ r.1.1 ∧ r.1.1 ≤ 99) ∧ (0 ≤ r.1.2.1 ∧ r.1.2.1 ≤ 99) ∧ (0 ≤ r.1.2.2 ∧ r.1.2.2 ≤ 99) := by
  unfold pOne at h
  obtain ⟨o1, e1, h⟩ := pB_r2 h
  obtain ⟨w1, w2⟩ := pWord_r l o o1 hc hn e1
  obtain ⟨a, e2, h⟩ := pB_r2 h
  obtain ⟨⟨a1, a2⟩, a3, a4⟩ := pNm_r e2
  unfold pO1 at h
  split at h
  · obtain ⟨b, e3, h⟩ := pB_r2 h
    obtain ⟨⟨b1, b2⟩, b3, b4⟩ := pNm_r e3
    unfold pO2 at h
    split at h
    · obtain ⟨c, e4, h⟩ := pB_r2 h
      obtain ⟨⟨c1, c2⟩, c3, c4⟩ := pNm_r e4
      injection h with h
      subst h
      dsimp only
      omega
    · injection h with h
      subst h
      dsimp only
      omega
  · injection h with h
    subst h
    dsimp only
    omega
theorem mkC_r {so : Int} {x : Int ⊕ ((Int × Int × Int) × Int)} {cm : Cm} {o' : Int} (h : pB x (mkC so) = .inr (cm, o')) : ∃ r, x = .inr r ∧ cm = (so, r.1.1, r.1.2.1, r.1.2.2) ∧ o' = r.2 := by
  obtain ⟨r, h1, h2⟩ := pB_r2 h
  have h2 : (Sum.inr ((so, r.1.1, r.1.2.1, r.1.2.2), r.2) : Int ⊕ (Cm × Int)) = .inr (cm, o') := h2
  injection h2 with h2
  injection h2 with h3 h4
  exact ⟨r, h1, h3.symm, h4.symm⟩
theorem pAct_c {T : Int → Int} {n o so : Int} {l : List Int} {q1 q2 q3 : Int} {cm : Cm} {o' : Int} (hl : ∀ c ∈ l, 0 < c) (hlen : 3 ≤ l.length) (hn : o ≤ n) (hso : so = 98 ∨ so = 102 ∨ so = 116 ∨ so = 108 ∨ so = 114 ∨ so = 101 ∨ so = 103 ∨ so = 115 ∨ so = 105 ∨ so = 112) (h : pB (pOne l q1 q2 q3 T n o) (mkC so) = .inr (cm, o')) : (o + 5 ≤ o' ∧ o' ≤ n) ∧ cmS cm := by
  obtain ⟨r, h1, rfl, rfl⟩ := mkC_r h
  obtain ⟨⟨g1, g2⟩, g3, g4, g5⟩ := pOne_r hl hn h1
  refine ⟨by omega, hso, ?_, ?_, ?_⟩ <;> (unfold sm; dsimp only; omega)
theorem pAct_r {T : Int → Int} {n o : Int} {cm : Cm} {o' : Int} (hn : o ≤ n) (h : pAct T n o = .inr (cm, o')) : (o + 5 ≤ o' ∧ o' ≤ n) ∧ cmS cm := by
  by_cases s1 : curT T n o = 98
  · refine pAct_c (T := T) (l := chs "bench") (q1 := 1) (q2 := 1) (q3 := 2) (so := 98) (by decide) (by decide) hn (by decide) ?_
    rw [one112, ← h]; unfold pAct; rw [if_pos s1]; rfl
  by_cases s2 : curT T n o = 101
  · refine pAct_c (T := T) (l := chs "end") (q1 := 1) (q2 := 0) (q3 := 0) (so := 101) (by decide) (by decide) hn (by decide) ?_
    rw [one100, ← h]; unfold pAct; rw [if_neg s1, if_pos s2]
  by_cases s3 : curT T n o = 102
  · refine pAct_c (T := T) (l := chs "fountain") (q1 := 1) (q2 := 1) (q3 := 1) (so := 102) (by decide) (by decide) hn (by decide) ?_
    rw [one111, ← h]; unfold pAct; rw [if_neg s1, if_neg s2, if_pos s3]; rfl
  by_cases s4 : curT T n o = 103
  · refine pAct_c (T := T) (l := chs "give") (q1 := 1) (q2 := 2) (q3 := 0) (so := 103) (by decide) (by decide) hn (by decide) ?_
    rw [one120, ← h]; unfold pAct; rw [if_neg s1, if_neg s2, if_neg s3, if_pos s4]
  by_cases s5 : curT T n o = 108
  · have hp : pAct T n o = pLim T n o := by unfold pAct; rw [if_neg s1, if_neg s2, if_neg s3, if_neg s4, if_pos s5]
    by_cases s51 : curT T n (o + 1) = 105
    · refine pAct_c (T := T) (l := chs "limit") (q1 := 2) (q2 := 0) (q3 := 0) (so := 105) (by decide) (by decide) hn (by decide) ?_
      rw [← lim_105 s5 s51, ← hp, h]
    · refine pAct_c (T := T) (l := chs "lease") (q1 := 1) (q2 := 1) (q3 := 2) (so := 108) (by decide) (by decide) hn (by decide) ?_
      rw [← lim_108 s5 s51, ← hp, h]
  by_cases s6 : curT T n o = 112
  · refine pAct_c (T := T) (l := chs "pass") (q1 := 2) (q2 := 0) (q3 := 0) (so := 112) (by decide) (by decide) hn (by decide) ?_
    rw [one200, ← h]; unfold pAct; rw [if_neg s1, if_neg s2, if_neg s3, if_neg s4, if_neg s5, if_pos s6]
  by_cases s7 : curT T n o = 114
  · refine pAct_c (T := T) (l := chs "renew") (q1 := 1) (q2 := 2) (q3 := 0) (so := 114) (by decide) (by decide) hn (by decide) ?_
    rw [one120, ← h]; unfold pAct; rw [if_neg s1, if_neg s2, if_neg s3, if_neg s4, if_neg s5, if_neg s6, if_pos s7]
  by_cases s8 : curT T n o = 115
  · refine pAct_c (T := T) (l := chs "switch") (q1 := 1) (q2 := 0) (q3 := 0) (so := 115) (by decide) (by decide) hn (by decide) ?_
    rw [one100, ← h]; unfold pAct; rw [if_neg s1, if_neg s2, if_neg s3, if_neg s4, if_neg s5, if_neg s6, if_neg s7, if_pos s8]
  by_cases s9 : curT T n o = 116
  · refine pAct_c (T := T) (l := chs "tenant") (q1 := 2) (q2 := 0) (q3 := 0) (so := 116) (by decide) (by decide) hn (by decide) ?_
    rw [one200, ← h]; unfold pAct; rw [if_neg s1, if_neg s2, if_neg s3, if_neg s4, if_neg s5, if_neg s6, if_neg s7, if_neg s8, if_pos s9]
  · unfold pAct at h
    rw [if_neg s1, if_neg s2, if_neg s3, if_neg s4, if_neg s5, if_neg s6, if_neg s7, if_neg s8, if_neg s9] at h
    cases h
