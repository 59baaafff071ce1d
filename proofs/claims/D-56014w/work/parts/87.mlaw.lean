/-! 87.mlaw.lean.txt (written by tools/walker.py)  -/
set_option maxRecDepth 100000
/-! a command as the other model reads it, and as the first one does -/
def mkC (so : Int) (r : (Int × Int × Int) × Int) : Int ⊕ (Cm × Int) := .inr ((so, r.1.1, r.1.2.1, r.1.2.2), r.2)
section
variable {l : List Int} {T : Int → Int} {n o so : Int}
theorem one112 : pB (pOne l 1 1 2 T n o) (mkC so) = pB (pWord T n l o) fun o1 => pB (pSD T n o1) fun a => pB (pSD T n a.2) fun b => pB (pSN T n b.2) fun v => .inr ((so, a.1, b.1, v.1), v.2) := by
  unfold pOne
  cases pWord T n l o with
  | inl e => rfl
  | inr o1 =>
    show pB (pB (pSD T n o1) (pO1 1 2 T n)) _ = pB (pSD T n o1) _
    cases pSD T n o1 with
    | inl e => rfl
    | inr a =>
      show pB (pB (pSD T n a.2) (pO2 2 T n a.1)) _ = pB (pSD T n a.2) _
      cases pSD T n a.2 with
      | inl e => rfl
      | inr b =>
        show pB (pB (pSN T n b.2) _) _ = pB (pSN T n b.2) _
        cases pSN T n b.2 <;> rfl
theorem one111 : pB (pOne l 1 1 1 T n o) (mkC so) = pB (pWord T n l o) fun o1 => pB (pSD T n o1) fun a => pB (pSD T n a.2) fun b => pB (pSD T n b.2) fun v => .inr ((so, a.1, b.1, v.1), v.2) := by
  unfold pOne
  cases pWord T n l o with
  | inl e => rfl
  | inr o1 =>
    show pB (pB (pSD T n o1) (pO1 1 1 T n)) _ = pB (pSD T n o1) _
    cases pSD T n o1 with
    | inl e => rfl
    | inr a =>
      show pB (pB (pSD T n a.2) (pO2 1 T n a.1)) _ = pB (pSD T n a.2) _
      cases pSD T n a.2 with
      | inl e => rfl
      | inr b =>
        show pB (pB (pSD T n b.2) _) _ = pB (pSD T n b.2) _
        cases pSD T n b.2 <;> rfl
theorem one120 : pB (pOne l 1 2 0 T n o) (mkC so) = pB (pWord T n l o) fun o1 => pB (pSD T n o1) fun a => pB (pSN T n a.2) fun v => .inr ((so, a.1, v.1, 0), v.2) := by
  unfold pOne
  cases pWord T n l o with
  | inl e => rfl
  | inr o1 =>
    show pB (pB (pSD T n o1) (pO1 2 0 T n)) _ = pB (pSD T n o1) _
    cases pSD T n o1 with
    | inl e => rfl
    | inr a =>
      show pB (pB (pSN T n a.2) (pO2 0 T n a.1)) _ = pB (pSN T n a.2) _
      cases pSN T n a.2 <;> rfl
theorem one100 : pB (pOne l 1 0 0 T n o) (mkC so) = pB (pWord T n l o) fun o1 => pB (pSD T n o1) fun a => .inr ((so, a.1, 0, 0), a.2) := by
  unfold pOne
  cases pWord T n l o with
  | inl e => rfl
  | inr o1 =>
    show pB (pB (pSD T n o1) (pO1 0 0 T n)) _ = pB (pSD T n o1) _
    cases pSD T n o1 <;> rfl
theorem one200 : pB (pOne l 2 0 0 T n o) (mkC so) = pB (pWord T n l o) fun o1 => pB (pSN T n o1) fun a => .inr ((so, a.1, 0, 0), a.2) := by
  unfold pOne
  cases pWord T n l o with
  | inl e => rfl
  | inr o1 =>
    show pB (pB (pSN T n o1) (pO1 0 0 T n)) _ = pB (pSN T n o1) _
    cases pSN T n o1 <;> rfl
end
theorem lim_105 {T : Int → Int} {n o : Int} (h : curT T n o = 108) (h2 : curT T n (o + 1) = 105) : pLim T n o = pB (pOne (chs "limit") 2 0 0 T n o) (mkC 105) := by
  rw [one200]
  unfold pLim
  have e : pExp T n 108 o = .inr (o + 1) := if_pos h
  have e2 : pWord T n (chs "limit") o = pWord T n (chs "imit") (o + 1) := by
    show pB (pExp T n 108 o) (fun o1 => pWord T n (chs "imit") o1) = _
    rw [e]; rfl
  rw [e, e2]
  show (if _ then _ else _) = _
  rw [if_pos h2]
theorem lim_108 {T : Int → Int} {n o : Int} (h : curT T n o = 108) (h2 : curT T n (o + 1) ≠ 105) : pLim T n o = pB (pOne (chs "lease") 1 1 2 T n o) (mkC 108) := by
  rw [one112]
  unfold pLim
  have e : pExp T n 108 o = .inr (o + 1) := if_pos h
  have e2 : pWord T n (chs "lease") o = pWord T n (chs "ease") (o + 1) := by
    show pB (pExp T n 108 o) (fun o1 => pWord T n (chs "ease") o1) = _
    rw [e]; rfl
  rw [e, e2]
  show (if _ then _ else _) = _
  rw [if_neg h2]
