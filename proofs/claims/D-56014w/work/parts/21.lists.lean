/-! LISTS: frames by sets of addresses; the picture of an ArrayList -/
set_option maxRecDepth 100000
/-- outside S nothing has changed -/
def Fr (S : Nat → Prop) (w w' : WW) : Prop := w.2 ≤ w'.2 ∧ ∀ b : Nat, b < w.2 → ¬ S b → w'.1 b = w.1 b
theorem Fr.rf {S : Nat → Prop} {w : WW} : Fr S w w := ⟨Nat.le_refl _, fun _ _ _ => rfl⟩
theorem Fr.tr {S S' : Nat → Prop} {w w' w'' : WW} (h : Fr S w w') (h' : Fr S' w' w'') (hs : ∀ b, b < w.2 → S' b → S b) : Fr S w w'' := ⟨Nat.le_trans h.1 h'.1, fun b hb hn => (h'.2 b (Nat.lt_of_lt_of_le hb h.1) (fun q => hn (hs b hb q))).trans (h.2 b hb hn)⟩
theorem Fr.to {S S' : Nat → Prop} {w w' : WW} (h : Fr S w w') (hs : ∀ b, b < w.2 → S b → S' b) : Fr S' w w' := ⟨h.1, fun b hb hn => h.2 b hb (fun q => hn (hs b hb q))⟩
theorem Fr.mo {S : Nat → Prop} {n : Nat} {w w' : WW} (h : Fr S w w') (hs : ∀ b, b < w.2 → S b → n ≤ b) : Mo n w w' := ⟨h.1, fun b hb hb2 => h.2 b hb2 (fun q => by have := hs b hb2 q; omega)⟩
theorem Mo.fr {n : Nat} {w w' : WW} (h : Mo n w w') : Fr (fun b => n ≤ b) w w' := ⟨h.1, fun b hb hn => h.2 b (Nat.not_le.mp hn) hb⟩
theorem Fr.put {S : Nat → Prop} {w : WW} {a : Nat} (h : S a) (e : WE) : Fr S w (wput w a e) := ⟨Nat.le_refl _, fun b _ hn => if_neg (fun q : b = a => hn (by rw [q]; exact h))⟩
theorem Fr.put1 {w : WW} {a : Nat} (e : WE) : Fr (fun b => b = a) w (wput w a e) := Fr.put (S := fun b => b = a) rfl e
theorem Fr.new {S : Nat → Prop} {w : WW} {a : Nat} (h : w.2 ≤ a) (e : WE) : Fr S w (wnew w a e) := ⟨Nat.le_succ_of_le h, fun b hb _ => (if_neg (by omega)).trans (if_pos hb)⟩
theorem Wa.fr {S : Nat → Prop} {w w' : WW} {b : Nat} {e : WE} (h : Wa w b e) (hf : Fr S w w') (hn : ¬ S b) : Wa w' b e := ⟨(hf.2 b h.2 hn).trans h.1, Nat.lt_of_lt_of_le h.2 hf.1⟩
theorem Ob.fr {S : Nat → Prop} {w w' : WW} {b k : Nat} {f : List Value} (h : Ob w b k f) (hf : Fr S w w') (hn : ¬ S b) : Ob w' b k f := Wa.fr h hf hn
theorem IA.fr {g : GG} {S : Nat → Prop} {w w' : WW} {b n : Nat} {f : Int → Int} (h : IA g w b n f) (hf : Fr S w w') (hn : ¬ S b) : IA g w' b n f := by
  obtain ⟨h0, x, h1, h2⟩ := h
  exact ⟨h0, x, h1.fr hf hn, h2⟩
theorem BA.fr {g : GG} {S : Nat → Prop} {w w' : WW} {b n : Nat} {f : Int → Int} (h : BA g w b n f) (hf : Fr S w w') (hn : ¬ S b) : BA g w' b n f := by
  obtain ⟨x, h1, h2⟩ := h
  exact ⟨x, h1.fr hf hn, h2⟩
theorem RA.fr {g : GG} {S : Nat → Prop} {w w' : WW} {b n : Nat} {f : Int → Option Nat} (h : RA g w b n f) (hf : Fr S w w') (hn : ¬ S b) : RA g w' b n f := by
  obtain ⟨x, h1, h2⟩ := h
  exact ⟨x, h1.fr hf hn, h2⟩
/-- an ArrayList at a, its array at arr (of ten places, or the class's empty one), n elements f -/
def AL (g : GG) (w : WW) (a arr : Nat) (n : Int) (f : Int → Option Nat) : Prop := ∃ (mm : Int) (cap : Nat) (h : Int → Option Nat), Ob w a 2 [.int (iI mm), .ref arr, .int (iI n)] ∧ RA g w arr cap h ∧ (∀ k : Int, 0 ≤ k → k < n → h k = f k) ∧ (0 ≤ n ∧ n ≤ cap ∧ cap ≤ 10) ∧ ((gb g ≤ arr ∧ cap = 10) ∨ (arr = gC g 0 ∧ cap = 0 ∧ arr < gb g))
theorem AL.to {g : GG} {w : WW} {a arr : Nat} {n : Int} {f f' : Int → Option Nat} (h : AL g w a arr n f) (hf : ∀ k : Int, 0 ≤ k → k < n → f k = f' k) : AL g w a arr n f' := by
  obtain ⟨mm, cap, x, h1, h2, h3, h4, h5⟩ := h
  exact ⟨mm, cap, x, h1, h2, fun k a b => (h3 k a b).trans (hf k a b), h4, h5⟩
theorem AL.fr {g : GG} {S : Nat → Prop} {w w' : WW} {a arr : Nat} {n : Int} {f : Int → Option Nat} (h : AL g w a arr n f) (hf : Fr S w w') (h1 : ¬ S a) (h2 : ¬ S arr) : AL g w' a arr n f := by
  obtain ⟨mm, cap, x, g1, g2, g3⟩ := h
  exact ⟨mm, cap, x, g1.fr hf h1, g2.fr hf h2, g3⟩
theorem AL.lt {g : GG} {w : WW} {a arr : Nat} {n : Int} {f : Int → Option Nat} (h : AL g w a arr n f) : a < w.2 ∧ arr < w.2 ∧ 0 ≤ n ∧ n ≤ 10 := by
  obtain ⟨mm, cap, x, g1, g2, g3, g4, g5⟩ := h
  exact ⟨g1.2, g2.lt, by omega, by omega⟩
theorem AL.mo {g : GG} {n0 : Nat} {w w' : WW} {a arr : Nat} {n : Int} {f : Int → Option Nat} (h : AL g w a arr n f) (hm : Mo n0 w w') (h1 : a < n0) (h2 : arr < n0) : AL g w' a arr n f := h.fr hm.fr (by omega) (by omega)
theorem AL.ext {g : GG} {w w' : WW} {a arr : Nat} {n : Int} {f : Int → Option Nat} (h : AL g w a arr n f) (hm : Mo w.2 w w') : AL g w' a arr n f := h.mo hm h.lt.1 h.lt.2.1
theorem AL.ob {g : GG} {w : WW} {a arr : Nat} {n : Int} {f : Int → Option Nat} (h : AL g w a arr n f) : ∃ mm : Int, Ob w a 2 [.int (iI mm), .ref arr, .int (iI n)] := by
  obtain ⟨mm, cap, x, g1, -⟩ := h
  exact ⟨mm, g1⟩
/-- the constants that lists stand on -/
def KL (g : GG) : Prop := Sz g "java/util/ArrayList" "DEFAULTCAPACITY_EMPTY_ELEMENTDATA" "[Ljava/lang/Object;" (.ref (gC g 0)) ∧ gC g 0 < gb g ∧ RA g (gK g, gb g) (gC g 0) 0 (fun _ => none)
