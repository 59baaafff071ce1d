/-! 67.state.lean.txt (written by tools/walker.py)  -/
set_option maxRecDepth 100000
/-! the broker as a whole -/
def OE (w : WW) (se : Option Int) (o : Option Nat) : Prop := (se = none ∧ o = none) ∨ ∃ (e : Int) (a : Nat), se = some e ∧ o = some a ∧ Ob w a 7 [.int (iI e)]
def OR (w : WW) (rj : Option (Int × Int × Int)) (o : Option Nat) : Prop := (rj = none ∧ o = none) ∨ ∃ (r : Int × Int × Int) (a : Nat), rj = some r ∧ o = some a ∧ Ob w a 6 [.int (iI r.1), .int (iI r.2.1), .int (iI r.2.2)]
def OS (g : GG) (w : WW) (hl harr : Nat) (S : Option (Int → Int)) (o : Option Nat) : Prop := (S = none ∧ o = none) ∨ ∃ (Ps : Int → Int) (qs : Nat) (Ls : Int → Nat), S = some Ps ∧ o = some qs ∧ FP g w hl harr qs Ls Ps
/-- what the list of the old parks and the park itself aren't -/
def BO (g : GG) (w : WW) (hl harr ib bb os ob : Nat) (S : Option (Int → Int)) (I O : Tx) (se : Option Int) (rj : Option (Int × Int × Int)) (oS oE oR : Option Nat) : Prop :=
  OS g w hl harr S oS ∧ SB g w ib bb I.1 I.2 ∧ SO g w os ob O.1 O.2 ∧ ob ≠ bb ∧ OE w se oE ∧ OR w rj oR
def BR (g : GG) (w : WW) (x : Nat) (P : Int → Int) (S : Option (Int → Int)) (H : List (Int → Int)) (I O : Tx) (se : Option Int) (rj : Option (Int × Int × Int)) : Prop :=
  ∃ (q hl harr ib bb os ob : Nat) (L : Int → Nat) (oS oE oR : Option Nat) (fH : Int → Option Nat), Ob w x 13 [.ref q, va_rf oS, .ref hl, .ref ib, .ref os, va_rf oE, va_rf oR] ∧ FP g w hl harr q L P ∧ HPs g w hl harr H fH ∧ H.length ≤ 8 ∧ BO g w hl harr ib bb os ob S I O se rj oS oE oR
theorem OE.fr {S : Nat → Prop} {w w' : WW} {se : Option Int} {o : Option Nat} (h : OE w se o) (hf : Fr S w w') (hn : ∀ (b : Nat) (fs : List Value), Ob w b 7 fs → ¬ S b) : OE w' se o := by
  rcases h with h | ⟨e, a, h1, h2, h3⟩
  · exact Or.inl h
  · exact Or.inr ⟨e, a, h1, h2, h3.fr hf (hn _ _ h3)⟩
theorem OR.fr {S : Nat → Prop} {w w' : WW} {rj : Option (Int × Int × Int)} {o : Option Nat} (h : OR w rj o) (hf : Fr S w w') (hn : ∀ (b : Nat) (fs : List Value), Ob w b 6 fs → ¬ S b) : OR w' rj o := by
  rcases h with h | ⟨e, a, h1, h2, h3⟩
  · exact Or.inl h
  · exact Or.inr ⟨e, a, h1, h2, h3.fr hf (hn _ _ h3)⟩
theorem OS.ext {g : GG} {w w' : WW} {hl harr : Nat} {S : Option (Int → Int)} {o : Option Nat} (h : OS g w hl harr S o) (hm : Mo w.2 w w') : OS g w' hl harr S o := by
  rcases h with h | ⟨e, a, l, h1, h2, h3⟩
  · exact Or.inl h
  · exact Or.inr ⟨e, a, l, h1, h2, h3.ext hm⟩
theorem OS.xs {g : GG} {w w' : WW} {x hl harr k : Nat} {fs : List Value} {S0 : Option (Int → Int)} {o : Option Nat} (h : OS g w hl harr S0 o) {S : Nat → Prop} (hf : Fr S w w') (hS : ∀ b, S b → XS g x hl harr b) (hx : Ob w x k fs) (hk : 5 < k) (hg : gb g ≤ x ∧ gb g ≤ hl) : OS g w' hl harr S0 o := by
  rcases h with h | ⟨e, a, l, h1, h2, h3⟩
  · exact Or.inl h
  · exact Or.inr ⟨e, a, l, h1, h2, h3.xs hf hS hx hk hg⟩
theorem OS.arr {g : GG} {w : WW} {hl harr harr' : Nat} {S : Option (Int → Int)} {o : Option Nat} (h : OS g w hl harr S o) (ha : harr' = harr ∨ w.2 ≤ harr') : OS g w hl harr' S o := by
  rcases h with h | ⟨e, a, l, h1, h2, h3⟩
  · exact Or.inl h
  · exact Or.inr ⟨e, a, l, h1, h2, h3.arr ha⟩
section
variable {g : GG} {w w' : WW} {x hl harr ib bb os ob : Nat} {S0 : Option (Int → Int)} {I O : Tx} {se : Option Int} {rj : Option (Int × Int × Int)} {oS oE oR : Option Nat}
theorem BO.ext (h : BO g w hl harr ib bb os ob S0 I O se rj oS oE oR) (hm : Mo w.2 w w') : BO g w' hl harr ib bb os ob S0 I O se rj oS oE oR := by
  obtain ⟨h1, h2, h3, h4, h5, h6⟩ := h
  exact ⟨h1.ext hm, h2.ext hm, h3.ext hm, h4, h5.fr hm.fr (fun b fs hb (q9 : w.2 ≤ b) => absurd hb.2 (Nat.not_lt.mpr q9)), h6.fr hm.fr (fun b fs hb (q9 : w.2 ≤ b) => absurd hb.2 (Nat.not_lt.mpr q9))⟩
theorem BO.arr {harr' : Nat} (h : BO g w hl harr ib bb os ob S0 I O se rj oS oE oR) (ha : harr' = harr ∨ w.2 ≤ harr') : BO g w hl harr' ib bb os ob S0 I O se rj oS oE oR := ⟨h.1.arr ha, h.2⟩
theorem xs_ob {n : Int} {f : Int → Option Nat} {fx : List Value} (hA : AL g w hl harr n f) (hx : Ob w x 13 fx) {b k : Nat} {fs : List Value} (hb : Ob w b k fs) (hk : k ≠ 13 ∧ k ≠ 2) : ¬ XS g x hl harr b := by
  obtain ⟨mm, cap, y, g1, g2, -⟩ := hA
  rintro (q9 | q9 | ⟨q9, -⟩)
  · exact hb.apart hx hk.1 q9
  · exact hb.apart g1 hk.2 q9
  · exact g2.ob_ne hb q9.symm
theorem xs_ba {n : Int} {f : Int → Option Nat} {fx : List Value} (hA : AL g w hl harr n f) (hx : Ob w x 13 fx) {b m : Nat} {y : Int → Int} (hb : BA g w b m y) : ¬ XS g x hl harr b := by
  obtain ⟨mm, cap, y, g1, g2, -⟩ := hA
  rintro (q9 | q9 | ⟨q9, -⟩)
  · exact hb.ob_ne hx q9
  · exact hb.ob_ne g1 q9
  · exact hb.ra_ne g2 q9
theorem BO.xs {n : Int} {f : Int → Option Nat} {fx : List Value} (h : BO g w hl harr ib bb os ob S0 I O se rj oS oE oR) {S : Nat → Prop} (hf : Fr S w w') (hS : ∀ b, S b → XS g x hl harr b) (hx : Ob w x 13 fx) (hA : AL g w hl harr n f) (hg : gb g ≤ x ∧ gb g ≤ hl) : BO g w' hl harr ib bb os ob S0 I O se rj oS oE oR := by
  obtain ⟨h1, ⟨c, m9, y, k1, k2, k3⟩, ⟨u1, u2, k4, k5, k6⟩, h4, h5, h6⟩ := h
  exact ⟨h1.xs hf hS hx (by decide) hg, ⟨c, m9, y, k1.fr hf (fun q => xs_ob hA hx k1 (by decide) (hS _ q)), k2.fr hf (fun q => xs_ba hA hx k2 (hS _ q)), k3⟩,
    ⟨u1, u2, k4.fr hf (fun q => xs_ob hA hx k4 (by decide) (hS _ q)), k5.fr hf (fun q => xs_ba hA hx k5 (hS _ q)), k6⟩, h4, h5.fr hf (fun b fs hb q => xs_ob hA hx hb (by decide) (hS _ q)), h6.fr hf (fun b fs hb q => xs_ob hA hx hb (by decide) (hS _ q))⟩
end
theorem FP.xs2 {g : GG} {w w' : WW} {x hl harr harr' q k : Nat} {fs : List Value} {L : Int → Nat} {P : Int → Int} (h : FP g w hl harr q L P) {S : Nat → Prop} (hf : Fr S w w') (hS : ∀ b, S b → XS g x hl harr b) (hx : Ob w x k fs) (hk : 5 < k) (hg : gb g ≤ x ∧ gb g ≤ hl) (ha : harr' = harr ∨ w.2 ≤ harr') : FP g w' hl harr' q L P := by
  obtain ⟨n0, hK⟩ := h.1
  refine (h.arr ha).fr hf (fun b hb => ?_) (fun b hb => ?_)
  · rcases hS b hb with rfl | rfl | ⟨rfl, h9⟩
    · exact hg.1
    · exact hg.2
    · exact h9
  · rcases hS b hb with rfl | rfl | ⟨rfl, h9⟩
    · exact hK.na hx hk
    · exact h.2.1
    · exact h.2.2
theorem BO.xs2 {g : GG} {w w' : WW} {x hl harr harr' ib bb os ob : Nat} {S0 : Option (Int → Int)} {I O : Tx} {se : Option Int} {rj : Option (Int × Int × Int)} {oS oE oR : Option Nat} {n : Int} {f : Int → Option Nat} {fx : List Value} (h : BO g w hl harr ib bb os ob S0 I O se rj oS oE oR) {S : Nat → Prop} (hf : Fr S w w') (hS : ∀ b, S b → XS g x hl harr b) (hx : Ob w x 13 fx) (hA : AL g w hl harr n f) (hg : gb g ≤ x ∧ gb g ≤ hl) (ha : harr' = harr ∨ w.2 ≤ harr') : BO g w' hl harr' ib bb os ob S0 I O se rj oS oE oR := by
  refine ⟨?_, (h.xs hf hS hx hA hg).2⟩
  rcases h.1 with h1 | ⟨e, a, l, h1, h2, h3⟩
  · exact Or.inl h1
  · exact Or.inr ⟨e, a, l, h1, h2, h3.xs2 hf hS hx (by decide) hg ha⟩
theorem BR.ext {g : GG} {w w' : WW} {x : Nat} {P : Int → Int} {S : Option (Int → Int)} {H : List (Int → Int)} {I O : Tx} {se : Option Int} {rj : Option (Int × Int × Int)} (h : BR g w x P S H I O se rj) (hm : Mo w.2 w w') : BR g w' x P S H I O se rj := by
  obtain ⟨q, hl, harr, ib, bb, os, ob, L, oS, oE, oR, fH, h1, h2, h3, h4, h5⟩ := h
  exact ⟨q, hl, harr, ib, bb, os, ob, L, oS, oE, oR, fH, h1.ext hm, h2.ext hm, h3.ext hm, h4, h5.ext hm⟩
/-- what isn't the broker's: the other model's things, the law's arrays -/
def outE (g : GG) (e : WE) : Prop := (∃ fs, e = .inl (.inr (14, fs))) ∨ (∃ n h, e = .inl (.inl (gA g 0, n, .inl h))) ∨ (∃ c n h, e = .inl (.inl (c, n, .inr (.inl h)))) ∨ (∃ c n h, e = .inl (.inl (c, n, .inr (.inr (.inr (.inl h))))))
def FX (g : GG) (w w' : WW) : Prop := w.2 ≤ w'.2 ∧ ∀ (b : Nat) (e : WE), b < w.2 → w.1 b = some e → outE g e → w'.1 b = some e
theorem FX.tr {g : GG} {w w' w'' : WW} (h : FX g w w') (h' : FX g w' w'') : FX g w w'' := ⟨Nat.le_trans h.1 h'.1, fun b e hb he ho => h'.2 b e (Nat.lt_of_lt_of_le hb h.1) (h.2 b e hb he ho) ho⟩
theorem FX.rf {g : GG} {w : WW} : FX g w w := ⟨Nat.le_refl _, fun _ _ _ h _ => h⟩
theorem FX.mo {g : GG} {w w' : WW} (h : Mo w.2 w w') : FX g w w' := ⟨h.1, fun b e hb he _ => (h.2 b hb hb).trans he⟩
theorem FX.fr {g : GG} {w w' : WW} {S : Nat → Prop} (h : Fr S w w') (hn : ∀ (b : Nat) (e : WE), S b → w.1 b = some e → outE g e → False) : FX g w w' := ⟨h.1, fun b e hb he ho => (h.2 b hb (fun q => hn b e q he ho)).trans he⟩
theorem out_ob {g : GG} {w : WW} {b k : Nat} {fs : List Value} {e : WE} (hb : Ob w b k fs) (he : w.1 b = some e) (ho : outE g e) (hk : k ≠ 14) : False := by
  have h := hb.1.symm.trans he
  rcases ho with ⟨fs, rfl⟩ | ⟨n, h9, rfl⟩ | ⟨c, n, h9, rfl⟩ | ⟨c, n, h9, rfl⟩
  · injection h with h; injection h with h; injection h with h; injection h with h
    exact hk h
  all_goals (injection h with h; injection h with h; cases h)
theorem out_ra {g : GG} {w : WW} {b n : Nat} {f : Int → Option Nat} {e : WE} (hb : RA g w b n f) (he : w.1 b = some e) (ho : outE g e) : False := by
  obtain ⟨x, h1, -⟩ := hb
  have h := h1.1.symm.trans he
  rcases ho with ⟨fs, rfl⟩ | ⟨n, h9, rfl⟩ | ⟨c, n, h9, rfl⟩ | ⟨c, n, h9, rfl⟩
  · injection h with h; injection h with h; cases h
  all_goals (injection h with h; injection h with h; injection h with h; injection h with _ h; injection h with _ h; cases h)
theorem FX.xs {g : GG} {w w' : WW} {x hl harr : Nat} {n : Int} {f : Int → Option Nat} {fx : List Value} {S : Nat → Prop} (h : Fr S w w') (hS : ∀ b, S b → XS g x hl harr b) (hx : Ob w x 13 fx) (hA : AL g w hl harr n f) : FX g w w' := FX.fr h (fun b e q he ho => by
  obtain ⟨mm, cap, y, g1, g2, -⟩ := hA
  rcases hS b q with rfl | rfl | ⟨rfl, -⟩
  · exact out_ob hx he ho (by decide)
  · exact out_ob g1 he ho (by decide)
  · exact out_ra g2 he ho)
theorem k_Z_addBench {g : GG} {w : WW} {x : Nat} {P : Int → Int} {S : Option (Int → Int)} {H : List (Int → Int)} {I O : Tx} {se : Option Int} {rj : Option (Int × Int × Int)} {N : Int} {r c v : Int} (hG : Base g) (hL : KL g) (hX : BR g w x P S H I O se rj) (hB : PB P N) (hN : N + 13000 ≤ 10000000) (hC : PCon P) (hrr : (-2147483648 ≤ r ∧ r < 2147483648)) (hrc : (-2147483648 ≤ c ∧ c < 2147483648)) (hrv : (-2147483648 ≤ v ∧ v < 2147483648)) : Ct g yX1_addBench (.code yX1_addBench cX1_addBench 4 (some .int)) 18 3236 347 1008 w [.ref x, .int (iI r), .int (iI c), .int (iI v)] (fun r_ w1 => ((0 ≤ r ∧ r ≤ 5) ∧ (0 ≤ c ∧ c ≤ 5)) ∧ (1 ≤ v ∧ v ≤ 20) ∧ (cR (98, r, c, v) P).1 = 0 ∧ r_ = some (.int (iI (cV (98, r, c, v) P))) ∧ BR g w1 x (cO (98, r, c, v) P) S (pushH H P) I O se rj ∧ FX g w w1) (fun E a9 w1 => (E = "java/lang/IndexOutOfBoundsException" ∧ ¬ ((0 ≤ r ∧ r ≤ 5) ∧ (0 ≤ c ∧ c ≤ 5)) ∧ w1 = w) ∨ (E = "java/lang/IllegalArgumentException" ∧ ((0 ≤ r ∧ r ≤ 5) ∧ (0 ≤ c ∧ c ≤ 5)) ∧ ¬ (1 ≤ v ∧ v ≤ 20) ∧ w1 = w) ∨ (E = "java/lang/UnsupportedOperationException" ∧ ((0 ≤ r ∧ r ≤ 5) ∧ (0 ≤ c ∧ c ≤ 5)) ∧ (1 ≤ v ∧ v ≤ 20) ∧ (cR (98, r, c, v) P).1 ≠ 0 ∧ BR g w1 x P S H I O se (some ((cR (98, r, c, v) P).1, (cR (98, r, c, v) P).2, 0)) ∧ FX g w w1)) := by
  refine Ct.of (lv := [some _, some _, some _, some _]) hG (by decide +kernel) (Nat.le_of_ble_eq_true rfl) rfl ?_
  intro z hg hpo hxp hnm htab
  subst hg
  obtain ⟨q, hl, harr, ib, bb, os, ob, L, oS, oE, oR, fH, hx, hF, hH, h8, hO⟩ := hX
  obtain ⟨n0, hK⟩ := hF.1
  have hAl := hH.1.lt
  refine xr_ge hx rfl (fun hgx => ?_)
  obtain ⟨mm0, hol0⟩ := hH.1.ob
  refine xr_ge hol0 rfl (fun hgl => ?_)
  have hgb := hB.g
  have hc0 := hK.c0
  refine xr_iload_n dX1_addBench_0 rfl ?_
  refine xr_iload_n dX1_addBench_1 rfl ?_
  refine xr_callS (n9 := 2) (rc' := 347) (rs' := 1008) (k_isCell hG (by omega)) q935 q936 q86 q937 (by decide +kernel) rfl ⟨by decide, Nat.le_of_ble_eq_true rfl⟩ ⟨Nat.le_of_ble_eq_true rfl, Nat.le_of_ble_eq_true rfl⟩ (Nat.le_of_ble_eq_true rfl) dX1_addBench_2 rfl (xk_r ?_) (fun _ _ _ h => h.elim)
  refine xr_callS (n9 := 1) (rc' := 346) (rs' := 1002) (k_requireIndex (b := decide ((0 ≤ r ∧ r ≤ 5) ∧ (0 ≤ c ∧ c ≤ 5))) hG) q939 q940 q86 q941 (by decide +kernel) rfl ⟨by decide, Nat.le_of_ble_eq_true rfl⟩ ⟨Nat.le_of_ble_eq_true rfl, Nat.le_of_ble_eq_true rfl⟩ (Nat.le_of_ble_eq_true rfl) dX1_addBench_5 rfl (xk_req ?_) (xt_req ?_)
  rotate_left
  · skip
    intro q9 hq9
    have hq9 := of_decide_eq_false hq9
    exact xt_out (fun x hx => (htab x hx).elim) (by rw [hxp]; exact Or.inl ⟨rfl, hq9, rfl⟩)
  intro hb9
  have hc1 := of_decide_eq_true hb9
  refine xr_iload_n dX1_addBench_8 rfl ?_
  refine xr_callS (n9 := 1) (rc' := 346) (rs' := 1002) (k_isRent hG (by omega)) q957 q958 q86 q959 (by decide +kernel) rfl ⟨by decide, Nat.le_of_ble_eq_true rfl⟩ ⟨Nat.le_of_ble_eq_true rfl, Nat.le_of_ble_eq_true rfl⟩ (Nat.le_of_ble_eq_true rfl) dX1_addBench_9 rfl (xk_r ?_) (fun _ _ _ h => h.elim)
  refine xr_callS (n9 := 1) (rc' := 345) (rs' := 996) (k_requireArgument (b := decide (1 ≤ v ∧ v ≤ 20)) hG) q960 q961 q86 q962 (by decide +kernel) rfl ⟨by decide, Nat.le_of_ble_eq_true rfl⟩ ⟨Nat.le_of_ble_eq_true rfl, Nat.le_of_ble_eq_true rfl⟩ (Nat.le_of_ble_eq_true rfl) dX1_addBench_12 rfl (xk_req ?_) (xt_req ?_)
  rotate_left
  · skip
    intro q9 hq9
    have hq9 := of_decide_eq_false hq9
    exact xt_out (fun x hx => (htab x hx).elim) (by rw [hxp]; exact Or.inr (Or.inl ⟨rfl, hc1, hq9, rfl⟩))
  intro hb9
  have hc2 := of_decide_eq_true hb9
  refine xr_aload_n dX1_addBench_15 rfl (by first | rfl | exact isRef_rf _) ?_
  refine xr_new (ci := 9) (T := TX6) (N := 4) (n9 := 4) (fs := [.int (iI 0), .int (iI 0), .int (iI 0), .int (iI 0)]) (rc' := 344) (rs' := 992) rfl in_X6 tyX6 tyX6_ok q978 q979 q104 (by intro j hj; rcases (show j = 0 ∨ j = 1 ∨ j = 2 ∨ j = 3 by omega) with rfl | rfl | rfl | rfl <;> rfl) ⟨Nat.le_of_ble_eq_true rfl, Nat.le_of_ble_eq_true rfl⟩ dX1_addBench_16 (fun a16 ga16 hob16 => ?_)
  have hmn16 := Mo.new ga16 ga16 (.inl (.inr (9, [.int (iI 0), .int (iI 0), .int (iI 0), .int (iI 0)])))
  refine xr_dup dX1_addBench_19 (by first | rfl | exact cat_rf _) ?_
  refine xr_bipush dX1_addBench_20 (by decide) ?_
  refine xr_iload_n dX1_addBench_22 rfl ?_
  refine xr_iload_n dX1_addBench_23 rfl ?_
  refine xr_iload_n dX1_addBench_24 rfl ?_
  refine xr_callI (n9 := 4) (rc' := 344) (rs' := 992) (k_Addition_init hG hob16 (by omega)) q980 q981 q104 q982 rfl (by decide +kernel) rfl ⟨by decide, Nat.le_of_ble_eq_true rfl⟩ ⟨Nat.le_of_ble_eq_true rfl, Nat.le_of_ble_eq_true rfl⟩ (Nat.le_of_ble_eq_true rfl) dX1_addBench_25 rfl (fun r w25 hw => ?_) (fun _ _ _ h => h.elim)
  obtain ⟨rfl, hobA, hfA⟩ := hw
  have hmA : Mo w.2 w w25 := hmn16.tr (hfA.mo (n := w.2) (fun y _ (q9 : y = a16) => by omega)) (Nat.le_refl _)
  have hac : cA (98, r, c, v) P = true := decide_eq_true (p := ((0 ≤ r ∧ r ≤ 5) ∧ (0 ≤ c ∧ c ≤ 5)) ∧ (1 ≤ v ∧ v ≤ 20)) ⟨hc1, hc2⟩
  have hsm : cmS (98, r, c, v) := by refine ⟨?_, ?_, ?_, ?_⟩ <;> dsimp only <;> omega
  have hmA1 := hmA.1
  refine xr_callVX (n9 := 1) (rc' := 0) (rs' := 0) (k_X_change (c := (98, r, c, v)) hG hL (hx.ext hmA) (hF.ext hmA) (hH.ext hmA) h8 hB hN hC hac hsm hobA) (hx.ext hmA) rfl q1000 q1002 qs14 q86 q1003 (by decide +kernel) rfl ⟨by decide, Nat.le_of_ble_eq_true rfl⟩ ⟨Nat.le_of_ble_eq_true rfl, Nat.le_of_ble_eq_true rfl⟩ (Nat.le_of_ble_eq_true rfl) dX1_addBench_28 rfl (fun r w28 hw => ?_) ?_
  rotate_left
  · skip
    rintro E r9 w9 ⟨rfl, hr9, r8, hx9, hor9, hg9, hf9⟩
    refine xt_out (fun x hx => (htab x hx).elim) ?_
    rw [hxp]
    have hFX := (FX.mo hmA).tr (FX.xs (x := x) hf9 (fun b hb => Or.inl hb) (hx.ext hmA) (hH.ext hmA).1)
    have hO9 := (hO.ext hmA).xs (x := x) hf9 (fun b hb => Or.inl hb) (hx.ext hmA) (hH.ext hmA).1 ⟨hgx, hgl⟩
    exact Or.inr (Or.inr ⟨rfl, hc1, hc2, hr9, ⟨q, hl, harr, ib, bb, os, ob, L, oS, oE, some r8, fH, hx9, (hF.ext hmA).xs (x := x) hf9 (fun b hb => Or.inl hb) (hx.ext hmA) (by decide) ⟨hgx, hgl⟩, (hH.ext hmA).fx hf9 (hx.ext hmA) (by decide) ⟨hgx, hgl⟩, h8, hO9.1, hO9.2.1, hO9.2.2.1, hO9.2.2.2.1, hO9.2.2.2.2.1, Or.inr ⟨_, r8, rfl, rfl, hor9⟩⟩, hFX⟩)
  obtain ⟨hr9, rfl, q2, L2, arr9, f9, hx9, hH9, har9, hF9, hf9⟩ := hw
  show XJ _ _ _ _ _ _ _ _ _ _ _ _ [.int (iI (cV (98, r, c, v) P))]
  have hFX := (FX.mo hmA).tr (FX.xs hf9 (fun b hb => hb) (hx.ext hmA) (hH.ext hmA).1)
  have hO8 := (hO.ext hmA).xs2 hf9 (fun b hb => hb) (hx.ext hmA) (hH.ext hmA).1 ⟨hgx, hgl⟩ har9
  refine xr_ireturn rfl rfl dX1_addBench_31 ?_
  rw [hpo]
  exact ⟨hc1, hc2, hr9, rfl, ⟨q2, hl, arr9, ib, bb, os, ob, L2, oS, oE, oR, f9, hx9, hF9, hH9, pushH_len h8, hO8⟩, hFX⟩
theorem k_Z_addFountain {g : GG} {w : WW} {x : Nat} {P : Int → Int} {S : Option (Int → Int)} {H : List (Int → Int)} {I O : Tx} {se : Option Int} {rj : Option (Int × Int × Int)} {N : Int} {r c v : Int} (hG : Base g) (hL : KL g) (hX : BR g w x P S H I O se rj) (hB : PB P N) (hN : N + 13000 ≤ 10000000) (hC : PCon P) (hrr : (-2147483648 ≤ r ∧ r < 2147483648)) (hrc : (-2147483648 ≤ c ∧ c < 2147483648)) (hrv : (-2147483648 ≤ v ∧ v < 2147483648)) : Ct g yX1_addFountain (.code yX1_addFountain cX1_addFountain 4 (some .int)) 18 3236 347 1008 w [.ref x, .int (iI r), .int (iI c), .int (iI v)] (fun r_ w1 => ((0 ≤ r ∧ r ≤ 5) ∧ (0 ≤ c ∧ c ≤ 5)) ∧ (1 ≤ v ∧ v ≤ 9) ∧ (cR (102, r, c, v) P).1 = 0 ∧ r_ = some (.int (iI (cV (102, r, c, v) P))) ∧ BR g w1 x (cO (102, r, c, v) P) S (pushH H P) I O se rj ∧ FX g w w1) (fun E a9 w1 => (E = "java/lang/IndexOutOfBoundsException" ∧ ¬ ((0 ≤ r ∧ r ≤ 5) ∧ (0 ≤ c ∧ c ≤ 5)) ∧ w1 = w) ∨ (E = "java/lang/IllegalArgumentException" ∧ ((0 ≤ r ∧ r ≤ 5) ∧ (0 ≤ c ∧ c ≤ 5)) ∧ ¬ (1 ≤ v ∧ v ≤ 9) ∧ w1 = w) ∨ (E = "java/lang/UnsupportedOperationException" ∧ ((0 ≤ r ∧ r ≤ 5) ∧ (0 ≤ c ∧ c ≤ 5)) ∧ (1 ≤ v ∧ v ≤ 9) ∧ (cR (102, r, c, v) P).1 ≠ 0 ∧ BR g w1 x P S H I O se (some ((cR (102, r, c, v) P).1, (cR (102, r, c, v) P).2, 0)) ∧ FX g w w1)) := by
  refine Ct.of (lv := [some _, some _, some _, some _]) hG (by decide +kernel) (Nat.le_of_ble_eq_true rfl) rfl ?_
  intro z hg hpo hxp hnm htab
  subst hg
  obtain ⟨q, hl, harr, ib, bb, os, ob, L, oS, oE, oR, fH, hx, hF, hH, h8, hO⟩ := hX
  obtain ⟨n0, hK⟩ := hF.1
  have hAl := hH.1.lt
  refine xr_ge hx rfl (fun hgx => ?_)
  obtain ⟨mm0, hol0⟩ := hH.1.ob
  refine xr_ge hol0 rfl (fun hgl => ?_)
  have hgb := hB.g
  have hc0 := hK.c0
  refine xr_iload_n dX1_addFountain_0 rfl ?_
  refine xr_iload_n dX1_addFountain_1 rfl ?_
  refine xr_callS (n9 := 2) (rc' := 347) (rs' := 1008) (k_isCell hG (by omega)) q935 q936 q86 q937 (by decide +kernel) rfl ⟨by decide, Nat.le_of_ble_eq_true rfl⟩ ⟨Nat.le_of_ble_eq_true rfl, Nat.le_of_ble_eq_true rfl⟩ (Nat.le_of_ble_eq_true rfl) dX1_addFountain_2 rfl (xk_r ?_) (fun _ _ _ h => h.elim)
  refine xr_callS (n9 := 1) (rc' := 346) (rs' := 1002) (k_requireIndex (b := decide ((0 ≤ r ∧ r ≤ 5) ∧ (0 ≤ c ∧ c ≤ 5))) hG) q939 q940 q86 q941 (by decide +kernel) rfl ⟨by decide, Nat.le_of_ble_eq_true rfl⟩ ⟨Nat.le_of_ble_eq_true rfl, Nat.le_of_ble_eq_true rfl⟩ (Nat.le_of_ble_eq_true rfl) dX1_addFountain_5 rfl (xk_req ?_) (xt_req ?_)
  rotate_left
  · skip
    intro q9 hq9
    have hq9 := of_decide_eq_false hq9
    exact xt_out (fun x hx => (htab x hx).elim) (by rw [hxp]; exact Or.inl ⟨rfl, hq9, rfl⟩)
  intro hb9
  have hc1 := of_decide_eq_true hb9
  refine xr_iload_n dX1_addFountain_8 rfl ?_
  refine xr_callS (n9 := 1) (rc' := 346) (rs' := 1002) (k_isLoudness hG (by omega)) q1208 q1209 q86 q1210 (by decide +kernel) rfl ⟨by decide, Nat.le_of_ble_eq_true rfl⟩ ⟨Nat.le_of_ble_eq_true rfl, Nat.le_of_ble_eq_true rfl⟩ (Nat.le_of_ble_eq_true rfl) dX1_addFountain_9 rfl (xk_r ?_) (fun _ _ _ h => h.elim)
  refine xr_callS (n9 := 1) (rc' := 345) (rs' := 996) (k_requireArgument (b := decide (1 ≤ v ∧ v ≤ 9)) hG) q960 q961 q86 q962 (by decide +kernel) rfl ⟨by decide, Nat.le_of_ble_eq_true rfl⟩ ⟨Nat.le_of_ble_eq_true rfl, Nat.le_of_ble_eq_true rfl⟩ (Nat.le_of_ble_eq_true rfl) dX1_addFountain_12 rfl (xk_req ?_) (xt_req ?_)
  rotate_left
  · skip
    intro q9 hq9
    have hq9 := of_decide_eq_false hq9
    exact xt_out (fun x hx => (htab x hx).elim) (by rw [hxp]; exact Or.inr (Or.inl ⟨rfl, hc1, hq9, rfl⟩))
  intro hb9
  have hc2 := of_decide_eq_true hb9
  refine xr_aload_n dX1_addFountain_15 rfl (by first | rfl | exact isRef_rf _) ?_
  refine xr_new (ci := 9) (T := TX6) (N := 4) (n9 := 4) (fs := [.int (iI 0), .int (iI 0), .int (iI 0), .int (iI 0)]) (rc' := 344) (rs' := 992) rfl in_X6 tyX6 tyX6_ok q978 q979 q104 (by intro j hj; rcases (show j = 0 ∨ j = 1 ∨ j = 2 ∨ j = 3 by omega) with rfl | rfl | rfl | rfl <;> rfl) ⟨Nat.le_of_ble_eq_true rfl, Nat.le_of_ble_eq_true rfl⟩ dX1_addFountain_16 (fun a16 ga16 hob16 => ?_)
  have hmn16 := Mo.new ga16 ga16 (.inl (.inr (9, [.int (iI 0), .int (iI 0), .int (iI 0), .int (iI 0)])))
  refine xr_dup dX1_addFountain_19 (by first | rfl | exact cat_rf _) ?_
  refine xr_bipush dX1_addFountain_20 (by decide) ?_
  refine xr_iload_n dX1_addFountain_22 rfl ?_
  refine xr_iload_n dX1_addFountain_23 rfl ?_
  refine xr_iload_n dX1_addFountain_24 rfl ?_
  refine xr_callI (n9 := 4) (rc' := 344) (rs' := 992) (k_Addition_init hG hob16 (by omega)) q980 q981 q104 q982 rfl (by decide +kernel) rfl ⟨by decide, Nat.le_of_ble_eq_true rfl⟩ ⟨Nat.le_of_ble_eq_true rfl, Nat.le_of_ble_eq_true rfl⟩ (Nat.le_of_ble_eq_true rfl) dX1_addFountain_25 rfl (fun r w25 hw => ?_) (fun _ _ _ h => h.elim)
  obtain ⟨rfl, hobA, hfA⟩ := hw
  have hmA : Mo w.2 w w25 := hmn16.tr (hfA.mo (n := w.2) (fun y _ (q9 : y = a16) => by omega)) (Nat.le_refl _)
  have hac : cA (102, r, c, v) P = true := decide_eq_true (p := ((0 ≤ r ∧ r ≤ 5) ∧ (0 ≤ c ∧ c ≤ 5)) ∧ (1 ≤ v ∧ v ≤ 9)) ⟨hc1, hc2⟩
  have hsm : cmS (102, r, c, v) := by refine ⟨?_, ?_, ?_, ?_⟩ <;> dsimp only <;> omega
  have hmA1 := hmA.1
  refine xr_callVX (n9 := 1) (rc' := 0) (rs' := 0) (k_X_change (c := (102, r, c, v)) hG hL (hx.ext hmA) (hF.ext hmA) (hH.ext hmA) h8 hB hN hC hac hsm hobA) (hx.ext hmA) rfl q1000 q1002 qs14 q86 q1003 (by decide +kernel) rfl ⟨by decide, Nat.le_of_ble_eq_true rfl⟩ ⟨Nat.le_of_ble_eq_true rfl, Nat.le_of_ble_eq_true rfl⟩ (Nat.le_of_ble_eq_true rfl) dX1_addFountain_28 rfl (fun r w28 hw => ?_) ?_
  rotate_left
  · skip
    rintro E r9 w9 ⟨rfl, hr9, r8, hx9, hor9, hg9, hf9⟩
    refine xt_out (fun x hx => (htab x hx).elim) ?_
    rw [hxp]
    have hFX := (FX.mo hmA).tr (FX.xs (x := x) hf9 (fun b hb => Or.inl hb) (hx.ext hmA) (hH.ext hmA).1)
    have hO9 := (hO.ext hmA).xs (x := x) hf9 (fun b hb => Or.inl hb) (hx.ext hmA) (hH.ext hmA).1 ⟨hgx, hgl⟩
    exact Or.inr (Or.inr ⟨rfl, hc1, hc2, hr9, ⟨q, hl, harr, ib, bb, os, ob, L, oS, oE, some r8, fH, hx9, (hF.ext hmA).xs (x := x) hf9 (fun b hb => Or.inl hb) (hx.ext hmA) (by decide) ⟨hgx, hgl⟩, (hH.ext hmA).fx hf9 (hx.ext hmA) (by decide) ⟨hgx, hgl⟩, h8, hO9.1, hO9.2.1, hO9.2.2.1, hO9.2.2.2.1, hO9.2.2.2.2.1, Or.inr ⟨_, r8, rfl, rfl, hor9⟩⟩, hFX⟩)
  obtain ⟨hr9, rfl, q2, L2, arr9, f9, hx9, hH9, har9, hF9, hf9⟩ := hw
  show XJ _ _ _ _ _ _ _ _ _ _ _ _ [.int (iI (cV (102, r, c, v) P))]
  have hFX := (FX.mo hmA).tr (FX.xs hf9 (fun b hb => hb) (hx.ext hmA) (hH.ext hmA).1)
  have hO8 := (hO.ext hmA).xs2 hf9 (fun b hb => hb) (hx.ext hmA) (hH.ext hmA).1 ⟨hgx, hgl⟩ har9
  refine xr_ireturn rfl rfl dX1_addFountain_31 ?_
  rw [hpo]
  exact ⟨hc1, hc2, hr9, rfl, ⟨q2, hl, arr9, ib, bb, os, ob, L2, oS, oE, oR, f9, hx9, hF9, hH9, pushH_len h8, hO8⟩, hFX⟩
theorem k_Z_addTenant {g : GG} {w : WW} {x : Nat} {P : Int → Int} {S : Option (Int → Int)} {H : List (Int → Int)} {I O : Tx} {se : Option Int} {rj : Option (Int × Int × Int)} {N : Int} {v : Int} (hG : Base g) (hL : KL g) (hX : BR g w x P S H I O se rj) (hB : PB P N) (hN : N + 13000 ≤ 10000000) (hC : PCon P) (hrv : (-2147483648 ≤ v ∧ v < 2147483648)) : Ct g yX1_addTenant (.code yX1_addTenant cX1_addTenant 2 (some .int)) 18 3236 346 1002 w [.ref x, .int (iI v)] (fun r_ w1 => (True) ∧ (0 ≤ v ∧ v ≤ 99) ∧ (cR (116, v, 0, 0) P).1 = 0 ∧ r_ = some (.int (iI (cV (116, v, 0, 0) P))) ∧ BR g w1 x (cO (116, v, 0, 0) P) S (pushH H P) I O se rj ∧ FX g w w1) (fun E a9 w1 => (E = "java/lang/IndexOutOfBoundsException" ∧ ¬ (True) ∧ w1 = w) ∨ (E = "java/lang/IllegalArgumentException" ∧ (True) ∧ ¬ (0 ≤ v ∧ v ≤ 99) ∧ w1 = w) ∨ (E = "java/lang/UnsupportedOperationException" ∧ (True) ∧ (0 ≤ v ∧ v ≤ 99) ∧ (cR (116, v, 0, 0) P).1 ≠ 0 ∧ BR g w1 x P S H I O se (some ((cR (116, v, 0, 0) P).1, (cR (116, v, 0, 0) P).2, 0)) ∧ FX g w w1)) := by
  refine Ct.of (lv := [some _, some _]) hG (by decide +kernel) (Nat.le_of_ble_eq_true rfl) rfl ?_
  intro z hg hpo hxp hnm htab
  subst hg
  obtain ⟨q, hl, harr, ib, bb, os, ob, L, oS, oE, oR, fH, hx, hF, hH, h8, hO⟩ := hX
  obtain ⟨n0, hK⟩ := hF.1
  have hAl := hH.1.lt
  refine xr_ge hx rfl (fun hgx => ?_)
  obtain ⟨mm0, hol0⟩ := hH.1.ob
  refine xr_ge hol0 rfl (fun hgl => ?_)
  have hgb := hB.g
  have hc0 := hK.c0
  refine xr_iload_n dX1_addTenant_0 rfl ?_
  refine xr_callS (n9 := 1) (rc' := 346) (rs' := 1002) (k_isPurse hG (by omega)) q1338 q1339 q86 q1340 (by decide +kernel) rfl ⟨by decide, Nat.le_of_ble_eq_true rfl⟩ ⟨Nat.le_of_ble_eq_true rfl, Nat.le_of_ble_eq_true rfl⟩ (Nat.le_of_ble_eq_true rfl) dX1_addTenant_1 rfl (xk_r ?_) (fun _ _ _ h => h.elim)
  refine xr_callS (n9 := 1) (rc' := 345) (rs' := 996) (k_requireArgument (b := decide (0 ≤ v ∧ v ≤ 99)) hG) q960 q961 q86 q962 (by decide +kernel) rfl ⟨by decide, Nat.le_of_ble_eq_true rfl⟩ ⟨Nat.le_of_ble_eq_true rfl, Nat.le_of_ble_eq_true rfl⟩ (Nat.le_of_ble_eq_true rfl) dX1_addTenant_4 rfl (xk_req ?_) (xt_req ?_)
  rotate_left
  · skip
    intro q9 hq9
    have hq9 := of_decide_eq_false hq9
    exact xt_out (fun x hx => (htab x hx).elim) (by rw [hxp]; exact Or.inr (Or.inl ⟨rfl, trivial, hq9, rfl⟩))
  intro hb9
  have hc2 := of_decide_eq_true hb9
  refine xr_aload_n dX1_addTenant_7 rfl (by first | rfl | exact isRef_rf _) ?_
  refine xr_new (ci := 9) (T := TX6) (N := 4) (n9 := 4) (fs := [.int (iI 0), .int (iI 0), .int (iI 0), .int (iI 0)]) (rc' := 344) (rs' := 992) rfl in_X6 tyX6 tyX6_ok q978 q979 q104 (by intro j hj; rcases (show j = 0 ∨ j = 1 ∨ j = 2 ∨ j = 3 by omega) with rfl | rfl | rfl | rfl <;> rfl) ⟨Nat.le_of_ble_eq_true rfl, Nat.le_of_ble_eq_true rfl⟩ dX1_addTenant_8 (fun a8 ga8 hob8 => ?_)
  have hmn8 := Mo.new ga8 ga8 (.inl (.inr (9, [.int (iI 0), .int (iI 0), .int (iI 0), .int (iI 0)])))
  refine xr_dup dX1_addTenant_11 (by first | rfl | exact cat_rf _) ?_
  refine xr_bipush dX1_addTenant_12 (by decide) ?_
  refine xr_iconst dX1_addTenant_14 ?_
  refine xr_iconst dX1_addTenant_15 ?_
  refine xr_iload_n dX1_addTenant_16 rfl ?_
  refine xr_callI (n9 := 4) (rc' := 344) (rs' := 992) (k_Addition_init hG hob8 (by omega)) q980 q981 q104 q982 rfl (by decide +kernel) rfl ⟨by decide, Nat.le_of_ble_eq_true rfl⟩ ⟨Nat.le_of_ble_eq_true rfl, Nat.le_of_ble_eq_true rfl⟩ (Nat.le_of_ble_eq_true rfl) dX1_addTenant_17 rfl (fun r w17 hw => ?_) (fun _ _ _ h => h.elim)
  obtain ⟨rfl, hobA, hfA⟩ := hw
  have hmA : Mo w.2 w w17 := hmn8.tr (hfA.mo (n := w.2) (fun y _ (q9 : y = a8) => by omega)) (Nat.le_refl _)
  have hac : cA (116, v, 0, 0) P = true := decide_eq_true (p := 0 ≤ v ∧ v ≤ 99) hc2
  have hsm : cmS (116, v, 0, 0) := by refine ⟨?_, ?_, ?_, ?_⟩ <;> dsimp only <;> omega
  have hmA1 := hmA.1
  refine xr_callVX (n9 := 1) (rc' := 0) (rs' := 0) (k_X_change (c := (116, v, 0, 0)) hG hL (hx.ext hmA) (hF.ext hmA) (hH.ext hmA) h8 hB hN hC hac hsm hobA) (hx.ext hmA) rfl q1000 q1002 qs14 q86 q1003 (by decide +kernel) rfl ⟨by decide, Nat.le_of_ble_eq_true rfl⟩ ⟨Nat.le_of_ble_eq_true rfl, Nat.le_of_ble_eq_true rfl⟩ (Nat.le_of_ble_eq_true rfl) dX1_addTenant_20 rfl (fun r w20 hw => ?_) ?_
  rotate_left
  · skip
    rintro E r9 w9 ⟨rfl, hr9, r8, hx9, hor9, hg9, hf9⟩
    refine xt_out (fun x hx => (htab x hx).elim) ?_
    rw [hxp]
    have hFX := (FX.mo hmA).tr (FX.xs (x := x) hf9 (fun b hb => Or.inl hb) (hx.ext hmA) (hH.ext hmA).1)
    have hO9 := (hO.ext hmA).xs (x := x) hf9 (fun b hb => Or.inl hb) (hx.ext hmA) (hH.ext hmA).1 ⟨hgx, hgl⟩
    exact Or.inr (Or.inr ⟨rfl, trivial, hc2, hr9, ⟨q, hl, harr, ib, bb, os, ob, L, oS, oE, some r8, fH, hx9, (hF.ext hmA).xs (x := x) hf9 (fun b hb => Or.inl hb) (hx.ext hmA) (by decide) ⟨hgx, hgl⟩, (hH.ext hmA).fx hf9 (hx.ext hmA) (by decide) ⟨hgx, hgl⟩, h8, hO9.1, hO9.2.1, hO9.2.2.1, hO9.2.2.2.1, hO9.2.2.2.2.1, Or.inr ⟨_, r8, rfl, rfl, hor9⟩⟩, hFX⟩)
  obtain ⟨hr9, rfl, q2, L2, arr9, f9, hx9, hH9, har9, hF9, hf9⟩ := hw
  show XJ _ _ _ _ _ _ _ _ _ _ _ _ [.int (iI (cV (116, v, 0, 0) P))]
  have hFX := (FX.mo hmA).tr (FX.xs hf9 (fun b hb => hb) (hx.ext hmA) (hH.ext hmA).1)
  have hO8 := (hO.ext hmA).xs2 hf9 (fun b hb => hb) (hx.ext hmA) (hH.ext hmA).1 ⟨hgx, hgl⟩ har9
  refine xr_ireturn rfl rfl dX1_addTenant_23 ?_
  rw [hpo]
  exact ⟨trivial, hc2, hr9, rfl, ⟨q2, hl, arr9, ib, bb, os, ob, L2, oS, oE, oR, f9, hx9, hF9, hH9, pushH_len h8, hO8⟩, hFX⟩
theorem k_Z_giveCoins {g : GG} {w : WW} {x : Nat} {P : Int → Int} {S : Option (Int → Int)} {H : List (Int → Int)} {I O : Tx} {se : Option Int} {rj : Option (Int × Int × Int)} {N : Int} {t v : Int} (hG : Base g) (hL : KL g) (hX : BR g w x P S H I O se rj) (hB : PB P N) (hN : N + 13000 ≤ 10000000) (hC : PCon P) (hrt : (-2147483648 ≤ t ∧ t < 2147483648)) (hrv : (-2147483648 ≤ v ∧ v < 2147483648)) : Ct g yX1_giveCoins (.code yX1_giveCoins cX1_giveCoins 3 (some .int)) 18 3236 347 1008 w [.ref x, .int (iI t), .int (iI v)] (fun r_ w1 => (0 ≤ t ∧ t < P 2) ∧ (1 ≤ v ∧ v ≤ 99) ∧ (cR (103, t, v, 0) P).1 = 0 ∧ r_ = some (.int (iI (cV (103, t, v, 0) P))) ∧ BR g w1 x (cO (103, t, v, 0) P) S (pushH H P) I O se rj ∧ FX g w w1) (fun E a9 w1 => (E = "java/lang/IndexOutOfBoundsException" ∧ ¬ (0 ≤ t ∧ t < P 2) ∧ w1 = w) ∨ (E = "java/lang/IllegalArgumentException" ∧ (0 ≤ t ∧ t < P 2) ∧ ¬ (1 ≤ v ∧ v ≤ 99) ∧ w1 = w) ∨ (E = "java/lang/UnsupportedOperationException" ∧ (0 ≤ t ∧ t < P 2) ∧ (1 ≤ v ∧ v ≤ 99) ∧ (cR (103, t, v, 0) P).1 ≠ 0 ∧ BR g w1 x P S H I O se (some ((cR (103, t, v, 0) P).1, (cR (103, t, v, 0) P).2, 0)) ∧ FX g w w1)) := by
  refine Ct.of (lv := [some _, some _, some _]) hG (by decide +kernel) (Nat.le_of_ble_eq_true rfl) rfl ?_
  intro z hg hpo hxp hnm htab
  subst hg
  obtain ⟨q, hl, harr, ib, bb, os, ob, L, oS, oE, oR, fH, hx, hF, hH, h8, hO⟩ := hX
  obtain ⟨n0, hK⟩ := hF.1
  have hAl := hH.1.lt
  refine xr_ge hx rfl (fun hgx => ?_)
  obtain ⟨mm0, hol0⟩ := hH.1.ob
  refine xr_ge hol0 rfl (fun hgl => ?_)
  have hgb := hB.g
  have hc0 := hK.c0
  refine xr_aload_n dX1_giveCoins_0 rfl (by first | rfl | exact isRef_rf _) ?_
  refine xr_getfield (ci := 13) (T := TX1) (N := 7) (i := 0) hx rfl (by decide) in_X1 q267 (.inl rfl) dX1_giveCoins_1 (by rfl) ?_
  refine xr_getfieldN (ci := 0) (T := TX2) (N := 10) (i := 2) hK.hq rfl (by decide) in_X2 q195 (.inl rfl) dX1_giveCoins_4 (by rfl) ?_
  refine xr_iload_n dX1_giveCoins_7 rfl ?_
  refine xr_callV (n9 := 1) (rc' := 347) (rs' := 1008) (k_Reg_has hG hK.r2 hK.l2 (by omega)) hK.r2 rfl q1192 q1193 q1194 q88 q1195 (by decide +kernel) rfl ⟨by decide, Nat.le_of_ble_eq_true rfl⟩ ⟨Nat.le_of_ble_eq_true rfl, Nat.le_of_ble_eq_true rfl⟩ (Nat.le_of_ble_eq_true rfl) dX1_giveCoins_8 rfl (xk_r ?_) (fun _ _ _ h => h.elim)
  refine xr_callS (n9 := 1) (rc' := 346) (rs' := 1002) (k_requireIndex (b := decide (0 ≤ t ∧ t < P 2)) hG) q939 q940 q86 q941 (by decide +kernel) rfl ⟨by decide, Nat.le_of_ble_eq_true rfl⟩ ⟨Nat.le_of_ble_eq_true rfl, Nat.le_of_ble_eq_true rfl⟩ (Nat.le_of_ble_eq_true rfl) dX1_giveCoins_11 rfl (xk_req ?_) (xt_req ?_)
  rotate_left
  · skip
    intro q9 hq9
    have hq9 := of_decide_eq_false hq9
    exact xt_out (fun x hx => (htab x hx).elim) (by rw [hxp]; exact Or.inl ⟨rfl, hq9, rfl⟩)
  intro hb9
  have hc1 := of_decide_eq_true hb9
  refine xr_iload_n dX1_giveCoins_14 rfl ?_
  refine xr_callS (n9 := 1) (rc' := 346) (rs' := 1002) (k_isGift hG (by omega)) q1348 q1349 q86 q1350 (by decide +kernel) rfl ⟨by decide, Nat.le_of_ble_eq_true rfl⟩ ⟨Nat.le_of_ble_eq_true rfl, Nat.le_of_ble_eq_true rfl⟩ (Nat.le_of_ble_eq_true rfl) dX1_giveCoins_15 rfl (xk_r ?_) (fun _ _ _ h => h.elim)
  refine xr_callS (n9 := 1) (rc' := 345) (rs' := 996) (k_requireArgument (b := decide (1 ≤ v ∧ v ≤ 99)) hG) q960 q961 q86 q962 (by decide +kernel) rfl ⟨by decide, Nat.le_of_ble_eq_true rfl⟩ ⟨Nat.le_of_ble_eq_true rfl, Nat.le_of_ble_eq_true rfl⟩ (Nat.le_of_ble_eq_true rfl) dX1_giveCoins_18 rfl (xk_req ?_) (xt_req ?_)
  rotate_left
  · skip
    intro q9 hq9
    have hq9 := of_decide_eq_false hq9
    exact xt_out (fun x hx => (htab x hx).elim) (by rw [hxp]; exact Or.inr (Or.inl ⟨rfl, hc1, hq9, rfl⟩))
  intro hb9
  have hc2 := of_decide_eq_true hb9
  refine xr_aload_n dX1_giveCoins_21 rfl (by first | rfl | exact isRef_rf _) ?_
  refine xr_new (ci := 11) (T := TX13) (N := 4) (n9 := 4) (fs := [.int (iI 0), .int (iI 0), .int (iI 0), .int (iI 0)]) (rc' := 344) (rs' := 992) rfl in_X13 tyX13 tyX13_ok q1229 q1230 q118 (by intro j hj; rcases (show j = 0 ∨ j = 1 ∨ j = 2 ∨ j = 3 by omega) with rfl | rfl | rfl | rfl <;> rfl) ⟨Nat.le_of_ble_eq_true rfl, Nat.le_of_ble_eq_true rfl⟩ dX1_giveCoins_22 (fun a22 ga22 hob22 => ?_)
  have hmn22 := Mo.new ga22 ga22 (.inl (.inr (11, [.int (iI 0), .int (iI 0), .int (iI 0), .int (iI 0)])))
  refine xr_dup dX1_giveCoins_25 (by first | rfl | exact cat_rf _) ?_
  refine xr_bipush dX1_giveCoins_26 (by decide) ?_
  refine xr_iload_n dX1_giveCoins_28 rfl ?_
  refine xr_iload_n dX1_giveCoins_29 rfl ?_
  refine xr_callI (n9 := 3) (rc' := 344) (rs' := 992) (k_PlainAction_init hG hob22 (by omega)) q1231 q1232 q118 q1233 rfl (by decide +kernel) rfl ⟨by decide, Nat.le_of_ble_eq_true rfl⟩ ⟨Nat.le_of_ble_eq_true rfl, Nat.le_of_ble_eq_true rfl⟩ (Nat.le_of_ble_eq_true rfl) dX1_giveCoins_30 rfl (fun r w30 hw => ?_) (fun _ _ _ h => h.elim)
  obtain ⟨rfl, hobA, hfA⟩ := hw
  have hmA : Mo w.2 w w30 := hmn22.tr (hfA.mo (n := w.2) (fun y _ (q9 : y = a22) => by omega)) (Nat.le_refl _)
  have hac : cA (103, t, v, 0) P = true := decide_eq_true (p := (0 ≤ t ∧ t < P 2) ∧ (1 ≤ v ∧ v ≤ 99)) ⟨hc1, hc2⟩
  have hsm : cmS (103, t, v, 0) := by refine ⟨?_, ?_, ?_, ?_⟩ <;> dsimp only <;> omega
  have hmA1 := hmA.1
  refine xr_callVX (n9 := 1) (rc' := 0) (rs' := 0) (k_X_change (c := (103, t, v, 0)) hG hL (hx.ext hmA) (hF.ext hmA) (hH.ext hmA) h8 hB hN hC hac hsm hobA) (hx.ext hmA) rfl q1000 q1002 qs14 q86 q1003 (by decide +kernel) rfl ⟨by decide, Nat.le_of_ble_eq_true rfl⟩ ⟨Nat.le_of_ble_eq_true rfl, Nat.le_of_ble_eq_true rfl⟩ (Nat.le_of_ble_eq_true rfl) dX1_giveCoins_33 rfl (fun r w33 hw => ?_) ?_
  rotate_left
  · skip
    rintro E r9 w9 ⟨rfl, hr9, r8, hx9, hor9, hg9, hf9⟩
    refine xt_out (fun x hx => (htab x hx).elim) ?_
    rw [hxp]
    have hFX := (FX.mo hmA).tr (FX.xs (x := x) hf9 (fun b hb => Or.inl hb) (hx.ext hmA) (hH.ext hmA).1)
    have hO9 := (hO.ext hmA).xs (x := x) hf9 (fun b hb => Or.inl hb) (hx.ext hmA) (hH.ext hmA).1 ⟨hgx, hgl⟩
    exact Or.inr (Or.inr ⟨rfl, hc1, hc2, hr9, ⟨q, hl, harr, ib, bb, os, ob, L, oS, oE, some r8, fH, hx9, (hF.ext hmA).xs (x := x) hf9 (fun b hb => Or.inl hb) (hx.ext hmA) (by decide) ⟨hgx, hgl⟩, (hH.ext hmA).fx hf9 (hx.ext hmA) (by decide) ⟨hgx, hgl⟩, h8, hO9.1, hO9.2.1, hO9.2.2.1, hO9.2.2.2.1, hO9.2.2.2.2.1, Or.inr ⟨_, r8, rfl, rfl, hor9⟩⟩, hFX⟩)
  obtain ⟨hr9, rfl, q2, L2, arr9, f9, hx9, hH9, har9, hF9, hf9⟩ := hw
  show XJ _ _ _ _ _ _ _ _ _ _ _ _ [.int (iI (cV (103, t, v, 0) P))]
  have hFX := (FX.mo hmA).tr (FX.xs hf9 (fun b hb => hb) (hx.ext hmA) (hH.ext hmA).1)
  have hO8 := (hO.ext hmA).xs2 hf9 (fun b hb => hb) (hx.ext hmA) (hH.ext hmA).1 ⟨hgx, hgl⟩ har9
  refine xr_ireturn rfl rfl dX1_giveCoins_36 ?_
  rw [hpo]
  exact ⟨hc1, hc2, hr9, rfl, ⟨q2, hl, arr9, ib, bb, os, ob, L2, oS, oE, oR, f9, hx9, hF9, hH9, pushH_len h8, hO8⟩, hFX⟩
theorem k_Z_switchFountain {g : GG} {w : WW} {x : Nat} {P : Int → Int} {S : Option (Int → Int)} {H : List (Int → Int)} {I O : Tx} {se : Option Int} {rj : Option (Int × Int × Int)} {N : Int} {f : Int} (hG : Base g) (hL : KL g) (hX : BR g w x P S H I O se rj) (hB : PB P N) (hN : N + 13000 ≤ 10000000) (hC : PCon P) (hrf : (-2147483648 ≤ f ∧ f < 2147483648)) : Ct g yX1_switchFountain (.code yX1_switchFountain cX1_switchFountain 2 (some .boolean)) 18 3236 346 1002 w [.ref x, .int (iI f)] (fun r_ w1 => (0 ≤ f ∧ f < P 1) ∧ (True) ∧ (cR (115, f, 0, 0) P).1 = 0 ∧ r_ = some (.int (iI (cV (115, f, 0, 0) P))) ∧ BR g w1 x (cO (115, f, 0, 0) P) S (pushH H P) I O se rj ∧ FX g w w1) (fun E a9 w1 => (E = "java/lang/IndexOutOfBoundsException" ∧ ¬ (0 ≤ f ∧ f < P 1) ∧ w1 = w) ∨ (E = "java/lang/IllegalArgumentException" ∧ (0 ≤ f ∧ f < P 1) ∧ ¬ (True) ∧ w1 = w) ∨ (E = "java/lang/UnsupportedOperationException" ∧ (0 ≤ f ∧ f < P 1) ∧ (True) ∧ (cR (115, f, 0, 0) P).1 ≠ 0 ∧ BR g w1 x P S H I O se (some ((cR (115, f, 0, 0) P).1, (cR (115, f, 0, 0) P).2, 0)) ∧ FX g w w1)) := by
  refine Ct.of (lv := [some _, some _]) hG (by decide +kernel) (Nat.le_of_ble_eq_true rfl) rfl ?_
  intro z hg hpo hxp hnm htab
  subst hg
  obtain ⟨q, hl, harr, ib, bb, os, ob, L, oS, oE, oR, fH, hx, hF, hH, h8, hO⟩ := hX
  obtain ⟨n0, hK⟩ := hF.1
  have hAl := hH.1.lt
  refine xr_ge hx rfl (fun hgx => ?_)
  obtain ⟨mm0, hol0⟩ := hH.1.ob
  refine xr_ge hol0 rfl (fun hgl => ?_)
  have hgb := hB.g
  have hc0 := hK.c0
  refine xr_aload_n dX1_switchFountain_0 rfl (by first | rfl | exact isRef_rf _) ?_
  refine xr_getfield (ci := 13) (T := TX1) (N := 7) (i := 0) hx rfl (by decide) in_X1 q267 (.inl rfl) dX1_switchFountain_1 (by rfl) ?_
  refine xr_getfieldN (ci := 0) (T := TX2) (N := 10) (i := 1) hK.hq rfl (by decide) in_X2 q191 (.inl rfl) dX1_switchFountain_4 (by rfl) ?_
  refine xr_iload_n dX1_switchFountain_7 rfl ?_
  refine xr_callV (n9 := 1) (rc' := 346) (rs' := 1002) (k_Reg_has hG hK.r1 hK.l1 (by omega)) hK.r1 rfl q1192 q1193 q1194 q88 q1195 (by decide +kernel) rfl ⟨by decide, Nat.le_of_ble_eq_true rfl⟩ ⟨Nat.le_of_ble_eq_true rfl, Nat.le_of_ble_eq_true rfl⟩ (Nat.le_of_ble_eq_true rfl) dX1_switchFountain_8 rfl (xk_r ?_) (fun _ _ _ h => h.elim)
  refine xr_callS (n9 := 1) (rc' := 345) (rs' := 996) (k_requireIndex (b := decide (0 ≤ f ∧ f < P 1)) hG) q939 q940 q86 q941 (by decide +kernel) rfl ⟨by decide, Nat.le_of_ble_eq_true rfl⟩ ⟨Nat.le_of_ble_eq_true rfl, Nat.le_of_ble_eq_true rfl⟩ (Nat.le_of_ble_eq_true rfl) dX1_switchFountain_11 rfl (xk_req ?_) (xt_req ?_)
  rotate_left
  · skip
    intro q9 hq9
    have hq9 := of_decide_eq_false hq9
    exact xt_out (fun x hx => (htab x hx).elim) (by rw [hxp]; exact Or.inl ⟨rfl, hq9, rfl⟩)
  intro hb9
  have hc1 := of_decide_eq_true hb9
  refine xr_aload_n dX1_switchFountain_14 rfl (by first | rfl | exact isRef_rf _) ?_
  refine xr_new (ci := 11) (T := TX13) (N := 4) (n9 := 4) (fs := [.int (iI 0), .int (iI 0), .int (iI 0), .int (iI 0)]) (rc' := 344) (rs' := 992) rfl in_X13 tyX13 tyX13_ok q1229 q1230 q118 (by intro j hj; rcases (show j = 0 ∨ j = 1 ∨ j = 2 ∨ j = 3 by omega) with rfl | rfl | rfl | rfl <;> rfl) ⟨Nat.le_of_ble_eq_true rfl, Nat.le_of_ble_eq_true rfl⟩ dX1_switchFountain_15 (fun a15 ga15 hob15 => ?_)
  have hmn15 := Mo.new ga15 ga15 (.inl (.inr (11, [.int (iI 0), .int (iI 0), .int (iI 0), .int (iI 0)])))
  refine xr_dup dX1_switchFountain_18 (by first | rfl | exact cat_rf _) ?_
  refine xr_bipush dX1_switchFountain_19 (by decide) ?_
  refine xr_iload_n dX1_switchFountain_21 rfl ?_
  refine xr_iconst dX1_switchFountain_22 ?_
  refine xr_callI (n9 := 3) (rc' := 344) (rs' := 992) (k_PlainAction_init hG hob15 (by omega)) q1231 q1232 q118 q1233 rfl (by decide +kernel) rfl ⟨by decide, Nat.le_of_ble_eq_true rfl⟩ ⟨Nat.le_of_ble_eq_true rfl, Nat.le_of_ble_eq_true rfl⟩ (Nat.le_of_ble_eq_true rfl) dX1_switchFountain_23 rfl (fun r w23 hw => ?_) (fun _ _ _ h => h.elim)
  obtain ⟨rfl, hobA, hfA⟩ := hw
  have hmA : Mo w.2 w w23 := hmn15.tr (hfA.mo (n := w.2) (fun y _ (q9 : y = a15) => by omega)) (Nat.le_refl _)
  have hac : cA (115, f, 0, 0) P = true := decide_eq_true (p := 0 ≤ f ∧ f < P 1) hc1
  have hsm : cmS (115, f, 0, 0) := by refine ⟨?_, ?_, ?_, ?_⟩ <;> dsimp only <;> omega
  have hmA1 := hmA.1
  refine xr_callVX (n9 := 1) (rc' := 0) (rs' := 0) (k_X_change (c := (115, f, 0, 0)) hG hL (hx.ext hmA) (hF.ext hmA) (hH.ext hmA) h8 hB hN hC hac hsm hobA) (hx.ext hmA) rfl q1000 q1002 qs14 q86 q1003 (by decide +kernel) rfl ⟨by decide, Nat.le_of_ble_eq_true rfl⟩ ⟨Nat.le_of_ble_eq_true rfl, Nat.le_of_ble_eq_true rfl⟩ (Nat.le_of_ble_eq_true rfl) dX1_switchFountain_26 rfl (fun r w26 hw => ?_) ?_
  rotate_left
  · skip
    rintro E r9 w9 ⟨rfl, hr9, r8, hx9, hor9, hg9, hf9⟩
    refine xt_out (fun x hx => (htab x hx).elim) ?_
    rw [hxp]
    have hFX := (FX.mo hmA).tr (FX.xs (x := x) hf9 (fun b hb => Or.inl hb) (hx.ext hmA) (hH.ext hmA).1)
    have hO9 := (hO.ext hmA).xs (x := x) hf9 (fun b hb => Or.inl hb) (hx.ext hmA) (hH.ext hmA).1 ⟨hgx, hgl⟩
    exact Or.inr (Or.inr ⟨rfl, hc1, trivial, hr9, ⟨q, hl, harr, ib, bb, os, ob, L, oS, oE, some r8, fH, hx9, (hF.ext hmA).xs (x := x) hf9 (fun b hb => Or.inl hb) (hx.ext hmA) (by decide) ⟨hgx, hgl⟩, (hH.ext hmA).fx hf9 (hx.ext hmA) (by decide) ⟨hgx, hgl⟩, h8, hO9.1, hO9.2.1, hO9.2.2.1, hO9.2.2.2.1, hO9.2.2.2.2.1, Or.inr ⟨_, r8, rfl, rfl, hor9⟩⟩, hFX⟩)
  obtain ⟨hr9, rfl, q2, L2, arr9, f9, hx9, hH9, har9, hF9, hf9⟩ := hw
  show XJ _ _ _ _ _ _ _ _ _ _ _ _ [.int (iI (cV (115, f, 0, 0) P))]
  have hFX := (FX.mo hmA).tr (FX.xs hf9 (fun b hb => hb) (hx.ext hmA) (hH.ext hmA).1)
  have hO8 := (hO.ext hmA).xs2 hf9 (fun b hb => hb) (hx.ext hmA) (hH.ext hmA).1 ⟨hgx, hgl⟩ har9
  have hcv : cV (115, f, 0, 0) P = 1 - P (73 + 4 * f) := rfl
  have hff := hB.f (f := f) hc1
  refine xr_iconst dX1_switchFountain_29 ?_
  refine xr_icmp_ne (tgt := 37) dX1_switchFountain_30 (by decide) (by omega) (fun c30 => ?_) (fun c30 => ?_)
  · skip
    refine xr_iconst dX1_switchFountain_37 ?_
    refine xr_ireturn rfl (by first | rfl | exact nar_bI _ | decide +kernel) dX1_switchFountain_38 ?_
    rw [hpo]
    first
    | exact ⟨hc1, trivial, hr9, by rw [show cV (115, f, 0, 0) P = 1 by omega], ⟨q2, hl, arr9, ib, bb, os, ob, L2, oS, oE, oR, f9, hx9, hF9, hH9, pushH_len h8, hO8⟩, hFX⟩
    | exact ⟨hc1, trivial, hr9, by rw [show cV (115, f, 0, 0) P = 0 by omega], ⟨q2, hl, arr9, ib, bb, os, ob, L2, oS, oE, oR, f9, hx9, hF9, hH9, pushH_len h8, hO8⟩, hFX⟩
  · skip
    refine xr_iconst dX1_switchFountain_33 ?_
    refine xr_goto (tgt := 38) dX1_switchFountain_34 (by decide) ?_
    refine xr_ireturn rfl (by first | rfl | exact nar_bI _ | decide +kernel) dX1_switchFountain_38 ?_
    rw [hpo]
    first
    | exact ⟨hc1, trivial, hr9, by rw [show cV (115, f, 0, 0) P = 1 by omega], ⟨q2, hl, arr9, ib, bb, os, ob, L2, oS, oE, oR, f9, hx9, hF9, hH9, pushH_len h8, hO8⟩, hFX⟩
    | exact ⟨hc1, trivial, hr9, by rw [show cV (115, f, 0, 0) P = 0 by omega], ⟨q2, hl, arr9, ib, bb, os, ob, L2, oS, oE, oR, f9, hx9, hF9, hH9, pushH_len h8, hO8⟩, hFX⟩
theorem k_Z_setNoiseLimit {g : GG} {w : WW} {x : Nat} {P : Int → Int} {S : Option (Int → Int)} {H : List (Int → Int)} {I O : Tx} {se : Option Int} {rj : Option (Int × Int × Int)} {N : Int} {v : Int} (hG : Base g) (hL : KL g) (hX : BR g w x P S H I O se rj) (hB : PB P N) (hN : N + 13000 ≤ 10000000) (hC : PCon P) (hrv : (-2147483648 ≤ v ∧ v < 2147483648)) : Ct g yX1_setNoiseLimit (.code yX1_setNoiseLimit cX1_setNoiseLimit 2 (some .int)) 18 3236 346 1002 w [.ref x, .int (iI v)] (fun r_ w1 => (True) ∧ (0 ≤ v ∧ v ≤ 20) ∧ (cR (105, v, 0, 0) P).1 = 0 ∧ r_ = some (.int (iI (cV (105, v, 0, 0) P))) ∧ BR g w1 x (cO (105, v, 0, 0) P) S (pushH H P) I O se rj ∧ FX g w w1) (fun E a9 w1 => (E = "java/lang/IndexOutOfBoundsException" ∧ ¬ (True) ∧ w1 = w) ∨ (E = "java/lang/IllegalArgumentException" ∧ (True) ∧ ¬ (0 ≤ v ∧ v ≤ 20) ∧ w1 = w) ∨ (E = "java/lang/UnsupportedOperationException" ∧ (True) ∧ (0 ≤ v ∧ v ≤ 20) ∧ (cR (105, v, 0, 0) P).1 ≠ 0 ∧ BR g w1 x P S H I O se (some ((cR (105, v, 0, 0) P).1, (cR (105, v, 0, 0) P).2, 0)) ∧ FX g w w1)) := by
  refine Ct.of (lv := [some _, some _]) hG (by decide +kernel) (Nat.le_of_ble_eq_true rfl) rfl ?_
  intro z hg hpo hxp hnm htab
  subst hg
  obtain ⟨q, hl, harr, ib, bb, os, ob, L, oS, oE, oR, fH, hx, hF, hH, h8, hO⟩ := hX
  obtain ⟨n0, hK⟩ := hF.1
  have hAl := hH.1.lt
  refine xr_ge hx rfl (fun hgx => ?_)
  obtain ⟨mm0, hol0⟩ := hH.1.ob
  refine xr_ge hol0 rfl (fun hgl => ?_)
  have hgb := hB.g
  have hc0 := hK.c0
  refine xr_iload_n dX1_setNoiseLimit_0 rfl ?_
  refine xr_callS (n9 := 1) (rc' := 346) (rs' := 1002) (k_isLimit hG (by omega)) q1249 q1250 q86 q1251 (by decide +kernel) rfl ⟨by decide, Nat.le_of_ble_eq_true rfl⟩ ⟨Nat.le_of_ble_eq_true rfl, Nat.le_of_ble_eq_true rfl⟩ (Nat.le_of_ble_eq_true rfl) dX1_setNoiseLimit_1 rfl (xk_r ?_) (fun _ _ _ h => h.elim)
  refine xr_callS (n9 := 1) (rc' := 345) (rs' := 996) (k_requireArgument (b := decide (0 ≤ v ∧ v ≤ 20)) hG) q960 q961 q86 q962 (by decide +kernel) rfl ⟨by decide, Nat.le_of_ble_eq_true rfl⟩ ⟨Nat.le_of_ble_eq_true rfl, Nat.le_of_ble_eq_true rfl⟩ (Nat.le_of_ble_eq_true rfl) dX1_setNoiseLimit_4 rfl (xk_req ?_) (xt_req ?_)
  rotate_left
  · skip
    intro q9 hq9
    have hq9 := of_decide_eq_false hq9
    exact xt_out (fun x hx => (htab x hx).elim) (by rw [hxp]; exact Or.inr (Or.inl ⟨rfl, trivial, hq9, rfl⟩))
  intro hb9
  have hc2 := of_decide_eq_true hb9
  refine xr_aload_n dX1_setNoiseLimit_7 rfl (by first | rfl | exact isRef_rf _) ?_
  refine xr_new (ci := 11) (T := TX13) (N := 4) (n9 := 4) (fs := [.int (iI 0), .int (iI 0), .int (iI 0), .int (iI 0)]) (rc' := 344) (rs' := 992) rfl in_X13 tyX13 tyX13_ok q1229 q1230 q118 (by intro j hj; rcases (show j = 0 ∨ j = 1 ∨ j = 2 ∨ j = 3 by omega) with rfl | rfl | rfl | rfl <;> rfl) ⟨Nat.le_of_ble_eq_true rfl, Nat.le_of_ble_eq_true rfl⟩ dX1_setNoiseLimit_8 (fun a8 ga8 hob8 => ?_)
  have hmn8 := Mo.new ga8 ga8 (.inl (.inr (11, [.int (iI 0), .int (iI 0), .int (iI 0), .int (iI 0)])))
  refine xr_dup dX1_setNoiseLimit_11 (by first | rfl | exact cat_rf _) ?_
  refine xr_bipush dX1_setNoiseLimit_12 (by decide) ?_
  refine xr_iconst dX1_setNoiseLimit_14 ?_
  refine xr_iload_n dX1_setNoiseLimit_15 rfl ?_
  refine xr_callI (n9 := 3) (rc' := 344) (rs' := 992) (k_PlainAction_init hG hob8 (by omega)) q1231 q1232 q118 q1233 rfl (by decide +kernel) rfl ⟨by decide, Nat.le_of_ble_eq_true rfl⟩ ⟨Nat.le_of_ble_eq_true rfl, Nat.le_of_ble_eq_true rfl⟩ (Nat.le_of_ble_eq_true rfl) dX1_setNoiseLimit_16 rfl (fun r w16 hw => ?_) (fun _ _ _ h => h.elim)
  obtain ⟨rfl, hobA, hfA⟩ := hw
  have hmA : Mo w.2 w w16 := hmn8.tr (hfA.mo (n := w.2) (fun y _ (q9 : y = a8) => by omega)) (Nat.le_refl _)
  have hac : cA (105, v, 0, 0) P = true := decide_eq_true (p := 0 ≤ v ∧ v ≤ 20) hc2
  have hsm : cmS (105, v, 0, 0) := by refine ⟨?_, ?_, ?_, ?_⟩ <;> dsimp only <;> omega
  have hmA1 := hmA.1
  refine xr_callVX (n9 := 1) (rc' := 0) (rs' := 0) (k_X_change (c := (105, v, 0, 0)) hG hL (hx.ext hmA) (hF.ext hmA) (hH.ext hmA) h8 hB hN hC hac hsm hobA) (hx.ext hmA) rfl q1000 q1002 qs14 q86 q1003 (by decide +kernel) rfl ⟨by decide, Nat.le_of_ble_eq_true rfl⟩ ⟨Nat.le_of_ble_eq_true rfl, Nat.le_of_ble_eq_true rfl⟩ (Nat.le_of_ble_eq_true rfl) dX1_setNoiseLimit_19 rfl (fun r w19 hw => ?_) ?_
  rotate_left
  · skip
    rintro E r9 w9 ⟨rfl, hr9, r8, hx9, hor9, hg9, hf9⟩
    refine xt_out (fun x hx => (htab x hx).elim) ?_
    rw [hxp]
    have hFX := (FX.mo hmA).tr (FX.xs (x := x) hf9 (fun b hb => Or.inl hb) (hx.ext hmA) (hH.ext hmA).1)
    have hO9 := (hO.ext hmA).xs (x := x) hf9 (fun b hb => Or.inl hb) (hx.ext hmA) (hH.ext hmA).1 ⟨hgx, hgl⟩
    exact Or.inr (Or.inr ⟨rfl, trivial, hc2, hr9, ⟨q, hl, harr, ib, bb, os, ob, L, oS, oE, some r8, fH, hx9, (hF.ext hmA).xs (x := x) hf9 (fun b hb => Or.inl hb) (hx.ext hmA) (by decide) ⟨hgx, hgl⟩, (hH.ext hmA).fx hf9 (hx.ext hmA) (by decide) ⟨hgx, hgl⟩, h8, hO9.1, hO9.2.1, hO9.2.2.1, hO9.2.2.2.1, hO9.2.2.2.2.1, Or.inr ⟨_, r8, rfl, rfl, hor9⟩⟩, hFX⟩)
  obtain ⟨hr9, rfl, q2, L2, arr9, f9, hx9, hH9, har9, hF9, hf9⟩ := hw
  show XJ _ _ _ _ _ _ _ _ _ _ _ _ [.int (iI (cV (105, v, 0, 0) P))]
  have hFX := (FX.mo hmA).tr (FX.xs hf9 (fun b hb => hb) (hx.ext hmA) (hH.ext hmA).1)
  have hO8 := (hO.ext hmA).xs2 hf9 (fun b hb => hb) (hx.ext hmA) (hH.ext hmA).1 ⟨hgx, hgl⟩ har9
  refine xr_ireturn rfl rfl dX1_setNoiseLimit_22 ?_
  rw [hpo]
  exact ⟨trivial, hc2, hr9, rfl, ⟨q2, hl, arr9, ib, bb, os, ob, L2, oS, oE, oR, f9, hx9, hF9, hH9, pushH_len h8, hO8⟩, hFX⟩
theorem k_Z_lease {g : GG} {w : WW} {x : Nat} {P : Int → Int} {S : Option (Int → Int)} {H : List (Int → Int)} {I O : Tx} {se : Option Int} {rj : Option (Int × Int × Int)} {N : Int} {t b m : Int} (hG : Base g) (hL : KL g) (hX : BR g w x P S H I O se rj) (hB : PB P N) (hN : N + 13000 ≤ 10000000) (hC : PCon P) (hrt : (-2147483648 ≤ t ∧ t < 2147483648)) (hrb : (-2147483648 ≤ b ∧ b < 2147483648)) (hrm : (-2147483648 ≤ m ∧ m < 2147483648)) : Ct g yX1_lease (.code yX1_lease cX1_lease 4 (some .int)) 18 3236 347 1008 w [.ref x, .int (iI t), .int (iI b), .int (iI m)] (fun r_ w1 => ((0 ≤ t ∧ t < P 2) ∧ (0 ≤ b ∧ b < P 0)) ∧ (1 ≤ m ∧ m ≤ 12) ∧ (cR (108, t, b, m) P).1 = 0 ∧ r_ = some (.int (iI (cV (108, t, b, m) P))) ∧ BR g w1 x (cO (108, t, b, m) P) S (pushH H P) I O se rj ∧ FX g w w1) (fun E a9 w1 => (E = "java/lang/IndexOutOfBoundsException" ∧ ¬ ((0 ≤ t ∧ t < P 2) ∧ (0 ≤ b ∧ b < P 0)) ∧ w1 = w) ∨ (E = "java/lang/IllegalArgumentException" ∧ ((0 ≤ t ∧ t < P 2) ∧ (0 ≤ b ∧ b < P 0)) ∧ ¬ (1 ≤ m ∧ m ≤ 12) ∧ w1 = w) ∨ (E = "java/lang/UnsupportedOperationException" ∧ ((0 ≤ t ∧ t < P 2) ∧ (0 ≤ b ∧ b < P 0)) ∧ (1 ≤ m ∧ m ≤ 12) ∧ (cR (108, t, b, m) P).1 ≠ 0 ∧ BR g w1 x P S H I O se (some ((cR (108, t, b, m) P).1, (cR (108, t, b, m) P).2, 0)) ∧ FX g w w1)) := by
  refine Ct.of (lv := [some _, some _, some _, some _]) hG (by decide +kernel) (Nat.le_of_ble_eq_true rfl) rfl ?_
  intro z hg hpo hxp hnm htab
  subst hg
  obtain ⟨q, hl, harr, ib, bb, os, ob, L, oS, oE, oR, fH, hx, hF, hH, h8, hO⟩ := hX
  obtain ⟨n0, hK⟩ := hF.1
  have hAl := hH.1.lt
  refine xr_ge hx rfl (fun hgx => ?_)
  obtain ⟨mm0, hol0⟩ := hH.1.ob
  refine xr_ge hol0 rfl (fun hgl => ?_)
  have hgb := hB.g
  have hc0 := hK.c0
  refine xr_aload_n dX1_lease_0 rfl (by first | rfl | exact isRef_rf _) ?_
  refine xr_getfield (ci := 13) (T := TX1) (N := 7) (i := 0) hx rfl (by decide) in_X1 q267 (.inl rfl) dX1_lease_1 (by rfl) ?_
  refine xr_getfieldN (ci := 0) (T := TX2) (N := 10) (i := 2) hK.hq rfl (by decide) in_X2 q195 (.inl rfl) dX1_lease_4 (by rfl) ?_
  refine xr_iload_n dX1_lease_7 rfl ?_
  refine xr_callV (n9 := 1) (rc' := 347) (rs' := 1008) (k_Reg_has hG hK.r2 hK.l2 (by omega)) hK.r2 rfl q1192 q1193 q1194 q88 q1195 (by decide +kernel) rfl ⟨by decide, Nat.le_of_ble_eq_true rfl⟩ ⟨Nat.le_of_ble_eq_true rfl, Nat.le_of_ble_eq_true rfl⟩ (Nat.le_of_ble_eq_true rfl) dX1_lease_8 rfl (xk_r ?_) (fun _ _ _ h => h.elim)
  refine xr_ifb_eq (tgt := 32) dX1_lease_11 (by decide) (fun c11 => ?_) (fun c11 => ?_)
  · skip
    try simp only [decide_eq_true_eq, decide_eq_false_iff_not] at c11
    refine xr_iconst dX1_lease_32 ?_
    refine xr_callS (n9 := 1) (rc' := 346) (rs' := 1002) (k_requireIndex (b := false) hG) q939 q940 q86 q941 (by decide +kernel) rfl ⟨by decide, Nat.le_of_ble_eq_true rfl⟩ ⟨Nat.le_of_ble_eq_true rfl, Nat.le_of_ble_eq_true rfl⟩ (Nat.le_of_ble_eq_true rfl) dX1_lease_33 rfl (xk_req (fun h9 => nomatch h9)) (xt_req ?_)
    intro q9 _
    exact xt_out (fun x hx => (htab x hx).elim) (by rw [hxp]; exact Or.inl ⟨rfl, fun h9 => by omega, rfl⟩)
  · skip
    try simp only [decide_eq_true_eq, decide_eq_false_iff_not] at c11
    refine xr_aload_n dX1_lease_14 rfl (by first | rfl | exact isRef_rf _) ?_
    refine xr_getfield (ci := 13) (T := TX1) (N := 7) (i := 0) hx rfl (by decide) in_X1 q267 (.inl rfl) dX1_lease_15 (by rfl) ?_
    refine xr_getfieldN (ci := 0) (T := TX2) (N := 10) (i := 0) hK.hq rfl (by decide) in_X2 q188 (.inl rfl) dX1_lease_18 (by rfl) ?_
    refine xr_iload_n dX1_lease_21 rfl ?_
    refine xr_callV (n9 := 1) (rc' := 347) (rs' := 1008) (k_Reg_has hG hK.r0 hK.l0 (by omega)) hK.r0 rfl q1192 q1193 q1194 q88 q1195 (by decide +kernel) rfl ⟨by decide, Nat.le_of_ble_eq_true rfl⟩ ⟨Nat.le_of_ble_eq_true rfl, Nat.le_of_ble_eq_true rfl⟩ (Nat.le_of_ble_eq_true rfl) dX1_lease_22 rfl (xk_r ?_) (fun _ _ _ h => h.elim)
    refine xr_ifb_eq (tgt := 32) dX1_lease_25 (by decide) (fun c25 => ?_) (fun c25 => ?_)
    · skip
      try simp only [decide_eq_true_eq, decide_eq_false_iff_not] at c25
      refine xr_iconst dX1_lease_32 ?_
      refine xr_callS (n9 := 1) (rc' := 346) (rs' := 1002) (k_requireIndex (b := false) hG) q939 q940 q86 q941 (by decide +kernel) rfl ⟨by decide, Nat.le_of_ble_eq_true rfl⟩ ⟨Nat.le_of_ble_eq_true rfl, Nat.le_of_ble_eq_true rfl⟩ (Nat.le_of_ble_eq_true rfl) dX1_lease_33 rfl (xk_req (fun h9 => nomatch h9)) (xt_req ?_)
      intro q9 _
      exact xt_out (fun x hx => (htab x hx).elim) (by rw [hxp]; exact Or.inl ⟨rfl, fun h9 => by omega, rfl⟩)
    · skip
      try simp only [decide_eq_true_eq, decide_eq_false_iff_not] at c25
      refine xr_iconst dX1_lease_28 ?_
      refine xr_goto (tgt := 33) dX1_lease_29 (by decide) ?_
      refine xr_callS (n9 := 1) (rc' := 346) (rs' := 1002) (k_requireIndex (b := true) hG) q939 q940 q86 q941 (by decide +kernel) rfl ⟨by decide, Nat.le_of_ble_eq_true rfl⟩ ⟨Nat.le_of_ble_eq_true rfl, Nat.le_of_ble_eq_true rfl⟩ (Nat.le_of_ble_eq_true rfl) dX1_lease_33 rfl (xk_req (fun _ => ?_)) (xt_req (fun _ h9 => nomatch h9))
      have hc1 : (0 ≤ t ∧ t < P 2) ∧ (0 ≤ b ∧ b < P 0) := by omega
      refine xr_iload_n dX1_lease_36 rfl ?_
      refine xr_callS (n9 := 1) (rc' := 346) (rs' := 1002) (k_isTerm hG (by omega)) q1412 q1413 q86 q1414 (by decide +kernel) rfl ⟨by decide, Nat.le_of_ble_eq_true rfl⟩ ⟨Nat.le_of_ble_eq_true rfl, Nat.le_of_ble_eq_true rfl⟩ (Nat.le_of_ble_eq_true rfl) dX1_lease_37 rfl (xk_r ?_) (fun _ _ _ h => h.elim)
      refine xr_callS (n9 := 1) (rc' := 345) (rs' := 996) (k_requireArgument (b := decide (1 ≤ m ∧ m ≤ 12)) hG) q960 q961 q86 q962 (by decide +kernel) rfl ⟨by decide, Nat.le_of_ble_eq_true rfl⟩ ⟨Nat.le_of_ble_eq_true rfl, Nat.le_of_ble_eq_true rfl⟩ (Nat.le_of_ble_eq_true rfl) dX1_lease_40 rfl (xk_req ?_) (xt_req ?_)
      rotate_left
      · skip
        intro q9 hq9
        have hq9 := of_decide_eq_false hq9
        exact xt_out (fun x hx => (htab x hx).elim) (by rw [hxp]; exact Or.inr (Or.inl ⟨rfl, hc1, hq9, rfl⟩))
      intro hb9
      have hc2 := of_decide_eq_true hb9
      refine xr_aload_n dX1_lease_43 rfl (by first | rfl | exact isRef_rf _) ?_
      refine xr_new (ci := 10) (T := TX14) (N := 4) (n9 := 4) (fs := [.int (iI 0), .int (iI 0), .int (iI 0), .int (iI 0)]) (rc' := 344) (rs' := 992) rfl in_X14 tyX14 tyX14_ok q1415 q1416 q125 (by intro j hj; rcases (show j = 0 ∨ j = 1 ∨ j = 2 ∨ j = 3 by omega) with rfl | rfl | rfl | rfl <;> rfl) ⟨Nat.le_of_ble_eq_true rfl, Nat.le_of_ble_eq_true rfl⟩ dX1_lease_44 (fun a44 ga44 hob44 => ?_)
      have hmn44 := Mo.new ga44 ga44 (.inl (.inr (10, [.int (iI 0), .int (iI 0), .int (iI 0), .int (iI 0)])))
      refine xr_dup dX1_lease_47 (by first | rfl | exact cat_rf _) ?_
      refine xr_bipush dX1_lease_48 (by decide) ?_
      refine xr_iload_n dX1_lease_50 rfl ?_
      refine xr_iload_n dX1_lease_51 rfl ?_
      refine xr_iload_n dX1_lease_52 rfl ?_
      refine xr_callI (n9 := 4) (rc' := 344) (rs' := 992) (k_LeaseAction_init hG hob44 (by omega)) q1417 q1418 q125 q1419 rfl (by decide +kernel) rfl ⟨by decide, Nat.le_of_ble_eq_true rfl⟩ ⟨Nat.le_of_ble_eq_true rfl, Nat.le_of_ble_eq_true rfl⟩ (Nat.le_of_ble_eq_true rfl) dX1_lease_53 rfl (fun r w53 hw => ?_) (fun _ _ _ h => h.elim)
      obtain ⟨rfl, hobA, hfA⟩ := hw
      have hmA : Mo w.2 w w53 := hmn44.tr (hfA.mo (n := w.2) (fun y _ (q9 : y = a44) => by omega)) (Nat.le_refl _)
      have hac : cA (108, t, b, m) P = true := decide_eq_true (p := ((0 ≤ t ∧ t < P 2) ∧ (0 ≤ b ∧ b < P 0)) ∧ (1 ≤ m ∧ m ≤ 12)) ⟨hc1, hc2⟩
      have hsm : cmS (108, t, b, m) := by refine ⟨?_, ?_, ?_, ?_⟩ <;> dsimp only <;> omega
      have hmA1 := hmA.1
      refine xr_callVX (n9 := 1) (rc' := 0) (rs' := 0) (k_X_change (c := (108, t, b, m)) hG hL (hx.ext hmA) (hF.ext hmA) (hH.ext hmA) h8 hB hN hC hac hsm hobA) (hx.ext hmA) rfl q1000 q1002 qs14 q86 q1003 (by decide +kernel) rfl ⟨by decide, Nat.le_of_ble_eq_true rfl⟩ ⟨Nat.le_of_ble_eq_true rfl, Nat.le_of_ble_eq_true rfl⟩ (Nat.le_of_ble_eq_true rfl) dX1_lease_56 rfl (fun r w56 hw => ?_) ?_
      rotate_left
      · skip
        rintro E r9 w9 ⟨rfl, hr9, r8, hx9, hor9, hg9, hf9⟩
        refine xt_out (fun x hx => (htab x hx).elim) ?_
        rw [hxp]
        have hFX := (FX.mo hmA).tr (FX.xs (x := x) hf9 (fun b hb => Or.inl hb) (hx.ext hmA) (hH.ext hmA).1)
        have hO9 := (hO.ext hmA).xs (x := x) hf9 (fun b hb => Or.inl hb) (hx.ext hmA) (hH.ext hmA).1 ⟨hgx, hgl⟩
        exact Or.inr (Or.inr ⟨rfl, hc1, hc2, hr9, ⟨q, hl, harr, ib, bb, os, ob, L, oS, oE, some r8, fH, hx9, (hF.ext hmA).xs (x := x) hf9 (fun b hb => Or.inl hb) (hx.ext hmA) (by decide) ⟨hgx, hgl⟩, (hH.ext hmA).fx hf9 (hx.ext hmA) (by decide) ⟨hgx, hgl⟩, h8, hO9.1, hO9.2.1, hO9.2.2.1, hO9.2.2.2.1, hO9.2.2.2.2.1, Or.inr ⟨_, r8, rfl, rfl, hor9⟩⟩, hFX⟩)
      obtain ⟨hr9, rfl, q2, L2, arr9, f9, hx9, hH9, har9, hF9, hf9⟩ := hw
      show XJ _ _ _ _ _ _ _ _ _ _ _ _ [.int (iI (cV (108, t, b, m) P))]
      have hFX := (FX.mo hmA).tr (FX.xs hf9 (fun b hb => hb) (hx.ext hmA) (hH.ext hmA).1)
      have hO8 := (hO.ext hmA).xs2 hf9 (fun b hb => hb) (hx.ext hmA) (hH.ext hmA).1 ⟨hgx, hgl⟩ har9
      refine xr_ireturn rfl rfl dX1_lease_59 ?_
      rw [hpo]
      exact ⟨hc1, hc2, hr9, rfl, ⟨q2, hl, arr9, ib, bb, os, ob, L2, oS, oE, oR, f9, hx9, hF9, hH9, pushH_len h8, hO8⟩, hFX⟩
theorem k_Z_endLease {g : GG} {w : WW} {x : Nat} {P : Int → Int} {S : Option (Int → Int)} {H : List (Int → Int)} {I O : Tx} {se : Option Int} {rj : Option (Int × Int × Int)} {N : Int} {b : Int} (hG : Base g) (hL : KL g) (hX : BR g w x P S H I O se rj) (hB : PB P N) (hN : N + 13000 ≤ 10000000) (hC : PCon P) (hrb : (-2147483648 ≤ b ∧ b < 2147483648)) : Ct g yX1_endLease (.code yX1_endLease cX1_endLease 2 (some .int)) 18 3236 346 1002 w [.ref x, .int (iI b)] (fun r_ w1 => (0 ≤ b ∧ b < P 0) ∧ (True) ∧ (cR (101, b, 0, 0) P).1 = 0 ∧ r_ = some (.int (iI (cV (101, b, 0, 0) P))) ∧ BR g w1 x (cO (101, b, 0, 0) P) S (pushH H P) I O se rj ∧ FX g w w1) (fun E a9 w1 => (E = "java/lang/IndexOutOfBoundsException" ∧ ¬ (0 ≤ b ∧ b < P 0) ∧ w1 = w) ∨ (E = "java/lang/IllegalArgumentException" ∧ (0 ≤ b ∧ b < P 0) ∧ ¬ (True) ∧ w1 = w) ∨ (E = "java/lang/UnsupportedOperationException" ∧ (0 ≤ b ∧ b < P 0) ∧ (True) ∧ (cR (101, b, 0, 0) P).1 ≠ 0 ∧ BR g w1 x P S H I O se (some ((cR (101, b, 0, 0) P).1, (cR (101, b, 0, 0) P).2, 0)) ∧ FX g w w1)) := by
  refine Ct.of (lv := [some _, some _]) hG (by decide +kernel) (Nat.le_of_ble_eq_true rfl) rfl ?_
  intro z hg hpo hxp hnm htab
  subst hg
  obtain ⟨q, hl, harr, ib, bb, os, ob, L, oS, oE, oR, fH, hx, hF, hH, h8, hO⟩ := hX
  obtain ⟨n0, hK⟩ := hF.1
  have hAl := hH.1.lt
  refine xr_ge hx rfl (fun hgx => ?_)
  obtain ⟨mm0, hol0⟩ := hH.1.ob
  refine xr_ge hol0 rfl (fun hgl => ?_)
  have hgb := hB.g
  have hc0 := hK.c0
  refine xr_aload_n dX1_endLease_0 rfl (by first | rfl | exact isRef_rf _) ?_
  refine xr_getfield (ci := 13) (T := TX1) (N := 7) (i := 0) hx rfl (by decide) in_X1 q267 (.inl rfl) dX1_endLease_1 (by rfl) ?_
  refine xr_getfieldN (ci := 0) (T := TX2) (N := 10) (i := 0) hK.hq rfl (by decide) in_X2 q188 (.inl rfl) dX1_endLease_4 (by rfl) ?_
  refine xr_iload_n dX1_endLease_7 rfl ?_
  refine xr_callV (n9 := 1) (rc' := 346) (rs' := 1002) (k_Reg_has hG hK.r0 hK.l0 (by omega)) hK.r0 rfl q1192 q1193 q1194 q88 q1195 (by decide +kernel) rfl ⟨by decide, Nat.le_of_ble_eq_true rfl⟩ ⟨Nat.le_of_ble_eq_true rfl, Nat.le_of_ble_eq_true rfl⟩ (Nat.le_of_ble_eq_true rfl) dX1_endLease_8 rfl (xk_r ?_) (fun _ _ _ h => h.elim)
  refine xr_callS (n9 := 1) (rc' := 345) (rs' := 996) (k_requireIndex (b := decide (0 ≤ b ∧ b < P 0)) hG) q939 q940 q86 q941 (by decide +kernel) rfl ⟨by decide, Nat.le_of_ble_eq_true rfl⟩ ⟨Nat.le_of_ble_eq_true rfl, Nat.le_of_ble_eq_true rfl⟩ (Nat.le_of_ble_eq_true rfl) dX1_endLease_11 rfl (xk_req ?_) (xt_req ?_)
  rotate_left
  · skip
    intro q9 hq9
    have hq9 := of_decide_eq_false hq9
    exact xt_out (fun x hx => (htab x hx).elim) (by rw [hxp]; exact Or.inl ⟨rfl, hq9, rfl⟩)
  intro hb9
  have hc1 := of_decide_eq_true hb9
  refine xr_aload_n dX1_endLease_14 rfl (by first | rfl | exact isRef_rf _) ?_
  refine xr_new (ci := 10) (T := TX14) (N := 4) (n9 := 4) (fs := [.int (iI 0), .int (iI 0), .int (iI 0), .int (iI 0)]) (rc' := 344) (rs' := 992) rfl in_X14 tyX14 tyX14_ok q1415 q1416 q125 (by intro j hj; rcases (show j = 0 ∨ j = 1 ∨ j = 2 ∨ j = 3 by omega) with rfl | rfl | rfl | rfl <;> rfl) ⟨Nat.le_of_ble_eq_true rfl, Nat.le_of_ble_eq_true rfl⟩ dX1_endLease_15 (fun a15 ga15 hob15 => ?_)
  have hmn15 := Mo.new ga15 ga15 (.inl (.inr (10, [.int (iI 0), .int (iI 0), .int (iI 0), .int (iI 0)])))
  refine xr_dup dX1_endLease_18 (by first | rfl | exact cat_rf _) ?_
  refine xr_bipush dX1_endLease_19 (by decide) ?_
  refine xr_iconst dX1_endLease_21 ?_
  refine xr_iload_n dX1_endLease_22 rfl ?_
  refine xr_iconst dX1_endLease_23 ?_
  refine xr_callI (n9 := 4) (rc' := 344) (rs' := 992) (k_LeaseAction_init hG hob15 (by omega)) q1417 q1418 q125 q1419 rfl (by decide +kernel) rfl ⟨by decide, Nat.le_of_ble_eq_true rfl⟩ ⟨Nat.le_of_ble_eq_true rfl, Nat.le_of_ble_eq_true rfl⟩ (Nat.le_of_ble_eq_true rfl) dX1_endLease_24 rfl (fun r w24 hw => ?_) (fun _ _ _ h => h.elim)
  obtain ⟨rfl, hobA, hfA⟩ := hw
  have hmA : Mo w.2 w w24 := hmn15.tr (hfA.mo (n := w.2) (fun y _ (q9 : y = a15) => by omega)) (Nat.le_refl _)
  have hac : cA (101, b, 0, 0) P = true := decide_eq_true (p := 0 ≤ b ∧ b < P 0) hc1
  have hsm : cmS (101, b, 0, 0) := by refine ⟨?_, ?_, ?_, ?_⟩ <;> dsimp only <;> omega
  have hmA1 := hmA.1
  refine xr_callVX (n9 := 1) (rc' := 0) (rs' := 0) (k_X_change (c := (101, b, 0, 0)) hG hL (hx.ext hmA) (hF.ext hmA) (hH.ext hmA) h8 hB hN hC hac hsm hobA) (hx.ext hmA) rfl q1000 q1002 qs14 q86 q1003 (by decide +kernel) rfl ⟨by decide, Nat.le_of_ble_eq_true rfl⟩ ⟨Nat.le_of_ble_eq_true rfl, Nat.le_of_ble_eq_true rfl⟩ (Nat.le_of_ble_eq_true rfl) dX1_endLease_27 rfl (fun r w27 hw => ?_) ?_
  rotate_left
  · skip
    rintro E r9 w9 ⟨rfl, hr9, r8, hx9, hor9, hg9, hf9⟩
    refine xt_out (fun x hx => (htab x hx).elim) ?_
    rw [hxp]
    have hFX := (FX.mo hmA).tr (FX.xs (x := x) hf9 (fun b hb => Or.inl hb) (hx.ext hmA) (hH.ext hmA).1)
    have hO9 := (hO.ext hmA).xs (x := x) hf9 (fun b hb => Or.inl hb) (hx.ext hmA) (hH.ext hmA).1 ⟨hgx, hgl⟩
    exact Or.inr (Or.inr ⟨rfl, hc1, trivial, hr9, ⟨q, hl, harr, ib, bb, os, ob, L, oS, oE, some r8, fH, hx9, (hF.ext hmA).xs (x := x) hf9 (fun b hb => Or.inl hb) (hx.ext hmA) (by decide) ⟨hgx, hgl⟩, (hH.ext hmA).fx hf9 (hx.ext hmA) (by decide) ⟨hgx, hgl⟩, h8, hO9.1, hO9.2.1, hO9.2.2.1, hO9.2.2.2.1, hO9.2.2.2.2.1, Or.inr ⟨_, r8, rfl, rfl, hor9⟩⟩, hFX⟩)
  obtain ⟨hr9, rfl, q2, L2, arr9, f9, hx9, hH9, har9, hF9, hf9⟩ := hw
  show XJ _ _ _ _ _ _ _ _ _ _ _ _ [.int (iI (cV (101, b, 0, 0) P))]
  have hFX := (FX.mo hmA).tr (FX.xs hf9 (fun b hb => hb) (hx.ext hmA) (hH.ext hmA).1)
  have hO8 := (hO.ext hmA).xs2 hf9 (fun b hb => hb) (hx.ext hmA) (hH.ext hmA).1 ⟨hgx, hgl⟩ har9
  refine xr_ireturn rfl rfl dX1_endLease_30 ?_
  rw [hpo]
  exact ⟨hc1, trivial, hr9, rfl, ⟨q2, hl, arr9, ib, bb, os, ob, L2, oS, oE, oR, f9, hx9, hF9, hH9, pushH_len h8, hO8⟩, hFX⟩
theorem k_Z_renew {g : GG} {w : WW} {x : Nat} {P : Int → Int} {S : Option (Int → Int)} {H : List (Int → Int)} {I O : Tx} {se : Option Int} {rj : Option (Int × Int × Int)} {N : Int} {b m : Int} (hG : Base g) (hL : KL g) (hX : BR g w x P S H I O se rj) (hB : PB P N) (hN : N + 13000 ≤ 10000000) (hC : PCon P) (hrb : (-2147483648 ≤ b ∧ b < 2147483648)) (hrm : (-2147483648 ≤ m ∧ m < 2147483648)) : Ct g yX1_renew (.code yX1_renew cX1_renew 3 (some .int)) 18 3236 347 1008 w [.ref x, .int (iI b), .int (iI m)] (fun r_ w1 => (0 ≤ b ∧ b < P 0) ∧ (1 ≤ m ∧ m ≤ 12) ∧ (cR (114, b, m, 0) P).1 = 0 ∧ r_ = some (.int (iI (cV (114, b, m, 0) P))) ∧ BR g w1 x (cO (114, b, m, 0) P) S (pushH H P) I O se rj ∧ FX g w w1) (fun E a9 w1 => (E = "java/lang/IndexOutOfBoundsException" ∧ ¬ (0 ≤ b ∧ b < P 0) ∧ w1 = w) ∨ (E = "java/lang/IllegalArgumentException" ∧ (0 ≤ b ∧ b < P 0) ∧ ¬ (1 ≤ m ∧ m ≤ 12) ∧ w1 = w) ∨ (E = "java/lang/UnsupportedOperationException" ∧ (0 ≤ b ∧ b < P 0) ∧ (1 ≤ m ∧ m ≤ 12) ∧ (cR (114, b, m, 0) P).1 ≠ 0 ∧ BR g w1 x P S H I O se (some ((cR (114, b, m, 0) P).1, (cR (114, b, m, 0) P).2, 0)) ∧ FX g w w1)) := by
  refine Ct.of (lv := [some _, some _, some _]) hG (by decide +kernel) (Nat.le_of_ble_eq_true rfl) rfl ?_
  intro z hg hpo hxp hnm htab
  subst hg
  obtain ⟨q, hl, harr, ib, bb, os, ob, L, oS, oE, oR, fH, hx, hF, hH, h8, hO⟩ := hX
  obtain ⟨n0, hK⟩ := hF.1
  have hAl := hH.1.lt
  refine xr_ge hx rfl (fun hgx => ?_)
  obtain ⟨mm0, hol0⟩ := hH.1.ob
  refine xr_ge hol0 rfl (fun hgl => ?_)
  have hgb := hB.g
  have hc0 := hK.c0
  refine xr_aload_n dX1_renew_0 rfl (by first | rfl | exact isRef_rf _) ?_
  refine xr_getfield (ci := 13) (T := TX1) (N := 7) (i := 0) hx rfl (by decide) in_X1 q267 (.inl rfl) dX1_renew_1 (by rfl) ?_
  refine xr_getfieldN (ci := 0) (T := TX2) (N := 10) (i := 0) hK.hq rfl (by decide) in_X2 q188 (.inl rfl) dX1_renew_4 (by rfl) ?_
  refine xr_iload_n dX1_renew_7 rfl ?_
  refine xr_callV (n9 := 1) (rc' := 347) (rs' := 1008) (k_Reg_has hG hK.r0 hK.l0 (by omega)) hK.r0 rfl q1192 q1193 q1194 q88 q1195 (by decide +kernel) rfl ⟨by decide, Nat.le_of_ble_eq_true rfl⟩ ⟨Nat.le_of_ble_eq_true rfl, Nat.le_of_ble_eq_true rfl⟩ (Nat.le_of_ble_eq_true rfl) dX1_renew_8 rfl (xk_r ?_) (fun _ _ _ h => h.elim)
  refine xr_callS (n9 := 1) (rc' := 346) (rs' := 1002) (k_requireIndex (b := decide (0 ≤ b ∧ b < P 0)) hG) q939 q940 q86 q941 (by decide +kernel) rfl ⟨by decide, Nat.le_of_ble_eq_true rfl⟩ ⟨Nat.le_of_ble_eq_true rfl, Nat.le_of_ble_eq_true rfl⟩ (Nat.le_of_ble_eq_true rfl) dX1_renew_11 rfl (xk_req ?_) (xt_req ?_)
  rotate_left
  · skip
    intro q9 hq9
    have hq9 := of_decide_eq_false hq9
    exact xt_out (fun x hx => (htab x hx).elim) (by rw [hxp]; exact Or.inl ⟨rfl, hq9, rfl⟩)
  intro hb9
  have hc1 := of_decide_eq_true hb9
  refine xr_iload_n dX1_renew_14 rfl ?_
  refine xr_callS (n9 := 1) (rc' := 346) (rs' := 1002) (k_isTerm hG (by omega)) q1412 q1413 q86 q1414 (by decide +kernel) rfl ⟨by decide, Nat.le_of_ble_eq_true rfl⟩ ⟨Nat.le_of_ble_eq_true rfl, Nat.le_of_ble_eq_true rfl⟩ (Nat.le_of_ble_eq_true rfl) dX1_renew_15 rfl (xk_r ?_) (fun _ _ _ h => h.elim)
  refine xr_callS (n9 := 1) (rc' := 345) (rs' := 996) (k_requireArgument (b := decide (1 ≤ m ∧ m ≤ 12)) hG) q960 q961 q86 q962 (by decide +kernel) rfl ⟨by decide, Nat.le_of_ble_eq_true rfl⟩ ⟨Nat.le_of_ble_eq_true rfl, Nat.le_of_ble_eq_true rfl⟩ (Nat.le_of_ble_eq_true rfl) dX1_renew_18 rfl (xk_req ?_) (xt_req ?_)
  rotate_left
  · skip
    intro q9 hq9
    have hq9 := of_decide_eq_false hq9
    exact xt_out (fun x hx => (htab x hx).elim) (by rw [hxp]; exact Or.inr (Or.inl ⟨rfl, hc1, hq9, rfl⟩))
  intro hb9
  have hc2 := of_decide_eq_true hb9
  refine xr_aload_n dX1_renew_21 rfl (by first | rfl | exact isRef_rf _) ?_
  refine xr_new (ci := 10) (T := TX14) (N := 4) (n9 := 4) (fs := [.int (iI 0), .int (iI 0), .int (iI 0), .int (iI 0)]) (rc' := 344) (rs' := 992) rfl in_X14 tyX14 tyX14_ok q1415 q1416 q125 (by intro j hj; rcases (show j = 0 ∨ j = 1 ∨ j = 2 ∨ j = 3 by omega) with rfl | rfl | rfl | rfl <;> rfl) ⟨Nat.le_of_ble_eq_true rfl, Nat.le_of_ble_eq_true rfl⟩ dX1_renew_22 (fun a22 ga22 hob22 => ?_)
  have hmn22 := Mo.new ga22 ga22 (.inl (.inr (10, [.int (iI 0), .int (iI 0), .int (iI 0), .int (iI 0)])))
  refine xr_dup dX1_renew_25 (by first | rfl | exact cat_rf _) ?_
  refine xr_bipush dX1_renew_26 (by decide) ?_
  refine xr_iconst dX1_renew_28 ?_
  refine xr_iload_n dX1_renew_29 rfl ?_
  refine xr_iload_n dX1_renew_30 rfl ?_
  refine xr_callI (n9 := 4) (rc' := 344) (rs' := 992) (k_LeaseAction_init hG hob22 (by omega)) q1417 q1418 q125 q1419 rfl (by decide +kernel) rfl ⟨by decide, Nat.le_of_ble_eq_true rfl⟩ ⟨Nat.le_of_ble_eq_true rfl, Nat.le_of_ble_eq_true rfl⟩ (Nat.le_of_ble_eq_true rfl) dX1_renew_31 rfl (fun r w31 hw => ?_) (fun _ _ _ h => h.elim)
  obtain ⟨rfl, hobA, hfA⟩ := hw
  have hmA : Mo w.2 w w31 := hmn22.tr (hfA.mo (n := w.2) (fun y _ (q9 : y = a22) => by omega)) (Nat.le_refl _)
  have hac : cA (114, b, m, 0) P = true := decide_eq_true (p := (0 ≤ b ∧ b < P 0) ∧ (1 ≤ m ∧ m ≤ 12)) ⟨hc1, hc2⟩
  have hsm : cmS (114, b, m, 0) := by refine ⟨?_, ?_, ?_, ?_⟩ <;> dsimp only <;> omega
  have hmA1 := hmA.1
  refine xr_callVX (n9 := 1) (rc' := 0) (rs' := 0) (k_X_change (c := (114, b, m, 0)) hG hL (hx.ext hmA) (hF.ext hmA) (hH.ext hmA) h8 hB hN hC hac hsm hobA) (hx.ext hmA) rfl q1000 q1002 qs14 q86 q1003 (by decide +kernel) rfl ⟨by decide, Nat.le_of_ble_eq_true rfl⟩ ⟨Nat.le_of_ble_eq_true rfl, Nat.le_of_ble_eq_true rfl⟩ (Nat.le_of_ble_eq_true rfl) dX1_renew_34 rfl (fun r w34 hw => ?_) ?_
  rotate_left
  · skip
    rintro E r9 w9 ⟨rfl, hr9, r8, hx9, hor9, hg9, hf9⟩
    refine xt_out (fun x hx => (htab x hx).elim) ?_
    rw [hxp]
    have hFX := (FX.mo hmA).tr (FX.xs (x := x) hf9 (fun b hb => Or.inl hb) (hx.ext hmA) (hH.ext hmA).1)
    have hO9 := (hO.ext hmA).xs (x := x) hf9 (fun b hb => Or.inl hb) (hx.ext hmA) (hH.ext hmA).1 ⟨hgx, hgl⟩
    exact Or.inr (Or.inr ⟨rfl, hc1, hc2, hr9, ⟨q, hl, harr, ib, bb, os, ob, L, oS, oE, some r8, fH, hx9, (hF.ext hmA).xs (x := x) hf9 (fun b hb => Or.inl hb) (hx.ext hmA) (by decide) ⟨hgx, hgl⟩, (hH.ext hmA).fx hf9 (hx.ext hmA) (by decide) ⟨hgx, hgl⟩, h8, hO9.1, hO9.2.1, hO9.2.2.1, hO9.2.2.2.1, hO9.2.2.2.2.1, Or.inr ⟨_, r8, rfl, rfl, hor9⟩⟩, hFX⟩)
  obtain ⟨hr9, rfl, q2, L2, arr9, f9, hx9, hH9, har9, hF9, hf9⟩ := hw
  show XJ _ _ _ _ _ _ _ _ _ _ _ _ [.int (iI (cV (114, b, m, 0) P))]
  have hFX := (FX.mo hmA).tr (FX.xs hf9 (fun b hb => hb) (hx.ext hmA) (hH.ext hmA).1)
  have hO8 := (hO.ext hmA).xs2 hf9 (fun b hb => hb) (hx.ext hmA) (hH.ext hmA).1 ⟨hgx, hgl⟩ har9
  refine xr_ireturn rfl rfl dX1_renew_37 ?_
  rw [hpo]
  exact ⟨hc1, hc2, hr9, rfl, ⟨q2, hl, arr9, ib, bb, os, ob, L2, oS, oE, oR, f9, hx9, hF9, hH9, pushH_len h8, hO8⟩, hFX⟩
theorem k_Z_passMonths {g : GG} {w : WW} {x : Nat} {P : Int → Int} {S : Option (Int → Int)} {H : List (Int → Int)} {I O : Tx} {se : Option Int} {rj : Option (Int × Int × Int)} {N : Int} {m : Int} (hG : Base g) (hL : KL g) (hX : BR g w x P S H I O se rj) (hB : PB P N) (hN : N + 13000 ≤ 10000000) (hC : PCon P) (hrm : (-2147483648 ≤ m ∧ m < 2147483648)) : Ct g yX1_passMonths (.code yX1_passMonths cX1_passMonths 2 (some .int)) 18 3236 346 1002 w [.ref x, .int (iI m)] (fun r_ w1 => (True) ∧ (1 ≤ m ∧ m ≤ 12) ∧ (cR (112, m, 0, 0) P).1 = 0 ∧ r_ = some (.int (iI (cV (112, m, 0, 0) P))) ∧ BR g w1 x (cO (112, m, 0, 0) P) S (pushH H P) I O se rj ∧ FX g w w1) (fun E a9 w1 => (E = "java/lang/IndexOutOfBoundsException" ∧ ¬ (True) ∧ w1 = w) ∨ (E = "java/lang/IllegalArgumentException" ∧ (True) ∧ ¬ (1 ≤ m ∧ m ≤ 12) ∧ w1 = w) ∨ (E = "java/lang/UnsupportedOperationException" ∧ (True) ∧ (1 ≤ m ∧ m ≤ 12) ∧ (cR (112, m, 0, 0) P).1 ≠ 0 ∧ BR g w1 x P S H I O se (some ((cR (112, m, 0, 0) P).1, (cR (112, m, 0, 0) P).2, 0)) ∧ FX g w w1)) := by
  refine Ct.of (lv := [some _, some _]) hG (by decide +kernel) (Nat.le_of_ble_eq_true rfl) rfl ?_
  intro z hg hpo hxp hnm htab
  subst hg
  obtain ⟨q, hl, harr, ib, bb, os, ob, L, oS, oE, oR, fH, hx, hF, hH, h8, hO⟩ := hX
  obtain ⟨n0, hK⟩ := hF.1
  have hAl := hH.1.lt
  refine xr_ge hx rfl (fun hgx => ?_)
  obtain ⟨mm0, hol0⟩ := hH.1.ob
  refine xr_ge hol0 rfl (fun hgl => ?_)
  have hgb := hB.g
  have hc0 := hK.c0
  refine xr_iload_n dX1_passMonths_0 rfl ?_
  refine xr_callS (n9 := 1) (rc' := 346) (rs' := 1002) (k_isTerm hG (by omega)) q1412 q1413 q86 q1414 (by decide +kernel) rfl ⟨by decide, Nat.le_of_ble_eq_true rfl⟩ ⟨Nat.le_of_ble_eq_true rfl, Nat.le_of_ble_eq_true rfl⟩ (Nat.le_of_ble_eq_true rfl) dX1_passMonths_1 rfl (xk_r ?_) (fun _ _ _ h => h.elim)
  refine xr_callS (n9 := 1) (rc' := 345) (rs' := 996) (k_requireArgument (b := decide (1 ≤ m ∧ m ≤ 12)) hG) q960 q961 q86 q962 (by decide +kernel) rfl ⟨by decide, Nat.le_of_ble_eq_true rfl⟩ ⟨Nat.le_of_ble_eq_true rfl, Nat.le_of_ble_eq_true rfl⟩ (Nat.le_of_ble_eq_true rfl) dX1_passMonths_4 rfl (xk_req ?_) (xt_req ?_)
  rotate_left
  · skip
    intro q9 hq9
    have hq9 := of_decide_eq_false hq9
    exact xt_out (fun x hx => (htab x hx).elim) (by rw [hxp]; exact Or.inr (Or.inl ⟨rfl, trivial, hq9, rfl⟩))
  intro hb9
  have hc2 := of_decide_eq_true hb9
  refine xr_aload_n dX1_passMonths_7 rfl (by first | rfl | exact isRef_rf _) ?_
  refine xr_new (ci := 11) (T := TX13) (N := 4) (n9 := 4) (fs := [.int (iI 0), .int (iI 0), .int (iI 0), .int (iI 0)]) (rc' := 344) (rs' := 992) rfl in_X13 tyX13 tyX13_ok q1229 q1230 q118 (by intro j hj; rcases (show j = 0 ∨ j = 1 ∨ j = 2 ∨ j = 3 by omega) with rfl | rfl | rfl | rfl <;> rfl) ⟨Nat.le_of_ble_eq_true rfl, Nat.le_of_ble_eq_true rfl⟩ dX1_passMonths_8 (fun a8 ga8 hob8 => ?_)
  have hmn8 := Mo.new ga8 ga8 (.inl (.inr (11, [.int (iI 0), .int (iI 0), .int (iI 0), .int (iI 0)])))
  refine xr_dup dX1_passMonths_11 (by first | rfl | exact cat_rf _) ?_
  refine xr_bipush dX1_passMonths_12 (by decide) ?_
  refine xr_iconst dX1_passMonths_14 ?_
  refine xr_iload_n dX1_passMonths_15 rfl ?_
  refine xr_callI (n9 := 3) (rc' := 344) (rs' := 992) (k_PlainAction_init hG hob8 (by omega)) q1231 q1232 q118 q1233 rfl (by decide +kernel) rfl ⟨by decide, Nat.le_of_ble_eq_true rfl⟩ ⟨Nat.le_of_ble_eq_true rfl, Nat.le_of_ble_eq_true rfl⟩ (Nat.le_of_ble_eq_true rfl) dX1_passMonths_16 rfl (fun r w16 hw => ?_) (fun _ _ _ h => h.elim)
  obtain ⟨rfl, hobA, hfA⟩ := hw
  have hmA : Mo w.2 w w16 := hmn8.tr (hfA.mo (n := w.2) (fun y _ (q9 : y = a8) => by omega)) (Nat.le_refl _)
  have hac : cA (112, m, 0, 0) P = true := decide_eq_true (p := 1 ≤ m ∧ m ≤ 12) hc2
  have hsm : cmS (112, m, 0, 0) := by refine ⟨?_, ?_, ?_, ?_⟩ <;> dsimp only <;> omega
  have hmA1 := hmA.1
  refine xr_callVX (n9 := 1) (rc' := 0) (rs' := 0) (k_X_change (c := (112, m, 0, 0)) hG hL (hx.ext hmA) (hF.ext hmA) (hH.ext hmA) h8 hB hN hC hac hsm hobA) (hx.ext hmA) rfl q1000 q1002 qs14 q86 q1003 (by decide +kernel) rfl ⟨by decide, Nat.le_of_ble_eq_true rfl⟩ ⟨Nat.le_of_ble_eq_true rfl, Nat.le_of_ble_eq_true rfl⟩ (Nat.le_of_ble_eq_true rfl) dX1_passMonths_19 rfl (fun r w19 hw => ?_) ?_
  rotate_left
  · skip
    rintro E r9 w9 ⟨rfl, hr9, r8, hx9, hor9, hg9, hf9⟩
    refine xt_out (fun x hx => (htab x hx).elim) ?_
    rw [hxp]
    have hFX := (FX.mo hmA).tr (FX.xs (x := x) hf9 (fun b hb => Or.inl hb) (hx.ext hmA) (hH.ext hmA).1)
    have hO9 := (hO.ext hmA).xs (x := x) hf9 (fun b hb => Or.inl hb) (hx.ext hmA) (hH.ext hmA).1 ⟨hgx, hgl⟩
    exact Or.inr (Or.inr ⟨rfl, trivial, hc2, hr9, ⟨q, hl, harr, ib, bb, os, ob, L, oS, oE, some r8, fH, hx9, (hF.ext hmA).xs (x := x) hf9 (fun b hb => Or.inl hb) (hx.ext hmA) (by decide) ⟨hgx, hgl⟩, (hH.ext hmA).fx hf9 (hx.ext hmA) (by decide) ⟨hgx, hgl⟩, h8, hO9.1, hO9.2.1, hO9.2.2.1, hO9.2.2.2.1, hO9.2.2.2.2.1, Or.inr ⟨_, r8, rfl, rfl, hor9⟩⟩, hFX⟩)
  obtain ⟨hr9, rfl, q2, L2, arr9, f9, hx9, hH9, har9, hF9, hf9⟩ := hw
  show XJ _ _ _ _ _ _ _ _ _ _ _ _ [.int (iI (cV (112, m, 0, 0) P))]
  have hFX := (FX.mo hmA).tr (FX.xs hf9 (fun b hb => hb) (hx.ext hmA) (hH.ext hmA).1)
  have hO8 := (hO.ext hmA).xs2 hf9 (fun b hb => hb) (hx.ext hmA) (hH.ext hmA).1 ⟨hgx, hgl⟩ har9
  refine xr_ireturn rfl rfl dX1_passMonths_22 ?_
  rw [hpo]
  exact ⟨trivial, hc2, hr9, rfl, ⟨q2, hl, arr9, ib, bb, os, ob, L2, oS, oE, oR, f9, hx9, hF9, hH9, pushH_len h8, hO8⟩, hFX⟩
