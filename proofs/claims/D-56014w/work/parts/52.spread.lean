/-! 52.spread.lean.txt (written by tools/walker.py)  -/
set_option maxRecDepth 100000
/-! the spreading of a noise over the cells -/
def uN (f : Nat → Nat) (k v : Nat) : Nat → Nat := fun j => if j = k then v else f j
def bfsR (v c : Nat) (ok : Bool) (s : (Nat → Nat) × List Nat) : (Nat → Nat) × List Nat := if 0 < v ∧ ok = true ∧ s.1 c = 0 then (uN s.1 c v, s.2 ++ [c]) else s
def bfs1 (f : Nat → Nat) (c : Nat) (l : List Nat) : (Nat → Nat) × List Nat :=
  bfsR (f c - 2) (c + 1) (decide (c % 6 < 5)) (bfsR (f c - 2) (c - 1) (decide (0 < c % 6)) (bfsR (f c - 2) (c + 6) (decide (c < 30)) (bfsR (f c - 2) (c - 6) (decide (6 ≤ c)) (f, l))))
def bfsOk : Nat → (Nat → Nat) × List Nat → ((Nat → Nat) → Bool) → Bool
  | 0, _, _ => false
  | n + 1, (f, l), p => match l with
    | [] => p f
    | c :: l => decide (l.length ≤ 12 ∧ c < 36 ∧ f c ≤ 9) && bfsOk n (bfs1 f c l) p
def apt (a b : Nat) : Nat := (a - b) + (b - a)
def fin1 (L cell j : Nat) : Nat := L - 2 * (apt (j / 6) (cell / 6) + apt (j % 6) (cell % 6))
def fin (L cell : Nat) (f : Nat → Nat) : Bool := (List.range 36).all (fun j => f j == fin1 L cell j)
theorem bfs_all : (List.range 36).all (fun cell => (List.range 9).all (fun L => bfsOk 37 (uN (fun _ => 0) cell (L + 1), [cell]) (fin (L + 1) cell))) = true := by decide +kernel
theorem bfs_at {L cell : Nat} (hL : 1 ≤ L ∧ L ≤ 9) (hc : cell < 36) : bfsOk 37 (uN (fun _ => 0) cell L, [cell]) (fin L cell) = true := by
  have h1 := List.all_eq_true.mp bfs_all cell (List.mem_range.mpr hc)
  have h2 := List.all_eq_true.mp h1 (L - 1) (List.mem_range.mpr (by omega))
  rwa [show L - 1 + 1 = L by omega] at h2
theorem prod_ex {α β : Type} (x : α × β) : ∃ (a : α) (b : β), x = (a, b) := ⟨x.1, x.2, rfl⟩
theorem bfsR_len {v c : Nat} {ok : Bool} {s : (Nat → Nat) × List Nat} : (bfsR v c ok s).2.length ≤ s.2.length + 1 := by
  unfold bfsR
  split
  · simp
  · omega
theorem bfsOk_cons {n c : Nat} {f : Nat → Nat} {l : List Nat} {p : (Nat → Nat) → Bool} (h : bfsOk (n + 1) (f, c :: l) p = true) : (l.length ≤ 12 ∧ c < 36 ∧ f c ≤ 9) ∧ bfsOk n (bfs1 f c l) p = true := by
  have h2 : (decide (l.length ≤ 12 ∧ c < 36 ∧ f c ≤ 9) && bfsOk n (bfs1 f c l) p) = true := h
  rw [Bool.and_eq_true] at h2
  exact ⟨of_decide_eq_true h2.1, h2.2⟩
theorem fin_at {L cell : Nat} {f : Nat → Nat} (h : fin L cell f = true) {j : Nat} (hj : j < 36) : f j = fin1 L cell j := by
  have h1 := List.all_eq_true.mp h j (List.mem_range.mpr hj)
  exact of_decide_eq_true h1
theorem sumF_snoc {f : Int → Int} : ∀ (m : Nat) (k : Int), sumF f (m + 1) k = sumF f m k + f (k + m)
  | 0, k => by
    show f k + 0 = 0 + f (k + ((0 : Nat) : Int))
    rw [show k + ((0 : Nat) : Int) = k by omega]; omega
  | m + 1, k => by
    show f k + sumF f (m + 1) (k + 1) = f k + sumF f m (k + 1) + f (k + ((m + 1 : Nat) : Int))
    rw [sumF_snoc m (k + 1), show k + 1 + (m : Int) = k + ((m + 1 : Nat) : Int) by omega]; omega
theorem sumR_snoc {f : Int → Int} {k n : Int} (h : k ≤ n) : sumR f k (n + 1) = sumR f k n + f n := by
  unfold sumR
  rw [show (n + 1 - k).toNat = (n - k).toNat + 1 by omega, sumF_snoc, show k + ((n - k).toNat : Int) = n by omega]
theorem fin1_nz {P : Int → Int} {N k j : Int} {Ln cell : Nat} (hB : PB P N) (hk : 0 ≤ k ∧ k < P 1) (hr : P (73 + 4 * k) = 1) (hL : P (72 + 4 * k) = Ln) (hc : 6 * P (70 + 4 * k) + P (71 + 4 * k) = cell) (hj : 0 ≤ j ∧ j < 36) : ((fin1 Ln cell j.toNat : Nat) : Int) = nz1 P k (j / 6) (j % 6) := by
  have hf := hB.f (f := k) hk
  unfold nz1 fin1 apt dist
  rw [if_pos hr]
  have e1 : cell / 6 = (P (70 + 4 * k)).toNat := by omega
  have e2 : cell % 6 = (P (71 + 4 * k)).toNat := by omega
  rw [e1, e2]
  omega
theorem k_reach {g : GG} {w : WW} {a arr b : Nat} {l : List Nat} {f : Nat → Nat} {v c : Int} {vn cn : Nat} {ok : Bool} (hG : Base g) (hI : IA g w b 36 (fun j => (f j.toNat : Int))) (hD : DQ g w a arr l) (hl : l.length ≤ 15) (hKI : KI g) (hv : -100 ≤ v ∧ v ≤ 100 ∧ vn = v.toNat) (hc : -100 ≤ c ∧ c ≤ 100 ∧ (ok = true → c = cn ∧ cn < 36) ∧ (ok = false → c < 0 ∨ 35 < c)) (hf9 : ∀ j : Nat, f j ≤ 9) : Ct g yX2_reach (.code yX2_reach cX2_reach 4 none) 3 64 0 0 w [.int (iI v), .int (iI c), .ref b, .ref a] (fun r_ w1 => r_ = none ∧ IA g w1 b 36 (fun j => ((bfsR vn cn ok (f, l)).1 j.toNat : Int)) ∧ DQ g w1 a arr (bfsR vn cn ok (f, l)).2 ∧ Fr (fun x => x = a ∨ x = arr ∨ x = b) w w1) xF := by
  refine Ct.of (lv := [some _, some _, some _, some _]) hG (by decide +kernel) (Nat.le_of_ble_eq_true rfl) rfl ?_
  intro z hg hpo hxp hnm htab
  subst hg
  obtain ⟨_, hob⟩ := hD.ob
  have hba := hD.ia hI
  refine xr_iload_n dX2_reach_0 rfl ?_
  refine xr_if_le (tgt := 35) dX2_reach_1 (by decide) (by omega) (fun c1 => ?_) (fun c1 => ?_)
  · skip
    have hres : bfsR vn cn ok (f, l) = (f, l) := if_neg (fun q => by have := q.1; omega)
    refine xr_return rfl dX2_reach_35 ?_
    rw [hpo]
    rw [hres]
    first | exact ⟨rfl, hI, hD, Fr.rf⟩ | exact ⟨rfl, hI3, hD3, (Fr.put (S := (fun x => x = a ∨ x = arr ∨ x = b)) (Or.inr (Or.inr rfl)) e25).tr hfr3 (fun b9 _ q => by rcases q with q | q <;> simp only [q, true_or, or_true])⟩
  · skip
    refine xr_iload_n dX2_reach_4 rfl ?_
    refine xr_iconst dX2_reach_5 ?_
    refine xr_aload_n dX2_reach_6 rfl (by first | rfl | exact isRef_rf _) ?_
    refine xr_alenIA hI dX2_reach_7 ?_
    refine xr_iconst dX2_reach_8 ?_
    refine xr_isub dX2_reach_9 ?_
    refine xr_callSN (n9 := 3) (rc' := 0) (rs' := 0) (k_isBetween hG (by omega)) q706 q707 q86 q708 (by decide +kernel) rfl ⟨by decide, Nat.le_of_ble_eq_true rfl⟩ ⟨Nat.le_of_ble_eq_true rfl, Nat.le_of_ble_eq_true rfl⟩ (Nat.le_of_ble_eq_true rfl) dX2_reach_10 rfl (xk_r ?_) (fun _ _ _ h => h.elim)
    refine xr_ifb_eq (tgt := 35) dX2_reach_13 (by decide) (fun c13 => ?_) (fun c13 => ?_)
    · skip
      try simp only [decide_eq_true_eq, decide_eq_false_iff_not] at c13
      have hok : ok = false := by
        rcases Bool.eq_false_or_eq_true ok with q | q
        · have := hc.2.2.1 q; omega
        · exact q
      have hres : bfsR vn cn ok (f, l) = (f, l) := if_neg (fun q => by have := q.2.1; rw [hok] at this; cases this)
      refine xr_return rfl dX2_reach_35 ?_
      rw [hpo]
      rw [hres]
      first | exact ⟨rfl, hI, hD, Fr.rf⟩ | exact ⟨rfl, hI3, hD3, (Fr.put (S := (fun x => x = a ∨ x = arr ∨ x = b)) (Or.inr (Or.inr rfl)) e25).tr hfr3 (fun b9 _ q => by rcases q with q | q <;> simp only [q, true_or, or_true])⟩
    · skip
      try simp only [decide_eq_true_eq, decide_eq_false_iff_not] at c13
      have hok : ok = true := by
        rcases Bool.eq_false_or_eq_true ok with q | q
        · exact q
        · have := hc.2.2.2 q; omega
      obtain ⟨rfl, hcn⟩ := hc.2.2.1 hok
      have h9 := hf9 cn
      refine xr_aload_n dX2_reach_16 rfl (by first | rfl | exact isRef_rf _) ?_
      refine xr_iload_n dX2_reach_17 rfl ?_
      refine xr_iaload hI (by omega) (by omega) dX2_reach_18 ?_
      rw [Int.toNat_natCast]
      refine xr_if_ne (tgt := 35) dX2_reach_19 (by decide) (by omega) (fun c19 => ?_) (fun c19 => ?_)
      · skip
        have hres : bfsR vn cn ok (f, l) = (f, l) := if_neg (fun q => by have h8 : f cn = 0 := q.2.2; omega)
        refine xr_return rfl dX2_reach_35 ?_
        rw [hpo]
        rw [hres]
        first | exact ⟨rfl, hI, hD, Fr.rf⟩ | exact ⟨rfl, hI3, hD3, (Fr.put (S := (fun x => x = a ∨ x = arr ∨ x = b)) (Or.inr (Or.inr rfl)) e25).tr hfr3 (fun b9 _ q => by rcases q with q | q <;> simp only [q, true_or, or_true])⟩
      · skip
        have hres : bfsR vn cn ok (f, l) = (uN f cn vn, l ++ [cn]) := if_pos ⟨by omega, hok, by show f cn = 0; omega⟩
        refine xr_aload_n dX2_reach_22 rfl (by first | rfl | exact isRef_rf _) ?_
        refine xr_iload_n dX2_reach_23 rfl ?_
        refine xr_iload_n dX2_reach_24 rfl ?_
        refine xr_iastore hI (by omega) (by omega) dX2_reach_25 (fun e25 har25 => ?_)
        have hD2 : DQ (zg z) (wput w b e25) a arr l := hD.fr (Fr.put1 e25) (Ne.symm hba.1) (Ne.symm hba.2) (fun b9 fs hb9 q => (hI.ob_ne hb9) q.symm)
        obtain ⟨_, hob2⟩ := hD2.ob
        have hI2 : IA (zg z) (wput w b e25) b 36 (fun j => ((uN f cn vn) j.toNat : Int)) := har25.to (fun k h0 h1 => by unfold updI uN; (try dsimp only); split <;> split <;> omega)
        refine xr_aload_n dX2_reach_26 rfl (by first | rfl | exact isRef_rf _) ?_
        refine xr_iload_n dX2_reach_27 rfl ?_
        refine xr_base (fun hB9 hk9 => ?_)
        have hoc := hKI.ob hk9 (c := cn) (by omega)
        refine xr_callS (n9 := 1) (rc' := 0) (rs' := 0) (k_Int_valueOf hG hKI (by omega)) q484 q485 q121 q486 (by decide +kernel) rfl ⟨by decide, Nat.le_of_ble_eq_true rfl⟩ ⟨Nat.le_of_ble_eq_true rfl, Nat.le_of_ble_eq_true rfl⟩ (Nat.le_of_ble_eq_true rfl) dX2_reach_28 rfl (xk_r ?_) (fun _ _ _ h => h.elim)
        refine xr_callV (n9 := 1) (rc' := 0) (rs' := 0) (k_DQ_add hG hD2 hl hoc) hob2 rfl q504 q505 q506 q119 q507 (by decide +kernel) rfl ⟨by decide, Nat.le_of_ble_eq_true rfl⟩ ⟨Nat.le_of_ble_eq_true rfl, Nat.le_of_ble_eq_true rfl⟩ (Nat.le_of_ble_eq_true rfl) dX2_reach_31 rfl (fun r w31 hw => ?_) (fun _ _ _ h => h.elim)
        obtain ⟨rfl, hD3, hfr3⟩ := hw
        have hI3 := hI2.fr hfr3 (fun q => by rcases q with q | q <;> omega)
        refine xr_pop dX2_reach_34 (by first | rfl | exact cat_rf _) ?_
        refine xr_return rfl dX2_reach_35 ?_
        rw [hpo]
        rw [hres]
        first | exact ⟨rfl, hI, hD, Fr.rf⟩ | exact ⟨rfl, hI3, hD3, (Fr.put (S := (fun x => x = a ∨ x = arr ∨ x = b)) (Or.inr (Or.inr rfl)) e25).tr hfr3 (fun b9 _ q => by rcases q with q | q <;> simp only [q, true_or, or_true])⟩
theorem bfsR_9 {v c : Nat} {ok : Bool} {s : (Nat → Nat) × List Nat} (h : ∀ j, s.1 j ≤ 9) (hv : v ≤ 9) : ∀ j, (bfsR v c ok s).1 j ≤ 9 := by
  intro j
  unfold bfsR
  split
  · show uN s.1 c v j ≤ 9
    unfold uN
    split
    · exact hv
    · exact h j
  · exact h j
theorem k_spreadS {g : GG} {w : WW} {a arr b : Nat} {Ln cell : Nat} (hG : Base g) (hKI : KI g) (hI : IA g w b 36 (fun _ => 0)) (hD : DQ g w a arr [cell]) (hc : cell < 36) (hL : 1 ≤ Ln ∧ Ln ≤ 9) : Ct g yX2_spread_2 (.code yX2_spread_2 cX2_spread_2 6 none) 4 87 0 0 w [.int (iI Ln), .ref b, .ref a] (fun r_ w1 => r_ = none ∧ IA g w1 b 36 (fun j => (fin1 Ln cell j.toNat : Int)) ∧ DQ g w1 a arr [] ∧ Fr (fun x => x = a ∨ x = arr ∨ x = b) w w1) xF := by
  refine Ct.of (lv := [some _, some _, some _, none, none, none]) hG (by decide +kernel) (Nat.le_of_ble_eq_true rfl) rfl ?_
  intro z hg hpo hxp hnm htab
  subst hg
  obtain ⟨_, hob⟩ := hD.ob
  have hba := hD.ia hI
  refine xr_aload_n dX2_spread_2_0 rfl (by first | rfl | exact isRef_rf _) ?_
  refine xr_aload_n dX2_spread_2_1 rfl (by first | rfl | exact isRef_rf _) ?_
  have hoc := hD.el
  refine xr_callV (n9 := 0) (rc' := 0) (rs' := 0) (k_DQ_peek hG hD) hob rfl q650 q651 q652 q119 q653 (by decide +kernel) rfl ⟨by decide, Nat.le_of_ble_eq_true rfl⟩ ⟨Nat.le_of_ble_eq_true rfl, Nat.le_of_ble_eq_true rfl⟩ (Nat.le_of_ble_eq_true rfl) dX2_spread_2_2 rfl (xk_r ?_) (fun _ _ _ h => h.elim)
  refine xr_castS hoc rfl q661 dX2_spread_2_5 ?_
  refine xr_callV (n9 := 0) (rc' := 0) (rs' := 0) (k_Int_intValue hG hoc) hoc rfl q662 q663 q664 q121 q665 (by decide +kernel) rfl ⟨by decide, Nat.le_of_ble_eq_true rfl⟩ ⟨Nat.le_of_ble_eq_true rfl, Nat.le_of_ble_eq_true rfl⟩ (Nat.le_of_ble_eq_true rfl) dX2_spread_2_8 rfl (xk_r ?_) (fun _ _ _ h => h.elim)
  refine xr_iload_n dX2_spread_2_11 rfl ?_
  refine xr_iastore hI (by omega) (by omega) dX2_spread_2_12 (fun e12 har12 => ?_)
  have hD1 : DQ (zg z) (wput w b e12) a arr [cell] := hD.fr (Fr.put1 e12) (Ne.symm hba.1) (Ne.symm hba.2) (fun b9 fs hb9 q => (hI.ob_ne hb9) q.symm)
  have hI1 : IA (zg z) (wput w b e12) b 36 (fun j => ((uN (fun _ => 0) cell Ln) j.toNat : Int)) := har12.to (fun k h0 h1 => by unfold updI uN; (try dsimp only); split <;> split <;> omega)
  refine xr_lv (lvw_s (lvw_s (lvw_s (lvw_n (lvw_n (lvw_n (lvw_nil))))))) ?_
  have lp13 : ∀ (fu13 : Nat) (w9 : WW) (f : Nat → Nat) (l : List Nat), bfsOk fu13 (f, l) (fin Ln cell) = true → (∀ j, f j ≤ 9) → IA (zg z) w9 b 36 (fun j => (f j.toNat : Int)) → DQ (zg z) w9 a arr l → Fr (fun x => x = a ∨ x = arr ∨ x = b) w w9 → XJ z yX2_spread_2.cls cX2_spread_2 6 none 4 87 w9 (0 * fu13 + 0) (0 * fu13 + 0) 13 [some (.int (iI Ln)), some (.ref b), some (.ref a), none, none, none] [] := by
    intro fu13
    induction fu13 with
    | zero =>
      intro w9 f l hok h9a hI9 hD9 hfr
      exact absurd hok Bool.false_ne_true
    | succ fu13 ih13 =>
      intro w9 f l hok h9a hI9 hD9 hfr
      obtain ⟨_, hob9⟩ := hD9.ob
      refine xr_aload_n dX2_spread_2_13 rfl (by first | rfl | exact isRef_rf _) ?_
      refine xr_callV (n9 := 0) (rc' := 0 * fu13 + 0) (rs' := 0 * fu13 + 0) (k_DQ_isEmpty hG hD9) hob9 rfl q666 q667 q668 q119 q669 (by decide +kernel) rfl ⟨by decide, Nat.le_of_ble_eq_true rfl⟩ ⟨by omega, by omega⟩ (Nat.le_of_ble_eq_true rfl) dX2_spread_2_14 rfl (xk_r ?_) (fun _ _ _ h => h.elim)
      refine xr_ifb_ne (tgt := 108) dX2_spread_2_17 (by decide) (fun c17 => ?_) (fun c17 => ?_)
      · skip
        try simp only [decide_eq_true_eq, decide_eq_false_iff_not] at c17
        refine xr_return rfl dX2_spread_2_108 ?_
        rw [hpo]
        subst c17
        exact ⟨rfl, hI9.to (fun k h0 h1 => by rw [fin_at hok (show k.toNat < 36 by omega)]), hD9, hfr⟩
      · skip
        try simp only [decide_eq_true_eq, decide_eq_false_iff_not] at c17
        rcases l with _ | ⟨c, l⟩
        · exact absurd rfl c17
        obtain ⟨⟨hk1, hk2, hk3⟩, hok2⟩ := bfsOk_cons hok
        have hok3 : bfsOk fu13 (bfsR (f c - 2) (c + 1) (decide (c % 6 < 5)) (bfsR (f c - 2) (c - 1) (decide (0 < c % 6)) (bfsR (f c - 2) (c + 6) (decide (c < 30)) (bfsR (f c - 2) (c - 6) (decide (6 ≤ c)) (f, l))))) (fin Ln cell) = true := hok2
        refine xr_aload_n dX2_spread_2_20 rfl (by first | rfl | exact isRef_rf _) ?_
        refine xr_callV (n9 := 0) (rc' := 0 * fu13 + 0) (rs' := 0 * fu13 + 0) (k_DQ_remove hG hD9) hob9 rfl q670 q671 q672 q119 q673 (by decide +kernel) rfl ⟨by decide, Nat.le_of_ble_eq_true rfl⟩ ⟨by omega, by omega⟩ (Nat.le_of_ble_eq_true rfl) dX2_spread_2_21 rfl (fun r w21 hw => ?_) (fun _ _ _ h => h.elim)
        obtain ⟨rfl, hDa, hoc9, hfa⟩ := hw
        show XJ _ _ _ _ _ _ _ _ _ _ _ _ [.ref (ic (zg z) c)]
        have hba9 := hD9.ia hI9
        have hIa := hI9.fr hfa (fun q => by rcases q with q | q <;> omega)
        have hfa2 : Fr (fun x => x = a ∨ x = arr ∨ x = b) w9 w21 := hfa.to (fun b9 _ q => by rcases q with q | q <;> simp only [q, true_or, or_true])
        refine xr_castS hoc9 rfl q661 dX2_spread_2_24 ?_
        refine xr_callV (n9 := 0) (rc' := 0 * fu13 + 0) (rs' := 0 * fu13 + 0) (k_Int_intValue hG hoc9) hoc9 rfl q662 q663 q664 q121 q665 (by decide +kernel) rfl ⟨by decide, Nat.le_of_ble_eq_true rfl⟩ ⟨by omega, by omega⟩ (Nat.le_of_ble_eq_true rfl) dX2_spread_2_27 rfl (xk_r ?_) (fun _ _ _ h => h.elim)
        refine xr_istore_n (lv' := [some _, some _, some _, some _, none, none]) dX2_spread_2_30 (by decide) rfl rfl ?_
        refine xr_aload_n dX2_spread_2_31 rfl (by first | rfl | exact isRef_rf _) ?_
        refine xr_iload_n dX2_spread_2_32 rfl ?_
        refine xr_iaload hIa (by omega) (by omega) dX2_spread_2_33 ?_
        rw [Int.toNat_natCast]
        refine xr_iconst dX2_spread_2_34 ?_
        refine xr_isub dX2_spread_2_35 ?_
        refine xr_istore (lv' := [some _, some _, some _, some _, some _, none]) dX2_spread_2_36 (by decide) rfl rfl ?_
        refine xr_iload_n dX2_spread_2_38 rfl ?_
        refine xr_bipush dX2_spread_2_39 (by decide) ?_
        refine xr_irem dX2_spread_2_41 (by omega) (by omega) ?_
        rw [show (c : Int).tmod 6 = ((c % 6 : Nat) : Int) from rfl]
        refine xr_istore (lv' := [some _, some _, some _, some _, some _, some _]) dX2_spread_2_42 (by decide) rfl rfl ?_
        refine xr_iload dX2_spread_2_44 rfl ?_
        refine xr_iload_n dX2_spread_2_46 rfl ?_
        refine xr_bipush dX2_spread_2_47 (by decide) ?_
        refine xr_isub dX2_spread_2_49 ?_
        refine xr_aload_n dX2_spread_2_50 rfl (by first | rfl | exact isRef_rf _) ?_
        refine xr_aload_n dX2_spread_2_51 rfl (by first | rfl | exact isRef_rf _) ?_
        refine xr_callS (n9 := 4) (rc' := 0 * fu13 + 0) (rs' := 0 * fu13 + 0) (k_reach hG (vn := f c - 2) (cn := c - 6) (ok := decide (6 ≤ c)) hIa hDa (by omega) hKI ⟨by omega, by omega, by omega⟩ ⟨by omega, by omega, fun q => by have := of_decide_eq_true q; omega, fun q => by have := of_decide_eq_false q; omega⟩ (by assumption)) q703 q704 q87 q705 (by decide +kernel) rfl ⟨by decide, Nat.le_of_ble_eq_true rfl⟩ ⟨by omega, by omega⟩ (Nat.le_of_ble_eq_true rfl) dX2_spread_2_52 rfl (fun r w52 hw => ?_) (fun _ _ _ h => h.elim)
        obtain ⟨rfl, hIb, hDb, hfb⟩ := hw
        have hlb := bfsR_len (v := f c - 2) (c := c - 6) (ok := decide (6 ≤ c)) (s := (f, l))
        have h9b := bfsR_9 (v := f c - 2) (c := c - 6) (ok := decide (6 ≤ c)) (s := (f, l)) h9a (by omega)
        obtain ⟨f2, l2, hsb⟩ := prod_ex (bfsR (f c - 2) (c - 6) (decide (6 ≤ c)) (f, l))
        rw [hsb] at hIb hDb hlb h9b hok3
        dsimp only at hIb hDb hlb h9b
        refine xr_iload dX2_spread_2_55 rfl ?_
        refine xr_iload_n dX2_spread_2_57 rfl ?_
        refine xr_bipush dX2_spread_2_58 (by decide) ?_
        refine xr_iadd dX2_spread_2_60 ?_
        refine xr_aload_n dX2_spread_2_61 rfl (by first | rfl | exact isRef_rf _) ?_
        refine xr_aload_n dX2_spread_2_62 rfl (by first | rfl | exact isRef_rf _) ?_
        refine xr_callS (n9 := 4) (rc' := 0 * fu13 + 0) (rs' := 0 * fu13 + 0) (k_reach hG (vn := f c - 2) (cn := c + 6) (ok := decide (c < 30)) hIb hDb (by omega) hKI ⟨by omega, by omega, by omega⟩ ⟨by omega, by omega, fun q => by have := of_decide_eq_true q; omega, fun q => by have := of_decide_eq_false q; omega⟩ (by assumption)) q703 q704 q87 q705 (by decide +kernel) rfl ⟨by decide, Nat.le_of_ble_eq_true rfl⟩ ⟨by omega, by omega⟩ (Nat.le_of_ble_eq_true rfl) dX2_spread_2_63 rfl (fun r w63 hw => ?_) (fun _ _ _ h => h.elim)
        obtain ⟨rfl, hIc, hDc, hfc⟩ := hw
        have hlc := bfsR_len (v := f c - 2) (c := c + 6) (ok := decide (c < 30)) (s := (f2, l2))
        have h9c := bfsR_9 (v := f c - 2) (c := c + 6) (ok := decide (c < 30)) (s := (f2, l2)) h9b (by omega)
        obtain ⟨f3, l3, hsc⟩ := prod_ex (bfsR (f c - 2) (c + 6) (decide (c < 30)) (f2, l2))
        rw [hsc] at hIc hDc hlc h9c hok3
        dsimp only at hIc hDc hlc h9c
        refine xr_iload dX2_spread_2_66 rfl ?_
        refine xr_iload dX2_spread_2_68 rfl ?_
        refine xr_if_le (tgt := 79) dX2_spread_2_70 (by decide) (by omega) (fun c70 => ?_) (fun c70 => ?_)
        · skip
          refine xr_iconst dX2_spread_2_79 ?_
          refine xr_aload_n dX2_spread_2_80 rfl (by first | rfl | exact isRef_rf _) ?_
          refine xr_aload_n dX2_spread_2_81 rfl (by first | rfl | exact isRef_rf _) ?_
          refine xr_callS (n9 := 4) (rc' := 0 * fu13 + 0) (rs' := 0 * fu13 + 0) (k_reach hG (vn := f c - 2) (cn := c - 1) (ok := decide (0 < c % 6)) hIc hDc (by omega) hKI ⟨by omega, by omega, by omega⟩ ⟨by omega, by omega, fun q => by have := of_decide_eq_true q; omega, fun q => by have := of_decide_eq_false q; omega⟩ (by assumption)) q703 q704 q87 q705 (by decide +kernel) rfl ⟨by decide, Nat.le_of_ble_eq_true rfl⟩ ⟨by omega, by omega⟩ (Nat.le_of_ble_eq_true rfl) dX2_spread_2_82 rfl (fun r w82 hw => ?_) (fun _ _ _ h => h.elim)
          obtain ⟨rfl, hId, hDd, hfd⟩ := hw
          have hld := bfsR_len (v := f c - 2) (c := c - 1) (ok := decide (0 < c % 6)) (s := (f3, l3))
          have h9d := bfsR_9 (v := f c - 2) (c := c - 1) (ok := decide (0 < c % 6)) (s := (f3, l3)) h9c (by omega)
          obtain ⟨f4, l4, hsd⟩ := prod_ex (bfsR (f c - 2) (c - 1) (decide (0 < c % 6)) (f3, l3))
          rw [hsd] at hId hDd hld h9d hok3
          dsimp only at hId hDd hld h9d
          refine xr_iload dX2_spread_2_85 rfl ?_
          refine xr_iload dX2_spread_2_87 rfl ?_
          refine xr_iconst dX2_spread_2_89 ?_
          refine xr_icmp_ge (tgt := 99) dX2_spread_2_90 (by decide) (by omega) (fun c90 => ?_) (fun c90 => ?_)
          · skip
            refine xr_iconst dX2_spread_2_99 ?_
            refine xr_aload_n dX2_spread_2_100 rfl (by first | rfl | exact isRef_rf _) ?_
            refine xr_aload_n dX2_spread_2_101 rfl (by first | rfl | exact isRef_rf _) ?_
            refine xr_callS (n9 := 4) (rc' := 0 * fu13 + 0) (rs' := 0 * fu13 + 0) (k_reach hG (vn := f c - 2) (cn := c + 1) (ok := decide (c % 6 < 5)) hId hDd (by omega) hKI ⟨by omega, by omega, by omega⟩ ⟨by omega, by omega, fun q => by have := of_decide_eq_true q; omega, fun q => by have := of_decide_eq_false q; omega⟩ (by assumption)) q703 q704 q87 q705 (by decide +kernel) rfl ⟨by decide, Nat.le_of_ble_eq_true rfl⟩ ⟨by omega, by omega⟩ (Nat.le_of_ble_eq_true rfl) dX2_spread_2_102 rfl (fun r w102 hw => ?_) (fun _ _ _ h => h.elim)
            obtain ⟨rfl, hIe, hDe, hfe⟩ := hw
            have hle := bfsR_len (v := f c - 2) (c := c + 1) (ok := decide (c % 6 < 5)) (s := (f4, l4))
            have h9e := bfsR_9 (v := f c - 2) (c := c + 1) (ok := decide (c % 6 < 5)) (s := (f4, l4)) h9d (by omega)
            obtain ⟨f5, l5, hse⟩ := prod_ex (bfsR (f c - 2) (c + 1) (decide (c % 6 < 5)) (f4, l4))
            rw [hse] at hIe hDe hle h9e hok3
            dsimp only at hIe hDe hle h9e
            have hfr9 := ((((hfr.tr hfa2 (fun b9 _ q => q)).tr hfb (fun b9 _ q => q)).tr hfc (fun b9 _ q => q)).tr hfd (fun b9 _ q => q)).tr hfe (fun b9 _ q => q)
            refine xr_goto (tgt := 13) dX2_spread_2_105 (by decide) ?_
            refine xr_lv (lvw_s (lvw_s (lvw_s (lvw_n (lvw_n (lvw_n (lvw_nil))))))) ?_
            refine xr_wk (rc' := 0 * fu13 + 0) (rs' := 0 * fu13 + 0) ⟨by omega, by omega⟩ (ih13 w102 f5 l5 hok3 h9e hIe hDe hfr9)
          · skip
            refine xr_iload_n dX2_spread_2_93 rfl ?_
            refine xr_iconst dX2_spread_2_94 ?_
            refine xr_iadd dX2_spread_2_95 ?_
            refine xr_goto (tgt := 100) dX2_spread_2_96 (by decide) ?_
            refine xr_aload_n dX2_spread_2_100 rfl (by first | rfl | exact isRef_rf _) ?_
            refine xr_aload_n dX2_spread_2_101 rfl (by first | rfl | exact isRef_rf _) ?_
            refine xr_callS (n9 := 4) (rc' := 0 * fu13 + 0) (rs' := 0 * fu13 + 0) (k_reach hG (vn := f c - 2) (cn := c + 1) (ok := decide (c % 6 < 5)) hId hDd (by omega) hKI ⟨by omega, by omega, by omega⟩ ⟨by omega, by omega, fun q => by have := of_decide_eq_true q; omega, fun q => by have := of_decide_eq_false q; omega⟩ (by assumption)) q703 q704 q87 q705 (by decide +kernel) rfl ⟨by decide, Nat.le_of_ble_eq_true rfl⟩ ⟨by omega, by omega⟩ (Nat.le_of_ble_eq_true rfl) dX2_spread_2_102 rfl (fun r w102 hw => ?_) (fun _ _ _ h => h.elim)
            obtain ⟨rfl, hIe, hDe, hfe⟩ := hw
            have hle := bfsR_len (v := f c - 2) (c := c + 1) (ok := decide (c % 6 < 5)) (s := (f4, l4))
            have h9e := bfsR_9 (v := f c - 2) (c := c + 1) (ok := decide (c % 6 < 5)) (s := (f4, l4)) h9d (by omega)
            obtain ⟨f5, l5, hse⟩ := prod_ex (bfsR (f c - 2) (c + 1) (decide (c % 6 < 5)) (f4, l4))
            rw [hse] at hIe hDe hle h9e hok3
            dsimp only at hIe hDe hle h9e
            have hfr9 := ((((hfr.tr hfa2 (fun b9 _ q => q)).tr hfb (fun b9 _ q => q)).tr hfc (fun b9 _ q => q)).tr hfd (fun b9 _ q => q)).tr hfe (fun b9 _ q => q)
            refine xr_goto (tgt := 13) dX2_spread_2_105 (by decide) ?_
            refine xr_lv (lvw_s (lvw_s (lvw_s (lvw_n (lvw_n (lvw_n (lvw_nil))))))) ?_
            refine xr_wk (rc' := 0 * fu13 + 0) (rs' := 0 * fu13 + 0) ⟨by omega, by omega⟩ (ih13 w102 f5 l5 hok3 h9e hIe hDe hfr9)
        · skip
          refine xr_iload_n dX2_spread_2_73 rfl ?_
          refine xr_iconst dX2_spread_2_74 ?_
          refine xr_isub dX2_spread_2_75 ?_
          refine xr_goto (tgt := 80) dX2_spread_2_76 (by decide) ?_
          refine xr_aload_n dX2_spread_2_80 rfl (by first | rfl | exact isRef_rf _) ?_
          refine xr_aload_n dX2_spread_2_81 rfl (by first | rfl | exact isRef_rf _) ?_
          refine xr_callS (n9 := 4) (rc' := 0 * fu13 + 0) (rs' := 0 * fu13 + 0) (k_reach hG (vn := f c - 2) (cn := c - 1) (ok := decide (0 < c % 6)) hIc hDc (by omega) hKI ⟨by omega, by omega, by omega⟩ ⟨by omega, by omega, fun q => by have := of_decide_eq_true q; omega, fun q => by have := of_decide_eq_false q; omega⟩ (by assumption)) q703 q704 q87 q705 (by decide +kernel) rfl ⟨by decide, Nat.le_of_ble_eq_true rfl⟩ ⟨by omega, by omega⟩ (Nat.le_of_ble_eq_true rfl) dX2_spread_2_82 rfl (fun r w82 hw => ?_) (fun _ _ _ h => h.elim)
          obtain ⟨rfl, hId, hDd, hfd⟩ := hw
          have hld := bfsR_len (v := f c - 2) (c := c - 1) (ok := decide (0 < c % 6)) (s := (f3, l3))
          have h9d := bfsR_9 (v := f c - 2) (c := c - 1) (ok := decide (0 < c % 6)) (s := (f3, l3)) h9c (by omega)
          obtain ⟨f4, l4, hsd⟩ := prod_ex (bfsR (f c - 2) (c - 1) (decide (0 < c % 6)) (f3, l3))
          rw [hsd] at hId hDd hld h9d hok3
          dsimp only at hId hDd hld h9d
          refine xr_iload dX2_spread_2_85 rfl ?_
          refine xr_iload dX2_spread_2_87 rfl ?_
          refine xr_iconst dX2_spread_2_89 ?_
          refine xr_icmp_ge (tgt := 99) dX2_spread_2_90 (by decide) (by omega) (fun c90 => ?_) (fun c90 => ?_)
          · skip
            refine xr_iconst dX2_spread_2_99 ?_
            refine xr_aload_n dX2_spread_2_100 rfl (by first | rfl | exact isRef_rf _) ?_
            refine xr_aload_n dX2_spread_2_101 rfl (by first | rfl | exact isRef_rf _) ?_
            refine xr_callS (n9 := 4) (rc' := 0 * fu13 + 0) (rs' := 0 * fu13 + 0) (k_reach hG (vn := f c - 2) (cn := c + 1) (ok := decide (c % 6 < 5)) hId hDd (by omega) hKI ⟨by omega, by omega, by omega⟩ ⟨by omega, by omega, fun q => by have := of_decide_eq_true q; omega, fun q => by have := of_decide_eq_false q; omega⟩ (by assumption)) q703 q704 q87 q705 (by decide +kernel) rfl ⟨by decide, Nat.le_of_ble_eq_true rfl⟩ ⟨by omega, by omega⟩ (Nat.le_of_ble_eq_true rfl) dX2_spread_2_102 rfl (fun r w102 hw => ?_) (fun _ _ _ h => h.elim)
            obtain ⟨rfl, hIe, hDe, hfe⟩ := hw
            have hle := bfsR_len (v := f c - 2) (c := c + 1) (ok := decide (c % 6 < 5)) (s := (f4, l4))
            have h9e := bfsR_9 (v := f c - 2) (c := c + 1) (ok := decide (c % 6 < 5)) (s := (f4, l4)) h9d (by omega)
            obtain ⟨f5, l5, hse⟩ := prod_ex (bfsR (f c - 2) (c + 1) (decide (c % 6 < 5)) (f4, l4))
            rw [hse] at hIe hDe hle h9e hok3
            dsimp only at hIe hDe hle h9e
            have hfr9 := ((((hfr.tr hfa2 (fun b9 _ q => q)).tr hfb (fun b9 _ q => q)).tr hfc (fun b9 _ q => q)).tr hfd (fun b9 _ q => q)).tr hfe (fun b9 _ q => q)
            refine xr_goto (tgt := 13) dX2_spread_2_105 (by decide) ?_
            refine xr_lv (lvw_s (lvw_s (lvw_s (lvw_n (lvw_n (lvw_n (lvw_nil))))))) ?_
            refine xr_wk (rc' := 0 * fu13 + 0) (rs' := 0 * fu13 + 0) ⟨by omega, by omega⟩ (ih13 w102 f5 l5 hok3 h9e hIe hDe hfr9)
          · skip
            refine xr_iload_n dX2_spread_2_93 rfl ?_
            refine xr_iconst dX2_spread_2_94 ?_
            refine xr_iadd dX2_spread_2_95 ?_
            refine xr_goto (tgt := 100) dX2_spread_2_96 (by decide) ?_
            refine xr_aload_n dX2_spread_2_100 rfl (by first | rfl | exact isRef_rf _) ?_
            refine xr_aload_n dX2_spread_2_101 rfl (by first | rfl | exact isRef_rf _) ?_
            refine xr_callS (n9 := 4) (rc' := 0 * fu13 + 0) (rs' := 0 * fu13 + 0) (k_reach hG (vn := f c - 2) (cn := c + 1) (ok := decide (c % 6 < 5)) hId hDd (by omega) hKI ⟨by omega, by omega, by omega⟩ ⟨by omega, by omega, fun q => by have := of_decide_eq_true q; omega, fun q => by have := of_decide_eq_false q; omega⟩ (by assumption)) q703 q704 q87 q705 (by decide +kernel) rfl ⟨by decide, Nat.le_of_ble_eq_true rfl⟩ ⟨by omega, by omega⟩ (Nat.le_of_ble_eq_true rfl) dX2_spread_2_102 rfl (fun r w102 hw => ?_) (fun _ _ _ h => h.elim)
            obtain ⟨rfl, hIe, hDe, hfe⟩ := hw
            have hle := bfsR_len (v := f c - 2) (c := c + 1) (ok := decide (c % 6 < 5)) (s := (f4, l4))
            have h9e := bfsR_9 (v := f c - 2) (c := c + 1) (ok := decide (c % 6 < 5)) (s := (f4, l4)) h9d (by omega)
            obtain ⟨f5, l5, hse⟩ := prod_ex (bfsR (f c - 2) (c + 1) (decide (c % 6 < 5)) (f4, l4))
            rw [hse] at hIe hDe hle h9e hok3
            dsimp only at hIe hDe hle h9e
            have hfr9 := ((((hfr.tr hfa2 (fun b9 _ q => q)).tr hfb (fun b9 _ q => q)).tr hfc (fun b9 _ q => q)).tr hfd (fun b9 _ q => q)).tr hfe (fun b9 _ q => q)
            refine xr_goto (tgt := 13) dX2_spread_2_105 (by decide) ?_
            refine xr_lv (lvw_s (lvw_s (lvw_s (lvw_n (lvw_n (lvw_n (lvw_nil))))))) ?_
            refine xr_wk (rc' := 0 * fu13 + 0) (rs' := 0 * fu13 + 0) ⟨by omega, by omega⟩ (ih13 w102 f5 l5 hok3 h9e hIe hDe hfr9)
  refine xr_wk (rc' := 0 * 37 + 0) (rs' := 0 * 37 + 0) ⟨by omega, by omega⟩ (lp13 37 _ _ _ (bfs_at hL hc) (fun j => by unfold uN; (try dsimp only); split <;> omega) hI1 hD1 (Fr.put (S := (fun x => x = a ∨ x = arr ∨ x = b)) (Or.inr (Or.inr rfl)) e12))
theorem k_P_spread {g : GG} {w : WW} {n0 : Nat → Prop} {q : Nat} {L : Int → Nat} {P : Int → Int} {N : Int} (hG : Base g) (hKI : KI g) (hK : PK g w n0 q L P) (hB : PB P N) : Ct g yX2_spread (.code yX2_spread cX2_spread 7 (some ((.array .int)))) 5 112 4 92 w [.ref q] (fun r_ w1 => ∃ q1 : Nat, r_ = some (.ref q1) ∧ IA g w1 q1 36 (fun j => noise P (j / 6) (j % 6)) ∧ w.2 ≤ q1 ∧ Mo w.2 w w1) xF := by
  refine Ct.of (lv := [some _, none, none, none, none, none, none]) hG (by decide +kernel) (Nat.le_of_ble_eq_true rfl) rfl ?_
  intro z hg hpo hxp hnm htab
  subst hg
  have hcn := hK.c0
  refine xr_bipush dX2_spread_0 (by decide) ?_
  refine xr_newIA (rc' := 3) (rs' := 56) q471 (by omega) (by omega) dX2_spread_2 (fun a2 e2 ga2 ba2 har2 => ?_)
  have hx2 : IA (zg z) _ a2 36 (fun _ => 0) := har2
  have hy2 := hx2.lt
  refine xr_astore_n (lv' := [some _, some _, none, none, none, none, none]) dX2_spread_4 (by decide) rfl (by first | rfl | exact isRef_rf _) rfl ?_
  refine xr_bipush dX2_spread_5 (by decide) ?_
  refine xr_newIA (rc' := 2) (rs' := 20) q471 (by omega) (by omega) dX2_spread_7 (fun a7 e7 ga7 ba7 har7 => ?_)
  have hx7 : IA (zg z) _ a7 36 (fun _ => 0) := har7
  have hx27 := hx2.new_ne ga7 e7
  have hy7 := hx7.lt
  refine xr_astore_n (lv' := [some _, some _, some _, none, none, none, none]) dX2_spread_9 (by decide) rfl (by first | rfl | exact isRef_rf _) rfl ?_
  refine xr_new (ci := 17) (T := TJ19) (N := 3) (n9 := 3) (fs := [.null, .int (iI 0), .int (iI 0)]) (rc' := 1) (rs' := 17) rfl in_J19 tyJ19 tyJ19_ok q453 q454 q119 (by intro j hj; rcases (show j = 0 ∨ j = 1 ∨ j = 2 by omega) with rfl | rfl | rfl <;> rfl) ⟨Nat.le_of_ble_eq_true rfl, Nat.le_of_ble_eq_true rfl⟩ dX2_spread_10 (fun a10 ga10 hob10 => ?_)
  have hmn10 := Mo.new ga10 ga10 (.inl (.inr (17, [.null, .int (iI 0), .int (iI 0)])))
  have hz2 := hx27.ext hmn10
  have hz7 := hx7.ext hmn10
  have hy10 := hob10.2
  have hmA : Mo w.2 w _ := ((Mo.new (n := w.2) ga2 ga2 e2).tr (Mo.new (n := w.2) (by have := ga2; omega) ga7 e7) (Nat.le_refl _)).tr (hmn10.to (n := w.2) (by have := ga2; omega)) (Nat.le_refl _)
  refine xr_dup dX2_spread_13 (by first | rfl | exact cat_rf _) ?_
  refine xr_callI (n9 := 0) (rc' := 0) (rs' := 0) (k_DQ_init hG hob10) q455 q456 q119 q457 rfl (by decide +kernel) rfl ⟨by decide, Nat.le_of_ble_eq_true rfl⟩ ⟨Nat.le_of_ble_eq_true rfl, Nat.le_of_ble_eq_true rfl⟩ (Nat.le_of_ble_eq_true rfl) dX2_spread_14 rfl (fun r w14 hw => ?_) (fun _ _ _ h => h.elim)
  obtain ⟨rfl, arr, hD, garr, hfrD⟩ := hw
  have hu2 := hz2.fr hfrD (hz2.ob_ne hob10)
  have hu7 := hz7.fr hfrD (hz7.ob_ne hob10)
  have hmB := hmA.tr (hfrD.mo (n := w.2) (fun b9 _ (q : b9 = a10) => by omega)) (Nat.le_refl _)
  refine xr_astore_n (lv' := [some _, some _, some _, some _, none, none, none]) dX2_spread_17 (by decide) rfl (by first | rfl | exact isRef_rf _) rfl ?_
  refine xr_iconst dX2_spread_18 ?_
  refine xr_istore (lv' := [some _, some _, some _, some _, some _, none, none]) dX2_spread_19 (by decide) rfl rfl ?_
  refine xr_lv (lvw_s (lvw_s (lvw_s (lvw_s (lvw_s (lvw_n (lvw_n (lvw_nil)))))))) ?_
  have lp21 : ∀ (fu21 : Nat) (w9 : WW) (k : Int), 0 ≤ k → k ≤ P 1 → P 1 - k < fu21 → IA (zg z) w9 a2 36 (fun j => sumR (fun f => nz1 P f (j / 6) (j % 6)) 0 k) → IA (zg z) w9 a7 36 (fun _ => 0) → DQ (zg z) w9 a10 arr [] → Mo w.2 w w9 → XJ z yX2_spread.cls cX2_spread 7 (some ((.array .int))) 5 112 w9 (0 * fu21 + 0) (0 * fu21 + 0) 21 [some (.ref q), some (.ref a2), some (.ref a7), some (.ref a10), some (.int (iI k)), none, none] [] := by
    intro fu21
    induction fu21 with
    | zero =>
      intro w9 k hk0 hkn hfu h1 h2 h3 hmo9
      omega
    | succ fu21 ih21 =>
      intro w9 k hk0 hkn hfu h1 h2 h3 hmo9
      have hK9 := hK.ext hmo9
      obtain ⟨_, hob3⟩ := h3.ob
      have hcn := hK.c0
      have n27 : a2 ≠ a7 := by omega
      refine xr_iload dX2_spread_21 rfl ?_
      refine xr_aload_n dX2_spread_23 rfl (by first | rfl | exact isRef_rf _) ?_
      refine xr_getfield (ci := 0) (T := TX2) (N := 10) (i := 1) hK9.hq rfl (by decide) in_X2 q189 (.inl rfl) dX2_spread_24 (by rfl) ?_
      refine xr_callV (n9 := 0) (rc' := 0 * fu21 + 0) (rs' := 0 * fu21 + 0) (k_Reg_size hG hK9.r1 hK9.l1) hK9.r1 rfl q472 q294 q295 q88 q296 (by decide +kernel) rfl ⟨by decide, Nat.le_of_ble_eq_true rfl⟩ ⟨by omega, by omega⟩ (Nat.le_of_ble_eq_true rfl) dX2_spread_27 rfl (xk_r ?_) (fun _ _ _ h => h.elim)
      refine xr_icmp_ge (tgt := 125) dX2_spread_30 (by decide) (by omega) (fun c30 => ?_) (fun c30 => ?_)
      · skip
        refine xr_aload_n dX2_spread_125 rfl (by first | rfl | exact isRef_rf _) ?_
        first | refine xr_areturn rfl rfl dX2_spread_126 ?_ | refine xr_areturnN rfl rfl dX2_spread_126 ?_
        rw [hpo]
        exact ⟨a2, rfl, h1.to (fun j h0 h9 => by unfold noise; rw [show k = P 1 by omega]), ga2, hmo9⟩
      · skip
        have hff := hB.f (f := k) ⟨hk0, by omega⟩
        refine xr_aload_n dX2_spread_33 rfl (by first | rfl | exact isRef_rf _) ?_
        refine xr_getfield (ci := 0) (T := TX2) (N := 10) (i := 1) hK9.hq rfl (by decide) in_X2 q189 (.inl rfl) dX2_spread_34 (by rfl) ?_
        refine xr_iload dX2_spread_37 rfl ?_
        refine xr_callV (n9 := 1) (rc' := 0 * fu21 + 0) (rs' := 0 * fu21 + 0) (k_Reg_get hG hK9.r1 hK9.l1 ⟨by omega, by omega⟩ rfl (hK9.fo k hk0 (by omega)) rfl q2758) hK9.r1 rfl q473 q474 q475 q88 q476 (by decide +kernel) rfl ⟨by decide, Nat.le_of_ble_eq_true rfl⟩ ⟨by omega, by omega⟩ (Nat.le_of_ble_eq_true rfl) dX2_spread_39 rfl (xk_r ?_) (fun _ _ _ h => h.elim)
        refine xr_castS (hK9.fo k hk0 (by omega)) rfl q477 dX2_spread_42 ?_
        refine xr_astore (lv' := [some _, some _, some _, some _, some _, some _, none]) dX2_spread_45 (by decide) rfl (by first | rfl | exact isRef_rf _) rfl ?_
        refine xr_aload dX2_spread_47 rfl (by first | rfl | exact isRef_rf _) ?_
        refine xr_getfieldN (ci := 4) (T := TX9) (N := 5) (i := 4) (hK9.fo k hk0 (by omega)) rfl (by decide) in_X9 q747 (.inl rfl) dX2_spread_49 (by rfl) ?_
        refine xr_ifb_eq (tgt := 119) dX2_spread_52 (by decide) (fun c52 => ?_) (fun c52 => ?_)
        · skip
          try simp only [decide_eq_true_eq, decide_eq_false_iff_not] at c52
          have h1' := h1.to (f' := (fun j => sumR (fun f => nz1 P f (j / 6) (j % 6)) 0 (k + 1))) (fun j h0 h9 => by rw [sumR_snoc hk0]; unfold nz1; rw [if_neg c52]; omega)
          have h2' := h2
          have h3' := h3
          have hmo9' := hmo9
          refine xr_iinc (lv' := [some _, some _, some _, some _, some _, some _, none]) dX2_spread_119 rfl (by decide) rfl rfl ?_
          refine xr_goto (tgt := 21) dX2_spread_122 (by decide) ?_
          refine xr_lv (lvw_s (lvw_s (lvw_s (lvw_s (lvw_s (lvw_n (lvw_n (lvw_nil)))))))) ?_
          refine xr_wk (rc' := 0 * fu21 + 0) (rs' := 0 * fu21 + 0) ⟨by omega, by omega⟩ (ih21 _ _ (by omega) (by omega) (by omega) h1' h2' h3' hmo9')
        · skip
          try simp only [decide_eq_true_eq, decide_eq_false_iff_not] at c52
          refine xr_aload_n dX2_spread_55 rfl (by first | rfl | exact isRef_rf _) ?_
          refine xr_bipush dX2_spread_56 (by decide) ?_
          refine xr_aload dX2_spread_58 rfl (by first | rfl | exact isRef_rf _) ?_
          refine xr_callVU (n9 := 0) (rc' := 0 * fu21 + 0) (rs' := 0 * fu21 + 0) (k_row_F hG (hK9.fo k hk0 (by omega))) (hK9.fo k hk0 (by omega)) rfl q478 q479 rfl q332 q480 q108 q333 (by decide +kernel) rfl ⟨by decide, Nat.le_of_ble_eq_true rfl⟩ ⟨by omega, by omega⟩ (Nat.le_of_ble_eq_true rfl) dX2_spread_60 rfl (xk_r ?_) (fun _ _ _ h => h.elim)
          refine xr_imul dX2_spread_63 ?_
          refine xr_aload dX2_spread_64 rfl (by first | rfl | exact isRef_rf _) ?_
          refine xr_callVU (n9 := 0) (rc' := 0 * fu21 + 0) (rs' := 0 * fu21 + 0) (k_column_F hG (hK9.fo k hk0 (by omega))) (hK9.fo k hk0 (by omega)) rfl q481 q482 rfl q338 q483 q108 q339 (by decide +kernel) rfl ⟨by decide, Nat.le_of_ble_eq_true rfl⟩ ⟨by omega, by omega⟩ (Nat.le_of_ble_eq_true rfl) dX2_spread_66 rfl (xk_r ?_) (fun _ _ _ h => h.elim)
          refine xr_iadd dX2_spread_69 ?_
          obtain ⟨cell, hcell⟩ : ∃ cell : Nat, (6 * P (70 + 4 * k) + P (71 + 4 * k)) = (cell : Int) := ⟨_, (Int.toNat_of_nonneg (by omega)).symm⟩
          rw [hcell]
          refine xr_base (fun hB9 hk9 => ?_)
          have hoc := hKI.ob hk9 (c := cell) (by omega)
          refine xr_callS (n9 := 1) (rc' := 0 * fu21 + 0) (rs' := 0 * fu21 + 0) (k_Int_valueOf hG hKI (by omega)) q484 q485 q121 q486 (by decide +kernel) rfl ⟨by decide, Nat.le_of_ble_eq_true rfl⟩ ⟨by omega, by omega⟩ (Nat.le_of_ble_eq_true rfl) dX2_spread_70 rfl (xk_r ?_) (fun _ _ _ h => h.elim)
          refine xr_callV (n9 := 1) (rc' := 0 * fu21 + 0) (rs' := 0 * fu21 + 0) (k_DQ_add hG h3 (by simp) hoc) hob3 rfl q504 q505 q506 q119 q507 (by decide +kernel) rfl ⟨by decide, Nat.le_of_ble_eq_true rfl⟩ ⟨by omega, by omega⟩ (Nat.le_of_ble_eq_true rfl) dX2_spread_73 rfl (fun r w73 hw => ?_) (fun _ _ _ h => h.elim)
          obtain ⟨rfl, h3b, hfb⟩ := hw
          have hm73 : Mo w.2 w9 w73 := hfb.mo (fun b9 _ q => by rcases q with q | q <;> omega)
          have hKb := hK.ext (hmo9.tr hm73 (Nat.le_refl _))
          have n1 := h3.ia h1
          have n2 := h3.ia h2
          have h1b := h1.fr hfb (fun q => by rcases q with q | q <;> omega)
          have h2b := h2.fr hfb (fun q => by rcases q with q | q <;> omega)
          refine xr_pop dX2_spread_76 (by first | rfl | exact cat_rf _) ?_
          refine xr_aload dX2_spread_77 rfl (by first | rfl | exact isRef_rf _) ?_
          refine xr_getfieldN (ci := 4) (T := TX9) (N := 5) (i := 3) (hKb.fo k hk0 (by omega)) rfl (by decide) in_X9 q744 (.inl rfl) dX2_spread_79 (by rfl) ?_
          obtain ⟨Ln, hLn⟩ : ∃ Ln : Nat, P (72 + 4 * k) = (Ln : Int) := ⟨_, (Int.toNat_of_nonneg (by omega)).symm⟩
          rw [hLn]
          refine xr_aload_n dX2_spread_82 rfl (by first | rfl | exact isRef_rf _) ?_
          refine xr_aload_n dX2_spread_83 rfl (by first | rfl | exact isRef_rf _) ?_
          refine xr_callS (n9 := 3) (rc' := 0 * fu21 + 0) (rs' := 0 * fu21 + 0) (k_spreadS hG hKI h2b h3b (by omega) (by omega)) q647 q648 q87 q649 (by decide +kernel) rfl ⟨by decide, Nat.le_of_ble_eq_true rfl⟩ ⟨by omega, by omega⟩ (Nat.le_of_ble_eq_true rfl) dX2_spread_84 rfl (fun r w84 hw => ?_) (fun _ _ _ h => h.elim)
          obtain ⟨rfl, h2c, h3c, hfc⟩ := hw
          have hm84 : Mo w.2 w73 w84 := hfc.mo (fun b9 _ q => by rcases q with q | q | q <;> omega)
          have h1c := h1b.fr hfc (fun q => by rcases q with q | q | q <;> omega)
          have h2d := h2c.to (f' := fun j => nz1 P k (j / 6) (j % 6)) (fun j h0 h9 => fin1_nz hB ⟨hk0, by omega⟩ c52 hLn hcell ⟨h0, h9⟩)
          refine xr_iconst dX2_spread_87 ?_
          refine xr_istore (lv' := [some _, some _, some _, some _, some _, some _, some _]) dX2_spread_88 (by decide) rfl rfl ?_
          refine xr_lv (lvw_s (lvw_s (lvw_s (lvw_s (lvw_s (lvw_n (lvw_s (lvw_nil)))))))) ?_
          have lp90 : ∀ (fu90 : Nat) (w8 : WW) (c : Int), 0 ≤ c → c ≤ 36 → 36 - c < fu90 → IA (zg z) w8 a2 36 (fun j => if j < c then sumR (fun f => nz1 P f (j / 6) (j % 6)) 0 (k + 1) else sumR (fun f => nz1 P f (j / 6) (j % 6)) 0 k) → IA (zg z) w8 a7 36 (fun j => if j < c then 0 else nz1 P k (j / 6) (j % 6)) → DQ (zg z) w8 a10 arr [] → Mo w.2 w w8 → XJ z yX2_spread.cls cX2_spread 7 (some ((.array .int))) 5 112 w8 (0 * fu21 + 0 * fu90 + 0) (0 * fu21 + 0 * fu90 + 0) 90 [some (.ref q), some (.ref a2), some (.ref a7), some (.ref a10), some (.int (iI k)), none, some (.int (iI c))] [] := by
            intro fu90
            induction fu90 with
            | zero =>
              intro w8 c hc0 hc1 hfu8 i1 i2 i3 hmo8
              omega
            | succ fu90 ih90 =>
              intro w8 c hc0 hc1 hfu8 i1 i2 i3 hmo8
              refine xr_iload dX2_spread_90 rfl ?_
              refine xr_aload_n dX2_spread_92 rfl (by first | rfl | exact isRef_rf _) ?_
              refine xr_alenIA i2 dX2_spread_93 ?_
              refine xr_icmp_ge (tgt := 119) dX2_spread_94 (by decide) (by omega) (fun c94 => ?_) (fun c94 => ?_)
              · skip
                have h1' := i1.to (f' := (fun j => sumR (fun f => nz1 P f (j / 6) (j % 6)) 0 (k + 1))) (fun j h0 h9 => by rw [if_pos (by omega)])
                have h2' := i2.to (f' := fun _ => 0) (fun j h0 h9 => by rw [if_pos (by omega)])
                have h3' := i3
                have hmo9' := hmo8
                refine xr_iinc (lv' := [some _, some _, some _, some _, some _, none, some _]) dX2_spread_119 rfl (by decide) rfl rfl ?_
                refine xr_goto (tgt := 21) dX2_spread_122 (by decide) ?_
                refine xr_lv (lvw_s (lvw_s (lvw_s (lvw_s (lvw_s (lvw_n (lvw_n (lvw_nil)))))))) ?_
                refine xr_wk (rc' := 0 * fu21 + 0) (rs' := 0 * fu21 + 0) ⟨by omega, by omega⟩ (ih21 _ _ (by omega) (by omega) (by omega) h1' h2' h3' hmo9')
              · skip
                refine xr_aload_n dX2_spread_97 rfl (by first | rfl | exact isRef_rf _) ?_
                refine xr_iload dX2_spread_98 rfl ?_
                refine xr_dup2 dX2_spread_100 (by first | rfl | exact cat_rf _) (by first | rfl | exact cat_rf _) ?_
                refine xr_iaload i1 (by omega) (by omega) dX2_spread_101 ?_
                refine xr_aload_n dX2_spread_102 rfl (by first | rfl | exact isRef_rf _) ?_
                refine xr_iload dX2_spread_103 rfl ?_
                refine xr_iaload i2 (by omega) (by omega) dX2_spread_105 ?_
                refine xr_iadd dX2_spread_106 ?_
                refine xr_iastore i1 (by omega) (by omega) dX2_spread_107 (fun e107 har107 => ?_)
                have i2b := i2.put_ne (Ne.symm n27) e107
                refine xr_aload_n dX2_spread_108 rfl (by first | rfl | exact isRef_rf _) ?_
                refine xr_iload dX2_spread_109 rfl ?_
                refine xr_iconst dX2_spread_111 ?_
                refine xr_iastore i2b (by omega) (by omega) dX2_spread_112 (fun e112 har112 => ?_)
                have i1c := (har107.put_ne n27 e112).to (f' := fun j => if j < c + 1 then sumR (fun f => nz1 P f (j / 6) (j % 6)) 0 (k + 1) else sumR (fun f => nz1 P f (j / 6) (j % 6)) 0 k) (fun j h0 h9 => by
                    unfold updI
                    by_cases hj : j = c
                    · subst hj
                      rw [if_pos rfl, if_neg (by omega), if_neg (by omega), if_pos (by omega), sumR_snoc hk0]
                    · rw [if_neg hj]
                      (try dsimp only)
                      by_cases h8 : j < c
                      · rw [if_pos h8, if_pos (by omega)]
                      · rw [if_neg h8, if_neg (by omega)])
                have i2c := har112.to (f' := fun j => if j < c + 1 then 0 else nz1 P k (j / 6) (j % 6)) (fun j h0 h9 => by
                    unfold updI
                    by_cases hj : j = c
                    · rw [if_pos hj, if_pos (by omega)]
                    · rw [if_neg hj]
                      (try dsimp only)
                      by_cases h8 : j < c
                      · rw [if_pos h8, if_pos (by omega)]
                      · rw [if_neg h8, if_neg (by omega)])
                have fr1 : Fr (fun x => x = a2 ∨ x = a7) w8 (wput (wput w8 a2 e107) a7 e112) := (Fr.put (S := fun x => x = a2 ∨ x = a7) (Or.inl rfl) e107).tr (Fr.put (S := fun x => x = a2 ∨ x = a7) (Or.inr rfl) e112) (fun _ _ q => q)
                have j1 := i3.ia i1
                have j2 := i3.ia i2
                have i3c := i3.fr fr1 (fun q => by rcases q with q | q <;> omega) (fun q => by rcases q with q | q <;> omega) (fun b9 fs hb9 q => by
                    rcases q with q | q
                    · exact (i1.ob_ne hb9) q.symm
                    · exact (i2.ob_ne hb9) q.symm)
                have hmo8c := hmo8.tr (fr1.mo (n := w.2) (fun b9 _ q => by rcases q with q | q <;> omega)) (Nat.le_refl _)
                refine xr_iinc (lv' := [some _, some _, some _, some _, some _, none, some _]) dX2_spread_113 rfl (by decide) rfl rfl ?_
                refine xr_goto (tgt := 90) dX2_spread_116 (by decide) ?_
                refine xr_lv (lvw_s (lvw_s (lvw_s (lvw_s (lvw_s (lvw_n (lvw_s (lvw_nil)))))))) ?_
                refine xr_wk (rc' := 0 * fu21 + 0 * fu90 + 0) (rs' := 0 * fu21 + 0 * fu90 + 0) ⟨by omega, by omega⟩ (ih90 _ _ (by omega) (by omega) (by omega) (i1c) (i2c) (i3c) (hmo8c))
          refine xr_wk (rc' := 0 * fu21 + 0 * 37 + 0) (rs' := 0 * fu21 + 0 * 37 + 0) ⟨by omega, by omega⟩ (lp90 37 _ _ (by omega) (by omega) (by omega) (h1c.to (fun j h0 h9 => by rw [if_neg (by omega)])) (h2d.to (fun j h0 h9 => by rw [if_neg (by omega)])) h3c ((hmo9.tr hm73 (Nat.le_refl _)).tr hm84 (Nat.le_refl _)))
  refine xr_wk (rc' := 0 * 6 + 0) (rs' := 0 * 6 + 0) ⟨by omega, by omega⟩ (lp21 6 _ _ (by omega) (by omega) (by omega) (hu2.to (fun j h0 h9 => by rw [sumR_ge (by decide)])) hu7 hD hmB)
