/-! 60.parse2.lean.txt (written by tools/walker.py)  -/
set_option maxRecDepth 100000
theorem k_Pa_number {g : GG} {w : WW} {p t b al n : Nat} {T : Int → Int} {o : Int} (hG : Base g) (hJ : KJ g) (hp : Ob w p 12 [.ref t, .ref al, .int (iI o)]) (hT : SO g w t b n T) (ho : 0 ≤ o ∧ o ≤ n) : Ct g yX15_number (.code yX15_number cX15_number 2 (some .int)) 6 126 2 14 w [.ref p] (fun r_ w1 => ∃ v o1 : Int, pNum T n o = .inr (v, o1) ∧ r_ = some (.int (iI v)) ∧ (0 ≤ v ∧ v ≤ 99) ∧ (o < o1 ∧ o1 ≤ n) ∧ Ob w1 p 12 [.ref t, .ref al, .int (iI o1)] ∧ Fr (fun x => x = p) w w1) (fun E a9 w1 => E = "BenchBroker$SyntaxError" ∧ ∃ e : Int, pNum T n o = .inl e ∧ (0 ≤ e ∧ e ≤ n) ∧ Ob w1 a9 7 [.int (iI e)] ∧ w.2 ≤ a9 ∧ Fr (fun x => x = p) w w1) := by
  refine Ct.of (lv := [some _, none]) hG (by decide +kernel) (Nat.le_of_ble_eq_true rfl) rfl ?_
  intro z hg hpo hxp hnm htab
  subst hg
  have hnp := hT.np hp
  refine xr_aload_n dX15_number_0 rfl (by first | rfl | exact isRef_rf _) ?_
  refine xr_callV (n9 := 0) (rc' := 1) (rs' := 7) (k_Pa_digit hG hJ hp hT ho) hp rfl q2009 q2011 qs33 q128 q2012 (by decide +kernel) rfl ⟨by decide, Nat.le_of_ble_eq_true rfl⟩ ⟨Nat.le_of_ble_eq_true rfl, Nat.le_of_ble_eq_true rfl⟩ (Nat.le_of_ble_eq_true rfl) dX15_number_1 rfl (fun r w1 hw => ?_) ?_
  rotate_left
  · skip
    rintro E q9 w9 ⟨rfl, e9, he9, hb9, hob9, hq9, hf9⟩
    exact xt_out (fun x hx => (htab x hx).elim) (by rw [hxp]; exact ⟨rfl, e9, by unfold pNum; rw [he9]; rfl, hb9, hob9, hq9, hf9⟩)
  obtain ⟨v1, o1, he1, rfl, hv1, hb1, hp1, hf1⟩ := hw
  show XJ _ _ _ _ _ _ _ _ _ _ _ _ [.int (iI v1)]
  have hT1 := hT.fr hf1 hnp.1 hnp.2
  have hfr1 := hf1
  refine xr_istore_n (lv' := [some _, some _]) dX15_number_4 (by decide) rfl rfl ?_
  refine xr_aload_n dX15_number_5 rfl (by first | rfl | exact isRef_rf _) ?_
  refine xr_callV (n9 := 0) (rc' := 1) (rs' := 7) (k_Pa_current hG hJ hp1 hT1 (by omega)) hp1 rfl q1966 q1968 qs28 q128 q1969 (by decide +kernel) rfl ⟨by decide, Nat.le_of_ble_eq_true rfl⟩ ⟨Nat.le_of_ble_eq_true rfl, Nat.le_of_ble_eq_true rfl⟩ (Nat.le_of_ble_eq_true rfl) dX15_number_6 rfl (xk_r ?_) (fun _ _ _ h => h.elim)
  have hcu := hT1.cur (o := o1) (by omega)
  refine xr_bipush dX15_number_9 (by decide) ?_
  refine xr_bipush dX15_number_11 (by decide) ?_
  refine xr_callSN (n9 := 3) (rc' := 1) (rs' := 7) (k_isBetween hG (by omega)) q2013 q707 q86 q708 (by decide +kernel) rfl ⟨by decide, Nat.le_of_ble_eq_true rfl⟩ ⟨Nat.le_of_ble_eq_true rfl, Nat.le_of_ble_eq_true rfl⟩ (Nat.le_of_ble_eq_true rfl) dX15_number_13 rfl (xk_r ?_) (fun _ _ _ h => h.elim)
  refine xr_ifb_eq (tgt := 31) dX15_number_16 (by decide) (fun c16 => ?_) (fun c16 => ?_)
  · skip
    try simp only [decide_eq_true_eq, decide_eq_false_iff_not] at c16
    refine xr_iload_n dX15_number_31 rfl ?_
    refine xr_ireturn rfl rfl dX15_number_32 ?_
    rw [hpo]
    first
    | exact ⟨10 * v1 + v24, o24, by unfold pNum; rw [he1]; exact (if_pos c16).trans (by rw [he24]; rfl), rfl, by omega, by omega, hp24, hfr24⟩
    | exact ⟨v1, o1, by unfold pNum; rw [he1]; exact if_neg c16, rfl, by omega, by omega, hp1, hfr1⟩
  · skip
    try simp only [decide_eq_true_eq, decide_eq_false_iff_not] at c16
    refine xr_bipush dX15_number_19 (by decide) ?_
    refine xr_iload_n dX15_number_21 rfl ?_
    refine xr_imul dX15_number_22 ?_
    refine xr_aload_n dX15_number_23 rfl (by first | rfl | exact isRef_rf _) ?_
    refine xr_callV (n9 := 0) (rc' := 0) (rs' := 0) (k_Pa_digit hG hJ hp1 hT1 (by omega)) hp1 rfl q2009 q2011 qs33 q128 q2012 (by decide +kernel) rfl ⟨by decide, Nat.le_of_ble_eq_true rfl⟩ ⟨Nat.le_of_ble_eq_true rfl, Nat.le_of_ble_eq_true rfl⟩ (Nat.le_of_ble_eq_true rfl) dX15_number_24 rfl (fun r w24 hw => ?_) ?_
    rotate_left
    · skip
      rintro E q9 w9 ⟨rfl, e9, he9, hb9, hob9, hq9, hf9⟩
      exact xt_out (fun x hx => (htab x hx).elim) (by rw [hxp]; exact ⟨rfl, e9, by unfold pNum; rw [he1]; exact (if_pos c16).trans (by rw [he9]; rfl), hb9, hob9, by have := hfr1.1; omega, hfr1.tq hf9⟩)
    obtain ⟨v24, o24, he24, rfl, hv24, hb24, hp24, hf24⟩ := hw
    show XJ _ _ _ _ _ _ _ _ _ _ _ _ [.int (iI v24), _]
    have hT24 := hT1.fr hf24 hnp.1 hnp.2
    have hfr24 := hfr1.tq hf24
    refine xr_iadd dX15_number_27 ?_
    refine xr_goto (tgt := 32) dX15_number_28 (by decide) ?_
    refine xr_ireturn rfl rfl dX15_number_32 ?_
    rw [hpo]
    first
    | exact ⟨10 * v1 + v24, o24, by unfold pNum; rw [he1]; exact (if_pos c16).trans (by rw [he24]; rfl), rfl, by omega, by omega, hp24, hfr24⟩
    | exact ⟨v1, o1, by unfold pNum; rw [he1]; exact if_neg c16, rfl, by omega, by omega, hp1, hfr1⟩
theorem k_Pa_sD {g : GG} {w : WW} {p t b al n : Nat} {T : Int → Int} {o : Int} (hG : Base g) (hJ : KJ g) (hp : Ob w p 12 [.ref t, .ref al, .int (iI o)]) (hT : SO g w t b n T) (ho : 0 ≤ o ∧ o ≤ n) : Ct g yX15_spacedDigit (.code yX15_spacedDigit cX15_spacedDigit 1 (some .int)) 6 126 2 14 w [.ref p] (fun r_ w1 => ∃ v o1 : Int, pSD T n o = .inr (v, o1) ∧ r_ = some (.int (iI v)) ∧ (0 ≤ v ∧ v ≤ 9) ∧ (o + 2 ≤ o1 ∧ o1 ≤ n) ∧ Ob w1 p 12 [.ref t, .ref al, .int (iI o1)] ∧ Fr (fun x => x = p) w w1) (fun E a9 w1 => E = "BenchBroker$SyntaxError" ∧ ∃ e : Int, pSD T n o = .inl e ∧ (0 ≤ e ∧ e ≤ n) ∧ Ob w1 a9 7 [.int (iI e)] ∧ w.2 ≤ a9 ∧ Fr (fun x => x = p) w w1) := by
  refine Ct.of (lv := [some _]) hG (by decide +kernel) (Nat.le_of_ble_eq_true rfl) rfl ?_
  intro z hg hpo hxp hnm htab
  subst hg
  have hnp := hT.np hp
  refine xr_aload_n dX15_spacedDigit_0 rfl (by first | rfl | exact isRef_rf _) ?_
  refine xr_bipush dX15_spacedDigit_1 (by decide) ?_
  refine xr_callV (n9 := 1) (rc' := 1) (rs' := 7) (k_Pa_expect hG hJ hp hT ho (by omega)) hp rfl q1982 q1984 qs31 q128 q1985 (by decide +kernel) rfl ⟨by decide, Nat.le_of_ble_eq_true rfl⟩ ⟨Nat.le_of_ble_eq_true rfl, Nat.le_of_ble_eq_true rfl⟩ (Nat.le_of_ble_eq_true rfl) dX15_spacedDigit_3 rfl (fun r w3 hw => ?_) ?_
  rotate_left
  · skip
    rintro E q9 w9 ⟨rfl, e9, he9, hb9, hob9, hq9, hf9⟩
    exact xt_out (fun x hx => (htab x hx).elim) (by rw [hxp]; exact ⟨rfl, e9, by unfold pSD; rw [he9]; rfl, hb9, hob9, hq9, hf9⟩)
  obtain ⟨rfl, o3, he3, hb3, hp3, hf3⟩ := hw
  have hT3 := hT.fr hf3 hnp.1 hnp.2
  have hfr3 := hf3
  refine xr_aload_n dX15_spacedDigit_6 rfl (by first | rfl | exact isRef_rf _) ?_
  refine xr_callV (n9 := 0) (rc' := 0) (rs' := 0) (k_Pa_digit hG hJ hp3 hT3 (by omega)) hp3 rfl q2009 q2011 qs33 q128 q2012 (by decide +kernel) rfl ⟨by decide, Nat.le_of_ble_eq_true rfl⟩ ⟨Nat.le_of_ble_eq_true rfl, Nat.le_of_ble_eq_true rfl⟩ (Nat.le_of_ble_eq_true rfl) dX15_spacedDigit_7 rfl (fun r w7 hw => ?_) ?_
  rotate_left
  · skip
    rintro E q9 w9 ⟨rfl, e9, he9, hb9, hob9, hq9, hf9⟩
    exact xt_out (fun x hx => (htab x hx).elim) (by rw [hxp]; exact ⟨rfl, e9, by unfold pSD; rw [he3]; exact he9, hb9, hob9, by have := hfr3.1; omega, hfr3.tq hf9⟩)
  obtain ⟨v7, o7, he7, rfl, hv7, hb7, hp7, hf7⟩ := hw
  show XJ _ _ _ _ _ _ _ _ _ _ _ _ [.int (iI v7)]
  have hT7 := hT3.fr hf7 hnp.1 hnp.2
  have hfr7 := hfr3.tq hf7
  refine xr_ireturn rfl rfl dX15_spacedDigit_10 ?_
  rw [hpo]
  exact ⟨v7, o7, by unfold pSD; rw [he3]; exact he7, rfl, hv7, by omega, hp7, hfr7⟩
theorem k_Pa_sN {g : GG} {w : WW} {p t b al n : Nat} {T : Int → Int} {o : Int} (hG : Base g) (hJ : KJ g) (hp : Ob w p 12 [.ref t, .ref al, .int (iI o)]) (hT : SO g w t b n T) (ho : 0 ≤ o ∧ o ≤ n) : Ct g yX15_spacedNumber (.code yX15_spacedNumber cX15_spacedNumber 1 (some .int)) 7 147 3 21 w [.ref p] (fun r_ w1 => ∃ v o1 : Int, pSN T n o = .inr (v, o1) ∧ r_ = some (.int (iI v)) ∧ (0 ≤ v ∧ v ≤ 99) ∧ (o + 2 ≤ o1 ∧ o1 ≤ n) ∧ Ob w1 p 12 [.ref t, .ref al, .int (iI o1)] ∧ Fr (fun x => x = p) w w1) (fun E a9 w1 => E = "BenchBroker$SyntaxError" ∧ ∃ e : Int, pSN T n o = .inl e ∧ (0 ≤ e ∧ e ≤ n) ∧ Ob w1 a9 7 [.int (iI e)] ∧ w.2 ≤ a9 ∧ Fr (fun x => x = p) w w1) := by
  refine Ct.of (lv := [some _]) hG (by decide +kernel) (Nat.le_of_ble_eq_true rfl) rfl ?_
  intro z hg hpo hxp hnm htab
  subst hg
  have hnp := hT.np hp
  refine xr_aload_n dX15_spacedNumber_0 rfl (by first | rfl | exact isRef_rf _) ?_
  refine xr_bipush dX15_spacedNumber_1 (by decide) ?_
  refine xr_callV (n9 := 1) (rc' := 2) (rs' := 14) (k_Pa_expect hG hJ hp hT ho (by omega)) hp rfl q1982 q1984 qs31 q128 q1985 (by decide +kernel) rfl ⟨by decide, Nat.le_of_ble_eq_true rfl⟩ ⟨Nat.le_of_ble_eq_true rfl, Nat.le_of_ble_eq_true rfl⟩ (Nat.le_of_ble_eq_true rfl) dX15_spacedNumber_3 rfl (fun r w3 hw => ?_) ?_
  rotate_left
  · skip
    rintro E q9 w9 ⟨rfl, e9, he9, hb9, hob9, hq9, hf9⟩
    exact xt_out (fun x hx => (htab x hx).elim) (by rw [hxp]; exact ⟨rfl, e9, by unfold pSN; rw [he9]; rfl, hb9, hob9, hq9, hf9⟩)
  obtain ⟨rfl, o3, he3, hb3, hp3, hf3⟩ := hw
  have hT3 := hT.fr hf3 hnp.1 hnp.2
  have hfr3 := hf3
  refine xr_aload_n dX15_spacedNumber_6 rfl (by first | rfl | exact isRef_rf _) ?_
  refine xr_callV (n9 := 0) (rc' := 0) (rs' := 0) (k_Pa_number hG hJ hp3 hT3 (by omega)) hp3 rfl q2019 q2021 qs35 q128 q2022 (by decide +kernel) rfl ⟨by decide, Nat.le_of_ble_eq_true rfl⟩ ⟨Nat.le_of_ble_eq_true rfl, Nat.le_of_ble_eq_true rfl⟩ (Nat.le_of_ble_eq_true rfl) dX15_spacedNumber_7 rfl (fun r w7 hw => ?_) ?_
  rotate_left
  · skip
    rintro E q9 w9 ⟨rfl, e9, he9, hb9, hob9, hq9, hf9⟩
    exact xt_out (fun x hx => (htab x hx).elim) (by rw [hxp]; exact ⟨rfl, e9, by unfold pSN; rw [he3]; exact he9, hb9, hob9, by have := hfr3.1; omega, hfr3.tq hf9⟩)
  obtain ⟨v7, o7, he7, rfl, hv7, hb7, hp7, hf7⟩ := hw
  show XJ _ _ _ _ _ _ _ _ _ _ _ _ [.int (iI v7)]
  have hT7 := hT3.fr hf7 hnp.1 hnp.2
  have hfr7 := hfr3.tq hf7
  refine xr_ireturn rfl rfl dX15_spacedNumber_10 ?_
  rw [hpo]
  exact ⟨v7, o7, by unfold pSN; rw [he3]; exact he7, rfl, hv7, by omega, hp7, hfr7⟩
theorem k_Pa_add98 {g : GG} {w : WW} {p t b al n : Nat} {T : Int → Int} {o : Int} (hG : Base g) (hJ : KJ g) (hS : KS g) (hp : Ob w p 12 [.ref t, .ref al, .int (iI o)]) (hT : SO g w t b n T) (ho : 0 ≤ o ∧ o ≤ n) : Ct g yX15_addition (.code yX15_addition cX15_addition 4 (some ((.object "BenchBroker$Action")))) 8 167 17 116 w [.ref p, .int (iI 98)] (fun r_ w1 => ∃ (cm : Cm) (o1 : Int) (x : Nat), pAdd T n 98 o = .inr (cm, o1) ∧ r_ = some (.ref x) ∧ CmO w1 x cm ∧ cmS cm ∧ w.2 ≤ x ∧ (o + 5 ≤ o1 ∧ o1 ≤ n) ∧ Ob w1 p 12 [.ref t, .ref al, .int (iI o1)] ∧ Fr (fun x => x = p) w w1) (fun E a9 w1 => E = "BenchBroker$SyntaxError" ∧ ∃ e : Int, pAdd T n 98 o = .inl e ∧ (0 ≤ e ∧ e ≤ n) ∧ Ob w1 a9 7 [.int (iI e)] ∧ w.2 ≤ a9 ∧ Fr (fun x => x = p) w w1) := by
  refine Ct.of (lv := [some _, some _, none, none]) hG (by decide +kernel) (Nat.le_of_ble_eq_true rfl) rfl ?_
  intro z hg hpo hxp hnm htab
  subst hg
  refine xr_base (fun hB9 hk9 => ?_)
  have hnp := hT.np hp
  refine xr_aload_n dX15_addition_0 rfl (by first | rfl | exact isRef_rf _) ?_
  refine xr_iload_n dX15_addition_1 rfl ?_
  refine xr_bipush dX15_addition_2 (by decide) ?_
  refine xr_icmp_ne (tgt := 12) dX15_addition_4 (by decide) (by omega) (fun c4 => absurd c4 (fun h => h rfl)) (fun c4 => ?_)
  obtain ⟨tS7, bS7, hR7, hSO7⟩ := hS ("BenchBroker$Parser", 59, "bench") (by decide)
  refine xr_ldcS hR7 dX15_addition_7 ?_
  have hT2 := (hSO7.ext hk9)
  refine xr_goto (tgt := 14) dX15_addition_9 (by decide) ?_
  refine xr_callV (n9 := 1) (rc' := 8) (rs' := 53) (k_Pa_word hG hJ hp hT ho hT2 (by decide +kernel) (by decide +kernel)) hp rfl q1978 q1980 qs30 q128 q1981 (by decide +kernel) rfl ⟨by decide, Nat.le_of_ble_eq_true rfl⟩ ⟨Nat.le_of_ble_eq_true rfl, Nat.le_of_ble_eq_true rfl⟩ (Nat.le_of_ble_eq_true rfl) dX15_addition_14 rfl (fun r w14 hw => ?_) ?_
  rotate_left
  · skip
    rintro E q9 w9 ⟨rfl, e9, he9, hb9, hob9, hq9, hf9⟩
    exact xt_out (fun x hx => (htab x hx).elim) (by rw [hxp]; exact ⟨rfl, e9, by unfold pAdd; rw [if_pos rfl]; simp only [he9, pB], hb9, hob9, hq9, hf9⟩)
  obtain ⟨rfl, o14, he14, hb14, hp14, hf14⟩ := hw
  have hT14 := hT.fr hf14 hnp.1 hnp.2
  have hfr14 := hf14
  have hb14 : o + 5 ≤ o14 ∧ o14 ≤ n := hb14
  refine xr_aload_n dX15_addition_17 rfl (by first | rfl | exact isRef_rf _) ?_
  refine xr_callV (n9 := 0) (rc' := 6) (rs' := 39) (k_Pa_sD hG hJ hp14 hT14 (by omega)) hp14 rfl q2005 q2007 qs32 q128 q2008 (by decide +kernel) rfl ⟨by decide, Nat.le_of_ble_eq_true rfl⟩ ⟨Nat.le_of_ble_eq_true rfl, Nat.le_of_ble_eq_true rfl⟩ (Nat.le_of_ble_eq_true rfl) dX15_addition_18 rfl (fun r w18 hw => ?_) ?_
  rotate_left
  · skip
    rintro E q9 w9 ⟨rfl, e9, he9, hb9, hob9, hq9, hf9⟩
    exact xt_out (fun x hx => (htab x hx).elim) (by rw [hxp]; exact ⟨rfl, e9, by unfold pAdd; rw [if_pos rfl]; simp only [he14, he9, pB], hb9, hob9, by have := hfr14.1; omega, hfr14.tq hf9⟩)
  obtain ⟨v18, o18, he18, rfl, hv18, hb18, hp18, hf18⟩ := hw
  show XJ _ _ _ _ _ _ _ _ _ _ _ _ [.int (iI v18)]
  have hT18 := hT14.fr hf18 hnp.1 hnp.2
  have hfr18 := hfr14.tq hf18
  refine xr_istore_n (lv' := [some _, some _, some _, none]) dX15_addition_21 (by decide) rfl rfl ?_
  refine xr_aload_n dX15_addition_22 rfl (by first | rfl | exact isRef_rf _) ?_
  refine xr_callV (n9 := 0) (rc' := 4) (rs' := 25) (k_Pa_sD hG hJ hp18 hT18 (by omega)) hp18 rfl q2005 q2007 qs32 q128 q2008 (by decide +kernel) rfl ⟨by decide, Nat.le_of_ble_eq_true rfl⟩ ⟨Nat.le_of_ble_eq_true rfl, Nat.le_of_ble_eq_true rfl⟩ (Nat.le_of_ble_eq_true rfl) dX15_addition_23 rfl (fun r w23 hw => ?_) ?_
  rotate_left
  · skip
    rintro E q9 w9 ⟨rfl, e9, he9, hb9, hob9, hq9, hf9⟩
    exact xt_out (fun x hx => (htab x hx).elim) (by rw [hxp]; exact ⟨rfl, e9, by unfold pAdd; rw [if_pos rfl]; simp only [he14, he18, he9, pB], hb9, hob9, by have := hfr18.1; omega, hfr18.tq hf9⟩)
  obtain ⟨v23, o23, he23, rfl, hv23, hb23, hp23, hf23⟩ := hw
  show XJ _ _ _ _ _ _ _ _ _ _ _ _ [.int (iI v23)]
  have hT23 := hT18.fr hf23 hnp.1 hnp.2
  have hfr23 := hfr18.tq hf23
  refine xr_istore_n (lv' := [some _, some _, some _, some _]) dX15_addition_26 (by decide) rfl rfl ?_
  refine xr_new (ci := 9) (T := TX6) (N := 4) (n9 := 4) (fs := [.int (iI 0), .int (iI 0), .int (iI 0), .int (iI 0)]) (rc' := 3) (rs' := 21) rfl in_X6 tyX6 tyX6_ok q2014 q979 q104 (by intro j hj; rcases (show j = 0 ∨ j = 1 ∨ j = 2 ∨ j = 3 by omega) with rfl | rfl | rfl | rfl <;> rfl) ⟨Nat.le_of_ble_eq_true rfl, Nat.le_of_ble_eq_true rfl⟩ dX15_addition_27 (fun a27 ga27 hob27 => ?_)
  have hmn27 := Mo.new ga27 ga27 (.inl (.inr (9, [.int (iI 0), .int (iI 0), .int (iI 0), .int (iI 0)])))
  have hp27 := hp23.ext hmn27
  have hT27 := hT23.ext hmn27
  have hfr27 := hfr23.trm hmn27
  have hnp27 : p < a27 := Nat.lt_of_lt_of_le hp23.2 ga27
  have hfw27 := hfr23.1
  refine xr_dup dX15_addition_30 (by first | rfl | exact cat_rf _) ?_
  refine xr_iload_n dX15_addition_31 rfl ?_
  refine xr_iload_n dX15_addition_32 rfl ?_
  refine xr_iload_n dX15_addition_33 rfl ?_
  refine xr_iload_n dX15_addition_34 rfl ?_
  refine xr_bipush dX15_addition_35 (by decide) ?_
  refine xr_icmp_ne (tgt := 47) dX15_addition_37 (by decide) (by omega) (fun c37 => absurd c37 (fun h => h rfl)) (fun c37 => ?_)
  refine xr_aload_n dX15_addition_40 rfl (by first | rfl | exact isRef_rf _) ?_
  refine xr_callV (n9 := 0) (rc' := 0) (rs' := 0) (k_Pa_sN hG hJ hp27 hT27 (by omega)) hp27 rfl q2015 q2017 qs34 q128 q2018 (by decide +kernel) rfl ⟨by decide, Nat.le_of_ble_eq_true rfl⟩ ⟨Nat.le_of_ble_eq_true rfl, Nat.le_of_ble_eq_true rfl⟩ (Nat.le_of_ble_eq_true rfl) dX15_addition_41 rfl (fun r w41 hw => ?_) ?_
  rotate_left
  · skip
    rintro E q9 w9 ⟨rfl, e9, he9, hb9, hob9, hq9, hf9⟩
    exact xt_out (fun x hx => (htab x hx).elim) (by rw [hxp]; exact ⟨rfl, e9, by unfold pAdd; rw [if_pos rfl]; simp only [he14, he18, he23, he9, pB], hb9, hob9, by have := hfr27.1; omega, hfr27.tq hf9⟩)
  obtain ⟨v41, o41, he41, rfl, hv41, hb41, hp41, hf41⟩ := hw
  show XJ _ _ _ _ _ _ _ _ _ _ _ _ (.int (iI v41) :: _)
  have hT41 := hT27.fr hf41 hnp.1 hnp.2
  have hfr41 := hfr27.tq hf41
  have hobn := hob27.fr hf41 (fun (q9 : a27 = p) => by omega)
  refine xr_goto (tgt := 51) dX15_addition_44 (by decide) ?_
  refine xr_callI (n9 := 4) (rc' := 0) (rs' := 0) (k_Addition_init hG hobn (by omega)) q2023 q981 q104 q982 rfl (by decide +kernel) rfl ⟨by decide, Nat.le_of_ble_eq_true rfl⟩ ⟨Nat.le_of_ble_eq_true rfl, Nat.le_of_ble_eq_true rfl⟩ (Nat.le_of_ble_eq_true rfl) dX15_addition_51 rfl (fun r w51 hw => ?_) (fun _ _ _ h => h.elim)
  obtain ⟨rfl, hobF, hfF⟩ := hw
  have hpF := hp41.fr hfF (fun (q9 : p = a27) => by omega)
  have hfrF := hfr41.tr hfF (fun b9 hb9 (q9 : b9 = a27) => by have := ga27; omega)
  first | refine xr_areturn rfl rfl dX15_addition_54 ?_ | refine xr_areturnN rfl rfl dX15_addition_54 ?_
  rw [hpo]
  refine ⟨(98, v18, v23, v41), o41, a27, by unfold pAdd; rw [if_pos rfl]; simp only [he14, he18, he23, he41, pB], rfl, hobF, ⟨Or.inl rfl, ?_, ?_, ?_⟩, by have := ga27; omega, by omega, hpF, hfrF⟩ <;> (dsimp only; omega)
theorem k_Pa_add102 {g : GG} {w : WW} {p t b al n : Nat} {T : Int → Int} {o : Int} (hG : Base g) (hJ : KJ g) (hS : KS g) (hp : Ob w p 12 [.ref t, .ref al, .int (iI o)]) (hT : SO g w t b n T) (ho : 0 ≤ o ∧ o ≤ n) : Ct g yX15_addition (.code yX15_addition cX15_addition 4 (some ((.object "BenchBroker$Action")))) 8 167 17 116 w [.ref p, .int (iI 102)] (fun r_ w1 => ∃ (cm : Cm) (o1 : Int) (x : Nat), pAdd T n 102 o = .inr (cm, o1) ∧ r_ = some (.ref x) ∧ CmO w1 x cm ∧ cmS cm ∧ w.2 ≤ x ∧ (o + 5 ≤ o1 ∧ o1 ≤ n) ∧ Ob w1 p 12 [.ref t, .ref al, .int (iI o1)] ∧ Fr (fun x => x = p) w w1) (fun E a9 w1 => E = "BenchBroker$SyntaxError" ∧ ∃ e : Int, pAdd T n 102 o = .inl e ∧ (0 ≤ e ∧ e ≤ n) ∧ Ob w1 a9 7 [.int (iI e)] ∧ w.2 ≤ a9 ∧ Fr (fun x => x = p) w w1) := by
  refine Ct.of (lv := [some _, some _, none, none]) hG (by decide +kernel) (Nat.le_of_ble_eq_true rfl) rfl ?_
  intro z hg hpo hxp hnm htab
  subst hg
  refine xr_base (fun hB9 hk9 => ?_)
  have hnp := hT.np hp
  refine xr_aload_n dX15_addition_0 rfl (by first | rfl | exact isRef_rf _) ?_
  refine xr_iload_n dX15_addition_1 rfl ?_
  refine xr_bipush dX15_addition_2 (by decide) ?_
  refine xr_icmp_ne (tgt := 12) dX15_addition_4 (by decide) (by omega) (fun c4 => ?_) (fun c4 => absurd c4 (by decide))
  obtain ⟨tS12, bS12, hR12, hSO12⟩ := hS ("BenchBroker$Parser", 61, "fountain") (by decide)
  refine xr_ldcS hR12 dX15_addition_12 ?_
  have hT2 := (hSO12.ext hk9)
  refine xr_callV (n9 := 1) (rc' := 8) (rs' := 53) (k_Pa_word hG hJ hp hT ho hT2 (by decide +kernel) (by decide +kernel)) hp rfl q1978 q1980 qs30 q128 q1981 (by decide +kernel) rfl ⟨by decide, Nat.le_of_ble_eq_true rfl⟩ ⟨Nat.le_of_ble_eq_true rfl, Nat.le_of_ble_eq_true rfl⟩ (Nat.le_of_ble_eq_true rfl) dX15_addition_14 rfl (fun r w14 hw => ?_) ?_
  rotate_left
  · skip
    rintro E q9 w9 ⟨rfl, e9, he9, hb9, hob9, hq9, hf9⟩
    exact xt_out (fun x hx => (htab x hx).elim) (by rw [hxp]; exact ⟨rfl, e9, by unfold pAdd; rw [if_neg (by decide)]; simp only [he9, pB], hb9, hob9, hq9, hf9⟩)
  obtain ⟨rfl, o14, he14, hb14, hp14, hf14⟩ := hw
  have hT14 := hT.fr hf14 hnp.1 hnp.2
  have hfr14 := hf14
  have hb14 : o + 8 ≤ o14 ∧ o14 ≤ n := hb14
  refine xr_aload_n dX15_addition_17 rfl (by first | rfl | exact isRef_rf _) ?_
  refine xr_callV (n9 := 0) (rc' := 6) (rs' := 39) (k_Pa_sD hG hJ hp14 hT14 (by omega)) hp14 rfl q2005 q2007 qs32 q128 q2008 (by decide +kernel) rfl ⟨by decide, Nat.le_of_ble_eq_true rfl⟩ ⟨Nat.le_of_ble_eq_true rfl, Nat.le_of_ble_eq_true rfl⟩ (Nat.le_of_ble_eq_true rfl) dX15_addition_18 rfl (fun r w18 hw => ?_) ?_
  rotate_left
  · skip
    rintro E q9 w9 ⟨rfl, e9, he9, hb9, hob9, hq9, hf9⟩
    exact xt_out (fun x hx => (htab x hx).elim) (by rw [hxp]; exact ⟨rfl, e9, by unfold pAdd; rw [if_neg (by decide)]; simp only [he14, he9, pB], hb9, hob9, by have := hfr14.1; omega, hfr14.tq hf9⟩)
  obtain ⟨v18, o18, he18, rfl, hv18, hb18, hp18, hf18⟩ := hw
  show XJ _ _ _ _ _ _ _ _ _ _ _ _ [.int (iI v18)]
  have hT18 := hT14.fr hf18 hnp.1 hnp.2
  have hfr18 := hfr14.tq hf18
  refine xr_istore_n (lv' := [some _, some _, some _, none]) dX15_addition_21 (by decide) rfl rfl ?_
  refine xr_aload_n dX15_addition_22 rfl (by first | rfl | exact isRef_rf _) ?_
  refine xr_callV (n9 := 0) (rc' := 4) (rs' := 25) (k_Pa_sD hG hJ hp18 hT18 (by omega)) hp18 rfl q2005 q2007 qs32 q128 q2008 (by decide +kernel) rfl ⟨by decide, Nat.le_of_ble_eq_true rfl⟩ ⟨Nat.le_of_ble_eq_true rfl, Nat.le_of_ble_eq_true rfl⟩ (Nat.le_of_ble_eq_true rfl) dX15_addition_23 rfl (fun r w23 hw => ?_) ?_
  rotate_left
  · skip
    rintro E q9 w9 ⟨rfl, e9, he9, hb9, hob9, hq9, hf9⟩
    exact xt_out (fun x hx => (htab x hx).elim) (by rw [hxp]; exact ⟨rfl, e9, by unfold pAdd; rw [if_neg (by decide)]; simp only [he14, he18, he9, pB], hb9, hob9, by have := hfr18.1; omega, hfr18.tq hf9⟩)
  obtain ⟨v23, o23, he23, rfl, hv23, hb23, hp23, hf23⟩ := hw
  show XJ _ _ _ _ _ _ _ _ _ _ _ _ [.int (iI v23)]
  have hT23 := hT18.fr hf23 hnp.1 hnp.2
  have hfr23 := hfr18.tq hf23
  refine xr_istore_n (lv' := [some _, some _, some _, some _]) dX15_addition_26 (by decide) rfl rfl ?_
  refine xr_new (ci := 9) (T := TX6) (N := 4) (n9 := 4) (fs := [.int (iI 0), .int (iI 0), .int (iI 0), .int (iI 0)]) (rc' := 3) (rs' := 21) rfl in_X6 tyX6 tyX6_ok q2014 q979 q104 (by intro j hj; rcases (show j = 0 ∨ j = 1 ∨ j = 2 ∨ j = 3 by omega) with rfl | rfl | rfl | rfl <;> rfl) ⟨Nat.le_of_ble_eq_true rfl, Nat.le_of_ble_eq_true rfl⟩ dX15_addition_27 (fun a27 ga27 hob27 => ?_)
  have hmn27 := Mo.new ga27 ga27 (.inl (.inr (9, [.int (iI 0), .int (iI 0), .int (iI 0), .int (iI 0)])))
  have hp27 := hp23.ext hmn27
  have hT27 := hT23.ext hmn27
  have hfr27 := hfr23.trm hmn27
  have hnp27 : p < a27 := Nat.lt_of_lt_of_le hp23.2 ga27
  have hfw27 := hfr23.1
  refine xr_dup dX15_addition_30 (by first | rfl | exact cat_rf _) ?_
  refine xr_iload_n dX15_addition_31 rfl ?_
  refine xr_iload_n dX15_addition_32 rfl ?_
  refine xr_iload_n dX15_addition_33 rfl ?_
  refine xr_iload_n dX15_addition_34 rfl ?_
  refine xr_bipush dX15_addition_35 (by decide) ?_
  refine xr_icmp_ne (tgt := 47) dX15_addition_37 (by decide) (by omega) (fun c37 => ?_) (fun c37 => absurd c37 (by decide))
  refine xr_aload_n dX15_addition_47 rfl (by first | rfl | exact isRef_rf _) ?_
  refine xr_callV (n9 := 0) (rc' := 1) (rs' := 7) (k_Pa_sD hG hJ hp27 hT27 (by omega)) hp27 rfl q2005 q2007 qs32 q128 q2008 (by decide +kernel) rfl ⟨by decide, Nat.le_of_ble_eq_true rfl⟩ ⟨Nat.le_of_ble_eq_true rfl, Nat.le_of_ble_eq_true rfl⟩ (Nat.le_of_ble_eq_true rfl) dX15_addition_48 rfl (fun r w48 hw => ?_) ?_
  rotate_left
  · skip
    rintro E q9 w9 ⟨rfl, e9, he9, hb9, hob9, hq9, hf9⟩
    exact xt_out (fun x hx => (htab x hx).elim) (by rw [hxp]; exact ⟨rfl, e9, by unfold pAdd; rw [if_neg (by decide)]; simp only [he14, he18, he23, he9, pB], hb9, hob9, by have := hfr27.1; omega, hfr27.tq hf9⟩)
  obtain ⟨v48, o48, he48, rfl, hv48, hb48, hp48, hf48⟩ := hw
  show XJ _ _ _ _ _ _ _ _ _ _ _ _ (.int (iI v48) :: _)
  have hT48 := hT27.fr hf48 hnp.1 hnp.2
  have hfr48 := hfr27.tq hf48
  have hobn := hob27.fr hf48 (fun (q9 : a27 = p) => by omega)
  refine xr_callI (n9 := 4) (rc' := 1) (rs' := 7) (k_Addition_init hG hobn (by omega)) q2023 q981 q104 q982 rfl (by decide +kernel) rfl ⟨by decide, Nat.le_of_ble_eq_true rfl⟩ ⟨Nat.le_of_ble_eq_true rfl, Nat.le_of_ble_eq_true rfl⟩ (Nat.le_of_ble_eq_true rfl) dX15_addition_51 rfl (fun r w51 hw => ?_) (fun _ _ _ h => h.elim)
  obtain ⟨rfl, hobF, hfF⟩ := hw
  have hpF := hp48.fr hfF (fun (q9 : p = a27) => by omega)
  have hfrF := hfr48.tr hfF (fun b9 hb9 (q9 : b9 = a27) => by have := ga27; omega)
  first | refine xr_areturn rfl rfl dX15_addition_54 ?_ | refine xr_areturnN rfl rfl dX15_addition_54 ?_
  rw [hpo]
  refine ⟨(102, v18, v23, v48), o48, a27, by unfold pAdd; rw [if_neg (by decide)]; simp only [he14, he18, he23, he48, pB], rfl, hobF, ⟨Or.inr (Or.inl rfl), ?_, ?_, ?_⟩, by have := ga27; omega, by omega, hpF, hfrF⟩ <;> (dsimp only; omega)
theorem k_Pa_addition {g : GG} {w : WW} {p t b al n : Nat} {T : Int → Int} {o : Int} {c9 : Int} (hG : Base g) (hJ : KJ g) (hS : KS g) (hp : Ob w p 12 [.ref t, .ref al, .int (iI o)]) (hT : SO g w t b n T) (ho : 0 ≤ o ∧ o ≤ n) (hc9 : c9 = 98 ∨ c9 = 102) : Ct g yX15_addition (.code yX15_addition cX15_addition 4 (some (.object "BenchBroker$Action"))) 8 167 17 116 w [.ref p, .int (iI c9)] (fun r_ w1 => ∃ (cm : Cm) (o1 : Int) (x : Nat), pAdd T n c9 o = .inr (cm, o1) ∧ r_ = some (.ref x) ∧ CmO w1 x cm ∧ cmS cm ∧ w.2 ≤ x ∧ (o + 5 ≤ o1 ∧ o1 ≤ n) ∧ Ob w1 p 12 [.ref t, .ref al, .int (iI o1)] ∧ Fr (fun x => x = p) w w1) (fun E a9 w1 => E = "BenchBroker$SyntaxError" ∧ ∃ e : Int, pAdd T n c9 o = .inl e ∧ (0 ≤ e ∧ e ≤ n) ∧ Ob w1 a9 7 [.int (iI e)] ∧ w.2 ≤ a9 ∧ Fr (fun x => x = p) w w1) := by
  rcases hc9 with rfl | rfl
  · exact k_Pa_add98 hG hJ hS hp hT ho
  · exact k_Pa_add102 hG hJ hS hp hT ho
theorem k_Pa_lim {g : GG} {w : WW} {p t b al n : Nat} {T : Int → Int} {o : Int} (hG : Base g) (hJ : KJ g) (hS : KS g) (hp : Ob w p 12 [.ref t, .ref al, .int (iI o)]) (hT : SO g w t b n T) (ho : 0 ≤ o ∧ o ≤ n) : Ct g yX15_limitOrLease (.code yX15_limitOrLease cX15_limitOrLease 3 (some ((.object "BenchBroker$Action")))) 8 167 18 123 w [.ref p] (fun r_ w1 => ∃ (cm : Cm) (o1 : Int) (x : Nat), pLim T n o = .inr (cm, o1) ∧ r_ = some (.ref x) ∧ CmO w1 x cm ∧ cmS cm ∧ w.2 ≤ x ∧ (o + 5 ≤ o1 ∧ o1 ≤ n) ∧ Ob w1 p 12 [.ref t, .ref al, .int (iI o1)] ∧ Fr (fun x => x = p) w w1) (fun E a9 w1 => E = "BenchBroker$SyntaxError" ∧ ∃ e : Int, pLim T n o = .inl e ∧ (0 ≤ e ∧ e ≤ n) ∧ Ob w1 a9 7 [.int (iI e)] ∧ w.2 ≤ a9 ∧ Fr (fun x => x = p) w w1) := by
  refine Ct.of (lv := [some _, none, none]) hG (by decide +kernel) (Nat.le_of_ble_eq_true rfl) rfl ?_
  intro z hg hpo hxp hnm htab
  subst hg
  refine xr_base (fun hB9 hk9 => ?_)
  have hnp := hT.np hp
  refine xr_aload_n dX15_limitOrLease_0 rfl (by first | rfl | exact isRef_rf _) ?_
  refine xr_bipush dX15_limitOrLease_1 (by decide) ?_
  refine xr_callV (n9 := 1) (rc' := 17) (rs' := 116) (k_Pa_expect hG hJ hp hT ho (by omega)) hp rfl q1982 q1984 qs31 q128 q1985 (by decide +kernel) rfl ⟨by decide, Nat.le_of_ble_eq_true rfl⟩ ⟨Nat.le_of_ble_eq_true rfl, Nat.le_of_ble_eq_true rfl⟩ (Nat.le_of_ble_eq_true rfl) dX15_limitOrLease_3 rfl (fun r w3 hw => ?_) ?_
  rotate_left
  · skip
    rintro E q9 w9 ⟨rfl, e9, he9, hb9, hob9, hq9, hf9⟩
    exact xt_out (fun x hx => (htab x hx).elim) (by rw [hxp]; exact ⟨rfl, e9, by unfold pLim; rw [he9]; rfl, hb9, hob9, hq9, hf9⟩)
  obtain ⟨rfl, o3, he3, hb3, hp3, hf3⟩ := hw
  have hT3 := hT.fr hf3 hnp.1 hnp.2
  have hfr3 := hf3
  refine xr_aload_n dX15_limitOrLease_6 rfl (by first | rfl | exact isRef_rf _) ?_
  refine xr_callV (n9 := 0) (rc' := 17) (rs' := 116) (k_Pa_current hG hJ hp3 hT3 (by omega)) hp3 rfl q1966 q1968 qs28 q128 q1969 (by decide +kernel) rfl ⟨by decide, Nat.le_of_ble_eq_true rfl⟩ ⟨Nat.le_of_ble_eq_true rfl, Nat.le_of_ble_eq_true rfl⟩ (Nat.le_of_ble_eq_true rfl) dX15_limitOrLease_7 rfl (xk_r ?_) (fun _ _ _ h => h.elim)
  have hcu := hT3.cur (o := o3) (by omega)
  refine xr_bipush dX15_limitOrLease_10 (by decide) ?_
  refine xr_icmp_ne (tgt := 36) dX15_limitOrLease_12 (by decide) (by omega) (fun c12 => ?_) (fun c12 => ?_)
  · skip
    refine xr_aload_n dX15_limitOrLease_36 rfl (by first | rfl | exact isRef_rf _) ?_
    obtain ⟨tS37, bS37, hR37, hSO37⟩ := hS ("BenchBroker$Parser", 85, "ease") (by decide)
    refine xr_ldcS hR37 dX15_limitOrLease_37 ?_
    have hT2 := (hSO37.ext hk9).fr hfr3 (hSO37.ext hk9 |>.np hp).1 (hSO37.ext hk9 |>.np hp).2
    refine xr_callV (n9 := 1) (rc' := 8) (rs' := 53) (k_Pa_word hG hJ hp3 hT3 (by omega) hT2 (by decide +kernel) (by decide +kernel)) hp3 rfl q1978 q1980 qs30 q128 q1981 (by decide +kernel) rfl ⟨by decide, Nat.le_of_ble_eq_true rfl⟩ ⟨Nat.le_of_ble_eq_true rfl, Nat.le_of_ble_eq_true rfl⟩ (Nat.le_of_ble_eq_true rfl) dX15_limitOrLease_39 rfl (fun r w39 hw => ?_) ?_
    rotate_left
    · skip
      rintro E q9 w9 ⟨rfl, e9, he9, hb9, hob9, hq9, hf9⟩
      exact xt_out (fun x hx => (htab x hx).elim) (by rw [hxp]; exact ⟨rfl, e9, by unfold pLim; rw [he3]; refine (if_neg c12).trans ?_; simp only [he9, pB], hb9, hob9, by have := hfr3.1; omega, hfr3.tq hf9⟩)
    obtain ⟨rfl, o39, he39, hb39, hp39, hf39⟩ := hw
    have hT39 := hT3.fr hf39 hnp.1 hnp.2
    have hfr39 := hfr3.tq hf39
    have hb39 : o3 + 4 ≤ o39 ∧ o39 ≤ n := hb39
    refine xr_aload_n dX15_limitOrLease_42 rfl (by first | rfl | exact isRef_rf _) ?_
    refine xr_callV (n9 := 0) (rc' := 6) (rs' := 39) (k_Pa_sD hG hJ hp39 hT39 (by omega)) hp39 rfl q2005 q2007 qs32 q128 q2008 (by decide +kernel) rfl ⟨by decide, Nat.le_of_ble_eq_true rfl⟩ ⟨Nat.le_of_ble_eq_true rfl, Nat.le_of_ble_eq_true rfl⟩ (Nat.le_of_ble_eq_true rfl) dX15_limitOrLease_43 rfl (fun r w43 hw => ?_) ?_
    rotate_left
    · skip
      rintro E q9 w9 ⟨rfl, e9, he9, hb9, hob9, hq9, hf9⟩
      exact xt_out (fun x hx => (htab x hx).elim) (by rw [hxp]; exact ⟨rfl, e9, by unfold pLim; rw [he3]; refine (if_neg c12).trans ?_; simp only [he39, he9, pB], hb9, hob9, by have := hfr39.1; omega, hfr39.tq hf9⟩)
    obtain ⟨v43, o43, he43, rfl, hv43, hb43, hp43, hf43⟩ := hw
    show XJ _ _ _ _ _ _ _ _ _ _ _ _ [.int (iI v43)]
    have hT43 := hT39.fr hf43 hnp.1 hnp.2
    have hfr43 := hfr39.tq hf43
    refine xr_istore_n (lv' := [some _, some _, none]) dX15_limitOrLease_46 (by decide) rfl rfl ?_
    refine xr_aload_n dX15_limitOrLease_47 rfl (by first | rfl | exact isRef_rf _) ?_
    refine xr_callV (n9 := 0) (rc' := 4) (rs' := 25) (k_Pa_sD hG hJ hp43 hT43 (by omega)) hp43 rfl q2005 q2007 qs32 q128 q2008 (by decide +kernel) rfl ⟨by decide, Nat.le_of_ble_eq_true rfl⟩ ⟨Nat.le_of_ble_eq_true rfl, Nat.le_of_ble_eq_true rfl⟩ (Nat.le_of_ble_eq_true rfl) dX15_limitOrLease_48 rfl (fun r w48 hw => ?_) ?_
    rotate_left
    · skip
      rintro E q9 w9 ⟨rfl, e9, he9, hb9, hob9, hq9, hf9⟩
      exact xt_out (fun x hx => (htab x hx).elim) (by rw [hxp]; exact ⟨rfl, e9, by unfold pLim; rw [he3]; refine (if_neg c12).trans ?_; simp only [he39, he43, he9, pB], hb9, hob9, by have := hfr43.1; omega, hfr43.tq hf9⟩)
    obtain ⟨v48, o48, he48, rfl, hv48, hb48, hp48, hf48⟩ := hw
    show XJ _ _ _ _ _ _ _ _ _ _ _ _ [.int (iI v48)]
    have hT48 := hT43.fr hf48 hnp.1 hnp.2
    have hfr48 := hfr43.tq hf48
    refine xr_istore_n (lv' := [some _, some _, some _]) dX15_limitOrLease_51 (by decide) rfl rfl ?_
    refine xr_new (ci := 10) (T := TX14) (N := 4) (n9 := 4) (fs := [.int (iI 0), .int (iI 0), .int (iI 0), .int (iI 0)]) (rc' := 3) (rs' := 21) rfl in_X14 tyX14 tyX14_ok q2034 q1416 q125 (by intro j hj; rcases (show j = 0 ∨ j = 1 ∨ j = 2 ∨ j = 3 by omega) with rfl | rfl | rfl | rfl <;> rfl) ⟨Nat.le_of_ble_eq_true rfl, Nat.le_of_ble_eq_true rfl⟩ dX15_limitOrLease_52 (fun a52 ga52 hob52 => ?_)
    have hmn52 := Mo.new ga52 ga52 (.inl (.inr (10, [.int (iI 0), .int (iI 0), .int (iI 0), .int (iI 0)])))
    have hp52 := hp48.ext hmn52
    have hT52 := hT48.ext hmn52
    have hfr52 := hfr48.trm hmn52
    have hnp52 : p < a52 := Nat.lt_of_lt_of_le hp48.2 ga52
    have hfw52 := hfr48.1
    refine xr_dup dX15_limitOrLease_55 (by first | rfl | exact cat_rf _) ?_
    refine xr_bipush dX15_limitOrLease_56 (by decide) ?_
    refine xr_iload_n dX15_limitOrLease_58 rfl ?_
    refine xr_iload_n dX15_limitOrLease_59 rfl ?_
    refine xr_aload_n dX15_limitOrLease_60 rfl (by first | rfl | exact isRef_rf _) ?_
    refine xr_callV (n9 := 0) (rc' := 0) (rs' := 0) (k_Pa_sN hG hJ hp52 hT52 (by omega)) hp52 rfl q2015 q2017 qs34 q128 q2018 (by decide +kernel) rfl ⟨by decide, Nat.le_of_ble_eq_true rfl⟩ ⟨Nat.le_of_ble_eq_true rfl, Nat.le_of_ble_eq_true rfl⟩ (Nat.le_of_ble_eq_true rfl) dX15_limitOrLease_61 rfl (fun r w61 hw => ?_) ?_
    rotate_left
    · skip
      rintro E q9 w9 ⟨rfl, e9, he9, hb9, hob9, hq9, hf9⟩
      exact xt_out (fun x hx => (htab x hx).elim) (by rw [hxp]; exact ⟨rfl, e9, by unfold pLim; rw [he3]; refine (if_neg c12).trans ?_; simp only [he39, he43, he48, he9, pB], hb9, hob9, by have := hfr52.1; omega, hfr52.tq hf9⟩)
    obtain ⟨v61, o61, he61, rfl, hv61, hb61, hp61, hf61⟩ := hw
    show XJ _ _ _ _ _ _ _ _ _ _ _ _ (.int (iI v61) :: _)
    have hT61 := hT52.fr hf61 hnp.1 hnp.2
    have hfr61 := hfr52.tq hf61
    have hobn := hob52.fr hf61 (fun (q9 : a52 = p) => by omega)
    refine xr_callI (n9 := 4) (rc' := 0) (rs' := 0) (k_LeaseAction_init hG hobn (by omega)) q2035 q1418 q125 q1419 rfl (by decide +kernel) rfl ⟨by decide, Nat.le_of_ble_eq_true rfl⟩ ⟨Nat.le_of_ble_eq_true rfl, Nat.le_of_ble_eq_true rfl⟩ (Nat.le_of_ble_eq_true rfl) dX15_limitOrLease_64 rfl (fun r w64 hw => ?_) (fun _ _ _ h => h.elim)
    obtain ⟨rfl, hobF, hfF⟩ := hw
    have hpF := hp61.fr hfF (fun (q9 : p = a52) => by omega)
    have hfrF := hfr61.tr hfF (fun b9 hb9 (q9 : b9 = a52) => by have := ga52; omega)
    first | refine xr_areturn rfl rfl dX15_limitOrLease_67 ?_ | refine xr_areturnN rfl rfl dX15_limitOrLease_67 ?_
    rw [hpo]
    refine ⟨(108, v43, v48, v61), o61, a52, by unfold pLim; rw [he3]; refine (if_neg c12).trans ?_; simp only [he39, he43, he48, he61, pB], rfl, hobF, ⟨Or.inr (Or.inr (Or.inr (Or.inl rfl))), ?_, ?_, ?_⟩, by have := ga52; omega, by omega, hpF, hfrF⟩ <;> (dsimp only; omega)
  · skip
    refine xr_aload_n dX15_limitOrLease_15 rfl (by first | rfl | exact isRef_rf _) ?_
    obtain ⟨tS16, bS16, hR16, hSO16⟩ := hS ("BenchBroker$Parser", 78, "imit") (by decide)
    refine xr_ldcS hR16 dX15_limitOrLease_16 ?_
    have hT2 := (hSO16.ext hk9).fr hfr3 (hSO16.ext hk9 |>.np hp).1 (hSO16.ext hk9 |>.np hp).2
    refine xr_callV (n9 := 1) (rc' := 8) (rs' := 53) (k_Pa_word hG hJ hp3 hT3 (by omega) hT2 (by decide +kernel) (by decide +kernel)) hp3 rfl q1978 q1980 qs30 q128 q1981 (by decide +kernel) rfl ⟨by decide, Nat.le_of_ble_eq_true rfl⟩ ⟨Nat.le_of_ble_eq_true rfl, Nat.le_of_ble_eq_true rfl⟩ (Nat.le_of_ble_eq_true rfl) dX15_limitOrLease_18 rfl (fun r w18 hw => ?_) ?_
    rotate_left
    · skip
      rintro E q9 w9 ⟨rfl, e9, he9, hb9, hob9, hq9, hf9⟩
      exact xt_out (fun x hx => (htab x hx).elim) (by rw [hxp]; exact ⟨rfl, e9, by unfold pLim; rw [he3]; refine (if_pos c12).trans ?_; simp only [he9, pB], hb9, hob9, by have := hfr3.1; omega, hfr3.tq hf9⟩)
    obtain ⟨rfl, o18, he18, hb18, hp18, hf18⟩ := hw
    have hT18 := hT3.fr hf18 hnp.1 hnp.2
    have hfr18 := hfr3.tq hf18
    have hb18 : o3 + 4 ≤ o18 ∧ o18 ≤ n := hb18
    refine xr_new (ci := 11) (T := TX13) (N := 4) (n9 := 4) (fs := [.int (iI 0), .int (iI 0), .int (iI 0), .int (iI 0)]) (rc' := 7) (rs' := 49) rfl in_X13 tyX13 tyX13_ok q2026 q1230 q118 (by intro j hj; rcases (show j = 0 ∨ j = 1 ∨ j = 2 ∨ j = 3 by omega) with rfl | rfl | rfl | rfl <;> rfl) ⟨Nat.le_of_ble_eq_true rfl, Nat.le_of_ble_eq_true rfl⟩ dX15_limitOrLease_21 (fun a21 ga21 hob21 => ?_)
    have hmn21 := Mo.new ga21 ga21 (.inl (.inr (11, [.int (iI 0), .int (iI 0), .int (iI 0), .int (iI 0)])))
    have hp21 := hp18.ext hmn21
    have hT21 := hT18.ext hmn21
    have hfr21 := hfr18.trm hmn21
    have hnp21 : p < a21 := Nat.lt_of_lt_of_le hp18.2 ga21
    have hfw21 := hfr18.1
    refine xr_dup dX15_limitOrLease_24 (by first | rfl | exact cat_rf _) ?_
    refine xr_bipush dX15_limitOrLease_25 (by decide) ?_
    refine xr_iconst dX15_limitOrLease_27 ?_
    refine xr_aload_n dX15_limitOrLease_28 rfl (by first | rfl | exact isRef_rf _) ?_
    refine xr_callV (n9 := 0) (rc' := 4) (rs' := 28) (k_Pa_sN hG hJ hp21 hT21 (by omega)) hp21 rfl q2015 q2017 qs34 q128 q2018 (by decide +kernel) rfl ⟨by decide, Nat.le_of_ble_eq_true rfl⟩ ⟨Nat.le_of_ble_eq_true rfl, Nat.le_of_ble_eq_true rfl⟩ (Nat.le_of_ble_eq_true rfl) dX15_limitOrLease_29 rfl (fun r w29 hw => ?_) ?_
    rotate_left
    · skip
      rintro E q9 w9 ⟨rfl, e9, he9, hb9, hob9, hq9, hf9⟩
      exact xt_out (fun x hx => (htab x hx).elim) (by rw [hxp]; exact ⟨rfl, e9, by unfold pLim; rw [he3]; refine (if_pos c12).trans ?_; simp only [he18, he9, pB], hb9, hob9, by have := hfr21.1; omega, hfr21.tq hf9⟩)
    obtain ⟨v29, o29, he29, rfl, hv29, hb29, hp29, hf29⟩ := hw
    show XJ _ _ _ _ _ _ _ _ _ _ _ _ (.int (iI v29) :: _)
    have hT29 := hT21.fr hf29 hnp.1 hnp.2
    have hfr29 := hfr21.tq hf29
    have hobn := hob21.fr hf29 (fun (q9 : a21 = p) => by omega)
    refine xr_callI (n9 := 3) (rc' := 4) (rs' := 28) (k_PlainAction_init hG hobn (by omega)) q2027 q1232 q118 q1233 rfl (by decide +kernel) rfl ⟨by decide, Nat.le_of_ble_eq_true rfl⟩ ⟨Nat.le_of_ble_eq_true rfl, Nat.le_of_ble_eq_true rfl⟩ (Nat.le_of_ble_eq_true rfl) dX15_limitOrLease_32 rfl (fun r w32 hw => ?_) (fun _ _ _ h => h.elim)
    obtain ⟨rfl, hobF, hfF⟩ := hw
    have hpF := hp29.fr hfF (fun (q9 : p = a21) => by omega)
    have hfrF := hfr29.tr hfF (fun b9 hb9 (q9 : b9 = a21) => by have := ga21; omega)
    first | refine xr_areturn rfl rfl dX15_limitOrLease_35 ?_ | refine xr_areturnN rfl rfl dX15_limitOrLease_35 ?_
    rw [hpo]
    refine ⟨(105, v29, 0, 0), o29, a21, by unfold pLim; rw [he3]; refine (if_pos c12).trans ?_; simp only [he18, he29, pB], rfl, hobF, ⟨Or.inr (Or.inr (Or.inr (Or.inr (Or.inr (Or.inr (Or.inr (Or.inr (Or.inl rfl)))))))), ?_, ?_, ?_⟩, by have := ga21; omega, by omega, hpF, hfrF⟩ <;> (dsimp only; omega)
