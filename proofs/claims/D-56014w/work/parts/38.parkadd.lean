/-! 38.parkadd.lean.txt (written by tools/walker.py)  -/
set_option maxRecDepth 100000
/-- why a bench, a fountain, a tenant can't be added: the reason (0: it can), and the detail -/
def rjBench (P : Int → Int) (x y : Int) : Int × Int := if P 0 = 10 then (1, 10) else if holder P x y ≠ -1 then (4, holder P x y) else (0, 0)
def rjFount (P : Int → Int) (x y : Int) : Int × Int := if P 1 = 4 then (2, 4) else if holder P x y ≠ -1 then (4, holder P x y) else (0, 0)
def rjTenant (P : Int → Int) : Int × Int := if P 2 = 8 then (3, 8) else (0, 0)
/-- L with two places put -/
def putL (L : Int → Nat) (i : Int) (a : Nat) (j : Int) (b : Nat) : Int → Nat := fun k => if k = i then a else if k = j then b else L k
theorem putL_n {L : Int → Nat} {i j : Int} {a b : Nat} : ∀ k : Int, k ≠ i → k ≠ j → putL L i a j b k = L k := fun k h1 h2 => by unfold putL; rw [if_neg h1, if_neg h2]
theorem putL_i {L : Int → Nat} {i j : Int} {a b : Nat} : putL L i a j b i = a := if_pos rfl
theorem putL_j {L : Int → Nat} {i j : Int} {a b : Nat} (h : j ≠ i) : putL L i a j b j = b := by unfold putL; rw [if_neg h, if_pos rfl]
theorem k_P_addBench {g : GG} {w : WW} {n0 : Nat → Prop} {q : Nat} {L : Int → Nat} {P : Int → Int} {N : Int} {x y v : Int} (hG : Base g) (hL : KL g) (hK : PK g w n0 q L P) (hB : PB P N) (hr : sm x ∧ sm y) : Ct g yX2_addBench (.code yX2_addBench cX2_addBench 5 (some .int)) 8 145 5 44 w [.ref q, .int (iI x), .int (iI y), .int (iI v)] (fun r_ w1 => ∃ L' : Int → Nat, r_ = some (.int (iI (P 0))) ∧ (rjBench P x y).1 = 0 ∧ PK g w1 n0 q L' (oBench P x y v) ∧ Fr n0 w w1) (fun E a9 w1 => E = "BenchBroker$Rejection" ∧ ((rjBench P x y).1 ≠ 0 ∧ Ob w1 a9 6 [.int (iI (rjBench P x y).1), .int (iI (rjBench P x y).2), .int (iI 0)]) ∧ Mo w.2 w w1 ∧ w.2 ≤ a9) := by
  refine Ct.of (lv := [some _, some _, some _, some _, none]) hG (by decide +kernel) (Nat.le_of_ble_eq_true rfl) rfl ?_
  intro z hg hpo hxp hnm htab
  subst hg
  have hgg := hB.g
  have hg8 := hK.n0lt
  refine xr_aload_n dX2_addBench_0 rfl (by first | rfl | exact isRef_rf _) ?_
  refine xr_getfield (ci := 0) (T := TX2) (N := 10) (i := 0) hK.hq rfl (by decide) in_X2 q186 (.inl rfl) dX2_addBench_1 (by rfl) ?_
  refine xr_callV (n9 := 0) (rc' := 5) (rs' := 44) (k_Reg_size hG hK.r0 hK.l0) hK.r0 rfl q472 q294 q295 q88 q296 (by decide +kernel) rfl ⟨by decide, Nat.le_of_ble_eq_true rfl⟩ ⟨Nat.le_of_ble_eq_true rfl, Nat.le_of_ble_eq_true rfl⟩ (Nat.le_of_ble_eq_true rfl) dX2_addBench_4 rfl (xk_r ?_) (fun _ _ _ h => h.elim)
  refine xr_bipush dX2_addBench_7 (by decide) ?_
  refine xr_icmp_ne (tgt := 16) dX2_addBench_9 (by decide) (by omega) (fun c9 => ?_) (fun c9 => ?_)
  · skip
    refine xr_iconst dX2_addBench_16 ?_
    refine xr_iconst dX2_addBench_17 ?_
    refine xr_bipush dX2_addBench_18 (by decide) ?_
    refine xr_callSN (n9 := 3) (rc' := 4) (rs' := 35) (k_rejectIf (b := false) hG) q1033 q1034 q86 q1035 (by decide +kernel) rfl ⟨by decide, Nat.le_of_ble_eq_true rfl⟩ ⟨Nat.le_of_ble_eq_true rfl, Nat.le_of_ble_eq_true rfl⟩ (Nat.le_of_ble_eq_true rfl) dX2_addBench_20 rfl (xk_req2 (fun _ => ?_)) (fun _ _ _ h9 => nomatch h9.1)
    have hn10 : P 0 < 10 := by omega
    refine xr_aload_n dX2_addBench_23 rfl (by first | rfl | exact isRef_rf _) ?_
    refine xr_iload_n dX2_addBench_24 rfl ?_
    refine xr_iload_n dX2_addBench_25 rfl ?_
    refine xr_callV (n9 := 2) (rc' := 2) (rs' := 17) (k_requireFree hG hK hB hr) hK.hq rfl q1065 q1067 qs15 q87 q1068 (by decide +kernel) rfl ⟨by decide, Nat.le_of_ble_eq_true rfl⟩ ⟨Nat.le_of_ble_eq_true rfl, Nat.le_of_ble_eq_true rfl⟩ (Nat.le_of_ble_eq_true rfl) dX2_addBench_26 rfl (fun r w26 hw => ?_) ?_
    rotate_left
    · skip
      rintro E q9 w9 ⟨rfl, ⟨h1, ho9⟩, hm9, hq9⟩
      have e9 : rjBench P x y = (4, holder P x y) := by unfold rjBench; rw [if_neg (by omega), if_pos h1]
      exact xt_out (fun x hx => (htab x hx).elim) (by rw [hxp]; exact ⟨rfl, ⟨by rw [e9]; show (4 : Int) ≠ 0; decide, by rw [e9]; exact ho9⟩, hm9, hq9⟩)
    obtain ⟨hho, rfl, rfl⟩ := hw
    refine xr_new (ci := 3) (T := TX10) (N := 7) (n9 := 7) (fs := [.int (iI 0), .int (iI 0), .int (iI 0), .int (iI 0), .null, .int (iI 0), .int (iI 0)]) (rc' := 1) (rs' := 10) rfl in_X10 tyX10 tyX10_ok q794 q799 q114 (by intro j hj; rcases (show j = 0 ∨ j = 1 ∨ j = 2 ∨ j = 3 ∨ j = 4 ∨ j = 5 ∨ j = 6 by omega) with rfl | rfl | rfl | rfl | rfl | rfl | rfl <;> rfl) ⟨Nat.le_of_ble_eq_true rfl, Nat.le_of_ble_eq_true rfl⟩ dX2_addBench_29 (fun a29 ga29 hob29 => ?_)
    have hmn29 := Mo.new ga29 ga29 (.inl (.inr (3, [.int (iI 0), .int (iI 0), .int (iI 0), .int (iI 0), .null, .int (iI 0), .int (iI 0)])))
    have hK1 := hK.ext hmn29
    refine xr_dup dX2_addBench_32 (by first | rfl | exact cat_rf _) ?_
    refine xr_aload_n dX2_addBench_33 rfl (by first | rfl | exact isRef_rf _) ?_
    refine xr_getfield (ci := 0) (T := TX2) (N := 10) (i := 0) hK1.hq rfl (by decide) in_X2 q186 (.inl rfl) dX2_addBench_34 (by rfl) ?_
    refine xr_callV (n9 := 0) (rc' := 1) (rs' := 10) (k_Reg_size hG hK1.r0 hK1.l0) hK1.r0 rfl q472 q294 q295 q88 q296 (by decide +kernel) rfl ⟨by decide, Nat.le_of_ble_eq_true rfl⟩ ⟨Nat.le_of_ble_eq_true rfl, Nat.le_of_ble_eq_true rfl⟩ (Nat.le_of_ble_eq_true rfl) dX2_addBench_37 rfl (xk_r ?_) (fun _ _ _ h => h.elim)
    refine xr_iload_n dX2_addBench_40 rfl ?_
    refine xr_iload_n dX2_addBench_41 rfl ?_
    refine xr_callI (n9 := 3) (rc' := 1) (rs' := 10) (k_Bench_init hG hob29) q1079 q809 q114 q810 rfl (by decide +kernel) rfl ⟨by decide, Nat.le_of_ble_eq_true rfl⟩ ⟨Nat.le_of_ble_eq_true rfl, Nat.le_of_ble_eq_true rfl⟩ (Nat.le_of_ble_eq_true rfl) dX2_addBench_42 rfl (fun r w42 hw => ?_) (fun _ _ _ h => h.elim)
    obtain ⟨rfl, ho8, hf42⟩ := hw
    have hK2 := hK1.fr hf42 (fun b hb q9 => by have := hK.hi hb; omega) (fun b q9 => by have := hK.n0lt; omega)
    refine xr_astore (lv' := [some _, some _, some _, some _, some _]) dX2_addBench_45 (by decide) rfl (by first | rfl | exact isRef_rf _) rfl ?_
    refine xr_aload dX2_addBench_47 rfl (by first | rfl | exact isRef_rf _) ?_
    refine xr_iload_n dX2_addBench_49 rfl ?_
    refine xr_putfieldN (ci := 3) (T := TX10) (N := 7) (i := 3) (fs' := [_, _, _, _, _, _, _]) ho8 rfl (by decide) in_X10 tyX10 tyX10_ok nmX10 q812 (.inl rfl) rfl dX2_addBench_50 (by first | rfl | exact nar_bI _ | exact nar_rf _) (by first | rfl | exact fit_bI _ | exact fit_rf _ _) (by simp) (by rfl) (.inl rfl) (fun hob50 => ?_)
    have hK3 := hK2.fr (Fr.put1 (a := a29) (.inl (.inr (3, [.int (iI x), .int (iI y), .int (iI (P 0)), .int (iI v), .null, .int (iI 0), .int (iI 0)])))) (fun b hb q9 => by have := hK.hi hb; omega) (fun b q9 => by have := hK.n0lt; omega)
    refine xr_aload_n dX2_addBench_53 rfl (by first | rfl | exact isRef_rf _) ?_
    refine xr_getfield (ci := 0) (T := TX2) (N := 10) (i := 0) hK3.hq rfl (by decide) in_X2 q186 (.inl rfl) dX2_addBench_54 (by rfl) ?_
    refine xr_aload dX2_addBench_57 rfl (by first | rfl | exact isRef_rf _) ?_
    refine xr_callV (n9 := 1) (rc' := 0) (rs' := 0) (k_Reg_add hG hL hK3.r0 hK3.l0 (by omega) hob50 rfl q2776 (by decide)) hK3.r0 rfl q763 q764 q765 q88 q766 (by decide +kernel) rfl ⟨by decide, Nat.le_of_ble_eq_true rfl⟩ ⟨Nat.le_of_ble_eq_true rfl, Nat.le_of_ble_eq_true rfl⟩ (Nat.le_of_ble_eq_true rfl) dX2_addBench_59 rfl (fun r w59 hw => ?_) (fun _ _ _ h => h.elim)
    obtain ⟨rfl, arr2, hA9, hf9, har9⟩ := hw
    have hlt := hK.hi (b := L 3) (Or.inr (Or.inl ⟨3, by decide, by decide, rfl⟩))
    have hlt2 := hK.l0.lt
    have ho9 := hob50.fr hf9 (fun q9 => by rcases q9 with q9 | ⟨q9, -⟩ <;> omega)
    have hg9 := hK.n0lt
    refine xr_aload dX2_addBench_62 rfl (by first | rfl | exact isRef_rf _) ?_
    refine xr_callVU (n9 := 0) (rc' := 0) (rs' := 0) (k_index_B hG ho9) ho9 rfl q859 q801 rfl q804 q803 q107 q805 (by decide +kernel) rfl ⟨by decide, Nat.le_of_ble_eq_true rfl⟩ ⟨Nat.le_of_ble_eq_true rfl, Nat.le_of_ble_eq_true rfl⟩ (Nat.le_of_ble_eq_true rfl) dX2_addBench_64 rfl (xk_r ?_) (fun _ _ _ h => h.elim)
    refine xr_ireturn rfl rfl dX2_addBench_67 ?_
    rw [hpo]
    refine ⟨putL L (10 + P 0) a29 6 arr2, rfl, ?_, hK3.addB' (P' := oBench P x y v) hf9 hA9 (hK.up _ ga29) har9 hn10 ho9 (by simp only [bF, oBench, updI, ↓reduceIte]; repeat first | rfl | rw [if_pos (by omega)] | rw [if_neg (by omega)]) (by intro k h1 h2; simp only [oBench, updI]; repeat rw [if_neg (by omega)]) (by simp only [oBench, updI, ↓reduceIte]) (by simp only [oBench, updI]; repeat first | rfl | rw [if_pos (by omega)] | rw [if_neg (by omega)]) putL_n putL_i (putL_j (by omega)), ?_⟩
    · unfold rjBench; rw [if_neg (by omega), if_neg (by omega)]
    · exact (((Fr.new (S := n0) ga29 _).tr hf42 (fun b _ (q9 : b = a29) => by rw [q9]; exact hK.up _ ga29)).tq (Fr.put (S := n0) (hK.up _ ga29) _)).tr hf9 (fun b _ q9 => by
        rcases q9 with q9 | ⟨q9, q8⟩
        · rw [q9]; exact hK.ar (by decide) (by decide)
        · rw [q9]; exact hK.aa (by decide) (by decide) (by omega))
  · skip
    refine xr_iconst dX2_addBench_12 ?_
    refine xr_goto (tgt := 17) dX2_addBench_13 (by decide) ?_
    refine xr_iconst dX2_addBench_17 ?_
    refine xr_bipush dX2_addBench_18 (by decide) ?_
    refine xr_callSN (n9 := 3) (rc' := 4) (rs' := 35) (k_rejectIf (b := true) hG) q1033 q1034 q86 q1035 (by decide +kernel) rfl ⟨by decide, Nat.le_of_ble_eq_true rfl⟩ ⟨Nat.le_of_ble_eq_true rfl, Nat.le_of_ble_eq_true rfl⟩ (Nat.le_of_ble_eq_true rfl) dX2_addBench_20 rfl (xk_req2 (fun h9 => nomatch h9)) ?_
    rintro E q9 w9 ⟨-, rfl, ho9, hm9, hq9⟩
    have e9 : rjBench P x y = (1, 10) := by unfold rjBench; rw [if_pos c9]
    exact xt_out (fun x hx => (htab x hx).elim) (by rw [hxp]; exact ⟨rfl, ⟨by rw [e9]; decide, by rw [e9]; exact ho9⟩, hm9, hq9⟩)
theorem k_P_addFountain {g : GG} {w : WW} {n0 : Nat → Prop} {q : Nat} {L : Int → Nat} {P : Int → Int} {N : Int} {x y v : Int} (hG : Base g) (hL : KL g) (hK : PK g w n0 q L P) (hB : PB P N) (hr : sm x ∧ sm y) : Ct g yX2_addFountain (.code yX2_addFountain cX2_addFountain 5 (some .int)) 8 145 5 42 w [.ref q, .int (iI x), .int (iI y), .int (iI v)] (fun r_ w1 => ∃ L' : Int → Nat, r_ = some (.int (iI (P 1))) ∧ (rjFount P x y).1 = 0 ∧ PK g w1 n0 q L' (oFount P x y v) ∧ Fr n0 w w1) (fun E a9 w1 => E = "BenchBroker$Rejection" ∧ ((rjFount P x y).1 ≠ 0 ∧ Ob w1 a9 6 [.int (iI (rjFount P x y).1), .int (iI (rjFount P x y).2), .int (iI 0)]) ∧ Mo w.2 w w1 ∧ w.2 ≤ a9) := by
  refine Ct.of (lv := [some _, some _, some _, some _, none]) hG (by decide +kernel) (Nat.le_of_ble_eq_true rfl) rfl ?_
  intro z hg hpo hxp hnm htab
  subst hg
  have hgg := hB.g
  have hg8 := hK.n0lt
  refine xr_aload_n dX2_addFountain_0 rfl (by first | rfl | exact isRef_rf _) ?_
  refine xr_getfield (ci := 0) (T := TX2) (N := 10) (i := 1) hK.hq rfl (by decide) in_X2 q189 (.inl rfl) dX2_addFountain_1 (by rfl) ?_
  refine xr_callV (n9 := 0) (rc' := 5) (rs' := 42) (k_Reg_size hG hK.r1 hK.l1) hK.r1 rfl q472 q294 q295 q88 q296 (by decide +kernel) rfl ⟨by decide, Nat.le_of_ble_eq_true rfl⟩ ⟨Nat.le_of_ble_eq_true rfl, Nat.le_of_ble_eq_true rfl⟩ (Nat.le_of_ble_eq_true rfl) dX2_addFountain_4 rfl (xk_r ?_) (fun _ _ _ h => h.elim)
  refine xr_iconst dX2_addFountain_7 ?_
  refine xr_icmp_ne (tgt := 15) dX2_addFountain_8 (by decide) (by omega) (fun c8 => ?_) (fun c8 => ?_)
  · skip
    refine xr_iconst dX2_addFountain_15 ?_
    refine xr_iconst dX2_addFountain_16 ?_
    refine xr_iconst dX2_addFountain_17 ?_
    refine xr_callSN (n9 := 3) (rc' := 4) (rs' := 33) (k_rejectIf (b := false) hG) q1033 q1034 q86 q1035 (by decide +kernel) rfl ⟨by decide, Nat.le_of_ble_eq_true rfl⟩ ⟨Nat.le_of_ble_eq_true rfl, Nat.le_of_ble_eq_true rfl⟩ (Nat.le_of_ble_eq_true rfl) dX2_addFountain_18 rfl (xk_req2 (fun _ => ?_)) (fun _ _ _ h9 => nomatch h9.1)
    have hn10 : P 1 < 4 := by omega
    refine xr_aload_n dX2_addFountain_21 rfl (by first | rfl | exact isRef_rf _) ?_
    refine xr_iload_n dX2_addFountain_22 rfl ?_
    refine xr_iload_n dX2_addFountain_23 rfl ?_
    refine xr_callV (n9 := 2) (rc' := 2) (rs' := 15) (k_requireFree hG hK hB hr) hK.hq rfl q1065 q1067 qs15 q87 q1068 (by decide +kernel) rfl ⟨by decide, Nat.le_of_ble_eq_true rfl⟩ ⟨Nat.le_of_ble_eq_true rfl, Nat.le_of_ble_eq_true rfl⟩ (Nat.le_of_ble_eq_true rfl) dX2_addFountain_24 rfl (fun r w24 hw => ?_) ?_
    rotate_left
    · skip
      rintro E q9 w9 ⟨rfl, ⟨h1, ho9⟩, hm9, hq9⟩
      have e9 : rjFount P x y = (4, holder P x y) := by unfold rjFount; rw [if_neg (by omega), if_pos h1]
      exact xt_out (fun x hx => (htab x hx).elim) (by rw [hxp]; exact ⟨rfl, ⟨by rw [e9]; show (4 : Int) ≠ 0; decide, by rw [e9]; exact ho9⟩, hm9, hq9⟩)
    obtain ⟨hho, rfl, rfl⟩ := hw
    refine xr_new (ci := 4) (T := TX9) (N := 5) (n9 := 5) (fs := [.int (iI 0), .int (iI 0), .int (iI 0), .int (iI 0), .int (iI 0)]) (rc' := 1) (rs' := 10) rfl in_X9 tyX9 tyX9_ok q477 q732 q109 (by intro j hj; rcases (show j = 0 ∨ j = 1 ∨ j = 2 ∨ j = 3 ∨ j = 4 by omega) with rfl | rfl | rfl | rfl | rfl <;> rfl) ⟨Nat.le_of_ble_eq_true rfl, Nat.le_of_ble_eq_true rfl⟩ dX2_addFountain_27 (fun a27 ga27 hob27 => ?_)
    have hmn27 := Mo.new ga27 ga27 (.inl (.inr (4, [.int (iI 0), .int (iI 0), .int (iI 0), .int (iI 0), .int (iI 0)])))
    have hK1 := hK.ext hmn27
    refine xr_dup dX2_addFountain_30 (by first | rfl | exact cat_rf _) ?_
    refine xr_aload_n dX2_addFountain_31 rfl (by first | rfl | exact isRef_rf _) ?_
    refine xr_getfield (ci := 0) (T := TX2) (N := 10) (i := 1) hK1.hq rfl (by decide) in_X2 q189 (.inl rfl) dX2_addFountain_32 (by rfl) ?_
    refine xr_callV (n9 := 0) (rc' := 1) (rs' := 10) (k_Reg_size hG hK1.r1 hK1.l1) hK1.r1 rfl q472 q294 q295 q88 q296 (by decide +kernel) rfl ⟨by decide, Nat.le_of_ble_eq_true rfl⟩ ⟨Nat.le_of_ble_eq_true rfl, Nat.le_of_ble_eq_true rfl⟩ (Nat.le_of_ble_eq_true rfl) dX2_addFountain_35 rfl (xk_r ?_) (fun _ _ _ h => h.elim)
    refine xr_iload_n dX2_addFountain_38 rfl ?_
    refine xr_iload_n dX2_addFountain_39 rfl ?_
    refine xr_callI (n9 := 3) (rc' := 1) (rs' := 10) (k_Fountain_init (o := false) hG hob27) q733 q734 q109 q735 rfl (by decide +kernel) rfl ⟨by decide, Nat.le_of_ble_eq_true rfl⟩ ⟨Nat.le_of_ble_eq_true rfl, Nat.le_of_ble_eq_true rfl⟩ (Nat.le_of_ble_eq_true rfl) dX2_addFountain_40 rfl (fun r w40 hw => ?_) (fun _ _ _ h => h.elim)
    obtain ⟨rfl, ho8, hf40⟩ := hw
    have hK2 := hK1.fr hf40 (fun b hb q9 => by have := hK.hi hb; omega) (fun b q9 => by have := hK.n0lt; omega)
    refine xr_astore (lv' := [some _, some _, some _, some _, some _]) dX2_addFountain_43 (by decide) rfl (by first | rfl | exact isRef_rf _) rfl ?_
    refine xr_aload dX2_addFountain_45 rfl (by first | rfl | exact isRef_rf _) ?_
    refine xr_iload_n dX2_addFountain_47 rfl ?_
    refine xr_putfieldN (ci := 4) (T := TX9) (N := 5) (i := 3) (fs' := [_, _, _, _, _]) ho8 rfl (by decide) in_X9 tyX9 tyX9_ok nmX9 q744 (.inl rfl) rfl dX2_addFountain_48 (by first | rfl | exact nar_bI _ | exact nar_rf _) (by first | rfl | exact fit_bI _ | exact fit_rf _ _) (by simp) (by rfl) (.inl rfl) (fun hob48 => ?_)
    have hK3 := hK2.fr (Fr.put1 (a := a27) (.inl (.inr (4, [.int (iI x), .int (iI y), .int (iI (P 1)), .int (iI v), .int (bI true)])))) (fun b hb q9 => by have := hK.hi hb; omega) (fun b q9 => by have := hK.n0lt; omega)
    refine xr_aload_n dX2_addFountain_51 rfl (by first | rfl | exact isRef_rf _) ?_
    refine xr_getfield (ci := 0) (T := TX2) (N := 10) (i := 1) hK3.hq rfl (by decide) in_X2 q189 (.inl rfl) dX2_addFountain_52 (by rfl) ?_
    refine xr_aload dX2_addFountain_55 rfl (by first | rfl | exact isRef_rf _) ?_
    refine xr_callV (n9 := 1) (rc' := 0) (rs' := 0) (k_Reg_add hG hL hK3.r1 hK3.l1 (by omega) hob48 rfl q2775 (by decide)) hK3.r1 rfl q763 q764 q765 q88 q766 (by decide +kernel) rfl ⟨by decide, Nat.le_of_ble_eq_true rfl⟩ ⟨Nat.le_of_ble_eq_true rfl, Nat.le_of_ble_eq_true rfl⟩ (Nat.le_of_ble_eq_true rfl) dX2_addFountain_57 rfl (fun r w57 hw => ?_) (fun _ _ _ h => h.elim)
    obtain ⟨rfl, arr2, hA9, hf9, har9⟩ := hw
    have hlt := hK.hi (b := L 4) (Or.inr (Or.inl ⟨4, by decide, by decide, rfl⟩))
    have hlt2 := hK.l1.lt
    have ho9 := hob48.fr hf9 (fun q9 => by rcases q9 with q9 | ⟨q9, -⟩ <;> omega)
    have hg9 := hK.n0lt
    refine xr_aload dX2_addFountain_60 rfl (by first | rfl | exact isRef_rf _) ?_
    refine xr_callVU (n9 := 0) (rc' := 0) (rs' := 0) (k_index_F hG ho9) ho9 rfl q1084 q1085 rfl q804 q1086 q107 q805 (by decide +kernel) rfl ⟨by decide, Nat.le_of_ble_eq_true rfl⟩ ⟨Nat.le_of_ble_eq_true rfl, Nat.le_of_ble_eq_true rfl⟩ (Nat.le_of_ble_eq_true rfl) dX2_addFountain_62 rfl (xk_r ?_) (fun _ _ _ h => h.elim)
    refine xr_ireturn rfl rfl dX2_addFountain_65 ?_
    rw [hpo]
    refine ⟨putL L (30 + P 1) a27 7 arr2, rfl, ?_, hK3.addF' (P' := oFount P x y v) hf9 hA9 (hK.up _ ga27) har9 hn10 ho9 (by simp only [fF]; rw [show oFount P x y v (73 + 4 * P 1) = 1 from by simp only [oFount, updI]; repeat first | rfl | rw [if_pos (by omega)] | rw [if_neg (by omega)]]; simp only [oFount, updI, ↓reduceIte]; repeat first | rfl | rw [if_pos (by omega)] | rw [if_neg (by omega)]) (by intro k h1 h2; simp only [oFount, updI]; repeat rw [if_neg (by omega)]) (by simp only [oFount, updI, ↓reduceIte]) putL_n putL_i (putL_j (by omega)), ?_⟩
    · unfold rjFount; rw [if_neg (by omega), if_neg (by omega)]
    · exact (((Fr.new (S := n0) ga27 _).tr hf40 (fun b _ (q9 : b = a27) => by rw [q9]; exact hK.up _ ga27)).tq (Fr.put (S := n0) (hK.up _ ga27) _)).tr hf9 (fun b _ q9 => by
        rcases q9 with q9 | ⟨q9, q8⟩
        · rw [q9]; exact hK.ar (by decide) (by decide)
        · rw [q9]; exact hK.aa (by decide) (by decide) (by omega))
  · skip
    refine xr_iconst dX2_addFountain_11 ?_
    refine xr_goto (tgt := 16) dX2_addFountain_12 (by decide) ?_
    refine xr_iconst dX2_addFountain_16 ?_
    refine xr_iconst dX2_addFountain_17 ?_
    refine xr_callSN (n9 := 3) (rc' := 4) (rs' := 33) (k_rejectIf (b := true) hG) q1033 q1034 q86 q1035 (by decide +kernel) rfl ⟨by decide, Nat.le_of_ble_eq_true rfl⟩ ⟨Nat.le_of_ble_eq_true rfl, Nat.le_of_ble_eq_true rfl⟩ (Nat.le_of_ble_eq_true rfl) dX2_addFountain_18 rfl (xk_req2 (fun h9 => nomatch h9)) ?_
    rintro E q9 w9 ⟨-, rfl, ho9, hm9, hq9⟩
    have e9 : rjFount P x y = (2, 4) := by unfold rjFount; rw [if_pos c8]
    exact xt_out (fun x hx => (htab x hx).elim) (by rw [hxp]; exact ⟨rfl, ⟨by rw [e9]; decide, by rw [e9]; exact ho9⟩, hm9, hq9⟩)
theorem k_P_addTenant {g : GG} {w : WW} {n0 : Nat → Prop} {q : Nat} {L : Int → Nat} {P : Int → Int} {N : Int} {v : Int} (hG : Base g) (hL : KL g) (hK : PK g w n0 q L P) (hB : PB P N) : Ct g yX2_addTenant (.code yX2_addTenant cX2_addTenant 2 (some .int)) 7 129 3 23 w [.ref q, .int (iI v)] (fun r_ w1 => ∃ L' : Int → Nat, r_ = some (.int (iI (P 2))) ∧ (rjTenant P).1 = 0 ∧ PK g w1 n0 q L' (oTenant P v) ∧ Fr n0 w w1) (fun E a9 w1 => E = "BenchBroker$Rejection" ∧ ((rjTenant P).1 ≠ 0 ∧ Ob w1 a9 6 [.int (iI (rjTenant P).1), .int (iI (rjTenant P).2), .int (iI 0)]) ∧ Mo w.2 w w1 ∧ w.2 ≤ a9) := by
  refine Ct.of (lv := [some _, some _]) hG (by decide +kernel) (Nat.le_of_ble_eq_true rfl) rfl ?_
  intro z hg hpo hxp hnm htab
  subst hg
  have hgg := hB.g
  have hg8 := hK.n0lt
  refine xr_aload_n dX2_addTenant_0 rfl (by first | rfl | exact isRef_rf _) ?_
  refine xr_getfield (ci := 0) (T := TX2) (N := 10) (i := 2) hK.hq rfl (by decide) in_X2 q192 (.inl rfl) dX2_addTenant_1 (by rfl) ?_
  refine xr_callV (n9 := 0) (rc' := 3) (rs' := 23) (k_Reg_size hG hK.r2 hK.l2) hK.r2 rfl q472 q294 q295 q88 q296 (by decide +kernel) rfl ⟨by decide, Nat.le_of_ble_eq_true rfl⟩ ⟨Nat.le_of_ble_eq_true rfl, Nat.le_of_ble_eq_true rfl⟩ (Nat.le_of_ble_eq_true rfl) dX2_addTenant_4 rfl (xk_r ?_) (fun _ _ _ h => h.elim)
  refine xr_bipush dX2_addTenant_7 (by decide) ?_
  refine xr_icmp_ne (tgt := 16) dX2_addTenant_9 (by decide) (by omega) (fun c9 => ?_) (fun c9 => ?_)
  · skip
    refine xr_iconst dX2_addTenant_16 ?_
    refine xr_iconst dX2_addTenant_17 ?_
    refine xr_bipush dX2_addTenant_18 (by decide) ?_
    refine xr_callSN (n9 := 3) (rc' := 2) (rs' := 14) (k_rejectIf (b := false) hG) q1033 q1034 q86 q1035 (by decide +kernel) rfl ⟨by decide, Nat.le_of_ble_eq_true rfl⟩ ⟨Nat.le_of_ble_eq_true rfl, Nat.le_of_ble_eq_true rfl⟩ (Nat.le_of_ble_eq_true rfl) dX2_addTenant_20 rfl (xk_req2 (fun _ => ?_)) (fun _ _ _ h9 => nomatch h9.1)
    have hn10 : P 2 < 8 := by omega
    refine xr_aload_n dX2_addTenant_23 rfl (by first | rfl | exact isRef_rf _) ?_
    refine xr_getfield (ci := 0) (T := TX2) (N := 10) (i := 2) hK.hq rfl (by decide) in_X2 q192 (.inl rfl) dX2_addTenant_24 (by rfl) ?_
    refine xr_new (ci := 5) (T := TX11) (N := 4) (n9 := 4) (fs := [.int (iI 0), .int (iI 0), .int (iI 0), .null]) (rc' := 1) (rs' := 10) rfl in_X11 tyX11 tyX11_ok q836 q837 q115 (by intro j hj; rcases (show j = 0 ∨ j = 1 ∨ j = 2 ∨ j = 3 by omega) with rfl | rfl | rfl | rfl <;> rfl) ⟨Nat.le_of_ble_eq_true rfl, Nat.le_of_ble_eq_true rfl⟩ dX2_addTenant_27 (fun a27 ga27 hob27 => ?_)
    have hmn27 := Mo.new ga27 ga27 (.inl (.inr (5, [.int (iI 0), .int (iI 0), .int (iI 0), .null])))
    have hK1 := hK.ext hmn27
    refine xr_dup dX2_addTenant_30 (by first | rfl | exact cat_rf _) ?_
    refine xr_aload_n dX2_addTenant_31 rfl (by first | rfl | exact isRef_rf _) ?_
    refine xr_getfield (ci := 0) (T := TX2) (N := 10) (i := 2) hK1.hq rfl (by decide) in_X2 q192 (.inl rfl) dX2_addTenant_32 (by rfl) ?_
    refine xr_callV (n9 := 0) (rc' := 1) (rs' := 10) (k_Reg_size hG hK1.r2 hK1.l2) hK1.r2 rfl q472 q294 q295 q88 q296 (by decide +kernel) rfl ⟨by decide, Nat.le_of_ble_eq_true rfl⟩ ⟨Nat.le_of_ble_eq_true rfl, Nat.le_of_ble_eq_true rfl⟩ (Nat.le_of_ble_eq_true rfl) dX2_addTenant_35 rfl (xk_r ?_) (fun _ _ _ h => h.elim)
    refine xr_iload_n dX2_addTenant_38 rfl ?_
    refine xr_callI (n9 := 2) (rc' := 1) (rs' := 10) (k_Tenant_init hG hob27) q838 q839 q115 q840 rfl (by decide +kernel) rfl ⟨by decide, Nat.le_of_ble_eq_true rfl⟩ ⟨Nat.le_of_ble_eq_true rfl, Nat.le_of_ble_eq_true rfl⟩ (Nat.le_of_ble_eq_true rfl) dX2_addTenant_39 rfl (fun r w39 hw => ?_) (fun _ _ _ h => h.elim)
    obtain ⟨rfl, ho8, hf39⟩ := hw
    have hK2 := hK1.fr hf39 (fun b hb q9 => by have := hK.hi hb; omega) (fun b q9 => by have := hK.n0lt; omega)
    refine xr_callV (n9 := 1) (rc' := 0) (rs' := 0) (k_Reg_add hG hL hK2.r2 hK2.l2 (by omega) ho8 rfl q2777 (by decide)) hK2.r2 rfl q763 q764 q765 q88 q766 (by decide +kernel) rfl ⟨by decide, Nat.le_of_ble_eq_true rfl⟩ ⟨Nat.le_of_ble_eq_true rfl, Nat.le_of_ble_eq_true rfl⟩ (Nat.le_of_ble_eq_true rfl) dX2_addTenant_42 rfl (fun r w42 hw => ?_) (fun _ _ _ h => h.elim)
    obtain ⟨rfl, arr2, hA9, hf9, har9⟩ := hw
    have hlt := hK.hi (b := L 5) (Or.inr (Or.inl ⟨5, by decide, by decide, rfl⟩))
    have hlt2 := hK.l2.lt
    have ho9 := ho8.fr hf9 (fun q9 => by rcases q9 with q9 | ⟨q9, -⟩ <;> omega)
    have hK4 := hK2.addT' (P' := updI (updI (updI (updI P (86 + 2 * P 2) v) (87 + 2 * P 2) 0) (102 + P 2) 0) 2 (P 2 + 1)) (L' := putL L (50 + P 2) a27 8 arr2) hf9 hA9 (hK.up _ ga27) har9 hn10 ho9 (by simp only [tF, updI, ↓reduceIte]; repeat first | rfl | rw [if_pos (by omega)] | rw [if_neg (by omega)]) (by intro k h1 h2; simp only [updI]; repeat rw [if_neg (by omega)]) (by simp only [updI, ↓reduceIte]; repeat first | rfl | rw [if_pos (by omega)] | rw [if_neg (by omega)]) (by simp only [updI, ↓reduceIte]; repeat first | rfl | rw [if_pos (by omega)] | rw [if_neg (by omega)]) putL_n putL_i (putL_j (by omega))
    have e6 : (updI (updI (updI (updI P (86 + 2 * P 2) v) (87 + 2 * P 2) 0) (102 + P 2) 0) 2 (P 2 + 1)) 6 = P 6 := (by simp only [updI, ↓reduceIte]; repeat first | rfl | rw [if_pos (by omega)] | rw [if_neg (by omega)])
    have hq4 : Ob w42 q 0 [.ref (putL L (50 + P 2) a27 8 arr2 0), .ref (putL L (50 + P 2) a27 8 arr2 1), .ref (putL L (50 + P 2) a27 8 arr2 2), .int (iI ((updI (updI (updI (updI P (86 + 2 * P 2) v) (87 + 2 * P 2) 0) (102 + P 2) 0) 2 (P 2 + 1)) 3)), .int (iI ((updI (updI (updI (updI P (86 + 2 * P 2) v) (87 + 2 * P 2) 0) (102 + P 2) 0) 2 (P 2 + 1)) 4)), .int (iI ((updI (updI (updI (updI P (86 + 2 * P 2) v) (87 + 2 * P 2) 0) (102 + P 2) 0) 2 (P 2 + 1)) 5)), .int (iI (P 6)), .int (iI ((updI (updI (updI (updI P (86 + 2 * P 2) v) (87 + 2 * P 2) 0) (102 + P 2) 0) 2 (P 2 + 1)) 7)), .int (iI ((updI (updI (updI (updI P (86 + 2 * P 2) v) (87 + 2 * P 2) 0) (102 + P 2) 0) 2 (P 2 + 1)) 8)), .int (iI ((updI (updI (updI (updI P (86 + 2 * P 2) v) (87 + 2 * P 2) 0) (102 + P 2) 0) 2 (P 2 + 1)) 9))] := by rw [← e6]; exact hK4.hq
    refine xr_aload_n dX2_addTenant_45 rfl (by first | rfl | exact isRef_rf _) ?_
    refine xr_dup dX2_addTenant_46 (by first | rfl | exact cat_rf _) ?_
    refine xr_getfield (ci := 0) (T := TX2) (N := 10) (i := 6) hq4 rfl (by decide) in_X2 q202 (.inl rfl) dX2_addTenant_47 (by rfl) ?_
    refine xr_iload_n dX2_addTenant_50 rfl ?_
    refine xr_iadd dX2_addTenant_51 ?_
    refine xr_putfield (ci := 0) (T := TX2) (N := 10) (i := 6) (fs' := [_, _, _, _, _, _, _, _, _, _]) hq4 rfl (by decide) in_X2 tyX2 tyX2_ok nmX2 q202 (.inl rfl) rfl dX2_addTenant_52 (by first | rfl | exact nar_bI _ | exact nar_rf _) (by first | rfl | exact fit_bI _ | exact fit_rf _ _) (by simp) (by rfl) (.inl rfl) (fun hob52 => ?_)
    have hK5 := hK4.setQ' (P' := oTenant P v) (fs := [.ref (putL L (50 + P 2) a27 8 arr2 0), .ref (putL L (50 + P 2) a27 8 arr2 1), .ref (putL L (50 + P 2) a27 8 arr2 2), .int (iI ((updI (updI (updI (updI P (86 + 2 * P 2) v) (87 + 2 * P 2) 0) (102 + P 2) 0) 2 (P 2 + 1)) 3)), .int (iI ((updI (updI (updI (updI P (86 + 2 * P 2) v) (87 + 2 * P 2) 0) (102 + P 2) 0) 2 (P 2 + 1)) 4)), .int (iI ((updI (updI (updI (updI P (86 + 2 * P 2) v) (87 + 2 * P 2) 0) (102 + P 2) 0) 2 (P 2 + 1)) 5)), .int (iI (P 6 + v)), .int (iI ((updI (updI (updI (updI P (86 + 2 * P 2) v) (87 + 2 * P 2) 0) (102 + P 2) 0) 2 (P 2 + 1)) 7)), .int (iI ((updI (updI (updI (updI P (86 + 2 * P 2) v) (87 + 2 * P 2) 0) (102 + P 2) 0) 2 (P 2 + 1)) 8)), .int (iI ((updI (updI (updI (updI P (86 + 2 * P 2) v) (87 + 2 * P 2) 0) (102 + P 2) 0) 2 (P 2 + 1)) 9))]) (by simp only [qF, oTenant, updI, ↓reduceIte]; repeat first | rfl | rw [if_pos (by omega)] | rw [if_neg (by omega)]) (by intro k hk; simp only [oTenant]; rw [updI, if_neg (by omega)])
    have e2 : oTenant P v 2 = P 2 + 1 := (by simp only [oTenant, updI, ↓reduceIte]; repeat first | rfl | rw [if_pos (by omega)] | rw [if_neg (by omega)])
    refine xr_aload_n dX2_addTenant_55 rfl (by first | rfl | exact isRef_rf _) ?_
    refine xr_getfield (ci := 0) (T := TX2) (N := 10) (i := 2) hK5.hq rfl (by decide) in_X2 q192 (.inl rfl) dX2_addTenant_56 (by rfl) ?_
    refine xr_callV (n9 := 0) (rc' := 0) (rs' := 0) (k_Reg_size hG hK5.r2 hK5.l2) hK5.r2 rfl q472 q294 q295 q88 q296 (by decide +kernel) rfl ⟨by decide, Nat.le_of_ble_eq_true rfl⟩ ⟨Nat.le_of_ble_eq_true rfl, Nat.le_of_ble_eq_true rfl⟩ (Nat.le_of_ble_eq_true rfl) dX2_addTenant_59 rfl (xk_r ?_) (fun _ _ _ h => h.elim)
    refine xr_iconst dX2_addTenant_62 ?_
    refine xr_isub dX2_addTenant_63 ?_
    refine xr_ireturn rfl rfl dX2_addTenant_64 ?_
    rw [hpo]
    refine ⟨putL L (50 + P 2) a27 8 arr2, by rw [e2, show P 2 + 1 - 1 = P 2 by omega], ?_, hK5, ?_⟩
    · unfold rjTenant; rw [if_neg (by omega)]
    · exact (((Fr.new (S := n0) ga27 _).tr hf39 (fun b _ (q9 : b = a27) => by rw [q9]; exact hK.up _ ga27)).tr hf9 (fun b _ q9 => by
        rcases q9 with q9 | ⟨q9, q8⟩
        · rw [q9]; exact hK.ar (by decide) (by decide)
        · rw [q9]; exact hK.aa (by decide) (by decide) (by omega))).tq (Fr.put (S := n0) hg8.1 _)
  · skip
    refine xr_iconst dX2_addTenant_12 ?_
    refine xr_goto (tgt := 17) dX2_addTenant_13 (by decide) ?_
    refine xr_iconst dX2_addTenant_17 ?_
    refine xr_bipush dX2_addTenant_18 (by decide) ?_
    refine xr_callSN (n9 := 3) (rc' := 2) (rs' := 14) (k_rejectIf (b := true) hG) q1033 q1034 q86 q1035 (by decide +kernel) rfl ⟨by decide, Nat.le_of_ble_eq_true rfl⟩ ⟨Nat.le_of_ble_eq_true rfl, Nat.le_of_ble_eq_true rfl⟩ (Nat.le_of_ble_eq_true rfl) dX2_addTenant_20 rfl (xk_req2 (fun h9 => nomatch h9)) ?_
    rintro E q9 w9 ⟨-, rfl, ho9, hm9, hq9⟩
    have e9 : rjTenant P = (3, 8) := by unfold rjTenant; rw [if_pos c9]
    exact xt_out (fun x hx => (htab x hx).elim) (by rw [hxp]; exact ⟨rfl, ⟨by rw [e9]; decide, by rw [e9]; exact ho9⟩, hm9, hq9⟩)
