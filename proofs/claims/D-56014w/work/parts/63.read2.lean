/-! 63.read2.lean.txt (written by tools/walker.py)  -/
set_option maxRecDepth 100000
theorem k_X_noiseAt {g : GG} {w : WW} {x : Nat} {n0 : Nat → Prop} {q : Nat} {L : Int → Nat} {P : Int → Int} {N : Int} {v1 v2 v3 v4 v5 v6 : Value} {r c : Int} (hG : Base g) (hx : Ob w x 13 [.ref q, v1, v2, v3, v4, v5, v6]) (hK : PK g w n0 q L P) (hB : PB P N) (hr : (-2147483648 ≤ r ∧ r < 2147483648) ∧ (-2147483648 ≤ c ∧ c < 2147483648)) : Ct g yX1_noiseAt (.code yX1_noiseAt cX1_noiseAt 3 (some .int)) 12 3102 2 8 w [.ref x, .int (iI r), .int (iI c)] (fun r_ w1 => ((0 ≤ r ∧ r ≤ 5) ∧ (0 ≤ c ∧ c ≤ 5)) ∧ r_ = some (.int (iI (noise P r c))) ∧ Mo w.2 w w1) (fun E a9 w1 => (E = "java/lang/IndexOutOfBoundsException" ∧ ¬ ((0 ≤ r ∧ r ≤ 5) ∧ (0 ≤ c ∧ c ≤ 5)) ∧ Mo w.2 w w1)) := by
  refine Ct.of (lv := [some _, some _, some _]) hG (by decide +kernel) (Nat.le_of_ble_eq_true rfl) rfl ?_
  intro z hg hpo hxp hnm htab
  subst hg
  have hmo : Mo w.2 w w := Mo.rf
  refine xr_iload_n dX1_noiseAt_0 rfl ?_
  refine xr_iload_n dX1_noiseAt_1 rfl ?_
  refine xr_callS (n9 := 2) (rc' := 2) (rs' := 8) (k_isCell hG hr) q935 q936 q86 q937 (by decide +kernel) rfl ⟨by decide, Nat.le_of_ble_eq_true rfl⟩ ⟨Nat.le_of_ble_eq_true rfl, Nat.le_of_ble_eq_true rfl⟩ (Nat.le_of_ble_eq_true rfl) dX1_noiseAt_2 rfl (xk_r ?_) (fun _ _ _ h => h.elim)
  refine xr_callS (n9 := 1) (rc' := 1) (rs' := 2) (k_requireIndex (b := decide ((0 ≤ r ∧ r ≤ 5) ∧ (0 ≤ c ∧ c ≤ 5))) hG) q939 q940 q86 q941 (by decide +kernel) rfl ⟨by decide, Nat.le_of_ble_eq_true rfl⟩ ⟨Nat.le_of_ble_eq_true rfl, Nat.le_of_ble_eq_true rfl⟩ (Nat.le_of_ble_eq_true rfl) dX1_noiseAt_5 rfl (xk_req ?_) (xt_req ?_)
  rotate_left
  · skip
    intro q9 hq9
    have hq9 := of_decide_eq_false hq9
    exact xt_out (fun x hx => (htab x hx).elim) (by rw [hxp]; exact ⟨rfl, hq9, Mo.rf⟩)
  intro hb9
  have hc1 := of_decide_eq_true hb9
  refine xr_aload_n dX1_noiseAt_8 rfl (by first | rfl | exact isRef_rf _) ?_
  refine xr_getfield (ci := 13) (T := TX1) (N := 7) (i := 0) hx rfl (by decide) in_X1 q267 (.inl rfl) dX1_noiseAt_9 (by rfl) ?_
  refine xr_iload_n dX1_noiseAt_12 rfl ?_
  refine xr_iload_n dX1_noiseAt_13 rfl ?_
  refine xr_callV (n9 := 2) (rc' := 0) (rs' := 0) (k_P_noiseAt hG hK hB ⟨⟨by omega, by omega⟩, by omega, by omega⟩) hK.hq rfl q1311 q341 q342 q87 q343 (by decide +kernel) rfl ⟨by decide, Nat.le_of_ble_eq_true rfl⟩ ⟨Nat.le_of_ble_eq_true rfl, Nat.le_of_ble_eq_true rfl⟩ (Nat.le_of_ble_eq_true rfl) dX1_noiseAt_14 rfl (xk_e fun w14 hm14 => ?_) (fun _ _ _ h => h.elim)
  refine xr_ireturn rfl rfl dX1_noiseAt_17 ?_
  rw [hpo]
  exact ⟨hc1, rfl, hm14⟩
theorem k_X_noiseBySpreading {g : GG} {w : WW} {x : Nat} {n0 : Nat → Prop} {q : Nat} {L : Int → Nat} {P : Int → Int} {N : Int} {v1 v2 v3 v4 v5 v6 : Value} {r c : Int} (hG : Base g) (hx : Ob w x 13 [.ref q, v1, v2, v3, v4, v5, v6]) (hK : PK g w n0 q L P) (hB : PB P N) (hKI : KI g) (hr : (-2147483648 ≤ r ∧ r < 2147483648) ∧ (-2147483648 ≤ c ∧ c < 2147483648)) : Ct g yX1_noiseBySpreading (.code yX1_noiseBySpreading cX1_noiseBySpreading 3 (some .int)) 7 160 5 98 w [.ref x, .int (iI r), .int (iI c)] (fun r_ w1 => ((0 ≤ r ∧ r ≤ 5) ∧ (0 ≤ c ∧ c ≤ 5)) ∧ r_ = some (.int (iI (noise P r c))) ∧ Mo w.2 w w1) (fun E a9 w1 => (E = "java/lang/IndexOutOfBoundsException" ∧ ¬ ((0 ≤ r ∧ r ≤ 5) ∧ (0 ≤ c ∧ c ≤ 5)) ∧ Mo w.2 w w1)) := by
  refine Ct.of (lv := [some _, some _, some _]) hG (by decide +kernel) (Nat.le_of_ble_eq_true rfl) rfl ?_
  intro z hg hpo hxp hnm htab
  subst hg
  have hmo : Mo w.2 w w := Mo.rf
  refine xr_iload_n dX1_noiseBySpreading_0 rfl ?_
  refine xr_iload_n dX1_noiseBySpreading_1 rfl ?_
  refine xr_callS (n9 := 2) (rc' := 5) (rs' := 98) (k_isCell hG hr) q935 q936 q86 q937 (by decide +kernel) rfl ⟨by decide, Nat.le_of_ble_eq_true rfl⟩ ⟨Nat.le_of_ble_eq_true rfl, Nat.le_of_ble_eq_true rfl⟩ (Nat.le_of_ble_eq_true rfl) dX1_noiseBySpreading_2 rfl (xk_r ?_) (fun _ _ _ h => h.elim)
  refine xr_callS (n9 := 1) (rc' := 4) (rs' := 92) (k_requireIndex (b := decide ((0 ≤ r ∧ r ≤ 5) ∧ (0 ≤ c ∧ c ≤ 5))) hG) q939 q940 q86 q941 (by decide +kernel) rfl ⟨by decide, Nat.le_of_ble_eq_true rfl⟩ ⟨Nat.le_of_ble_eq_true rfl, Nat.le_of_ble_eq_true rfl⟩ (Nat.le_of_ble_eq_true rfl) dX1_noiseBySpreading_5 rfl (xk_req ?_) (xt_req ?_)
  rotate_left
  · skip
    intro q9 hq9
    have hq9 := of_decide_eq_false hq9
    exact xt_out (fun x hx => (htab x hx).elim) (by rw [hxp]; exact ⟨rfl, hq9, Mo.rf⟩)
  intro hb9
  have hc1 := of_decide_eq_true hb9
  refine xr_aload_n dX1_noiseBySpreading_8 rfl (by first | rfl | exact isRef_rf _) ?_
  refine xr_getfield (ci := 13) (T := TX1) (N := 7) (i := 0) hx rfl (by decide) in_X1 q267 (.inl rfl) dX1_noiseBySpreading_9 (by rfl) ?_
  refine xr_iload_n dX1_noiseBySpreading_12 rfl ?_
  refine xr_iload_n dX1_noiseBySpreading_13 rfl ?_
  refine xr_callV (n9 := 2) (rc' := 0) (rs' := 0) (k_P_noiseBySpreading hG hKI hK hB hc1) hK.hq rfl q1319 q1320 q1321 q87 q1322 (by decide +kernel) rfl ⟨by decide, Nat.le_of_ble_eq_true rfl⟩ ⟨Nat.le_of_ble_eq_true rfl, Nat.le_of_ble_eq_true rfl⟩ (Nat.le_of_ble_eq_true rfl) dX1_noiseBySpreading_14 rfl (xk_e fun w14 hm14 => ?_) (fun _ _ _ h => h.elim)
  refine xr_ireturn rfl rfl dX1_noiseBySpreading_17 ?_
  rw [hpo]
  exact ⟨hc1, rfl, hm14⟩
theorem k_X_incomeWithin {g : GG} {w : WW} {x : Nat} {n0 : Nat → Prop} {q : Nat} {L : Int → Nat} {P : Int → Int} {N : Int} {v1 v2 v3 v4 v5 v6 : Value} {m : Int} (hG : Base g) (hx : Ob w x 13 [.ref q, v1, v2, v3, v4, v5, v6]) (hK : PK g w n0 q L P) (hB : PB P N) (hL : KL g) (hC : PCon P) (hN : N + 13000 ≤ 10000000) (hm : (-2147483648 ≤ m ∧ m < 2147483648)) : Ct g yX1_incomeWithin (.code yX1_incomeWithin cX1_incomeWithin 2 (some .int)) 17 3215 344 988 w [.ref x, .int (iI m)] (fun r_ w1 => (1 ≤ m ∧ m ≤ 12) ∧ r_ = some (.int (iI ((oMonths m.toNat P).1 5 - P 5))) ∧ Mo w.2 w w1) (fun E a9 w1 => (E = "java/lang/IllegalArgumentException" ∧ ¬ (1 ≤ m ∧ m ≤ 12) ∧ Mo w.2 w w1)) := by
  refine Ct.of (lv := [some _, some _]) hG (by decide +kernel) (Nat.le_of_ble_eq_true rfl) rfl ?_
  intro z hg hpo hxp hnm htab
  subst hg
  have hmo : Mo w.2 w w := Mo.rf
  refine xr_iload_n dX1_incomeWithin_0 rfl ?_
  refine xr_callS (n9 := 1) (rc' := 344) (rs' := 988) (k_isTerm hG hm) q1412 q1413 q86 q1414 (by decide +kernel) rfl ⟨by decide, Nat.le_of_ble_eq_true rfl⟩ ⟨Nat.le_of_ble_eq_true rfl, Nat.le_of_ble_eq_true rfl⟩ (Nat.le_of_ble_eq_true rfl) dX1_incomeWithin_1 rfl (xk_r ?_) (fun _ _ _ h => h.elim)
  refine xr_callS (n9 := 1) (rc' := 343) (rs' := 982) (k_requireArgument (b := decide (1 ≤ m ∧ m ≤ 12)) hG) q960 q961 q86 q962 (by decide +kernel) rfl ⟨by decide, Nat.le_of_ble_eq_true rfl⟩ ⟨Nat.le_of_ble_eq_true rfl, Nat.le_of_ble_eq_true rfl⟩ (Nat.le_of_ble_eq_true rfl) dX1_incomeWithin_4 rfl (xk_req ?_) (xt_req ?_)
  rotate_left
  · skip
    intro q9 hq9
    have hq9 := of_decide_eq_false hq9
    exact xt_out (fun x hx => (htab x hx).elim) (by rw [hxp]; exact ⟨rfl, hq9, Mo.rf⟩)
  intro hb9
  have hc1 := of_decide_eq_true hb9
  refine xr_aload_n dX1_incomeWithin_7 rfl (by first | rfl | exact isRef_rf _) ?_
  refine xr_getfield (ci := 13) (T := TX1) (N := 7) (i := 0) hx rfl (by decide) in_X1 q267 (.inl rfl) dX1_incomeWithin_8 (by rfl) ?_
  refine xr_iload_n dX1_incomeWithin_11 rfl ?_
  refine xr_callV (n9 := 1) (rc' := 0) (rs' := 0) (k_P_incomeWithin hG hL hK hB hC hc1 hN) hK.hq rfl q1501 q723 q724 q87 q725 (by decide +kernel) rfl ⟨by decide, Nat.le_of_ble_eq_true rfl⟩ ⟨Nat.le_of_ble_eq_true rfl, Nat.le_of_ble_eq_true rfl⟩ (Nat.le_of_ble_eq_true rfl) dX1_incomeWithin_12 rfl (fun r w12 hw => ?_) (fun _ _ _ h => h.elim)
  obtain ⟨rfl, hm12⟩ := hw
  show XJ _ _ _ _ _ _ _ _ _ _ _ _ [.int (iI ((oMonths m.toNat P).1 5 - P 5))]
  refine xr_ireturn rfl rfl dX1_incomeWithin_15 ?_
  rw [hpo]
  exact ⟨hc1, rfl, hm12⟩
theorem k_X_incomeByLeases {g : GG} {w : WW} {x : Nat} {n0 : Nat → Prop} {q : Nat} {L : Int → Nat} {P : Int → Int} {N : Int} {v1 v2 v3 v4 v5 v6 : Value} {m : Int} (hG : Base g) (hx : Ob w x 13 [.ref q, v1, v2, v3, v4, v5, v6]) (hK : PK g w n0 q L P) (hB : PB P N) (hm : (-2147483648 ≤ m ∧ m < 2147483648)) : Ct g yX1_incomeByLeases (.code yX1_incomeByLeases cX1_incomeByLeases 2 (some .int)) 22 3344 35 74 w [.ref x, .int (iI m)] (fun r_ w1 => (1 ≤ m ∧ m ≤ 12) ∧ r_ = some (.int (iI (sumR (fun b => income1 P b m) 0 (P 0)))) ∧ Mo w.2 w w1) (fun E a9 w1 => (E = "java/lang/IllegalArgumentException" ∧ ¬ (1 ≤ m ∧ m ≤ 12) ∧ Mo w.2 w w1)) := by
  refine Ct.of (lv := [some _, some _]) hG (by decide +kernel) (Nat.le_of_ble_eq_true rfl) rfl ?_
  intro z hg hpo hxp hnm htab
  subst hg
  have hmo : Mo w.2 w w := Mo.rf
  refine xr_iload_n dX1_incomeByLeases_0 rfl ?_
  refine xr_callS (n9 := 1) (rc' := 35) (rs' := 74) (k_isTerm hG hm) q1412 q1413 q86 q1414 (by decide +kernel) rfl ⟨by decide, Nat.le_of_ble_eq_true rfl⟩ ⟨Nat.le_of_ble_eq_true rfl, Nat.le_of_ble_eq_true rfl⟩ (Nat.le_of_ble_eq_true rfl) dX1_incomeByLeases_1 rfl (xk_r ?_) (fun _ _ _ h => h.elim)
  refine xr_callS (n9 := 1) (rc' := 34) (rs' := 68) (k_requireArgument (b := decide (1 ≤ m ∧ m ≤ 12)) hG) q960 q961 q86 q962 (by decide +kernel) rfl ⟨by decide, Nat.le_of_ble_eq_true rfl⟩ ⟨Nat.le_of_ble_eq_true rfl, Nat.le_of_ble_eq_true rfl⟩ (Nat.le_of_ble_eq_true rfl) dX1_incomeByLeases_4 rfl (xk_req ?_) (xt_req ?_)
  rotate_left
  · skip
    intro q9 hq9
    have hq9 := of_decide_eq_false hq9
    exact xt_out (fun x hx => (htab x hx).elim) (by rw [hxp]; exact ⟨rfl, hq9, Mo.rf⟩)
  intro hb9
  have hc1 := of_decide_eq_true hb9
  refine xr_aload_n dX1_incomeByLeases_7 rfl (by first | rfl | exact isRef_rf _) ?_
  refine xr_getfield (ci := 13) (T := TX1) (N := 7) (i := 0) hx rfl (by decide) in_X1 q267 (.inl rfl) dX1_incomeByLeases_8 (by rfl) ?_
  refine xr_iload_n dX1_incomeByLeases_11 rfl ?_
  refine xr_callV (n9 := 1) (rc' := 0) (rs' := 0) (k_P_incomeByLeases hG hK hB hc1) hK.hq rfl q1509 q882 q883 q87 q884 (by decide +kernel) rfl ⟨by decide, Nat.le_of_ble_eq_true rfl⟩ ⟨Nat.le_of_ble_eq_true rfl, Nat.le_of_ble_eq_true rfl⟩ (Nat.le_of_ble_eq_true rfl) dX1_incomeByLeases_12 rfl (xk_e fun w12 hm12 => ?_) (fun _ _ _ h => h.elim)
  refine xr_ireturn rfl rfl dX1_incomeByLeases_15 ?_
  rw [hpo]
  exact ⟨hc1, rfl, hm12⟩
theorem k_requireFound {g : GG} {w : WW} {v : Int} (hG : Base g) (hv : (-2147483648 ≤ v ∧ v < 2147483648)) : Ct g yX1_requireFound (.code yX1_requireFound cX1_requireFound 1 (some .int)) 7 101 1 6 w [.int (iI v)] (fun r_ w1 => v ≠ -1 ∧ r_ = some (.int (iI v)) ∧ w1 = w) (fun E a9 w1 => E = "java/util/NoSuchElementException" ∧ v = -1 ∧ w1 = w) := by
  refine Ct.of (lv := [some _]) hG (by decide +kernel) (Nat.le_of_ble_eq_true rfl) rfl ?_
  intro z hg hpo hxp hnm htab
  subst hg
  refine xr_iload_n dX1_requireFound_0 rfl ?_
  refine xr_iconst dX1_requireFound_1 ?_
  refine xr_icmp_eq (tgt := 9) dX1_requireFound_2 (by decide) (by omega) (fun c2 => ?_) (fun c2 => ?_)
  · skip
    refine xr_iconst dX1_requireFound_9 ?_
    refine xr_callS (n9 := 1) (rc' := 0) (rs' := 0) (k_requireElement (b := false) hG) q1378 q1379 q86 q1380 (by decide +kernel) rfl ⟨by decide, Nat.le_of_ble_eq_true rfl⟩ ⟨Nat.le_of_ble_eq_true rfl, Nat.le_of_ble_eq_true rfl⟩ (Nat.le_of_ble_eq_true rfl) dX1_requireFound_10 rfl (xk_req (fun h9 => nomatch h9)) (xt_req ?_)
    intro q9 _
    exact xt_out (fun x hx => (htab x hx).elim) (by rw [hxp]; exact ⟨rfl, by omega, rfl⟩)
  · skip
    refine xr_iconst dX1_requireFound_5 ?_
    refine xr_goto (tgt := 10) dX1_requireFound_6 (by decide) ?_
    refine xr_callS (n9 := 1) (rc' := 0) (rs' := 0) (k_requireElement (b := true) hG) q1378 q1379 q86 q1380 (by decide +kernel) rfl ⟨by decide, Nat.le_of_ble_eq_true rfl⟩ ⟨Nat.le_of_ble_eq_true rfl, Nat.le_of_ble_eq_true rfl⟩ (Nat.le_of_ble_eq_true rfl) dX1_requireFound_10 rfl (xk_req (fun _ => ?_)) (xt_req (fun _ h9 => nomatch h9))
    refine xr_iload_n dX1_requireFound_13 rfl ?_
    refine xr_ireturn rfl rfl dX1_requireFound_14 ?_
    rw [hpo]
    exact ⟨by omega, rfl, rfl⟩
theorem k_X_cheapestFor {g : GG} {w : WW} {x : Nat} {n0 : Nat → Prop} {q : Nat} {L : Int → Nat} {P : Int → Int} {N : Int} {v1 v2 v3 v4 v5 v6 : Value} {t : Int} (hG : Base g) (hx : Ob w x 13 [.ref q, v1, v2, v3, v4, v5, v6]) (hK : PK g w n0 q L P) (hB : PB P N) (ht : (-2147483648 ≤ t ∧ t < 2147483648)) (hcb : -1 ≤ cheap P t ∧ cheap P t ≤ 10) : Ct g yX1_cheapestFor (.code yX1_cheapestFor cX1_cheapestFor 2 (some .int)) 16 3191 57 199 w [.ref x, .int (iI t)] (fun r_ w1 => (0 ≤ t ∧ t < P 2) ∧ (cheap P t ≠ -1) ∧ r_ = some (.int (iI (cheap P t))) ∧ Mo w.2 w w1) (fun E a9 w1 => (E = "java/lang/IndexOutOfBoundsException" ∧ ¬ (0 ≤ t ∧ t < P 2) ∧ Mo w.2 w w1) ∨ (E = "java/util/NoSuchElementException" ∧ (0 ≤ t ∧ t < P 2) ∧ ¬ (cheap P t ≠ -1) ∧ Mo w.2 w w1)) := by
  refine Ct.of (lv := [some _, some _]) hG (by decide +kernel) (Nat.le_of_ble_eq_true rfl) rfl ?_
  intro z hg hpo hxp hnm htab
  subst hg
  have hmo : Mo w.2 w w := Mo.rf
  refine xr_aload_n dX1_cheapestFor_0 rfl (by first | rfl | exact isRef_rf _) ?_
  refine xr_getfield (ci := 13) (T := TX1) (N := 7) (i := 0) hx rfl (by decide) in_X1 q267 (.inl rfl) dX1_cheapestFor_1 (by rfl) ?_
  refine xr_aload_n dX1_cheapestFor_4 rfl (by first | rfl | exact isRef_rf _) ?_
  refine xr_iload_n dX1_cheapestFor_5 rfl ?_
  refine xr_callV (n9 := 1) (rc' := 56) (rs' := 193) (k_X_requireTenant hG hx hK hB ht) hx rfl q1358 q1360 qs21 q86 q1361 (by decide +kernel) rfl ⟨by decide, Nat.le_of_ble_eq_true rfl⟩ ⟨Nat.le_of_ble_eq_true rfl, Nat.le_of_ble_eq_true rfl⟩ (Nat.le_of_ble_eq_true rfl) dX1_cheapestFor_6 rfl (fun r w6 hw => ?_) ?_
  rotate_left
  · skip
    rintro E q9 w9 ⟨rfl, hn9, rfl⟩
    exact xt_out (fun x hx => (htab x hx).elim) (by rw [hxp]; exact Or.inl ⟨rfl, hn9, Mo.rf⟩)
  obtain ⟨ht1, rfl, rfl⟩ := hw
  show XJ _ _ _ _ _ _ _ _ _ _ _ _ [.ref (L (50 + t)), _]
  refine xr_callV (n9 := 1) (rc' := 1) (rs' := 6) (k_P_cheapestFor hG hK hB ht1) hK.hq rfl q1398 q1399 q1400 q87 q1401 (by decide +kernel) rfl ⟨by decide, Nat.le_of_ble_eq_true rfl⟩ ⟨Nat.le_of_ble_eq_true rfl, Nat.le_of_ble_eq_true rfl⟩ (Nat.le_of_ble_eq_true rfl) dX1_cheapestFor_9 rfl (xk_e fun w9 hm9 => ?_) (fun _ _ _ h => h.elim)
  refine xr_callS (n9 := 1) (rc' := 0) (rs' := 0) (k_requireFound (v := cheap P t) hG (by omega)) q1402 q1403 q86 q1404 (by decide +kernel) rfl ⟨by decide, Nat.le_of_ble_eq_true rfl⟩ ⟨Nat.le_of_ble_eq_true rfl, Nat.le_of_ble_eq_true rfl⟩ (Nat.le_of_ble_eq_true rfl) dX1_cheapestFor_12 rfl (fun r w12 hw => ?_) ?_
  rotate_left
  · skip
    rintro E q9 w9 ⟨rfl, hn9, rfl⟩
    exact xt_out (fun x hx => (htab x hx).elim) (by rw [hxp]; exact Or.inr ⟨rfl, ht1, fun h => h hn9, hm9⟩)
  obtain ⟨hne, rfl, rfl⟩ := hw
  show XJ _ _ _ _ _ _ _ _ _ _ _ _ [.int (iI (cheap P t))]
  refine xr_ireturn rfl rfl dX1_cheapestFor_15 ?_
  rw [hpo]
  exact ⟨ht1, hne, rfl, hm9⟩
theorem k_X_defaultMonth {g : GG} {w : WW} {x : Nat} {n0 : Nat → Prop} {q : Nat} {L : Int → Nat} {P : Int → Int} {N : Int} {v1 v2 v3 v4 v5 v6 : Value} {b : Int} (hG : Base g) (hx : Ob w x 13 [.ref q, v1, v2, v3, v4, v5, v6]) (hK : PK g w n0 q L P) (hB : PB P N) (hb : (-2147483648 ≤ b ∧ b < 2147483648)) (hdm : -1 ≤ defMonth P b ∧ defMonth P b ≤ 1000) : Ct g yX1_defaultMonth (.code yX1_defaultMonth cX1_defaultMonth 2 (some .int)) 16 3187 5 18 w [.ref x, .int (iI b)] (fun r_ w1 => (0 ≤ b ∧ b < P 0) ∧ (defMonth P b ≠ -1) ∧ r_ = some (.int (iI (defMonth P b))) ∧ Mo w.2 w w1) (fun E a9 w1 => (E = "java/lang/IndexOutOfBoundsException" ∧ ¬ (0 ≤ b ∧ b < P 0) ∧ Mo w.2 w w1) ∨ (E = "java/util/NoSuchElementException" ∧ (0 ≤ b ∧ b < P 0) ∧ ¬ (defMonth P b ≠ -1) ∧ Mo w.2 w w1)) := by
  refine Ct.of (lv := [some _, some _]) hG (by decide +kernel) (Nat.le_of_ble_eq_true rfl) rfl ?_
  intro z hg hpo hxp hnm htab
  subst hg
  have hmo : Mo w.2 w w := Mo.rf
  refine xr_aload_n dX1_defaultMonth_0 rfl (by first | rfl | exact isRef_rf _) ?_
  refine xr_getfield (ci := 13) (T := TX1) (N := 7) (i := 0) hx rfl (by decide) in_X1 q267 (.inl rfl) dX1_defaultMonth_1 (by rfl) ?_
  refine xr_aload_n dX1_defaultMonth_4 rfl (by first | rfl | exact isRef_rf _) ?_
  refine xr_iload_n dX1_defaultMonth_5 rfl ?_
  refine xr_callV (n9 := 1) (rc' := 4) (rs' := 12) (k_X_requireBench hG hx hK hB hb) hx rfl q1259 q1261 qs19 q86 q1262 (by decide +kernel) rfl ⟨by decide, Nat.le_of_ble_eq_true rfl⟩ ⟨Nat.le_of_ble_eq_true rfl, Nat.le_of_ble_eq_true rfl⟩ (Nat.le_of_ble_eq_true rfl) dX1_defaultMonth_6 rfl (fun r w6 hw => ?_) ?_
  rotate_left
  · skip
    rintro E q9 w9 ⟨rfl, hn9, rfl⟩
    exact xt_out (fun x hx => (htab x hx).elim) (by rw [hxp]; exact Or.inl ⟨rfl, hn9, Mo.rf⟩)
  obtain ⟨hb1, rfl, rfl⟩ := hw
  show XJ _ _ _ _ _ _ _ _ _ _ _ _ [.ref (L (10 + b)), _]
  refine xr_callV (n9 := 1) (rc' := 1) (rs' := 6) (k_P_defaultMonth hG hK hB hb1) hK.hq rfl q1483 q1484 q1485 q87 q1486 (by decide +kernel) rfl ⟨by decide, Nat.le_of_ble_eq_true rfl⟩ ⟨Nat.le_of_ble_eq_true rfl, Nat.le_of_ble_eq_true rfl⟩ (Nat.le_of_ble_eq_true rfl) dX1_defaultMonth_9 rfl (xk_e fun w9 hm9 => ?_) (fun _ _ _ h => h.elim)
  refine xr_callS (n9 := 1) (rc' := 0) (rs' := 0) (k_requireFound (v := defMonth P b) hG (by omega)) q1402 q1403 q86 q1404 (by decide +kernel) rfl ⟨by decide, Nat.le_of_ble_eq_true rfl⟩ ⟨Nat.le_of_ble_eq_true rfl, Nat.le_of_ble_eq_true rfl⟩ (Nat.le_of_ble_eq_true rfl) dX1_defaultMonth_12 rfl (fun r w12 hw => ?_) ?_
  rotate_left
  · skip
    rintro E q9 w9 ⟨rfl, hn9, rfl⟩
    exact xt_out (fun x hx => (htab x hx).elim) (by rw [hxp]; exact Or.inr ⟨rfl, hb1, fun h => h hn9, hm9⟩)
  obtain ⟨hne, rfl, rfl⟩ := hw
  show XJ _ _ _ _ _ _ _ _ _ _ _ _ [.int (iI (defMonth P b))]
  refine xr_ireturn rfl rfl dX1_defaultMonth_15 ?_
  rw [hpo]
  exact ⟨hb1, hne, rfl, hm9⟩
theorem k_X_benchByRent {g : GG} {w : WW} {x : Nat} {n0 : Nat → Prop} {q : Nat} {L : Int → Nat} {P : Int → Int} {N : Int} {v1 v2 v3 v4 v5 v6 : Value} {pos : Int} (hG : Base g) (hx : Ob w x 13 [.ref q, v1, v2, v3, v4, v5, v6]) (hK : PK g w n0 q L P) (hB : PB P N) (hp : (-2147483648 ≤ pos ∧ pos < 2147483648)) (hob : -1 ≤ ordR (ordB P) (P 0) pos ∧ ordR (ordB P) (P 0) pos ≤ 10) : Ct g yX1_benchByRent (.code yX1_benchByRent cX1_benchByRent 2 (some .int)) 22 3348 266 535 w [.ref x, .int (iI pos)] (fun r_ w1 => (ordR (ordB P) (P 0) pos ≠ -1) ∧ r_ = some (.int (iI (ordR (ordB P) (P 0) pos))) ∧ Mo w.2 w w1) (fun E a9 w1 => (E = "java/util/NoSuchElementException" ∧ ¬ (ordR (ordB P) (P 0) pos ≠ -1) ∧ Mo w.2 w w1)) := by
  refine Ct.of (lv := [some _, some _]) hG (by decide +kernel) (Nat.le_of_ble_eq_true rfl) rfl ?_
  intro z hg hpo hxp hnm htab
  subst hg
  have hmo : Mo w.2 w w := Mo.rf
  refine xr_aload_n dX1_benchByRent_0 rfl (by first | rfl | exact isRef_rf _) ?_
  refine xr_getfield (ci := 13) (T := TX1) (N := 7) (i := 0) hx rfl (by decide) in_X1 q267 (.inl rfl) dX1_benchByRent_1 (by rfl) ?_
  refine xr_iload_n dX1_benchByRent_4 rfl ?_
  refine xr_callV (n9 := 1) (rc' := 1) (rs' := 6) (k_P_benchByRent hG hK hB hp) hK.hq rfl q1517 q1518 q1519 q87 q1520 (by decide +kernel) rfl ⟨by decide, Nat.le_of_ble_eq_true rfl⟩ ⟨Nat.le_of_ble_eq_true rfl, Nat.le_of_ble_eq_true rfl⟩ (Nat.le_of_ble_eq_true rfl) dX1_benchByRent_5 rfl (xk_e fun w5 hm5 => ?_) (fun _ _ _ h => h.elim)
  refine xr_callS (n9 := 1) (rc' := 0) (rs' := 0) (k_requireFound (v := ordR (ordB P) (P 0) pos) hG (by omega)) q1402 q1403 q86 q1404 (by decide +kernel) rfl ⟨by decide, Nat.le_of_ble_eq_true rfl⟩ ⟨Nat.le_of_ble_eq_true rfl, Nat.le_of_ble_eq_true rfl⟩ (Nat.le_of_ble_eq_true rfl) dX1_benchByRent_8 rfl (fun r w8 hw => ?_) ?_
  rotate_left
  · skip
    rintro E q9 w9 ⟨rfl, hn9, rfl⟩
    exact xt_out (fun x hx => (htab x hx).elim) (by rw [hxp]; exact ⟨rfl, fun h => h hn9, hm5⟩)
  obtain ⟨hne, rfl, rfl⟩ := hw
  show XJ _ _ _ _ _ _ _ _ _ _ _ _ [.int (iI (ordR (ordB P) (P 0) pos))]
  refine xr_ireturn rfl rfl dX1_benchByRent_11 ?_
  rw [hpo]
  exact ⟨hne, rfl, hm5⟩
theorem k_X_tenantByCoins {g : GG} {w : WW} {x : Nat} {n0 : Nat → Prop} {q : Nat} {L : Int → Nat} {P : Int → Int} {N : Int} {v1 v2 v3 v4 v5 v6 : Value} {pos : Int} (hG : Base g) (hx : Ob w x 13 [.ref q, v1, v2, v3, v4, v5, v6]) (hK : PK g w n0 q L P) (hB : PB P N) (hp : (-2147483648 ≤ pos ∧ pos < 2147483648)) (hob : -1 ≤ ordR (ordT P) (P 2) pos ∧ ordR (ordT P) (P 2) pos ≤ 10) : Ct g yX1_tenantByCoins (.code yX1_tenantByCoins cX1_tenantByCoins 2 (some .int)) 12 3102 1 6 w [.ref x, .int (iI pos)] (fun r_ w1 => (ordR (ordT P) (P 2) pos ≠ -1) ∧ r_ = some (.int (iI (ordR (ordT P) (P 2) pos))) ∧ Mo w.2 w w1) (fun E a9 w1 => (E = "java/util/NoSuchElementException" ∧ ¬ (ordR (ordT P) (P 2) pos ≠ -1) ∧ Mo w.2 w w1)) := by
  refine Ct.of (lv := [some _, some _]) hG (by decide +kernel) (Nat.le_of_ble_eq_true rfl) rfl ?_
  intro z hg hpo hxp hnm htab
  subst hg
  have hmo : Mo w.2 w w := Mo.rf
  refine xr_aload_n dX1_tenantByCoins_0 rfl (by first | rfl | exact isRef_rf _) ?_
  refine xr_getfield (ci := 13) (T := TX1) (N := 7) (i := 0) hx rfl (by decide) in_X1 q267 (.inl rfl) dX1_tenantByCoins_1 (by rfl) ?_
  refine xr_iload_n dX1_tenantByCoins_4 rfl ?_
  refine xr_callV (n9 := 1) (rc' := 1) (rs' := 6) (k_P_tenantByCoins hG hK hB hp) hK.hq rfl q1540 q1541 q1542 q87 q1543 (by decide +kernel) rfl ⟨by decide, Nat.le_of_ble_eq_true rfl⟩ ⟨Nat.le_of_ble_eq_true rfl, Nat.le_of_ble_eq_true rfl⟩ (Nat.le_of_ble_eq_true rfl) dX1_tenantByCoins_5 rfl (xk_e fun w5 hm5 => ?_) (fun _ _ _ h => h.elim)
  refine xr_callS (n9 := 1) (rc' := 0) (rs' := 0) (k_requireFound (v := ordR (ordT P) (P 2) pos) hG (by omega)) q1402 q1403 q86 q1404 (by decide +kernel) rfl ⟨by decide, Nat.le_of_ble_eq_true rfl⟩ ⟨Nat.le_of_ble_eq_true rfl, Nat.le_of_ble_eq_true rfl⟩ (Nat.le_of_ble_eq_true rfl) dX1_tenantByCoins_8 rfl (fun r w8 hw => ?_) ?_
  rotate_left
  · skip
    rintro E q9 w9 ⟨rfl, hn9, rfl⟩
    exact xt_out (fun x hx => (htab x hx).elim) (by rw [hxp]; exact ⟨rfl, fun h => h hn9, hm5⟩)
  obtain ⟨hne, rfl, rfl⟩ := hw
  show XJ _ _ _ _ _ _ _ _ _ _ _ _ [.int (iI (ordR (ordT P) (P 2) pos))]
  refine xr_ireturn rfl rfl dX1_tenantByCoins_11 ?_
  rw [hpo]
  exact ⟨hne, rfl, hm5⟩
theorem k_X_requireLetBench {g : GG} {w : WW} {x : Nat} {n0 : Nat → Prop} {q : Nat} {L : Int → Nat} {P : Int → Int} {N : Int} {v1 v2 v3 v4 v5 v6 : Value} {b : Int} (hG : Base g) (hx : Ob w x 13 [.ref q, v1, v2, v3, v4, v5, v6]) (hK : PK g w n0 q L P) (hB : PB P N) (hb : (-2147483648 ≤ b ∧ b < 2147483648)) : Ct g yX1_requireLetBench (.code yX1_requireLetBench cX1_requireLetBench 3 (some ((.object "BenchBroker$Bench")))) 8 122 2 12 w [.ref x, .int (iI b)] (fun r_ w1 => (0 ≤ b ∧ b < P 0) ∧ P (13 + 6 * b) ≠ 0 ∧ r_ = some (.ref (L (10 + b))) ∧ w1 = w) (fun E a9 w1 => (E = "java/lang/IndexOutOfBoundsException" ∧ ¬ (0 ≤ b ∧ b < P 0) ∧ w1 = w) ∨ (E = "java/util/NoSuchElementException" ∧ (0 ≤ b ∧ b < P 0) ∧ ¬ (P (13 + 6 * b) ≠ 0) ∧ w1 = w)) := by
  refine Ct.of (lv := [some _, some _, none]) hG (by decide +kernel) (Nat.le_of_ble_eq_true rfl) rfl ?_
  intro z hg hpo hxp hnm htab
  subst hg
  refine xr_aload_n dX1_requireLetBench_0 rfl (by first | rfl | exact isRef_rf _) ?_
  refine xr_iload_n dX1_requireLetBench_1 rfl ?_
  refine xr_callV (n9 := 1) (rc' := 1) (rs' := 6) (k_X_requireBench hG hx hK hB hb) hx rfl q1259 q1261 qs19 q86 q1262 (by decide +kernel) rfl ⟨by decide, Nat.le_of_ble_eq_true rfl⟩ ⟨Nat.le_of_ble_eq_true rfl, Nat.le_of_ble_eq_true rfl⟩ (Nat.le_of_ble_eq_true rfl) dX1_requireLetBench_2 rfl (fun r w2 hw => ?_) ?_
  rotate_left
  · skip
    rintro E q9 w9 ⟨rfl, hn9, rfl⟩
    exact xt_out (fun x hx => (htab x hx).elim) (by rw [hxp]; exact Or.inl ⟨rfl, hn9, rfl⟩)
  obtain ⟨hb1, rfl, rfl⟩ := hw
  show XJ _ _ _ _ _ _ _ _ _ _ _ _ [.ref (L (10 + b))]
  refine xr_astore_n (lv' := [some _, some _, some _]) dX1_requireLetBench_5 (by decide) rfl (by first | rfl | exact isRef_rf _) rfl ?_
  refine xr_aload_n dX1_requireLetBench_6 rfl (by first | rfl | exact isRef_rf _) ?_
  refine xr_callV (n9 := 0) (rc' := 1) (rs' := 6) (k_B_isLet hG (hK.be b hb1.1 hb1.2)) (hK.be b hb1.1 hb1.2) rfl q1449 q717 q718 q114 q719 (by decide +kernel) rfl ⟨by decide, Nat.le_of_ble_eq_true rfl⟩ ⟨Nat.le_of_ble_eq_true rfl, Nat.le_of_ble_eq_true rfl⟩ (Nat.le_of_ble_eq_true rfl) dX1_requireLetBench_7 rfl (xk_r ?_) (fun _ _ _ h => h.elim)
  rw [opt_is]
  refine xr_callS (n9 := 1) (rc' := 0) (rs' := 0) (k_requireElement (b := decide (P (13 + 6 * b) ≠ 0)) hG) q1378 q1379 q86 q1380 (by decide +kernel) rfl ⟨by decide, Nat.le_of_ble_eq_true rfl⟩ ⟨Nat.le_of_ble_eq_true rfl, Nat.le_of_ble_eq_true rfl⟩ (Nat.le_of_ble_eq_true rfl) dX1_requireLetBench_10 rfl (xk_req ?_) (xt_req ?_)
  rotate_left
  · skip
    intro q9 hq9
    have hq9 := of_decide_eq_false hq9
    exact xt_out (fun x hx => (htab x hx).elim) (by rw [hxp]; exact Or.inr ⟨rfl, hb1, hq9, rfl⟩)
  intro hb9
  have hc1 := of_decide_eq_true hb9
  refine xr_aload_n dX1_requireLetBench_13 rfl (by first | rfl | exact isRef_rf _) ?_
  first | refine xr_areturn rfl rfl dX1_requireLetBench_14 ?_ | refine xr_areturnN rfl rfl dX1_requireLetBench_14 ?_
  rw [hpo]
  exact ⟨hb1, hc1, rfl, rfl⟩
theorem k_X_depositOf {g : GG} {w : WW} {x : Nat} {n0 : Nat → Prop} {q : Nat} {L : Int → Nat} {P : Int → Int} {N : Int} {v1 v2 v3 v4 v5 v6 : Value} {b : Int} (hG : Base g) (hx : Ob w x 13 [.ref q, v1, v2, v3, v4, v5, v6]) (hK : PK g w n0 q L P) (hB : PB P N) (hb : (-2147483648 ≤ b ∧ b < 2147483648)) : Ct g yX1_depositOf (.code yX1_depositOf cX1_depositOf 2 (some .int)) 9 144 2 12 w [.ref x, .int (iI b)] (fun r_ w1 => (0 ≤ b ∧ b < P 0) ∧ (P (13 + 6 * b) ≠ 0) ∧ r_ = some (.int (iI (P (14 + 6 * b)))) ∧ Mo w.2 w w1) (fun E a9 w1 => (E = "java/lang/IndexOutOfBoundsException" ∧ ¬ (0 ≤ b ∧ b < P 0) ∧ Mo w.2 w w1) ∨ (E = "java/util/NoSuchElementException" ∧ (0 ≤ b ∧ b < P 0) ∧ ¬ (P (13 + 6 * b) ≠ 0) ∧ Mo w.2 w w1)) := by
  refine Ct.of (lv := [some _, some _]) hG (by decide +kernel) (Nat.le_of_ble_eq_true rfl) rfl ?_
  intro z hg hpo hxp hnm htab
  subst hg
  have hmo : Mo w.2 w w := Mo.rf
  refine xr_aload_n dX1_depositOf_0 rfl (by first | rfl | exact isRef_rf _) ?_
  refine xr_iload_n dX1_depositOf_1 rfl ?_
  refine xr_callV (n9 := 1) (rc' := 0) (rs' := 0) (k_X_requireLetBench hG hx hK hB hb) hx rfl q1457 q1459 qs22 q86 q1460 (by decide +kernel) rfl ⟨by decide, Nat.le_of_ble_eq_true rfl⟩ ⟨Nat.le_of_ble_eq_true rfl, Nat.le_of_ble_eq_true rfl⟩ (Nat.le_of_ble_eq_true rfl) dX1_depositOf_2 rfl (fun r w2 hw => ?_) ?_
  rotate_left
  · skip
    rintro E q9 w9 (⟨rfl, hn9, rfl⟩ | ⟨rfl, hb1, hn9, rfl⟩)
    · exact xt_out (fun x hx => (htab x hx).elim) (by rw [hxp]; exact Or.inl ⟨rfl, hn9, Mo.rf⟩)
    · exact xt_out (fun x hx => (htab x hx).elim) (by rw [hxp]; exact Or.inr ⟨rfl, hb1, hn9, Mo.rf⟩)
  obtain ⟨hb1, hl1, rfl, rfl⟩ := hw
  show XJ _ _ _ _ _ _ _ _ _ _ _ _ [.ref (L (10 + b))]
  refine xr_getfieldN (ci := 3) (T := TX10) (N := 7) (i := 5) (hK.be b hb1.1 hb1.2) rfl (by decide) in_X10 q818 (.inl rfl) dX1_depositOf_5 (by rfl) ?_
  refine xr_ireturn rfl rfl dX1_depositOf_8 ?_
  rw [hpo]
  exact ⟨hb1, hl1, rfl, Mo.rf⟩
theorem k_X_monthsLeft {g : GG} {w : WW} {x : Nat} {n0 : Nat → Prop} {q : Nat} {L : Int → Nat} {P : Int → Int} {N : Int} {v1 v2 v3 v4 v5 v6 : Value} {b : Int} (hG : Base g) (hx : Ob w x 13 [.ref q, v1, v2, v3, v4, v5, v6]) (hK : PK g w n0 q L P) (hB : PB P N) (hb : (-2147483648 ≤ b ∧ b < 2147483648)) : Ct g yX1_monthsLeft (.code yX1_monthsLeft cX1_monthsLeft 2 (some .int)) 9 144 2 12 w [.ref x, .int (iI b)] (fun r_ w1 => (0 ≤ b ∧ b < P 0) ∧ (P (13 + 6 * b) ≠ 0) ∧ r_ = some (.int (iI (P (15 + 6 * b)))) ∧ Mo w.2 w w1) (fun E a9 w1 => (E = "java/lang/IndexOutOfBoundsException" ∧ ¬ (0 ≤ b ∧ b < P 0) ∧ Mo w.2 w w1) ∨ (E = "java/util/NoSuchElementException" ∧ (0 ≤ b ∧ b < P 0) ∧ ¬ (P (13 + 6 * b) ≠ 0) ∧ Mo w.2 w w1)) := by
  refine Ct.of (lv := [some _, some _]) hG (by decide +kernel) (Nat.le_of_ble_eq_true rfl) rfl ?_
  intro z hg hpo hxp hnm htab
  subst hg
  have hmo : Mo w.2 w w := Mo.rf
  refine xr_aload_n dX1_monthsLeft_0 rfl (by first | rfl | exact isRef_rf _) ?_
  refine xr_iload_n dX1_monthsLeft_1 rfl ?_
  refine xr_callV (n9 := 1) (rc' := 0) (rs' := 0) (k_X_requireLetBench hG hx hK hB hb) hx rfl q1457 q1459 qs22 q86 q1460 (by decide +kernel) rfl ⟨by decide, Nat.le_of_ble_eq_true rfl⟩ ⟨Nat.le_of_ble_eq_true rfl, Nat.le_of_ble_eq_true rfl⟩ (Nat.le_of_ble_eq_true rfl) dX1_monthsLeft_2 rfl (fun r w2 hw => ?_) ?_
  rotate_left
  · skip
    rintro E q9 w9 (⟨rfl, hn9, rfl⟩ | ⟨rfl, hb1, hn9, rfl⟩)
    · exact xt_out (fun x hx => (htab x hx).elim) (by rw [hxp]; exact Or.inl ⟨rfl, hn9, Mo.rf⟩)
    · exact xt_out (fun x hx => (htab x hx).elim) (by rw [hxp]; exact Or.inr ⟨rfl, hb1, hn9, Mo.rf⟩)
  obtain ⟨hb1, hl1, rfl, rfl⟩ := hw
  show XJ _ _ _ _ _ _ _ _ _ _ _ _ [.ref (L (10 + b))]
  refine xr_getfieldN (ci := 3) (T := TX10) (N := 7) (i := 6) (hK.be b hb1.1 hb1.2) rfl (by decide) in_X10 q821 (.inl rfl) dX1_monthsLeft_5 (by rfl) ?_
  refine xr_ireturn rfl rfl dX1_monthsLeft_8 ?_
  rw [hpo]
  exact ⟨hb1, hl1, rfl, Mo.rf⟩
theorem k_X_tenantOf {g : GG} {w : WW} {x : Nat} {n0 : Nat → Prop} {q : Nat} {L : Int → Nat} {P : Int → Int} {N : Int} {v1 v2 v3 v4 v5 v6 : Value} {b : Int} (hG : Base g) (hx : Ob w x 13 [.ref q, v1, v2, v3, v4, v5, v6]) (hK : PK g w n0 q L P) (hB : PB P N) (hb : (-2147483648 ≤ b ∧ b < 2147483648)) : Ct g yX1_tenantOf (.code yX1_tenantOf cX1_tenantOf 2 (some .int)) 9 144 2 12 w [.ref x, .int (iI b)] (fun r_ w1 => (0 ≤ b ∧ b < P 0) ∧ (P (13 + 6 * b) ≠ 0) ∧ r_ = some (.int (iI (P (13 + 6 * b) - 1))) ∧ Mo w.2 w w1) (fun E a9 w1 => (E = "java/lang/IndexOutOfBoundsException" ∧ ¬ (0 ≤ b ∧ b < P 0) ∧ Mo w.2 w w1) ∨ (E = "java/util/NoSuchElementException" ∧ (0 ≤ b ∧ b < P 0) ∧ ¬ (P (13 + 6 * b) ≠ 0) ∧ Mo w.2 w w1)) := by
  refine Ct.of (lv := [some _, some _]) hG (by decide +kernel) (Nat.le_of_ble_eq_true rfl) rfl ?_
  intro z hg hpo hxp hnm htab
  subst hg
  have hmo : Mo w.2 w w := Mo.rf
  refine xr_aload_n dX1_tenantOf_0 rfl (by first | rfl | exact isRef_rf _) ?_
  refine xr_iload_n dX1_tenantOf_1 rfl ?_
  refine xr_callV (n9 := 1) (rc' := 0) (rs' := 0) (k_X_requireLetBench hG hx hK hB hb) hx rfl q1457 q1459 qs22 q86 q1460 (by decide +kernel) rfl ⟨by decide, Nat.le_of_ble_eq_true rfl⟩ ⟨Nat.le_of_ble_eq_true rfl, Nat.le_of_ble_eq_true rfl⟩ (Nat.le_of_ble_eq_true rfl) dX1_tenantOf_2 rfl (fun r w2 hw => ?_) ?_
  rotate_left
  · skip
    rintro E q9 w9 (⟨rfl, hn9, rfl⟩ | ⟨rfl, hb1, hn9, rfl⟩)
    · exact xt_out (fun x hx => (htab x hx).elim) (by rw [hxp]; exact Or.inl ⟨rfl, hn9, Mo.rf⟩)
    · exact xt_out (fun x hx => (htab x hx).elim) (by rw [hxp]; exact Or.inr ⟨rfl, hb1, hn9, Mo.rf⟩)
  obtain ⟨hb1, hl1, rfl, rfl⟩ := hw
  show XJ _ _ _ _ _ _ _ _ _ _ _ _ [.ref (L (10 + b))]
  refine xr_getfieldN (ci := 3) (T := TX10) (N := 7) (i := 4) (hK.be b hb1.1 hb1.2) rfl (by decide) in_X10 q816 (.inl rfl) dX1_tenantOf_5 (by rfl) ?_
  rw [opt_ne hl1]
  show XJ _ _ _ _ _ _ _ _ _ _ _ _ [.ref (L (50 + (P (13 + 6 * b) - 1)))]
  have hbt := hK.bt b hb1.1 hb1.2
  refine xr_callVU (n9 := 0) (rc' := 0) (rs' := 0) (k_index_T hG (hK.te (P (13 + 6 * b) - 1) (by omega) (by omega))) (hK.te (P (13 + 6 * b) - 1) (by omega) (by omega)) rfl q1461 q1117 rfl q804 q1118 q107 q805 (by decide +kernel) rfl ⟨by decide, Nat.le_of_ble_eq_true rfl⟩ ⟨Nat.le_of_ble_eq_true rfl, Nat.le_of_ble_eq_true rfl⟩ (Nat.le_of_ble_eq_true rfl) dX1_tenantOf_8 rfl (xk_r ?_) (fun _ _ _ h => h.elim)
  refine xr_ireturn rfl rfl dX1_tenantOf_11 ?_
  rw [hpo]
  exact ⟨hb1, hl1, rfl, Mo.rf⟩
theorem k_X_benchOf {g : GG} {w : WW} {x : Nat} {n0 : Nat → Prop} {q : Nat} {L : Int → Nat} {P : Int → Int} {N : Int} {v1 v2 v3 v4 v5 v6 : Value} {t : Int} (hG : Base g) (hx : Ob w x 13 [.ref q, v1, v2, v3, v4, v5, v6]) (hK : PK g w n0 q L P) (hB : PB P N) (ht : (-2147483648 ≤ t ∧ t < 2147483648)) : Ct g yX1_benchOf (.code yX1_benchOf cX1_benchOf 3 (some .int)) 8 122 2 12 w [.ref x, .int (iI t)] (fun r_ w1 => (0 ≤ t ∧ t < P 2) ∧ (P (102 + t) ≠ 0) ∧ r_ = some (.int (iI (P (102 + t) - 1))) ∧ Mo w.2 w w1) (fun E a9 w1 => (E = "java/lang/IndexOutOfBoundsException" ∧ ¬ (0 ≤ t ∧ t < P 2) ∧ Mo w.2 w w1) ∨ (E = "java/util/NoSuchElementException" ∧ (0 ≤ t ∧ t < P 2) ∧ ¬ (P (102 + t) ≠ 0) ∧ Mo w.2 w w1)) := by
  refine Ct.of (lv := [some _, some _, none]) hG (by decide +kernel) (Nat.le_of_ble_eq_true rfl) rfl ?_
  intro z hg hpo hxp hnm htab
  subst hg
  have hmo : Mo w.2 w w := Mo.rf
  refine xr_aload_n dX1_benchOf_0 rfl (by first | rfl | exact isRef_rf _) ?_
  refine xr_iload_n dX1_benchOf_1 rfl ?_
  refine xr_callV (n9 := 1) (rc' := 1) (rs' := 6) (k_X_requireTenant hG hx hK hB ht) hx rfl q1358 q1360 qs21 q86 q1361 (by decide +kernel) rfl ⟨by decide, Nat.le_of_ble_eq_true rfl⟩ ⟨Nat.le_of_ble_eq_true rfl, Nat.le_of_ble_eq_true rfl⟩ (Nat.le_of_ble_eq_true rfl) dX1_benchOf_2 rfl (fun r w2 hw => ?_) ?_
  rotate_left
  · skip
    rintro E q9 w9 ⟨rfl, hn9, rfl⟩
    exact xt_out (fun x hx => (htab x hx).elim) (by rw [hxp]; exact Or.inl ⟨rfl, hn9, Mo.rf⟩)
  obtain ⟨ht1, rfl, rfl⟩ := hw
  show XJ _ _ _ _ _ _ _ _ _ _ _ _ [.ref (L (50 + t))]
  refine xr_astore_n (lv' := [some _, some _, some _]) dX1_benchOf_5 (by decide) rfl (by first | rfl | exact isRef_rf _) rfl ?_
  refine xr_aload_n dX1_benchOf_6 rfl (by first | rfl | exact isRef_rf _) ?_
  refine xr_getfieldN (ci := 5) (T := TX11) (N := 4) (i := 3) (hK.te t ht1.1 ht1.2) rfl (by decide) in_X11 q850 (.inl rfl) dX1_benchOf_7 (by rfl) ?_
  refine xr_ifnull (tgt := 17) dX1_benchOf_10 (by decide) (fun c10 => ?_) (fun c10 => ?_)
  · skip
    have h9 : P (102 + t) = 0 := by
      by_cases h9 : P (102 + t) = 0
      · exact h9
      · rw [opt_ne h9] at c10; cases c10
    refine xr_iconst dX1_benchOf_17 ?_
    refine xr_callS (n9 := 1) (rc' := 0) (rs' := 0) (k_requireElement (b := false) hG) q1378 q1379 q86 q1380 (by decide +kernel) rfl ⟨by decide, Nat.le_of_ble_eq_true rfl⟩ ⟨Nat.le_of_ble_eq_true rfl, Nat.le_of_ble_eq_true rfl⟩ (Nat.le_of_ble_eq_true rfl) dX1_benchOf_18 rfl (xk_req (fun h9 => nomatch h9)) (xt_req ?_)
    intro q9 _
    exact xt_out (fun x hx => (htab x hx).elim) (by rw [hxp]; exact Or.inr ⟨rfl, ht1, fun h => h h9, Mo.rf⟩)
  · skip
    have h9 : P (102 + t) ≠ 0 := fun h9 => c10 (opt_eq h9)
    refine xr_iconst dX1_benchOf_13 ?_
    refine xr_goto (tgt := 18) dX1_benchOf_14 (by decide) ?_
    refine xr_callS (n9 := 1) (rc' := 0) (rs' := 0) (k_requireElement (b := true) hG) q1378 q1379 q86 q1380 (by decide +kernel) rfl ⟨by decide, Nat.le_of_ble_eq_true rfl⟩ ⟨Nat.le_of_ble_eq_true rfl, Nat.le_of_ble_eq_true rfl⟩ (Nat.le_of_ble_eq_true rfl) dX1_benchOf_18 rfl (xk_req (fun _ => ?_)) (xt_req (fun _ h9 => nomatch h9))
    refine xr_aload_n dX1_benchOf_21 rfl (by first | rfl | exact isRef_rf _) ?_
    refine xr_getfieldN (ci := 5) (T := TX11) (N := 4) (i := 3) (hK.te t ht1.1 ht1.2) rfl (by decide) in_X11 q850 (.inl rfl) dX1_benchOf_22 (by rfl) ?_
    rw [opt_ne h9]
    show XJ _ _ _ _ _ _ _ _ _ _ _ _ [.ref (L (10 + (P (102 + t) - 1)))]
    have htb := hK.tb t ht1.1 ht1.2
    refine xr_callVU (n9 := 0) (rc' := 0) (rs' := 0) (k_index_B hG (hK.be (P (102 + t) - 1) (by omega) (by omega))) (hK.be (P (102 + t) - 1) (by omega) (by omega)) rfl q800 q801 rfl q804 q803 q107 q805 (by decide +kernel) rfl ⟨by decide, Nat.le_of_ble_eq_true rfl⟩ ⟨Nat.le_of_ble_eq_true rfl, Nat.le_of_ble_eq_true rfl⟩ (Nat.le_of_ble_eq_true rfl) dX1_benchOf_25 rfl (xk_r ?_) (fun _ _ _ h => h.elim)
    refine xr_ireturn rfl rfl dX1_benchOf_28 ?_
    rw [hpo]
    exact ⟨ht1, h9, rfl, Mo.rf⟩
theorem k_X_canLease {g : GG} {w : WW} {x : Nat} {n0 : Nat → Prop} {q : Nat} {L : Int → Nat} {P : Int → Int} {N : Int} {v1 v2 v3 v4 v5 v6 : Value} {t b : Int} (hG : Base g) (hx : Ob w x 13 [.ref q, v1, v2, v3, v4, v5, v6]) (hK : PK g w n0 q L P) (hB : PB P N) (ht : (-2147483648 ≤ t ∧ t < 2147483648)) (hb : (-2147483648 ≤ b ∧ b < 2147483648)) : Ct g yX1_canLease (.code yX1_canLease cX1_canLease 3 (some .boolean)) 15 3166 5 25 w [.ref x, .int (iI t), .int (iI b)] (fun r_ w1 => ((0 ≤ t ∧ t < P 2) ∧ (0 ≤ b ∧ b < P 0)) ∧ r_ = some (.int (bI (decide ((barred P t b).1 = 0)))) ∧ Mo w.2 w w1) (fun E a9 w1 => (E = "java/lang/IndexOutOfBoundsException" ∧ ¬ ((0 ≤ t ∧ t < P 2) ∧ (0 ≤ b ∧ b < P 0)) ∧ Mo w.2 w w1)) := by
  refine Ct.of (lv := [some _, some _, some _]) hG (by decide +kernel) (Nat.le_of_ble_eq_true rfl) rfl ?_
  intro z hg hpo hxp hnm htab
  subst hg
  have hmo : Mo w.2 w w := Mo.rf
  refine xr_aload_n dX1_canLease_0 rfl (by first | rfl | exact isRef_rf _) ?_
  refine xr_getfield (ci := 13) (T := TX1) (N := 7) (i := 0) hx rfl (by decide) in_X1 q267 (.inl rfl) dX1_canLease_1 (by rfl) ?_
  refine xr_aload_n dX1_canLease_4 rfl (by first | rfl | exact isRef_rf _) ?_
  refine xr_iload_n dX1_canLease_5 rfl ?_
  refine xr_callV (n9 := 1) (rc' := 4) (rs' := 19) (k_X_requireTenant hG hx hK hB ht) hx rfl q1358 q1360 qs21 q86 q1361 (by decide +kernel) rfl ⟨by decide, Nat.le_of_ble_eq_true rfl⟩ ⟨Nat.le_of_ble_eq_true rfl, Nat.le_of_ble_eq_true rfl⟩ (Nat.le_of_ble_eq_true rfl) dX1_canLease_6 rfl (fun r w6 hw => ?_) ?_
  rotate_left
  · skip
    rintro E q9 w9 ⟨rfl, hn9, rfl⟩
    exact xt_out (fun x hx => (htab x hx).elim) (by rw [hxp]; exact ⟨rfl, fun h => hn9 h.1, Mo.rf⟩)
  obtain ⟨ht1, rfl, rfl⟩ := hw
  show XJ _ _ _ _ _ _ _ _ _ _ _ _ [.ref (L (50 + t)), _]
  refine xr_aload_n dX1_canLease_9 rfl (by first | rfl | exact isRef_rf _) ?_
  refine xr_iload_n dX1_canLease_10 rfl ?_
  refine xr_callV (n9 := 1) (rc' := 3) (rs' := 13) (k_X_requireBench hG hx hK hB hb) hx rfl q1259 q1261 qs19 q86 q1262 (by decide +kernel) rfl ⟨by decide, Nat.le_of_ble_eq_true rfl⟩ ⟨Nat.le_of_ble_eq_true rfl, Nat.le_of_ble_eq_true rfl⟩ (Nat.le_of_ble_eq_true rfl) dX1_canLease_11 rfl (fun r w11 hw => ?_) ?_
  rotate_left
  · skip
    rintro E q9 w9 ⟨rfl, hn9, rfl⟩
    exact xt_out (fun x hx => (htab x hx).elim) (by rw [hxp]; exact ⟨rfl, fun h => hn9 h.2, Mo.rf⟩)
  obtain ⟨hb1, rfl, rfl⟩ := hw
  show XJ _ _ _ _ _ _ _ _ _ _ _ _ [.ref (L (10 + b)), _, _]
  refine xr_callV (n9 := 2) (rc' := 0) (rs' := 0) (k_P_obstacle hG hK hB hb1 ht1) hK.hq rfl q1390 q1108 q1109 q87 q1110 (by decide +kernel) rfl ⟨by decide, Nat.le_of_ble_eq_true rfl⟩ ⟨Nat.le_of_ble_eq_true rfl, Nat.le_of_ble_eq_true rfl⟩ (Nat.le_of_ble_eq_true rfl) dX1_canLease_14 rfl (fun r w14 hw => ?_) (fun _ _ _ h => h.elim)
  obtain ⟨o, rfl, hm14, hn14, hs14⟩ := hw
  show XJ _ _ _ _ _ _ _ _ _ _ _ _ [va_rf o]
  refine xr_ifnonnull (tgt := 24) dX1_canLease_17 (by decide) (fun c17 => ?_) (fun c17 => ?_)
  · skip
    have hnb : ¬ (barred P t b).1 = 0 := by
      cases o with
      | none => exact absurd rfl c17
      | some a9 => exact (hs14 a9 rfl).1
    refine xr_iconst dX1_canLease_24 ?_
    refine xr_ireturn rfl (by first | rfl | exact nar_bI _ | decide +kernel) dX1_canLease_25 ?_
    rw [hpo]
    first | exact ⟨⟨ht1, hb1⟩, ret_bt hnb, hm14⟩ | exact ⟨⟨ht1, hb1⟩, ret_bf hnb, hm14⟩
  · skip
    have hnb : (barred P t b).1 = 0 := hn14 c17
    refine xr_iconst dX1_canLease_20 ?_
    refine xr_goto (tgt := 25) dX1_canLease_21 (by decide) ?_
    refine xr_ireturn rfl (by first | rfl | exact nar_bI _ | decide +kernel) dX1_canLease_25 ?_
    rw [hpo]
    first | exact ⟨⟨ht1, hb1⟩, ret_bt hnb, hm14⟩ | exact ⟨⟨ht1, hb1⟩, ret_bf hnb, hm14⟩
theorem k_X_syntaxErrorOffset {g : GG} {w : WW} {x : Nat} {v0 v1 v2 v3 v4 : Value} {oE oR : Option Nat} {e : Int} (hG : Base g) (hx : Ob w x 13 [v0, v1, v2, v3, v4, va_rf oE, va_rf oR]) (he : ∀ a9 : Nat, oE = some a9 → Ob w a9 7 [.int (iI e)]) : Ct g yX1_syntaxErrorOffset (.code yX1_syntaxErrorOffset cX1_syntaxErrorOffset 1 (some .int)) 7 101 1 6 w [.ref x] (fun r_ w1 => oE ≠ none ∧ r_ = some (.int (iI e)) ∧ w1 = w) (fun E a9 w1 => E = "java/util/NoSuchElementException" ∧ oE = none ∧ w1 = w) := by
  refine Ct.of (lv := [some _]) hG (by decide +kernel) (Nat.le_of_ble_eq_true rfl) rfl ?_
  intro z hg hpo hxp hnm htab
  subst hg
  refine xr_aload_n dX1_syntaxErrorOffset_0 rfl (by first | rfl | exact isRef_rf _) ?_
  refine xr_getfield (ci := 13) (T := TX1) (N := 7) (i := 5) hx rfl (by decide) in_X1 q272 (.inl rfl) dX1_syntaxErrorOffset_1 (by rfl) ?_
  refine xr_ifnull (tgt := 11) dX1_syntaxErrorOffset_4 (by decide) (fun c4 => ?_) (fun c4 => ?_)
  · skip
    refine xr_iconst dX1_syntaxErrorOffset_11 ?_
    refine xr_callS (n9 := 1) (rc' := 0) (rs' := 0) (k_requireElement (b := false) hG) q1378 q1379 q86 q1380 (by decide +kernel) rfl ⟨by decide, Nat.le_of_ble_eq_true rfl⟩ ⟨Nat.le_of_ble_eq_true rfl, Nat.le_of_ble_eq_true rfl⟩ (Nat.le_of_ble_eq_true rfl) dX1_syntaxErrorOffset_12 rfl (xk_req (fun h9 => nomatch h9)) (xt_req ?_)
    intro q9 _
    exact xt_out (fun x hx => (htab x hx).elim) (by rw [hxp]; exact ⟨rfl, c4, rfl⟩)
  · skip
    refine xr_iconst dX1_syntaxErrorOffset_7 ?_
    refine xr_goto (tgt := 12) dX1_syntaxErrorOffset_8 (by decide) ?_
    refine xr_callS (n9 := 1) (rc' := 0) (rs' := 0) (k_requireElement (b := true) hG) q1378 q1379 q86 q1380 (by decide +kernel) rfl ⟨by decide, Nat.le_of_ble_eq_true rfl⟩ ⟨Nat.le_of_ble_eq_true rfl, Nat.le_of_ble_eq_true rfl⟩ (Nat.le_of_ble_eq_true rfl) dX1_syntaxErrorOffset_12 rfl (xk_req (fun _ => ?_)) (xt_req (fun _ h9 => nomatch h9))
    refine xr_aload_n dX1_syntaxErrorOffset_15 rfl (by first | rfl | exact isRef_rf _) ?_
    refine xr_getfield (ci := 13) (T := TX1) (N := 7) (i := 5) hx rfl (by decide) in_X1 q272 (.inl rfl) dX1_syntaxErrorOffset_16 (by rfl) ?_
    obtain ⟨a9, ha9⟩ : ∃ a9, oE = some a9 := by
      cases oE with
      | none => exact absurd rfl c4
      | some a9 => exact ⟨a9, rfl⟩
    subst ha9
    show XJ _ _ _ _ _ _ _ _ _ _ _ _ [.ref a9]
    have he9 := he a9 rfl
    refine xr_getfieldN (ci := 7) (T := TS_) (N := 1) (i := 0) he9 rfl (by decide) in_S_ q2000 (.inl rfl) dX1_syntaxErrorOffset_19 (by rfl) ?_
    refine xr_ireturn rfl rfl dX1_syntaxErrorOffset_22 ?_
    rw [hpo]
    exact ⟨c4, rfl, rfl⟩
theorem k_X_rejectionReason {g : GG} {w : WW} {x : Nat} {v0 v1 v2 v3 v4 : Value} {oE oR : Option Nat} {r d c : Int} (hG : Base g) (hx : Ob w x 13 [v0, v1, v2, v3, v4, va_rf oE, va_rf oR]) (hr : ∀ a9 : Nat, oR = some a9 → Ob w a9 6 [.int (iI r), .int (iI d), .int (iI c)]) : Ct g yX1_rejectionReason (.code yX1_rejectionReason cX1_rejectionReason 1 (some .int)) 7 101 1 6 w [.ref x] (fun r_ w1 => oR ≠ none ∧ r_ = some (.int (iI r)) ∧ w1 = w) (fun E a9 w1 => E = "java/util/NoSuchElementException" ∧ oR = none ∧ w1 = w) := by
  refine Ct.of (lv := [some _]) hG (by decide +kernel) (Nat.le_of_ble_eq_true rfl) rfl ?_
  intro z hg hpo hxp hnm htab
  subst hg
  refine xr_aload_n dX1_rejectionReason_0 rfl (by first | rfl | exact isRef_rf _) ?_
  refine xr_getfield (ci := 13) (T := TX1) (N := 7) (i := 6) hx rfl (by decide) in_X1 q273 (.inl rfl) dX1_rejectionReason_1 (by rfl) ?_
  refine xr_ifnull (tgt := 11) dX1_rejectionReason_4 (by decide) (fun c4 => ?_) (fun c4 => ?_)
  · skip
    refine xr_iconst dX1_rejectionReason_11 ?_
    refine xr_callS (n9 := 1) (rc' := 0) (rs' := 0) (k_requireElement (b := false) hG) q1378 q1379 q86 q1380 (by decide +kernel) rfl ⟨by decide, Nat.le_of_ble_eq_true rfl⟩ ⟨Nat.le_of_ble_eq_true rfl, Nat.le_of_ble_eq_true rfl⟩ (Nat.le_of_ble_eq_true rfl) dX1_rejectionReason_12 rfl (xk_req (fun h9 => nomatch h9)) (xt_req ?_)
    intro q9 _
    exact xt_out (fun x hx => (htab x hx).elim) (by rw [hxp]; exact ⟨rfl, c4, rfl⟩)
  · skip
    refine xr_iconst dX1_rejectionReason_7 ?_
    refine xr_goto (tgt := 12) dX1_rejectionReason_8 (by decide) ?_
    refine xr_callS (n9 := 1) (rc' := 0) (rs' := 0) (k_requireElement (b := true) hG) q1378 q1379 q86 q1380 (by decide +kernel) rfl ⟨by decide, Nat.le_of_ble_eq_true rfl⟩ ⟨Nat.le_of_ble_eq_true rfl, Nat.le_of_ble_eq_true rfl⟩ (Nat.le_of_ble_eq_true rfl) dX1_rejectionReason_12 rfl (xk_req (fun _ => ?_)) (xt_req (fun _ h9 => nomatch h9))
    refine xr_aload_n dX1_rejectionReason_15 rfl (by first | rfl | exact isRef_rf _) ?_
    refine xr_getfield (ci := 13) (T := TX1) (N := 7) (i := 6) hx rfl (by decide) in_X1 q273 (.inl rfl) dX1_rejectionReason_16 (by rfl) ?_
    obtain ⟨a9, ha9⟩ : ∃ a9, oR = some a9 := by
      cases oR with
      | none => exact absurd rfl c4
      | some a9 => exact ⟨a9, rfl⟩
    subst ha9
    show XJ _ _ _ _ _ _ _ _ _ _ _ _ [.ref a9]
    have hr9 := hr a9 rfl
    refine xr_getfieldN (ci := 6) (T := TR_) (N := 3) (i := 0) hr9 rfl (by decide) in_R_ q1052 (.inl rfl) dX1_rejectionReason_19 (by rfl) ?_
    refine xr_ireturn rfl rfl dX1_rejectionReason_22 ?_
    rw [hpo]
    exact ⟨c4, rfl, rfl⟩
theorem k_X_rejectionDetail {g : GG} {w : WW} {x : Nat} {v0 v1 v2 v3 v4 : Value} {oE oR : Option Nat} {r d c : Int} (hG : Base g) (hx : Ob w x 13 [v0, v1, v2, v3, v4, va_rf oE, va_rf oR]) (hr : ∀ a9 : Nat, oR = some a9 → Ob w a9 6 [.int (iI r), .int (iI d), .int (iI c)]) : Ct g yX1_rejectionDetail (.code yX1_rejectionDetail cX1_rejectionDetail 1 (some .int)) 7 101 1 6 w [.ref x] (fun r_ w1 => oR ≠ none ∧ r_ = some (.int (iI d)) ∧ w1 = w) (fun E a9 w1 => E = "java/util/NoSuchElementException" ∧ oR = none ∧ w1 = w) := by
  refine Ct.of (lv := [some _]) hG (by decide +kernel) (Nat.le_of_ble_eq_true rfl) rfl ?_
  intro z hg hpo hxp hnm htab
  subst hg
  refine xr_aload_n dX1_rejectionDetail_0 rfl (by first | rfl | exact isRef_rf _) ?_
  refine xr_getfield (ci := 13) (T := TX1) (N := 7) (i := 6) hx rfl (by decide) in_X1 q273 (.inl rfl) dX1_rejectionDetail_1 (by rfl) ?_
  refine xr_ifnull (tgt := 11) dX1_rejectionDetail_4 (by decide) (fun c4 => ?_) (fun c4 => ?_)
  · skip
    refine xr_iconst dX1_rejectionDetail_11 ?_
    refine xr_callS (n9 := 1) (rc' := 0) (rs' := 0) (k_requireElement (b := false) hG) q1378 q1379 q86 q1380 (by decide +kernel) rfl ⟨by decide, Nat.le_of_ble_eq_true rfl⟩ ⟨Nat.le_of_ble_eq_true rfl, Nat.le_of_ble_eq_true rfl⟩ (Nat.le_of_ble_eq_true rfl) dX1_rejectionDetail_12 rfl (xk_req (fun h9 => nomatch h9)) (xt_req ?_)
    intro q9 _
    exact xt_out (fun x hx => (htab x hx).elim) (by rw [hxp]; exact ⟨rfl, c4, rfl⟩)
  · skip
    refine xr_iconst dX1_rejectionDetail_7 ?_
    refine xr_goto (tgt := 12) dX1_rejectionDetail_8 (by decide) ?_
    refine xr_callS (n9 := 1) (rc' := 0) (rs' := 0) (k_requireElement (b := true) hG) q1378 q1379 q86 q1380 (by decide +kernel) rfl ⟨by decide, Nat.le_of_ble_eq_true rfl⟩ ⟨Nat.le_of_ble_eq_true rfl, Nat.le_of_ble_eq_true rfl⟩ (Nat.le_of_ble_eq_true rfl) dX1_rejectionDetail_12 rfl (xk_req (fun _ => ?_)) (xt_req (fun _ h9 => nomatch h9))
    refine xr_aload_n dX1_rejectionDetail_15 rfl (by first | rfl | exact isRef_rf _) ?_
    refine xr_getfield (ci := 13) (T := TX1) (N := 7) (i := 6) hx rfl (by decide) in_X1 q273 (.inl rfl) dX1_rejectionDetail_16 (by rfl) ?_
    obtain ⟨a9, ha9⟩ : ∃ a9, oR = some a9 := by
      cases oR with
      | none => exact absurd rfl c4
      | some a9 => exact ⟨a9, rfl⟩
    subst ha9
    show XJ _ _ _ _ _ _ _ _ _ _ _ _ [.ref a9]
    have hr9 := hr a9 rfl
    refine xr_getfieldN (ci := 6) (T := TR_) (N := 3) (i := 1) hr9 rfl (by decide) in_R_ q1054 (.inl rfl) dX1_rejectionDetail_19 (by rfl) ?_
    refine xr_ireturn rfl rfl dX1_rejectionDetail_22 ?_
    rw [hpo]
    exact ⟨c4, rfl, rfl⟩
theorem k_X_causeReason {g : GG} {w : WW} {x : Nat} {v0 v1 v2 v3 v4 : Value} {oE oR : Option Nat} {r d c : Int} (hG : Base g) (hx : Ob w x 13 [v0, v1, v2, v3, v4, va_rf oE, va_rf oR]) (hr : ∀ a9 : Nat, oR = some a9 → Ob w a9 6 [.int (iI r), .int (iI d), .int (iI c)]) (hcr : (-2147483648 ≤ c ∧ c < 2147483648)) : Ct g yX1_causeReason (.code yX1_causeReason cX1_causeReason 1 (some .int)) 7 101 1 6 w [.ref x] (fun r_ w1 => (oR ≠ none ∧ c ≠ 0) ∧ r_ = some (.int (iI c)) ∧ w1 = w) (fun E a9 w1 => E = "java/util/NoSuchElementException" ∧ ¬ (oR ≠ none ∧ c ≠ 0) ∧ w1 = w) := by
  refine Ct.of (lv := [some _]) hG (by decide +kernel) (Nat.le_of_ble_eq_true rfl) rfl ?_
  intro z hg hpo hxp hnm htab
  subst hg
  refine xr_aload_n dX1_causeReason_0 rfl (by first | rfl | exact isRef_rf _) ?_
  refine xr_getfield (ci := 13) (T := TX1) (N := 7) (i := 6) hx rfl (by decide) in_X1 q273 (.inl rfl) dX1_causeReason_1 (by rfl) ?_
  refine xr_ifnull (tgt := 21) dX1_causeReason_4 (by decide) (fun c4 => ?_) (fun c4 => ?_)
  · skip
    have hno : ¬ (oR ≠ none ∧ c ≠ 0) := fun h => h.1 c4
    refine xr_iconst dX1_causeReason_21 ?_
    refine xr_callS (n9 := 1) (rc' := 0) (rs' := 0) (k_requireElement (b := false) hG) q1378 q1379 q86 q1380 (by decide +kernel) rfl ⟨by decide, Nat.le_of_ble_eq_true rfl⟩ ⟨Nat.le_of_ble_eq_true rfl, Nat.le_of_ble_eq_true rfl⟩ (Nat.le_of_ble_eq_true rfl) dX1_causeReason_22 rfl (xk_req (fun h9 => nomatch h9)) (xt_req ?_)
    intro q9 _
    exact xt_out (fun x hx => (htab x hx).elim) (by rw [hxp]; exact ⟨rfl, hno, rfl⟩)
  · skip
    refine xr_aload_n dX1_causeReason_7 rfl (by first | rfl | exact isRef_rf _) ?_
    refine xr_getfield (ci := 13) (T := TX1) (N := 7) (i := 6) hx rfl (by decide) in_X1 q273 (.inl rfl) dX1_causeReason_8 (by rfl) ?_
    obtain ⟨a9, ha9⟩ : ∃ a9, oR = some a9 := by
      cases oR with
      | none => exact absurd rfl c4
      | some a9 => exact ⟨a9, rfl⟩
    subst ha9
    show XJ _ _ _ _ _ _ _ _ _ _ _ _ [.ref a9]
    have hr9 := hr a9 rfl
    refine xr_getfieldN (ci := 6) (T := TR_) (N := 3) (i := 2) hr9 rfl (by decide) in_R_ q1056 (.inl rfl) dX1_causeReason_11 (by rfl) ?_
    refine xr_if_eq (tgt := 21) dX1_causeReason_14 (by decide) (by omega) (fun c14 => ?_) (fun c14 => ?_)
    · skip
      have hno : ¬ (some a9 ≠ none ∧ c ≠ 0) := fun h => h.2 c14
      refine xr_iconst dX1_causeReason_21 ?_
      refine xr_callS (n9 := 1) (rc' := 0) (rs' := 0) (k_requireElement (b := false) hG) q1378 q1379 q86 q1380 (by decide +kernel) rfl ⟨by decide, Nat.le_of_ble_eq_true rfl⟩ ⟨Nat.le_of_ble_eq_true rfl, Nat.le_of_ble_eq_true rfl⟩ (Nat.le_of_ble_eq_true rfl) dX1_causeReason_22 rfl (xk_req (fun h9 => nomatch h9)) (xt_req ?_)
      intro q9 _
      exact xt_out (fun x hx => (htab x hx).elim) (by rw [hxp]; exact ⟨rfl, hno, rfl⟩)
    · skip
      refine xr_iconst dX1_causeReason_17 ?_
      refine xr_goto (tgt := 22) dX1_causeReason_18 (by decide) ?_
      refine xr_callS (n9 := 1) (rc' := 0) (rs' := 0) (k_requireElement (b := true) hG) q1378 q1379 q86 q1380 (by decide +kernel) rfl ⟨by decide, Nat.le_of_ble_eq_true rfl⟩ ⟨Nat.le_of_ble_eq_true rfl, Nat.le_of_ble_eq_true rfl⟩ (Nat.le_of_ble_eq_true rfl) dX1_causeReason_22 rfl (xk_req (fun _ => ?_)) (xt_req (fun _ h9 => nomatch h9))
      refine xr_aload_n dX1_causeReason_25 rfl (by first | rfl | exact isRef_rf _) ?_
      refine xr_getfield (ci := 13) (T := TX1) (N := 7) (i := 6) hx rfl (by decide) in_X1 q273 (.inl rfl) dX1_causeReason_26 (by rfl) ?_
      show XJ _ _ _ _ _ _ _ _ _ _ _ _ [.ref a9]
      refine xr_getfieldN (ci := 6) (T := TR_) (N := 3) (i := 2) hr9 rfl (by decide) in_R_ q1056 (.inl rfl) dX1_causeReason_29 (by rfl) ?_
      refine xr_ireturn rfl rfl dX1_causeReason_32 ?_
      rw [hpo]
      exact ⟨⟨c4, c14⟩, rfl, rfl⟩
