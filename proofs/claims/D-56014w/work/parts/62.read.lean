/-! 62.read.lean.txt (written by tools/walker.py)  -/
set_option maxRecDepth 100000
theorem k_X_noiseLimit {g : GG} {w : WW} {x : Nat} {n0 : Nat → Prop} {q : Nat} {L : Int → Nat} {P : Int → Int} {N : Int} {v1 v2 v3 v4 v5 v6 : Value} (hG : Base g) (hx : Ob w x 13 [.ref q, v1, v2, v3, v4, v5, v6]) (hK : PK g w n0 q L P) (hB : PB P N) : Ct g yX1_noiseLimit (.code yX1_noiseLimit cX1_noiseLimit 1 (some .int)) 0 0 0 0 w [.ref x] (fun r_ w1 => r_ = some (.int (iI (P 3))) ∧ w1 = w) xF := by
  refine Ct.of (lv := [some _]) hG (by decide +kernel) (Nat.le_of_ble_eq_true rfl) rfl ?_
  intro z hg hpo hxp hnm htab
  subst hg
  refine xr_aload_n dX1_noiseLimit_0 rfl (by first | rfl | exact isRef_rf _) ?_
  refine xr_getfield (ci := 13) (T := TX1) (N := 7) (i := 0) hx rfl (by decide) in_X1 q267 (.inl rfl) dX1_noiseLimit_1 (by rfl) ?_
  refine xr_getfieldN (ci := 0) (T := TX2) (N := 10) (i := 3) hK.hq rfl (by decide) in_X2 q197 (.inl rfl) dX1_noiseLimit_4 (by rfl) ?_
  refine xr_ireturn rfl rfl dX1_noiseLimit_7 ?_
  rw [hpo]
  first | exact ⟨rfl, rfl⟩ | exact ⟨ret_bt (by omega), rfl⟩ | exact ⟨ret_bf (by omega), rfl⟩ | exact ⟨ret_i (by omega), rfl⟩
theorem k_X_month {g : GG} {w : WW} {x : Nat} {n0 : Nat → Prop} {q : Nat} {L : Int → Nat} {P : Int → Int} {N : Int} {v1 v2 v3 v4 v5 v6 : Value} (hG : Base g) (hx : Ob w x 13 [.ref q, v1, v2, v3, v4, v5, v6]) (hK : PK g w n0 q L P) (hB : PB P N) : Ct g yX1_month (.code yX1_month cX1_month 1 (some .int)) 0 0 0 0 w [.ref x] (fun r_ w1 => r_ = some (.int (iI (P 4))) ∧ w1 = w) xF := by
  refine Ct.of (lv := [some _]) hG (by decide +kernel) (Nat.le_of_ble_eq_true rfl) rfl ?_
  intro z hg hpo hxp hnm htab
  subst hg
  refine xr_aload_n dX1_month_0 rfl (by first | rfl | exact isRef_rf _) ?_
  refine xr_getfield (ci := 13) (T := TX1) (N := 7) (i := 0) hx rfl (by decide) in_X1 q267 (.inl rfl) dX1_month_1 (by rfl) ?_
  refine xr_getfieldN (ci := 0) (T := TX2) (N := 10) (i := 4) hK.hq rfl (by decide) in_X2 q199 (.inl rfl) dX1_month_4 (by rfl) ?_
  refine xr_ireturn rfl rfl dX1_month_7 ?_
  rw [hpo]
  first | exact ⟨rfl, rfl⟩ | exact ⟨ret_bt (by omega), rfl⟩ | exact ⟨ret_bf (by omega), rfl⟩ | exact ⟨ret_i (by omega), rfl⟩
theorem k_X_brokerCoins {g : GG} {w : WW} {x : Nat} {n0 : Nat → Prop} {q : Nat} {L : Int → Nat} {P : Int → Int} {N : Int} {v1 v2 v3 v4 v5 v6 : Value} (hG : Base g) (hx : Ob w x 13 [.ref q, v1, v2, v3, v4, v5, v6]) (hK : PK g w n0 q L P) (hB : PB P N) : Ct g yX1_brokerCoins (.code yX1_brokerCoins cX1_brokerCoins 1 (some .int)) 0 0 0 0 w [.ref x] (fun r_ w1 => r_ = some (.int (iI (P 5))) ∧ w1 = w) xF := by
  refine Ct.of (lv := [some _]) hG (by decide +kernel) (Nat.le_of_ble_eq_true rfl) rfl ?_
  intro z hg hpo hxp hnm htab
  subst hg
  refine xr_aload_n dX1_brokerCoins_0 rfl (by first | rfl | exact isRef_rf _) ?_
  refine xr_getfield (ci := 13) (T := TX1) (N := 7) (i := 0) hx rfl (by decide) in_X1 q267 (.inl rfl) dX1_brokerCoins_1 (by rfl) ?_
  refine xr_getfieldN (ci := 0) (T := TX2) (N := 10) (i := 5) hK.hq rfl (by decide) in_X2 q201 (.inl rfl) dX1_brokerCoins_4 (by rfl) ?_
  refine xr_ireturn rfl rfl dX1_brokerCoins_7 ?_
  rw [hpo]
  first | exact ⟨rfl, rfl⟩ | exact ⟨ret_bt (by omega), rfl⟩ | exact ⟨ret_bf (by omega), rfl⟩ | exact ⟨ret_i (by omega), rfl⟩
theorem k_X_allCoinsGiven {g : GG} {w : WW} {x : Nat} {n0 : Nat → Prop} {q : Nat} {L : Int → Nat} {P : Int → Int} {N : Int} {v1 v2 v3 v4 v5 v6 : Value} (hG : Base g) (hx : Ob w x 13 [.ref q, v1, v2, v3, v4, v5, v6]) (hK : PK g w n0 q L P) (hB : PB P N) : Ct g yX1_allCoinsGiven (.code yX1_allCoinsGiven cX1_allCoinsGiven 1 (some .int)) 0 0 0 0 w [.ref x] (fun r_ w1 => r_ = some (.int (iI (P 6))) ∧ w1 = w) xF := by
  refine Ct.of (lv := [some _]) hG (by decide +kernel) (Nat.le_of_ble_eq_true rfl) rfl ?_
  intro z hg hpo hxp hnm htab
  subst hg
  refine xr_aload_n dX1_allCoinsGiven_0 rfl (by first | rfl | exact isRef_rf _) ?_
  refine xr_getfield (ci := 13) (T := TX1) (N := 7) (i := 0) hx rfl (by decide) in_X1 q267 (.inl rfl) dX1_allCoinsGiven_1 (by rfl) ?_
  refine xr_getfieldN (ci := 0) (T := TX2) (N := 10) (i := 6) hK.hq rfl (by decide) in_X2 q203 (.inl rfl) dX1_allCoinsGiven_4 (by rfl) ?_
  refine xr_ireturn rfl rfl dX1_allCoinsGiven_7 ?_
  rw [hpo]
  first | exact ⟨rfl, rfl⟩ | exact ⟨ret_bt (by omega), rfl⟩ | exact ⟨ret_bf (by omega), rfl⟩ | exact ⟨ret_i (by omega), rfl⟩
theorem k_X_defaultedLeases {g : GG} {w : WW} {x : Nat} {n0 : Nat → Prop} {q : Nat} {L : Int → Nat} {P : Int → Int} {N : Int} {v1 v2 v3 v4 v5 v6 : Value} (hG : Base g) (hx : Ob w x 13 [.ref q, v1, v2, v3, v4, v5, v6]) (hK : PK g w n0 q L P) (hB : PB P N) : Ct g yX1_defaultedLeases (.code yX1_defaultedLeases cX1_defaultedLeases 1 (some .int)) 0 0 0 0 w [.ref x] (fun r_ w1 => r_ = some (.int (iI (P 7))) ∧ w1 = w) xF := by
  refine Ct.of (lv := [some _]) hG (by decide +kernel) (Nat.le_of_ble_eq_true rfl) rfl ?_
  intro z hg hpo hxp hnm htab
  subst hg
  refine xr_aload_n dX1_defaultedLeases_0 rfl (by first | rfl | exact isRef_rf _) ?_
  refine xr_getfield (ci := 13) (T := TX1) (N := 7) (i := 0) hx rfl (by decide) in_X1 q267 (.inl rfl) dX1_defaultedLeases_1 (by rfl) ?_
  refine xr_getfieldN (ci := 0) (T := TX2) (N := 10) (i := 7) hK.hq rfl (by decide) in_X2 q205 (.inl rfl) dX1_defaultedLeases_4 (by rfl) ?_
  refine xr_ireturn rfl rfl dX1_defaultedLeases_7 ?_
  rw [hpo]
  first | exact ⟨rfl, rfl⟩ | exact ⟨ret_bt (by omega), rfl⟩ | exact ⟨ret_bf (by omega), rfl⟩ | exact ⟨ret_i (by omega), rfl⟩
theorem k_X_terminatedLeases {g : GG} {w : WW} {x : Nat} {n0 : Nat → Prop} {q : Nat} {L : Int → Nat} {P : Int → Int} {N : Int} {v1 v2 v3 v4 v5 v6 : Value} (hG : Base g) (hx : Ob w x 13 [.ref q, v1, v2, v3, v4, v5, v6]) (hK : PK g w n0 q L P) (hB : PB P N) : Ct g yX1_terminatedLeases (.code yX1_terminatedLeases cX1_terminatedLeases 1 (some .int)) 0 0 0 0 w [.ref x] (fun r_ w1 => r_ = some (.int (iI (P 8))) ∧ w1 = w) xF := by
  refine Ct.of (lv := [some _]) hG (by decide +kernel) (Nat.le_of_ble_eq_true rfl) rfl ?_
  intro z hg hpo hxp hnm htab
  subst hg
  refine xr_aload_n dX1_terminatedLeases_0 rfl (by first | rfl | exact isRef_rf _) ?_
  refine xr_getfield (ci := 13) (T := TX1) (N := 7) (i := 0) hx rfl (by decide) in_X1 q267 (.inl rfl) dX1_terminatedLeases_1 (by rfl) ?_
  refine xr_getfieldN (ci := 0) (T := TX2) (N := 10) (i := 8) hK.hq rfl (by decide) in_X2 q207 (.inl rfl) dX1_terminatedLeases_4 (by rfl) ?_
  refine xr_ireturn rfl rfl dX1_terminatedLeases_7 ?_
  rw [hpo]
  first | exact ⟨rfl, rfl⟩ | exact ⟨ret_bt (by omega), rfl⟩ | exact ⟨ret_bf (by omega), rfl⟩ | exact ⟨ret_i (by omega), rfl⟩
theorem k_X_completedLeases {g : GG} {w : WW} {x : Nat} {n0 : Nat → Prop} {q : Nat} {L : Int → Nat} {P : Int → Int} {N : Int} {v1 v2 v3 v4 v5 v6 : Value} (hG : Base g) (hx : Ob w x 13 [.ref q, v1, v2, v3, v4, v5, v6]) (hK : PK g w n0 q L P) (hB : PB P N) : Ct g yX1_completedLeases (.code yX1_completedLeases cX1_completedLeases 1 (some .int)) 0 0 0 0 w [.ref x] (fun r_ w1 => r_ = some (.int (iI (P 9))) ∧ w1 = w) xF := by
  refine Ct.of (lv := [some _]) hG (by decide +kernel) (Nat.le_of_ble_eq_true rfl) rfl ?_
  intro z hg hpo hxp hnm htab
  subst hg
  refine xr_aload_n dX1_completedLeases_0 rfl (by first | rfl | exact isRef_rf _) ?_
  refine xr_getfield (ci := 13) (T := TX1) (N := 7) (i := 0) hx rfl (by decide) in_X1 q267 (.inl rfl) dX1_completedLeases_1 (by rfl) ?_
  refine xr_getfieldN (ci := 0) (T := TX2) (N := 10) (i := 9) hK.hq rfl (by decide) in_X2 q209 (.inl rfl) dX1_completedLeases_4 (by rfl) ?_
  refine xr_ireturn rfl rfl dX1_completedLeases_7 ?_
  rw [hpo]
  first | exact ⟨rfl, rfl⟩ | exact ⟨ret_bt (by omega), rfl⟩ | exact ⟨ret_bf (by omega), rfl⟩ | exact ⟨ret_i (by omega), rfl⟩
theorem k_X_benchCount {g : GG} {w : WW} {x : Nat} {n0 : Nat → Prop} {q : Nat} {L : Int → Nat} {P : Int → Int} {N : Int} {v1 v2 v3 v4 v5 v6 : Value} (hG : Base g) (hx : Ob w x 13 [.ref q, v1, v2, v3, v4, v5, v6]) (hK : PK g w n0 q L P) (hB : PB P N) : Ct g yX1_benchCount (.code yX1_benchCount cX1_benchCount 1 (some .int)) 2 40 0 0 w [.ref x] (fun r_ w1 => r_ = some (.int (iI (P 0))) ∧ w1 = w) xF := by
  refine Ct.of (lv := [some _]) hG (by decide +kernel) (Nat.le_of_ble_eq_true rfl) rfl ?_
  intro z hg hpo hxp hnm htab
  subst hg
  refine xr_aload_n dX1_benchCount_0 rfl (by first | rfl | exact isRef_rf _) ?_
  refine xr_getfield (ci := 13) (T := TX1) (N := 7) (i := 0) hx rfl (by decide) in_X1 q267 (.inl rfl) dX1_benchCount_1 (by rfl) ?_
  refine xr_getfieldN (ci := 0) (T := TX2) (N := 10) (i := 0) hK.hq rfl (by decide) in_X2 q188 (.inl rfl) dX1_benchCount_4 (by rfl) ?_
  refine xr_callV (n9 := 0) (rc' := 0) (rs' := 0) (k_Reg_size hG hK.r0 hK.l0) hK.r0 rfl q293 q294 q295 q88 q296 (by decide +kernel) rfl ⟨by decide, Nat.le_of_ble_eq_true rfl⟩ ⟨Nat.le_of_ble_eq_true rfl, Nat.le_of_ble_eq_true rfl⟩ (Nat.le_of_ble_eq_true rfl) dX1_benchCount_7 rfl (xk_r ?_) (fun _ _ _ h => h.elim)
  refine xr_ireturn rfl rfl dX1_benchCount_10 ?_
  rw [hpo]
  first | exact ⟨rfl, rfl⟩ | exact ⟨ret_bt (by omega), rfl⟩ | exact ⟨ret_bf (by omega), rfl⟩ | exact ⟨ret_i (by omega), rfl⟩
theorem k_X_fountainCount {g : GG} {w : WW} {x : Nat} {n0 : Nat → Prop} {q : Nat} {L : Int → Nat} {P : Int → Int} {N : Int} {v1 v2 v3 v4 v5 v6 : Value} (hG : Base g) (hx : Ob w x 13 [.ref q, v1, v2, v3, v4, v5, v6]) (hK : PK g w n0 q L P) (hB : PB P N) : Ct g yX1_fountainCount (.code yX1_fountainCount cX1_fountainCount 1 (some .int)) 2 40 0 0 w [.ref x] (fun r_ w1 => r_ = some (.int (iI (P 1))) ∧ w1 = w) xF := by
  refine Ct.of (lv := [some _]) hG (by decide +kernel) (Nat.le_of_ble_eq_true rfl) rfl ?_
  intro z hg hpo hxp hnm htab
  subst hg
  refine xr_aload_n dX1_fountainCount_0 rfl (by first | rfl | exact isRef_rf _) ?_
  refine xr_getfield (ci := 13) (T := TX1) (N := 7) (i := 0) hx rfl (by decide) in_X1 q267 (.inl rfl) dX1_fountainCount_1 (by rfl) ?_
  refine xr_getfieldN (ci := 0) (T := TX2) (N := 10) (i := 1) hK.hq rfl (by decide) in_X2 q191 (.inl rfl) dX1_fountainCount_4 (by rfl) ?_
  refine xr_callV (n9 := 0) (rc' := 0) (rs' := 0) (k_Reg_size hG hK.r1 hK.l1) hK.r1 rfl q293 q294 q295 q88 q296 (by decide +kernel) rfl ⟨by decide, Nat.le_of_ble_eq_true rfl⟩ ⟨Nat.le_of_ble_eq_true rfl, Nat.le_of_ble_eq_true rfl⟩ (Nat.le_of_ble_eq_true rfl) dX1_fountainCount_7 rfl (xk_r ?_) (fun _ _ _ h => h.elim)
  refine xr_ireturn rfl rfl dX1_fountainCount_10 ?_
  rw [hpo]
  first | exact ⟨rfl, rfl⟩ | exact ⟨ret_bt (by omega), rfl⟩ | exact ⟨ret_bf (by omega), rfl⟩ | exact ⟨ret_i (by omega), rfl⟩
theorem k_X_tenantCount {g : GG} {w : WW} {x : Nat} {n0 : Nat → Prop} {q : Nat} {L : Int → Nat} {P : Int → Int} {N : Int} {v1 v2 v3 v4 v5 v6 : Value} (hG : Base g) (hx : Ob w x 13 [.ref q, v1, v2, v3, v4, v5, v6]) (hK : PK g w n0 q L P) (hB : PB P N) : Ct g yX1_tenantCount (.code yX1_tenantCount cX1_tenantCount 1 (some .int)) 2 40 0 0 w [.ref x] (fun r_ w1 => r_ = some (.int (iI (P 2))) ∧ w1 = w) xF := by
  refine Ct.of (lv := [some _]) hG (by decide +kernel) (Nat.le_of_ble_eq_true rfl) rfl ?_
  intro z hg hpo hxp hnm htab
  subst hg
  refine xr_aload_n dX1_tenantCount_0 rfl (by first | rfl | exact isRef_rf _) ?_
  refine xr_getfield (ci := 13) (T := TX1) (N := 7) (i := 0) hx rfl (by decide) in_X1 q267 (.inl rfl) dX1_tenantCount_1 (by rfl) ?_
  refine xr_getfieldN (ci := 0) (T := TX2) (N := 10) (i := 2) hK.hq rfl (by decide) in_X2 q195 (.inl rfl) dX1_tenantCount_4 (by rfl) ?_
  refine xr_callV (n9 := 0) (rc' := 0) (rs' := 0) (k_Reg_size hG hK.r2 hK.l2) hK.r2 rfl q293 q294 q295 q88 q296 (by decide +kernel) rfl ⟨by decide, Nat.le_of_ble_eq_true rfl⟩ ⟨Nat.le_of_ble_eq_true rfl, Nat.le_of_ble_eq_true rfl⟩ (Nat.le_of_ble_eq_true rfl) dX1_tenantCount_7 rfl (xk_r ?_) (fun _ _ _ h => h.elim)
  refine xr_ireturn rfl rfl dX1_tenantCount_10 ?_
  rw [hpo]
  first | exact ⟨rfl, rfl⟩ | exact ⟨ret_bt (by omega), rfl⟩ | exact ⟨ret_bf (by omega), rfl⟩ | exact ⟨ret_i (by omega), rfl⟩
theorem k_X_quietCount {g : GG} {w : WW} {x : Nat} {n0 : Nat → Prop} {q : Nat} {L : Int → Nat} {P : Int → Int} {N : Int} {v1 v2 v3 v4 v5 v6 : Value} (hG : Base g) (hx : Ob w x 13 [.ref q, v1, v2, v3, v4, v5, v6]) (hK : PK g w n0 q L P) (hB : PB P N) : Ct g yX1_quietCount (.code yX1_quietCount cX1_quietCount 1 (some .int)) 22 3343 34 67 w [.ref x] (fun r_ w1 => r_ = some (.int (iI (sumR (fun b => if noiseOf P b ≤ P 3 then 1 else 0) 0 (P 0)))) ∧ Mo w.2 w w1) xF := by
  refine Ct.of (lv := [some _]) hG (by decide +kernel) (Nat.le_of_ble_eq_true rfl) rfl ?_
  intro z hg hpo hxp hnm htab
  subst hg
  have hmo : Mo w.2 w w := Mo.rf
  refine xr_aload_n dX1_quietCount_0 rfl (by first | rfl | exact isRef_rf _) ?_
  refine xr_getfield (ci := 13) (T := TX1) (N := 7) (i := 0) hx rfl (by decide) in_X1 q267 (.inl rfl) dX1_quietCount_1 (by rfl) ?_
  refine xr_callV (n9 := 0) (rc' := 0) (rs' := 0) (k_P_quietCount hG hK hB) hK.hq rfl q313 q314 q315 q87 q316 (by decide +kernel) rfl ⟨by decide, Nat.le_of_ble_eq_true rfl⟩ ⟨Nat.le_of_ble_eq_true rfl, Nat.le_of_ble_eq_true rfl⟩ (Nat.le_of_ble_eq_true rfl) dX1_quietCount_4 rfl (xk_e fun w4 hm4 => ?_) (fun _ _ _ h => h.elim)
  have hmo := hmo.tr hm4 hmo.1
  refine xr_ireturn rfl rfl dX1_quietCount_7 ?_
  rw [hpo]
  first | exact ⟨rfl, hmo⟩ | exact ⟨ret_bt (by omega), hmo⟩ | exact ⟨ret_bf (by omega), hmo⟩ | exact ⟨ret_i (by omega), hmo⟩
theorem k_X_depositTotal {g : GG} {w : WW} {x : Nat} {n0 : Nat → Prop} {q : Nat} {L : Int → Nat} {P : Int → Int} {N : Int} {v1 v2 v3 v4 v5 v6 : Value} (hG : Base g) (hx : Ob w x 13 [.ref q, v1, v2, v3, v4, v5, v6]) (hK : PK g w n0 q L P) (hB : PB P N) : Ct g yX1_depositTotal (.code yX1_depositTotal cX1_depositTotal 1 (some .int)) 12 3100 0 0 w [.ref x] (fun r_ w1 => r_ = some (.int (iI (sumR (fun b => P (14 + 6 * b)) 0 (P 0)))) ∧ Mo w.2 w w1) xF := by
  refine Ct.of (lv := [some _]) hG (by decide +kernel) (Nat.le_of_ble_eq_true rfl) rfl ?_
  intro z hg hpo hxp hnm htab
  subst hg
  have hmo : Mo w.2 w w := Mo.rf
  refine xr_aload_n dX1_depositTotal_0 rfl (by first | rfl | exact isRef_rf _) ?_
  refine xr_getfield (ci := 13) (T := TX1) (N := 7) (i := 0) hx rfl (by decide) in_X1 q267 (.inl rfl) dX1_depositTotal_1 (by rfl) ?_
  refine xr_callV (n9 := 0) (rc' := 0) (rs' := 0) (k_P_depositTotal hG hK hB) hK.hq rfl q404 q405 q406 q87 q407 (by decide +kernel) rfl ⟨by decide, Nat.le_of_ble_eq_true rfl⟩ ⟨Nat.le_of_ble_eq_true rfl, Nat.le_of_ble_eq_true rfl⟩ (Nat.le_of_ble_eq_true rfl) dX1_depositTotal_4 rfl (xk_e fun w4 hm4 => ?_) (fun _ _ _ h => h.elim)
  have hmo := hmo.tr hm4 hmo.1
  refine xr_ireturn rfl rfl dX1_depositTotal_7 ?_
  rw [hpo]
  first | exact ⟨rfl, hmo⟩ | exact ⟨ret_bt (by omega), hmo⟩ | exact ⟨ret_bf (by omega), hmo⟩ | exact ⟨ret_i (by omega), hmo⟩
theorem k_X_allCoins {g : GG} {w : WW} {x : Nat} {n0 : Nat → Prop} {q : Nat} {L : Int → Nat} {P : Int → Int} {N : Int} {v1 v2 v3 v4 v5 v6 : Value} (hG : Base g) (hx : Ob w x 13 [.ref q, v1, v2, v3, v4, v5, v6]) (hK : PK g w n0 q L P) (hB : PB P N) : Ct g yX1_allCoins (.code yX1_allCoins cX1_allCoins 1 (some .int)) 13 3120 0 0 w [.ref x] (fun r_ w1 => r_ = some (.int (iI (sumR (fun t => P (86 + 2 * t)) 0 (P 2) + sumR (fun b => P (14 + 6 * b)) 0 (P 0) + P 5))) ∧ Mo w.2 w w1) xF := by
  refine Ct.of (lv := [some _]) hG (by decide +kernel) (Nat.le_of_ble_eq_true rfl) rfl ?_
  intro z hg hpo hxp hnm htab
  subst hg
  have hmo : Mo w.2 w w := Mo.rf
  refine xr_aload_n dX1_allCoins_0 rfl (by first | rfl | exact isRef_rf _) ?_
  refine xr_getfield (ci := 13) (T := TX1) (N := 7) (i := 0) hx rfl (by decide) in_X1 q267 (.inl rfl) dX1_allCoins_1 (by rfl) ?_
  refine xr_callV (n9 := 0) (rc' := 0) (rs' := 0) (k_P_allCoins hG hK hB) hK.hq rfl q414 q415 q416 q87 q417 (by decide +kernel) rfl ⟨by decide, Nat.le_of_ble_eq_true rfl⟩ ⟨Nat.le_of_ble_eq_true rfl, Nat.le_of_ble_eq_true rfl⟩ (Nat.le_of_ble_eq_true rfl) dX1_allCoins_4 rfl (xk_e fun w4 hm4 => ?_) (fun _ _ _ h => h.elim)
  have hmo := hmo.tr hm4 hmo.1
  refine xr_ireturn rfl rfl dX1_allCoins_7 ?_
  rw [hpo]
  first | exact ⟨rfl, hmo⟩ | exact ⟨ret_bt (by omega), hmo⟩ | exact ⟨ret_bf (by omega), hmo⟩ | exact ⟨ret_i (by omega), hmo⟩
theorem k_X_requireBench {g : GG} {w : WW} {x : Nat} {n0 : Nat → Prop} {q : Nat} {L : Int → Nat} {P : Int → Int} {N : Int} {v1 v2 v3 v4 v5 v6 : Value} {b : Int} (hG : Base g) (hx : Ob w x 13 [.ref q, v1, v2, v3, v4, v5, v6]) (hK : PK g w n0 q L P) (hB : PB P N) (hb : (-2147483648 ≤ b ∧ b < 2147483648)) : Ct g yX1_requireBench (.code yX1_requireBench cX1_requireBench 2 (some ((.object "BenchBroker$Bench")))) 7 101 1 6 w [.ref x, .int (iI b)] (fun r_ w1 => (0 ≤ b ∧ b < P 0) ∧ r_ = some (.ref (L (10 + b))) ∧ w1 = w) (fun E a9 w1 => E = "java/lang/IndexOutOfBoundsException" ∧ ¬ (0 ≤ b ∧ b < P 0) ∧ w1 = w) := by
  refine Ct.of (lv := [some _, some _]) hG (by decide +kernel) (Nat.le_of_ble_eq_true rfl) rfl ?_
  intro z hg hpo hxp hnm htab
  subst hg
  refine xr_aload_n dX1_requireBench_0 rfl (by first | rfl | exact isRef_rf _) ?_
  refine xr_getfield (ci := 13) (T := TX1) (N := 7) (i := 0) hx rfl (by decide) in_X1 q267 (.inl rfl) dX1_requireBench_1 (by rfl) ?_
  refine xr_getfieldN (ci := 0) (T := TX2) (N := 10) (i := 0) hK.hq rfl (by decide) in_X2 q188 (.inl rfl) dX1_requireBench_4 (by rfl) ?_
  refine xr_iload_n dX1_requireBench_7 rfl ?_
  refine xr_callV (n9 := 1) (rc' := 1) (rs' := 6) (k_Reg_has hG hK.r0 hK.l0 hb) hK.r0 rfl q1192 q1193 q1194 q88 q1195 (by decide +kernel) rfl ⟨by decide, Nat.le_of_ble_eq_true rfl⟩ ⟨Nat.le_of_ble_eq_true rfl, Nat.le_of_ble_eq_true rfl⟩ (Nat.le_of_ble_eq_true rfl) dX1_requireBench_8 rfl (xk_r ?_) (fun _ _ _ h => h.elim)
  refine xr_callS (n9 := 1) (rc' := 0) (rs' := 0) (k_requireIndex (b := decide (0 ≤ b ∧ b < P 0)) hG) q939 q940 q86 q941 (by decide +kernel) rfl ⟨by decide, Nat.le_of_ble_eq_true rfl⟩ ⟨Nat.le_of_ble_eq_true rfl, Nat.le_of_ble_eq_true rfl⟩ (Nat.le_of_ble_eq_true rfl) dX1_requireBench_11 rfl (xk_req ?_) (xt_req ?_)
  rotate_left
  · skip
    intro q9 hq9
    have hq9 := of_decide_eq_false hq9
    exact xt_out (fun x hx => (htab x hx).elim) (by rw [hxp]; exact ⟨rfl, hq9, rfl⟩)
  intro hb9
  have hc1 := of_decide_eq_true hb9
  refine xr_aload_n dX1_requireBench_14 rfl (by first | rfl | exact isRef_rf _) ?_
  refine xr_getfield (ci := 13) (T := TX1) (N := 7) (i := 0) hx rfl (by decide) in_X1 q267 (.inl rfl) dX1_requireBench_15 (by rfl) ?_
  refine xr_getfieldN (ci := 0) (T := TX2) (N := 10) (i := 0) hK.hq rfl (by decide) in_X2 q188 (.inl rfl) dX1_requireBench_18 (by rfl) ?_
  refine xr_iload_n dX1_requireBench_21 rfl ?_
  refine xr_callV (n9 := 1) (rc' := 0) (rs' := 0) (k_Reg_get hG hK.r0 hK.l0 hc1 rfl (hK.be b hc1.1 hc1.2) rfl q2757) hK.r0 rfl q1072 q474 q475 q88 q476 (by decide +kernel) rfl ⟨by decide, Nat.le_of_ble_eq_true rfl⟩ ⟨Nat.le_of_ble_eq_true rfl, Nat.le_of_ble_eq_true rfl⟩ (Nat.le_of_ble_eq_true rfl) dX1_requireBench_22 rfl (xk_r ?_) (fun _ _ _ h => h.elim)
  refine xr_castS (hK.be b hc1.1 hc1.2) rfl q798 dX1_requireBench_25 ?_
  first | refine xr_areturn rfl rfl dX1_requireBench_28 ?_ | refine xr_areturnN rfl rfl dX1_requireBench_28 ?_
  rw [hpo]
  exact ⟨hc1, rfl, rfl⟩
theorem k_X_requireFountain {g : GG} {w : WW} {x : Nat} {n0 : Nat → Prop} {q : Nat} {L : Int → Nat} {P : Int → Int} {N : Int} {v1 v2 v3 v4 v5 v6 : Value} {b : Int} (hG : Base g) (hx : Ob w x 13 [.ref q, v1, v2, v3, v4, v5, v6]) (hK : PK g w n0 q L P) (hB : PB P N) (hb : (-2147483648 ≤ b ∧ b < 2147483648)) : Ct g yX1_requireFountain (.code yX1_requireFountain cX1_requireFountain 2 (some ((.object "BenchBroker$Fountain")))) 7 101 1 6 w [.ref x, .int (iI b)] (fun r_ w1 => (0 ≤ b ∧ b < P 1) ∧ r_ = some (.ref (L (30 + b))) ∧ w1 = w) (fun E a9 w1 => E = "java/lang/IndexOutOfBoundsException" ∧ ¬ (0 ≤ b ∧ b < P 1) ∧ w1 = w) := by
  refine Ct.of (lv := [some _, some _]) hG (by decide +kernel) (Nat.le_of_ble_eq_true rfl) rfl ?_
  intro z hg hpo hxp hnm htab
  subst hg
  refine xr_aload_n dX1_requireFountain_0 rfl (by first | rfl | exact isRef_rf _) ?_
  refine xr_getfield (ci := 13) (T := TX1) (N := 7) (i := 0) hx rfl (by decide) in_X1 q267 (.inl rfl) dX1_requireFountain_1 (by rfl) ?_
  refine xr_getfieldN (ci := 0) (T := TX2) (N := 10) (i := 1) hK.hq rfl (by decide) in_X2 q191 (.inl rfl) dX1_requireFountain_4 (by rfl) ?_
  refine xr_iload_n dX1_requireFountain_7 rfl ?_
  refine xr_callV (n9 := 1) (rc' := 1) (rs' := 6) (k_Reg_has hG hK.r1 hK.l1 hb) hK.r1 rfl q1192 q1193 q1194 q88 q1195 (by decide +kernel) rfl ⟨by decide, Nat.le_of_ble_eq_true rfl⟩ ⟨Nat.le_of_ble_eq_true rfl, Nat.le_of_ble_eq_true rfl⟩ (Nat.le_of_ble_eq_true rfl) dX1_requireFountain_8 rfl (xk_r ?_) (fun _ _ _ h => h.elim)
  refine xr_callS (n9 := 1) (rc' := 0) (rs' := 0) (k_requireIndex (b := decide (0 ≤ b ∧ b < P 1)) hG) q939 q940 q86 q941 (by decide +kernel) rfl ⟨by decide, Nat.le_of_ble_eq_true rfl⟩ ⟨Nat.le_of_ble_eq_true rfl, Nat.le_of_ble_eq_true rfl⟩ (Nat.le_of_ble_eq_true rfl) dX1_requireFountain_11 rfl (xk_req ?_) (xt_req ?_)
  rotate_left
  · skip
    intro q9 hq9
    have hq9 := of_decide_eq_false hq9
    exact xt_out (fun x hx => (htab x hx).elim) (by rw [hxp]; exact ⟨rfl, hq9, rfl⟩)
  intro hb9
  have hc1 := of_decide_eq_true hb9
  refine xr_aload_n dX1_requireFountain_14 rfl (by first | rfl | exact isRef_rf _) ?_
  refine xr_getfield (ci := 13) (T := TX1) (N := 7) (i := 0) hx rfl (by decide) in_X1 q267 (.inl rfl) dX1_requireFountain_15 (by rfl) ?_
  refine xr_getfieldN (ci := 0) (T := TX2) (N := 10) (i := 1) hK.hq rfl (by decide) in_X2 q191 (.inl rfl) dX1_requireFountain_18 (by rfl) ?_
  refine xr_iload_n dX1_requireFountain_21 rfl ?_
  refine xr_callV (n9 := 1) (rc' := 0) (rs' := 0) (k_Reg_get hG hK.r1 hK.l1 hc1 rfl (hK.fo b hc1.1 hc1.2) rfl q2758) hK.r1 rfl q1072 q474 q475 q88 q476 (by decide +kernel) rfl ⟨by decide, Nat.le_of_ble_eq_true rfl⟩ ⟨Nat.le_of_ble_eq_true rfl, Nat.le_of_ble_eq_true rfl⟩ (Nat.le_of_ble_eq_true rfl) dX1_requireFountain_22 rfl (xk_r ?_) (fun _ _ _ h => h.elim)
  refine xr_castS (hK.fo b hc1.1 hc1.2) rfl q1296 dX1_requireFountain_25 ?_
  first | refine xr_areturn rfl rfl dX1_requireFountain_28 ?_ | refine xr_areturnN rfl rfl dX1_requireFountain_28 ?_
  rw [hpo]
  exact ⟨hc1, rfl, rfl⟩
theorem k_X_requireTenant {g : GG} {w : WW} {x : Nat} {n0 : Nat → Prop} {q : Nat} {L : Int → Nat} {P : Int → Int} {N : Int} {v1 v2 v3 v4 v5 v6 : Value} {b : Int} (hG : Base g) (hx : Ob w x 13 [.ref q, v1, v2, v3, v4, v5, v6]) (hK : PK g w n0 q L P) (hB : PB P N) (hb : (-2147483648 ≤ b ∧ b < 2147483648)) : Ct g yX1_requireTenant (.code yX1_requireTenant cX1_requireTenant 2 (some ((.object "BenchBroker$Tenant")))) 7 101 1 6 w [.ref x, .int (iI b)] (fun r_ w1 => (0 ≤ b ∧ b < P 2) ∧ r_ = some (.ref (L (50 + b))) ∧ w1 = w) (fun E a9 w1 => E = "java/lang/IndexOutOfBoundsException" ∧ ¬ (0 ≤ b ∧ b < P 2) ∧ w1 = w) := by
  refine Ct.of (lv := [some _, some _]) hG (by decide +kernel) (Nat.le_of_ble_eq_true rfl) rfl ?_
  intro z hg hpo hxp hnm htab
  subst hg
  refine xr_aload_n dX1_requireTenant_0 rfl (by first | rfl | exact isRef_rf _) ?_
  refine xr_getfield (ci := 13) (T := TX1) (N := 7) (i := 0) hx rfl (by decide) in_X1 q267 (.inl rfl) dX1_requireTenant_1 (by rfl) ?_
  refine xr_getfieldN (ci := 0) (T := TX2) (N := 10) (i := 2) hK.hq rfl (by decide) in_X2 q195 (.inl rfl) dX1_requireTenant_4 (by rfl) ?_
  refine xr_iload_n dX1_requireTenant_7 rfl ?_
  refine xr_callV (n9 := 1) (rc' := 1) (rs' := 6) (k_Reg_has hG hK.r2 hK.l2 hb) hK.r2 rfl q1192 q1193 q1194 q88 q1195 (by decide +kernel) rfl ⟨by decide, Nat.le_of_ble_eq_true rfl⟩ ⟨Nat.le_of_ble_eq_true rfl, Nat.le_of_ble_eq_true rfl⟩ (Nat.le_of_ble_eq_true rfl) dX1_requireTenant_8 rfl (xk_r ?_) (fun _ _ _ h => h.elim)
  refine xr_callS (n9 := 1) (rc' := 0) (rs' := 0) (k_requireIndex (b := decide (0 ≤ b ∧ b < P 2)) hG) q939 q940 q86 q941 (by decide +kernel) rfl ⟨by decide, Nat.le_of_ble_eq_true rfl⟩ ⟨Nat.le_of_ble_eq_true rfl, Nat.le_of_ble_eq_true rfl⟩ (Nat.le_of_ble_eq_true rfl) dX1_requireTenant_11 rfl (xk_req ?_) (xt_req ?_)
  rotate_left
  · skip
    intro q9 hq9
    have hq9 := of_decide_eq_false hq9
    exact xt_out (fun x hx => (htab x hx).elim) (by rw [hxp]; exact ⟨rfl, hq9, rfl⟩)
  intro hb9
  have hc1 := of_decide_eq_true hb9
  refine xr_aload_n dX1_requireTenant_14 rfl (by first | rfl | exact isRef_rf _) ?_
  refine xr_getfield (ci := 13) (T := TX1) (N := 7) (i := 0) hx rfl (by decide) in_X1 q267 (.inl rfl) dX1_requireTenant_15 (by rfl) ?_
  refine xr_getfieldN (ci := 0) (T := TX2) (N := 10) (i := 2) hK.hq rfl (by decide) in_X2 q195 (.inl rfl) dX1_requireTenant_18 (by rfl) ?_
  refine xr_iload_n dX1_requireTenant_21 rfl ?_
  refine xr_callV (n9 := 1) (rc' := 0) (rs' := 0) (k_Reg_get hG hK.r2 hK.l2 hc1 rfl (hK.te b hc1.1 hc1.2) rfl q2759) hK.r2 rfl q1072 q474 q475 q88 q476 (by decide +kernel) rfl ⟨by decide, Nat.le_of_ble_eq_true rfl⟩ ⟨Nat.le_of_ble_eq_true rfl, Nat.le_of_ble_eq_true rfl⟩ (Nat.le_of_ble_eq_true rfl) dX1_requireTenant_22 rfl (xk_r ?_) (fun _ _ _ h => h.elim)
  refine xr_castS (hK.te b hc1.1 hc1.2) rfl q1362 dX1_requireTenant_25 ?_
  first | refine xr_areturn rfl rfl dX1_requireTenant_28 ?_ | refine xr_areturnN rfl rfl dX1_requireTenant_28 ?_
  rw [hpo]
  exact ⟨hc1, rfl, rfl⟩
theorem k_X_rowOf {g : GG} {w : WW} {x : Nat} {n0 : Nat → Prop} {q : Nat} {L : Int → Nat} {P : Int → Int} {N : Int} {v1 v2 v3 v4 v5 v6 : Value} {b : Int} (hG : Base g) (hx : Ob w x 13 [.ref q, v1, v2, v3, v4, v5, v6]) (hK : PK g w n0 q L P) (hB : PB P N) (hb : (-2147483648 ≤ b ∧ b < 2147483648)) : Ct g yX1_rowOf (.code yX1_rowOf cX1_rowOf 2 (some .int)) 8 122 1 6 w [.ref x, .int (iI b)] (fun r_ w1 => (0 ≤ b ∧ b < P 0) ∧ r_ = some (.int (iI (P (10 + 6 * b)))) ∧ Mo w.2 w w1) (fun E a9 w1 => (E = "java/lang/IndexOutOfBoundsException" ∧ ¬ (0 ≤ b ∧ b < P 0) ∧ Mo w.2 w w1)) := by
  refine Ct.of (lv := [some _, some _]) hG (by decide +kernel) (Nat.le_of_ble_eq_true rfl) rfl ?_
  intro z hg hpo hxp hnm htab
  subst hg
  have hmo : Mo w.2 w w := Mo.rf
  refine xr_aload_n dX1_rowOf_0 rfl (by first | rfl | exact isRef_rf _) ?_
  refine xr_iload_n dX1_rowOf_1 rfl ?_
  refine xr_callV (n9 := 1) (rc' := 0) (rs' := 0) (k_X_requireBench hG hx hK hB hb) hx rfl q1259 q1261 qs19 q86 q1262 (by decide +kernel) rfl ⟨by decide, Nat.le_of_ble_eq_true rfl⟩ ⟨Nat.le_of_ble_eq_true rfl, Nat.le_of_ble_eq_true rfl⟩ (Nat.le_of_ble_eq_true rfl) dX1_rowOf_2 rfl (fun r w2 hw => ?_) ?_
  rotate_left
  · skip
    rintro E q9 w9 ⟨rfl, hn9, rfl⟩
    exact xt_out (fun x hx => (htab x hx).elim) (by rw [hxp]; exact ⟨rfl, hn9, Mo.rf⟩)
  obtain ⟨hb1, rfl, rfl⟩ := hw
  show XJ _ _ _ _ _ _ _ _ _ _ _ _ [.ref (L (10 + b))]
  refine xr_callVU (n9 := 0) (rc' := 0) (rs' := 0) (k_row_B hG (hK.be b hb1.1 hb1.2)) (hK.be b hb1.1 hb1.2) rfl q806 q329 rfl q332 q331 q108 q333 (by decide +kernel) rfl ⟨by decide, Nat.le_of_ble_eq_true rfl⟩ ⟨Nat.le_of_ble_eq_true rfl, Nat.le_of_ble_eq_true rfl⟩ (Nat.le_of_ble_eq_true rfl) dX1_rowOf_5 rfl (xk_r ?_) (fun _ _ _ h => h.elim)
  refine xr_ireturn rfl rfl dX1_rowOf_8 ?_
  rw [hpo]
  exact ⟨hb1, rfl, Mo.rf⟩
theorem k_X_columnOf {g : GG} {w : WW} {x : Nat} {n0 : Nat → Prop} {q : Nat} {L : Int → Nat} {P : Int → Int} {N : Int} {v1 v2 v3 v4 v5 v6 : Value} {b : Int} (hG : Base g) (hx : Ob w x 13 [.ref q, v1, v2, v3, v4, v5, v6]) (hK : PK g w n0 q L P) (hB : PB P N) (hb : (-2147483648 ≤ b ∧ b < 2147483648)) : Ct g yX1_columnOf (.code yX1_columnOf cX1_columnOf 2 (some .int)) 8 122 1 6 w [.ref x, .int (iI b)] (fun r_ w1 => (0 ≤ b ∧ b < P 0) ∧ r_ = some (.int (iI (P (11 + 6 * b)))) ∧ Mo w.2 w w1) (fun E a9 w1 => (E = "java/lang/IndexOutOfBoundsException" ∧ ¬ (0 ≤ b ∧ b < P 0) ∧ Mo w.2 w w1)) := by
  refine Ct.of (lv := [some _, some _]) hG (by decide +kernel) (Nat.le_of_ble_eq_true rfl) rfl ?_
  intro z hg hpo hxp hnm htab
  subst hg
  have hmo : Mo w.2 w w := Mo.rf
  refine xr_aload_n dX1_columnOf_0 rfl (by first | rfl | exact isRef_rf _) ?_
  refine xr_iload_n dX1_columnOf_1 rfl ?_
  refine xr_callV (n9 := 1) (rc' := 0) (rs' := 0) (k_X_requireBench hG hx hK hB hb) hx rfl q1259 q1261 qs19 q86 q1262 (by decide +kernel) rfl ⟨by decide, Nat.le_of_ble_eq_true rfl⟩ ⟨Nat.le_of_ble_eq_true rfl, Nat.le_of_ble_eq_true rfl⟩ (Nat.le_of_ble_eq_true rfl) dX1_columnOf_2 rfl (fun r w2 hw => ?_) ?_
  rotate_left
  · skip
    rintro E q9 w9 ⟨rfl, hn9, rfl⟩
    exact xt_out (fun x hx => (htab x hx).elim) (by rw [hxp]; exact ⟨rfl, hn9, Mo.rf⟩)
  obtain ⟨hb1, rfl, rfl⟩ := hw
  show XJ _ _ _ _ _ _ _ _ _ _ _ _ [.ref (L (10 + b))]
  refine xr_callVU (n9 := 0) (rc' := 0) (rs' := 0) (k_column_B hG (hK.be b hb1.1 hb1.2)) (hK.be b hb1.1 hb1.2) rfl q807 q335 rfl q338 q337 q108 q339 (by decide +kernel) rfl ⟨by decide, Nat.le_of_ble_eq_true rfl⟩ ⟨Nat.le_of_ble_eq_true rfl, Nat.le_of_ble_eq_true rfl⟩ (Nat.le_of_ble_eq_true rfl) dX1_columnOf_5 rfl (xk_r ?_) (fun _ _ _ h => h.elim)
  refine xr_ireturn rfl rfl dX1_columnOf_8 ?_
  rw [hpo]
  exact ⟨hb1, rfl, Mo.rf⟩
theorem k_X_baseRent {g : GG} {w : WW} {x : Nat} {n0 : Nat → Prop} {q : Nat} {L : Int → Nat} {P : Int → Int} {N : Int} {v1 v2 v3 v4 v5 v6 : Value} {b : Int} (hG : Base g) (hx : Ob w x 13 [.ref q, v1, v2, v3, v4, v5, v6]) (hK : PK g w n0 q L P) (hB : PB P N) (hb : (-2147483648 ≤ b ∧ b < 2147483648)) : Ct g yX1_baseRent (.code yX1_baseRent cX1_baseRent 2 (some .int)) 8 122 1 6 w [.ref x, .int (iI b)] (fun r_ w1 => (0 ≤ b ∧ b < P 0) ∧ r_ = some (.int (iI (P (12 + 6 * b)))) ∧ Mo w.2 w w1) (fun E a9 w1 => (E = "java/lang/IndexOutOfBoundsException" ∧ ¬ (0 ≤ b ∧ b < P 0) ∧ Mo w.2 w w1)) := by
  refine Ct.of (lv := [some _, some _]) hG (by decide +kernel) (Nat.le_of_ble_eq_true rfl) rfl ?_
  intro z hg hpo hxp hnm htab
  subst hg
  have hmo : Mo w.2 w w := Mo.rf
  refine xr_aload_n dX1_baseRent_0 rfl (by first | rfl | exact isRef_rf _) ?_
  refine xr_iload_n dX1_baseRent_1 rfl ?_
  refine xr_callV (n9 := 1) (rc' := 0) (rs' := 0) (k_X_requireBench hG hx hK hB hb) hx rfl q1259 q1261 qs19 q86 q1262 (by decide +kernel) rfl ⟨by decide, Nat.le_of_ble_eq_true rfl⟩ ⟨Nat.le_of_ble_eq_true rfl, Nat.le_of_ble_eq_true rfl⟩ (Nat.le_of_ble_eq_true rfl) dX1_baseRent_2 rfl (fun r w2 hw => ?_) ?_
  rotate_left
  · skip
    rintro E q9 w9 ⟨rfl, hn9, rfl⟩
    exact xt_out (fun x hx => (htab x hx).elim) (by rw [hxp]; exact ⟨rfl, hn9, Mo.rf⟩)
  obtain ⟨hb1, rfl, rfl⟩ := hw
  show XJ _ _ _ _ _ _ _ _ _ _ _ _ [.ref (L (10 + b))]
  refine xr_getfieldN (ci := 3) (T := TX10) (N := 7) (i := 3) (hK.be b hb1.1 hb1.2) rfl (by decide) in_X10 q813 (.inl rfl) dX1_baseRent_5 (by rfl) ?_
  refine xr_ireturn rfl rfl dX1_baseRent_8 ?_
  rw [hpo]
  exact ⟨hb1, rfl, Mo.rf⟩
theorem k_X_rentOf {g : GG} {w : WW} {x : Nat} {n0 : Nat → Prop} {q : Nat} {L : Int → Nat} {P : Int → Int} {N : Int} {v1 v2 v3 v4 v5 v6 : Value} {b : Int} (hG : Base g) (hx : Ob w x 13 [.ref q, v1, v2, v3, v4, v5, v6]) (hK : PK g w n0 q L P) (hB : PB P N) (hb : (-2147483648 ≤ b ∧ b < 2147483648)) : Ct g yX1_rentOf (.code yX1_rentOf cX1_rentOf 2 (some .int)) 14 3144 2 8 w [.ref x, .int (iI b)] (fun r_ w1 => (0 ≤ b ∧ b < P 0) ∧ r_ = some (.int (iI (rent P b))) ∧ Mo w.2 w w1) (fun E a9 w1 => (E = "java/lang/IndexOutOfBoundsException" ∧ ¬ (0 ≤ b ∧ b < P 0) ∧ Mo w.2 w w1)) := by
  refine Ct.of (lv := [some _, some _]) hG (by decide +kernel) (Nat.le_of_ble_eq_true rfl) rfl ?_
  intro z hg hpo hxp hnm htab
  subst hg
  have hmo : Mo w.2 w w := Mo.rf
  refine xr_aload_n dX1_rentOf_0 rfl (by first | rfl | exact isRef_rf _) ?_
  refine xr_getfield (ci := 13) (T := TX1) (N := 7) (i := 0) hx rfl (by decide) in_X1 q267 (.inl rfl) dX1_rentOf_1 (by rfl) ?_
  refine xr_aload_n dX1_rentOf_4 rfl (by first | rfl | exact isRef_rf _) ?_
  refine xr_iload_n dX1_rentOf_5 rfl ?_
  refine xr_callV (n9 := 1) (rc' := 1) (rs' := 2) (k_X_requireBench hG hx hK hB hb) hx rfl q1259 q1261 qs19 q86 q1262 (by decide +kernel) rfl ⟨by decide, Nat.le_of_ble_eq_true rfl⟩ ⟨Nat.le_of_ble_eq_true rfl, Nat.le_of_ble_eq_true rfl⟩ (Nat.le_of_ble_eq_true rfl) dX1_rentOf_6 rfl (fun r w6 hw => ?_) ?_
  rotate_left
  · skip
    rintro E q9 w9 ⟨rfl, hn9, rfl⟩
    exact xt_out (fun x hx => (htab x hx).elim) (by rw [hxp]; exact ⟨rfl, hn9, Mo.rf⟩)
  obtain ⟨hb1, rfl, rfl⟩ := hw
  show XJ _ _ _ _ _ _ _ _ _ _ _ _ [.ref (L (10 + b)), _]
  refine xr_callV (n9 := 1) (rc' := 0) (rs' := 0) (k_P_rentOf hG hK hB hb1) hK.hq rfl q1284 q873 q874 q87 q875 (by decide +kernel) rfl ⟨by decide, Nat.le_of_ble_eq_true rfl⟩ ⟨Nat.le_of_ble_eq_true rfl, Nat.le_of_ble_eq_true rfl⟩ (Nat.le_of_ble_eq_true rfl) dX1_rentOf_9 rfl (xk_e fun w9 hm9 => ?_) (fun _ _ _ h => h.elim)
  refine xr_ireturn rfl rfl dX1_rentOf_12 ?_
  rw [hpo]
  exact ⟨hb1, rfl, hm9⟩
theorem k_X_isQuiet {g : GG} {w : WW} {x : Nat} {n0 : Nat → Prop} {q : Nat} {L : Int → Nat} {P : Int → Int} {N : Int} {v1 v2 v3 v4 v5 v6 : Value} {b : Int} (hG : Base g) (hx : Ob w x 13 [.ref q, v1, v2, v3, v4, v5, v6]) (hK : PK g w n0 q L P) (hB : PB P N) (hb : (-2147483648 ≤ b ∧ b < 2147483648)) : Ct g yX1_isQuiet (.code yX1_isQuiet cX1_isQuiet 2 (some .boolean)) 14 3144 2 8 w [.ref x, .int (iI b)] (fun r_ w1 => (0 ≤ b ∧ b < P 0) ∧ r_ = some (.int (bI (decide (noiseOf P b ≤ P 3)))) ∧ Mo w.2 w w1) (fun E a9 w1 => (E = "java/lang/IndexOutOfBoundsException" ∧ ¬ (0 ≤ b ∧ b < P 0) ∧ Mo w.2 w w1)) := by
  refine Ct.of (lv := [some _, some _]) hG (by decide +kernel) (Nat.le_of_ble_eq_true rfl) rfl ?_
  intro z hg hpo hxp hnm htab
  subst hg
  have hmo : Mo w.2 w w := Mo.rf
  refine xr_aload_n dX1_isQuiet_0 rfl (by first | rfl | exact isRef_rf _) ?_
  refine xr_getfield (ci := 13) (T := TX1) (N := 7) (i := 0) hx rfl (by decide) in_X1 q267 (.inl rfl) dX1_isQuiet_1 (by rfl) ?_
  refine xr_aload_n dX1_isQuiet_4 rfl (by first | rfl | exact isRef_rf _) ?_
  refine xr_iload_n dX1_isQuiet_5 rfl ?_
  refine xr_callV (n9 := 1) (rc' := 1) (rs' := 2) (k_X_requireBench hG hx hK hB hb) hx rfl q1259 q1261 qs19 q86 q1262 (by decide +kernel) rfl ⟨by decide, Nat.le_of_ble_eq_true rfl⟩ ⟨Nat.le_of_ble_eq_true rfl, Nat.le_of_ble_eq_true rfl⟩ (Nat.le_of_ble_eq_true rfl) dX1_isQuiet_6 rfl (fun r w6 hw => ?_) ?_
  rotate_left
  · skip
    rintro E q9 w9 ⟨rfl, hn9, rfl⟩
    exact xt_out (fun x hx => (htab x hx).elim) (by rw [hxp]; exact ⟨rfl, hn9, Mo.rf⟩)
  obtain ⟨hb1, rfl, rfl⟩ := hw
  show XJ _ _ _ _ _ _ _ _ _ _ _ _ [.ref (L (10 + b)), _]
  refine xr_callV (n9 := 1) (rc' := 0) (rs' := 0) (k_P_isQuiet hG hK hB hb1) hK.hq rfl q1330 q321 q322 q87 q323 (by decide +kernel) rfl ⟨by decide, Nat.le_of_ble_eq_true rfl⟩ ⟨Nat.le_of_ble_eq_true rfl, Nat.le_of_ble_eq_true rfl⟩ (Nat.le_of_ble_eq_true rfl) dX1_isQuiet_9 rfl (xk_e fun w9 hm9 => ?_) (fun _ _ _ h => h.elim)
  refine xr_ireturn rfl (by first | rfl | exact nar_bI _ | decide +kernel) dX1_isQuiet_12 ?_
  rw [hpo]
  exact ⟨hb1, rfl, hm9⟩
theorem k_X_loudnessOf {g : GG} {w : WW} {x : Nat} {n0 : Nat → Prop} {q : Nat} {L : Int → Nat} {P : Int → Int} {N : Int} {v1 v2 v3 v4 v5 v6 : Value} {f : Int} (hG : Base g) (hx : Ob w x 13 [.ref q, v1, v2, v3, v4, v5, v6]) (hK : PK g w n0 q L P) (hB : PB P N) (hf : (-2147483648 ≤ f ∧ f < 2147483648)) : Ct g yX1_loudnessOf (.code yX1_loudnessOf cX1_loudnessOf 2 (some .int)) 8 122 1 6 w [.ref x, .int (iI f)] (fun r_ w1 => (0 ≤ f ∧ f < P 1) ∧ r_ = some (.int (iI (P (72 + 4 * f)))) ∧ Mo w.2 w w1) (fun E a9 w1 => (E = "java/lang/IndexOutOfBoundsException" ∧ ¬ (0 ≤ f ∧ f < P 1) ∧ Mo w.2 w w1)) := by
  refine Ct.of (lv := [some _, some _]) hG (by decide +kernel) (Nat.le_of_ble_eq_true rfl) rfl ?_
  intro z hg hpo hxp hnm htab
  subst hg
  have hmo : Mo w.2 w w := Mo.rf
  refine xr_aload_n dX1_loudnessOf_0 rfl (by first | rfl | exact isRef_rf _) ?_
  refine xr_iload_n dX1_loudnessOf_1 rfl ?_
  refine xr_callV (n9 := 1) (rc' := 0) (rs' := 0) (k_X_requireFountain hG hx hK hB hf) hx rfl q1292 q1294 qs20 q86 q1295 (by decide +kernel) rfl ⟨by decide, Nat.le_of_ble_eq_true rfl⟩ ⟨Nat.le_of_ble_eq_true rfl, Nat.le_of_ble_eq_true rfl⟩ (Nat.le_of_ble_eq_true rfl) dX1_loudnessOf_2 rfl (fun r w2 hw => ?_) ?_
  rotate_left
  · skip
    rintro E q9 w9 ⟨rfl, hn9, rfl⟩
    exact xt_out (fun x hx => (htab x hx).elim) (by rw [hxp]; exact ⟨rfl, hn9, Mo.rf⟩)
  obtain ⟨hf1, rfl, rfl⟩ := hw
  show XJ _ _ _ _ _ _ _ _ _ _ _ _ [.ref (L (30 + f))]
  refine xr_getfieldN (ci := 4) (T := TX9) (N := 5) (i := 3) (hK.fo f hf1.1 hf1.2) rfl (by decide) in_X9 q745 (.inl rfl) dX1_loudnessOf_5 (by rfl) ?_
  refine xr_ireturn rfl rfl dX1_loudnessOf_8 ?_
  rw [hpo]
  exact ⟨hf1, rfl, Mo.rf⟩
theorem k_X_isRunning {g : GG} {w : WW} {x : Nat} {n0 : Nat → Prop} {q : Nat} {L : Int → Nat} {P : Int → Int} {N : Int} {v1 v2 v3 v4 v5 v6 : Value} {f : Int} (hG : Base g) (hx : Ob w x 13 [.ref q, v1, v2, v3, v4, v5, v6]) (hK : PK g w n0 q L P) (hB : PB P N) (hf : (-2147483648 ≤ f ∧ f < 2147483648)) : Ct g yX1_isRunning (.code yX1_isRunning cX1_isRunning 2 (some .boolean)) 8 122 1 6 w [.ref x, .int (iI f)] (fun r_ w1 => (0 ≤ f ∧ f < P 1) ∧ r_ = some (.int (bI (decide (P (73 + 4 * f) = 1)))) ∧ Mo w.2 w w1) (fun E a9 w1 => (E = "java/lang/IndexOutOfBoundsException" ∧ ¬ (0 ≤ f ∧ f < P 1) ∧ Mo w.2 w w1)) := by
  refine Ct.of (lv := [some _, some _]) hG (by decide +kernel) (Nat.le_of_ble_eq_true rfl) rfl ?_
  intro z hg hpo hxp hnm htab
  subst hg
  have hmo : Mo w.2 w w := Mo.rf
  refine xr_aload_n dX1_isRunning_0 rfl (by first | rfl | exact isRef_rf _) ?_
  refine xr_iload_n dX1_isRunning_1 rfl ?_
  refine xr_callV (n9 := 1) (rc' := 0) (rs' := 0) (k_X_requireFountain hG hx hK hB hf) hx rfl q1292 q1294 qs20 q86 q1295 (by decide +kernel) rfl ⟨by decide, Nat.le_of_ble_eq_true rfl⟩ ⟨Nat.le_of_ble_eq_true rfl, Nat.le_of_ble_eq_true rfl⟩ (Nat.le_of_ble_eq_true rfl) dX1_isRunning_2 rfl (fun r w2 hw => ?_) ?_
  rotate_left
  · skip
    rintro E q9 w9 ⟨rfl, hn9, rfl⟩
    exact xt_out (fun x hx => (htab x hx).elim) (by rw [hxp]; exact ⟨rfl, hn9, Mo.rf⟩)
  obtain ⟨hf1, rfl, rfl⟩ := hw
  show XJ _ _ _ _ _ _ _ _ _ _ _ _ [.ref (L (30 + f))]
  refine xr_getfieldN (ci := 4) (T := TX9) (N := 5) (i := 4) (hK.fo f hf1.1 hf1.2) rfl (by decide) in_X9 q748 (.inl rfl) dX1_isRunning_5 (by rfl) ?_
  refine xr_ireturn rfl (by first | rfl | exact nar_bI _ | decide +kernel) dX1_isRunning_8 ?_
  rw [hpo]
  exact ⟨hf1, rfl, Mo.rf⟩
theorem k_X_coinsOf {g : GG} {w : WW} {x : Nat} {n0 : Nat → Prop} {q : Nat} {L : Int → Nat} {P : Int → Int} {N : Int} {v1 v2 v3 v4 v5 v6 : Value} {t : Int} (hG : Base g) (hx : Ob w x 13 [.ref q, v1, v2, v3, v4, v5, v6]) (hK : PK g w n0 q L P) (hB : PB P N) (ht : (-2147483648 ≤ t ∧ t < 2147483648)) : Ct g yX1_coinsOf (.code yX1_coinsOf cX1_coinsOf 2 (some .int)) 8 122 1 6 w [.ref x, .int (iI t)] (fun r_ w1 => (0 ≤ t ∧ t < P 2) ∧ r_ = some (.int (iI (P (86 + 2 * t)))) ∧ Mo w.2 w w1) (fun E a9 w1 => (E = "java/lang/IndexOutOfBoundsException" ∧ ¬ (0 ≤ t ∧ t < P 2) ∧ Mo w.2 w w1)) := by
  refine Ct.of (lv := [some _, some _]) hG (by decide +kernel) (Nat.le_of_ble_eq_true rfl) rfl ?_
  intro z hg hpo hxp hnm htab
  subst hg
  have hmo : Mo w.2 w w := Mo.rf
  refine xr_aload_n dX1_coinsOf_0 rfl (by first | rfl | exact isRef_rf _) ?_
  refine xr_iload_n dX1_coinsOf_1 rfl ?_
  refine xr_callV (n9 := 1) (rc' := 0) (rs' := 0) (k_X_requireTenant hG hx hK hB ht) hx rfl q1358 q1360 qs21 q86 q1361 (by decide +kernel) rfl ⟨by decide, Nat.le_of_ble_eq_true rfl⟩ ⟨Nat.le_of_ble_eq_true rfl, Nat.le_of_ble_eq_true rfl⟩ (Nat.le_of_ble_eq_true rfl) dX1_coinsOf_2 rfl (fun r w2 hw => ?_) ?_
  rotate_left
  · skip
    rintro E q9 w9 ⟨rfl, hn9, rfl⟩
    exact xt_out (fun x hx => (htab x hx).elim) (by rw [hxp]; exact ⟨rfl, hn9, Mo.rf⟩)
  obtain ⟨ht1, rfl, rfl⟩ := hw
  show XJ _ _ _ _ _ _ _ _ _ _ _ _ [.ref (L (50 + t))]
  refine xr_getfieldN (ci := 5) (T := TX11) (N := 4) (i := 1) (hK.te t ht1.1 ht1.2) rfl (by decide) in_X11 q844 (.inl rfl) dX1_coinsOf_5 (by rfl) ?_
  refine xr_ireturn rfl rfl dX1_coinsOf_8 ?_
  rw [hpo]
  exact ⟨ht1, rfl, Mo.rf⟩
theorem k_X_defaultsOf {g : GG} {w : WW} {x : Nat} {n0 : Nat → Prop} {q : Nat} {L : Int → Nat} {P : Int → Int} {N : Int} {v1 v2 v3 v4 v5 v6 : Value} {t : Int} (hG : Base g) (hx : Ob w x 13 [.ref q, v1, v2, v3, v4, v5, v6]) (hK : PK g w n0 q L P) (hB : PB P N) (ht : (-2147483648 ≤ t ∧ t < 2147483648)) : Ct g yX1_defaultsOf (.code yX1_defaultsOf cX1_defaultsOf 2 (some .int)) 8 122 1 6 w [.ref x, .int (iI t)] (fun r_ w1 => (0 ≤ t ∧ t < P 2) ∧ r_ = some (.int (iI (P (87 + 2 * t)))) ∧ Mo w.2 w w1) (fun E a9 w1 => (E = "java/lang/IndexOutOfBoundsException" ∧ ¬ (0 ≤ t ∧ t < P 2) ∧ Mo w.2 w w1)) := by
  refine Ct.of (lv := [some _, some _]) hG (by decide +kernel) (Nat.le_of_ble_eq_true rfl) rfl ?_
  intro z hg hpo hxp hnm htab
  subst hg
  have hmo : Mo w.2 w w := Mo.rf
  refine xr_aload_n dX1_defaultsOf_0 rfl (by first | rfl | exact isRef_rf _) ?_
  refine xr_iload_n dX1_defaultsOf_1 rfl ?_
  refine xr_callV (n9 := 1) (rc' := 0) (rs' := 0) (k_X_requireTenant hG hx hK hB ht) hx rfl q1358 q1360 qs21 q86 q1361 (by decide +kernel) rfl ⟨by decide, Nat.le_of_ble_eq_true rfl⟩ ⟨Nat.le_of_ble_eq_true rfl, Nat.le_of_ble_eq_true rfl⟩ (Nat.le_of_ble_eq_true rfl) dX1_defaultsOf_2 rfl (fun r w2 hw => ?_) ?_
  rotate_left
  · skip
    rintro E q9 w9 ⟨rfl, hn9, rfl⟩
    exact xt_out (fun x hx => (htab x hx).elim) (by rw [hxp]; exact ⟨rfl, hn9, Mo.rf⟩)
  obtain ⟨ht1, rfl, rfl⟩ := hw
  show XJ _ _ _ _ _ _ _ _ _ _ _ _ [.ref (L (50 + t))]
  refine xr_getfieldN (ci := 5) (T := TX11) (N := 4) (i := 2) (hK.te t ht1.1 ht1.2) rfl (by decide) in_X11 q847 (.inl rfl) dX1_defaultsOf_5 (by rfl) ?_
  refine xr_ireturn rfl rfl dX1_defaultsOf_8 ?_
  rw [hpo]
  exact ⟨ht1, rfl, Mo.rf⟩
theorem k_X_isLet {g : GG} {w : WW} {x : Nat} {n0 : Nat → Prop} {q : Nat} {L : Int → Nat} {P : Int → Int} {N : Int} {v1 v2 v3 v4 v5 v6 : Value} {b : Int} (hG : Base g) (hx : Ob w x 13 [.ref q, v1, v2, v3, v4, v5, v6]) (hK : PK g w n0 q L P) (hB : PB P N) (hb : (-2147483648 ≤ b ∧ b < 2147483648)) : Ct g yX1_isLet (.code yX1_isLet cX1_isLet 2 (some .boolean)) 8 122 1 6 w [.ref x, .int (iI b)] (fun r_ w1 => (0 ≤ b ∧ b < P 0) ∧ r_ = some (.int (bI (decide (P (13 + 6 * b) ≠ 0)))) ∧ Mo w.2 w w1) (fun E a9 w1 => (E = "java/lang/IndexOutOfBoundsException" ∧ ¬ (0 ≤ b ∧ b < P 0) ∧ Mo w.2 w w1)) := by
  refine Ct.of (lv := [some _, some _]) hG (by decide +kernel) (Nat.le_of_ble_eq_true rfl) rfl ?_
  intro z hg hpo hxp hnm htab
  subst hg
  have hmo : Mo w.2 w w := Mo.rf
  refine xr_aload_n dX1_isLet_0 rfl (by first | rfl | exact isRef_rf _) ?_
  refine xr_iload_n dX1_isLet_1 rfl ?_
  refine xr_callV (n9 := 1) (rc' := 0) (rs' := 0) (k_X_requireBench hG hx hK hB hb) hx rfl q1259 q1261 qs19 q86 q1262 (by decide +kernel) rfl ⟨by decide, Nat.le_of_ble_eq_true rfl⟩ ⟨Nat.le_of_ble_eq_true rfl, Nat.le_of_ble_eq_true rfl⟩ (Nat.le_of_ble_eq_true rfl) dX1_isLet_2 rfl (fun r w2 hw => ?_) ?_
  rotate_left
  · skip
    rintro E q9 w9 ⟨rfl, hn9, rfl⟩
    exact xt_out (fun x hx => (htab x hx).elim) (by rw [hxp]; exact ⟨rfl, hn9, Mo.rf⟩)
  obtain ⟨hb1, rfl, rfl⟩ := hw
  show XJ _ _ _ _ _ _ _ _ _ _ _ _ [.ref (L (10 + b))]
  refine xr_callV (n9 := 0) (rc' := 0) (rs' := 0) (k_B_isLet hG (hK.be b hb1.1 hb1.2)) (hK.be b hb1.1 hb1.2) rfl q1449 q717 q718 q114 q719 (by decide +kernel) rfl ⟨by decide, Nat.le_of_ble_eq_true rfl⟩ ⟨Nat.le_of_ble_eq_true rfl, Nat.le_of_ble_eq_true rfl⟩ (Nat.le_of_ble_eq_true rfl) dX1_isLet_5 rfl (xk_r ?_) (fun _ _ _ h => h.elim)
  rw [opt_is]
  refine xr_ireturn rfl (by first | rfl | exact nar_bI _ | decide +kernel) dX1_isLet_8 ?_
  rw [hpo]
  exact ⟨hb1, rfl, Mo.rf⟩
