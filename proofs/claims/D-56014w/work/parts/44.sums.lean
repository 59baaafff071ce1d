/-! 44.sums.lean.txt (written by tools/walker.py)  -/
set_option maxRecDepth 100000
theorem k_sumB {g : GG} {w : WW} {r l arr v : Nat} {n : Int} {f : Int → Option Nat} {F : Int → Int} (hG : Base g) (hr : Ob w r 1 [.ref l]) (hA : AL g w l arr n f) (hit : ∀ k : Int, 0 ≤ k → k < n → ∃ (y ci : Nat) (fs : List Value) (qc : vw_C), f k = some y ∧ Ob w y ci fs ∧ vwCl[ci]? = some qc ∧ Cond.castable qc.1 "BenchBroker$Item" ∈ lw_tbl) (hV : ∀ w' : WW, Mo w.2 w w' → ∀ (k : Int) (y : Nat), 0 ≤ k → k < n → f k = some y → LV g ⟨"BenchBroker$Value", "of", "(LBenchBroker$Item;)I"⟩ 20 3300 3 6 w' v [y] (iI (F k))) : Ct g yX3_sum (.code yX3_sum cX3_sum 4 (some .int)) 20 3300 33 66 w [.ref r, .ref v] (fun r_ w1 => r_ = some (.int (iI (sumR F 0 n))) ∧ Mo w.2 w w1) xF := by
  refine Ct.of (lv := [some _, some _, none, none]) hG (by decide +kernel) (Nat.le_of_ble_eq_true rfl) rfl ?_
  intro z hg hpo hxp hnm htab
  subst hg
  have hmo : Mo w.2 w w := Mo.rf
  have hn := hA.lt
  refine xr_iconst dX3_sum_0 ?_
  refine xr_istore_n (lv' := [some _, some _, some _, none]) dX3_sum_1 (by decide) rfl rfl ?_
  refine xr_iconst dX3_sum_2 ?_
  refine xr_istore_n (lv' := [some _, some _, some _, some _]) dX3_sum_3 (by decide) rfl rfl ?_
  have lp4 : ∀ (fu4 : Nat) (w9 : WW) (acc k : Int), 0 ≤ k → k ≤ n → n - k < fu4 → Mo w.2 w w9 → acc + sumR F k n = sumR F 0 n → XJ z yX3_sum.cls cX3_sum 4 (some .int) 20 3300 w9 (3 * fu4 + 0) (6 * fu4 + 0) 4 [some (.ref r), some (.ref v), some (.int (iI acc)), some (.int (iI k))] [] := by
    intro fu4
    induction fu4 with
    | zero =>
      intro w9 acc k hk0 hkn hfu hmo hac
      omega
    | succ fu4 ih4 =>
      intro w9 acc k hk0 hkn hfu hmo hac
      have hr9 := hr.ext hmo
      have hA9 := hA.ext hmo
      obtain ⟨mm, hol⟩ := hA9.ob
      refine xr_iload_n dX3_sum_4 rfl ?_
      refine xr_aload_n dX3_sum_5 rfl (by first | rfl | exact isRef_rf _) ?_
      refine xr_getfield (ci := 1) (T := TX3) (N := 1) (i := 0) (by assumption) rfl (by decide) in_X3 q182 (.inl rfl) dX3_sum_6 (by rfl) ?_
      refine xr_callV (n9 := 0) (rc' := 3 * fu4 + 3) (rs' := 6 * fu4 + 6) (k_AL_size hG hA9) hol rfl q297 q298 q299 q91 q300 (by decide +kernel) rfl ⟨by decide, Nat.le_of_ble_eq_true rfl⟩ ⟨by omega, by omega⟩ (Nat.le_of_ble_eq_true rfl) dX3_sum_9 rfl (xk_r ?_) (fun _ _ _ h => h.elim)
      refine xr_icmp_ge (tgt := 41) dX3_sum_12 (by decide) (by omega) (fun c12 => ?_) (fun c12 => ?_)
      · skip
        refine xr_iload_n dX3_sum_41 rfl ?_
        refine xr_ireturn rfl rfl dX3_sum_42 ?_
        rw [hpo]
        exact ⟨by rw [← hac, sumR_ge (by omega), Int.add_zero], hmo⟩
      · skip
        obtain ⟨y, ci, fs, qc, hfy, hoy, hqc, hcast⟩ := hit k hk0 (by omega)
        have hoy9 := hoy.ext hmo
        refine xr_iload_n dX3_sum_15 rfl ?_
        refine xr_aload_n dX3_sum_16 rfl (by first | rfl | exact isRef_rf _) ?_
        refine xr_aload_n dX3_sum_17 rfl (by first | rfl | exact isRef_rf _) ?_
        refine xr_getfield (ci := 1) (T := TX3) (N := 1) (i := 0) (by assumption) rfl (by decide) in_X3 q182 (.inl rfl) dX3_sum_18 (by rfl) ?_
        refine xr_iload_n dX3_sum_21 rfl ?_
        refine xr_callV (n9 := 1) (rc' := 3 * fu4 + 3) (rs' := 6 * fu4 + 6) (k_AL_get hG hA9 ⟨hk0, by omega⟩ hfy) hol rfl q366 q367 q368 q91 q369 (by decide +kernel) rfl ⟨by decide, Nat.le_of_ble_eq_true rfl⟩ ⟨by omega, by omega⟩ (Nat.le_of_ble_eq_true rfl) dX3_sum_22 rfl (xk_r ?_) (fun _ _ _ h => h.elim)
        refine xr_castY hoy9 hqc q380 hcast dX3_sum_25 ?_
        refine hV w9 hmo k y hk0 (by omega) hfy z _ _ _ _ _ _ _ _ (3 * fu4 + 0) (6 * fu4 + 0) _ _ _ _ _ _ rfl q382 ⟨Nat.le_of_ble_eq_true rfl, Nat.le_of_ble_eq_true rfl⟩ ⟨by omega, by omega⟩ (Nat.le_of_ble_eq_true rfl) dX3_sum_28 rfl (fun w28 hm28 => ?_)
        have hmo := hmo.tr hm28 hmo.1
        refine xr_iadd dX3_sum_33 ?_
        refine xr_istore_n (lv' := [some _, some _, some _, some _]) dX3_sum_34 (by decide) rfl rfl ?_
        refine xr_iinc (lv' := [some _, some _, some _, some _]) dX3_sum_35 rfl (by decide) rfl rfl ?_
        refine xr_goto (tgt := 4) dX3_sum_38 (by decide) ?_
        refine xr_wk (rc' := 3 * fu4 + 0) (rs' := 6 * fu4 + 0) ⟨by omega, by omega⟩ (ih4 _ _ _ (by omega) (by omega) (by omega) hmo (by rw [← hac, sumR_lt (show k < n by omega)]; omega))
  refine xr_wk (rc' := 3 * 11 + 0) (rs' := 6 * 11 + 0) ⟨by omega, by omega⟩ (lp4 11 _ _ _ (by omega) (by omega) (by omega) Mo.rf (by omega))
theorem k_lam1 {g : GG} {w : WW} {n0 : Nat → Prop} {q : Nat} {L : Int → Nat} {P : Int → Int} {N : Int} {b : Int} (hG : Base g) (hK : PK g w n0 q L P) (hB : PB P N) (hb : 0 ≤ b ∧ b < P 0) : Ct g yX2_lambda_quietCount_5 (.code yX2_lambda_quietCount_5 cX2_lambda_quietCount_5 2 (some .int)) 14 3144 1 2 w [.ref q, .ref (L (10 + b))] (fun r_ w1 => r_ = some (.int (bI (decide (noiseOf P b ≤ P 3)))) ∧ Mo w.2 w w1) xF := by
  refine Ct.of (lv := [some _, some _]) hG (by decide +kernel) (Nat.le_of_ble_eq_true rfl) rfl ?_
  intro z hg hpo hxp hnm htab
  subst hg
  have hmo : Mo w.2 w w := Mo.rf
  refine xr_aload_n dX2_lambda_quietCount_5_0 rfl (by first | rfl | exact isRef_rf _) ?_
  refine xr_aload_n dX2_lambda_quietCount_5_1 rfl (by first | rfl | exact isRef_rf _) ?_
  refine xr_callV (n9 := 1) (rc' := 0) (rs' := 0) (k_P_isQuiet hG hK hB hb) hK.hq rfl q320 q321 q322 q87 q323 (by decide +kernel) rfl ⟨by decide, Nat.le_of_ble_eq_true rfl⟩ ⟨Nat.le_of_ble_eq_true rfl, Nat.le_of_ble_eq_true rfl⟩ (Nat.le_of_ble_eq_true rfl) dX2_lambda_quietCount_5_2 rfl (xk_e fun w2 hm2 => ?_) (fun _ _ _ h => h.elim)
  have hmo := hmo.tr hm2 hmo.1
  have hK := hK.ext hm2
  refine xr_callSN (n9 := 1) (rc' := 0) (rs' := 0) (k_asInt hG) q385 q386 q86 q387 (by decide +kernel) rfl ⟨by decide, Nat.le_of_ble_eq_true rfl⟩ ⟨Nat.le_of_ble_eq_true rfl, Nat.le_of_ble_eq_true rfl⟩ (Nat.le_of_ble_eq_true rfl) dX2_lambda_quietCount_5_5 rfl (xk_r ?_) (fun _ _ _ h => h.elim)
  refine xr_ireturn rfl rfl dX2_lambda_quietCount_5_8 ?_
  rw [hpo]
  first | exact ⟨rfl, hmo⟩ | exact ⟨ret_bt (by omega), hmo⟩ | exact ⟨ret_bf (by omega), hmo⟩ | exact ⟨ret_i (by omega), hmo⟩
theorem k_lam7 {g : GG} {w : WW} {n0 : Nat → Prop} {q : Nat} {L : Int → Nat} {P : Int → Int} {N : Int} {b : Int} {m : Int} (hG : Base g) (hK : PK g w n0 q L P) (hB : PB P N) (hb : 0 ≤ b ∧ b < P 0) (hm : 1 ≤ m ∧ m ≤ 12) : Ct g yX2_lambda_incomeByLeases_1 (.code yX2_lambda_incomeByLeases_1 cX2_lambda_incomeByLeases_1 3 (some .int)) 16 3189 3 6 w [.ref q, .int (iI m), .ref (L (10 + b))] (fun r_ w1 => r_ = some (.int (iI (income1 P b m))) ∧ Mo w.2 w w1) xF := by
  refine Ct.of (lv := [some _, some _, some _]) hG (by decide +kernel) (Nat.le_of_ble_eq_true rfl) rfl ?_
  intro z hg hpo hxp hnm htab
  subst hg
  have hmo : Mo w.2 w w := Mo.rf
  refine xr_aload_n dX2_lambda_incomeByLeases_1_0 rfl (by first | rfl | exact isRef_rf _) ?_
  refine xr_aload_n dX2_lambda_incomeByLeases_1_1 rfl (by first | rfl | exact isRef_rf _) ?_
  refine xr_iload_n dX2_lambda_incomeByLeases_1_2 rfl ?_
  refine xr_callV (n9 := 2) (rc' := 0) (rs' := 0) (k_P_incomeOf hG hK hB hb hm) hK.hq rfl q888 q890 qs12 q87 q891 (by decide +kernel) rfl ⟨by decide, Nat.le_of_ble_eq_true rfl⟩ ⟨Nat.le_of_ble_eq_true rfl, Nat.le_of_ble_eq_true rfl⟩ (Nat.le_of_ble_eq_true rfl) dX2_lambda_incomeByLeases_1_3 rfl (xk_e fun w3 hm3 => ?_) (fun _ _ _ h => h.elim)
  have hmo := hmo.tr hm3 hmo.1
  have hK := hK.ext hm3
  refine xr_ireturn rfl rfl dX2_lambda_incomeByLeases_1_6 ?_
  rw [hpo]
  first | exact ⟨rfl, hmo⟩ | exact ⟨ret_bt (by omega), hmo⟩ | exact ⟨ret_bf (by omega), hmo⟩ | exact ⟨ret_i (by omega), hmo⟩
theorem k_lam10 {g : GG} {w : WW} {n0 : Nat → Prop} {q : Nat} {L : Int → Nat} {P : Int → Int} {N : Int} {b : Int} (hG : Base g) (hK : PK g w n0 q L P) (hB : PB P N) (hb : 0 ≤ b ∧ b < P 0) : Ct g yX2_lambda_rentTotal_6 (.code yX2_lambda_rentTotal_6 cX2_lambda_rentTotal_6 2 (some .int)) 14 3144 1 2 w [.ref q, .ref (L (10 + b))] (fun r_ w1 => r_ = some (.int (iI (rent P b))) ∧ Mo w.2 w w1) xF := by
  refine Ct.of (lv := [some _, some _]) hG (by decide +kernel) (Nat.le_of_ble_eq_true rfl) rfl ?_
  intro z hg hpo hxp hnm htab
  subst hg
  have hmo : Mo w.2 w w := Mo.rf
  refine xr_aload_n dX2_lambda_rentTotal_6_0 rfl (by first | rfl | exact isRef_rf _) ?_
  refine xr_aload_n dX2_lambda_rentTotal_6_1 rfl (by first | rfl | exact isRef_rf _) ?_
  refine xr_callV (n9 := 1) (rc' := 0) (rs' := 0) (k_P_rentOf hG hK hB hb) hK.hq rfl q872 q873 q874 q87 q875 (by decide +kernel) rfl ⟨by decide, Nat.le_of_ble_eq_true rfl⟩ ⟨Nat.le_of_ble_eq_true rfl, Nat.le_of_ble_eq_true rfl⟩ (Nat.le_of_ble_eq_true rfl) dX2_lambda_rentTotal_6_2 rfl (xk_e fun w2 hm2 => ?_) (fun _ _ _ h => h.elim)
  have hmo := hmo.tr hm2 hmo.1
  have hK := hK.ext hm2
  refine xr_ireturn rfl rfl dX2_lambda_rentTotal_6_5 ?_
  rw [hpo]
  first | exact ⟨rfl, hmo⟩ | exact ⟨ret_bt (by omega), hmo⟩ | exact ⟨ret_bf (by omega), hmo⟩ | exact ⟨ret_i (by omega), hmo⟩
theorem k_lam3 {g : GG} {w : WW} {a : Nat} {r c i b d m : Int} {t : Value} (hG : Base g) (ho : Ob w a 3 [.int (iI r), .int (iI c), .int (iI i), .int (iI b), t, .int (iI d), .int (iI m)]) : Ct g yX2_lambda_depositTotal_2 (.code yX2_lambda_depositTotal_2 cX2_lambda_depositTotal_2 1 (some .int)) 0 0 0 0 w [.ref a] (fun r_ w1 => r_ = some (.int (iI d)) ∧ w1 = w) xF := by
  refine Ct.of (lv := [some _]) hG (by decide +kernel) (Nat.le_of_ble_eq_true rfl) rfl ?_
  intro z hg hpo hxp hnm htab
  subst hg
  refine xr_aload_n dX2_lambda_depositTotal_2_0 rfl (by first | rfl | exact isRef_rf _) ?_
  refine xr_getfieldN (ci := 3) (T := TX10) (N := 7) (i := 5) (by assumption) rfl (by decide) in_X10 q819 (.inl rfl) dX2_lambda_depositTotal_2_1 (by rfl) ?_
  refine xr_ireturn rfl rfl dX2_lambda_depositTotal_2_4 ?_
  rw [hpo]
  first | exact ⟨rfl, rfl⟩ | exact ⟨ret_bt (by omega), rfl⟩ | exact ⟨ret_bf (by omega), rfl⟩ | exact ⟨ret_i (by omega), rfl⟩
theorem k_lam4 {g : GG} {w : WW} {a : Nat} {i q d : Int} {t : Value} (hG : Base g) (ho : Ob w a 5 [.int (iI i), .int (iI q), .int (iI d), t]) : Ct g yX2_lambda_allCoins_3 (.code yX2_lambda_allCoins_3 cX2_lambda_allCoins_3 1 (some .int)) 0 0 0 0 w [.ref a] (fun r_ w1 => r_ = some (.int (iI q)) ∧ w1 = w) xF := by
  refine Ct.of (lv := [some _]) hG (by decide +kernel) (Nat.le_of_ble_eq_true rfl) rfl ?_
  intro z hg hpo hxp hnm htab
  subst hg
  refine xr_aload_n dX2_lambda_allCoins_3_0 rfl (by first | rfl | exact isRef_rf _) ?_
  refine xr_getfieldN (ci := 5) (T := TX11) (N := 4) (i := 1) (by assumption) rfl (by decide) in_X11 q843 (.inl rfl) dX2_lambda_allCoins_3_1 (by rfl) ?_
  refine xr_ireturn rfl rfl dX2_lambda_allCoins_3_4 ?_
  rw [hpo]
  first | exact ⟨rfl, rfl⟩ | exact ⟨ret_bt (by omega), rfl⟩ | exact ⟨ret_bf (by omega), rfl⟩ | exact ⟨ret_i (by omega), rfl⟩
theorem k_lam5 {g : GG} {w : WW} {a : Nat} {r c i b d m : Int} {t : Option Nat} (hG : Base g) (ho : Ob w a 3 [.int (iI r), .int (iI c), .int (iI i), .int (iI b), va_rf t, .int (iI d), .int (iI m)]) : Ct g yX2_lambda_letCount_4 (.code yX2_lambda_letCount_4 cX2_lambda_letCount_4 1 (some .int)) 1 20 0 0 w [.ref a] (fun r_ w1 => r_ = some (.int (bI (t.isSome))) ∧ w1 = w) xF := by
  refine Ct.of (lv := [some _]) hG (by decide +kernel) (Nat.le_of_ble_eq_true rfl) rfl ?_
  intro z hg hpo hxp hnm htab
  subst hg
  refine xr_aload_n dX2_lambda_letCount_4_0 rfl (by first | rfl | exact isRef_rf _) ?_
  refine xr_callV (n9 := 0) (rc' := 0) (rs' := 0) (k_B_isLet hG ho) ho rfl q716 q717 q718 q114 q719 (by decide +kernel) rfl ⟨by decide, Nat.le_of_ble_eq_true rfl⟩ ⟨Nat.le_of_ble_eq_true rfl, Nat.le_of_ble_eq_true rfl⟩ (Nat.le_of_ble_eq_true rfl) dX2_lambda_letCount_4_1 rfl (xk_r ?_) (fun _ _ _ h => h.elim)
  refine xr_callSN (n9 := 1) (rc' := 0) (rs' := 0) (k_asInt hG) q385 q386 q86 q387 (by decide +kernel) rfl ⟨by decide, Nat.le_of_ble_eq_true rfl⟩ ⟨Nat.le_of_ble_eq_true rfl, Nat.le_of_ble_eq_true rfl⟩ (Nat.le_of_ble_eq_true rfl) dX2_lambda_letCount_4_4 rfl (xk_r ?_) (fun _ _ _ h => h.elim)
  refine xr_ireturn rfl rfl dX2_lambda_letCount_4_7 ?_
  rw [hpo]
  first | exact ⟨rfl, rfl⟩ | exact ⟨ret_bt (by omega), rfl⟩ | exact ⟨ret_bf (by omega), rfl⟩ | exact ⟨ret_i (by omega), rfl⟩
theorem lv1 {g : GG} {w : WW} {v y : Nat} {n0 : Nat → Prop} {q : Nat} {L : Int → Nat} {P : Int → Int} {N b : Int} (hG : Base g) (hlo : LO g w v ⟨"BenchBroker$Park", "quietCount", "()I"⟩ 5 255 sg1 [.ref q]) (hK : PK g w n0 q L P) (hB : PB P N) (hb : 0 ≤ b ∧ b < P 0) (hy : y = L (10 + b)) : LV g ⟨"BenchBroker$Value", "of", "(LBenchBroker$Item;)I"⟩ 20 3300 3 6 w v [y] (bI (decide (noiseOf P b ≤ P 3))) := by
  intro z own cc nL ret fr lo rc rs rc' rs' pc idx cnt lv st rest hg hl hr9 hbud9 hc d hst k
  subst hg
  exact xr_lam1 (rc' := rc') (rs' := rs') hlo (hy ▸ hK.be b hb.1 hb.2) hK.hq (hy ▸ k_lam1 hG hK hB hb) hl ⟨by omega, by omega⟩ ⟨by omega, by omega⟩ hc d hst (fun v9 w9 h => by obtain ⟨rfl, hm⟩ := h; exact ⟨_, rfl, rfl⟩) (fun r9 w9 h => by obtain ⟨rfl, hm⟩ := h; exact k w9 hm)
theorem lv7 {g : GG} {w : WW} {v y : Nat} {n0 : Nat → Prop} {q : Nat} {L : Int → Nat} {P : Int → Int} {N b : Int} {m : Int} (hG : Base g) (hlo : LO g w v ⟨"BenchBroker$Park", "incomeByLeases", "(I)I"⟩ 6 244 sg7 [.ref q, .int (iI m)]) (hK : PK g w n0 q L P) (hB : PB P N) (hb : 0 ≤ b ∧ b < P 0) (hm9 : 1 ≤ m ∧ m ≤ 12) (hy : y = L (10 + b)) : LV g ⟨"BenchBroker$Value", "of", "(LBenchBroker$Item;)I"⟩ 20 3300 3 6 w v [y] (iI (income1 P b m)) := by
  intro z own cc nL ret fr lo rc rs rc' rs' pc idx cnt lv st rest hg hl hr9 hbud9 hc d hst k
  subst hg
  exact xr_lam7 (rc' := rc') (rs' := rs') hlo (hy ▸ hK.be b hb.1 hb.2) hK.hq (hy ▸ k_lam7 hG hK hB hb hm9) hl ⟨by omega, by omega⟩ ⟨by omega, by omega⟩ hc d hst (fun v9 w9 h => by obtain ⟨rfl, hm⟩ := h; exact ⟨_, rfl, rfl⟩) (fun r9 w9 h => by obtain ⟨rfl, hm⟩ := h; exact k w9 hm)
theorem lv10 {g : GG} {w : WW} {v y : Nat} {n0 : Nat → Prop} {q : Nat} {L : Int → Nat} {P : Int → Int} {N b : Int} (hG : Base g) (hlo : LO g w v ⟨"BenchBroker$Park", "rentTotal", "()I"⟩ 5 258 sg10 [.ref q]) (hK : PK g w n0 q L P) (hB : PB P N) (hb : 0 ≤ b ∧ b < P 0) (hy : y = L (10 + b)) : LV g ⟨"BenchBroker$Value", "of", "(LBenchBroker$Item;)I"⟩ 20 3300 3 6 w v [y] (iI (rent P b)) := by
  intro z own cc nL ret fr lo rc rs rc' rs' pc idx cnt lv st rest hg hl hr9 hbud9 hc d hst k
  subst hg
  exact xr_lam10 (rc' := rc') (rs' := rs') hlo (hy ▸ hK.be b hb.1 hb.2) hK.hq (hy ▸ k_lam10 hG hK hB hb) hl ⟨by omega, by omega⟩ ⟨by omega, by omega⟩ hc d hst (fun v9 w9 h => by obtain ⟨rfl, hm⟩ := h; exact ⟨_, rfl, rfl⟩) (fun r9 w9 h => by obtain ⟨rfl, hm⟩ := h; exact k w9 hm)
theorem lv3 {g : GG} {w : WW} {v y : Nat} {r c i b d m : Int} {t : Value} (hG : Base g) (hlo : LO g w v ⟨"BenchBroker$Park", "depositTotal", "()I"⟩ 4 247 sg3 []) (ho : Ob w y 3 [.int (iI r), .int (iI c), .int (iI i), .int (iI b), t, .int (iI d), .int (iI m)]) : LV g ⟨"BenchBroker$Value", "of", "(LBenchBroker$Item;)I"⟩ 10 400 0 0 w v [y] (iI d) := by
  intro z own cc nL ret fr lo rc rs rc' rs' pc idx cnt lv st rest hg hl hr9 hbud9 hc d hst k
  subst hg
  exact xr_lam3 (rc' := rc') (rs' := rs') hlo ho (k_lam3 hG ho) hl ⟨by omega, by omega⟩ ⟨by omega, by omega⟩ hc d hst (fun v9 w9 h => by obtain ⟨rfl, rfl⟩ := h; exact ⟨_, rfl, rfl⟩) (fun r9 w9 h => by obtain ⟨rfl, rfl⟩ := h; exact k w9 Mo.rf)
theorem lv4 {g : GG} {w : WW} {v y : Nat} {i q d : Int} {t : Value} (hG : Base g) (hlo : LO g w v ⟨"BenchBroker$Park", "allCoins", "()I"⟩ 4 250 sg4 []) (ho : Ob w y 5 [.int (iI i), .int (iI q), .int (iI d), t]) : LV g ⟨"BenchBroker$Value", "of", "(LBenchBroker$Item;)I"⟩ 10 400 0 0 w v [y] (iI q) := by
  intro z own cc nL ret fr lo rc rs rc' rs' pc idx cnt lv st rest hg hl hr9 hbud9 hc d hst k
  subst hg
  exact xr_lam4 (rc' := rc') (rs' := rs') hlo ho (k_lam4 hG ho) hl ⟨by omega, by omega⟩ ⟨by omega, by omega⟩ hc d hst (fun v9 w9 h => by obtain ⟨rfl, rfl⟩ := h; exact ⟨_, rfl, rfl⟩) (fun r9 w9 h => by obtain ⟨rfl, rfl⟩ := h; exact k w9 Mo.rf)
theorem lv5 {g : GG} {w : WW} {v y : Nat} {r c i b d m : Int} {t : Option Nat} (hG : Base g) (hlo : LO g w v ⟨"BenchBroker$Park", "letCount", "()I"⟩ 4 254 sg5 []) (ho : Ob w y 3 [.int (iI r), .int (iI c), .int (iI i), .int (iI b), va_rf t, .int (iI d), .int (iI m)]) : LV g ⟨"BenchBroker$Value", "of", "(LBenchBroker$Item;)I"⟩ 10 400 0 0 w v [y] (bI t.isSome) := by
  intro z own cc nL ret fr lo rc rs rc' rs' pc idx cnt lv st rest hg hl hr9 hbud9 hc d hst k
  subst hg
  exact xr_lam5 (rc' := rc') (rs' := rs') hlo ho (k_lam5 hG ho) hl ⟨by omega, by omega⟩ ⟨by omega, by omega⟩ hc d hst (fun v9 w9 h => by obtain ⟨rfl, rfl⟩ := h; exact ⟨_, rfl, rfl⟩) (fun r9 w9 h => by obtain ⟨rfl, rfl⟩ := h; exact k w9 Mo.rf)
theorem k_P_quietCount {g : GG} {w : WW} {n0 : Nat → Prop} {q : Nat} {L : Int → Nat} {P : Int → Int} {N : Int} (hG : Base g) (hK : PK g w n0 q L P) (hB : PB P N) : Ct g yX2_quietCount (.code yX2_quietCount cX2_quietCount 1 (some .int)) 21 3323 34 67 w [.ref q] (fun r_ w1 => r_ = some (.int (iI (sumR (fun b => if noiseOf P b ≤ P 3 then 1 else 0) 0 (P 0)))) ∧ Mo w.2 w w1) xF := by
  refine Ct.ofN (lv := [some _]) hG (by decide +kernel) (Nat.le_of_ble_eq_true rfl) rfl ?_
  intro z hg hpo hxp hnm htab hmn
  subst hg
  have hmo : Mo w.2 w w := Mo.rf
  refine xr_aload_n dX2_quietCount_0 rfl (by first | rfl | exact isRef_rf _) ?_
  refine xr_getfield (ci := 0) (T := TX2) (N := 10) (i := 0) hK.hq rfl (by decide) in_X2 q186 (.inl rfl) dX2_quietCount_1 (by rfl) ?_
  refine xr_aload_n dX2_quietCount_4 rfl (by first | rfl | exact isRef_rf _) ?_
  refine xr_lamM (x := ⟨"BenchBroker$Park", "quietCount", "()I"⟩) (σ := sg1) (tys := #[FieldType.object "BenchBroker$Park"]) (vals := [.ref q]) (rest := [.ref (L 0)]) (n9 := 1) (rc' := 33) (rs' := 66) hmn ssite1 (by decide) q2802 slay1 rfl rfl rfl (by intro i v hv; rcases i with _ | _ | i <;> simp at hv <;> subst hv <;> exact ⟨_, rfl, rfl⟩) (Nat.le_of_ble_eq_true rfl) ⟨Nat.le_of_ble_eq_true rfl, Nat.le_of_ble_eq_true rfl⟩ dX2_quietCount_5 rfl (fun a5 e5 ga5 ba5 hlam5 => ?_)
  have hm5 : Mo _ _ _ := Mo.new ga5 ga5 e5
  have hmo := hmo.tr hm5 hmo.1
  have hK := hK.ext hm5
  refine xr_callV (n9 := 1) (rc' := 0) (rs' := 0) (k_sumB (F := fun b => if noiseOf P b ≤ P 3 then 1 else 0) hG hK.r0 hK.l0 (fun k h0 h1 => ⟨_, 3, _, _, rfl, hK.be k h0 h1, rfl, q2757⟩) (fun w' hm k y9 h0 h1 hy9 => by
    obtain rfl : L (10 + k) = y9 := Option.some.inj hy9
    exact (show iI (if noiseOf P k ≤ P 3 then 1 else 0) = bI (decide (noiseOf P k ≤ P 3)) by unfold bI; simp only [decide_eq_true_eq]) ▸ lv1 hG (hlam5.ext hm) (hK.ext hm) hB ⟨h0, h1⟩ rfl)) hK.r0 rfl q362 q363 q364 q88 q365 (by decide +kernel) rfl ⟨by decide, Nat.le_of_ble_eq_true rfl⟩ ⟨Nat.le_of_ble_eq_true rfl, Nat.le_of_ble_eq_true rfl⟩ (Nat.le_of_ble_eq_true rfl) dX2_quietCount_10 rfl (xk_e fun w10 hm10 => ?_) (fun _ _ _ h => h.elim)
  have hmo := hmo.tr hm10 hmo.1
  have hK := hK.ext hm10
  refine xr_ireturn rfl rfl dX2_quietCount_13 ?_
  rw [hpo]
  first | exact ⟨rfl, hmo⟩ | exact ⟨ret_bt (by omega), hmo⟩ | exact ⟨ret_bf (by omega), hmo⟩ | exact ⟨ret_i (by omega), hmo⟩
theorem k_P_incomeByLeases {g : GG} {w : WW} {n0 : Nat → Prop} {q : Nat} {L : Int → Nat} {P : Int → Int} {N : Int} {m : Int} (hG : Base g) (hK : PK g w n0 q L P) (hB : PB P N) (hm9 : 1 ≤ m ∧ m ≤ 12) : Ct g yX2_incomeByLeases (.code yX2_incomeByLeases cX2_incomeByLeases 2 (some .int)) 21 3323 34 68 w [.ref q, .int (iI m)] (fun r_ w1 => r_ = some (.int (iI (sumR (fun b => income1 P b m) 0 (P 0)))) ∧ Mo w.2 w w1) xF := by
  refine Ct.ofN (lv := [some _, some _]) hG (by decide +kernel) (Nat.le_of_ble_eq_true rfl) rfl ?_
  intro z hg hpo hxp hnm htab hmn
  subst hg
  have hmo : Mo w.2 w w := Mo.rf
  refine xr_aload_n dX2_incomeByLeases_0 rfl (by first | rfl | exact isRef_rf _) ?_
  refine xr_getfield (ci := 0) (T := TX2) (N := 10) (i := 0) hK.hq rfl (by decide) in_X2 q186 (.inl rfl) dX2_incomeByLeases_1 (by rfl) ?_
  refine xr_aload_n dX2_incomeByLeases_4 rfl (by first | rfl | exact isRef_rf _) ?_
  refine xr_iload_n dX2_incomeByLeases_5 rfl ?_
  refine xr_lamM (x := ⟨"BenchBroker$Park", "incomeByLeases", "(I)I"⟩) (σ := sg7) (tys := #[FieldType.object "BenchBroker$Park", FieldType.int]) (vals := [.ref q, .int (iI m)]) (rest := [.ref (L 0)]) (n9 := 2) (rc' := 33) (rs' := 66) hmn ssite7 (by decide) q2802 slay7 rfl rfl rfl (by intro i v hv; rcases i with _ | _ | i <;> simp at hv <;> subst hv <;> exact ⟨_, rfl, rfl⟩) (Nat.le_of_ble_eq_true rfl) ⟨Nat.le_of_ble_eq_true rfl, Nat.le_of_ble_eq_true rfl⟩ dX2_incomeByLeases_6 rfl (fun a6 e6 ga6 ba6 hlam6 => ?_)
  have hm6 : Mo _ _ _ := Mo.new ga6 ga6 e6
  have hmo := hmo.tr hm6 hmo.1
  have hK := hK.ext hm6
  refine xr_callV (n9 := 1) (rc' := 0) (rs' := 0) (k_sumB (F := fun b => income1 P b m) hG hK.r0 hK.l0 (fun k h0 h1 => ⟨_, 3, _, _, rfl, hK.be k h0 h1, rfl, q2757⟩) (fun w' hm k y9 h0 h1 hy9 => by
    obtain rfl : L (10 + k) = y9 := Option.some.inj hy9
    exact lv7 hG (hlam6.ext hm) (hK.ext hm) hB ⟨h0, h1⟩ hm9 rfl)) hK.r0 rfl q362 q363 q364 q88 q365 (by decide +kernel) rfl ⟨by decide, Nat.le_of_ble_eq_true rfl⟩ ⟨Nat.le_of_ble_eq_true rfl, Nat.le_of_ble_eq_true rfl⟩ (Nat.le_of_ble_eq_true rfl) dX2_incomeByLeases_11 rfl (xk_e fun w11 hm11 => ?_) (fun _ _ _ h => h.elim)
  have hmo := hmo.tr hm11 hmo.1
  have hK := hK.ext hm11
  refine xr_ireturn rfl rfl dX2_incomeByLeases_14 ?_
  rw [hpo]
  first | exact ⟨rfl, hmo⟩ | exact ⟨ret_bt (by omega), hmo⟩ | exact ⟨ret_bf (by omega), hmo⟩ | exact ⟨ret_i (by omega), hmo⟩
theorem k_P_rentTotal {g : GG} {w : WW} {n0 : Nat → Prop} {q : Nat} {L : Int → Nat} {P : Int → Int} {N : Int} (hG : Base g) (hK : PK g w n0 q L P) (hB : PB P N) : Ct g yX2_rentTotal (.code yX2_rentTotal cX2_rentTotal 1 (some .int)) 21 3323 34 67 w [.ref q] (fun r_ w1 => r_ = some (.int (iI (sumR (fun b => rent P b) 0 (P 0)))) ∧ Mo w.2 w w1) xF := by
  refine Ct.ofN (lv := [some _]) hG (by decide +kernel) (Nat.le_of_ble_eq_true rfl) rfl ?_
  intro z hg hpo hxp hnm htab hmn
  subst hg
  have hmo : Mo w.2 w w := Mo.rf
  refine xr_aload_n dX2_rentTotal_0 rfl (by first | rfl | exact isRef_rf _) ?_
  refine xr_getfield (ci := 0) (T := TX2) (N := 10) (i := 0) hK.hq rfl (by decide) in_X2 q186 (.inl rfl) dX2_rentTotal_1 (by rfl) ?_
  refine xr_aload_n dX2_rentTotal_4 rfl (by first | rfl | exact isRef_rf _) ?_
  refine xr_lamM (x := ⟨"BenchBroker$Park", "rentTotal", "()I"⟩) (σ := sg10) (tys := #[FieldType.object "BenchBroker$Park"]) (vals := [.ref q]) (rest := [.ref (L 0)]) (n9 := 1) (rc' := 33) (rs' := 66) hmn ssite10 (by decide) q2802 slay10 rfl rfl rfl (by intro i v hv; rcases i with _ | _ | i <;> simp at hv <;> subst hv <;> exact ⟨_, rfl, rfl⟩) (Nat.le_of_ble_eq_true rfl) ⟨Nat.le_of_ble_eq_true rfl, Nat.le_of_ble_eq_true rfl⟩ dX2_rentTotal_5 rfl (fun a5 e5 ga5 ba5 hlam5 => ?_)
  have hm5 : Mo _ _ _ := Mo.new ga5 ga5 e5
  have hmo := hmo.tr hm5 hmo.1
  have hK := hK.ext hm5
  refine xr_callV (n9 := 1) (rc' := 0) (rs' := 0) (k_sumB (F := fun b => rent P b) hG hK.r0 hK.l0 (fun k h0 h1 => ⟨_, 3, _, _, rfl, hK.be k h0 h1, rfl, q2757⟩) (fun w' hm k y9 h0 h1 hy9 => by
    obtain rfl : L (10 + k) = y9 := Option.some.inj hy9
    exact lv10 hG (hlam5.ext hm) (hK.ext hm) hB ⟨h0, h1⟩ rfl)) hK.r0 rfl q362 q363 q364 q88 q365 (by decide +kernel) rfl ⟨by decide, Nat.le_of_ble_eq_true rfl⟩ ⟨Nat.le_of_ble_eq_true rfl, Nat.le_of_ble_eq_true rfl⟩ (Nat.le_of_ble_eq_true rfl) dX2_rentTotal_10 rfl (xk_e fun w10 hm10 => ?_) (fun _ _ _ h => h.elim)
  have hmo := hmo.tr hm10 hmo.1
  have hK := hK.ext hm10
  refine xr_ireturn rfl rfl dX2_rentTotal_13 ?_
  rw [hpo]
  first | exact ⟨rfl, hmo⟩ | exact ⟨ret_bt (by omega), hmo⟩ | exact ⟨ret_bf (by omega), hmo⟩ | exact ⟨ret_i (by omega), hmo⟩
theorem k_P_depositTotal {g : GG} {w : WW} {n0 : Nat → Prop} {q : Nat} {L : Int → Nat} {P : Int → Int} {N : Int} (hG : Base g) (hK : PK g w n0 q L P) (hB : PB P N) : Ct g yX2_depositTotal (.code yX2_depositTotal cX2_depositTotal 1 (some .int)) 11 3080 0 0 w [.ref q] (fun r_ w1 => r_ = some (.int (iI (sumR (fun b => P (14 + 6 * b)) 0 (P 0)))) ∧ Mo w.2 w w1) xF := by
  refine Ct.ofN (lv := [some _]) hG (by decide +kernel) (Nat.le_of_ble_eq_true rfl) rfl ?_
  intro z hg hpo hxp hnm htab hmn
  subst hg
  have hmo : Mo w.2 w w := Mo.rf
  refine xr_aload_n dX2_depositTotal_0 rfl (by first | rfl | exact isRef_rf _) ?_
  refine xr_getfield (ci := 0) (T := TX2) (N := 10) (i := 0) hK.hq rfl (by decide) in_X2 q186 (.inl rfl) dX2_depositTotal_1 (by rfl) ?_
  refine xr_lamC (x := ⟨"BenchBroker$Park", "depositTotal", "()I"⟩) (σ := sg3) hmn ssite3 rfl (Nat.le_of_ble_eq_true rfl) dX2_depositTotal_4 (fun a4 hlam4 => ?_)
  refine xr_callV (n9 := 1) (rc' := 0) (rs' := 0) (k_sumA (F := fun b => P (14 + 6 * b)) hG hK.r0 hK.l0 (fun k h0 h1 => ⟨_, 3, _, _, rfl, hK.be k h0 h1, rfl, q2757⟩) (fun w' hm k y9 h0 h1 hy9 => by
    obtain rfl : L (10 + k) = y9 := Option.some.inj hy9
    exact lv3 hG (hlam4.ext hm) ((hK.ext hm).be k h0 h1))) hK.r0 rfl q362 q363 q364 q88 q365 (by decide +kernel) rfl ⟨by decide, Nat.le_of_ble_eq_true rfl⟩ ⟨Nat.le_of_ble_eq_true rfl, Nat.le_of_ble_eq_true rfl⟩ (Nat.le_of_ble_eq_true rfl) dX2_depositTotal_9 rfl (xk_e fun w9 hm9 => ?_) (fun _ _ _ h => h.elim)
  have hmo := hmo.tr hm9 hmo.1
  have hK := hK.ext hm9
  refine xr_ireturn rfl rfl dX2_depositTotal_12 ?_
  rw [hpo]
  first | exact ⟨rfl, hmo⟩ | exact ⟨ret_bt (by omega), hmo⟩ | exact ⟨ret_bf (by omega), hmo⟩ | exact ⟨ret_i (by omega), hmo⟩
theorem k_P_letCount {g : GG} {w : WW} {n0 : Nat → Prop} {q : Nat} {L : Int → Nat} {P : Int → Int} {N : Int} (hG : Base g) (hK : PK g w n0 q L P) (hB : PB P N) : Ct g yX2_letCount (.code yX2_letCount cX2_letCount 1 (some .int)) 11 3080 0 0 w [.ref q] (fun r_ w1 => r_ = some (.int (iI (sumR (fun b => if P (13 + 6 * b) ≠ 0 then 1 else 0) 0 (P 0)))) ∧ Mo w.2 w w1) xF := by
  refine Ct.ofN (lv := [some _]) hG (by decide +kernel) (Nat.le_of_ble_eq_true rfl) rfl ?_
  intro z hg hpo hxp hnm htab hmn
  subst hg
  have hmo : Mo w.2 w w := Mo.rf
  refine xr_aload_n dX2_letCount_0 rfl (by first | rfl | exact isRef_rf _) ?_
  refine xr_getfield (ci := 0) (T := TX2) (N := 10) (i := 0) hK.hq rfl (by decide) in_X2 q186 (.inl rfl) dX2_letCount_1 (by rfl) ?_
  refine xr_lamC (x := ⟨"BenchBroker$Park", "letCount", "()I"⟩) (σ := sg5) hmn ssite5 rfl (Nat.le_of_ble_eq_true rfl) dX2_letCount_4 (fun a4 hlam4 => ?_)
  refine xr_callV (n9 := 1) (rc' := 0) (rs' := 0) (k_sumA (F := fun b => if P (13 + 6 * b) ≠ 0 then 1 else 0) hG hK.r0 hK.l0 (fun k h0 h1 => ⟨_, 3, _, _, rfl, hK.be k h0 h1, rfl, q2757⟩) (fun w' hm k y9 h0 h1 hy9 => by
    obtain rfl : L (10 + k) = y9 := Option.some.inj hy9
    exact (show iI (if P (13 + 6 * k) ≠ 0 then 1 else 0) = bI (opt L 50 (P (13 + 6 * k))).isSome by rw [opt_is]; unfold bI; simp only [decide_eq_true_eq]) ▸ lv5 hG (hlam4.ext hm) ((hK.ext hm).be k h0 h1))) hK.r0 rfl q362 q363 q364 q88 q365 (by decide +kernel) rfl ⟨by decide, Nat.le_of_ble_eq_true rfl⟩ ⟨Nat.le_of_ble_eq_true rfl, Nat.le_of_ble_eq_true rfl⟩ (Nat.le_of_ble_eq_true rfl) dX2_letCount_9 rfl (xk_e fun w9 hm9 => ?_) (fun _ _ _ h => h.elim)
  have hmo := hmo.tr hm9 hmo.1
  have hK := hK.ext hm9
  refine xr_ireturn rfl rfl dX2_letCount_12 ?_
  rw [hpo]
  first | exact ⟨rfl, hmo⟩ | exact ⟨ret_bt (by omega), hmo⟩ | exact ⟨ret_bf (by omega), hmo⟩ | exact ⟨ret_i (by omega), hmo⟩
