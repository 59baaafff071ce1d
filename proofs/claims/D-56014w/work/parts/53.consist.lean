/-! 53.consist.lean.txt (written by tools/walker.py)  -/
set_option maxRecDepth 100000
theorem k_P_noiseBySpreading {g : GG} {w : WW} {n0 : Nat → Prop} {q : Nat} {L : Int → Nat} {P : Int → Int} {N : Int} {x y : Int} (hG : Base g) (hKI : KI g) (hK : PK g w n0 q L P) (hB : PB P N) (hr : (0 ≤ x ∧ x ≤ 5) ∧ (0 ≤ y ∧ y ≤ 5)) : Ct g yX2_noiseBySpreading (.code yX2_noiseBySpreading cX2_noiseBySpreading 3 (some .int)) 6 138 4 92 w [.ref q, .int (iI x), .int (iI y)] (fun r_ w1 => r_ = some (.int (iI (noise P x y))) ∧ Mo w.2 w w1) xF := by
  refine Ct.of (lv := [some _, some _, some _]) hG (by decide +kernel) (Nat.le_of_ble_eq_true rfl) rfl ?_
  intro z hg hpo hxp hnm htab
  subst hg
  have hmo : Mo w.2 w w := Mo.rf
  refine xr_aload_n dX2_noiseBySpreading_0 rfl (by first | rfl | exact isRef_rf _) ?_
  refine xr_callV (n9 := 0) (rc' := 0) (rs' := 0) (k_P_spread hG hKI hK hB) hK.hq rfl q449 q451 qs2 q87 q452 (by decide +kernel) rfl ⟨by decide, Nat.le_of_ble_eq_true rfl⟩ ⟨Nat.le_of_ble_eq_true rfl, Nat.le_of_ble_eq_true rfl⟩ (Nat.le_of_ble_eq_true rfl) dX2_noiseBySpreading_1 rfl (fun r w1 hw => ?_) (fun _ _ _ h => h.elim)
  obtain ⟨q1, rfl, hq1, hg1, hm1⟩ := hw
  have hmo := hmo.tr hm1 (Nat.le_refl _)
  show XJ _ _ _ _ _ _ _ _ _ _ _ _ [.ref q1]
  refine xr_bipush dX2_noiseBySpreading_4 (by decide) ?_
  refine xr_iload_n dX2_noiseBySpreading_6 rfl ?_
  refine xr_imul dX2_noiseBySpreading_7 ?_
  refine xr_iload_n dX2_noiseBySpreading_8 rfl ?_
  refine xr_iadd dX2_noiseBySpreading_9 ?_
  refine xr_iaload hq1 (by omega) (by omega) dX2_noiseBySpreading_10 ?_
  rw [show (6 * x + y) / 6 = x by omega, show (6 * x + y) % 6 = y by omega]
  refine xr_ireturn rfl rfl dX2_noiseBySpreading_11 ?_
  rw [hpo]
  first | exact ⟨rfl, hmo⟩ | exact ⟨ret_bt (by omega), hmo⟩ | exact ⟨ret_bf (by omega), hmo⟩ | exact ⟨ret_i (by omega), hmo⟩
theorem k_P_isNoiseConsistent {g : GG} {w : WW} {n0 : Nat → Prop} {q : Nat} {L : Int → Nat} {P : Int → Int} {N : Int} (hG : Base g) (hKI : KI g) (hK : PK g w n0 q L P) (hB : PB P N) : Ct g yX2_isNoiseConsistent (.code yX2_isNoiseConsistent cX2_isNoiseConsistent 4 (some .boolean)) 12 3102 41 166 w [.ref q] (fun r_ w1 => r_ = some (.int (iI 1)) ∧ Mo w.2 w w1) xF := by
  refine Ct.of (lv := [some _, none, none, none]) hG (by decide +kernel) (Nat.le_of_ble_eq_true rfl) rfl ?_
  intro z hg hpo hxp hnm htab
  subst hg
  have hmo : Mo w.2 w w := Mo.rf
  refine xr_aload_n dX2_isNoiseConsistent_0 rfl (by first | rfl | exact isRef_rf _) ?_
  refine xr_callV (n9 := 0) (rc' := 37) (rs' := 74) (k_P_spread hG hKI hK hB) hK.hq rfl q449 q451 qs2 q87 q452 (by decide +kernel) rfl ⟨by decide, Nat.le_of_ble_eq_true rfl⟩ ⟨Nat.le_of_ble_eq_true rfl, Nat.le_of_ble_eq_true rfl⟩ (Nat.le_of_ble_eq_true rfl) dX2_isNoiseConsistent_1 rfl (fun r w1 hw => ?_) (fun _ _ _ h => h.elim)
  obtain ⟨q1, rfl, hq1, hg1, hm1⟩ := hw
  have hmo := hmo.tr hm1 (Nat.le_refl _)
  show XJ _ _ _ _ _ _ _ _ _ _ _ _ [.ref q1]
  refine xr_astore_n (lv' := [some _, some _, none, none]) dX2_isNoiseConsistent_4 (by decide) rfl (by first | rfl | exact isRef_rf _) rfl ?_
  refine xr_iconst dX2_isNoiseConsistent_5 ?_
  refine xr_istore_n (lv' := [some _, some _, some _, none]) dX2_isNoiseConsistent_6 (by decide) rfl rfl ?_
  refine xr_iconst dX2_isNoiseConsistent_7 ?_
  refine xr_istore_n (lv' := [some _, some _, some _, some _]) dX2_isNoiseConsistent_8 (by decide) rfl rfl ?_
  have lp9 : ∀ (fu9 : Nat) (w9 : WW) (k : Int), 0 ≤ k → k ≤ 36 → 36 - k < fu9 → IA (zg z) w9 q1 36 (fun j => noise P (j / 6) (j % 6)) → Mo w.2 w w9 → XJ z yX2_isNoiseConsistent.cls cX2_isNoiseConsistent 4 (some .boolean) 12 3102 w9 (1 * fu9 + 0) (2 * fu9 + 0) 9 [some (.ref q), some (.ref q1), some (.int (iI 1)), some (.int (iI k))] [] := by
    intro fu9
    induction fu9 with
    | zero =>
      intro w9 k hk0 hkn hfu hI9 hmo
      omega
    | succ fu9 ih9 =>
      intro w9 k hk0 hkn hfu hI9 hmo
      have hK9 := hK.ext hmo
      have nb := noise_bd (r := k / 6) (c := k % 6) hB
      refine xr_iload_n dX2_isNoiseConsistent_9 rfl ?_
      refine xr_aload_n dX2_isNoiseConsistent_10 rfl (by first | rfl | exact isRef_rf _) ?_
      refine xr_alenIA hI9 dX2_isNoiseConsistent_11 ?_
      refine xr_icmp_ge (tgt := 49) dX2_isNoiseConsistent_12 (by decide) (by omega) (fun c12 => ?_) (fun c12 => ?_)
      · skip
        refine xr_iload_n dX2_isNoiseConsistent_49 rfl ?_
        refine xr_ireturn rfl (by first | rfl | exact nar_bI _ | decide +kernel) dX2_isNoiseConsistent_50 ?_
        rw [hpo]
        first | exact ⟨rfl, hmo⟩ | exact ⟨ret_bt (by omega), hmo⟩ | exact ⟨ret_bf (by omega), hmo⟩ | exact ⟨ret_i (by omega), hmo⟩
      · skip
        refine xr_iload_n dX2_isNoiseConsistent_15 rfl ?_
        refine xr_if_eq (tgt := 41) dX2_isNoiseConsistent_16 (by decide) (by omega) (fun c16 => absurd c16 (by decide)) (fun c16 => ?_)
        refine xr_aload_n dX2_isNoiseConsistent_19 rfl (by first | rfl | exact isRef_rf _) ?_
        refine xr_iload_n dX2_isNoiseConsistent_20 rfl ?_
        refine xr_iaload hI9 (by omega) (by omega) dX2_isNoiseConsistent_21 ?_
        refine xr_aload_n dX2_isNoiseConsistent_22 rfl (by first | rfl | exact isRef_rf _) ?_
        refine xr_iload_n dX2_isNoiseConsistent_23 rfl ?_
        refine xr_bipush dX2_isNoiseConsistent_24 (by decide) ?_
        refine xr_idiv dX2_isNoiseConsistent_26 (by omega) (by omega) ?_
        rw [Int.tdiv_eq_ediv_of_nonneg hk0]
        refine xr_iload_n dX2_isNoiseConsistent_27 rfl ?_
        refine xr_bipush dX2_isNoiseConsistent_28 (by decide) ?_
        refine xr_irem dX2_isNoiseConsistent_30 (by omega) (by omega) ?_
        rw [Int.tmod_eq_emod_of_nonneg hk0]
        refine xr_callV (n9 := 2) (rc' := 1 * fu9 + 0) (rs' := 2 * fu9 + 0) (k_P_noiseAt hG hK9 hB (x := k / 6) (y := k % 6) ⟨⟨by omega, by omega⟩, by omega, by omega⟩) hK9.hq rfl q340 q341 q342 q87 q343 (by decide +kernel) rfl ⟨by decide, Nat.le_of_ble_eq_true rfl⟩ ⟨by omega, by omega⟩ (Nat.le_of_ble_eq_true rfl) dX2_isNoiseConsistent_31 rfl (xk_e fun w31 hm31 => ?_) (fun _ _ _ h => h.elim)
        have hmo := hmo.tr hm31 hmo.1
        have hK9 := hK9.ext hm31
        have hI9 := hI9.ext hm31
        refine xr_icmp_ne (tgt := 41) dX2_isNoiseConsistent_34 (by decide) (by omega) (fun c34 => absurd c34 (fun h => h rfl)) (fun c34 => ?_)
        refine xr_iconst dX2_isNoiseConsistent_37 ?_
        refine xr_goto (tgt := 42) dX2_isNoiseConsistent_38 (by decide) ?_
        refine xr_istore_n (lv' := [some _, some _, some _, some _]) dX2_isNoiseConsistent_42 (by decide) rfl rfl ?_
        refine xr_iinc (lv' := [some _, some _, some _, some _]) dX2_isNoiseConsistent_43 rfl (by decide) rfl rfl ?_
        refine xr_goto (tgt := 9) dX2_isNoiseConsistent_46 (by decide) ?_
        refine xr_wk (rc' := 1 * fu9 + 0) (rs' := 2 * fu9 + 0) ⟨by omega, by omega⟩ (ih9 _ _ (by omega) (by omega) (by omega) hI9 hmo)
  refine xr_wk (rc' := 1 * 37 + 0) (rs' := 2 * 37 + 0) ⟨by omega, by omega⟩ (lp9 37 _ _ (by omega) (by omega) (by omega) hq1 hmo)
theorem k_lamC {g : GG} {w : WW} {n0 : Nat → Prop} {q : Nat} {L : Int → Nat} {P : Int → Int} {t : Int} (hG : Base g) (hK : PK g w n0 q L P) (hC : PCon P) (ht : 0 ≤ t ∧ t < P 2) : Ct g yX2_lambda_isConsistent_9 (.code yX2_lambda_isConsistent_9 cX2_lambda_isConsistent_9 1 (some .int)) 1 20 0 0 w [.ref (L (50 + t))] (fun r_ w1 => r_ = some (.int (bI (decide (P (102 + t) ≠ 0)))) ∧ w1 = w) xF := by
  refine Ct.of (lv := [some _]) hG (by decide +kernel) (Nat.le_of_ble_eq_true rfl) rfl ?_
  intro z hg hpo hxp hnm htab
  subst hg
  have htb := hK.tb t ht.1 ht.2
  refine xr_aload_n dX2_lambda_isConsistent_9_0 rfl (by first | rfl | exact isRef_rf _) ?_
  refine xr_getfieldN (ci := 5) (T := TX11) (N := 4) (i := 3) (hK.te t ht.1 ht.2) rfl (by decide) in_X11 q848 (.inl rfl) dX2_lambda_isConsistent_9_1 (by rfl) ?_
  refine xr_ifnull (tgt := 22) dX2_lambda_isConsistent_9_4 (by decide) (fun c4 => ?_) (fun c4 => ?_)
  · skip
    have c4 : P (102 + t) = 0 := by
      by_cases h9 : P (102 + t) = 0
      · exact h9
      · rw [opt_ne h9] at c4; cases c4
    refine xr_iconst dX2_lambda_isConsistent_9_22 ?_
    refine xr_callSN (n9 := 1) (rc' := 0) (rs' := 0) (k_asInt (b := false) hG) q385 q386 q86 q387 (by decide +kernel) rfl ⟨by decide, Nat.le_of_ble_eq_true rfl⟩ ⟨Nat.le_of_ble_eq_true rfl, Nat.le_of_ble_eq_true rfl⟩ (Nat.le_of_ble_eq_true rfl) dX2_lambda_isConsistent_9_23 rfl (xk_r ?_) (fun _ _ _ h => h.elim)
    show XJ _ _ _ _ _ _ _ _ _ _ _ _ [.int (iI 0)]
    refine xr_ireturn rfl rfl dX2_lambda_isConsistent_9_26 ?_
    rw [hpo]
    first | exact ⟨ret_bt c4, rfl⟩ | exact ⟨ret_bf (fun h => h c4), rfl⟩
  · skip
    have c4 : P (102 + t) ≠ 0 := fun h9 => c4 (opt_eq h9)
    refine xr_aload_n dX2_lambda_isConsistent_9_7 rfl (by first | rfl | exact isRef_rf _) ?_
    refine xr_getfieldN (ci := 5) (T := TX11) (N := 4) (i := 3) (hK.te t ht.1 ht.2) rfl (by decide) in_X11 q848 (.inl rfl) dX2_lambda_isConsistent_9_8 (by rfl) ?_
    rw [opt_ne c4]
    show XJ _ _ _ _ _ _ _ _ _ _ _ _ [.ref (L (10 + (P (102 + t) - 1)))]
    refine xr_getfieldN (ci := 3) (T := TX10) (N := 7) (i := 4) (hK.be (P (102 + t) - 1) (by omega) (by omega)) rfl (by decide) in_X10 q815 (.inl rfl) dX2_lambda_isConsistent_9_11 (by rfl) ?_
    rw [hC.2 t ht.1 ht.2 c4, opt_ne (by omega), show t + 1 - 1 = t by omega]
    show XJ _ _ _ _ _ _ _ _ _ _ _ _ [.ref (L (50 + t))]
    refine xr_aload_n dX2_lambda_isConsistent_9_14 rfl (by first | rfl | exact isRef_rf _) ?_
    refine xr_acmp_ne (rx := some _) (ry := some _) (tgt := 22) dX2_lambda_isConsistent_9_15 (by decide) (fun c15 => absurd c15 (fun h => h rfl)) (fun c15 => ?_)
    refine xr_iconst dX2_lambda_isConsistent_9_18 ?_
    refine xr_goto (tgt := 23) dX2_lambda_isConsistent_9_19 (by decide) ?_
    refine xr_callSN (n9 := 1) (rc' := 0) (rs' := 0) (k_asInt (b := true) hG) q385 q386 q86 q387 (by decide +kernel) rfl ⟨by decide, Nat.le_of_ble_eq_true rfl⟩ ⟨Nat.le_of_ble_eq_true rfl, Nat.le_of_ble_eq_true rfl⟩ (Nat.le_of_ble_eq_true rfl) dX2_lambda_isConsistent_9_23 rfl (xk_r ?_) (fun _ _ _ h => h.elim)
    show XJ _ _ _ _ _ _ _ _ _ _ _ _ [.int (iI 1)]
    refine xr_ireturn rfl rfl dX2_lambda_isConsistent_9_26 ?_
    rw [hpo]
    first | exact ⟨ret_bt c4, rfl⟩ | exact ⟨ret_bf (fun h => h c4), rfl⟩
theorem lv6 {g : GG} {w : WW} {v y : Nat} {n0 : Nat → Prop} {q : Nat} {L : Int → Nat} {P : Int → Int} {t : Int} (hG : Base g) (hlo : LO g w v ⟨"BenchBroker$Park", "isConsistent", "()Z"⟩ 26 279 sg6 []) (hK : PK g w n0 q L P) (hC : PCon P) (ht : 0 ≤ t ∧ t < P 2) (hy : y = L (50 + t)) : LV g ⟨"BenchBroker$Value", "of", "(LBenchBroker$Item;)I"⟩ 10 400 0 0 w v [y] (bI (decide (P (102 + t) ≠ 0))) := by
  intro z own cc nL ret fr lo rc rs rc' rs' pc idx cnt lv st rest hg hl hr9 hbud9 hc d hst k
  subst hg
  exact xr_lam6 (rc' := rc') (rs' := rs') hlo (hy ▸ hK.te t ht.1 ht.2) (hy ▸ k_lamC hG hK hC ht) hl ⟨by omega, by omega⟩ ⟨by omega, by omega⟩ hc d hst (fun v9 w9 h => by obtain ⟨rfl, rfl⟩ := h; exact ⟨_, rfl, rfl⟩) (fun r9 w9 h => by obtain ⟨rfl, rfl⟩ := h; exact k w9 Mo.rf)
theorem k_P_isConsistent {g : GG} {w : WW} {n0 : Nat → Prop} {q : Nat} {L : Int → Nat} {P : Int → Int} {N : Int} (hG : Base g) (hKI : KI g) (hL : KL g) (hK : PK g w n0 q L P) (hB : PB P N) (hC : PCon P) (hN : N + 13000 ≤ 10000000) (hco : sumR (fun t => P (86 + 2 * t)) 0 (P 2) + sumR (fun b => P (14 + 6 * b)) 0 (P 0) + P 5 = P 6) (hle : sumR (fun b => if P (13 + 6 * b) ≠ 0 then 1 else 0) 0 (P 0) = sumR (fun t => if P (102 + t) ≠ 0 then 1 else 0) 0 (P 2)) (hin : ∀ m : Int, 1 ≤ m ∧ m ≤ 12 → (oMonths m.toNat P).1 5 - P 5 = sumR (fun b => income1 P b m) 0 (P 0)) : Ct g yX2_isConsistent (.code yX2_isConsistent cX2_isConsistent 3 (some .boolean)) 22 3344 1549 4366 w [.ref q] (fun r_ w1 => r_ = some (.int (iI 1)) ∧ Mo w.2 w w1) xF := by
  refine Ct.ofN (lv := [some _, none, none]) hG (by decide +kernel) (Nat.le_of_ble_eq_true rfl) rfl ?_
  intro z hg hpo hxp hnm htab hmn
  subst hg
  have hmo : Mo w.2 w w := Mo.rf
  have hc0 := hK.c0
  have h6 := hB.k (k := 6) (by omega) (by omega)
  have hgg := hB.g
  have hs1 := sumR_bd (f := fun b => if P (13 + 6 * b) ≠ 0 then 1 else 0) (B := 1) (k := 0) (n := P 0) (by decide) hc0.1.1 (fun j _ _ => by (try dsimp only); split <;> omega)
  refine xr_aload_n dX2_isConsistent_0 rfl (by first | rfl | exact isRef_rf _) ?_
  refine xr_callV (n9 := 0) (rc' := 1508) (rs' := 4200) (k_P_isNoiseConsistent hG hKI hK hB) hK.hq rfl q445 q447 qs1 q87 q448 (by decide +kernel) rfl ⟨by decide, Nat.le_of_ble_eq_true rfl⟩ ⟨Nat.le_of_ble_eq_true rfl, Nat.le_of_ble_eq_true rfl⟩ (Nat.le_of_ble_eq_true rfl) dX2_isConsistent_1 rfl (xk_e fun w1 hm1 => ?_) (fun _ _ _ h => h.elim)
  have hmo := hmo.tr hm1 hmo.1
  have hK1 := hK.ext hm1
  refine xr_if_eq (tgt := 41) dX2_isConsistent_4 (by decide) (by omega) (fun c4 => absurd c4 (by decide)) (fun c4 => ?_)
  refine xr_aload_n dX2_isConsistent_7 rfl (by first | rfl | exact isRef_rf _) ?_
  refine xr_callV (n9 := 0) (rc' := 1508) (rs' := 4200) (k_P_allCoins hG hK1 hB) hK1.hq rfl q709 q415 q416 q87 q417 (by decide +kernel) rfl ⟨by decide, Nat.le_of_ble_eq_true rfl⟩ ⟨Nat.le_of_ble_eq_true rfl, Nat.le_of_ble_eq_true rfl⟩ (Nat.le_of_ble_eq_true rfl) dX2_isConsistent_8 rfl (xk_e fun w8 hm8 => ?_) (fun _ _ _ h => h.elim)
  have hmo := hmo.tr hm8 hmo.1
  have hK2 := hK1.ext hm8
  refine xr_aload_n dX2_isConsistent_11 rfl (by first | rfl | exact isRef_rf _) ?_
  refine xr_getfield (ci := 0) (T := TX2) (N := 10) (i := 6) hK2.hq rfl (by decide) in_X2 q202 (.inl rfl) dX2_isConsistent_12 (by rfl) ?_
  refine xr_icmp_ne (tgt := 41) dX2_isConsistent_15 (by decide) (by omega) (fun c15 => absurd c15 (fun h => h hco)) (fun c15 => ?_)
  refine xr_aload_n dX2_isConsistent_18 rfl (by first | rfl | exact isRef_rf _) ?_
  refine xr_callV (n9 := 0) (rc' := 1508) (rs' := 4200) (k_P_letCount hG hK2 hB) hK2.hq rfl q710 q711 q712 q87 q713 (by decide +kernel) rfl ⟨by decide, Nat.le_of_ble_eq_true rfl⟩ ⟨Nat.le_of_ble_eq_true rfl, Nat.le_of_ble_eq_true rfl⟩ (Nat.le_of_ble_eq_true rfl) dX2_isConsistent_19 rfl (xk_e fun w19 hm19 => ?_) (fun _ _ _ h => h.elim)
  have hmo := hmo.tr hm19 hmo.1
  have hK3 := hK2.ext hm19
  refine xr_aload_n dX2_isConsistent_22 rfl (by first | rfl | exact isRef_rf _) ?_
  refine xr_getfield (ci := 0) (T := TX2) (N := 10) (i := 2) hK3.hq rfl (by decide) in_X2 q192 (.inl rfl) dX2_isConsistent_23 (by rfl) ?_
  refine xr_lamC (x := ⟨"BenchBroker$Park", "isConsistent", "()Z"⟩) (σ := sg6) hmn ssite6 rfl (Nat.le_of_ble_eq_true rfl) dX2_isConsistent_26 (fun a26 hlam26 => ?_)
  refine xr_callV (n9 := 1) (rc' := 1508) (rs' := 4200) (k_sumA (F := fun t => if P (102 + t) ≠ 0 then 1 else 0) hG hK3.r2 hK3.l2 (fun k h0 h1 => ⟨_, 5, _, _, rfl, hK3.te k h0 h1, rfl, q2759⟩) (fun w' hm k y9 h0 h1 hy9 => by
    obtain rfl : L (50 + k) = y9 := Option.some.inj hy9
    exact (show iI (if P (102 + k) ≠ 0 then 1 else 0) = bI (decide (P (102 + k) ≠ 0)) by unfold bI; simp only [decide_eq_true_eq]) ▸ lv6 hG (hlam26.ext hm) (hK3.ext hm) hC ⟨h0, h1⟩ rfl)) hK3.r2 rfl q362 q363 q364 q88 q365 (by decide +kernel) rfl ⟨by decide, Nat.le_of_ble_eq_true rfl⟩ ⟨Nat.le_of_ble_eq_true rfl, Nat.le_of_ble_eq_true rfl⟩ (Nat.le_of_ble_eq_true rfl) dX2_isConsistent_31 rfl (xk_e fun w31 hm31 => ?_) (fun _ _ _ h => h.elim)
  have hmo := hmo.tr hm31 hmo.1
  refine xr_icmp_ne (tgt := 41) dX2_isConsistent_34 (by decide) (by omega) (fun c34 => absurd c34 (fun h => h hle)) (fun c34 => ?_)
  refine xr_iconst dX2_isConsistent_37 ?_
  refine xr_goto (tgt := 42) dX2_isConsistent_38 (by decide) ?_
  refine xr_istore_n (lv' := [some _, some _, none]) dX2_isConsistent_42 (by decide) rfl rfl ?_
  refine xr_iconst dX2_isConsistent_43 ?_
  refine xr_istore_n (lv' := [some _, some _, some _]) dX2_isConsistent_44 (by decide) rfl rfl ?_
  have lp45 : ∀ (fu45 : Nat) (w9 : WW) (m : Int), ((m = 1 ∧ 3 < fu45) ∨ (m = 6 ∧ 2 < fu45) ∨ (m = 12 ∧ 1 < fu45) ∨ (m = 18 ∧ 0 < fu45)) → Mo w.2 w w9 → XJ z yX2_isConsistent.cls cX2_isConsistent 3 (some .boolean) 22 3344 w9 (377 * fu45 + 0) (1050 * fu45 + 0) 45 [some (.ref q), some (.int (iI 1)), some (.int (iI m))] [] := by
    intro fu45
    induction fu45 with
    | zero =>
      intro w9 m hm hmo
      omega
    | succ fu45 ih45 =>
      intro w9 m hm hmo
      have hK9 := hK.ext hmo
      refine xr_iload_n dX2_isConsistent_45 rfl ?_
      refine xr_bipush dX2_isConsistent_46 (by decide) ?_
      refine xr_icmp_gt (tgt := 92) dX2_isConsistent_48 (by decide) (by omega) (fun c48 => ?_) (fun c48 => ?_)
      · skip
        refine xr_iload_n dX2_isConsistent_92 rfl ?_
        refine xr_ireturn rfl (by first | rfl | exact nar_bI _ | decide +kernel) dX2_isConsistent_93 ?_
        rw [hpo]
        first | exact ⟨rfl, hmo⟩ | exact ⟨ret_bt (by omega), hmo⟩ | exact ⟨ret_bf (by omega), hmo⟩ | exact ⟨ret_i (by omega), hmo⟩
      · skip
        refine xr_iload_n dX2_isConsistent_51 rfl ?_
        refine xr_if_eq (tgt := 72) dX2_isConsistent_52 (by decide) (by omega) (fun c52 => absurd c52 (by decide)) (fun c52 => ?_)
        refine xr_aload_n dX2_isConsistent_55 rfl (by first | rfl | exact isRef_rf _) ?_
        refine xr_iload_n dX2_isConsistent_56 rfl ?_
        refine xr_callV (n9 := 1) (rc' := 377 * fu45 + 34) (rs' := 1050 * fu45 + 68) (k_P_incomeWithin hG hL hK9 hB hC (by omega) hN) hK9.hq rfl q722 q723 q724 q87 q725 (by decide +kernel) rfl ⟨by decide, Nat.le_of_ble_eq_true rfl⟩ ⟨by omega, by omega⟩ (Nat.le_of_ble_eq_true rfl) dX2_isConsistent_57 rfl (fun r w57 hw => ?_) (fun _ _ _ h => h.elim)
        obtain ⟨rfl, hm57⟩ := hw
        have hmo := hmo.tr hm57 hmo.1
        have hK8 := hK9.ext hm57
        show XJ _ _ _ _ _ _ _ _ _ _ _ _ [.int (iI ((oMonths m.toNat P).1 5 - P 5))]
        refine xr_aload_n dX2_isConsistent_60 rfl (by first | rfl | exact isRef_rf _) ?_
        refine xr_iload_n dX2_isConsistent_61 rfl ?_
        refine xr_callV (n9 := 1) (rc' := 377 * fu45 + 0) (rs' := 1050 * fu45 + 0) (k_P_incomeByLeases (m := m) hG hK8 hB (by omega)) hK8.hq rfl q881 q882 q883 q87 q884 (by decide +kernel) rfl ⟨by decide, Nat.le_of_ble_eq_true rfl⟩ ⟨by omega, by omega⟩ (Nat.le_of_ble_eq_true rfl) dX2_isConsistent_62 rfl (xk_e fun w62 hm62 => ?_) (fun _ _ _ h => h.elim)
        have hmo := hmo.tr hm62 hmo.1
        refine xr_icmpx_ne (tgt := 72) dX2_isConsistent_65 (by decide) (fun c65 => absurd c65 (fun h => h (by rw [hin m (by omega)]))) (fun c65 => ?_)
        refine xr_iconst dX2_isConsistent_68 ?_
        refine xr_goto (tgt := 73) dX2_isConsistent_69 (by decide) ?_
        refine xr_istore_n (lv' := [some _, some _, some _]) dX2_isConsistent_73 (by decide) rfl rfl ?_
        refine xr_iload_n dX2_isConsistent_74 rfl ?_
        refine xr_iload_n dX2_isConsistent_75 rfl ?_
        refine xr_bipush dX2_isConsistent_76 (by decide) ?_
        refine xr_icmp_ge (tgt := 85) dX2_isConsistent_78 (by decide) (by omega) (fun c78 => ?_) (fun c78 => ?_)
        · skip
          refine xr_bipush dX2_isConsistent_85 (by decide) ?_
          refine xr_iadd dX2_isConsistent_87 ?_
          refine xr_istore_n (lv' := [some _, some _, some _]) dX2_isConsistent_88 (by decide) rfl rfl ?_
          refine xr_goto (tgt := 45) dX2_isConsistent_89 (by decide) ?_
          refine xr_wk (rc' := 377 * fu45 + 0) (rs' := 1050 * fu45 + 0) ⟨by omega, by omega⟩ (ih45 _ _ (by omega) hmo)
        · skip
          refine xr_iconst dX2_isConsistent_81 ?_
          refine xr_goto (tgt := 87) dX2_isConsistent_82 (by decide) ?_
          refine xr_iadd dX2_isConsistent_87 ?_
          refine xr_istore_n (lv' := [some _, some _, some _]) dX2_isConsistent_88 (by decide) rfl rfl ?_
          refine xr_goto (tgt := 45) dX2_isConsistent_89 (by decide) ?_
          refine xr_wk (rc' := 377 * fu45 + 0) (rs' := 1050 * fu45 + 0) ⟨by omega, by omega⟩ (ih45 _ _ (by omega) hmo)
  refine xr_wk (rc' := 377 * 4 + 0) (rs' := 1050 * 4 + 0) ⟨by omega, by omega⟩ (lp45 4 _ _ (by omega) hmo)
