/-! 45.order.lean.txt (written by tools/walker.py)  -/
set_option maxRecDepth 100000
theorem k_P_allCoins {g : GG} {w : WW} {n0 : Nat → Prop} {q : Nat} {L : Int → Nat} {P : Int → Int} {N : Int} (hG : Base g) (hK : PK g w n0 q L P) (hB : PB P N) : Ct g yX2_allCoins (.code yX2_allCoins cX2_allCoins 1 (some .int)) 12 3100 0 0 w [.ref q] (fun r_ w1 => r_ = some (.int (iI (sumR (fun t => P (86 + 2 * t)) 0 (P 2) + sumR (fun b => P (14 + 6 * b)) 0 (P 0) + P 5))) ∧ Mo w.2 w w1) xF := by
  refine Ct.ofN (lv := [some _]) hG (by decide +kernel) (Nat.le_of_ble_eq_true rfl) rfl ?_
  intro z hg hpo hxp hnm htab hmn
  subst hg
  have hmo : Mo w.2 w w := Mo.rf
  refine xr_aload_n dX2_allCoins_0 rfl (by first | rfl | exact isRef_rf _) ?_
  refine xr_getfield (ci := 0) (T := TX2) (N := 10) (i := 2) hK.hq rfl (by decide) in_X2 q192 (.inl rfl) dX2_allCoins_1 (by rfl) ?_
  refine xr_lamC (x := ⟨"BenchBroker$Park", "allCoins", "()I"⟩) (σ := sg4) hmn ssite4 rfl (Nat.le_of_ble_eq_true rfl) dX2_allCoins_4 (fun a4 hlam4 => ?_)
  refine xr_callV (n9 := 1) (rc' := 0) (rs' := 0) (k_sumA (F := fun t => P (86 + 2 * t)) hG hK.r2 hK.l2 (fun k h0 h1 => ⟨_, 5, _, _, rfl, hK.te k h0 h1, rfl, q2759⟩) (fun w' hm k y9 h0 h1 hy9 => by
    obtain rfl : L (50 + k) = y9 := Option.some.inj hy9
    exact lv4 hG (hlam4.ext hm) ((hK.ext hm).te k h0 h1))) hK.r2 rfl q362 q363 q364 q88 q365 (by decide +kernel) rfl ⟨by decide, Nat.le_of_ble_eq_true rfl⟩ ⟨Nat.le_of_ble_eq_true rfl, Nat.le_of_ble_eq_true rfl⟩ (Nat.le_of_ble_eq_true rfl) dX2_allCoins_9 rfl (xk_e fun w9 hm9 => ?_) (fun _ _ _ h => h.elim)
  have hmo := hmo.tr hm9 hmo.1
  have hK := hK.ext hm9
  refine xr_aload_n dX2_allCoins_12 rfl (by first | rfl | exact isRef_rf _) ?_
  refine xr_callV (n9 := 0) (rc' := 0) (rs' := 0) (k_P_depositTotal hG hK hB) hK.hq rfl q420 q405 q406 q87 q407 (by decide +kernel) rfl ⟨by decide, Nat.le_of_ble_eq_true rfl⟩ ⟨Nat.le_of_ble_eq_true rfl, Nat.le_of_ble_eq_true rfl⟩ (Nat.le_of_ble_eq_true rfl) dX2_allCoins_13 rfl (xk_e fun w13 hm13 => ?_) (fun _ _ _ h => h.elim)
  have hmo := hmo.tr hm13 hmo.1
  have hK := hK.ext hm13
  refine xr_iadd dX2_allCoins_16 ?_
  refine xr_aload_n dX2_allCoins_17 rfl (by first | rfl | exact isRef_rf _) ?_
  refine xr_getfield (ci := 0) (T := TX2) (N := 10) (i := 5) hK.hq rfl (by decide) in_X2 q200 (.inl rfl) dX2_allCoins_18 (by rfl) ?_
  refine xr_iadd dX2_allCoins_21 ?_
  refine xr_ireturn rfl rfl dX2_allCoins_22 ?_
  rw [hpo]
  first | exact ⟨rfl, hmo⟩ | exact ⟨ret_bt (by omega), hmo⟩ | exact ⟨ret_bf (by omega), hmo⟩ | exact ⟨ret_i (by omega), hmo⟩
/-- how many come before a, and who has so many before him -/
def ahead (B : Int → Int → Bool) (n a : Int) : Int := sumR (fun j => if B j a = true then 1 else 0) 0 n
def ordR (B : Int → Int → Bool) (n pos : Int) : Int := fstR (fun a => decide (ahead B n a = pos)) 0 n
theorem k_inOrder_B {g : GG} {w : WW} {n0 : Nat → Prop} {q : Nat} {L : Int → Nat} {P : Int → Int} {N : Int} {v : Nat} {pos : Int} {B : Int → Int → Bool} (hG : Base g) (hK : PK g w n0 q L P) (hB : PB P N) (hp : -2147483648 ≤ pos ∧ pos < 2147483648) (hV : ∀ w' : WW, Mo w.2 w w' → ∀ i j : Int, 0 ≤ i → i < P 0 → 0 ≤ j → j < P 0 → LV g ⟨"BenchBroker$Order", "isBefore", "(LBenchBroker$Item;LBenchBroker$Item;)Z"⟩ 20 3300 2 4 w' v [L (10 + i), L (10 + j)] (bI (B i j))) : Ct g yX1_inOrder (.code yX1_inOrder cX1_inOrder 7 (some .int)) 20 3300 264 528 w [.ref (L 0), .ref v, .int (iI pos)] (fun r_ w1 => r_ = some (.int (iI (ordR B (P 0) pos))) ∧ Mo w.2 w w1) xF := by
  refine Ct.of (lv := [some _, some _, some _, none, none, none, none]) hG (by decide +kernel) (Nat.le_of_ble_eq_true rfl) rfl ?_
  intro z hg hpo hxp hnm htab
  subst hg
  have hmo : Mo w.2 w w := Mo.rf
  have hgg := hB.g
  have hc0 := hK.c0
  refine xr_iconst dX1_inOrder_0 ?_
  refine xr_istore_n (lv' := [some _, some _, some _, some _, none, none, none]) dX1_inOrder_1 (by decide) rfl rfl ?_
  refine xr_lv (lvw_s (lvw_s (lvw_s (lvw_s (lvw_n (lvw_n (lvw_n (lvw_nil)))))))) ?_
  have lp2 : ∀ (fu2 : Nat) (w9 : WW) (k : Int), 0 ≤ k → k ≤ P 0 → P 0 - k < fu2 → PK (zg z) w9 n0 q L P → Mo w.2 w w9 → fstR (fun a => decide (ahead B (P 0) a = pos)) k (P 0) = ordR B (P 0) pos → XJ z yX1_inOrder.cls cX1_inOrder 7 (some .int) 20 3300 w9 (22 * fu2 + 22) (44 * fu2 + 44) 2 [some (.ref (L 0)), some (.ref v), some (.int (iI pos)), some (.int (iI k)), none, none, none] [] := by
    intro fu2
    induction fu2 with
    | zero =>
      intro w9 k hk0 hkn hfu hK9 hmo hr
      omega
    | succ fu2 ih2 =>
      intro w9 k hk0 hkn hfu hK9 hmo hr
      refine xr_iload_n dX1_inOrder_2 rfl ?_
      refine xr_aload_n dX1_inOrder_3 rfl (by first | rfl | exact isRef_rf _) ?_
      refine xr_callV (n9 := 0) (rc' := 22 * fu2 + 44) (rs' := 44 * fu2 + 88) (k_Reg_size hG hK9.r0 hK9.l0) hK9.r0 rfl q293 q294 q295 q88 q296 (by decide +kernel) rfl ⟨by decide, Nat.le_of_ble_eq_true rfl⟩ ⟨by omega, by omega⟩ (Nat.le_of_ble_eq_true rfl) dX1_inOrder_4 rfl (xk_r ?_) (fun _ _ _ h => h.elim)
      refine xr_icmp_ge (tgt := 78) dX1_inOrder_7 (by decide) (by omega) (fun c7 => ?_) (fun c7 => ?_)
      · skip
        refine xr_iconst dX1_inOrder_78 ?_
        refine xr_ireturn rfl rfl dX1_inOrder_79 ?_
        rw [hpo]
        exact ⟨by rw [← hr, fstR_ge (by omega)], hmo⟩
      · skip
        rw [fstR_lt (show k < P 0 by omega)] at hr
        refine xr_aload_n dX1_inOrder_10 rfl (by first | rfl | exact isRef_rf _) ?_
        refine xr_iload_n dX1_inOrder_11 rfl ?_
        refine xr_callV (n9 := 1) (rc' := 22 * fu2 + 44) (rs' := 44 * fu2 + 88) (k_Reg_get hG hK9.r0 hK9.l0 ⟨hk0, by omega⟩ rfl (hK9.be k hk0 (by omega)) rfl q2757) hK9.r0 rfl q1072 q474 q475 q88 q476 (by decide +kernel) rfl ⟨by decide, Nat.le_of_ble_eq_true rfl⟩ ⟨by omega, by omega⟩ (Nat.le_of_ble_eq_true rfl) dX1_inOrder_12 rfl (xk_r ?_) (fun _ _ _ h => h.elim)
        refine xr_astore (lv' := [some _, some _, some _, some _, some _, none, none]) dX1_inOrder_15 (by decide) rfl (by first | rfl | exact isRef_rf _) rfl ?_
        refine xr_iconst dX1_inOrder_17 ?_
        refine xr_istore (lv' := [some _, some _, some _, some _, some _, some _, none]) dX1_inOrder_18 (by decide) rfl rfl ?_
        refine xr_iconst dX1_inOrder_20 ?_
        refine xr_istore (lv' := [some _, some _, some _, some _, some _, some _, some _]) dX1_inOrder_21 (by decide) rfl rfl ?_
        have lp23 : ∀ (fu23 : Nat) (w8 : WW) (ac2 j : Int), 0 ≤ j → j ≤ P 0 → P 0 - j < fu23 → PK (zg z) w8 n0 q L P → Mo w.2 w w8 → ac2 + sumR (fun j => if B j k = true then 1 else 0) j (P 0) = ahead B (P 0) k → XJ z yX1_inOrder.cls cX1_inOrder 7 (some .int) 20 3300 w8 (22 * fu2 + 2 * fu23 + 22) (44 * fu2 + 4 * fu23 + 44) 23 [some (.ref (L 0)), some (.ref v), some (.int (iI pos)), some (.int (iI k)), some (.ref (L (10 + k))), some (.int (iI ac2)), some (.int (iI j))] [] := by
          intro fu23
          induction fu23 with
          | zero =>
            intro w8 ac2 j hj0 hjn hfu8 hK8 hmo8 hr2
            omega
          | succ fu23 ih23 =>
            intro w8 ac2 j hj0 hjn hfu8 hK8 hmo8 hr2
            refine xr_iload dX1_inOrder_23 rfl ?_
            refine xr_aload_n dX1_inOrder_25 rfl (by first | rfl | exact isRef_rf _) ?_
            refine xr_callV (n9 := 0) (rc' := 22 * fu2 + 2 * fu23 + 24) (rs' := 44 * fu2 + 4 * fu23 + 48) (k_Reg_size hG hK8.r0 hK8.l0) hK8.r0 rfl q293 q294 q295 q88 q296 (by decide +kernel) rfl ⟨by decide, Nat.le_of_ble_eq_true rfl⟩ ⟨by omega, by omega⟩ (Nat.le_of_ble_eq_true rfl) dX1_inOrder_26 rfl (xk_r ?_) (fun _ _ _ h => h.elim)
            refine xr_icmp_ge (tgt := 60) dX1_inOrder_29 (by decide) (by omega) (fun c29 => ?_) (fun c29 => ?_)
            · skip
              have he : ac2 = ahead B (P 0) k := by rw [← hr2, sumR_ge (by omega), Int.add_zero]
              have hab := sumR_bd (f := fun j => if B j k = true then 1 else 0) (B := 1) (k := 0) (n := P 0) (by decide) (by omega) (fun j _ _ => by split <;> omega)
              have hab2 : 0 ≤ ac2 ∧ ac2 ≤ 100 := by rw [he]; unfold ahead; omega
              refine xr_iload dX1_inOrder_60 rfl ?_
              refine xr_iload_n dX1_inOrder_62 rfl ?_
              refine xr_icmp_ne (tgt := 72) dX1_inOrder_63 (by decide) (by omega) (fun c63 => ?_) (fun c63 => ?_)
              · skip
                refine xr_iinc (lv' := [some _, some _, some _, some _, some _, some _, some _]) dX1_inOrder_72 rfl (by decide) rfl rfl ?_
                refine xr_goto (tgt := 2) dX1_inOrder_75 (by decide) ?_
                refine xr_lv (lvw_s (lvw_s (lvw_s (lvw_s (lvw_n (lvw_n (lvw_n (lvw_nil)))))))) ?_
                refine xr_wk (rc' := 22 * fu2 + 22) (rs' := 44 * fu2 + 44) ⟨by omega, by omega⟩ (ih2 _ _ (by omega) (by omega) (by omega) hK8 hmo8 (by rw [if_neg (fun h9 => c63 (he.trans (of_decide_eq_true h9)))] at hr; exact hr))
              · skip
                refine xr_aload dX1_inOrder_66 rfl (by first | rfl | exact isRef_rf _) ?_
                refine xr_callV (n9 := 0) (rc' := 22 * fu2 + 2 * fu23 + 24) (rs' := 44 * fu2 + 4 * fu23 + 48) (k_index_B hG (hK8.be k hk0 (by omega))) (hK8.be k hk0 (by omega)) rfl q1532 q804 q2740 q107 q805 (by decide +kernel) rfl ⟨by decide, Nat.le_of_ble_eq_true rfl⟩ ⟨by omega, by omega⟩ (Nat.le_of_ble_eq_true rfl) dX1_inOrder_68 rfl (xk_r ?_) (fun _ _ _ h => h.elim)
                refine xr_ireturn rfl rfl dX1_inOrder_71 ?_
                rw [hpo]
                exact ⟨by rw [← hr, if_pos (decide_eq_true (he.symm.trans c63))], hmo8⟩
            · skip
              rw [sumR_lt (show j < P 0 by omega)] at hr2
              refine xr_iload dX1_inOrder_32 rfl ?_
              refine xr_aload_n dX1_inOrder_34 rfl (by first | rfl | exact isRef_rf _) ?_
              refine xr_aload_n dX1_inOrder_35 rfl (by first | rfl | exact isRef_rf _) ?_
              refine xr_iload dX1_inOrder_36 rfl ?_
              refine xr_callV (n9 := 1) (rc' := 22 * fu2 + 2 * fu23 + 24) (rs' := 44 * fu2 + 4 * fu23 + 48) (k_Reg_get hG hK8.r0 hK8.l0 ⟨hj0, by omega⟩ rfl (hK8.be j hj0 (by omega)) rfl q2757) hK8.r0 rfl q1072 q474 q475 q88 q476 (by decide +kernel) rfl ⟨by decide, Nat.le_of_ble_eq_true rfl⟩ ⟨by omega, by omega⟩ (Nat.le_of_ble_eq_true rfl) dX1_inOrder_38 rfl (xk_r ?_) (fun _ _ _ h => h.elim)
              refine xr_aload dX1_inOrder_41 rfl (by first | rfl | exact isRef_rf _) ?_
              refine hV w8 hmo8 j k hj0 (by omega) hk0 (by omega) z _ _ _ _ _ _ _ _ (22 * fu2 + 2 * fu23 + 22) (44 * fu2 + 4 * fu23 + 44) _ _ _ _ _ _ rfl q1528 ⟨Nat.le_of_ble_eq_true rfl, Nat.le_of_ble_eq_true rfl⟩ ⟨by omega, by omega⟩ (Nat.le_of_ble_eq_true rfl) dX1_inOrder_43 rfl (fun w43 hm43 => ?_)
              have hmo8 := hmo8.tr hm43 hmo8.1
              have hK8 := hK8.ext hm43
              refine xr_callS (n9 := 1) (rc' := 22 * fu2 + 2 * fu23 + 22) (rs' := 44 * fu2 + 4 * fu23 + 44) (k_asInt hG) q1531 q386 q86 q387 (by decide +kernel) rfl ⟨by decide, Nat.le_of_ble_eq_true rfl⟩ ⟨by omega, by omega⟩ (Nat.le_of_ble_eq_true rfl) dX1_inOrder_48 rfl (xk_r ?_) (fun _ _ _ h => h.elim)
              show XJ _ _ _ _ _ _ _ _ _ _ _ _ [.int (iI (if B j k = true then 1 else 0)), _]
              refine xr_iadd dX1_inOrder_51 ?_
              refine xr_istore (lv' := [some _, some _, some _, some _, some _, some _, some _]) dX1_inOrder_52 (by decide) rfl rfl ?_
              refine xr_iinc (lv' := [some _, some _, some _, some _, some _, some _, some _]) dX1_inOrder_54 rfl (by decide) rfl rfl ?_
              refine xr_goto (tgt := 23) dX1_inOrder_57 (by decide) ?_
              refine xr_wk (rc' := 22 * fu2 + 2 * fu23 + 22) (rs' := 44 * fu2 + 4 * fu23 + 44) ⟨by omega, by omega⟩ (ih23 _ _ _ (by omega) (by omega) (by omega) hK8 hmo8 (by rw [← hr2, Int.add_assoc]))
        refine xr_wk (rc' := 22 * fu2 + 2 * 11 + 22) (rs' := 44 * fu2 + 4 * 11 + 44) ⟨by omega, by omega⟩ (lp23 11 _ _ _ (by omega) (by omega) (by omega) hK9 hmo (by rw [Int.zero_add]; rfl))
  refine xr_wk (rc' := 22 * 11 + 22) (rs' := 44 * 11 + 44) ⟨by omega, by omega⟩ (lp2 11 _ _ (by omega) (by omega) (by omega) hK Mo.rf rfl)
theorem k_inOrder_T {g : GG} {w : WW} {n0 : Nat → Prop} {q : Nat} {L : Int → Nat} {P : Int → Int} {N : Int} {v : Nat} {pos : Int} {B : Int → Int → Bool} (hG : Base g) (hK : PK g w n0 q L P) (hB : PB P N) (hp : -2147483648 ≤ pos ∧ pos < 2147483648) (hV : ∀ w' : WW, Mo w.2 w w' → ∀ i j : Int, 0 ≤ i → i < P 2 → 0 ≤ j → j < P 2 → LV g ⟨"BenchBroker$Order", "isBefore", "(LBenchBroker$Item;LBenchBroker$Item;)Z"⟩ 10 400 0 0 w' v [L (50 + i), L (50 + j)] (bI (B i j))) : Ct g yX1_inOrder (.code yX1_inOrder cX1_inOrder 7 (some .int)) 10 400 0 0 w [.ref (L 2), .ref v, .int (iI pos)] (fun r_ w1 => r_ = some (.int (iI (ordR B (P 2) pos))) ∧ Mo w.2 w w1) xF := by
  refine Ct.of (lv := [some _, some _, some _, none, none, none, none]) hG (by decide +kernel) (Nat.le_of_ble_eq_true rfl) rfl ?_
  intro z hg hpo hxp hnm htab
  subst hg
  have hmo : Mo w.2 w w := Mo.rf
  have hgg := hB.g
  have hc0 := hK.c0
  refine xr_iconst dX1_inOrder_0 ?_
  refine xr_istore_n (lv' := [some _, some _, some _, some _, none, none, none]) dX1_inOrder_1 (by decide) rfl rfl ?_
  refine xr_lv (lvw_s (lvw_s (lvw_s (lvw_s (lvw_n (lvw_n (lvw_n (lvw_nil)))))))) ?_
  have lp2 : ∀ (fu2 : Nat) (w9 : WW) (k : Int), 0 ≤ k → k ≤ P 2 → P 2 - k < fu2 → PK (zg z) w9 n0 q L P → Mo w.2 w w9 → fstR (fun a => decide (ahead B (P 2) a = pos)) k (P 2) = ordR B (P 2) pos → XJ z yX1_inOrder.cls cX1_inOrder 7 (some .int) 10 400 w9 (0 * fu2 + 0) (0 * fu2 + 0) 2 [some (.ref (L 2)), some (.ref v), some (.int (iI pos)), some (.int (iI k)), none, none, none] [] := by
    intro fu2
    induction fu2 with
    | zero =>
      intro w9 k hk0 hkn hfu hK9 hmo hr
      omega
    | succ fu2 ih2 =>
      intro w9 k hk0 hkn hfu hK9 hmo hr
      refine xr_iload_n dX1_inOrder_2 rfl ?_
      refine xr_aload_n dX1_inOrder_3 rfl (by first | rfl | exact isRef_rf _) ?_
      refine xr_callV (n9 := 0) (rc' := 0 * fu2 + 0) (rs' := 0 * fu2 + 0) (k_Reg_size hG hK9.r2 hK9.l2) hK9.r2 rfl q293 q294 q295 q88 q296 (by decide +kernel) rfl ⟨by decide, Nat.le_of_ble_eq_true rfl⟩ ⟨by omega, by omega⟩ (Nat.le_of_ble_eq_true rfl) dX1_inOrder_4 rfl (xk_r ?_) (fun _ _ _ h => h.elim)
      refine xr_icmp_ge (tgt := 78) dX1_inOrder_7 (by decide) (by omega) (fun c7 => ?_) (fun c7 => ?_)
      · skip
        refine xr_iconst dX1_inOrder_78 ?_
        refine xr_ireturn rfl rfl dX1_inOrder_79 ?_
        rw [hpo]
        exact ⟨by rw [← hr, fstR_ge (by omega)], hmo⟩
      · skip
        rw [fstR_lt (show k < P 2 by omega)] at hr
        refine xr_aload_n dX1_inOrder_10 rfl (by first | rfl | exact isRef_rf _) ?_
        refine xr_iload_n dX1_inOrder_11 rfl ?_
        refine xr_callV (n9 := 1) (rc' := 0 * fu2 + 0) (rs' := 0 * fu2 + 0) (k_Reg_get hG hK9.r2 hK9.l2 ⟨hk0, by omega⟩ rfl (hK9.te k hk0 (by omega)) rfl q2759) hK9.r2 rfl q1072 q474 q475 q88 q476 (by decide +kernel) rfl ⟨by decide, Nat.le_of_ble_eq_true rfl⟩ ⟨by omega, by omega⟩ (Nat.le_of_ble_eq_true rfl) dX1_inOrder_12 rfl (xk_r ?_) (fun _ _ _ h => h.elim)
        refine xr_astore (lv' := [some _, some _, some _, some _, some _, none, none]) dX1_inOrder_15 (by decide) rfl (by first | rfl | exact isRef_rf _) rfl ?_
        refine xr_iconst dX1_inOrder_17 ?_
        refine xr_istore (lv' := [some _, some _, some _, some _, some _, some _, none]) dX1_inOrder_18 (by decide) rfl rfl ?_
        refine xr_iconst dX1_inOrder_20 ?_
        refine xr_istore (lv' := [some _, some _, some _, some _, some _, some _, some _]) dX1_inOrder_21 (by decide) rfl rfl ?_
        have lp23 : ∀ (fu23 : Nat) (w8 : WW) (ac2 j : Int), 0 ≤ j → j ≤ P 2 → P 2 - j < fu23 → PK (zg z) w8 n0 q L P → Mo w.2 w w8 → ac2 + sumR (fun j => if B j k = true then 1 else 0) j (P 2) = ahead B (P 2) k → XJ z yX1_inOrder.cls cX1_inOrder 7 (some .int) 10 400 w8 (0 * fu2 + 0 * fu23 + 0) (0 * fu2 + 0 * fu23 + 0) 23 [some (.ref (L 2)), some (.ref v), some (.int (iI pos)), some (.int (iI k)), some (.ref (L (50 + k))), some (.int (iI ac2)), some (.int (iI j))] [] := by
          intro fu23
          induction fu23 with
          | zero =>
            intro w8 ac2 j hj0 hjn hfu8 hK8 hmo8 hr2
            omega
          | succ fu23 ih23 =>
            intro w8 ac2 j hj0 hjn hfu8 hK8 hmo8 hr2
            refine xr_iload dX1_inOrder_23 rfl ?_
            refine xr_aload_n dX1_inOrder_25 rfl (by first | rfl | exact isRef_rf _) ?_
            refine xr_callV (n9 := 0) (rc' := 0 * fu2 + 0 * fu23 + 0) (rs' := 0 * fu2 + 0 * fu23 + 0) (k_Reg_size hG hK8.r2 hK8.l2) hK8.r2 rfl q293 q294 q295 q88 q296 (by decide +kernel) rfl ⟨by decide, Nat.le_of_ble_eq_true rfl⟩ ⟨by omega, by omega⟩ (Nat.le_of_ble_eq_true rfl) dX1_inOrder_26 rfl (xk_r ?_) (fun _ _ _ h => h.elim)
            refine xr_icmp_ge (tgt := 60) dX1_inOrder_29 (by decide) (by omega) (fun c29 => ?_) (fun c29 => ?_)
            · skip
              have he : ac2 = ahead B (P 2) k := by rw [← hr2, sumR_ge (by omega), Int.add_zero]
              have hab := sumR_bd (f := fun j => if B j k = true then 1 else 0) (B := 1) (k := 0) (n := P 2) (by decide) (by omega) (fun j _ _ => by split <;> omega)
              have hab2 : 0 ≤ ac2 ∧ ac2 ≤ 100 := by rw [he]; unfold ahead; omega
              refine xr_iload dX1_inOrder_60 rfl ?_
              refine xr_iload_n dX1_inOrder_62 rfl ?_
              refine xr_icmp_ne (tgt := 72) dX1_inOrder_63 (by decide) (by omega) (fun c63 => ?_) (fun c63 => ?_)
              · skip
                refine xr_iinc (lv' := [some _, some _, some _, some _, some _, some _, some _]) dX1_inOrder_72 rfl (by decide) rfl rfl ?_
                refine xr_goto (tgt := 2) dX1_inOrder_75 (by decide) ?_
                refine xr_lv (lvw_s (lvw_s (lvw_s (lvw_s (lvw_n (lvw_n (lvw_n (lvw_nil)))))))) ?_
                refine xr_wk (rc' := 0 * fu2 + 0) (rs' := 0 * fu2 + 0) ⟨by omega, by omega⟩ (ih2 _ _ (by omega) (by omega) (by omega) hK8 hmo8 (by rw [if_neg (fun h9 => c63 (he.trans (of_decide_eq_true h9)))] at hr; exact hr))
              · skip
                refine xr_aload dX1_inOrder_66 rfl (by first | rfl | exact isRef_rf _) ?_
                refine xr_callV (n9 := 0) (rc' := 0 * fu2 + 0 * fu23 + 0) (rs' := 0 * fu2 + 0 * fu23 + 0) (k_index_T hG (hK8.te k hk0 (by omega))) (hK8.te k hk0 (by omega)) rfl q1532 q804 q2742 q107 q805 (by decide +kernel) rfl ⟨by decide, Nat.le_of_ble_eq_true rfl⟩ ⟨by omega, by omega⟩ (Nat.le_of_ble_eq_true rfl) dX1_inOrder_68 rfl (xk_r ?_) (fun _ _ _ h => h.elim)
                refine xr_ireturn rfl rfl dX1_inOrder_71 ?_
                rw [hpo]
                exact ⟨by rw [← hr, if_pos (decide_eq_true (he.symm.trans c63))], hmo8⟩
            · skip
              rw [sumR_lt (show j < P 2 by omega)] at hr2
              refine xr_iload dX1_inOrder_32 rfl ?_
              refine xr_aload_n dX1_inOrder_34 rfl (by first | rfl | exact isRef_rf _) ?_
              refine xr_aload_n dX1_inOrder_35 rfl (by first | rfl | exact isRef_rf _) ?_
              refine xr_iload dX1_inOrder_36 rfl ?_
              refine xr_callV (n9 := 1) (rc' := 0 * fu2 + 0 * fu23 + 0) (rs' := 0 * fu2 + 0 * fu23 + 0) (k_Reg_get hG hK8.r2 hK8.l2 ⟨hj0, by omega⟩ rfl (hK8.te j hj0 (by omega)) rfl q2759) hK8.r2 rfl q1072 q474 q475 q88 q476 (by decide +kernel) rfl ⟨by decide, Nat.le_of_ble_eq_true rfl⟩ ⟨by omega, by omega⟩ (Nat.le_of_ble_eq_true rfl) dX1_inOrder_38 rfl (xk_r ?_) (fun _ _ _ h => h.elim)
              refine xr_aload dX1_inOrder_41 rfl (by first | rfl | exact isRef_rf _) ?_
              refine hV w8 hmo8 j k hj0 (by omega) hk0 (by omega) z _ _ _ _ _ _ _ _ (0 * fu2 + 0 * fu23 + 0) (0 * fu2 + 0 * fu23 + 0) _ _ _ _ _ _ rfl q1528 ⟨Nat.le_of_ble_eq_true rfl, Nat.le_of_ble_eq_true rfl⟩ ⟨by omega, by omega⟩ (Nat.le_of_ble_eq_true rfl) dX1_inOrder_43 rfl (fun w43 hm43 => ?_)
              have hmo8 := hmo8.tr hm43 hmo8.1
              have hK8 := hK8.ext hm43
              refine xr_callS (n9 := 1) (rc' := 0 * fu2 + 0 * fu23 + 0) (rs' := 0 * fu2 + 0 * fu23 + 0) (k_asInt hG) q1531 q386 q86 q387 (by decide +kernel) rfl ⟨by decide, Nat.le_of_ble_eq_true rfl⟩ ⟨by omega, by omega⟩ (Nat.le_of_ble_eq_true rfl) dX1_inOrder_48 rfl (xk_r ?_) (fun _ _ _ h => h.elim)
              show XJ _ _ _ _ _ _ _ _ _ _ _ _ [.int (iI (if B j k = true then 1 else 0)), _]
              refine xr_iadd dX1_inOrder_51 ?_
              refine xr_istore (lv' := [some _, some _, some _, some _, some _, some _, some _]) dX1_inOrder_52 (by decide) rfl rfl ?_
              refine xr_iinc (lv' := [some _, some _, some _, some _, some _, some _, some _]) dX1_inOrder_54 rfl (by decide) rfl rfl ?_
              refine xr_goto (tgt := 23) dX1_inOrder_57 (by decide) ?_
              refine xr_wk (rc' := 0 * fu2 + 0 * fu23 + 0) (rs' := 0 * fu2 + 0 * fu23 + 0) ⟨by omega, by omega⟩ (ih23 _ _ _ (by omega) (by omega) (by omega) hK8 hmo8 (by rw [← hr2, Int.add_assoc]))
        refine xr_wk (rc' := 0 * fu2 + 0 * 11 + 0) (rs' := 0 * fu2 + 0 * 11 + 0) ⟨by omega, by omega⟩ (lp23 11 _ _ _ (by omega) (by omega) (by omega) hK9 hmo (by rw [Int.zero_add]; rfl))
  refine xr_wk (rc' := 0 * 11 + 0) (rs' := 0 * 11 + 0) ⟨by omega, by omega⟩ (lp2 11 _ _ (by omega) (by omega) (by omega) hK Mo.rf rfl)
