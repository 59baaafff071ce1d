/-! 41.pass.lean.txt (written by tools/walker.py)  -/
set_option maxRecDepth 100000
theorem oRow_lt {P : Int → Int} {k n : Int} (h : k < n) : oRow (n - k).toNat k P = ((oRow (n - (k + 1)).toNat (k + 1) (oOne P k).1).1, (oOne P k).2 + (oRow (n - (k + 1)).toNat (k + 1) (oOne P k).1).2) := by
  rw [show (n - k).toNat = (n - (k + 1)).toNat + 1 by omega]; rfl
theorem oRow_ge {P : Int → Int} {k n : Int} (h : n ≤ k) : oRow (n - k).toNat k P = (P, 0) := by
  rw [show (n - k).toNat = 0 by omega]; rfl
theorem oMonths_lt {P : Int → Int} {k n : Int} (h : k < n) : oMonths (n - k).toNat P = ((oMonths (n - (k + 1)).toNat (oRow (P 0).toNat 0 (updI P 4 (P 4 + 1))).1).1, (oRow (P 0).toNat 0 (updI P 4 (P 4 + 1))).2 + (oMonths (n - (k + 1)).toNat (oRow (P 0).toNat 0 (updI P 4 (P 4 + 1))).1).2) := by
  rw [show (n - k).toNat = (n - (k + 1)).toNat + 1 by omega]; rfl
theorem oMonths_ge {P : Int → Int} {k n : Int} (h : n ≤ k) : oMonths (n - k).toNat P = (P, 0) := by
  rw [show (n - k).toNat = 0 by omega]; rfl
theorem k_P_passMonths {g : GG} {w : WW} {n0 : Nat → Prop} {q : Nat} {L : Int → Nat} {P : Int → Int} {N : Int} {m : Int} (hG : Base g) (hK : PK g w n0 q L P) (hB : PB P N) (hm : 1 ≤ m ∧ m ≤ 12) (hN : N + 13000 ≤ 10000000) : Ct g yX2_passMonths (.code yX2_passMonths cX2_passMonths 6 (some .int)) 15 3167 286 572 w [.ref q, .int (iI m)] (fun r_ w1 => r_ = some (.int (iI (oMonths m.toNat P).2)) ∧ PK g w1 n0 q L (oMonths m.toNat P).1 ∧ Fr n0 w w1) xF := by
  refine Ct.of (lv := [some _, some _, none, none, none, none]) hG (by decide +kernel) (Nat.le_of_ble_eq_true rfl) rfl ?_
  intro z hg hpo hxp hnm htab
  subst hg
  have hgg := hB.g
  refine xr_iconst dX2_passMonths_0 ?_
  refine xr_istore_n (lv' := [some _, some _, some _, none, none, none]) dX2_passMonths_1 (by decide) rfl rfl ?_
  refine xr_iconst dX2_passMonths_2 ?_
  refine xr_istore_n (lv' := [some _, some _, some _, some _, none, none]) dX2_passMonths_3 (by decide) rfl rfl ?_
  refine xr_lv (lvw_s (lvw_s (lvw_s (lvw_s (lvw_n (lvw_n (lvw_nil))))))) ?_
  have lp4 : ∀ (fu4 : Nat) (w9 : WW) (P9 : Int → Int) (acc k : Int), 0 ≤ k → k ≤ m → m - k < fu4 → PK (zg z) w9 n0 q L P9 → PB P9 (N + 1001 * k) → Fr n0 w w9 → (oMonths (m - k).toNat P9).1 = (oMonths m.toNat P).1 → acc + (oMonths (m - k).toNat P9).2 = (oMonths m.toNat P).2 → XJ z yX2_passMonths.cls cX2_passMonths 6 (some .int) 15 3167 w9 (22 * fu4 + 0) (44 * fu4 + 0) 4 [some (.ref q), some (.int (iI m)), some (.int (iI acc)), some (.int (iI k)), none, none] [] := by
    intro fu4
    induction fu4 with
    | zero =>
      intro w9 P9 acc k hk0 hkm hfu hK9 hB9 hmo9 hr3 hr4
      omega
    | succ fu4 ih4 =>
      intro w9 P9 acc k hk0 hkm hfu hK9 hB9 hmo9 hr3 hr4
      refine xr_iload_n dX2_passMonths_4 rfl ?_
      refine xr_iload_n dX2_passMonths_5 rfl ?_
      refine xr_icmp_ge (tgt := 88) dX2_passMonths_6 (by decide) (by omega) (fun c6 => ?_) (fun c6 => ?_)
      · skip
        refine xr_iload_n dX2_passMonths_88 rfl ?_
        refine xr_ireturn rfl rfl dX2_passMonths_89 ?_
        rw [hpo]
        rw [oMonths_ge (by omega)] at hr3 hr4
        exact ⟨by rw [← hr4, Int.add_zero], hr3 ▸ hK9, hmo9⟩
      · skip
        have hg9 := hB9.g
        have k4 := hB9.k (k := 4) (by omega) (by omega)
        obtain ⟨hB7, e70, e71, e72⟩ := PB_month hB9 (by omega)
        refine xr_aload_n dX2_passMonths_9 rfl (by first | rfl | exact isRef_rf _) ?_
        refine xr_dup dX2_passMonths_10 (by first | rfl | exact cat_rf _) ?_
        refine xr_getfield (ci := 0) (T := TX2) (N := 10) (i := 4) hK9.hq rfl (by decide) in_X2 q198 (.inl rfl) dX2_passMonths_11 (by rfl) ?_
        refine xr_iconst dX2_passMonths_14 ?_
        refine xr_iadd dX2_passMonths_15 ?_
        refine xr_putfield (ci := 0) (T := TX2) (N := 10) (i := 4) (fs' := [_, _, _, _, _, _, _, _, _, _]) hK9.hq rfl (by decide) in_X2 tyX2 tyX2_ok nmX2 q198 (.inl rfl) rfl dX2_passMonths_16 (by first | rfl | exact nar_bI _ | exact nar_rf _) (by first | rfl | exact fit_bI _ | exact fit_rf _ _) (by simp) (by rfl) (.inl rfl) (fun hob16 => ?_)
        have hK1 := hK9.setQ' (P' := (updI P9 4 (P9 4 + 1))) (fs := [.ref (L 0), .ref (L 1), .ref (L 2), .int (iI (P9 3)), .int (iI (P9 4 + 1)), .int (iI (P9 5)), .int (iI (P9 6)), .int (iI (P9 7)), .int (iI (P9 8)), .int (iI (P9 9))]) (by simp only [qF, updI, ↓reduceIte]; repeat first | rfl | rw [if_pos (by omega)] | rw [if_neg (by omega)]) (by intro k hk; rw [updI, if_neg (by omega)])
        have hB1 := (hB9.mono (M := N + 1001 * k + 1) (by omega)).updK (k := 4) (v := P9 4 + 1) (by omega) (by omega)
        have hmo1 := hmo9.tq (Fr.put (S := n0) hK9.n0lt.1 (.inl (.inr (0, [.ref (L 0), .ref (L 1), .ref (L 2), .int (iI (P9 3)), .int (iI (P9 4 + 1)), .int (iI (P9 5)), .int (iI (P9 6)), .int (iI (P9 7)), .int (iI (P9 8)), .int (iI (P9 9))]))))
        have e1 : (updI P9 4 (P9 4 + 1)) 0 = P9 0 := updI_ne (by omega)
        refine xr_iconst dX2_passMonths_19 ?_
        refine xr_istore (lv' := [some _, some _, some _, some _, some _, none]) dX2_passMonths_20 (by decide) rfl rfl ?_
        refine xr_lv (lvw_s (lvw_s (lvw_s (lvw_s (lvw_s (lvw_n (lvw_nil))))))) ?_
        have lp22 : ∀ (fu22 : Nat) (w8 : WW) (P8 : Int → Int) (ac2 j : Int), 0 ≤ j → j ≤ P9 0 → P9 0 - j < fu22 → PK (zg z) w8 n0 q L P8 → PB P8 (N + 1001 * k + 1 + 100 * j) → P8 0 = P9 0 → Fr n0 w w8 → (oRow (P9 0 - j).toNat j P8).1 = (oRow (P9 0).toNat 0 (updI P9 4 (P9 4 + 1))).1 → ac2 + (oRow (P9 0 - j).toNat j P8).2 = acc + (oRow (P9 0).toNat 0 (updI P9 4 (P9 4 + 1))).2 → XJ z yX2_passMonths.cls cX2_passMonths 6 (some .int) 15 3167 w8 (22 * fu4 + 2 * fu22 + 0) (44 * fu4 + 4 * fu22 + 0) 22 [some (.ref q), some (.int (iI m)), some (.int (iI ac2)), some (.int (iI k)), some (.int (iI j)), none] [] := by
          intro fu22
          induction fu22 with
          | zero =>
            intro w8 P8 ac2 j hj0 hjn hfu8 hK8 hB8 e80 hmo8 hr1 hr2
            omega
          | succ fu22 ih22 =>
            intro w8 P8 ac2 j hj0 hjn hfu8 hK8 hB8 e80 hmo8 hr1 hr2
            have hc8 := hK8.c0
            refine xr_iload dX2_passMonths_22 rfl ?_
            refine xr_aload_n dX2_passMonths_24 rfl (by first | rfl | exact isRef_rf _) ?_
            refine xr_getfield (ci := 0) (T := TX2) (N := 10) (i := 0) hK8.hq rfl (by decide) in_X2 q186 (.inl rfl) dX2_passMonths_25 (by rfl) ?_
            refine xr_callV (n9 := 0) (rc' := 22 * fu4 + 2 * fu22 + 2) (rs' := 44 * fu4 + 4 * fu22 + 4) (k_Reg_size hG hK8.r0 hK8.l0) hK8.r0 rfl q472 q294 q295 q88 q296 (by decide +kernel) rfl ⟨by decide, Nat.le_of_ble_eq_true rfl⟩ ⟨by omega, by omega⟩ (Nat.le_of_ble_eq_true rfl) dX2_passMonths_28 rfl (xk_r ?_) (fun _ _ _ h => h.elim)
            refine xr_icmp_ge (tgt := 82) dX2_passMonths_31 (by decide) (by omega) (fun c31 => ?_) (fun c31 => ?_)
            · skip
              refine xr_iinc (lv' := [some _, some _, some _, some _, some _, none]) dX2_passMonths_82 rfl (by decide) rfl rfl ?_
              refine xr_goto (tgt := 4) dX2_passMonths_85 (by decide) ?_
              refine xr_lv (lvw_s (lvw_s (lvw_s (lvw_s (lvw_n (lvw_n (lvw_nil))))))) ?_
              have e8 := oRow_ge (P := P8) (show P9 0 ≤ j by omega)
              rw [e8] at hr1 hr2
              dsimp only at hr1 hr2
              rw [oMonths_lt (show k < m by omega)] at hr3 hr4
              dsimp only at hr3 hr4
              refine xr_wk (rc' := 22 * fu4 + 0) (rs' := 44 * fu4 + 0) ⟨by omega, by omega⟩ (ih4 _ _ _ _ (by omega) (by omega) (by omega) hK8 (by rw [hr1]; exact hB7.mono (by omega)) hmo8 (by rw [hr1]; exact hr3) (by rw [hr1]; omega))
            · skip
              have hbb := hB8.b (b := j) ⟨hj0, by omega⟩
              obtain ⟨hB6, e60⟩ := PB_one (b := j) hB8 (by omega) ⟨hj0, by omega⟩
              rw [oRow_lt (show j < P9 0 by omega)] at hr1 hr2
              dsimp only at hr1 hr2
              refine xr_aload_n dX2_passMonths_34 rfl (by first | rfl | exact isRef_rf _) ?_
              refine xr_getfield (ci := 0) (T := TX2) (N := 10) (i := 0) hK8.hq rfl (by decide) in_X2 q186 (.inl rfl) dX2_passMonths_35 (by rfl) ?_
              refine xr_iload dX2_passMonths_38 rfl ?_
              refine xr_callV (n9 := 1) (rc' := 22 * fu4 + 2 * fu22 + 2) (rs' := 44 * fu4 + 4 * fu22 + 4) (k_Reg_get hG hK8.r0 hK8.l0 ⟨by omega, by omega⟩ rfl (hK8.be j hj0 (by omega)) rfl q2757) hK8.r0 rfl q473 q474 q475 q88 q476 (by decide +kernel) rfl ⟨by decide, Nat.le_of_ble_eq_true rfl⟩ ⟨by omega, by omega⟩ (Nat.le_of_ble_eq_true rfl) dX2_passMonths_40 rfl (xk_r ?_) (fun _ _ _ h => h.elim)
              refine xr_castS (hK8.be j hj0 (by omega)) rfl q794 dX2_passMonths_43 ?_
              refine xr_astore (lv' := [some _, some _, some _, some _, some _, some _]) dX2_passMonths_46 (by decide) rfl (by first | rfl | exact isRef_rf _) rfl ?_
              refine xr_iload_n dX2_passMonths_48 rfl ?_
              refine xr_aload dX2_passMonths_49 rfl (by first | rfl | exact isRef_rf _) ?_
              refine xr_callV (n9 := 0) (rc' := 22 * fu4 + 2 * fu22 + 2) (rs' := 44 * fu4 + 4 * fu22 + 4) (k_B_isLet hG (hK8.be j hj0 (by omega))) (hK8.be j hj0 (by omega)) rfl q716 q717 q718 q114 q719 (by decide +kernel) rfl ⟨by decide, Nat.le_of_ble_eq_true rfl⟩ ⟨by omega, by omega⟩ (Nat.le_of_ble_eq_true rfl) dX2_passMonths_51 rfl (xk_r ?_) (fun _ _ _ h => h.elim)
              rw [opt_is]
              refine xr_ifb_eq (tgt := 70) dX2_passMonths_54 (by decide) (fun c54 => ?_) (fun c54 => ?_)
              · skip
                try simp only [decide_eq_true_eq, decide_eq_false_iff_not] at c54
                have c54 : P8 (13 + 6 * j) = 0 := by omega
                have e5 : oOne P8 j = (P8, 0) := if_pos c54
                rw [e5] at hr1 hr2 hB6 e60
                dsimp only at hr1 hr2 hB6 e60
                have hK6 := hK8
                have hmo6 : Fr n0 w8 w8 := Fr.rf
                refine xr_iconst dX2_passMonths_70 ?_
                refine xr_callSN (n9 := 1) (rc' := 22 * fu4 + 2 * fu22 + 2) (rs' := 44 * fu4 + 4 * fu22 + 4) (k_asInt (b := false) hG) q385 q386 q86 q387 (by decide +kernel) rfl ⟨by decide, Nat.le_of_ble_eq_true rfl⟩ ⟨by omega, by omega⟩ (Nat.le_of_ble_eq_true rfl) dX2_passMonths_71 rfl (xk_r ?_) (fun _ _ _ h => h.elim)
                show XJ _ _ _ _ _ _ _ _ _ _ _ _ [.int (iI 0), _]
                refine xr_iadd dX2_passMonths_74 ?_
                refine xr_istore_n (lv' := [some _, some _, some _, some _, some _, some _]) dX2_passMonths_75 (by decide) rfl rfl ?_
                refine xr_iinc (lv' := [some _, some _, some _, some _, some _, some _]) dX2_passMonths_76 rfl (by decide) rfl rfl ?_
                refine xr_goto (tgt := 22) dX2_passMonths_79 (by decide) ?_
                refine xr_lv (lvw_s (lvw_s (lvw_s (lvw_s (lvw_s (lvw_n (lvw_nil))))))) ?_
                refine xr_wk (rc' := 22 * fu4 + 2 * fu22 + 0) (rs' := 44 * fu4 + 4 * fu22 + 0) ⟨by omega, by omega⟩ (ih22 _ _ _ _ (by omega) (by omega) (by omega) hK6 (hB6.mono (by omega)) (e60.trans e80) (hmo8.tq hmo6) hr1 (by omega))
              · skip
                try simp only [decide_eq_true_eq, decide_eq_false_iff_not] at c54
                have e5 : oOne P8 j = oBill P8 j := if_neg c54
                rw [e5] at hr1 hr2 hB6 e60
                refine xr_aload_n dX2_passMonths_57 rfl (by first | rfl | exact isRef_rf _) ?_
                refine xr_aload dX2_passMonths_58 rfl (by first | rfl | exact isRef_rf _) ?_
                refine xr_callV (n9 := 1) (rc' := 22 * fu4 + 2 * fu22 + 0) (rs' := 44 * fu4 + 4 * fu22 + 0) (k_P_bill hG hK8 hB8 ⟨hj0, by omega⟩ c54) hK8.hq rfl q868 q870 qs10 q87 q871 (by decide +kernel) rfl ⟨by decide, Nat.le_of_ble_eq_true rfl⟩ ⟨by omega, by omega⟩ (Nat.le_of_ble_eq_true rfl) dX2_passMonths_60 rfl (fun r w60 hw => ?_) (fun _ _ _ h => h.elim)
                obtain ⟨rfl, hK6, hmo6⟩ := hw
                have h01 := oBill_01 (P := P8) (b := j)
                show XJ _ _ _ _ _ _ _ _ _ _ _ _ [.int (iI (oBill P8 j).2), _]
                refine xr_if_eq (tgt := 70) dX2_passMonths_63 (by decide) (by omega) (fun c63 => ?_) (fun c63 => ?_)
                · skip
                  refine xr_iconst dX2_passMonths_70 ?_
                  refine xr_callSN (n9 := 1) (rc' := 22 * fu4 + 2 * fu22 + 0) (rs' := 44 * fu4 + 4 * fu22 + 0) (k_asInt (b := false) hG) q385 q386 q86 q387 (by decide +kernel) rfl ⟨by decide, Nat.le_of_ble_eq_true rfl⟩ ⟨by omega, by omega⟩ (Nat.le_of_ble_eq_true rfl) dX2_passMonths_71 rfl (xk_r ?_) (fun _ _ _ h => h.elim)
                  show XJ _ _ _ _ _ _ _ _ _ _ _ _ [.int (iI 0), _]
                  refine xr_iadd dX2_passMonths_74 ?_
                  refine xr_istore_n (lv' := [some _, some _, some _, some _, some _, some _]) dX2_passMonths_75 (by decide) rfl rfl ?_
                  refine xr_iinc (lv' := [some _, some _, some _, some _, some _, some _]) dX2_passMonths_76 rfl (by decide) rfl rfl ?_
                  refine xr_goto (tgt := 22) dX2_passMonths_79 (by decide) ?_
                  refine xr_lv (lvw_s (lvw_s (lvw_s (lvw_s (lvw_s (lvw_n (lvw_nil))))))) ?_
                  refine xr_wk (rc' := 22 * fu4 + 2 * fu22 + 0) (rs' := 44 * fu4 + 4 * fu22 + 0) ⟨by omega, by omega⟩ (ih22 _ _ _ _ (by omega) (by omega) (by omega) hK6 (hB6.mono (by omega)) (e60.trans e80) (hmo8.tq hmo6) hr1 (by omega))
                · skip
                  have c63 : (oBill P8 j).2 = 1 := by omega
                  refine xr_iconst dX2_passMonths_66 ?_
                  refine xr_goto (tgt := 71) dX2_passMonths_67 (by decide) ?_
                  refine xr_callSN (n9 := 1) (rc' := 22 * fu4 + 2 * fu22 + 0) (rs' := 44 * fu4 + 4 * fu22 + 0) (k_asInt (b := true) hG) q385 q386 q86 q387 (by decide +kernel) rfl ⟨by decide, Nat.le_of_ble_eq_true rfl⟩ ⟨by omega, by omega⟩ (Nat.le_of_ble_eq_true rfl) dX2_passMonths_71 rfl (xk_r ?_) (fun _ _ _ h => h.elim)
                  show XJ _ _ _ _ _ _ _ _ _ _ _ _ [.int (iI 1), _]
                  refine xr_iadd dX2_passMonths_74 ?_
                  refine xr_istore_n (lv' := [some _, some _, some _, some _, some _, some _]) dX2_passMonths_75 (by decide) rfl rfl ?_
                  refine xr_iinc (lv' := [some _, some _, some _, some _, some _, some _]) dX2_passMonths_76 rfl (by decide) rfl rfl ?_
                  refine xr_goto (tgt := 22) dX2_passMonths_79 (by decide) ?_
                  refine xr_lv (lvw_s (lvw_s (lvw_s (lvw_s (lvw_s (lvw_n (lvw_nil))))))) ?_
                  refine xr_wk (rc' := 22 * fu4 + 2 * fu22 + 0) (rs' := 44 * fu4 + 4 * fu22 + 0) ⟨by omega, by omega⟩ (ih22 _ _ _ _ (by omega) (by omega) (by omega) hK6 (hB6.mono (by omega)) (e60.trans e80) (hmo8.tq hmo6) hr1 (by omega))
        refine xr_wk (rc' := 22 * fu4 + 2 * 11 + 0) (rs' := 44 * fu4 + 4 * 11 + 0) ⟨by omega, by omega⟩ (lp22 11 _ _ _ _ (by omega) (by omega) (by omega) hK1 (by rw [Int.mul_zero, Int.add_zero]; exact hB1) e1 hmo1 (by rw [Int.sub_zero]) (by rw [Int.sub_zero]))
  refine xr_wk (rc' := 22 * 13 + 0) (rs' := 44 * 13 + 0) ⟨by omega, by omega⟩ (lp4 13 _ _ _ _ (by omega) (by omega) (by omega) hK (by rw [Int.mul_zero, Int.add_zero]; exact hB) Fr.rf (by rw [Int.sub_zero]) (by rw [Int.sub_zero]; omega))
