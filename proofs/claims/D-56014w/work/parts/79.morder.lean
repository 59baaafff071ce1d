/-! 79.morder.lean.txt (written by tools/walker.py)  -/
set_option maxRecDepth 100000
theorem k_N_canLease {g : GG} {w : WW} {m : Nat} {A : Int → Nat} {th : Int} {P : Int → Int} {S : Option (Int → Int)} {H : List (Int → Int)} {I O : Tx} {se : Option Int} {rj : Option (Int × Int × Int)} {t b N : Int} (hG : Base g) (hX : MR g w m A th P S H I O se rj) (hB : PB P N) (hC : PCon P) (hr : (-2147483648 ≤ t ∧ t < 2147483648) ∧ (-2147483648 ≤ b ∧ b < 2147483648)) : Ct g yX4_canLease (.code yX4_canLease cX4_canLease 3 (some .boolean)) 5 113 0 0 w [.ref m, .int (iI t), .int (iI b)] (fun r_ w1 => ∃ y th : Int, r_ = some (.int (iI y)) ∧ Fr (MS m A) w w1 ∧ MR g w1 m A th P S H I O se rj ∧ ((((0 ≤ t ∧ t < P 2) ∧ (0 ≤ b ∧ b < P 0)) ∧ th = 0 ∧ y = if (barred P t b).1 = 0 then 1 else 0) ∨ (¬ ((0 ≤ t ∧ t < P 2) ∧ (0 ≤ b ∧ b < P 0)) ∧ th = 1))) xF := by
  refine Ct.of (lv := [some _, some _, some _]) hG (by decide +kernel) (Nat.le_of_ble_eq_true rfl) rfl ?_
  intro z hg hpo hxp hnm htab
  subst hg
  obtain ⟨F, C, hM, -, hS⟩ := hX
  have hM : MDF (zg z) w w m A F P C := ⟨hM, Fr.rf⟩
  have h68 : 0 ≤ F 6 ∧ F 6 ≤ 8 := by have := hS.1.1; have := hS.1.2.1; omega
  have hgg := hB.g
  have hba := barred_bd (P := P) (t := t) (b := b)
  refine xr_aload_n dX4_canLease_0 rfl (by first | rfl | exact isRef_rf _) ?_
  refine xr_aload_n dX4_canLease_1 rfl (by first | rfl | exact isRef_rf _) ?_
  refine xr_iload_n dX4_canLease_2 rfl ?_
  refine xr_callV (n9 := 1) (rc' := 0) (rs' := 0) (k_M_isTenant hG hM.1 hB (by omega)) hM.1.1 rfl q2455 q2457 qs61 q96 q2458 (by decide +kernel) rfl ⟨by decide, Nat.le_of_ble_eq_true rfl⟩ ⟨Nat.le_of_ble_eq_true rfl, Nat.le_of_ble_eq_true rfl⟩ (Nat.le_of_ble_eq_true rfl) dX4_canLease_3 rfl (xk_r ?_) (fun _ _ _ h => h.elim)
  refine xr_ifb_eq (tgt := 21) dX4_canLease_6 (by decide) (fun c6 => ?_) (fun c6 => ?_)
  · skip
    try simp only [decide_eq_true_eq, decide_eq_false_iff_not] at c6
    refine xr_iconst dX4_canLease_21 ?_
    refine xr_putfield (ci := 14) (T := TX4) (N := 23) (i := 0) (fs' := [_, _, _, _, _, _, _, _, _, _, _, _, _, _, _, _, _, _, _, _, _, _, _]) hM.1.1 rfl (by decide) in_X4 tyX4 tyX4_ok nmX4 q2191 (.inl rfl) rfl dX4_canLease_22 (by rfl) (by rfl) (by simp) (by rfl) (.inl rfl) (fun _ => ?_)
    refine xr_mput (i := 0) hM (by rfl) (fun w22 hM => ?_)
    refine xr_aload_n dX4_canLease_25 rfl (by first | rfl | exact isRef_rf _) ?_
    refine xr_getfield (ci := 14) (T := TX4) (N := 23) (i := 0) hM.1.1 rfl (by decide) in_X4 q2191 (.inl rfl) dX4_canLease_26 (by rfl) ?_
    rw [updI_eq]
    refine xr_if_ne (tgt := 45) dX4_canLease_29 (by decide) (by decide) (fun c29 => ?_) (fun c29 => absurd c29 (by decide))
    refine xr_iconst dX4_canLease_45 ?_
    refine xr_ireturn rfl (by first | rfl | exact nar_bI _ | decide +kernel) dX4_canLease_46 ?_
    rw [hpo]
    first
      | exact ⟨1, 0, rfl, hM.2, ⟨_, _, hM.1, (hG9 0 (by decide)).trans updI_eq, hS.to (fun k hk => (hG9 k (by omega)).trans (updI_ne (by omega))) (fun j hj => rfl)⟩, Or.inl ⟨by omega, rfl, by rw [if_pos (by omega)]⟩⟩
      | exact ⟨0, 0, rfl, hM.2, ⟨_, _, hM.1, (hG9 0 (by decide)).trans updI_eq, hS.to (fun k hk => (hG9 k (by omega)).trans (updI_ne (by omega))) (fun j hj => rfl)⟩, Or.inl ⟨by omega, rfl, by rw [if_neg (by omega)]⟩⟩
      | exact ⟨0, 1, rfl, hM.2, ⟨_, _, hM.1, updI_eq, hS.to (fun k hk => updI_ne (by omega)) (fun j hj => rfl)⟩, Or.inr ⟨by omega, rfl⟩⟩
  · skip
    try simp only [decide_eq_true_eq, decide_eq_false_iff_not] at c6
    refine xr_aload_n dX4_canLease_9 rfl (by first | rfl | exact isRef_rf _) ?_
    refine xr_iload_n dX4_canLease_10 rfl ?_
    refine xr_callV (n9 := 1) (rc' := 0) (rs' := 0) (k_M_isBench hG hM.1 hB (by omega)) hM.1.1 rfl q2323 q2325 qs48 q96 q2326 (by decide +kernel) rfl ⟨by decide, Nat.le_of_ble_eq_true rfl⟩ ⟨Nat.le_of_ble_eq_true rfl, Nat.le_of_ble_eq_true rfl⟩ (Nat.le_of_ble_eq_true rfl) dX4_canLease_11 rfl (xk_r ?_) (fun _ _ _ h => h.elim)
    refine xr_ifb_eq (tgt := 21) dX4_canLease_14 (by decide) (fun c14 => ?_) (fun c14 => ?_)
    · skip
      try simp only [decide_eq_true_eq, decide_eq_false_iff_not] at c14
      refine xr_iconst dX4_canLease_21 ?_
      refine xr_putfield (ci := 14) (T := TX4) (N := 23) (i := 0) (fs' := [_, _, _, _, _, _, _, _, _, _, _, _, _, _, _, _, _, _, _, _, _, _, _]) hM.1.1 rfl (by decide) in_X4 tyX4 tyX4_ok nmX4 q2191 (.inl rfl) rfl dX4_canLease_22 (by rfl) (by rfl) (by simp) (by rfl) (.inl rfl) (fun _ => ?_)
      refine xr_mput (i := 0) hM (by rfl) (fun w22 hM => ?_)
      refine xr_aload_n dX4_canLease_25 rfl (by first | rfl | exact isRef_rf _) ?_
      refine xr_getfield (ci := 14) (T := TX4) (N := 23) (i := 0) hM.1.1 rfl (by decide) in_X4 q2191 (.inl rfl) dX4_canLease_26 (by rfl) ?_
      rw [updI_eq]
      refine xr_if_ne (tgt := 45) dX4_canLease_29 (by decide) (by decide) (fun c29 => ?_) (fun c29 => absurd c29 (by decide))
      refine xr_iconst dX4_canLease_45 ?_
      refine xr_ireturn rfl (by first | rfl | exact nar_bI _ | decide +kernel) dX4_canLease_46 ?_
      rw [hpo]
      first
        | exact ⟨1, 0, rfl, hM.2, ⟨_, _, hM.1, (hG9 0 (by decide)).trans updI_eq, hS.to (fun k hk => (hG9 k (by omega)).trans (updI_ne (by omega))) (fun j hj => rfl)⟩, Or.inl ⟨by omega, rfl, by rw [if_pos (by omega)]⟩⟩
        | exact ⟨0, 0, rfl, hM.2, ⟨_, _, hM.1, (hG9 0 (by decide)).trans updI_eq, hS.to (fun k hk => (hG9 k (by omega)).trans (updI_ne (by omega))) (fun j hj => rfl)⟩, Or.inl ⟨by omega, rfl, by rw [if_neg (by omega)]⟩⟩
        | exact ⟨0, 1, rfl, hM.2, ⟨_, _, hM.1, updI_eq, hS.to (fun k hk => updI_ne (by omega)) (fun j hj => rfl)⟩, Or.inr ⟨by omega, rfl⟩⟩
    · skip
      try simp only [decide_eq_true_eq, decide_eq_false_iff_not] at c14
      refine xr_iconst dX4_canLease_17 ?_
      refine xr_goto (tgt := 22) dX4_canLease_18 (by decide) ?_
      refine xr_putfield (ci := 14) (T := TX4) (N := 23) (i := 0) (fs' := [_, _, _, _, _, _, _, _, _, _, _, _, _, _, _, _, _, _, _, _, _, _, _]) hM.1.1 rfl (by decide) in_X4 tyX4 tyX4_ok nmX4 q2191 (.inl rfl) rfl dX4_canLease_22 (by rfl) (by rfl) (by simp) (by rfl) (.inl rfl) (fun _ => ?_)
      refine xr_mput (i := 0) hM (by rfl) (fun w22 hM => ?_)
      refine xr_aload_n dX4_canLease_25 rfl (by first | rfl | exact isRef_rf _) ?_
      refine xr_getfield (ci := 14) (T := TX4) (N := 23) (i := 0) hM.1.1 rfl (by decide) in_X4 q2191 (.inl rfl) dX4_canLease_26 (by rfl) ?_
      rw [updI_eq]
      refine xr_if_ne (tgt := 45) dX4_canLease_29 (by decide) (by decide) (fun c29 => absurd c29 (by decide)) (fun c29 => ?_)
      refine xr_aload_n dX4_canLease_32 rfl (by first | rfl | exact isRef_rf _) ?_
      refine xr_iload_n dX4_canLease_33 rfl ?_
      refine xr_iload_n dX4_canLease_34 rfl ?_
      refine xr_callV (n9 := 2) (rc' := 0) (rs' := 0) (k_M_barred hG hM.1 hB hC (by omega) (by omega)) hM.1.1 rfl q2495 q2497 qs66 q96 q2498 (by decide +kernel) rfl ⟨by decide, Nat.le_of_ble_eq_true rfl⟩ ⟨Nat.le_of_ble_eq_true rfl, Nat.le_of_ble_eq_true rfl⟩ (Nat.le_of_ble_eq_true rfl) dX4_canLease_35 rfl (fun r w35 hw => ?_) (fun _ _ _ h => h.elim)
      obtain ⟨rfl, hw⟩ := hw
      have hM := hM.tr hw
      obtain ⟨G9, hG9, hM⟩ : ∃ G9 : Int → Int, (∀ i : Int, i ≠ 17 → G9 i = (updI F 0 0) i) ∧ MDF (zg z) w w35 m A G9 P C := ⟨_, fun i hi => by
        split
        · rfl
        · exact updI_ne hi, hM⟩
      refine xr_if_ne (tgt := 45) dX4_canLease_38 (by decide) (by omega) (fun c38 => ?_) (fun c38 => ?_)
      · skip
        refine xr_iconst dX4_canLease_45 ?_
        refine xr_ireturn rfl (by first | rfl | exact nar_bI _ | decide +kernel) dX4_canLease_46 ?_
        rw [hpo]
        first
          | exact ⟨1, 0, rfl, hM.2, ⟨_, _, hM.1, (hG9 0 (by decide)).trans updI_eq, hS.to (fun k hk => (hG9 k (by omega)).trans (updI_ne (by omega))) (fun j hj => rfl)⟩, Or.inl ⟨by omega, rfl, by rw [if_pos (by omega)]⟩⟩
          | exact ⟨0, 0, rfl, hM.2, ⟨_, _, hM.1, (hG9 0 (by decide)).trans updI_eq, hS.to (fun k hk => (hG9 k (by omega)).trans (updI_ne (by omega))) (fun j hj => rfl)⟩, Or.inl ⟨by omega, rfl, by rw [if_neg (by omega)]⟩⟩
          | exact ⟨0, 1, rfl, hM.2, ⟨_, _, hM.1, updI_eq, hS.to (fun k hk => updI_ne (by omega)) (fun j hj => rfl)⟩, Or.inr ⟨by omega, rfl⟩⟩
      · skip
        refine xr_iconst dX4_canLease_41 ?_
        refine xr_goto (tgt := 46) dX4_canLease_42 (by decide) ?_
        refine xr_ireturn rfl (by first | rfl | exact nar_bI _ | decide +kernel) dX4_canLease_46 ?_
        rw [hpo]
        first
          | exact ⟨1, 0, rfl, hM.2, ⟨_, _, hM.1, (hG9 0 (by decide)).trans updI_eq, hS.to (fun k hk => (hG9 k (by omega)).trans (updI_ne (by omega))) (fun j hj => rfl)⟩, Or.inl ⟨by omega, rfl, by rw [if_pos (by omega)]⟩⟩
          | exact ⟨0, 0, rfl, hM.2, ⟨_, _, hM.1, (hG9 0 (by decide)).trans updI_eq, hS.to (fun k hk => (hG9 k (by omega)).trans (updI_ne (by omega))) (fun j hj => rfl)⟩, Or.inl ⟨by omega, rfl, by rw [if_neg (by omega)]⟩⟩
          | exact ⟨0, 1, rfl, hM.2, ⟨_, _, hM.1, updI_eq, hS.to (fun k hk => updI_ne (by omega)) (fun j hj => rfl)⟩, Or.inr ⟨by omega, rfl⟩⟩
theorem k_N_cheapestFor {g : GG} {w : WW} {m : Nat} {A : Int → Nat} {th : Int} {P : Int → Int} {S : Option (Int → Int)} {H : List (Int → Int)} {I O : Tx} {se : Option Int} {rj : Option (Int × Int × Int)} {t N : Int} (hG : Base g) (hX : MR g w m A th P S H I O se rj) (hB : PB P N) (hC : PCon P) (hr : (-2147483648 ≤ t ∧ t < 2147483648)) : Ct g yX4_cheapestFor (.code yX4_cheapestFor cX4_cheapestFor 4 (some .int)) 5 113 0 0 w [.ref m, .int (iI t)] (fun r_ w1 => ∃ y th : Int, r_ = some (.int (iI y)) ∧ Fr (MS m A) w w1 ∧ MR g w1 m A th P S H I O se rj ∧ (((0 ≤ t ∧ t < P 2) ∧ (cheap P t ≠ -1) ∧ th = 0 ∧ y = cheap P t) ∨ (¬ (0 ≤ t ∧ t < P 2) ∧ th = 1) ∨ ((0 ≤ t ∧ t < P 2) ∧ (cheap P t = -1) ∧ th = 2))) xF := by
  refine Ct.of (lv := [some _, some _, none, none]) hG (by decide +kernel) (Nat.le_of_ble_eq_true rfl) rfl ?_
  intro z hg hpo hxp hnm htab
  subst hg
  obtain ⟨F, C, hM, -, hS⟩ := hX
  have hM : MDF (zg z) w w m A F P C := ⟨hM, Fr.rf⟩
  have h68 : 0 ≤ F 6 ∧ F 6 ≤ 8 := by have := hS.1.1; have := hS.1.2.1; omega
  have hgg := hB.g
  refine xr_aload_n dX4_cheapestFor_0 rfl (by first | rfl | exact isRef_rf _) ?_
  refine xr_aload_n dX4_cheapestFor_1 rfl (by first | rfl | exact isRef_rf _) ?_
  refine xr_iload_n dX4_cheapestFor_2 rfl ?_
  refine xr_callV (n9 := 1) (rc' := 0) (rs' := 0) (k_M_isTenant hG hM.1 hB (by omega)) hM.1.1 rfl q2455 q2457 qs61 q96 q2458 (by decide +kernel) rfl ⟨by decide, Nat.le_of_ble_eq_true rfl⟩ ⟨Nat.le_of_ble_eq_true rfl, Nat.le_of_ble_eq_true rfl⟩ (Nat.le_of_ble_eq_true rfl) dX4_cheapestFor_3 rfl (xk_r ?_) (fun _ _ _ h => h.elim)
  refine xr_ifb_eq (tgt := 13) dX4_cheapestFor_6 (by decide) (fun c6 => ?_) (fun c6 => ?_)
  · skip
    try simp only [decide_eq_true_eq, decide_eq_false_iff_not] at c6
    refine xr_iconst dX4_cheapestFor_13 ?_
    refine xr_putfield (ci := 14) (T := TX4) (N := 23) (i := 0) (fs' := [_, _, _, _, _, _, _, _, _, _, _, _, _, _, _, _, _, _, _, _, _, _, _]) hM.1.1 rfl (by decide) in_X4 tyX4 tyX4_ok nmX4 q2191 (.inl rfl) rfl dX4_cheapestFor_14 (by rfl) (by rfl) (by simp) (by rfl) (.inl rfl) (fun _ => ?_)
    refine xr_mput (i := 0) hM (by rfl) (fun w14 hM => ?_)
    refine xr_aload_n dX4_cheapestFor_17 rfl (by first | rfl | exact isRef_rf _) ?_
    refine xr_getfield (ci := 14) (T := TX4) (N := 23) (i := 0) hM.1.1 rfl (by decide) in_X4 q2191 (.inl rfl) dX4_cheapestFor_18 (by rfl) ?_
    rw [updI_eq]
    refine xr_if_le (tgt := 26) dX4_cheapestFor_21 (by decide) (by decide) (fun c21 => absurd c21 (by decide)) (fun c21 => ?_)
    refine xr_iconst dX4_cheapestFor_24 ?_
    refine xr_ireturn rfl rfl dX4_cheapestFor_25 ?_
    rw [hpo]
    exact ⟨0, 1, rfl, hM.2, ⟨_, _, hM.1, updI_eq, hS.to (fun k hk => updI_ne (by omega)) (fun j hj => rfl)⟩, Or.inr (Or.inl ⟨by omega, rfl⟩)⟩
  · skip
    try simp only [decide_eq_true_eq, decide_eq_false_iff_not] at c6
    refine xr_iconst dX4_cheapestFor_9 ?_
    refine xr_goto (tgt := 14) dX4_cheapestFor_10 (by decide) ?_
    refine xr_putfield (ci := 14) (T := TX4) (N := 23) (i := 0) (fs' := [_, _, _, _, _, _, _, _, _, _, _, _, _, _, _, _, _, _, _, _, _, _, _]) hM.1.1 rfl (by decide) in_X4 tyX4 tyX4_ok nmX4 q2191 (.inl rfl) rfl dX4_cheapestFor_14 (by rfl) (by rfl) (by simp) (by rfl) (.inl rfl) (fun _ => ?_)
    refine xr_mput (i := 0) hM (by rfl) (fun w14 hM => ?_)
    refine xr_aload_n dX4_cheapestFor_17 rfl (by first | rfl | exact isRef_rf _) ?_
    refine xr_getfield (ci := 14) (T := TX4) (N := 23) (i := 0) hM.1.1 rfl (by decide) in_X4 q2191 (.inl rfl) dX4_cheapestFor_18 (by rfl) ?_
    rw [updI_eq]
    refine xr_if_le (tgt := 26) dX4_cheapestFor_21 (by decide) (by decide) (fun c21 => ?_) (fun c21 => absurd c21 (by decide))
    refine xr_iconst dX4_cheapestFor_26 ?_
    refine xr_istore_n (lv' := [some _, some _, some _, none]) dX4_cheapestFor_27 (by decide) rfl rfl ?_
    refine xr_iconst dX4_cheapestFor_28 ?_
    refine xr_istore_n (lv' := [some _, some _, some _, some _]) dX4_cheapestFor_29 (by decide) rfl rfl ?_
    have lp30 : ∀ (fu30 : Nat) (w9 : WW) (F9 : Int → Int) (best k : Int), 0 ≤ k → k ≤ P 0 → P 0 - k < fu30 → (-1 ≤ best ∧ (best = -1 ∨ best < P 0)) → MDF (zg z) w w9 m A F9 P C → (∀ i : Int, i ≠ 17 → F9 i = updI F 0 0 i) → cheapF P t (P 0 - k).toNat k best = cheap P t → XJ z yX4_cheapestFor.cls cX4_cheapestFor 4 (some .int) 5 113 w9 (0 * fu30 + 0) (0 * fu30 + 0) 30 [some (.ref m), some (.int (iI t)), some (.int (iI best)), some (.int (iI k))] [] := by
      intro fu30
      induction fu30 with
      | zero =>
        intro w9 F9 best k hk0 hk1 hfu hbe hM hF9 hr9
        omega
      | succ fu30 ih30 =>
        intro w9 F9 best k hk0 hk1 hfu hbe hM hF9 hr9
        refine xr_iload_n dX4_cheapestFor_30 rfl ?_
        refine xr_aload_n dX4_cheapestFor_31 rfl (by first | rfl | exact isRef_rf _) ?_
        refine xr_getfield (ci := 14) (T := TX4) (N := 23) (i := 1) hM.1.1 rfl (by decide) in_X4 q2192 (.inl rfl) dX4_cheapestFor_32 (by rfl) ?_
        refine xr_iconst dX4_cheapestFor_35 ?_
        refine xr_iaload hM.1.2.1 (by omega) (by decide) dX4_cheapestFor_36 ?_
        refine xr_icmp_ge (tgt := 75) dX4_cheapestFor_37 (by decide) (by omega) (fun c37 => ?_) (fun c37 => ?_)
        · skip
          rw [cheapF_ge (by omega)] at hr9
          refine xr_iload_n dX4_cheapestFor_75 rfl ?_
          refine xr_iconst dX4_cheapestFor_76 ?_
          refine xr_icmp_ne (tgt := 88) dX4_cheapestFor_77 (by decide) (by omega) (fun c77 => ?_) (fun c77 => ?_)
          · skip
            refine xr_iload_n dX4_cheapestFor_88 rfl ?_
            refine xr_ireturn rfl rfl dX4_cheapestFor_89 ?_
            rw [hpo]
            first
              | exact ⟨best, 0, rfl, hM.2, ⟨_, _, hM.1, (hF9 0 (by decide)).trans updI_eq, hS.to (fun k hk => (hF9 k (by omega)).trans (updI_ne (by omega))) (fun j hj => rfl)⟩, Or.inl ⟨by omega, by omega, rfl, hr9⟩⟩
              | exact ⟨0, 2, rfl, hM.2, ⟨_, _, hM.1, updI_eq, hS.to (fun k hk => (updI_ne (by omega)).trans ((hF9 k (by omega)).trans (updI_ne (by omega)))) (fun j hj => rfl)⟩, Or.inr (Or.inr ⟨by omega, by omega, rfl⟩)⟩
          · skip
            refine xr_aload_n dX4_cheapestFor_80 rfl (by first | rfl | exact isRef_rf _) ?_
            refine xr_iconst dX4_cheapestFor_81 ?_
            refine xr_callV (n9 := 1) (rc' := 0 * fu30 + 0) (rs' := 0 * fu30 + 0) (k_M_fails hG hM.1) hM.1.1 rfl q2311 q2313 qs46 q96 q2314 (by decide +kernel) rfl ⟨by decide, Nat.le_of_ble_eq_true rfl⟩ ⟨by omega, by omega⟩ (Nat.le_of_ble_eq_true rfl) dX4_cheapestFor_82 rfl (fun r w82 hw => ?_) (fun _ _ _ h => h.elim)
            obtain ⟨rfl, hw⟩ := hw
            have hM := hM.tr hw
            refine xr_goto (tgt := 89) dX4_cheapestFor_85 (by decide) ?_
            refine xr_ireturn rfl rfl dX4_cheapestFor_89 ?_
            rw [hpo]
            first
              | exact ⟨best, 0, rfl, hM.2, ⟨_, _, hM.1, (hF9 0 (by decide)).trans updI_eq, hS.to (fun k hk => (hF9 k (by omega)).trans (updI_ne (by omega))) (fun j hj => rfl)⟩, Or.inl ⟨by omega, by omega, rfl, hr9⟩⟩
              | exact ⟨0, 2, rfl, hM.2, ⟨_, _, hM.1, updI_eq, hS.to (fun k hk => (updI_ne (by omega)).trans ((hF9 k (by omega)).trans (updI_ne (by omega)))) (fun j hj => rfl)⟩, Or.inr (Or.inr ⟨by omega, by omega, rfl⟩)⟩
        · skip
          rw [cheapF_lt (show k < P 0 by omega)] at hr9
          have hba := barred_bd (P := P) (t := t) (b := k)
          have hrk := rent_bd hB hk0 (show k < P 0 by omega)
          refine xr_aload_n dX4_cheapestFor_40 rfl (by first | rfl | exact isRef_rf _) ?_
          refine xr_iload_n dX4_cheapestFor_41 rfl ?_
          refine xr_iload_n dX4_cheapestFor_42 rfl ?_
          refine xr_callV (n9 := 2) (rc' := 0 * fu30 + 0) (rs' := 0 * fu30 + 0) (k_M_barred hG hM.1 hB hC (by omega) (by omega)) hM.1.1 rfl q2495 q2497 qs66 q96 q2498 (by decide +kernel) rfl ⟨by decide, Nat.le_of_ble_eq_true rfl⟩ ⟨by omega, by omega⟩ (Nat.le_of_ble_eq_true rfl) dX4_cheapestFor_43 rfl (fun r w43 hw => ?_) (fun _ _ _ h => h.elim)
          obtain ⟨rfl, hw⟩ := hw
          have hM := hM.tr hw
          obtain ⟨G9, hG9, hM⟩ : ∃ G9 : Int → Int, (∀ i : Int, i ≠ 17 → G9 i = (F9) i) ∧ MDF (zg z) w w43 m A G9 P C := ⟨_, fun i hi => by
            split
            · rfl
            · exact updI_ne hi, hM⟩
          refine xr_if_ne (tgt := 69) dX4_cheapestFor_46 (by decide) (by omega) (fun c46 => ?_) (fun c46 => ?_)
          · skip
            refine xr_iinc (lv' := [some _, some _, some _, some _]) dX4_cheapestFor_69 rfl (by decide) rfl rfl ?_
            refine xr_goto (tgt := 30) dX4_cheapestFor_72 (by decide) ?_
            refine xr_wk (rc' := 0 * fu30 + 0) (rs' := 0 * fu30 + 0) ⟨by omega, by omega⟩ (ih30 _ _ _ (k + 1) (by omega) (by omega) (by omega) (by omega) hM (fun i hi => (hG9 i hi).trans (hF9 i hi)) (by first | (rw [if_pos ⟨by omega, by omega⟩] at hr9; exact hr9) | (rw [if_neg (by omega)] at hr9; exact hr9)))
          · skip
            refine xr_iload_n dX4_cheapestFor_49 rfl ?_
            refine xr_iconst dX4_cheapestFor_50 ?_
            refine xr_icmp_eq (tgt := 67) dX4_cheapestFor_51 (by decide) (by omega) (fun c51 => ?_) (fun c51 => ?_)
            · skip
              refine xr_iload_n dX4_cheapestFor_67 rfl ?_
              refine xr_istore_n (lv' := [some _, some _, some _, some _]) dX4_cheapestFor_68 (by decide) rfl rfl ?_
              refine xr_iinc (lv' := [some _, some _, some _, some _]) dX4_cheapestFor_69 rfl (by decide) rfl rfl ?_
              refine xr_goto (tgt := 30) dX4_cheapestFor_72 (by decide) ?_
              refine xr_wk (rc' := 0 * fu30 + 0) (rs' := 0 * fu30 + 0) ⟨by omega, by omega⟩ (ih30 _ _ _ (k + 1) (by omega) (by omega) (by omega) (by omega) hM (fun i hi => (hG9 i hi).trans (hF9 i hi)) (by first | (rw [if_pos ⟨by omega, by omega⟩] at hr9; exact hr9) | (rw [if_neg (by omega)] at hr9; exact hr9)))
            · skip
              have hrb := rent_bd hB (show 0 ≤ best by omega) (show best < P 0 by omega)
              refine xr_aload_n dX4_cheapestFor_54 rfl (by first | rfl | exact isRef_rf _) ?_
              refine xr_iload_n dX4_cheapestFor_55 rfl ?_
              refine xr_callV (n9 := 1) (rc' := 0 * fu30 + 0) (rs' := 0 * fu30 + 0) (k_M_rent hG hM.1 hB (by omega)) hM.1.1 rfl q2387 q2389 qs55 q96 q2390 (by decide +kernel) rfl ⟨by decide, Nat.le_of_ble_eq_true rfl⟩ ⟨by omega, by omega⟩ (Nat.le_of_ble_eq_true rfl) dX4_cheapestFor_56 rfl (xk_r ?_) (fun _ _ _ h => h.elim)
              refine xr_aload_n dX4_cheapestFor_59 rfl (by first | rfl | exact isRef_rf _) ?_
              refine xr_iload_n dX4_cheapestFor_60 rfl ?_
              refine xr_callV (n9 := 1) (rc' := 0 * fu30 + 0) (rs' := 0 * fu30 + 0) (k_M_rent hG hM.1 hB (by omega)) hM.1.1 rfl q2387 q2389 qs55 q96 q2390 (by decide +kernel) rfl ⟨by decide, Nat.le_of_ble_eq_true rfl⟩ ⟨by omega, by omega⟩ (Nat.le_of_ble_eq_true rfl) dX4_cheapestFor_61 rfl (xk_r ?_) (fun _ _ _ h => h.elim)
              refine xr_icmp_ge (tgt := 69) dX4_cheapestFor_64 (by decide) (by omega) (fun c64 => ?_) (fun c64 => ?_)
              · skip
                refine xr_iinc (lv' := [some _, some _, some _, some _]) dX4_cheapestFor_69 rfl (by decide) rfl rfl ?_
                refine xr_goto (tgt := 30) dX4_cheapestFor_72 (by decide) ?_
                refine xr_wk (rc' := 0 * fu30 + 0) (rs' := 0 * fu30 + 0) ⟨by omega, by omega⟩ (ih30 _ _ _ (k + 1) (by omega) (by omega) (by omega) (by omega) hM (fun i hi => (hG9 i hi).trans (hF9 i hi)) (by first | (rw [if_pos ⟨by omega, by omega⟩] at hr9; exact hr9) | (rw [if_neg (by omega)] at hr9; exact hr9)))
              · skip
                refine xr_iload_n dX4_cheapestFor_67 rfl ?_
                refine xr_istore_n (lv' := [some _, some _, some _, some _]) dX4_cheapestFor_68 (by decide) rfl rfl ?_
                refine xr_iinc (lv' := [some _, some _, some _, some _]) dX4_cheapestFor_69 rfl (by decide) rfl rfl ?_
                refine xr_goto (tgt := 30) dX4_cheapestFor_72 (by decide) ?_
                refine xr_wk (rc' := 0 * fu30 + 0) (rs' := 0 * fu30 + 0) ⟨by omega, by omega⟩ (ih30 _ _ _ (k + 1) (by omega) (by omega) (by omega) (by omega) hM (fun i hi => (hG9 i hi).trans (hF9 i hi)) (by first | (rw [if_pos ⟨by omega, by omega⟩] at hr9; exact hr9) | (rw [if_neg (by omega)] at hr9; exact hr9)))
    refine xr_wk (rc' := 0 * 11 + 0) (rs' := 0 * 11 + 0) ⟨by omega, by omega⟩ (lp30 11 _ _ (-1) 0 (by omega) (by omega) (by omega) (by omega) hM (fun _ _ => rfl) (by rw [Int.sub_zero]; rfl))
theorem k_N_defaultMonth {g : GG} {w : WW} {m : Nat} {A : Int → Nat} {th : Int} {P : Int → Int} {S : Option (Int → Int)} {H : List (Int → Int)} {I O : Tx} {se : Option Int} {rj : Option (Int × Int × Int)} {b N : Int} (hG : Base g) (hX : MR g w m A th P S H I O se rj) (hB : PB P N) (hr : (-2147483648 ≤ b ∧ b < 2147483648)) : Ct g yX4_defaultMonth (.code yX4_defaultMonth cX4_defaultMonth 3 (some .int)) 4 91 0 0 w [.ref m, .int (iI b)] (fun r_ w1 => ∃ y th : Int, r_ = some (.int (iI y)) ∧ Fr (MS m A) w w1 ∧ MR g w1 m A th P S H I O se rj ∧ (((0 ≤ b ∧ b < P 0) ∧ (defMonth P b ≠ -1) ∧ th = 0 ∧ y = defMonth P b) ∨ (¬ (0 ≤ b ∧ b < P 0) ∧ th = 1) ∨ ((0 ≤ b ∧ b < P 0) ∧ (defMonth P b = -1) ∧ th = 2))) xF := by
  refine Ct.of (lv := [some _, some _, none]) hG (by decide +kernel) (Nat.le_of_ble_eq_true rfl) rfl ?_
  intro z hg hpo hxp hnm htab
  subst hg
  obtain ⟨F, C, hM, -, hS⟩ := hX
  have hM : MDF (zg z) w w m A F P C := ⟨hM, Fr.rf⟩
  have h68 : 0 ≤ F 6 ∧ F 6 ≤ 8 := by have := hS.1.1; have := hS.1.2.1; omega
  have hgg := hB.g
  have hl9 : (lth P b = 0 ∧ (0 ≤ b ∧ b < P 0) ∧ P (13 + 6 * b) ≠ 0) ∨ (lth P b = 1 ∧ ¬ (0 ≤ b ∧ b < P 0)) ∨ (lth P b = 2 ∧ (0 ≤ b ∧ b < P 0) ∧ P (13 + 6 * b) = 0) := by
    unfold lth
    split
    · omega
    · split <;> omega
  refine xr_aload_n dX4_defaultMonth_0 rfl (by first | rfl | exact isRef_rf _) ?_
  refine xr_iload_n dX4_defaultMonth_1 rfl ?_
  refine xr_callV (n9 := 1) (rc' := 0) (rs' := 0) (k_M_isLeased hG hM.1 hB (by omega)) hM.1.1 rfl q2539 q2541 qs71 q96 q2542 (by decide +kernel) rfl ⟨by decide, Nat.le_of_ble_eq_true rfl⟩ ⟨Nat.le_of_ble_eq_true rfl, Nat.le_of_ble_eq_true rfl⟩ (Nat.le_of_ble_eq_true rfl) dX4_defaultMonth_2 rfl (fun r w2 hw => ?_) (fun _ _ _ h => h.elim)
  obtain ⟨rfl, hw⟩ := hw
  have hM := hM.tr hw
  refine xr_ifb_ne (tgt := 10) dX4_defaultMonth_5 (by decide) (fun c5 => ?_) (fun c5 => ?_)
  · skip
    try simp only [decide_eq_true_eq, decide_eq_false_iff_not] at c5
    have hl0 : lth P b = 0 := by omega
    have hbb := hB.b (b := b) (by omega)
    have htt := hB.t (t := (P (13 + 6 * b) - 1)) (by omega)
    have hrr := rent_bd hB (show 0 ≤ b by omega) (show b < P 0 by omega)
    have hp0 : 0 ≤ payable P b := Int.tdiv_nonneg (by omega) (by omega)
    have hp1 : payable P b ≤ P (86 + 2 * (P (13 + 6 * b) - 1)) := by
      unfold payable
      rw [Int.tdiv_eq_ediv_of_nonneg (by omega)]
      exact Int.ediv_le_self _ (by omega)
    refine xr_aload_n dX4_defaultMonth_10 rfl (by first | rfl | exact isRef_rf _) ?_
    refine xr_aload_n dX4_defaultMonth_11 rfl (by first | rfl | exact isRef_rf _) ?_
    refine xr_iload_n dX4_defaultMonth_12 rfl ?_
    refine xr_callV (n9 := 1) (rc' := 0) (rs' := 0) (k_M_by hG hM.1 (by omega)) hM.1.1 rfl q2487 q2489 qs65 q96 q2490 (by decide +kernel) rfl ⟨by decide, Nat.le_of_ble_eq_true rfl⟩ ⟨Nat.le_of_ble_eq_true rfl, Nat.le_of_ble_eq_true rfl⟩ (Nat.le_of_ble_eq_true rfl) dX4_defaultMonth_13 rfl (xk_r ?_) (fun _ _ _ h => h.elim)
    refine xr_iconst dX4_defaultMonth_16 ?_
    refine xr_callV (n9 := 2) (rc' := 0) (rs' := 0) (k_M_tenant_0 hG hM.1 (by omega)) hM.1.1 rfl q2459 q2461 qs62 q96 q2462 (by decide +kernel) rfl ⟨by decide, Nat.le_of_ble_eq_true rfl⟩ ⟨Nat.le_of_ble_eq_true rfl, Nat.le_of_ble_eq_true rfl⟩ (Nat.le_of_ble_eq_true rfl) dX4_defaultMonth_17 rfl (xk_r ?_) (fun _ _ _ h => h.elim)
    refine xr_aload_n dX4_defaultMonth_20 rfl (by first | rfl | exact isRef_rf _) ?_
    refine xr_iload_n dX4_defaultMonth_21 rfl ?_
    refine xr_callV (n9 := 1) (rc' := 0) (rs' := 0) (k_M_rent hG hM.1 hB (by omega)) hM.1.1 rfl q2387 q2389 qs55 q96 q2390 (by decide +kernel) rfl ⟨by decide, Nat.le_of_ble_eq_true rfl⟩ ⟨Nat.le_of_ble_eq_true rfl, Nat.le_of_ble_eq_true rfl⟩ (Nat.le_of_ble_eq_true rfl) dX4_defaultMonth_22 rfl (xk_r ?_) (fun _ _ _ h => h.elim)
    refine xr_idiv dX4_defaultMonth_25 (by omega) (by omega) ?_
    rw [show (P (86 + 2 * (P (13 + 6 * b) - 1))).tdiv (rent P b) = payable P b from rfl]
    refine xr_istore_n (lv' := [some _, some _, some _]) dX4_defaultMonth_26 (by decide) rfl rfl ?_
    refine xr_aload_n dX4_defaultMonth_27 rfl (by first | rfl | exact isRef_rf _) ?_
    refine xr_iload_n dX4_defaultMonth_28 rfl ?_
    refine xr_callV (n9 := 1) (rc' := 0) (rs' := 0) (k_M_quiet hG hM.1 hB (by omega)) hM.1.1 rfl q2431 q2433 qs58 q96 q2434 (by decide +kernel) rfl ⟨by decide, Nat.le_of_ble_eq_true rfl⟩ ⟨Nat.le_of_ble_eq_true rfl, Nat.le_of_ble_eq_true rfl⟩ (Nat.le_of_ble_eq_true rfl) dX4_defaultMonth_29 rfl (xk_r ?_) (fun _ _ _ h => h.elim)
    refine xr_ifb_eq (tgt := 51) dX4_defaultMonth_32 (by decide) (fun c32 => ?_) (fun c32 => ?_)
    · skip
      try simp only [decide_eq_true_eq, decide_eq_false_iff_not] at c32
      refine xr_aload_n dX4_defaultMonth_51 rfl (by first | rfl | exact isRef_rf _) ?_
      refine xr_iconst dX4_defaultMonth_52 ?_
      refine xr_callV (n9 := 1) (rc' := 0) (rs' := 0) (k_M_fails hG hM.1) hM.1.1 rfl q2311 q2313 qs46 q96 q2314 (by decide +kernel) rfl ⟨by decide, Nat.le_of_ble_eq_true rfl⟩ ⟨Nat.le_of_ble_eq_true rfl, Nat.le_of_ble_eq_true rfl⟩ (Nat.le_of_ble_eq_true rfl) dX4_defaultMonth_53 rfl (fun r w53 hw => ?_) (fun _ _ _ h => h.elim)
      obtain ⟨rfl, hw⟩ := hw
      have hM := hM.tr hw
      refine xr_ireturn rfl rfl dX4_defaultMonth_56 ?_
      rw [hpo]
      first
        | (have e9 : defMonth P b = payable P b + 1 := by unfold defMonth; rw [if_pos (by omega)]
           exact ⟨_, 0, rfl, hM.2, ⟨_, _, hM.1, updI_eq.trans hl0, hS.to (fun k hk => updI_ne (by omega)) (fun j hj => rfl)⟩, Or.inl ⟨by omega, by omega, rfl, e9.symm⟩⟩)
        | (have e9 : defMonth P b = -1 := by unfold defMonth; rw [if_neg (by omega)]
           exact ⟨_, 2, rfl, hM.2, ⟨_, _, hM.1, updI_eq, hS.to (fun k hk => by rw [updI_ne (by omega), updI_ne (by omega)]) (fun j hj => rfl)⟩, Or.inr (Or.inr ⟨by omega, e9, rfl⟩)⟩)
    · skip
      try simp only [decide_eq_true_eq, decide_eq_false_iff_not] at c32
      refine xr_iload_n dX4_defaultMonth_35 rfl ?_
      refine xr_aload_n dX4_defaultMonth_36 rfl (by first | rfl | exact isRef_rf _) ?_
      refine xr_iload_n dX4_defaultMonth_37 rfl ?_
      refine xr_iconst dX4_defaultMonth_38 ?_
      refine xr_callV (n9 := 2) (rc' := 0) (rs' := 0) (k_M_bench_5 hG hM.1 (by omega)) hM.1.1 rfl q2291 q2293 qs41 q96 q2294 (by decide +kernel) rfl ⟨by decide, Nat.le_of_ble_eq_true rfl⟩ ⟨Nat.le_of_ble_eq_true rfl, Nat.le_of_ble_eq_true rfl⟩ (Nat.le_of_ble_eq_true rfl) dX4_defaultMonth_39 rfl (xk_r ?_) (fun _ _ _ h => h.elim)
      refine xr_icmp_ge (tgt := 51) dX4_defaultMonth_42 (by decide) (by omega) (fun c42 => ?_) (fun c42 => ?_)
      · skip
        refine xr_aload_n dX4_defaultMonth_51 rfl (by first | rfl | exact isRef_rf _) ?_
        refine xr_iconst dX4_defaultMonth_52 ?_
        refine xr_callV (n9 := 1) (rc' := 0) (rs' := 0) (k_M_fails hG hM.1) hM.1.1 rfl q2311 q2313 qs46 q96 q2314 (by decide +kernel) rfl ⟨by decide, Nat.le_of_ble_eq_true rfl⟩ ⟨Nat.le_of_ble_eq_true rfl, Nat.le_of_ble_eq_true rfl⟩ (Nat.le_of_ble_eq_true rfl) dX4_defaultMonth_53 rfl (fun r w53 hw => ?_) (fun _ _ _ h => h.elim)
        obtain ⟨rfl, hw⟩ := hw
        have hM := hM.tr hw
        refine xr_ireturn rfl rfl dX4_defaultMonth_56 ?_
        rw [hpo]
        first
          | (have e9 : defMonth P b = payable P b + 1 := by unfold defMonth; rw [if_pos (by omega)]
             exact ⟨_, 0, rfl, hM.2, ⟨_, _, hM.1, updI_eq.trans hl0, hS.to (fun k hk => updI_ne (by omega)) (fun j hj => rfl)⟩, Or.inl ⟨by omega, by omega, rfl, e9.symm⟩⟩)
          | (have e9 : defMonth P b = -1 := by unfold defMonth; rw [if_neg (by omega)]
             exact ⟨_, 2, rfl, hM.2, ⟨_, _, hM.1, updI_eq, hS.to (fun k hk => by rw [updI_ne (by omega), updI_ne (by omega)]) (fun j hj => rfl)⟩, Or.inr (Or.inr ⟨by omega, e9, rfl⟩)⟩)
      · skip
        refine xr_iload_n dX4_defaultMonth_45 rfl ?_
        refine xr_iconst dX4_defaultMonth_46 ?_
        refine xr_iadd dX4_defaultMonth_47 ?_
        refine xr_goto (tgt := 56) dX4_defaultMonth_48 (by decide) ?_
        refine xr_ireturn rfl rfl dX4_defaultMonth_56 ?_
        rw [hpo]
        first
          | (have e9 : defMonth P b = payable P b + 1 := by unfold defMonth; rw [if_pos (by omega)]
             exact ⟨_, 0, rfl, hM.2, ⟨_, _, hM.1, updI_eq.trans hl0, hS.to (fun k hk => updI_ne (by omega)) (fun j hj => rfl)⟩, Or.inl ⟨by omega, by omega, rfl, e9.symm⟩⟩)
          | (have e9 : defMonth P b = -1 := by unfold defMonth; rw [if_neg (by omega)]
             exact ⟨_, 2, rfl, hM.2, ⟨_, _, hM.1, updI_eq, hS.to (fun k hk => by rw [updI_ne (by omega), updI_ne (by omega)]) (fun j hj => rfl)⟩, Or.inr (Or.inr ⟨by omega, e9, rfl⟩)⟩)
  · skip
    try simp only [decide_eq_true_eq, decide_eq_false_iff_not] at c5
    have hl0 : lth P b ≠ 0 := by omega
    refine xr_iconst dX4_defaultMonth_8 ?_
    refine xr_ireturn rfl rfl dX4_defaultMonth_9 ?_
    rw [hpo]
    rcases hl9 with h9 | h9 | h9
    · omega
    · exact ⟨_, 1, rfl, hM.2, ⟨_, _, hM.1, updI_eq.trans h9.1, hS.to (fun k hk => updI_ne (by omega)) (fun j hj => rfl)⟩, Or.inr (Or.inl ⟨h9.2, rfl⟩)⟩
    · exact ⟨_, 2, rfl, hM.2, ⟨_, _, hM.1, updI_eq.trans h9.1, hS.to (fun k hk => updI_ne (by omega)) (fun j hj => rfl)⟩, Or.inr (Or.inr ⟨h9.2.1, by unfold defMonth; rw [if_neg (by omega)], rfl⟩)⟩
theorem k_M_isCheaper {g : GG} {w : WW} {m : Nat} {A : Int → Nat} {F P : Int → Int} {C : Int → Int → Int} {a b N : Int} (hG : Base g) (hM : MD g w m A F P C) (hB : PB P N) (ha : 0 ≤ a ∧ a < P 0) (hb : 0 ≤ b ∧ b < P 0) : Ct g yX4_isCheaper (.code yX4_isCheaper cX4_isCheaper 4 (some .boolean)) 4 91 0 0 w [.ref m, .int (iI a), .int (iI b)] (fun r_ w1 => r_ = some (.int (bI (decide (rent P a < rent P b ∨ (rent P a = rent P b ∧ (isL P a < isL P b ∨ (isL P a = isL P b ∧ a < b))))))) ∧ w1 = w) xF := by
  refine Ct.of (lv := [some _, some _, some _, none]) hG (by decide +kernel) (Nat.le_of_ble_eq_true rfl) rfl ?_
  intro z hg hpo hxp hnm htab
  subst hg
  have hM : MDF (zg z) w w m A F P C := ⟨hM, Fr.rf⟩
  have hgg := hB.g
  have hba := hB.b ha
  have hbb := hB.b hb
  have hra := rent_bd hB ha.1 ha.2
  have hrb := rent_bd hB hb.1 hb.2
  have la : (isL P a = 0 ∧ P (13 + 6 * a) = 0) ∨ (isL P a = 1 ∧ P (13 + 6 * a) ≠ 0) := by unfold isL; split <;> omega
  have lb : (isL P b = 0 ∧ P (13 + 6 * b) = 0) ∨ (isL P b = 1 ∧ P (13 + 6 * b) ≠ 0) := by unfold isL; split <;> omega
  refine xr_aload_n dX4_isCheaper_0 rfl (by first | rfl | exact isRef_rf _) ?_
  refine xr_iload_n dX4_isCheaper_1 rfl ?_
  refine xr_callV (n9 := 1) (rc' := 0) (rs' := 0) (k_M_rent hG hM.1 hB (by omega)) hM.1.1 rfl q2387 q2389 qs55 q96 q2390 (by decide +kernel) rfl ⟨by decide, Nat.le_of_ble_eq_true rfl⟩ ⟨Nat.le_of_ble_eq_true rfl, Nat.le_of_ble_eq_true rfl⟩ (Nat.le_of_ble_eq_true rfl) dX4_isCheaper_2 rfl (xk_r ?_) (fun _ _ _ h => h.elim)
  refine xr_aload_n dX4_isCheaper_5 rfl (by first | rfl | exact isRef_rf _) ?_
  refine xr_iload_n dX4_isCheaper_6 rfl ?_
  refine xr_callV (n9 := 1) (rc' := 0) (rs' := 0) (k_M_rent hG hM.1 hB (by omega)) hM.1.1 rfl q2387 q2389 qs55 q96 q2390 (by decide +kernel) rfl ⟨by decide, Nat.le_of_ble_eq_true rfl⟩ ⟨Nat.le_of_ble_eq_true rfl, Nat.le_of_ble_eq_true rfl⟩ (Nat.le_of_ble_eq_true rfl) dX4_isCheaper_7 rfl (xk_r ?_) (fun _ _ _ h => h.elim)
  refine xr_icmp_eq (tgt := 32) dX4_isCheaper_10 (by decide) (by omega) (fun c10 => ?_) (fun c10 => ?_)
  · skip
    refine xr_aload_n dX4_isCheaper_32 rfl (by first | rfl | exact isRef_rf _) ?_
    refine xr_iload_n dX4_isCheaper_33 rfl ?_
    refine xr_callV (n9 := 1) (rc' := 0) (rs' := 0) (k_M_by hG hM.1 (by omega)) hM.1.1 rfl q2487 q2489 qs65 q96 q2490 (by decide +kernel) rfl ⟨by decide, Nat.le_of_ble_eq_true rfl⟩ ⟨Nat.le_of_ble_eq_true rfl, Nat.le_of_ble_eq_true rfl⟩ (Nat.le_of_ble_eq_true rfl) dX4_isCheaper_34 rfl (xk_r ?_) (fun _ _ _ h => h.elim)
    refine xr_iconst dX4_isCheaper_37 ?_
    refine xr_icmp_ne (tgt := 45) dX4_isCheaper_38 (by decide) (by omega) (fun c38 => ?_) (fun c38 => ?_)
    · skip
      refine xr_iconst dX4_isCheaper_45 ?_
      refine xr_istore_n (lv' := [some _, some _, some _, some _]) dX4_isCheaper_46 (by decide) rfl rfl ?_
      refine xr_iload_n dX4_isCheaper_47 rfl ?_
      refine xr_aload_n dX4_isCheaper_48 rfl (by first | rfl | exact isRef_rf _) ?_
      refine xr_iload_n dX4_isCheaper_49 rfl ?_
      refine xr_callV (n9 := 1) (rc' := 0) (rs' := 0) (k_M_by hG hM.1 (by omega)) hM.1.1 rfl q2487 q2489 qs65 q96 q2490 (by decide +kernel) rfl ⟨by decide, Nat.le_of_ble_eq_true rfl⟩ ⟨Nat.le_of_ble_eq_true rfl, Nat.le_of_ble_eq_true rfl⟩ (Nat.le_of_ble_eq_true rfl) dX4_isCheaper_50 rfl (xk_r ?_) (fun _ _ _ h => h.elim)
      refine xr_iconst dX4_isCheaper_53 ?_
      refine xr_icmp_ne (tgt := 61) dX4_isCheaper_54 (by decide) (by omega) (fun c54 => ?_) (fun c54 => ?_)
      · skip
        refine xr_iconst dX4_isCheaper_61 ?_
        refine xr_icmp_ne (tgt := 78) dX4_isCheaper_62 (by decide) (by omega) (fun c62 => ?_) (fun c62 => ?_)
        · skip
          refine xr_iload_n dX4_isCheaper_78 rfl ?_
          refine xr_ireturn rfl (by first | rfl | exact nar_bI _ | decide +kernel) dX4_isCheaper_79 ?_
          rw [hpo]
          first | exact ⟨rfl, rfl⟩ | exact ⟨ret_bt (by omega), rfl⟩ | exact ⟨ret_bf (by omega), rfl⟩ | exact ⟨ret_i (by omega), rfl⟩
        · skip
          refine xr_iload_n dX4_isCheaper_65 rfl ?_
          refine xr_iload_n dX4_isCheaper_66 rfl ?_
          refine xr_icmp_ge (tgt := 74) dX4_isCheaper_67 (by decide) (by omega) (fun c67 => ?_) (fun c67 => ?_)
          · skip
            refine xr_iconst dX4_isCheaper_74 ?_
            refine xr_goto (tgt := 79) dX4_isCheaper_75 (by decide) ?_
            refine xr_ireturn rfl (by first | rfl | exact nar_bI _ | decide +kernel) dX4_isCheaper_79 ?_
            rw [hpo]
            first | exact ⟨rfl, rfl⟩ | exact ⟨ret_bt (by omega), rfl⟩ | exact ⟨ret_bf (by omega), rfl⟩ | exact ⟨ret_i (by omega), rfl⟩
          · skip
            refine xr_iconst dX4_isCheaper_70 ?_
            refine xr_goto (tgt := 79) dX4_isCheaper_71 (by decide) ?_
            refine xr_ireturn rfl (by first | rfl | exact nar_bI _ | decide +kernel) dX4_isCheaper_79 ?_
            rw [hpo]
            first | exact ⟨rfl, rfl⟩ | exact ⟨ret_bt (by omega), rfl⟩ | exact ⟨ret_bf (by omega), rfl⟩ | exact ⟨ret_i (by omega), rfl⟩
      · skip
        refine xr_iconst dX4_isCheaper_57 ?_
        refine xr_goto (tgt := 62) dX4_isCheaper_58 (by decide) ?_
        refine xr_icmp_ne (tgt := 78) dX4_isCheaper_62 (by decide) (by omega) (fun c62 => ?_) (fun c62 => ?_)
        · skip
          refine xr_iload_n dX4_isCheaper_78 rfl ?_
          refine xr_ireturn rfl (by first | rfl | exact nar_bI _ | decide +kernel) dX4_isCheaper_79 ?_
          rw [hpo]
          first | exact ⟨rfl, rfl⟩ | exact ⟨ret_bt (by omega), rfl⟩ | exact ⟨ret_bf (by omega), rfl⟩ | exact ⟨ret_i (by omega), rfl⟩
        · skip
          refine xr_iload_n dX4_isCheaper_65 rfl ?_
          refine xr_iload_n dX4_isCheaper_66 rfl ?_
          refine xr_icmp_ge (tgt := 74) dX4_isCheaper_67 (by decide) (by omega) (fun c67 => ?_) (fun c67 => ?_)
          · skip
            refine xr_iconst dX4_isCheaper_74 ?_
            refine xr_goto (tgt := 79) dX4_isCheaper_75 (by decide) ?_
            refine xr_ireturn rfl (by first | rfl | exact nar_bI _ | decide +kernel) dX4_isCheaper_79 ?_
            rw [hpo]
            first | exact ⟨rfl, rfl⟩ | exact ⟨ret_bt (by omega), rfl⟩ | exact ⟨ret_bf (by omega), rfl⟩ | exact ⟨ret_i (by omega), rfl⟩
          · skip
            refine xr_iconst dX4_isCheaper_70 ?_
            refine xr_goto (tgt := 79) dX4_isCheaper_71 (by decide) ?_
            refine xr_ireturn rfl (by first | rfl | exact nar_bI _ | decide +kernel) dX4_isCheaper_79 ?_
            rw [hpo]
            first | exact ⟨rfl, rfl⟩ | exact ⟨ret_bt (by omega), rfl⟩ | exact ⟨ret_bf (by omega), rfl⟩ | exact ⟨ret_i (by omega), rfl⟩
    · skip
      refine xr_iconst dX4_isCheaper_41 ?_
      refine xr_goto (tgt := 46) dX4_isCheaper_42 (by decide) ?_
      refine xr_istore_n (lv' := [some _, some _, some _, some _]) dX4_isCheaper_46 (by decide) rfl rfl ?_
      refine xr_iload_n dX4_isCheaper_47 rfl ?_
      refine xr_aload_n dX4_isCheaper_48 rfl (by first | rfl | exact isRef_rf _) ?_
      refine xr_iload_n dX4_isCheaper_49 rfl ?_
      refine xr_callV (n9 := 1) (rc' := 0) (rs' := 0) (k_M_by hG hM.1 (by omega)) hM.1.1 rfl q2487 q2489 qs65 q96 q2490 (by decide +kernel) rfl ⟨by decide, Nat.le_of_ble_eq_true rfl⟩ ⟨Nat.le_of_ble_eq_true rfl, Nat.le_of_ble_eq_true rfl⟩ (Nat.le_of_ble_eq_true rfl) dX4_isCheaper_50 rfl (xk_r ?_) (fun _ _ _ h => h.elim)
      refine xr_iconst dX4_isCheaper_53 ?_
      refine xr_icmp_ne (tgt := 61) dX4_isCheaper_54 (by decide) (by omega) (fun c54 => ?_) (fun c54 => ?_)
      · skip
        refine xr_iconst dX4_isCheaper_61 ?_
        refine xr_icmp_ne (tgt := 78) dX4_isCheaper_62 (by decide) (by omega) (fun c62 => ?_) (fun c62 => ?_)
        · skip
          refine xr_iload_n dX4_isCheaper_78 rfl ?_
          refine xr_ireturn rfl (by first | rfl | exact nar_bI _ | decide +kernel) dX4_isCheaper_79 ?_
          rw [hpo]
          first | exact ⟨rfl, rfl⟩ | exact ⟨ret_bt (by omega), rfl⟩ | exact ⟨ret_bf (by omega), rfl⟩ | exact ⟨ret_i (by omega), rfl⟩
        · skip
          refine xr_iload_n dX4_isCheaper_65 rfl ?_
          refine xr_iload_n dX4_isCheaper_66 rfl ?_
          refine xr_icmp_ge (tgt := 74) dX4_isCheaper_67 (by decide) (by omega) (fun c67 => ?_) (fun c67 => ?_)
          · skip
            refine xr_iconst dX4_isCheaper_74 ?_
            refine xr_goto (tgt := 79) dX4_isCheaper_75 (by decide) ?_
            refine xr_ireturn rfl (by first | rfl | exact nar_bI _ | decide +kernel) dX4_isCheaper_79 ?_
            rw [hpo]
            first | exact ⟨rfl, rfl⟩ | exact ⟨ret_bt (by omega), rfl⟩ | exact ⟨ret_bf (by omega), rfl⟩ | exact ⟨ret_i (by omega), rfl⟩
          · skip
            refine xr_iconst dX4_isCheaper_70 ?_
            refine xr_goto (tgt := 79) dX4_isCheaper_71 (by decide) ?_
            refine xr_ireturn rfl (by first | rfl | exact nar_bI _ | decide +kernel) dX4_isCheaper_79 ?_
            rw [hpo]
            first | exact ⟨rfl, rfl⟩ | exact ⟨ret_bt (by omega), rfl⟩ | exact ⟨ret_bf (by omega), rfl⟩ | exact ⟨ret_i (by omega), rfl⟩
      · skip
        refine xr_iconst dX4_isCheaper_57 ?_
        refine xr_goto (tgt := 62) dX4_isCheaper_58 (by decide) ?_
        refine xr_icmp_ne (tgt := 78) dX4_isCheaper_62 (by decide) (by omega) (fun c62 => ?_) (fun c62 => ?_)
        · skip
          refine xr_iload_n dX4_isCheaper_78 rfl ?_
          refine xr_ireturn rfl (by first | rfl | exact nar_bI _ | decide +kernel) dX4_isCheaper_79 ?_
          rw [hpo]
          first | exact ⟨rfl, rfl⟩ | exact ⟨ret_bt (by omega), rfl⟩ | exact ⟨ret_bf (by omega), rfl⟩ | exact ⟨ret_i (by omega), rfl⟩
        · skip
          refine xr_iload_n dX4_isCheaper_65 rfl ?_
          refine xr_iload_n dX4_isCheaper_66 rfl ?_
          refine xr_icmp_ge (tgt := 74) dX4_isCheaper_67 (by decide) (by omega) (fun c67 => ?_) (fun c67 => ?_)
          · skip
            refine xr_iconst dX4_isCheaper_74 ?_
            refine xr_goto (tgt := 79) dX4_isCheaper_75 (by decide) ?_
            refine xr_ireturn rfl (by first | rfl | exact nar_bI _ | decide +kernel) dX4_isCheaper_79 ?_
            rw [hpo]
            first | exact ⟨rfl, rfl⟩ | exact ⟨ret_bt (by omega), rfl⟩ | exact ⟨ret_bf (by omega), rfl⟩ | exact ⟨ret_i (by omega), rfl⟩
          · skip
            refine xr_iconst dX4_isCheaper_70 ?_
            refine xr_goto (tgt := 79) dX4_isCheaper_71 (by decide) ?_
            refine xr_ireturn rfl (by first | rfl | exact nar_bI _ | decide +kernel) dX4_isCheaper_79 ?_
            rw [hpo]
            first | exact ⟨rfl, rfl⟩ | exact ⟨ret_bt (by omega), rfl⟩ | exact ⟨ret_bf (by omega), rfl⟩ | exact ⟨ret_i (by omega), rfl⟩
  · skip
    refine xr_aload_n dX4_isCheaper_13 rfl (by first | rfl | exact isRef_rf _) ?_
    refine xr_iload_n dX4_isCheaper_14 rfl ?_
    refine xr_callV (n9 := 1) (rc' := 0) (rs' := 0) (k_M_rent hG hM.1 hB (by omega)) hM.1.1 rfl q2387 q2389 qs55 q96 q2390 (by decide +kernel) rfl ⟨by decide, Nat.le_of_ble_eq_true rfl⟩ ⟨Nat.le_of_ble_eq_true rfl, Nat.le_of_ble_eq_true rfl⟩ (Nat.le_of_ble_eq_true rfl) dX4_isCheaper_15 rfl (xk_r ?_) (fun _ _ _ h => h.elim)
    refine xr_aload_n dX4_isCheaper_18 rfl (by first | rfl | exact isRef_rf _) ?_
    refine xr_iload_n dX4_isCheaper_19 rfl ?_
    refine xr_callV (n9 := 1) (rc' := 0) (rs' := 0) (k_M_rent hG hM.1 hB (by omega)) hM.1.1 rfl q2387 q2389 qs55 q96 q2390 (by decide +kernel) rfl ⟨by decide, Nat.le_of_ble_eq_true rfl⟩ ⟨Nat.le_of_ble_eq_true rfl, Nat.le_of_ble_eq_true rfl⟩ (Nat.le_of_ble_eq_true rfl) dX4_isCheaper_20 rfl (xk_r ?_) (fun _ _ _ h => h.elim)
    refine xr_icmp_ge (tgt := 30) dX4_isCheaper_23 (by decide) (by omega) (fun c23 => ?_) (fun c23 => ?_)
    · skip
      refine xr_iconst dX4_isCheaper_30 ?_
      refine xr_ireturn rfl (by first | rfl | exact nar_bI _ | decide +kernel) dX4_isCheaper_31 ?_
      rw [hpo]
      first | exact ⟨rfl, rfl⟩ | exact ⟨ret_bt (by omega), rfl⟩ | exact ⟨ret_bf (by omega), rfl⟩ | exact ⟨ret_i (by omega), rfl⟩
    · skip
      refine xr_iconst dX4_isCheaper_26 ?_
      refine xr_goto (tgt := 31) dX4_isCheaper_27 (by decide) ?_
      refine xr_ireturn rfl (by first | rfl | exact nar_bI _ | decide +kernel) dX4_isCheaper_31 ?_
      rw [hpo]
      first | exact ⟨rfl, rfl⟩ | exact ⟨ret_bt (by omega), rfl⟩ | exact ⟨ret_bf (by omega), rfl⟩ | exact ⟨ret_i (by omega), rfl⟩
theorem k_M_isRicher {g : GG} {w : WW} {m : Nat} {A : Int → Nat} {F P : Int → Int} {C : Int → Int → Int} {a b N : Int} (hG : Base g) (hM : MD g w m A F P C) (hB : PB P N) (ha : 0 ≤ a ∧ a < P 2) (hb : 0 ≤ b ∧ b < P 2) : Ct g yX4_isRicher (.code yX4_isRicher cX4_isRicher 3 (some .boolean)) 1 22 0 0 w [.ref m, .int (iI a), .int (iI b)] (fun r_ w1 => r_ = some (.int (bI (decide (P (86 + 2 * b) < P (86 + 2 * a) ∨ (P (86 + 2 * a) = P (86 + 2 * b) ∧ (P (87 + 2 * a) < P (87 + 2 * b) ∨ (P (87 + 2 * a) = P (87 + 2 * b) ∧ a < b))))))) ∧ w1 = w) xF := by
  refine Ct.of (lv := [some _, some _, some _]) hG (by decide +kernel) (Nat.le_of_ble_eq_true rfl) rfl ?_
  intro z hg hpo hxp hnm htab
  subst hg
  have hM : MDF (zg z) w w m A F P C := ⟨hM, Fr.rf⟩
  have hgg := hB.g
  have hta := hB.t ha
  have htb := hB.t hb
  refine xr_aload_n dX4_isRicher_0 rfl (by first | rfl | exact isRef_rf _) ?_
  refine xr_iload_n dX4_isRicher_1 rfl ?_
  refine xr_iconst dX4_isRicher_2 ?_
  refine xr_callV (n9 := 2) (rc' := 0) (rs' := 0) (k_M_tenant_0 hG hM.1 (by omega)) hM.1.1 rfl q2459 q2461 qs62 q96 q2462 (by decide +kernel) rfl ⟨by decide, Nat.le_of_ble_eq_true rfl⟩ ⟨Nat.le_of_ble_eq_true rfl, Nat.le_of_ble_eq_true rfl⟩ (Nat.le_of_ble_eq_true rfl) dX4_isRicher_3 rfl (xk_r ?_) (fun _ _ _ h => h.elim)
  refine xr_aload_n dX4_isRicher_6 rfl (by first | rfl | exact isRef_rf _) ?_
  refine xr_iload_n dX4_isRicher_7 rfl ?_
  refine xr_iconst dX4_isRicher_8 ?_
  refine xr_callV (n9 := 2) (rc' := 0) (rs' := 0) (k_M_tenant_0 hG hM.1 (by omega)) hM.1.1 rfl q2459 q2461 qs62 q96 q2462 (by decide +kernel) rfl ⟨by decide, Nat.le_of_ble_eq_true rfl⟩ ⟨Nat.le_of_ble_eq_true rfl, Nat.le_of_ble_eq_true rfl⟩ (Nat.le_of_ble_eq_true rfl) dX4_isRicher_9 rfl (xk_r ?_) (fun _ _ _ h => h.elim)
  refine xr_icmp_eq (tgt := 36) dX4_isRicher_12 (by decide) (by omega) (fun c12 => ?_) (fun c12 => ?_)
  · skip
    refine xr_aload_n dX4_isRicher_36 rfl (by first | rfl | exact isRef_rf _) ?_
    refine xr_iload_n dX4_isRicher_37 rfl ?_
    refine xr_iconst dX4_isRicher_38 ?_
    refine xr_callV (n9 := 2) (rc' := 0) (rs' := 0) (k_M_tenant_1 hG hM.1 (by omega)) hM.1.1 rfl q2459 q2461 qs62 q96 q2462 (by decide +kernel) rfl ⟨by decide, Nat.le_of_ble_eq_true rfl⟩ ⟨Nat.le_of_ble_eq_true rfl, Nat.le_of_ble_eq_true rfl⟩ (Nat.le_of_ble_eq_true rfl) dX4_isRicher_39 rfl (xk_r ?_) (fun _ _ _ h => h.elim)
    refine xr_aload_n dX4_isRicher_42 rfl (by first | rfl | exact isRef_rf _) ?_
    refine xr_iload_n dX4_isRicher_43 rfl ?_
    refine xr_iconst dX4_isRicher_44 ?_
    refine xr_callV (n9 := 2) (rc' := 0) (rs' := 0) (k_M_tenant_1 hG hM.1 (by omega)) hM.1.1 rfl q2459 q2461 qs62 q96 q2462 (by decide +kernel) rfl ⟨by decide, Nat.le_of_ble_eq_true rfl⟩ ⟨Nat.le_of_ble_eq_true rfl, Nat.le_of_ble_eq_true rfl⟩ (Nat.le_of_ble_eq_true rfl) dX4_isRicher_45 rfl (xk_r ?_) (fun _ _ _ h => h.elim)
    refine xr_icmp_ne (tgt := 64) dX4_isRicher_48 (by decide) (by omega) (fun c48 => ?_) (fun c48 => ?_)
    · skip
      refine xr_aload_n dX4_isRicher_64 rfl (by first | rfl | exact isRef_rf _) ?_
      refine xr_iload_n dX4_isRicher_65 rfl ?_
      refine xr_iconst dX4_isRicher_66 ?_
      refine xr_callV (n9 := 2) (rc' := 0) (rs' := 0) (k_M_tenant_1 hG hM.1 (by omega)) hM.1.1 rfl q2459 q2461 qs62 q96 q2462 (by decide +kernel) rfl ⟨by decide, Nat.le_of_ble_eq_true rfl⟩ ⟨Nat.le_of_ble_eq_true rfl, Nat.le_of_ble_eq_true rfl⟩ (Nat.le_of_ble_eq_true rfl) dX4_isRicher_67 rfl (xk_r ?_) (fun _ _ _ h => h.elim)
      refine xr_aload_n dX4_isRicher_70 rfl (by first | rfl | exact isRef_rf _) ?_
      refine xr_iload_n dX4_isRicher_71 rfl ?_
      refine xr_iconst dX4_isRicher_72 ?_
      refine xr_callV (n9 := 2) (rc' := 0) (rs' := 0) (k_M_tenant_1 hG hM.1 (by omega)) hM.1.1 rfl q2459 q2461 qs62 q96 q2462 (by decide +kernel) rfl ⟨by decide, Nat.le_of_ble_eq_true rfl⟩ ⟨Nat.le_of_ble_eq_true rfl, Nat.le_of_ble_eq_true rfl⟩ (Nat.le_of_ble_eq_true rfl) dX4_isRicher_73 rfl (xk_r ?_) (fun _ _ _ h => h.elim)
      refine xr_icmp_ge (tgt := 83) dX4_isRicher_76 (by decide) (by omega) (fun c76 => ?_) (fun c76 => ?_)
      · skip
        refine xr_iconst dX4_isRicher_83 ?_
        refine xr_ireturn rfl (by first | rfl | exact nar_bI _ | decide +kernel) dX4_isRicher_84 ?_
        rw [hpo]
        first | exact ⟨rfl, rfl⟩ | exact ⟨ret_bt (by omega), rfl⟩ | exact ⟨ret_bf (by omega), rfl⟩ | exact ⟨ret_i (by omega), rfl⟩
      · skip
        refine xr_iconst dX4_isRicher_79 ?_
        refine xr_goto (tgt := 84) dX4_isRicher_80 (by decide) ?_
        refine xr_ireturn rfl (by first | rfl | exact nar_bI _ | decide +kernel) dX4_isRicher_84 ?_
        rw [hpo]
        first | exact ⟨rfl, rfl⟩ | exact ⟨ret_bt (by omega), rfl⟩ | exact ⟨ret_bf (by omega), rfl⟩ | exact ⟨ret_i (by omega), rfl⟩
    · skip
      refine xr_iload_n dX4_isRicher_51 rfl ?_
      refine xr_iload_n dX4_isRicher_52 rfl ?_
      refine xr_icmp_ge (tgt := 60) dX4_isRicher_53 (by decide) (by omega) (fun c53 => ?_) (fun c53 => ?_)
      · skip
        refine xr_iconst dX4_isRicher_60 ?_
        refine xr_goto (tgt := 84) dX4_isRicher_61 (by decide) ?_
        refine xr_ireturn rfl (by first | rfl | exact nar_bI _ | decide +kernel) dX4_isRicher_84 ?_
        rw [hpo]
        first | exact ⟨rfl, rfl⟩ | exact ⟨ret_bt (by omega), rfl⟩ | exact ⟨ret_bf (by omega), rfl⟩ | exact ⟨ret_i (by omega), rfl⟩
      · skip
        refine xr_iconst dX4_isRicher_56 ?_
        refine xr_goto (tgt := 84) dX4_isRicher_57 (by decide) ?_
        refine xr_ireturn rfl (by first | rfl | exact nar_bI _ | decide +kernel) dX4_isRicher_84 ?_
        rw [hpo]
        first | exact ⟨rfl, rfl⟩ | exact ⟨ret_bt (by omega), rfl⟩ | exact ⟨ret_bf (by omega), rfl⟩ | exact ⟨ret_i (by omega), rfl⟩
  · skip
    refine xr_aload_n dX4_isRicher_15 rfl (by first | rfl | exact isRef_rf _) ?_
    refine xr_iload_n dX4_isRicher_16 rfl ?_
    refine xr_iconst dX4_isRicher_17 ?_
    refine xr_callV (n9 := 2) (rc' := 0) (rs' := 0) (k_M_tenant_0 hG hM.1 (by omega)) hM.1.1 rfl q2459 q2461 qs62 q96 q2462 (by decide +kernel) rfl ⟨by decide, Nat.le_of_ble_eq_true rfl⟩ ⟨Nat.le_of_ble_eq_true rfl, Nat.le_of_ble_eq_true rfl⟩ (Nat.le_of_ble_eq_true rfl) dX4_isRicher_18 rfl (xk_r ?_) (fun _ _ _ h => h.elim)
    refine xr_aload_n dX4_isRicher_21 rfl (by first | rfl | exact isRef_rf _) ?_
    refine xr_iload_n dX4_isRicher_22 rfl ?_
    refine xr_iconst dX4_isRicher_23 ?_
    refine xr_callV (n9 := 2) (rc' := 0) (rs' := 0) (k_M_tenant_0 hG hM.1 (by omega)) hM.1.1 rfl q2459 q2461 qs62 q96 q2462 (by decide +kernel) rfl ⟨by decide, Nat.le_of_ble_eq_true rfl⟩ ⟨Nat.le_of_ble_eq_true rfl, Nat.le_of_ble_eq_true rfl⟩ (Nat.le_of_ble_eq_true rfl) dX4_isRicher_24 rfl (xk_r ?_) (fun _ _ _ h => h.elim)
    refine xr_icmp_le (tgt := 34) dX4_isRicher_27 (by decide) (by omega) (fun c27 => ?_) (fun c27 => ?_)
    · skip
      refine xr_iconst dX4_isRicher_34 ?_
      refine xr_ireturn rfl (by first | rfl | exact nar_bI _ | decide +kernel) dX4_isRicher_35 ?_
      rw [hpo]
      first | exact ⟨rfl, rfl⟩ | exact ⟨ret_bt (by omega), rfl⟩ | exact ⟨ret_bf (by omega), rfl⟩ | exact ⟨ret_i (by omega), rfl⟩
    · skip
      refine xr_iconst dX4_isRicher_30 ?_
      refine xr_goto (tgt := 35) dX4_isRicher_31 (by decide) ?_
      refine xr_ireturn rfl (by first | rfl | exact nar_bI _ | decide +kernel) dX4_isRicher_35 ?_
      rw [hpo]
      first | exact ⟨rfl, rfl⟩ | exact ⟨ret_bt (by omega), rfl⟩ | exact ⟨ret_bf (by omega), rfl⟩ | exact ⟨ret_i (by omega), rfl⟩
theorem k_N_benchByRent {g : GG} {w : WW} {m : Nat} {A : Int → Nat} {th : Int} {P : Int → Int} {S : Option (Int → Int)} {H : List (Int → Int)} {I O : Tx} {se : Option Int} {rj : Option (Int × Int × Int)} {b N : Int} (hG : Base g) (hX : MR g w m A th P S H I O se rj) (hB : PB P N) (hr : (-2147483648 ≤ b ∧ b < 2147483648)) : Ct g yX4_benchByRent (.code yX4_benchByRent cX4_benchByRent 5 (some .int)) 5 114 0 0 w [.ref m, .int (iI b)] (fun r_ w1 => ∃ y th : Int, r_ = some (.int (iI y)) ∧ Fr (MS m A) w w1 ∧ MR g w1 m A th P S H I O se rj ∧ ((ordR (ordB P) (P 0) b ≠ -1 ∧ th = 0 ∧ y = ordR (ordB P) (P 0) b) ∨ (ordR (ordB P) (P 0) b = -1 ∧ th = 1))) xF := by
  refine Ct.of (lv := [some _, some _, none, none, none]) hG (by decide +kernel) (Nat.le_of_ble_eq_true rfl) rfl ?_
  intro z hg hpo hxp hnm htab
  subst hg
  obtain ⟨F, C, hM, -, hS⟩ := hX
  have hM : MDF (zg z) w w m A F P C := ⟨hM, Fr.rf⟩
  have h68 : 0 ≤ F 6 ∧ F 6 ≤ 8 := by have := hS.1.1; have := hS.1.2.1; omega
  have hgg := hB.g
  refine xr_aload_n dX4_benchByRent_0 rfl (by first | rfl | exact isRef_rf _) ?_
  refine xr_iconst dX4_benchByRent_1 ?_
  refine xr_putfield (ci := 14) (T := TX4) (N := 23) (i := 0) (fs' := [_, _, _, _, _, _, _, _, _, _, _, _, _, _, _, _, _, _, _, _, _, _, _]) hM.1.1 rfl (by decide) in_X4 tyX4 tyX4_ok nmX4 q2191 (.inl rfl) rfl dX4_benchByRent_2 (by rfl) (by rfl) (by simp) (by rfl) (.inl rfl) (fun _ => ?_)
  refine xr_mput (i := 0) hM (by rfl) (fun w2 hM => ?_)
  refine xr_iconst dX4_benchByRent_5 ?_
  refine xr_istore_n (lv' := [some _, some _, some _, none, none]) dX4_benchByRent_6 (by decide) rfl rfl ?_
  refine xr_lv (lvw_s (lvw_s (lvw_s (lvw_n (lvw_n (lvw_nil)))))) ?_
  have lp7 : ∀ (fu7 : Nat) (k : Int), 0 ≤ k → k ≤ P 0 → P 0 - k < fu7 → fstR (fun a => decide (ahead (ordB P) (P 0) a = b)) k (P 0) = ordR (ordB P) (P 0) b → XJ z yX4_benchByRent.cls cX4_benchByRent 5 (some .int) 5 114 w2 (0 * fu7 + 0) (0 * fu7 + 0) 7 [some (.ref m), some (.int (iI b)), some (.int (iI k)), none, none] [] := by
    intro fu7
    induction fu7 with
    | zero =>
      intro k hk0 hk1 hfu hr9
      omega
    | succ fu7 ih7 =>
      intro k hk0 hk1 hfu hr9
      refine xr_iload_n dX4_benchByRent_7 rfl ?_
      refine xr_aload_n dX4_benchByRent_8 rfl (by first | rfl | exact isRef_rf _) ?_
      refine xr_getfield (ci := 14) (T := TX4) (N := 23) (i := 1) hM.1.1 rfl (by decide) in_X4 q2192 (.inl rfl) dX4_benchByRent_9 (by rfl) ?_
      refine xr_iconst dX4_benchByRent_12 ?_
      refine xr_iaload hM.1.2.1 (by omega) (by decide) dX4_benchByRent_13 ?_
      refine xr_icmp_ge (tgt := 76) dX4_benchByRent_14 (by decide) (by omega) (fun c14 => ?_) (fun c14 => ?_)
      · skip
        rw [fstR_ge (by omega)] at hr9
        refine xr_aload_n dX4_benchByRent_76 rfl (by first | rfl | exact isRef_rf _) ?_
        refine xr_iconst dX4_benchByRent_77 ?_
        refine xr_callV (n9 := 1) (rc' := 0 * fu7 + 0) (rs' := 0 * fu7 + 0) (k_M_fails hG hM.1) hM.1.1 rfl q2311 q2313 qs46 q96 q2314 (by decide +kernel) rfl ⟨by decide, Nat.le_of_ble_eq_true rfl⟩ ⟨by omega, by omega⟩ (Nat.le_of_ble_eq_true rfl) dX4_benchByRent_78 rfl (fun r w78 hw => ?_) (fun _ _ _ h => h.elim)
        obtain ⟨rfl, hw⟩ := hw
        have hM := hM.tr hw
        refine xr_ireturn rfl rfl dX4_benchByRent_81 ?_
        rw [hpo]
        exact ⟨0, 1, rfl, hM.2, ⟨_, _, hM.1, updI_eq, hS.to (fun k hk => by rw [updI_ne (by omega), updI_ne (by omega)]) (fun j hj => rfl)⟩, Or.inr ⟨hr9.symm, rfl⟩⟩
      · skip
        rw [fstR_lt (show k < P 0 by omega)] at hr9
        have hab := sumR_bd (f := fun j => if ordB P j k = true then 1 else 0) (B := 1) (k := 0) (n := P 0) (by decide) (by omega) (fun j _ _ => by split <;> omega)
        refine xr_iconst dX4_benchByRent_17 ?_
        refine xr_istore_n (lv' := [some _, some _, some _, some _, none]) dX4_benchByRent_18 (by decide) rfl rfl ?_
        refine xr_iconst dX4_benchByRent_19 ?_
        refine xr_istore (lv' := [some _, some _, some _, some _, some _]) dX4_benchByRent_20 (by decide) rfl rfl ?_
        have lp22 : ∀ (fu22 : Nat) (s8 j : Int), 0 ≤ j → j ≤ P 0 → P 0 - j < fu22 → s8 + sumR (fun j => if ordB P j k = true then 1 else 0) j (P 0) = sumR (fun j => if ordB P j k = true then 1 else 0) 0 (P 0) → XJ z yX4_benchByRent.cls cX4_benchByRent 5 (some .int) 5 114 w2 (0 * fu7 + 0 * fu22 + 0) (0 * fu7 + 0 * fu22 + 0) 22 [some (.ref m), some (.int (iI b)), some (.int (iI k)), some (.int (iI s8)), some (.int (iI j))] [] := by
          intro fu22
          induction fu22 with
          | zero =>
            intro s8 j hj0 hj1 hfu8 hr2
            omega
          | succ fu22 ih22 =>
            intro s8 j hj0 hj1 hfu8 hr2
            refine xr_iload dX4_benchByRent_22 rfl ?_
            refine xr_aload_n dX4_benchByRent_24 rfl (by first | rfl | exact isRef_rf _) ?_
            refine xr_getfield (ci := 14) (T := TX4) (N := 23) (i := 1) hM.1.1 rfl (by decide) in_X4 q2192 (.inl rfl) dX4_benchByRent_25 (by rfl) ?_
            refine xr_iconst dX4_benchByRent_28 ?_
            refine xr_iaload hM.1.2.1 (by omega) (by decide) dX4_benchByRent_29 ?_
            refine xr_icmp_ge (tgt := 63) dX4_benchByRent_30 (by decide) (by omega) (fun c30 => ?_) (fun c30 => ?_)
            · skip
              rw [sumR_ge (by omega), Int.add_zero] at hr2
              refine xr_iload_n dX4_benchByRent_63 rfl ?_
              refine xr_iload_n dX4_benchByRent_64 rfl ?_
              refine xr_icmp_ne (tgt := 70) dX4_benchByRent_65 (by decide) (by omega) (fun c65 => ?_) (fun c65 => ?_)
              · skip
                refine xr_iinc (lv' := [some _, some _, some _, some _, some _]) dX4_benchByRent_70 rfl (by decide) rfl rfl ?_
                refine xr_goto (tgt := 7) dX4_benchByRent_73 (by decide) ?_
                refine xr_lv (lvw_s (lvw_s (lvw_s (lvw_n (lvw_n (lvw_nil)))))) ?_
                refine xr_wk (rc' := 0 * fu7 + 0) (rs' := 0 * fu7 + 0) ⟨by omega, by omega⟩ (ih7 (k + 1) (by omega) (by omega) (by omega) (by rw [if_neg (fun q9 => c65 (by have q8 := of_decide_eq_true q9; unfold ahead at q8; omega))] at hr9; exact hr9))
              · skip
                refine xr_iload_n dX4_benchByRent_68 rfl ?_
                refine xr_ireturn rfl rfl dX4_benchByRent_69 ?_
                rw [hpo]
                rw [if_pos (decide_eq_true (show ahead (ordB P) (P 0) k = b by unfold ahead; omega))] at hr9
                exact ⟨k, 0, rfl, hM.2, ⟨_, _, hM.1, updI_eq, hS.to (fun k hk => updI_ne (by omega)) (fun j hj => rfl)⟩, Or.inl ⟨by omega, rfl, hr9⟩⟩
            · skip
              rw [sumR_lt (show j < P 0 by omega)] at hr2
              refine xr_iload_n dX4_benchByRent_33 rfl ?_
              refine xr_iload dX4_benchByRent_34 rfl ?_
              refine xr_iload_n dX4_benchByRent_36 rfl ?_
              refine xr_icmp_eq (tgt := 54) dX4_benchByRent_37 (by decide) (by omega) (fun c37 => ?_) (fun c37 => ?_)
              · skip
                have hej : ordB P j k = false := by rw [c37]; exact decide_eq_false (by omega)
                rw [hej, if_neg (by decide)] at hr2
                refine xr_iconst dX4_benchByRent_54 ?_
                refine xr_iadd dX4_benchByRent_55 ?_
                refine xr_istore_n (lv' := [some _, some _, some _, some _, some _]) dX4_benchByRent_56 (by decide) rfl rfl ?_
                refine xr_iinc (lv' := [some _, some _, some _, some _, some _]) dX4_benchByRent_57 rfl (by decide) rfl rfl ?_
                refine xr_goto (tgt := 22) dX4_benchByRent_60 (by decide) ?_
                refine xr_wk (rc' := 0 * fu7 + 0 * fu22 + 0) (rs' := 0 * fu7 + 0 * fu22 + 0) ⟨by omega, by omega⟩ (ih22 _ (j + 1) (by omega) (by omega) (by omega) (by omega))
              · skip
                refine xr_aload_n dX4_benchByRent_40 rfl (by first | rfl | exact isRef_rf _) ?_
                refine xr_iload dX4_benchByRent_41 rfl ?_
                refine xr_iload_n dX4_benchByRent_43 rfl ?_
                refine xr_callV (n9 := 2) (rc' := 0 * fu7 + 0 * fu22 + 0) (rs' := 0 * fu7 + 0 * fu22 + 0) (k_M_isCheaper hG hM.1 hB (by omega) (by omega)) hM.1.1 rfl q2616 q2618 qs75 q96 q2619 (by decide +kernel) rfl ⟨by decide, Nat.le_of_ble_eq_true rfl⟩ ⟨by omega, by omega⟩ (Nat.le_of_ble_eq_true rfl) dX4_benchByRent_44 rfl (xk_r ?_) (fun _ _ _ h => h.elim)
                show XJ _ _ _ _ _ _ _ _ _ _ _ _ [.int (bI (ordB P j k)), .int (iI s8)]
                refine xr_ifb_eq (tgt := 54) dX4_benchByRent_47 (by decide) (fun c47 => ?_) (fun c47 => ?_)
                · skip
                  try simp only [decide_eq_true_eq, decide_eq_false_iff_not] at c47
                  have hej : ordB P j k = false := by cases h9 : ordB P j k with
                    | false => rfl
                    | true => rw [h9] at c47; exact absurd c47 (by decide)
                  rw [hej, if_neg (by decide)] at hr2
                  refine xr_iconst dX4_benchByRent_54 ?_
                  refine xr_iadd dX4_benchByRent_55 ?_
                  refine xr_istore_n (lv' := [some _, some _, some _, some _, some _]) dX4_benchByRent_56 (by decide) rfl rfl ?_
                  refine xr_iinc (lv' := [some _, some _, some _, some _, some _]) dX4_benchByRent_57 rfl (by decide) rfl rfl ?_
                  refine xr_goto (tgt := 22) dX4_benchByRent_60 (by decide) ?_
                  refine xr_wk (rc' := 0 * fu7 + 0 * fu22 + 0) (rs' := 0 * fu7 + 0 * fu22 + 0) ⟨by omega, by omega⟩ (ih22 _ (j + 1) (by omega) (by omega) (by omega) (by omega))
                · skip
                  try simp only [decide_eq_true_eq, decide_eq_false_iff_not] at c47
                  have hej : ordB P j k = true := by cases h9 : ordB P j k with
                    | true => rfl
                    | false => rw [h9] at c47; cases c47
                  rw [hej, if_pos rfl] at hr2
                  refine xr_iconst dX4_benchByRent_50 ?_
                  refine xr_goto (tgt := 55) dX4_benchByRent_51 (by decide) ?_
                  refine xr_iadd dX4_benchByRent_55 ?_
                  refine xr_istore_n (lv' := [some _, some _, some _, some _, some _]) dX4_benchByRent_56 (by decide) rfl rfl ?_
                  refine xr_iinc (lv' := [some _, some _, some _, some _, some _]) dX4_benchByRent_57 rfl (by decide) rfl rfl ?_
                  refine xr_goto (tgt := 22) dX4_benchByRent_60 (by decide) ?_
                  refine xr_wk (rc' := 0 * fu7 + 0 * fu22 + 0) (rs' := 0 * fu7 + 0 * fu22 + 0) ⟨by omega, by omega⟩ (ih22 _ (j + 1) (by omega) (by omega) (by omega) (by omega))
        refine xr_wk (rc' := 0 * fu7 + 0 * 11 + 0) (rs' := 0 * fu7 + 0 * 11 + 0) ⟨by omega, by omega⟩ (lp22 11 0 0 (by omega) (by omega) (by omega) (by rw [Int.zero_add]))
  refine xr_wk (rc' := 0 * 11 + 0) (rs' := 0 * 11 + 0) ⟨by omega, by omega⟩ (lp7 11 0 (by omega) (by omega) (by omega) rfl)
theorem k_N_tenantByCoins {g : GG} {w : WW} {m : Nat} {A : Int → Nat} {th : Int} {P : Int → Int} {S : Option (Int → Int)} {H : List (Int → Int)} {I O : Tx} {se : Option Int} {rj : Option (Int × Int × Int)} {b N : Int} (hG : Base g) (hX : MR g w m A th P S H I O se rj) (hB : PB P N) (hr : (-2147483648 ≤ b ∧ b < 2147483648)) : Ct g yX4_tenantByCoins (.code yX4_tenantByCoins cX4_tenantByCoins 5 (some .int)) 2 44 0 0 w [.ref m, .int (iI b)] (fun r_ w1 => ∃ y th : Int, r_ = some (.int (iI y)) ∧ Fr (MS m A) w w1 ∧ MR g w1 m A th P S H I O se rj ∧ ((ordR (ordT P) (P 2) b ≠ -1 ∧ th = 0 ∧ y = ordR (ordT P) (P 2) b) ∨ (ordR (ordT P) (P 2) b = -1 ∧ th = 1))) xF := by
  refine Ct.of (lv := [some _, some _, none, none, none]) hG (by decide +kernel) (Nat.le_of_ble_eq_true rfl) rfl ?_
  intro z hg hpo hxp hnm htab
  subst hg
  obtain ⟨F, C, hM, -, hS⟩ := hX
  have hM : MDF (zg z) w w m A F P C := ⟨hM, Fr.rf⟩
  have h68 : 0 ≤ F 6 ∧ F 6 ≤ 8 := by have := hS.1.1; have := hS.1.2.1; omega
  have hgg := hB.g
  refine xr_aload_n dX4_tenantByCoins_0 rfl (by first | rfl | exact isRef_rf _) ?_
  refine xr_iconst dX4_tenantByCoins_1 ?_
  refine xr_putfield (ci := 14) (T := TX4) (N := 23) (i := 0) (fs' := [_, _, _, _, _, _, _, _, _, _, _, _, _, _, _, _, _, _, _, _, _, _, _]) hM.1.1 rfl (by decide) in_X4 tyX4 tyX4_ok nmX4 q2191 (.inl rfl) rfl dX4_tenantByCoins_2 (by rfl) (by rfl) (by simp) (by rfl) (.inl rfl) (fun _ => ?_)
  refine xr_mput (i := 0) hM (by rfl) (fun w2 hM => ?_)
  refine xr_iconst dX4_tenantByCoins_5 ?_
  refine xr_istore_n (lv' := [some _, some _, some _, none, none]) dX4_tenantByCoins_6 (by decide) rfl rfl ?_
  refine xr_lv (lvw_s (lvw_s (lvw_s (lvw_n (lvw_n (lvw_nil)))))) ?_
  have lp7 : ∀ (fu7 : Nat) (k : Int), 0 ≤ k → k ≤ P 2 → P 2 - k < fu7 → fstR (fun a => decide (ahead (ordT P) (P 2) a = b)) k (P 2) = ordR (ordT P) (P 2) b → XJ z yX4_tenantByCoins.cls cX4_tenantByCoins 5 (some .int) 2 44 w2 (0 * fu7 + 0) (0 * fu7 + 0) 7 [some (.ref m), some (.int (iI b)), some (.int (iI k)), none, none] [] := by
    intro fu7
    induction fu7 with
    | zero =>
      intro k hk0 hk1 hfu hr9
      omega
    | succ fu7 ih7 =>
      intro k hk0 hk1 hfu hr9
      refine xr_iload_n dX4_tenantByCoins_7 rfl ?_
      refine xr_aload_n dX4_tenantByCoins_8 rfl (by first | rfl | exact isRef_rf _) ?_
      refine xr_getfield (ci := 14) (T := TX4) (N := 23) (i := 1) hM.1.1 rfl (by decide) in_X4 q2192 (.inl rfl) dX4_tenantByCoins_9 (by rfl) ?_
      refine xr_iconst dX4_tenantByCoins_12 ?_
      refine xr_iaload hM.1.2.1 (by omega) (by decide) dX4_tenantByCoins_13 ?_
      refine xr_icmp_ge (tgt := 76) dX4_tenantByCoins_14 (by decide) (by omega) (fun c14 => ?_) (fun c14 => ?_)
      · skip
        rw [fstR_ge (by omega)] at hr9
        refine xr_aload_n dX4_tenantByCoins_76 rfl (by first | rfl | exact isRef_rf _) ?_
        refine xr_iconst dX4_tenantByCoins_77 ?_
        refine xr_callV (n9 := 1) (rc' := 0 * fu7 + 0) (rs' := 0 * fu7 + 0) (k_M_fails hG hM.1) hM.1.1 rfl q2311 q2313 qs46 q96 q2314 (by decide +kernel) rfl ⟨by decide, Nat.le_of_ble_eq_true rfl⟩ ⟨by omega, by omega⟩ (Nat.le_of_ble_eq_true rfl) dX4_tenantByCoins_78 rfl (fun r w78 hw => ?_) (fun _ _ _ h => h.elim)
        obtain ⟨rfl, hw⟩ := hw
        have hM := hM.tr hw
        refine xr_ireturn rfl rfl dX4_tenantByCoins_81 ?_
        rw [hpo]
        exact ⟨0, 1, rfl, hM.2, ⟨_, _, hM.1, updI_eq, hS.to (fun k hk => by rw [updI_ne (by omega), updI_ne (by omega)]) (fun j hj => rfl)⟩, Or.inr ⟨hr9.symm, rfl⟩⟩
      · skip
        rw [fstR_lt (show k < P 2 by omega)] at hr9
        have hab := sumR_bd (f := fun j => if ordT P j k = true then 1 else 0) (B := 1) (k := 0) (n := P 2) (by decide) (by omega) (fun j _ _ => by split <;> omega)
        refine xr_iconst dX4_tenantByCoins_17 ?_
        refine xr_istore_n (lv' := [some _, some _, some _, some _, none]) dX4_tenantByCoins_18 (by decide) rfl rfl ?_
        refine xr_iconst dX4_tenantByCoins_19 ?_
        refine xr_istore (lv' := [some _, some _, some _, some _, some _]) dX4_tenantByCoins_20 (by decide) rfl rfl ?_
        have lp22 : ∀ (fu22 : Nat) (s8 j : Int), 0 ≤ j → j ≤ P 2 → P 2 - j < fu22 → s8 + sumR (fun j => if ordT P j k = true then 1 else 0) j (P 2) = sumR (fun j => if ordT P j k = true then 1 else 0) 0 (P 2) → XJ z yX4_tenantByCoins.cls cX4_tenantByCoins 5 (some .int) 2 44 w2 (0 * fu7 + 0 * fu22 + 0) (0 * fu7 + 0 * fu22 + 0) 22 [some (.ref m), some (.int (iI b)), some (.int (iI k)), some (.int (iI s8)), some (.int (iI j))] [] := by
          intro fu22
          induction fu22 with
          | zero =>
            intro s8 j hj0 hj1 hfu8 hr2
            omega
          | succ fu22 ih22 =>
            intro s8 j hj0 hj1 hfu8 hr2
            refine xr_iload dX4_tenantByCoins_22 rfl ?_
            refine xr_aload_n dX4_tenantByCoins_24 rfl (by first | rfl | exact isRef_rf _) ?_
            refine xr_getfield (ci := 14) (T := TX4) (N := 23) (i := 1) hM.1.1 rfl (by decide) in_X4 q2192 (.inl rfl) dX4_tenantByCoins_25 (by rfl) ?_
            refine xr_iconst dX4_tenantByCoins_28 ?_
            refine xr_iaload hM.1.2.1 (by omega) (by decide) dX4_tenantByCoins_29 ?_
            refine xr_icmp_ge (tgt := 63) dX4_tenantByCoins_30 (by decide) (by omega) (fun c30 => ?_) (fun c30 => ?_)
            · skip
              rw [sumR_ge (by omega), Int.add_zero] at hr2
              refine xr_iload_n dX4_tenantByCoins_63 rfl ?_
              refine xr_iload_n dX4_tenantByCoins_64 rfl ?_
              refine xr_icmp_ne (tgt := 70) dX4_tenantByCoins_65 (by decide) (by omega) (fun c65 => ?_) (fun c65 => ?_)
              · skip
                refine xr_iinc (lv' := [some _, some _, some _, some _, some _]) dX4_tenantByCoins_70 rfl (by decide) rfl rfl ?_
                refine xr_goto (tgt := 7) dX4_tenantByCoins_73 (by decide) ?_
                refine xr_lv (lvw_s (lvw_s (lvw_s (lvw_n (lvw_n (lvw_nil)))))) ?_
                refine xr_wk (rc' := 0 * fu7 + 0) (rs' := 0 * fu7 + 0) ⟨by omega, by omega⟩ (ih7 (k + 1) (by omega) (by omega) (by omega) (by rw [if_neg (fun q9 => c65 (by have q8 := of_decide_eq_true q9; unfold ahead at q8; omega))] at hr9; exact hr9))
              · skip
                refine xr_iload_n dX4_tenantByCoins_68 rfl ?_
                refine xr_ireturn rfl rfl dX4_tenantByCoins_69 ?_
                rw [hpo]
                rw [if_pos (decide_eq_true (show ahead (ordT P) (P 2) k = b by unfold ahead; omega))] at hr9
                exact ⟨k, 0, rfl, hM.2, ⟨_, _, hM.1, updI_eq, hS.to (fun k hk => updI_ne (by omega)) (fun j hj => rfl)⟩, Or.inl ⟨by omega, rfl, hr9⟩⟩
            · skip
              rw [sumR_lt (show j < P 2 by omega)] at hr2
              refine xr_iload_n dX4_tenantByCoins_33 rfl ?_
              refine xr_iload dX4_tenantByCoins_34 rfl ?_
              refine xr_iload_n dX4_tenantByCoins_36 rfl ?_
              refine xr_icmp_eq (tgt := 54) dX4_tenantByCoins_37 (by decide) (by omega) (fun c37 => ?_) (fun c37 => ?_)
              · skip
                have hej : ordT P j k = false := by rw [c37]; exact decide_eq_false (by omega)
                rw [hej, if_neg (by decide)] at hr2
                refine xr_iconst dX4_tenantByCoins_54 ?_
                refine xr_iadd dX4_tenantByCoins_55 ?_
                refine xr_istore_n (lv' := [some _, some _, some _, some _, some _]) dX4_tenantByCoins_56 (by decide) rfl rfl ?_
                refine xr_iinc (lv' := [some _, some _, some _, some _, some _]) dX4_tenantByCoins_57 rfl (by decide) rfl rfl ?_
                refine xr_goto (tgt := 22) dX4_tenantByCoins_60 (by decide) ?_
                refine xr_wk (rc' := 0 * fu7 + 0 * fu22 + 0) (rs' := 0 * fu7 + 0 * fu22 + 0) ⟨by omega, by omega⟩ (ih22 _ (j + 1) (by omega) (by omega) (by omega) (by omega))
              · skip
                refine xr_aload_n dX4_tenantByCoins_40 rfl (by first | rfl | exact isRef_rf _) ?_
                refine xr_iload dX4_tenantByCoins_41 rfl ?_
                refine xr_iload_n dX4_tenantByCoins_43 rfl ?_
                refine xr_callV (n9 := 2) (rc' := 0 * fu7 + 0 * fu22 + 0) (rs' := 0 * fu7 + 0 * fu22 + 0) (k_M_isRicher hG hM.1 hB (by omega) (by omega)) hM.1.1 rfl q2624 q2626 qs76 q96 q2627 (by decide +kernel) rfl ⟨by decide, Nat.le_of_ble_eq_true rfl⟩ ⟨by omega, by omega⟩ (Nat.le_of_ble_eq_true rfl) dX4_tenantByCoins_44 rfl (xk_r ?_) (fun _ _ _ h => h.elim)
                show XJ _ _ _ _ _ _ _ _ _ _ _ _ [.int (bI (ordT P j k)), .int (iI s8)]
                refine xr_ifb_eq (tgt := 54) dX4_tenantByCoins_47 (by decide) (fun c47 => ?_) (fun c47 => ?_)
                · skip
                  try simp only [decide_eq_true_eq, decide_eq_false_iff_not] at c47
                  have hej : ordT P j k = false := by cases h9 : ordT P j k with
                    | false => rfl
                    | true => rw [h9] at c47; exact absurd c47 (by decide)
                  rw [hej, if_neg (by decide)] at hr2
                  refine xr_iconst dX4_tenantByCoins_54 ?_
                  refine xr_iadd dX4_tenantByCoins_55 ?_
                  refine xr_istore_n (lv' := [some _, some _, some _, some _, some _]) dX4_tenantByCoins_56 (by decide) rfl rfl ?_
                  refine xr_iinc (lv' := [some _, some _, some _, some _, some _]) dX4_tenantByCoins_57 rfl (by decide) rfl rfl ?_
                  refine xr_goto (tgt := 22) dX4_tenantByCoins_60 (by decide) ?_
                  refine xr_wk (rc' := 0 * fu7 + 0 * fu22 + 0) (rs' := 0 * fu7 + 0 * fu22 + 0) ⟨by omega, by omega⟩ (ih22 _ (j + 1) (by omega) (by omega) (by omega) (by omega))
                · skip
                  try simp only [decide_eq_true_eq, decide_eq_false_iff_not] at c47
                  have hej : ordT P j k = true := by cases h9 : ordT P j k with
                    | true => rfl
                    | false => rw [h9] at c47; cases c47
                  rw [hej, if_pos rfl] at hr2
                  refine xr_iconst dX4_tenantByCoins_50 ?_
                  refine xr_goto (tgt := 55) dX4_tenantByCoins_51 (by decide) ?_
                  refine xr_iadd dX4_tenantByCoins_55 ?_
                  refine xr_istore_n (lv' := [some _, some _, some _, some _, some _]) dX4_tenantByCoins_56 (by decide) rfl rfl ?_
                  refine xr_iinc (lv' := [some _, some _, some _, some _, some _]) dX4_tenantByCoins_57 rfl (by decide) rfl rfl ?_
                  refine xr_goto (tgt := 22) dX4_tenantByCoins_60 (by decide) ?_
                  refine xr_wk (rc' := 0 * fu7 + 0 * fu22 + 0) (rs' := 0 * fu7 + 0 * fu22 + 0) ⟨by omega, by omega⟩ (ih22 _ (j + 1) (by omega) (by omega) (by omega) (by omega))
        refine xr_wk (rc' := 0 * fu7 + 0 * 11 + 0) (rs' := 0 * fu7 + 0 * 11 + 0) ⟨by omega, by omega⟩ (lp22 11 0 0 (by omega) (by omega) (by omega) (by rw [Int.zero_add]))
  refine xr_wk (rc' := 0 * 11 + 0) (rs' := 0 * 11 + 0) ⟨by omega, by omega⟩ (lp7 11 0 (by omega) (by omega) (by omega) rfl)
