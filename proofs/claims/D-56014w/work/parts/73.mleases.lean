/-! 73.mleases.lean.txt (written by tools/walker.py)  -/
set_option maxRecDepth 100000
theorem k_M_frees {g : GG} {w : WW} {m : Nat} {A : Int → Nat} {F P : Int → Int} {C : Int → Int → Int} {b v : Int} (hG : Base g) (hM : MD g w m A F P C) (hb : 0 ≤ b ∧ b < 10) (ht : 1 ≤ P (13 + 6 * b) ∧ P (13 + 6 * b) ≤ 8) : Ct g yX4_frees (.code yX4_frees cX4_frees 3 none) 2 43 0 0 w [.ref m, .int (iI b), .int (iI v)] (fun r_ w1 => r_ = none ∧ MDF g w w1 m A (F) (oFree P b v) (C)) xF := by
  refine Ct.of (lv := [some _, some _, some _]) hG (by decide +kernel) (Nat.le_of_ble_eq_true rfl) rfl ?_
  intro z hg hpo hxp hnm htab
  subst hg
  have hM : MDF (zg z) w w m A F P C := ⟨hM, Fr.rf⟩
  refine xr_aload_n dX4_frees_0 rfl (by first | rfl | exact isRef_rf _) ?_
  refine xr_getfield (ci := 14) (T := TX4) (N := 23) (i := 1) hM.1.1 rfl (by decide) in_X4 q2192 (.inl rfl) dX4_frees_1 (by rfl) ?_
  refine xr_bipush dX4_frees_4 (by decide) ?_
  refine xr_iconst dX4_frees_6 ?_
  refine xr_aload_n dX4_frees_7 rfl (by first | rfl | exact isRef_rf _) ?_
  refine xr_iload_n dX4_frees_8 rfl ?_
  refine xr_callV (n9 := 1) (rc' := 0) (rs' := 0) (k_M_by hG hM.1 (by omega)) hM.1.1 rfl q2487 q2489 qs65 q96 q2490 (by decide +kernel) rfl ⟨by decide, Nat.le_of_ble_eq_true rfl⟩ ⟨Nat.le_of_ble_eq_true rfl, Nat.le_of_ble_eq_true rfl⟩ (Nat.le_of_ble_eq_true rfl) dX4_frees_9 rfl (xk_r ?_) (fun _ _ _ h => h.elim)
  refine xr_imul dX4_frees_12 ?_
  refine xr_iadd dX4_frees_13 ?_
  refine xr_iconst dX4_frees_14 ?_
  refine xr_iadd dX4_frees_15 ?_
  refine xr_dup2 dX4_frees_16 (by first | rfl | exact cat_rf _) (by first | rfl | exact cat_rf _) ?_
  refine xr_iaload hM.1.2.1 (by omega) (by decide) dX4_frees_17 ?_
  refine xr_iload_n dX4_frees_18 rfl ?_
  refine xr_iadd dX4_frees_19 ?_
  refine xr_mstS hM (by omega) dX4_frees_20 (fun w20 hM => ?_)
  refine xr_aload_n dX4_frees_21 rfl (by first | rfl | exact isRef_rf _) ?_
  refine xr_getfield (ci := 14) (T := TX4) (N := 23) (i := 1) hM.1.1 rfl (by decide) in_X4 q2192 (.inl rfl) dX4_frees_22 (by rfl) ?_
  refine xr_iconst dX4_frees_25 ?_
  refine xr_dup2 dX4_frees_26 (by first | rfl | exact cat_rf _) (by first | rfl | exact cat_rf _) ?_
  refine xr_iaload hM.1.2.1 (by omega) (by decide) dX4_frees_27 ?_
  refine xr_aload_n dX4_frees_28 rfl (by first | rfl | exact isRef_rf _) ?_
  refine xr_iload_n dX4_frees_29 rfl ?_
  refine xr_iconst dX4_frees_30 ?_
  refine xr_callV (n9 := 2) (rc' := 0) (rs' := 0) (k_M_bench_4 hG hM.1 (by omega)) hM.1.1 rfl q2291 q2293 qs41 q96 q2294 (by decide +kernel) rfl ⟨by decide, Nat.le_of_ble_eq_true rfl⟩ ⟨Nat.le_of_ble_eq_true rfl, Nat.le_of_ble_eq_true rfl⟩ (Nat.le_of_ble_eq_true rfl) dX4_frees_31 rfl (xk_r ?_) (fun _ _ _ h => h.elim)
  refine xr_iload_n dX4_frees_34 rfl ?_
  refine xr_isub dX4_frees_35 ?_
  refine xr_iadd dX4_frees_36 ?_
  refine xr_mstS hM (by omega) dX4_frees_37 (fun w37 hM => ?_)
  refine xr_aload_n dX4_frees_38 rfl (by first | rfl | exact isRef_rf _) ?_
  refine xr_getfield (ci := 14) (T := TX4) (N := 23) (i := 1) hM.1.1 rfl (by decide) in_X4 q2192 (.inl rfl) dX4_frees_39 (by rfl) ?_
  refine xr_bipush dX4_frees_42 (by decide) ?_
  refine xr_bipush dX4_frees_44 (by decide) ?_
  refine xr_iload_n dX4_frees_46 rfl ?_
  refine xr_imul dX4_frees_47 ?_
  refine xr_iadd dX4_frees_48 ?_
  refine xr_iconst dX4_frees_49 ?_
  refine xr_iadd dX4_frees_50 ?_
  refine xr_iconst dX4_frees_51 ?_
  refine xr_mstS hM (by omega) dX4_frees_52 (fun w52 hM => ?_)
  refine xr_aload_n dX4_frees_53 rfl (by first | rfl | exact isRef_rf _) ?_
  refine xr_getfield (ci := 14) (T := TX4) (N := 23) (i := 1) hM.1.1 rfl (by decide) in_X4 q2192 (.inl rfl) dX4_frees_54 (by rfl) ?_
  refine xr_bipush dX4_frees_57 (by decide) ?_
  refine xr_bipush dX4_frees_59 (by decide) ?_
  refine xr_iload_n dX4_frees_61 rfl ?_
  refine xr_imul dX4_frees_62 ?_
  refine xr_iadd dX4_frees_63 ?_
  refine xr_iconst dX4_frees_64 ?_
  refine xr_iadd dX4_frees_65 ?_
  refine xr_iconst dX4_frees_66 ?_
  refine xr_mstS hM (by omega) dX4_frees_67 (fun w67 hM => ?_)
  refine xr_aload_n dX4_frees_68 rfl (by first | rfl | exact isRef_rf _) ?_
  refine xr_getfield (ci := 14) (T := TX4) (N := 23) (i := 1) hM.1.1 rfl (by decide) in_X4 q2192 (.inl rfl) dX4_frees_69 (by rfl) ?_
  refine xr_bipush dX4_frees_72 (by decide) ?_
  refine xr_bipush dX4_frees_74 (by decide) ?_
  refine xr_iload_n dX4_frees_76 rfl ?_
  refine xr_imul dX4_frees_77 ?_
  refine xr_iadd dX4_frees_78 ?_
  refine xr_iconst dX4_frees_79 ?_
  refine xr_iadd dX4_frees_80 ?_
  refine xr_iconst dX4_frees_81 ?_
  refine xr_mstS hM (by omega) dX4_frees_82 (fun w82 hM => ?_)
  refine xr_return rfl dX4_frees_83 ?_
  rw [hpo]
  exact ⟨rfl, hM.toP (fun k h0 h1 => by
    simp only [oFree, oEnd, updI, Int.add_zero]
    repeat' split
    all_goals first | rfl | omega)⟩
theorem barred_bd {P : Int → Int} {t b : Int} : 0 ≤ (barred P t b).1 ∧ (barred P t b).1 ≤ 9 := by
  unfold barred
  repeat' split
  all_goals simp
/-- what rents and noise look at -/
theorem noise_cg {P Q : Int → Int} {r c : Int} (h1 : Q 1 = P 1) (h : ∀ k : Int, 70 ≤ k → k < 70 + 4 * P 1 → Q k = P k) : noise Q r c = noise P r c := by
  unfold noise
  rw [h1]
  refine sumR_congr (fun f h0 h2 => ?_)
  simp only [nz1]
  rw [h _ (by omega) (by omega), h _ (by omega) (by omega), h _ (by omega) (by omega), h _ (by omega) (by omega)]
theorem rent_cg {P Q : Int → Int} {b : Int} (h1 : Q 1 = P 1) (h : ∀ k : Int, 70 ≤ k → k < 70 + 4 * P 1 → Q k = P k) (hr : Q (10 + 6 * b) = P (10 + 6 * b)) (hc : Q (11 + 6 * b) = P (11 + 6 * b)) (hb : Q (12 + 6 * b) = P (12 + 6 * b)) : rent Q b = rent P b ∧ noiseOf Q b = noiseOf P b := by
  unfold rent noiseOf
  rw [hr, hc, hb, noise_cg h1 h]
  exact ⟨rfl, rfl⟩
theorem k_M_endsLease {g : GG} {w : WW} {m : Nat} {A : Int → Nat} {F P : Int → Int} {C : Int → Int → Int} {b N : Int} (hG : Base g) (hM : MD g w m A F P C) (hB : PB P N)  (hr : (-2147483648 ≤ b ∧ b < 2147483648)) : Ct g yX4_endsLease (.code yX4_endsLease cX4_endsLease 3 (some .int)) 3 65 0 0 w [.ref m, .int (iI b)] (fun r_ w1 => ∃ (r : Int) (F1 P1 : Int → Int), r_ = some (.int (iI r)) ∧ MDF g w w1 m A F1 P1 C ∧ MA (0 ≤ b ∧ b < P 0) (True) (rjEnd P b) ((P (14 + 6 * b)).tdiv 2) P (oFree P b ((P (14 + 6 * b)).tdiv 2)) F r F1 P1) xF := by
  refine Ct.of (lv := [some _, some _, none]) hG (by decide +kernel) (Nat.le_of_ble_eq_true rfl) rfl ?_
  intro z hg hpo hxp hnm htab
  subst hg
  have hM : MDF (zg z) w w m A F P C := ⟨hM, Fr.rf⟩
  have hgg := hB.g
  refine xr_aload_n dX4_endsLease_0 rfl (by first | rfl | exact isRef_rf _) ?_
  refine xr_iload_n dX4_endsLease_1 rfl ?_
  refine xr_callV (n9 := 1) (rc' := 0) (rs' := 0) (k_M_isBench hG hM.1 hB (by omega)) hM.1.1 rfl q2323 q2325 qs48 q96 q2326 (by decide +kernel) rfl ⟨by decide, Nat.le_of_ble_eq_true rfl⟩ ⟨Nat.le_of_ble_eq_true rfl, Nat.le_of_ble_eq_true rfl⟩ (Nat.le_of_ble_eq_true rfl) dX4_endsLease_2 rfl (xk_r ?_) (fun _ _ _ h => h.elim)
  refine xr_ifb_ne (tgt := 10) dX4_endsLease_5 (by decide) (fun c5 => ?_) (fun c5 => ?_)
  · skip
    try simp only [decide_eq_true_eq, decide_eq_false_iff_not] at c5
    have hbb := hB.b (b := b) (by omega)
    refine xr_aload_n dX4_endsLease_10 rfl (by first | rfl | exact isRef_rf _) ?_
    refine xr_iload_n dX4_endsLease_11 rfl ?_
    refine xr_callV (n9 := 1) (rc' := 0) (rs' := 0) (k_M_by hG hM.1 (by omega)) hM.1.1 rfl q2487 q2489 qs65 q96 q2490 (by decide +kernel) rfl ⟨by decide, Nat.le_of_ble_eq_true rfl⟩ ⟨Nat.le_of_ble_eq_true rfl, Nat.le_of_ble_eq_true rfl⟩ (Nat.le_of_ble_eq_true rfl) dX4_endsLease_12 rfl (xk_r ?_) (fun _ _ _ h => h.elim)
    refine xr_iconst dX4_endsLease_15 ?_
    refine xr_icmp_ne (tgt := 27) dX4_endsLease_16 (by decide) (by omega) (fun c16 => ?_) (fun c16 => ?_)
    · skip
      refine xr_aload_n dX4_endsLease_27 rfl (by first | rfl | exact isRef_rf _) ?_
      refine xr_iload_n dX4_endsLease_28 rfl ?_
      refine xr_iconst dX4_endsLease_29 ?_
      refine xr_callV (n9 := 2) (rc' := 0) (rs' := 0) (k_M_bench_4 hG hM.1 (by omega)) hM.1.1 rfl q2291 q2293 qs41 q96 q2294 (by decide +kernel) rfl ⟨by decide, Nat.le_of_ble_eq_true rfl⟩ ⟨Nat.le_of_ble_eq_true rfl, Nat.le_of_ble_eq_true rfl⟩ (Nat.le_of_ble_eq_true rfl) dX4_endsLease_30 rfl (xk_r ?_) (fun _ _ _ h => h.elim)
      refine xr_iconst dX4_endsLease_33 ?_
      refine xr_idiv dX4_endsLease_34 (by omega) (by omega) ?_
      refine xr_istore_n (lv' := [some _, some _, some _]) dX4_endsLease_35 (by decide) rfl rfl ?_
      refine xr_aload_n dX4_endsLease_36 rfl (by first | rfl | exact isRef_rf _) ?_
      refine xr_iload_n dX4_endsLease_37 rfl ?_
      refine xr_iload_n dX4_endsLease_38 rfl ?_
      refine xr_callV (n9 := 2) (rc' := 0) (rs' := 0) (k_M_frees hG hM.1 (by omega) (by omega)) hM.1.1 rfl q2519 q2521 qs69 q96 q2522 (by decide +kernel) rfl ⟨by decide, Nat.le_of_ble_eq_true rfl⟩ ⟨Nat.le_of_ble_eq_true rfl, Nat.le_of_ble_eq_true rfl⟩ (Nat.le_of_ble_eq_true rfl) dX4_endsLease_39 rfl (fun r w39 hw => ?_) (fun _ _ _ h => h.elim)
      obtain ⟨rfl, hw⟩ := hw
      have hM := hM.tr hw
      refine xr_aload_n dX4_endsLease_42 rfl (by first | rfl | exact isRef_rf _) ?_
      refine xr_iload_n dX4_endsLease_43 rfl ?_
      refine xr_callV (n9 := 1) (rc' := 0) (rs' := 0) (k_M_done hG hM.1) hM.1.1 rfl q2299 q2301 qs43 q96 q2302 (by decide +kernel) rfl ⟨by decide, Nat.le_of_ble_eq_true rfl⟩ ⟨Nat.le_of_ble_eq_true rfl, Nat.le_of_ble_eq_true rfl⟩ (Nat.le_of_ble_eq_true rfl) dX4_endsLease_44 rfl (fun r w44 hw => ?_) (fun _ _ _ h => h.elim)
      obtain ⟨rfl, hw⟩ := hw
      have hM := hM.tr hw
      refine xr_ireturn rfl rfl dX4_endsLease_47 ?_
      rw [hpo]
      exact ⟨0, _, oFree P b ((P (14 + 6 * b)).tdiv 2), rfl, hM, Or.inr (Or.inr (Or.inr ⟨by omega, trivial, by rw [show rjEnd P b = (0, 0) by unfold rjEnd; rw [if_neg (by omega)]], rfl, rfl, rfl⟩))⟩
    · skip
      refine xr_aload_n dX4_endsLease_19 rfl (by first | rfl | exact isRef_rf _) ?_
      refine xr_bipush dX4_endsLease_20 (by decide) ?_
      refine xr_iload_n dX4_endsLease_22 rfl ?_
      refine xr_callV (n9 := 2) (rc' := 0) (rs' := 0) (k_M_rejected hG hM.1) hM.1.1 rfl q2283 q2285 qs39 q96 q2286 (by decide +kernel) rfl ⟨by decide, Nat.le_of_ble_eq_true rfl⟩ ⟨Nat.le_of_ble_eq_true rfl, Nat.le_of_ble_eq_true rfl⟩ (Nat.le_of_ble_eq_true rfl) dX4_endsLease_23 rfl (fun r w23 hw => ?_) (fun _ _ _ h => h.elim)
      obtain ⟨rfl, hw⟩ := hw
      have hM := hM.tr hw
      refine xr_ireturn rfl rfl dX4_endsLease_26 ?_
      rw [hpo]
      have e9 : rjEnd P b = (10, b) := by unfold rjEnd; rw [if_pos (by omega)]
      exact ⟨10, _, P, rfl, hM, Or.inr (Or.inr (Or.inl ⟨by omega, by first | trivial | omega, by rw [e9]; show (10 : Int) ≠ 0; decide, by rw [e9], by rw [e9], rfl⟩))⟩
  · skip
    try simp only [decide_eq_true_eq, decide_eq_false_iff_not] at c5
    refine xr_iconst dX4_endsLease_8 ?_
    refine xr_ireturn rfl rfl dX4_endsLease_9 ?_
    rw [hpo]
    exact ⟨-1, F, P, rfl, hM, Or.inl ⟨by omega, rfl, rfl, rfl⟩⟩
theorem k_M_renews {g : GG} {w : WW} {m : Nat} {A : Int → Nat} {F P : Int → Int} {C : Int → Int → Int} {b v N : Int} (hG : Base g) (hM : MD g w m A F P C) (hB : PB P N)  (hr : (-2147483648 ≤ b ∧ b < 2147483648) ∧ (-2147483648 ≤ v ∧ v < 2147483648)) : Ct g yX4_renews (.code yX4_renews cX4_renews 3 (some .int)) 2 43 0 0 w [.ref m, .int (iI b), .int (iI v)] (fun r_ w1 => ∃ (r : Int) (F1 P1 : Int → Int), r_ = some (.int (iI r)) ∧ MDF g w w1 m A F1 P1 C ∧ MA (0 ≤ b ∧ b < P 0) (1 ≤ v ∧ v ≤ 12) (rjRenew P b v) (P (15 + 6 * b) + v) P (oRenew P b v) F r F1 P1) xF := by
  refine Ct.of (lv := [some _, some _, some _]) hG (by decide +kernel) (Nat.le_of_ble_eq_true rfl) rfl ?_
  intro z hg hpo hxp hnm htab
  subst hg
  have hM : MDF (zg z) w w m A F P C := ⟨hM, Fr.rf⟩
  have hgg := hB.g
  refine xr_aload_n dX4_renews_0 rfl (by first | rfl | exact isRef_rf _) ?_
  refine xr_iload_n dX4_renews_1 rfl ?_
  refine xr_callV (n9 := 1) (rc' := 0) (rs' := 0) (k_M_isBench hG hM.1 hB (by omega)) hM.1.1 rfl q2323 q2325 qs48 q96 q2326 (by decide +kernel) rfl ⟨by decide, Nat.le_of_ble_eq_true rfl⟩ ⟨Nat.le_of_ble_eq_true rfl, Nat.le_of_ble_eq_true rfl⟩ (Nat.le_of_ble_eq_true rfl) dX4_renews_2 rfl (xk_r ?_) (fun _ _ _ h => h.elim)
  refine xr_ifb_ne (tgt := 10) dX4_renews_5 (by decide) (fun c5 => ?_) (fun c5 => ?_)
  · skip
    try simp only [decide_eq_true_eq, decide_eq_false_iff_not] at c5
    refine xr_iload_n dX4_renews_10 rfl ?_
    refine xr_iconst dX4_renews_11 ?_
    refine xr_bipush dX4_renews_12 (by decide) ?_
    refine xr_callS (n9 := 3) (rc' := 0) (rs' := 0) (k_M_in hG (by omega)) q2280 q2281 q96 q2282 (by decide +kernel) rfl ⟨by decide, Nat.le_of_ble_eq_true rfl⟩ ⟨Nat.le_of_ble_eq_true rfl, Nat.le_of_ble_eq_true rfl⟩ (Nat.le_of_ble_eq_true rfl) dX4_renews_14 rfl (xk_r ?_) (fun _ _ _ h => h.elim)
    refine xr_ifb_ne (tgt := 23) dX4_renews_17 (by decide) (fun c17 => ?_) (fun c17 => ?_)
    · skip
      try simp only [decide_eq_true_eq, decide_eq_false_iff_not] at c17
      have hbb := hB.b (b := b) (by omega)
      refine xr_aload_n dX4_renews_23 rfl (by first | rfl | exact isRef_rf _) ?_
      refine xr_iload_n dX4_renews_24 rfl ?_
      refine xr_callV (n9 := 1) (rc' := 0) (rs' := 0) (k_M_by hG hM.1 (by omega)) hM.1.1 rfl q2487 q2489 qs65 q96 q2490 (by decide +kernel) rfl ⟨by decide, Nat.le_of_ble_eq_true rfl⟩ ⟨Nat.le_of_ble_eq_true rfl, Nat.le_of_ble_eq_true rfl⟩ (Nat.le_of_ble_eq_true rfl) dX4_renews_25 rfl (xk_r ?_) (fun _ _ _ h => h.elim)
      refine xr_iconst dX4_renews_28 ?_
      refine xr_icmp_ne (tgt := 40) dX4_renews_29 (by decide) (by omega) (fun c29 => ?_) (fun c29 => ?_)
      · skip
        refine xr_aload_n dX4_renews_40 rfl (by first | rfl | exact isRef_rf _) ?_
        refine xr_iload_n dX4_renews_41 rfl ?_
        refine xr_iconst dX4_renews_42 ?_
        refine xr_callV (n9 := 2) (rc' := 0) (rs' := 0) (k_M_bench_5 hG hM.1 (by omega)) hM.1.1 rfl q2291 q2293 qs41 q96 q2294 (by decide +kernel) rfl ⟨by decide, Nat.le_of_ble_eq_true rfl⟩ ⟨Nat.le_of_ble_eq_true rfl, Nat.le_of_ble_eq_true rfl⟩ (Nat.le_of_ble_eq_true rfl) dX4_renews_43 rfl (xk_r ?_) (fun _ _ _ h => h.elim)
        refine xr_iload_n dX4_renews_46 rfl ?_
        refine xr_iadd dX4_renews_47 ?_
        refine xr_bipush dX4_renews_48 (by decide) ?_
        refine xr_icmp_le (tgt := 66) dX4_renews_50 (by decide) (by omega) (fun c50 => ?_) (fun c50 => ?_)
        · skip
          refine xr_aload_n dX4_renews_66 rfl (by first | rfl | exact isRef_rf _) ?_
          refine xr_getfield (ci := 14) (T := TX4) (N := 23) (i := 1) hM.1.1 rfl (by decide) in_X4 q2192 (.inl rfl) dX4_renews_67 (by rfl) ?_
          refine xr_bipush dX4_renews_70 (by decide) ?_
          refine xr_bipush dX4_renews_72 (by decide) ?_
          refine xr_iload_n dX4_renews_74 rfl ?_
          refine xr_imul dX4_renews_75 ?_
          refine xr_iadd dX4_renews_76 ?_
          refine xr_iconst dX4_renews_77 ?_
          refine xr_iadd dX4_renews_78 ?_
          refine xr_dup2 dX4_renews_79 (by first | rfl | exact cat_rf _) (by first | rfl | exact cat_rf _) ?_
          refine xr_iaload hM.1.2.1 (by omega) (by decide) dX4_renews_80 ?_
          refine xr_iload_n dX4_renews_81 rfl ?_
          refine xr_iadd dX4_renews_82 ?_
          refine xr_mstS hM (by omega) dX4_renews_83 (fun w83 hM => ?_)
          refine xr_aload_n dX4_renews_84 rfl (by first | rfl | exact isRef_rf _) ?_
          refine xr_aload_n dX4_renews_85 rfl (by first | rfl | exact isRef_rf _) ?_
          refine xr_iload_n dX4_renews_86 rfl ?_
          refine xr_iconst dX4_renews_87 ?_
          refine xr_callV (n9 := 2) (rc' := 0) (rs' := 0) (k_M_bench_5 hG hM.1 (by omega)) hM.1.1 rfl q2291 q2293 qs41 q96 q2294 (by decide +kernel) rfl ⟨by decide, Nat.le_of_ble_eq_true rfl⟩ ⟨Nat.le_of_ble_eq_true rfl, Nat.le_of_ble_eq_true rfl⟩ (Nat.le_of_ble_eq_true rfl) dX4_renews_88 rfl (xk_r ?_) (fun _ _ _ h => h.elim)
          refine xr_callV (n9 := 1) (rc' := 0) (rs' := 0) (k_M_done hG hM.1) hM.1.1 rfl q2299 q2301 qs43 q96 q2302 (by decide +kernel) rfl ⟨by decide, Nat.le_of_ble_eq_true rfl⟩ ⟨Nat.le_of_ble_eq_true rfl, Nat.le_of_ble_eq_true rfl⟩ (Nat.le_of_ble_eq_true rfl) dX4_renews_91 rfl (fun r w91 hw => ?_) (fun _ _ _ h => h.elim)
          obtain ⟨rfl, hw⟩ := hw
          have hM := hM.tr hw
          refine xr_ireturn rfl rfl dX4_renews_94 ?_
          rw [hpo]
          have e15 : (10 + 6 * b + 5 : Int) = 15 + 6 * b := by omega
          rw [e15] at hM
          exact ⟨0, _, oRenew P b v, rfl, hM.toP (fun k h0 h1 => by
            simp only [oRenew, updI, Int.add_zero]
            repeat' split
            all_goals first | rfl | omega), Or.inr (Or.inr (Or.inr ⟨by omega, by first | trivial | omega, by rw [show rjRenew P b v = (0, 0) by unfold rjRenew; rw [if_neg (by omega), if_neg (by omega)]], rfl, by rw [updI_eq], rfl⟩))⟩
        · skip
          refine xr_aload_n dX4_renews_53 rfl (by first | rfl | exact isRef_rf _) ?_
          refine xr_bipush dX4_renews_54 (by decide) ?_
          refine xr_aload_n dX4_renews_56 rfl (by first | rfl | exact isRef_rf _) ?_
          refine xr_iload_n dX4_renews_57 rfl ?_
          refine xr_iconst dX4_renews_58 ?_
          refine xr_callV (n9 := 2) (rc' := 0) (rs' := 0) (k_M_bench_5 hG hM.1 (by omega)) hM.1.1 rfl q2291 q2293 qs41 q96 q2294 (by decide +kernel) rfl ⟨by decide, Nat.le_of_ble_eq_true rfl⟩ ⟨Nat.le_of_ble_eq_true rfl, Nat.le_of_ble_eq_true rfl⟩ (Nat.le_of_ble_eq_true rfl) dX4_renews_59 rfl (xk_r ?_) (fun _ _ _ h => h.elim)
          refine xr_callV (n9 := 2) (rc' := 0) (rs' := 0) (k_M_rejected hG hM.1) hM.1.1 rfl q2283 q2285 qs39 q96 q2286 (by decide +kernel) rfl ⟨by decide, Nat.le_of_ble_eq_true rfl⟩ ⟨Nat.le_of_ble_eq_true rfl, Nat.le_of_ble_eq_true rfl⟩ (Nat.le_of_ble_eq_true rfl) dX4_renews_62 rfl (fun r w62 hw => ?_) (fun _ _ _ h => h.elim)
          obtain ⟨rfl, hw⟩ := hw
          have hM := hM.tr hw
          refine xr_ireturn rfl rfl dX4_renews_65 ?_
          rw [hpo]
          have e9 : rjRenew P b v = (11, P (15 + 6 * b)) := by unfold rjRenew; rw [if_neg (by omega), if_pos (by omega)]
          exact ⟨11, _, P, rfl, hM, Or.inr (Or.inr (Or.inl ⟨by omega, by first | trivial | omega, by rw [e9]; show (11 : Int) ≠ 0; decide, by rw [e9], by rw [e9], rfl⟩))⟩
      · skip
        refine xr_aload_n dX4_renews_32 rfl (by first | rfl | exact isRef_rf _) ?_
        refine xr_bipush dX4_renews_33 (by decide) ?_
        refine xr_iload_n dX4_renews_35 rfl ?_
        refine xr_callV (n9 := 2) (rc' := 0) (rs' := 0) (k_M_rejected hG hM.1) hM.1.1 rfl q2283 q2285 qs39 q96 q2286 (by decide +kernel) rfl ⟨by decide, Nat.le_of_ble_eq_true rfl⟩ ⟨Nat.le_of_ble_eq_true rfl, Nat.le_of_ble_eq_true rfl⟩ (Nat.le_of_ble_eq_true rfl) dX4_renews_36 rfl (fun r w36 hw => ?_) (fun _ _ _ h => h.elim)
        obtain ⟨rfl, hw⟩ := hw
        have hM := hM.tr hw
        refine xr_ireturn rfl rfl dX4_renews_39 ?_
        rw [hpo]
        have e9 : rjRenew P b v = (10, b) := by unfold rjRenew; rw [if_pos (by omega)]
        exact ⟨10, _, P, rfl, hM, Or.inr (Or.inr (Or.inl ⟨by omega, by first | trivial | omega, by rw [e9]; show (10 : Int) ≠ 0; decide, by rw [e9], by rw [e9], rfl⟩))⟩
    · skip
      try simp only [decide_eq_true_eq, decide_eq_false_iff_not] at c17
      refine xr_bipush dX4_renews_20 (by decide) ?_
      refine xr_ireturn rfl rfl dX4_renews_22 ?_
      rw [hpo]
      exact ⟨-2, F, P, rfl, hM, Or.inr (Or.inl ⟨by omega, by omega, rfl, rfl, rfl⟩)⟩
  · skip
    try simp only [decide_eq_true_eq, decide_eq_false_iff_not] at c5
    refine xr_iconst dX4_renews_8 ?_
    refine xr_ireturn rfl rfl dX4_renews_9 ?_
    rw [hpo]
    exact ⟨-1, F, P, rfl, hM, Or.inl ⟨by omega, rfl, rfl, rfl⟩⟩
theorem k_M_leases {g : GG} {w : WW} {m : Nat} {A : Int → Nat} {F P : Int → Int} {C : Int → Int → Int} {t b v N : Int} (hG : Base g) (hM : MD g w m A F P C) (hB : PB P N) (hC : PCon P) (hr : (-2147483648 ≤ t ∧ t < 2147483648) ∧ (-2147483648 ≤ b ∧ b < 2147483648) ∧ (-2147483648 ≤ v ∧ v < 2147483648)) : Ct g yX4_leases (.code yX4_leases cX4_leases 6 (some .int)) 5 113 0 0 w [.ref m, .int (iI t), .int (iI b), .int (iI v)] (fun r_ w1 => ∃ (r : Int) (F1 P1 : Int → Int), r_ = some (.int (iI r)) ∧ MDF g w w1 m A F1 P1 C ∧ MA ((0 ≤ t ∧ t < P 2) ∧ (0 ≤ b ∧ b < P 0)) (1 ≤ v ∧ v ≤ 12) (barred P t b) (rent P b) P (oLease P t b v) F r F1 P1) xF := by
  refine Ct.of (lv := [some _, some _, some _, some _, none, none]) hG (by decide +kernel) (Nat.le_of_ble_eq_true rfl) rfl ?_
  intro z hg hpo hxp hnm htab
  subst hg
  have hM : MDF (zg z) w w m A F P C := ⟨hM, Fr.rf⟩
  have hgg := hB.g
  refine xr_aload_n dX4_leases_0 rfl (by first | rfl | exact isRef_rf _) ?_
  refine xr_iload_n dX4_leases_1 rfl ?_
  refine xr_callV (n9 := 1) (rc' := 0) (rs' := 0) (k_M_isTenant hG hM.1 hB (by omega)) hM.1.1 rfl q2455 q2457 qs61 q96 q2458 (by decide +kernel) rfl ⟨by decide, Nat.le_of_ble_eq_true rfl⟩ ⟨Nat.le_of_ble_eq_true rfl, Nat.le_of_ble_eq_true rfl⟩ (Nat.le_of_ble_eq_true rfl) dX4_leases_2 rfl (xk_r ?_) (fun _ _ _ h => h.elim)
  refine xr_ifb_eq (tgt := 16) dX4_leases_5 (by decide) (fun c5 => ?_) (fun c5 => ?_)
  · skip
    try simp only [decide_eq_true_eq, decide_eq_false_iff_not] at c5
    refine xr_iconst dX4_leases_16 ?_
    refine xr_ireturn rfl rfl dX4_leases_17 ?_
    rw [hpo]
    exact ⟨-1, F, P, rfl, hM, Or.inl ⟨by omega, rfl, rfl, rfl⟩⟩
  · skip
    try simp only [decide_eq_true_eq, decide_eq_false_iff_not] at c5
    refine xr_aload_n dX4_leases_8 rfl (by first | rfl | exact isRef_rf _) ?_
    refine xr_iload_n dX4_leases_9 rfl ?_
    refine xr_callV (n9 := 1) (rc' := 0) (rs' := 0) (k_M_isBench hG hM.1 hB (by omega)) hM.1.1 rfl q2323 q2325 qs48 q96 q2326 (by decide +kernel) rfl ⟨by decide, Nat.le_of_ble_eq_true rfl⟩ ⟨Nat.le_of_ble_eq_true rfl, Nat.le_of_ble_eq_true rfl⟩ (Nat.le_of_ble_eq_true rfl) dX4_leases_10 rfl (xk_r ?_) (fun _ _ _ h => h.elim)
    refine xr_ifb_ne (tgt := 18) dX4_leases_13 (by decide) (fun c13 => ?_) (fun c13 => ?_)
    · skip
      try simp only [decide_eq_true_eq, decide_eq_false_iff_not] at c13
      refine xr_iload_n dX4_leases_18 rfl ?_
      refine xr_iconst dX4_leases_19 ?_
      refine xr_bipush dX4_leases_20 (by decide) ?_
      refine xr_callS (n9 := 3) (rc' := 0) (rs' := 0) (k_M_in hG (by omega)) q2280 q2281 q96 q2282 (by decide +kernel) rfl ⟨by decide, Nat.le_of_ble_eq_true rfl⟩ ⟨Nat.le_of_ble_eq_true rfl, Nat.le_of_ble_eq_true rfl⟩ (Nat.le_of_ble_eq_true rfl) dX4_leases_22 rfl (xk_r ?_) (fun _ _ _ h => h.elim)
      refine xr_ifb_ne (tgt := 31) dX4_leases_25 (by decide) (fun c25 => ?_) (fun c25 => ?_)
      · skip
        try simp only [decide_eq_true_eq, decide_eq_false_iff_not] at c25
        have hba := barred_bd (P := P) (t := t) (b := b)
        have hbb := hB.b (b := b) (by omega)
        have htt := hB.t (t := t) (by omega)
        refine xr_aload_n dX4_leases_31 rfl (by first | rfl | exact isRef_rf _) ?_
        refine xr_iload_n dX4_leases_32 rfl ?_
        refine xr_iload_n dX4_leases_33 rfl ?_
        refine xr_callV (n9 := 2) (rc' := 0) (rs' := 0) (k_M_barred hG hM.1 hB hC (by omega) (by omega)) hM.1.1 rfl q2495 q2497 qs66 q96 q2498 (by decide +kernel) rfl ⟨by decide, Nat.le_of_ble_eq_true rfl⟩ ⟨Nat.le_of_ble_eq_true rfl, Nat.le_of_ble_eq_true rfl⟩ (Nat.le_of_ble_eq_true rfl) dX4_leases_34 rfl (fun r w34 hw => ?_) (fun _ _ _ h => h.elim)
        obtain ⟨rfl, hw⟩ := hw
        have hM := hM.tr hw
        refine xr_istore (lv' := [some _, some _, some _, some _, some _, none]) dX4_leases_37 (by decide) rfl rfl ?_
        refine xr_iload dX4_leases_39 rfl ?_
        refine xr_if_le (tgt := 47) dX4_leases_41 (by decide) (by omega) (fun c41 => ?_) (fun c41 => ?_)
        · skip
          have e0 : (barred P t b).1 = 0 := by omega
          rw [if_pos e0] at hM
          refine xr_aload_n dX4_leases_47 rfl (by first | rfl | exact isRef_rf _) ?_
          refine xr_iload_n dX4_leases_48 rfl ?_
          refine xr_callV (n9 := 1) (rc' := 0) (rs' := 0) (k_M_rent hG hM.1 hB (by omega)) hM.1.1 rfl q2387 q2389 qs55 q96 q2390 (by decide +kernel) rfl ⟨by decide, Nat.le_of_ble_eq_true rfl⟩ ⟨Nat.le_of_ble_eq_true rfl, Nat.le_of_ble_eq_true rfl⟩ (Nat.le_of_ble_eq_true rfl) dX4_leases_49 rfl (xk_r ?_) (fun _ _ _ h => h.elim)
          refine xr_istore (lv' := [some _, some _, some _, some _, some _, some _]) dX4_leases_52 (by decide) rfl rfl ?_
          refine xr_aload_n dX4_leases_54 rfl (by first | rfl | exact isRef_rf _) ?_
          refine xr_getfield (ci := 14) (T := TX4) (N := 23) (i := 1) hM.1.1 rfl (by decide) in_X4 q2192 (.inl rfl) dX4_leases_55 (by rfl) ?_
          refine xr_bipush dX4_leases_58 (by decide) ?_
          refine xr_iconst dX4_leases_60 ?_
          refine xr_iload_n dX4_leases_61 rfl ?_
          refine xr_imul dX4_leases_62 ?_
          refine xr_iadd dX4_leases_63 ?_
          refine xr_iconst dX4_leases_64 ?_
          refine xr_iadd dX4_leases_65 ?_
          refine xr_dup2 dX4_leases_66 (by first | rfl | exact cat_rf _) (by first | rfl | exact cat_rf _) ?_
          refine xr_iaload hM.1.2.1 (by omega) (by decide) dX4_leases_67 ?_
          refine xr_iload dX4_leases_68 rfl ?_
          refine xr_isub dX4_leases_70 ?_
          refine xr_mstS hM (by omega) dX4_leases_71 (fun w71 hM => ?_)
          refine xr_aload_n dX4_leases_72 rfl (by first | rfl | exact isRef_rf _) ?_
          refine xr_getfield (ci := 14) (T := TX4) (N := 23) (i := 1) hM.1.1 rfl (by decide) in_X4 q2192 (.inl rfl) dX4_leases_73 (by rfl) ?_
          refine xr_bipush dX4_leases_76 (by decide) ?_
          refine xr_bipush dX4_leases_78 (by decide) ?_
          refine xr_iload_n dX4_leases_80 rfl ?_
          refine xr_imul dX4_leases_81 ?_
          refine xr_iadd dX4_leases_82 ?_
          refine xr_iconst dX4_leases_83 ?_
          refine xr_iadd dX4_leases_84 ?_
          refine xr_iload_n dX4_leases_85 rfl ?_
          refine xr_iconst dX4_leases_86 ?_
          refine xr_iadd dX4_leases_87 ?_
          refine xr_mstS hM (by omega) dX4_leases_88 (fun w88 hM => ?_)
          refine xr_aload_n dX4_leases_89 rfl (by first | rfl | exact isRef_rf _) ?_
          refine xr_getfield (ci := 14) (T := TX4) (N := 23) (i := 1) hM.1.1 rfl (by decide) in_X4 q2192 (.inl rfl) dX4_leases_90 (by rfl) ?_
          refine xr_bipush dX4_leases_93 (by decide) ?_
          refine xr_bipush dX4_leases_95 (by decide) ?_
          refine xr_iload_n dX4_leases_97 rfl ?_
          refine xr_imul dX4_leases_98 ?_
          refine xr_iadd dX4_leases_99 ?_
          refine xr_iconst dX4_leases_100 ?_
          refine xr_iadd dX4_leases_101 ?_
          refine xr_iload dX4_leases_102 rfl ?_
          refine xr_mstS hM (by omega) dX4_leases_104 (fun w104 hM => ?_)
          refine xr_aload_n dX4_leases_105 rfl (by first | rfl | exact isRef_rf _) ?_
          refine xr_getfield (ci := 14) (T := TX4) (N := 23) (i := 1) hM.1.1 rfl (by decide) in_X4 q2192 (.inl rfl) dX4_leases_106 (by rfl) ?_
          refine xr_bipush dX4_leases_109 (by decide) ?_
          refine xr_bipush dX4_leases_111 (by decide) ?_
          refine xr_iload_n dX4_leases_113 rfl ?_
          refine xr_imul dX4_leases_114 ?_
          refine xr_iadd dX4_leases_115 ?_
          refine xr_iconst dX4_leases_116 ?_
          refine xr_iadd dX4_leases_117 ?_
          refine xr_iload_n dX4_leases_118 rfl ?_
          refine xr_mstS hM (by omega) dX4_leases_119 (fun w119 hM => ?_)
          refine xr_aload_n dX4_leases_120 rfl (by first | rfl | exact isRef_rf _) ?_
          refine xr_iload dX4_leases_121 rfl ?_
          refine xr_callV (n9 := 1) (rc' := 0) (rs' := 0) (k_M_done hG hM.1) hM.1.1 rfl q2299 q2301 qs43 q96 q2302 (by decide +kernel) rfl ⟨by decide, Nat.le_of_ble_eq_true rfl⟩ ⟨Nat.le_of_ble_eq_true rfl, Nat.le_of_ble_eq_true rfl⟩ (Nat.le_of_ble_eq_true rfl) dX4_leases_123 rfl (fun r w123 hw => ?_) (fun _ _ _ h => h.elim)
          obtain ⟨rfl, hw⟩ := hw
          have hM := hM.tr hw
          refine xr_ireturn rfl rfl dX4_leases_126 ?_
          rw [hpo]
          exact ⟨0, _, oLease P t b v, rfl, hM.toP (fun k h0 h1 => by
            simp only [oLease, updI, Int.add_zero]
            repeat' split
            all_goals first | rfl | omega), Or.inr (Or.inr (Or.inr ⟨by omega, by first | trivial | omega, e0, rfl, rfl, rfl⟩))⟩
        · skip
          refine xr_iload dX4_leases_44 rfl ?_
          refine xr_ireturn rfl rfl dX4_leases_46 ?_
          rw [hpo]
          rw [if_neg (by omega)] at hM
          exact ⟨(barred P t b).1, _, P, rfl, hM, Or.inr (Or.inr (Or.inl ⟨by omega, by omega, by omega, rfl, rfl, rfl⟩))⟩
      · skip
        try simp only [decide_eq_true_eq, decide_eq_false_iff_not] at c25
        refine xr_bipush dX4_leases_28 (by decide) ?_
        refine xr_ireturn rfl rfl dX4_leases_30 ?_
        rw [hpo]
        exact ⟨-2, F, P, rfl, hM, Or.inr (Or.inl ⟨by omega, by omega, rfl, rfl, rfl⟩)⟩
    · skip
      try simp only [decide_eq_true_eq, decide_eq_false_iff_not] at c13
      refine xr_iconst dX4_leases_16 ?_
      refine xr_ireturn rfl rfl dX4_leases_17 ?_
      rw [hpo]
      exact ⟨-1, F, P, rfl, hM, Or.inl ⟨by omega, rfl, rfl, rfl⟩⟩
theorem oPaid_r {P : Int → Int} {N b : Int} (hB : PB P N) (hb : 0 ≤ b ∧ b < P 0) {v : Int} {t : Int} (ht : 0 ≤ t ∧ t < P 2) : rent (updI P (86 + 2 * t) v) b = rent P b :=
  (rent_cg (updI_ne (by omega)) (fun k h0 h1 => updI_ne (by have := hB.g; omega)) (updI_ne (by have := hB.g; omega)) (updI_ne (by have := hB.g; omega)) (updI_ne (by have := hB.g; omega))).1
theorem k_M_billed {g : GG} {w : WW} {m : Nat} {A : Int → Nat} {F P : Int → Int} {C : Int → Int → Int} {b N : Int} (hG : Base g) (hM : MD g w m A F P C) (hB : PB P N) (hb : 0 ≤ b ∧ b < P 0) (hl : P (13 + 6 * b) ≠ 0) : Ct g yX4_billed (.code yX4_billed cX4_billed 3 (some .int)) 4 91 0 0 w [.ref m, .int (iI b)] (fun r_ w1 => r_ = some (.int (iI ((oBill P b).2))) ∧ MDF g w w1 m A (F) ((oBill P b).1) (C)) xF := by
  refine Ct.of (lv := [some _, some _, none]) hG (by decide +kernel) (Nat.le_of_ble_eq_true rfl) rfl ?_
  intro z hg hpo hxp hnm htab
  subst hg
  have hM : MDF (zg z) w w m A F P C := ⟨hM, Fr.rf⟩
  have hgg := hB.g
  have hbb := hB.b hb
  have htt := hB.t (t := (P (13 + 6 * b) - 1)) (by omega)
  have hrr := rent_bd hB hb.1 hb.2
  have hnn : 0 ≤ noiseOf P b ∧ noiseOf P b ≤ 36 := noise_bd hB
  refine xr_aload_n dX4_billed_0 rfl (by first | rfl | exact isRef_rf _) ?_
  refine xr_iload_n dX4_billed_1 rfl ?_
  refine xr_callV (n9 := 1) (rc' := 0) (rs' := 0) (k_M_by hG hM.1 (by omega)) hM.1.1 rfl q2487 q2489 qs65 q96 q2490 (by decide +kernel) rfl ⟨by decide, Nat.le_of_ble_eq_true rfl⟩ ⟨Nat.le_of_ble_eq_true rfl, Nat.le_of_ble_eq_true rfl⟩ (Nat.le_of_ble_eq_true rfl) dX4_billed_2 rfl (xk_r ?_) (fun _ _ _ h => h.elim)
  refine xr_istore_n (lv' := [some _, some _, some _]) dX4_billed_5 (by decide) rfl rfl ?_
  refine xr_aload_n dX4_billed_6 rfl (by first | rfl | exact isRef_rf _) ?_
  refine xr_iload_n dX4_billed_7 rfl ?_
  refine xr_callV (n9 := 1) (rc' := 0) (rs' := 0) (k_M_quiet hG hM.1 hB (by omega)) hM.1.1 rfl q2431 q2433 qs58 q96 q2434 (by decide +kernel) rfl ⟨by decide, Nat.le_of_ble_eq_true rfl⟩ ⟨Nat.le_of_ble_eq_true rfl, Nat.le_of_ble_eq_true rfl⟩ (Nat.le_of_ble_eq_true rfl) dX4_billed_8 rfl (xk_r ?_) (fun _ _ _ h => h.elim)
  refine xr_ifb_ne (tgt := 38) dX4_billed_11 (by decide) (fun c11 => ?_) (fun c11 => ?_)
  · skip
    try simp only [decide_eq_true_eq, decide_eq_false_iff_not] at c11
    refine xr_aload_n dX4_billed_38 rfl (by first | rfl | exact isRef_rf _) ?_
    refine xr_iload_n dX4_billed_39 rfl ?_
    refine xr_iconst dX4_billed_40 ?_
    refine xr_callV (n9 := 2) (rc' := 0) (rs' := 0) (k_M_tenant_0 hG hM.1 (by omega)) hM.1.1 rfl q2459 q2461 qs62 q96 q2462 (by decide +kernel) rfl ⟨by decide, Nat.le_of_ble_eq_true rfl⟩ ⟨Nat.le_of_ble_eq_true rfl, Nat.le_of_ble_eq_true rfl⟩ (Nat.le_of_ble_eq_true rfl) dX4_billed_41 rfl (xk_r ?_) (fun _ _ _ h => h.elim)
    refine xr_aload_n dX4_billed_44 rfl (by first | rfl | exact isRef_rf _) ?_
    refine xr_iload_n dX4_billed_45 rfl ?_
    refine xr_callV (n9 := 1) (rc' := 0) (rs' := 0) (k_M_rent hG hM.1 hB (by omega)) hM.1.1 rfl q2387 q2389 qs55 q96 q2390 (by decide +kernel) rfl ⟨by decide, Nat.le_of_ble_eq_true rfl⟩ ⟨Nat.le_of_ble_eq_true rfl, Nat.le_of_ble_eq_true rfl⟩ (Nat.le_of_ble_eq_true rfl) dX4_billed_46 rfl (xk_r ?_) (fun _ _ _ h => h.elim)
    refine xr_icmp_ge (tgt := 88) dX4_billed_49 (by decide) (by omega) (fun c49 => ?_) (fun c49 => ?_)
    · skip
      refine xr_aload_n dX4_billed_88 rfl (by first | rfl | exact isRef_rf _) ?_
      refine xr_getfield (ci := 14) (T := TX4) (N := 23) (i := 1) hM.1.1 rfl (by decide) in_X4 q2192 (.inl rfl) dX4_billed_89 (by rfl) ?_
      refine xr_bipush dX4_billed_92 (by decide) ?_
      refine xr_iconst dX4_billed_94 ?_
      refine xr_iload_n dX4_billed_95 rfl ?_
      refine xr_imul dX4_billed_96 ?_
      refine xr_iadd dX4_billed_97 ?_
      refine xr_iconst dX4_billed_98 ?_
      refine xr_iadd dX4_billed_99 ?_
      refine xr_dup2 dX4_billed_100 (by first | rfl | exact cat_rf _) (by first | rfl | exact cat_rf _) ?_
      refine xr_iaload hM.1.2.1 (by omega) (by decide) dX4_billed_101 ?_
      refine xr_aload_n dX4_billed_102 rfl (by first | rfl | exact isRef_rf _) ?_
      refine xr_iload_n dX4_billed_103 rfl ?_
      refine xr_callV (n9 := 1) (rc' := 0) (rs' := 0) (k_M_rent hG hM.1 hB (by omega)) hM.1.1 rfl q2387 q2389 qs55 q96 q2390 (by decide +kernel) rfl ⟨by decide, Nat.le_of_ble_eq_true rfl⟩ ⟨Nat.le_of_ble_eq_true rfl, Nat.le_of_ble_eq_true rfl⟩ (Nat.le_of_ble_eq_true rfl) dX4_billed_104 rfl (xk_r ?_) (fun _ _ _ h => h.elim)
      refine xr_isub dX4_billed_107 ?_
      refine xr_mstS hM (by omega) dX4_billed_108 (fun w108 hM => ?_)
      have hB1 : PB (updI P (86 + 2 * (P (13 + 6 * b) - 1) + 0) (P (86 + 2 * (P (13 + 6 * b) - 1) + 0) - rent P b)) N := hB.updT (t := (P (13 + 6 * b) - 1)) (by omega) (Or.inl ⟨Or.inl (by omega), by rw [Int.add_zero]; omega⟩)
      have e1 : rent (updI P (86 + 2 * (P (13 + 6 * b) - 1) + 0) (P (86 + 2 * (P (13 + 6 * b) - 1) + 0) - rent P b)) b = rent P b := by rw [Int.add_zero]; exact oPaid_r hB hb (by omega)
      have hb1 : 0 ≤ b ∧ b < (updI P (86 + 2 * (P (13 + 6 * b) - 1) + 0) (P (86 + 2 * (P (13 + 6 * b) - 1) + 0) - rent P b)) 0 := by rw [updI_ne (by omega)]; exact hb
      refine xr_aload_n dX4_billed_109 rfl (by first | rfl | exact isRef_rf _) ?_
      refine xr_getfield (ci := 14) (T := TX4) (N := 23) (i := 1) hM.1.1 rfl (by decide) in_X4 q2192 (.inl rfl) dX4_billed_110 (by rfl) ?_
      refine xr_iconst dX4_billed_113 ?_
      refine xr_dup2 dX4_billed_114 (by first | rfl | exact cat_rf _) (by first | rfl | exact cat_rf _) ?_
      refine xr_iaload hM.1.2.1 (by omega) (by decide) dX4_billed_115 ?_
      refine xr_aload_n dX4_billed_116 rfl (by first | rfl | exact isRef_rf _) ?_
      refine xr_iload_n dX4_billed_117 rfl ?_
      refine xr_callV (n9 := 1) (rc' := 0) (rs' := 0) (k_M_rent hG hM.1 hB1 hb1) hM.1.1 rfl q2387 q2389 qs55 q96 q2390 (by decide +kernel) rfl ⟨by decide, Nat.le_of_ble_eq_true rfl⟩ ⟨Nat.le_of_ble_eq_true rfl, Nat.le_of_ble_eq_true rfl⟩ (Nat.le_of_ble_eq_true rfl) dX4_billed_118 rfl (xk_r ?_) (fun _ _ _ h => h.elim)
      rw [e1]
      refine xr_iadd dX4_billed_121 ?_
      refine xr_mstS hM (by omega) dX4_billed_122 (fun w122 hM => ?_)
      refine xr_aload_n dX4_billed_123 rfl (by first | rfl | exact isRef_rf _) ?_
      refine xr_getfield (ci := 14) (T := TX4) (N := 23) (i := 1) hM.1.1 rfl (by decide) in_X4 q2192 (.inl rfl) dX4_billed_124 (by rfl) ?_
      refine xr_bipush dX4_billed_127 (by decide) ?_
      refine xr_bipush dX4_billed_129 (by decide) ?_
      refine xr_iload_n dX4_billed_131 rfl ?_
      refine xr_imul dX4_billed_132 ?_
      refine xr_iadd dX4_billed_133 ?_
      refine xr_iconst dX4_billed_134 ?_
      refine xr_iadd dX4_billed_135 ?_
      refine xr_dup2 dX4_billed_136 (by first | rfl | exact cat_rf _) (by first | rfl | exact cat_rf _) ?_
      refine xr_iaload hM.1.2.1 (by omega) (by decide) dX4_billed_137 ?_
      refine xr_iconst dX4_billed_138 ?_
      refine xr_isub dX4_billed_139 ?_
      refine xr_mstS hM (by omega) dX4_billed_140 (fun w140 hM => ?_)
      have hM := hM.toP (P' := oPaid P b) (fun k h0 h1 => by
        have e15 : (10 + 6 * b + 5 : Int) = 15 + 6 * b := by omega
        simp only [oPaid, updI, Int.add_zero, e15]
        repeat' split
        all_goals first | rfl | omega)
      have e13 : oPaid P b (13 + 6 * b) = P (13 + 6 * b) := by unfold oPaid; rw [updI_ne (by omega), updI_ne (by omega), updI_ne (by omega)]
      have e14 : oPaid P b (14 + 6 * b) = P (14 + 6 * b) := by unfold oPaid; rw [updI_ne (by omega), updI_ne (by omega), updI_ne (by omega)]
      have e86 : oPaid P b (86 + 2 * (P (13 + 6 * b) - 1)) = P (86 + 2 * (P (13 + 6 * b) - 1)) - rent P b := by unfold oPaid; rw [updI_ne (by omega), updI_ne (by omega), updI_eq]
      have e5 : oPaid P b 5 = P 5 + rent P b := by unfold oPaid; rw [updI_ne (by omega), updI_eq]
      have e9 : oPaid P b 9 = P 9 := by unfold oPaid; rw [updI_ne (by omega), updI_ne (by omega), updI_ne (by omega)]
      have e55 : oEnd (oPaid P b) b 5 = P 5 + rent P b := by unfold oEnd; rw [updI_ne (by omega), updI_ne (by omega), updI_ne (by omega), updI_ne (by omega), e5]
      have e59 : oEnd (oPaid P b) b 9 = P 9 := by unfold oEnd; rw [updI_ne (by omega), updI_ne (by omega), updI_ne (by omega), updI_ne (by omega), e9]
      refine xr_aload_n dX4_billed_141 rfl (by first | rfl | exact isRef_rf _) ?_
      refine xr_iload_n dX4_billed_142 rfl ?_
      refine xr_iconst dX4_billed_143 ?_
      refine xr_callV (n9 := 2) (rc' := 0) (rs' := 0) (k_M_bench_5 hG hM.1 (by omega)) hM.1.1 rfl q2291 q2293 qs41 q96 q2294 (by decide +kernel) rfl ⟨by decide, Nat.le_of_ble_eq_true rfl⟩ ⟨Nat.le_of_ble_eq_true rfl, Nat.le_of_ble_eq_true rfl⟩ (Nat.le_of_ble_eq_true rfl) dX4_billed_144 rfl (xk_r ?_) (fun _ _ _ h => h.elim)
      rw [show oPaid P b (15 + 6 * b) = P (15 + 6 * b) - 1 from updI_eq]
      refine xr_if_le (tgt := 152) dX4_billed_147 (by decide) (by omega) (fun c147 => ?_) (fun c147 => ?_)
      · skip
        refine xr_aload_n dX4_billed_152 rfl (by first | rfl | exact isRef_rf _) ?_
        refine xr_iload_n dX4_billed_153 rfl ?_
        refine xr_aload_n dX4_billed_154 rfl (by first | rfl | exact isRef_rf _) ?_
        refine xr_iload_n dX4_billed_155 rfl ?_
        refine xr_iconst dX4_billed_156 ?_
        refine xr_callV (n9 := 2) (rc' := 0) (rs' := 0) (k_M_bench_4 hG hM.1 (by omega)) hM.1.1 rfl q2291 q2293 qs41 q96 q2294 (by decide +kernel) rfl ⟨by decide, Nat.le_of_ble_eq_true rfl⟩ ⟨Nat.le_of_ble_eq_true rfl, Nat.le_of_ble_eq_true rfl⟩ (Nat.le_of_ble_eq_true rfl) dX4_billed_157 rfl (xk_r ?_) (fun _ _ _ h => h.elim)
        rw [e14]
        refine xr_callV (n9 := 2) (rc' := 0) (rs' := 0) (k_M_frees hG hM.1 (by first | omega | (rw [e13]; omega)) (by first | omega | (rw [e13]; omega))) hM.1.1 rfl q2519 q2521 qs69 q96 q2522 (by decide +kernel) rfl ⟨by decide, Nat.le_of_ble_eq_true rfl⟩ ⟨Nat.le_of_ble_eq_true rfl, Nat.le_of_ble_eq_true rfl⟩ (Nat.le_of_ble_eq_true rfl) dX4_billed_160 rfl (fun r w160 hw => ?_) (fun _ _ _ h => h.elim)
        obtain ⟨rfl, hw⟩ := hw
        have hM := hM.tr hw
        refine xr_aload_n dX4_billed_163 rfl (by first | rfl | exact isRef_rf _) ?_
        refine xr_getfield (ci := 14) (T := TX4) (N := 23) (i := 1) hM.1.1 rfl (by decide) in_X4 q2192 (.inl rfl) dX4_billed_164 (by rfl) ?_
        refine xr_bipush dX4_billed_167 (by decide) ?_
        refine xr_dup2 dX4_billed_169 (by first | rfl | exact cat_rf _) (by first | rfl | exact cat_rf _) ?_
        refine xr_iaload hM.1.2.1 (by omega) (by decide) dX4_billed_170 ?_
        refine xr_iconst dX4_billed_171 ?_
        refine xr_iadd dX4_billed_172 ?_
        refine xr_mstS hM (by omega) dX4_billed_173 (fun w173 hM => ?_)
        refine xr_iconst dX4_billed_174 ?_
        refine xr_ireturn rfl rfl dX4_billed_175 ?_
        rw [hpo]
        have e8 : oBill P b = (oDone P b, 1) := by unfold oBill; rw [if_neg (by omega), if_neg (by omega), if_neg (by omega)]
        rw [e8]
        refine ⟨rfl, hM.toP (fun k h0 h1 => ?_)⟩
        simp only [oDone, oFree, e13, e14, e86, e5, updI, e59]
        repeat' split
        have eE86 := e55
        all_goals first | rfl | omega | (subst_vars; first | rfl | omega | (rw [e55]; omega) | (rw [eE86]; omega))
      · skip
        refine xr_iconst dX4_billed_150 ?_
        refine xr_ireturn rfl rfl dX4_billed_151 ?_
        rw [hpo]
        have e8 : oBill P b = (oPaid P b, 0) := by unfold oBill; rw [if_neg (by omega), if_neg (by omega), if_pos (by omega)]
        rw [e8]
        exact ⟨rfl, hM⟩
    · skip
      refine xr_aload_n dX4_billed_52 rfl (by first | rfl | exact isRef_rf _) ?_
      refine xr_getfield (ci := 14) (T := TX4) (N := 23) (i := 1) hM.1.1 rfl (by decide) in_X4 q2192 (.inl rfl) dX4_billed_53 (by rfl) ?_
      refine xr_bipush dX4_billed_56 (by decide) ?_
      refine xr_iconst dX4_billed_58 ?_
      refine xr_iload_n dX4_billed_59 rfl ?_
      refine xr_imul dX4_billed_60 ?_
      refine xr_iadd dX4_billed_61 ?_
      refine xr_iconst dX4_billed_62 ?_
      refine xr_iadd dX4_billed_63 ?_
      refine xr_dup2 dX4_billed_64 (by first | rfl | exact cat_rf _) (by first | rfl | exact cat_rf _) ?_
      refine xr_iaload hM.1.2.1 (by omega) (by decide) dX4_billed_65 ?_
      refine xr_iconst dX4_billed_66 ?_
      refine xr_iadd dX4_billed_67 ?_
      refine xr_mstS hM (by omega) dX4_billed_68 (fun w68 hM => ?_)
      have e87 : (86 + 2 * (P (13 + 6 * b) - 1) + 1 : Int) = 87 + 2 * (P (13 + 6 * b) - 1) := by omega
      rw [e87] at hM
      obtain ⟨Q, hQ⟩ : ∃ Q, Q = updI P (87 + 2 * (P (13 + 6 * b) - 1)) (P (87 + 2 * (P (13 + 6 * b) - 1)) + 1) := ⟨_, rfl⟩
      rw [← hQ] at hM
      have q13 : Q (13 + 6 * b) = P (13 + 6 * b) := by rw [hQ, updI_ne (by omega)]
      have q14 : Q (14 + 6 * b) = P (14 + 6 * b) := by rw [hQ, updI_ne (by omega)]
      have q86 : Q (86 + 2 * (P (13 + 6 * b) - 1)) = P (86 + 2 * (P (13 + 6 * b) - 1)) := by rw [hQ, updI_ne (by omega)]
      have q5 : Q 5 = P 5 := by rw [hQ, updI_ne (by omega)]
      have q7 : Q 7 = P 7 := by rw [hQ, updI_ne (by omega)]
      refine xr_aload_n dX4_billed_69 rfl (by first | rfl | exact isRef_rf _) ?_
      refine xr_iload_n dX4_billed_70 rfl ?_
      refine xr_iconst dX4_billed_71 ?_
      refine xr_callV (n9 := 2) (rc' := 0) (rs' := 0) (k_M_frees hG hM.1 (by first | omega | (rw [q13]; omega)) (by first | omega | (rw [q13]; omega))) hM.1.1 rfl q2519 q2521 qs69 q96 q2522 (by decide +kernel) rfl ⟨by decide, Nat.le_of_ble_eq_true rfl⟩ ⟨Nat.le_of_ble_eq_true rfl, Nat.le_of_ble_eq_true rfl⟩ (Nat.le_of_ble_eq_true rfl) dX4_billed_72 rfl (fun r w72 hw => ?_) (fun _ _ _ h => h.elim)
      obtain ⟨rfl, hw⟩ := hw
      have hM := hM.tr hw
      refine xr_aload_n dX4_billed_75 rfl (by first | rfl | exact isRef_rf _) ?_
      refine xr_getfield (ci := 14) (T := TX4) (N := 23) (i := 1) hM.1.1 rfl (by decide) in_X4 q2192 (.inl rfl) dX4_billed_76 (by rfl) ?_
      refine xr_bipush dX4_billed_79 (by decide) ?_
      refine xr_dup2 dX4_billed_81 (by first | rfl | exact cat_rf _) (by first | rfl | exact cat_rf _) ?_
      refine xr_iaload hM.1.2.1 (by omega) (by decide) dX4_billed_82 ?_
      refine xr_iconst dX4_billed_83 ?_
      refine xr_iadd dX4_billed_84 ?_
      refine xr_mstS hM (by omega) dX4_billed_85 (fun w85 hM => ?_)
      refine xr_iconst dX4_billed_86 ?_
      refine xr_ireturn rfl rfl dX4_billed_87 ?_
      rw [hpo]
      have e9 : oBill P b = (oDefault P b, 1) := by unfold oBill; rw [if_neg (by omega), if_pos (by omega)]
      rw [e9]
      have e55 : oEnd Q b 5 = P 5 := by unfold oEnd; rw [updI_ne (by omega), updI_ne (by omega), updI_ne (by omega), updI_ne (by omega), q5]
      have e57 : oEnd Q b 7 = P 7 := by unfold oEnd; rw [updI_ne (by omega), updI_ne (by omega), updI_ne (by omega), updI_ne (by omega), q7]
      have eE86 : oEnd Q b (86 + 2 * (P (13 + 6 * b) - 1)) = P (86 + 2 * (P (13 + 6 * b) - 1)) := by unfold oEnd; rw [updI_ne (by omega), updI_ne (by omega), updI_ne (by omega), updI_ne (by omega), q86]
      refine ⟨rfl, hM.toP (fun k h0 h1 => ?_)⟩
      simp only [oDefault, ← hQ, oFree, q13, q14, q86, q5, updI, e57, Int.add_zero, Int.sub_zero]
      repeat' split
      all_goals first | rfl | omega | (subst_vars; first | rfl | omega | (rw [e55]; omega) | (rw [eE86]; omega))
  · skip
    try simp only [decide_eq_true_eq, decide_eq_false_iff_not] at c11
    refine xr_aload_n dX4_billed_14 rfl (by first | rfl | exact isRef_rf _) ?_
    refine xr_iload_n dX4_billed_15 rfl ?_
    refine xr_aload_n dX4_billed_16 rfl (by first | rfl | exact isRef_rf _) ?_
    refine xr_iload_n dX4_billed_17 rfl ?_
    refine xr_iconst dX4_billed_18 ?_
    refine xr_callV (n9 := 2) (rc' := 0) (rs' := 0) (k_M_bench_4 hG hM.1 (by omega)) hM.1.1 rfl q2291 q2293 qs41 q96 q2294 (by decide +kernel) rfl ⟨by decide, Nat.le_of_ble_eq_true rfl⟩ ⟨Nat.le_of_ble_eq_true rfl, Nat.le_of_ble_eq_true rfl⟩ (Nat.le_of_ble_eq_true rfl) dX4_billed_19 rfl (xk_r ?_) (fun _ _ _ h => h.elim)
    refine xr_callV (n9 := 2) (rc' := 0) (rs' := 0) (k_M_frees hG hM.1 (by omega) (by omega)) hM.1.1 rfl q2519 q2521 qs69 q96 q2522 (by decide +kernel) rfl ⟨by decide, Nat.le_of_ble_eq_true rfl⟩ ⟨Nat.le_of_ble_eq_true rfl, Nat.le_of_ble_eq_true rfl⟩ (Nat.le_of_ble_eq_true rfl) dX4_billed_22 rfl (fun r w22 hw => ?_) (fun _ _ _ h => h.elim)
    obtain ⟨rfl, hw⟩ := hw
    have hM := hM.tr hw
    refine xr_aload_n dX4_billed_25 rfl (by first | rfl | exact isRef_rf _) ?_
    refine xr_getfield (ci := 14) (T := TX4) (N := 23) (i := 1) hM.1.1 rfl (by decide) in_X4 q2192 (.inl rfl) dX4_billed_26 (by rfl) ?_
    refine xr_bipush dX4_billed_29 (by decide) ?_
    refine xr_dup2 dX4_billed_31 (by first | rfl | exact cat_rf _) (by first | rfl | exact cat_rf _) ?_
    refine xr_iaload hM.1.2.1 (by omega) (by decide) dX4_billed_32 ?_
    refine xr_iconst dX4_billed_33 ?_
    refine xr_iadd dX4_billed_34 ?_
    refine xr_mstS hM (by omega) dX4_billed_35 (fun w35 hM => ?_)
    refine xr_iconst dX4_billed_36 ?_
    refine xr_ireturn rfl rfl dX4_billed_37 ?_
    rw [hpo]
    have e9 : oBill P b = (oLoudEnd P b, 1) := by unfold oBill; rw [if_pos (by omega)]
    rw [e9]
    have e55 : oEnd P b 5 = P 5 := by unfold oEnd; rw [updI_ne (by omega), updI_ne (by omega), updI_ne (by omega), updI_ne (by omega)]
    have e58 : oEnd P b 8 = P 8 := by unfold oEnd; rw [updI_ne (by omega), updI_ne (by omega), updI_ne (by omega), updI_ne (by omega)]
    have eE86 := e55
    refine ⟨rfl, hM.toP (fun k h0 h1 => ?_)⟩
    simp only [oLoudEnd, oFree, updI, e58]
    repeat' split
    all_goals first | rfl | omega | (subst_vars; first | rfl | omega | (rw [e55]; omega) | (rw [eE86]; omega))
