/-! 42.lease.lean.txt (written by tools/walker.py)  -/
set_option maxRecDepth 100000
theorem k_P_obstacle {g : GG} {w : WW} {n0 : Nat → Prop} {q : Nat} {L : Int → Nat} {P : Int → Int} {N : Int} {b : Int} {t : Int} (hG : Base g) (hK : PK g w n0 q L P) (hB : PB P N) (hb : 0 ≤ b ∧ b < P 0) (ht : 0 ≤ t ∧ t < P 2) : Ct g yX2_obstacle (.code yX2_obstacle cX2_obstacle 3 (some ((.object "BenchBroker$Rejection")))) 14 3144 3 13 w [.ref q, .ref (L (50 + t)), .ref (L (10 + b))] (fun r_ w1 => ∃ o : Option Nat, r_ = some (va_rf o) ∧ Mo w.2 w w1 ∧ (o = none → (barred P t b).1 = 0) ∧ ∀ a9 : Nat, o = some a9 → (barred P t b).1 ≠ 0 ∧ Ob w1 a9 6 [.int (iI (barred P t b).1), .int (iI (barred P t b).2), .int (iI 0)] ∧ w.2 ≤ a9) xF := by
  refine Ct.of (lv := [some _, some _, some _]) hG (by decide +kernel) (Nat.le_of_ble_eq_true rfl) rfl ?_
  intro z hg hpo hxp hnm htab
  subst hg
  have hgg := hB.g
  have hbb := hB.b hb
  have htt := hB.t ht
  have hrr := rent_bd hB hb.1 hb.2
  have hmo : Mo w.2 w w := Mo.rf
  have hm1 := hmo.1
  refine xr_aload_n dX2_obstacle_0 rfl (by first | rfl | exact isRef_rf _) ?_
  refine xr_callV (n9 := 0) (rc' := 3) (rs' := 13) (k_T_isBanned hG (hK.te t ht.1 ht.2) (by omega)) (hK.te t ht.1 ht.2) rfl q1111 q1112 q1113 q115 q1114 (by decide +kernel) rfl ⟨by decide, Nat.le_of_ble_eq_true rfl⟩ ⟨Nat.le_of_ble_eq_true rfl, Nat.le_of_ble_eq_true rfl⟩ (Nat.le_of_ble_eq_true rfl) dX2_obstacle_1 rfl (xk_r ?_) (fun _ _ _ h => h.elim)
  refine xr_ifb_eq (tgt := 20) dX2_obstacle_4 (by decide) (fun c4 => ?_) (fun c4 => ?_)
  · skip
    try simp only [decide_eq_true_eq, decide_eq_false_iff_not] at c4
    refine xr_aload_n dX2_obstacle_20 rfl (by first | rfl | exact isRef_rf _) ?_
    refine xr_getfieldN (ci := 5) (T := TX11) (N := 4) (i := 3) (hK.te t ht.1 ht.2) rfl (by decide) in_X11 q848 (.inl rfl) dX2_obstacle_21 (by rfl) ?_
    refine xr_ifnull (tgt := 44) dX2_obstacle_24 (by decide) (fun c24 => ?_) (fun c24 => ?_)
    · skip
      have c24 : P (102 + t) = 0 := by
        by_cases h9 : P (102 + t) = 0
        · exact h9
        · rw [opt_ne h9] at c24; cases c24
      refine xr_aload_n dX2_obstacle_44 rfl (by first | rfl | exact isRef_rf _) ?_
      refine xr_callV (n9 := 0) (rc' := 3) (rs' := 13) (k_B_isLet hG (hK.be b hb.1 hb.2)) (hK.be b hb.1 hb.2) rfl q716 q717 q718 q114 q719 (by decide +kernel) rfl ⟨by decide, Nat.le_of_ble_eq_true rfl⟩ ⟨Nat.le_of_ble_eq_true rfl, Nat.le_of_ble_eq_true rfl⟩ (Nat.le_of_ble_eq_true rfl) dX2_obstacle_45 rfl (xk_r ?_) (fun _ _ _ h => h.elim)
      rw [opt_is]
      refine xr_ifb_eq (tgt := 68) dX2_obstacle_48 (by decide) (fun c48 => ?_) (fun c48 => ?_)
      · skip
        try simp only [decide_eq_true_eq, decide_eq_false_iff_not] at c48
        have c48 : P (13 + 6 * b) = 0 := by omega
        refine xr_aload_n dX2_obstacle_68 rfl (by first | rfl | exact isRef_rf _) ?_
        refine xr_aload_n dX2_obstacle_69 rfl (by first | rfl | exact isRef_rf _) ?_
        refine xr_callV (n9 := 1) (rc' := 2) (rs' := 11) (k_P_isQuiet hG hK hB hb) hK.hq rfl q320 q321 q322 q87 q323 (by decide +kernel) rfl ⟨by decide, Nat.le_of_ble_eq_true rfl⟩ ⟨Nat.le_of_ble_eq_true rfl, Nat.le_of_ble_eq_true rfl⟩ (Nat.le_of_ble_eq_true rfl) dX2_obstacle_70 rfl (xk_e fun w70 hm70 => ?_) (fun _ _ _ h => h.elim)
        have hmo := hmo.tr hm70 hmo.1
        have hm1 := hmo.1
        have hK := hK.ext hm70
        refine xr_ifb_ne (tgt := 91) dX2_obstacle_73 (by decide) (fun c73 => ?_) (fun c73 => ?_)
        · skip
          try simp only [decide_eq_true_eq, decide_eq_false_iff_not] at c73
          refine xr_aload_n dX2_obstacle_91 rfl (by first | rfl | exact isRef_rf _) ?_
          refine xr_getfieldN (ci := 5) (T := TX11) (N := 4) (i := 1) (hK.te t ht.1 ht.2) rfl (by decide) in_X11 q843 (.inl rfl) dX2_obstacle_92 (by rfl) ?_
          refine xr_aload_n dX2_obstacle_95 rfl (by first | rfl | exact isRef_rf _) ?_
          refine xr_aload_n dX2_obstacle_96 rfl (by first | rfl | exact isRef_rf _) ?_
          refine xr_callV (n9 := 1) (rc' := 1) (rs' := 9) (k_P_rentOf hG hK hB hb) hK.hq rfl q872 q873 q874 q87 q875 (by decide +kernel) rfl ⟨by decide, Nat.le_of_ble_eq_true rfl⟩ ⟨Nat.le_of_ble_eq_true rfl, Nat.le_of_ble_eq_true rfl⟩ (Nat.le_of_ble_eq_true rfl) dX2_obstacle_97 rfl (xk_e fun w97 hm97 => ?_) (fun _ _ _ h => h.elim)
          have hmo := hmo.tr hm97 hmo.1
          have hm1 := hmo.1
          have hK := hK.ext hm97
          refine xr_icmp_ge (tgt := 119) dX2_obstacle_100 (by decide) (by omega) (fun c100 => ?_) (fun c100 => ?_)
          · skip
            refine xr_null dX2_obstacle_119 ?_
            first | refine xr_areturn rfl rfl dX2_obstacle_120 ?_ | refine xr_areturnN rfl rfl dX2_obstacle_120 ?_
            rw [hpo]
            first
            | exact ⟨none, rfl, hmo, fun _ => by unfold barred; rw [if_neg c4, if_neg (by omega), if_neg (by omega), if_neg (by omega), if_neg (by omega)], fun a9 h9 => nomatch h9⟩
            | skip
            all_goals (
              have e9 : barred P t b = (9, P (86 + 2 * t)) := by unfold barred; rw [if_neg c4, if_neg (by omega), if_neg (by omega), if_neg (by omega), if_pos (by omega)]
              refine ⟨some a103, rfl, (hmo.tr (Mo.new (n := _) ga103 ga103 e103) hmo.1).tr (hf9.mo (n := w.2) (fun b9 _ q9 => by omega)) (Nat.le_refl _), (fun h => nomatch h), fun a9 h9 => ?_⟩
              obtain rfl : a103 = a9 := Option.some.inj h9
              rw [e9]
              exact ⟨by show (9 : Int) ≠ 0; decide, ho9, by omega⟩)
          · skip
            refine xr_newZ (rc' := 0) (rs' := 0) q1115 q1036 q116 ⟨Nat.le_of_ble_eq_true rfl, Nat.le_of_ble_eq_true rfl⟩ dX2_obstacle_103 (fun a103 e103 ga103 ba103 hz103 => ?_)
            have hK7 := hK.ext (Mo.new ga103 ga103 e103)
            refine xr_dup dX2_obstacle_106 (by first | rfl | exact cat_rf _) ?_
            refine xr_bipush dX2_obstacle_107 (by decide) ?_
            refine xr_aload_n dX2_obstacle_109 rfl (by first | rfl | exact isRef_rf _) ?_
            refine xr_getfieldN (ci := 5) (T := TX11) (N := 4) (i := 1) (hK7.te t ht.1 ht.2) rfl (by decide) in_X11 q843 (.inl rfl) dX2_obstacle_110 (by rfl) ?_
            refine xr_callI (n9 := 2) (rc' := 0) (rs' := 0) (k_Rej_init2 hG hz103 ba103) q1119 q1045 q116 q1046 rfl (by decide +kernel) rfl ⟨by decide, Nat.le_of_ble_eq_true rfl⟩ ⟨Nat.le_of_ble_eq_true rfl, Nat.le_of_ble_eq_true rfl⟩ (Nat.le_of_ble_eq_true rfl) dX2_obstacle_113 rfl (fun r w113 hw => ?_) (fun _ _ _ h => h.elim)
            obtain ⟨rfl, ho9, hf9⟩ := hw
            refine xr_goto (tgt := 120) dX2_obstacle_116 (by decide) ?_
            first | refine xr_areturn rfl rfl dX2_obstacle_120 ?_ | refine xr_areturnN rfl rfl dX2_obstacle_120 ?_
            rw [hpo]
            first
            | exact ⟨none, rfl, hmo, fun _ => by unfold barred; rw [if_neg c4, if_neg (by omega), if_neg (by omega), if_neg (by omega), if_neg (by omega)], fun a9 h9 => nomatch h9⟩
            | skip
            all_goals (
              have e9 : barred P t b = (9, P (86 + 2 * t)) := by unfold barred; rw [if_neg c4, if_neg (by omega), if_neg (by omega), if_neg (by omega), if_pos (by omega)]
              refine ⟨some a103, rfl, (hmo.tr (Mo.new (n := _) ga103 ga103 e103) hmo.1).tr (hf9.mo (n := w.2) (fun b9 _ q9 => by omega)) (Nat.le_refl _), (fun h => nomatch h), fun a9 h9 => ?_⟩
              obtain rfl : a103 = a9 := Option.some.inj h9
              rw [e9]
              exact ⟨by show (9 : Int) ≠ 0; decide, ho9, by omega⟩)
        · skip
          try simp only [decide_eq_true_eq, decide_eq_false_iff_not] at c73
          refine xr_newZ (rc' := 1) (rs' := 2) q1115 q1036 q116 ⟨Nat.le_of_ble_eq_true rfl, Nat.le_of_ble_eq_true rfl⟩ dX2_obstacle_76 (fun a76 e76 ga76 ba76 hz76 => ?_)
          have hmz := Mo.new (n := _) ga76 ga76 e76
          have hK := hK.ext hmz
          have hmo := hmo.tr hmz hmo.1
          have hm1 := hmo.1
          refine xr_dup dX2_obstacle_79 (by first | rfl | exact cat_rf _) ?_
          refine xr_bipush dX2_obstacle_80 (by decide) ?_
          refine xr_aload_n dX2_obstacle_82 rfl (by first | rfl | exact isRef_rf _) ?_
          refine xr_aload_n dX2_obstacle_83 rfl (by first | rfl | exact isRef_rf _) ?_
          refine xr_callV (n9 := 1) (rc' := 0) (rs' := 0) (k_P_noiseOf hG hK hB hb) hK.hq rfl q324 q325 q326 q87 q327 (by decide +kernel) rfl ⟨by decide, Nat.le_of_ble_eq_true rfl⟩ ⟨Nat.le_of_ble_eq_true rfl, Nat.le_of_ble_eq_true rfl⟩ (Nat.le_of_ble_eq_true rfl) dX2_obstacle_84 rfl (xk_e fun w84 hm84 => ?_) (fun _ _ _ h => h.elim)
          have hmo := hmo.tr hm84 hmo.1
          have hm1 := hmo.1
          have hK := hK.ext hm84
          have hz76 := hz76.ext hm84
          refine xr_callI (n9 := 2) (rc' := 0) (rs' := 0) (k_Rej_init2 hG hz76 ba76) q1119 q1045 q116 q1046 rfl (by decide +kernel) rfl ⟨by decide, Nat.le_of_ble_eq_true rfl⟩ ⟨Nat.le_of_ble_eq_true rfl, Nat.le_of_ble_eq_true rfl⟩ (Nat.le_of_ble_eq_true rfl) dX2_obstacle_87 rfl (fun r w87 hw => ?_) (fun _ _ _ h => h.elim)
          obtain ⟨rfl, ho9, hf9⟩ := hw
          first | refine xr_areturn rfl rfl dX2_obstacle_90 ?_ | refine xr_areturnN rfl rfl dX2_obstacle_90 ?_
          rw [hpo]
          have e9 : barred P t b = (8, noiseOf P b) := by unfold barred; rw [if_neg c4, if_neg (by omega), if_neg (by omega), if_pos (by omega)]
          have hm8 := hmz.1
          refine ⟨some a76, rfl, hmo.tr (hf9.mo (n := w.2) (fun b9 _ q9 => by omega)) (Nat.le_refl _), (fun h => nomatch h), fun a9 h9 => ?_⟩
          obtain rfl : a76 = a9 := Option.some.inj h9
          rw [e9]
          exact ⟨by show (8 : Int) ≠ 0; decide, ho9, by omega⟩
      · skip
        try simp only [decide_eq_true_eq, decide_eq_false_iff_not] at c48
        refine xr_newZ (rc' := 2) (rs' := 4) q1115 q1036 q116 ⟨Nat.le_of_ble_eq_true rfl, Nat.le_of_ble_eq_true rfl⟩ dX2_obstacle_51 (fun a51 e51 ga51 ba51 hz51 => ?_)
        have hK7 := hK.ext (Mo.new ga51 ga51 e51)
        refine xr_dup dX2_obstacle_54 (by first | rfl | exact cat_rf _) ?_
        refine xr_bipush dX2_obstacle_55 (by decide) ?_
        refine xr_aload_n dX2_obstacle_57 rfl (by first | rfl | exact isRef_rf _) ?_
        refine xr_getfieldN (ci := 3) (T := TX10) (N := 7) (i := 4) (hK7.be b hb.1 hb.2) rfl (by decide) in_X10 q815 (.inl rfl) dX2_obstacle_58 (by rfl) ?_
        rw [opt_ne c48]
        show XJ _ _ _ _ _ _ _ _ _ _ _ _ [.ref (L (50 + (P (13 + 6 * b) - 1))), _, _, _]
        refine xr_callVU (n9 := 0) (rc' := 2) (rs' := 4) (k_index_T hG (hK7.te (P (13 + 6 * b) - 1) (by omega) (by omega))) (hK7.te (P (13 + 6 * b) - 1) (by omega) (by omega)) rfl q1116 q1117 rfl q804 q1118 q107 q805 (by decide +kernel) rfl ⟨by decide, Nat.le_of_ble_eq_true rfl⟩ ⟨Nat.le_of_ble_eq_true rfl, Nat.le_of_ble_eq_true rfl⟩ (Nat.le_of_ble_eq_true rfl) dX2_obstacle_61 rfl (xk_r ?_) (fun _ _ _ h => h.elim)
        refine xr_callI (n9 := 2) (rc' := 2) (rs' := 4) (k_Rej_init2 hG hz51 ba51) q1119 q1045 q116 q1046 rfl (by decide +kernel) rfl ⟨by decide, Nat.le_of_ble_eq_true rfl⟩ ⟨Nat.le_of_ble_eq_true rfl, Nat.le_of_ble_eq_true rfl⟩ (Nat.le_of_ble_eq_true rfl) dX2_obstacle_64 rfl (fun r w64 hw => ?_) (fun _ _ _ h => h.elim)
        obtain ⟨rfl, ho9, hf9⟩ := hw
        first | refine xr_areturn rfl rfl dX2_obstacle_67 ?_ | refine xr_areturnN rfl rfl dX2_obstacle_67 ?_
        rw [hpo]
        have e9 : barred P t b = (7, P (13 + 6 * b) - 1) := by unfold barred; rw [if_neg c4, if_neg (by omega), if_pos c48]
        refine ⟨some a51, rfl, (hmo.tr (Mo.new (n := _) ga51 ga51 e51) hmo.1).tr (hf9.mo (n := w.2) (fun b9 _ q9 => by omega)) (Nat.le_refl _), (fun h => nomatch h), fun a9 h9 => ?_⟩
        obtain rfl : a51 = a9 := Option.some.inj h9
        rw [e9]
        exact ⟨by show (7 : Int) ≠ 0; decide, ho9, by omega⟩
    · skip
      have c24 : P (102 + t) ≠ 0 := fun h9 => c24 (opt_eq h9)
      refine xr_newZ (rc' := 2) (rs' := 4) q1115 q1036 q116 ⟨Nat.le_of_ble_eq_true rfl, Nat.le_of_ble_eq_true rfl⟩ dX2_obstacle_27 (fun a27 e27 ga27 ba27 hz27 => ?_)
      have hK7 := hK.ext (Mo.new ga27 ga27 e27)
      refine xr_dup dX2_obstacle_30 (by first | rfl | exact cat_rf _) ?_
      refine xr_bipush dX2_obstacle_31 (by decide) ?_
      refine xr_aload_n dX2_obstacle_33 rfl (by first | rfl | exact isRef_rf _) ?_
      refine xr_getfieldN (ci := 5) (T := TX11) (N := 4) (i := 3) (hK7.te t ht.1 ht.2) rfl (by decide) in_X11 q848 (.inl rfl) dX2_obstacle_34 (by rfl) ?_
      rw [opt_ne c24]
      show XJ _ _ _ _ _ _ _ _ _ _ _ _ [.ref (L (10 + (P (102 + t) - 1))), _, _, _]
      refine xr_callVU (n9 := 0) (rc' := 2) (rs' := 4) (k_index_B hG (hK7.be (P (102 + t) - 1) (by omega) (by omega))) (hK7.be (P (102 + t) - 1) (by omega) (by omega)) rfl q859 q801 rfl q804 q803 q107 q805 (by decide +kernel) rfl ⟨by decide, Nat.le_of_ble_eq_true rfl⟩ ⟨Nat.le_of_ble_eq_true rfl, Nat.le_of_ble_eq_true rfl⟩ (Nat.le_of_ble_eq_true rfl) dX2_obstacle_37 rfl (xk_r ?_) (fun _ _ _ h => h.elim)
      refine xr_callI (n9 := 2) (rc' := 2) (rs' := 4) (k_Rej_init2 hG hz27 ba27) q1119 q1045 q116 q1046 rfl (by decide +kernel) rfl ⟨by decide, Nat.le_of_ble_eq_true rfl⟩ ⟨Nat.le_of_ble_eq_true rfl, Nat.le_of_ble_eq_true rfl⟩ (Nat.le_of_ble_eq_true rfl) dX2_obstacle_40 rfl (fun r w40 hw => ?_) (fun _ _ _ h => h.elim)
      obtain ⟨rfl, ho9, hf9⟩ := hw
      first | refine xr_areturn rfl rfl dX2_obstacle_43 ?_ | refine xr_areturnN rfl rfl dX2_obstacle_43 ?_
      rw [hpo]
      have e9 : barred P t b = (6, P (102 + t) - 1) := by unfold barred; rw [if_neg c4, if_pos c24]
      refine ⟨some a27, rfl, (hmo.tr (Mo.new (n := _) ga27 ga27 e27) hmo.1).tr (hf9.mo (n := w.2) (fun b9 _ q9 => by omega)) (Nat.le_refl _), (fun h => nomatch h), fun a9 h9 => ?_⟩
      obtain rfl : a27 = a9 := Option.some.inj h9
      rw [e9]
      exact ⟨by show (6 : Int) ≠ 0; decide, ho9, by omega⟩
  · skip
    try simp only [decide_eq_true_eq, decide_eq_false_iff_not] at c4
    refine xr_newZ (rc' := 2) (rs' := 4) q1115 q1036 q116 ⟨Nat.le_of_ble_eq_true rfl, Nat.le_of_ble_eq_true rfl⟩ dX2_obstacle_7 (fun a7 e7 ga7 ba7 hz7 => ?_)
    have hK7 := hK.ext (Mo.new ga7 ga7 e7)
    refine xr_dup dX2_obstacle_10 (by first | rfl | exact cat_rf _) ?_
    refine xr_iconst dX2_obstacle_11 ?_
    refine xr_aload_n dX2_obstacle_12 rfl (by first | rfl | exact isRef_rf _) ?_
    refine xr_callVU (n9 := 0) (rc' := 2) (rs' := 4) (k_index_T hG (hK7.te t ht.1 ht.2)) (hK7.te t ht.1 ht.2) rfl q1116 q1117 rfl q804 q1118 q107 q805 (by decide +kernel) rfl ⟨by decide, Nat.le_of_ble_eq_true rfl⟩ ⟨Nat.le_of_ble_eq_true rfl, Nat.le_of_ble_eq_true rfl⟩ (Nat.le_of_ble_eq_true rfl) dX2_obstacle_13 rfl (xk_r ?_) (fun _ _ _ h => h.elim)
    refine xr_callI (n9 := 2) (rc' := 2) (rs' := 4) (k_Rej_init2 hG hz7 ba7) q1119 q1045 q116 q1046 rfl (by decide +kernel) rfl ⟨by decide, Nat.le_of_ble_eq_true rfl⟩ ⟨Nat.le_of_ble_eq_true rfl, Nat.le_of_ble_eq_true rfl⟩ (Nat.le_of_ble_eq_true rfl) dX2_obstacle_16 rfl (fun r w16 hw => ?_) (fun _ _ _ h => h.elim)
    obtain ⟨rfl, ho9, hf9⟩ := hw
    first | refine xr_areturn rfl rfl dX2_obstacle_19 ?_ | refine xr_areturnN rfl rfl dX2_obstacle_19 ?_
    rw [hpo]
    have e9 : barred P t b = (5, t) := by unfold barred; rw [if_pos c4]
    refine ⟨some a7, rfl, (hmo.tr (Mo.new (n := _) ga7 ga7 e7) hmo.1).tr (hf9.mo (n := w.2) (fun b9 _ q9 => by omega)) (Nat.le_refl _), (fun h => nomatch h), fun a9 h9 => ?_⟩
    obtain rfl : a7 = a9 := Option.some.inj h9
    rw [e9]
    exact ⟨by show (5 : Int) ≠ 0; decide, ho9, by omega⟩
theorem barred_0 {P : Int → Int} {t b : Int} (h : (barred P t b).1 = 0) : P (87 + 2 * t) ≠ 3 ∧ P (102 + t) = 0 ∧ P (13 + 6 * b) = 0 ∧ noiseOf P b ≤ P 3 ∧ rent P b ≤ P (86 + 2 * t) := by
  unfold barred at h
  split at h
  · exact absurd (show (5 : Int) = 0 from h) (by decide)
  · split at h
    · exact absurd (show (6 : Int) = 0 from h) (by decide)
    · split at h
      · exact absurd (show (7 : Int) = 0 from h) (by decide)
      · split at h
        · exact absurd (show (8 : Int) = 0 from h) (by decide)
        · split at h
          · exact absurd (show (9 : Int) = 0 from h) (by decide)
          · omega
theorem k_P_join {g : GG} {w : WW} {n0 : Nat → Prop} {q : Nat} {L : Int → Nat} {P : Int → Int}  {b : Int} {t : Int} (hG : Base g) (hK : PK g w n0 q L P) (hb : 0 ≤ b ∧ b < P 0) (ht : 0 ≤ t ∧ t < P 2) : Ct g yX2_join (.code yX2_join cX2_join 3 none) 0 0 0 0 w [.ref q, .ref (L (50 + t)), .ref (L (10 + b))] (fun r_ w1 => r_ = none ∧ PK g w1 n0 q L (updI (updI P (102 + t) (b + 1)) (13 + 6 * b) (t + 1)) ∧ Fr n0 w w1) xF := by
  refine Ct.of (lv := [some _, some _, some _]) hG (by decide +kernel) (Nat.le_of_ble_eq_true rfl) rfl ?_
  intro z hg hpo hxp hnm htab
  subst hg
  have hc0 := hK.c0
  refine xr_aload_n dX2_join_0 rfl (by first | rfl | exact isRef_rf _) ?_
  refine xr_aload_n dX2_join_1 rfl (by first | rfl | exact isRef_rf _) ?_
  refine xr_putfieldN (ci := 5) (T := TX11) (N := 4) (i := 3) (fs' := [_, _, _, _]) (hK.te t ht.1 ht.2) rfl (by decide) in_X11 tyX11 tyX11_ok nmX11 q848 (.inl rfl) rfl dX2_join_2 (by first | rfl | exact nar_bI _ | exact nar_rf _) (by first | rfl | exact fit_bI _ | exact fit_rf _ _) (by simp) (by rfl) (.inl rfl) (fun hob2 => ?_)
  have hK1 := hK.setT' (P' := (updI P (102 + t) (b + 1))) ht (fs := [.int (iI t), .int (iI (P (86 + 2 * t))), .int (iI (P (87 + 2 * t))), .ref (L (10 + b))]) (by simp only [tF, updI, ↓reduceIte]; (repeat first | rw [if_pos (by omega)] | rw [if_neg (by omega)]); rw [opt_ne (by omega), show b + 1 - 1 = b by omega]; first | rfl | (repeat first | rfl | rw [if_pos (by omega)] | rw [if_neg (by omega)])) (by intro k hk; rw [updI, if_neg (by omega)]) (by rw [updI, if_pos rfl]; omega)
  have hbe := (hK.be b hb.1 hb.2).put_k (f' := [.int (iI t), .int (iI (P (86 + 2 * t))), .int (iI (P (87 + 2 * t))), .ref (L (10 + b))]) (hK.te t ht.1 ht.2) (by decide)
  refine xr_aload_n dX2_join_5 rfl (by first | rfl | exact isRef_rf _) ?_
  refine xr_aload_n dX2_join_6 rfl (by first | rfl | exact isRef_rf _) ?_
  refine xr_putfieldN (ci := 3) (T := TX10) (N := 7) (i := 4) (fs' := [_, _, _, _, _, _, _]) hbe rfl (by decide) in_X10 tyX10 tyX10_ok nmX10 q815 (.inl rfl) rfl dX2_join_7 (by first | rfl | exact nar_bI _ | exact nar_rf _) (by first | rfl | exact fit_bI _ | exact fit_rf _ _) (by simp) (by rfl) (.inl rfl) (fun hob7 => ?_)
  have hK2 := hK1.setB' (P' := (updI (updI P (102 + t) (b + 1)) (13 + 6 * b) (t + 1))) (i := b) (by rw [show (updI P (102 + t) (b + 1)) 0 = P 0 from updI_ne (by omega)]; exact hb) (fs := [.int (iI (P (10 + 6 * b))), .int (iI (P (11 + 6 * b))), .int (iI b), .int (iI (P (12 + 6 * b))), .ref (L (50 + t)), .int (iI (P (14 + 6 * b))), .int (iI (P (15 + 6 * b)))]) (by simp only [bF, updI, ↓reduceIte]; (repeat first | rw [if_pos (by omega)] | rw [if_neg (by omega)]); rw [opt_ne (by omega), show t + 1 - 1 = t by omega]; first | rfl | (repeat first | rfl | rw [if_pos (by omega)] | rw [if_neg (by omega)])) (by intro k hk; rw [updI, if_neg (by omega)]) (by rw [updI, if_pos rfl, show (updI P (102 + t) (b + 1)) 2 = P 2 from updI_ne (by omega)]; omega)
  refine xr_return rfl dX2_join_10 ?_
  rw [hpo]
  exact ⟨rfl, hK2, (Fr.put (hK.at ht.1 ht.2) _).tq (Fr.put (hK.ab hb.1 hb.2) _)⟩
theorem k_P_lease {g : GG} {w : WW} {n0 : Nat → Prop} {q : Nat} {L : Int → Nat} {P : Int → Int} {N : Int} {b : Int} {t m : Int} (hG : Base g) (hK : PK g w n0 q L P) (hB : PB P N) (hb : 0 ≤ b ∧ b < P 0) (ht : 0 ≤ t ∧ t < P 2) : Ct g yX2_lease (.code yX2_lease cX2_lease 7 (some .int)) 15 3166 4 15 w [.ref q, .int (iI t), .int (iI b), .int (iI m)] (fun r_ w1 => (barred P t b).1 = 0 ∧ r_ = some (.int (iI (rent P b))) ∧ PK g w1 n0 q L (oLease P t b m) ∧ Fr n0 w w1) (fun E a9 w1 => E = "BenchBroker$Rejection" ∧ ((barred P t b).1 ≠ 0 ∧ Ob w1 a9 6 [.int (iI (barred P t b).1), .int (iI (barred P t b).2), .int (iI 0)]) ∧ Mo w.2 w w1 ∧ w.2 ≤ a9) := by
  refine Ct.of (lv := [some _, some _, some _, some _, none, none, none]) hG (by decide +kernel) (Nat.le_of_ble_eq_true rfl) rfl ?_
  intro z hg hpo hxp hnm htab
  subst hg
  have hgg := hB.g
  have hc0 := hK.c0
  have hmN : Fr n0 w w := Fr.rf
  have hK0 := hK
  refine xr_aload_n dX2_lease_0 rfl (by first | rfl | exact isRef_rf _) ?_
  refine xr_getfield (ci := 0) (T := TX2) (N := 10) (i := 2) hK.hq rfl (by decide) in_X2 q192 (.inl rfl) dX2_lease_1 (by rfl) ?_
  refine xr_iload_n dX2_lease_4 rfl ?_
  refine xr_callV (n9 := 1) (rc' := 4) (rs' := 15) (k_Reg_get hG hK.r2 hK.l2 ⟨by omega, by omega⟩ rfl (hK.te (t) (by omega) (by omega)) rfl q2759) hK.r2 rfl q473 q474 q475 q88 q476 (by decide +kernel) rfl ⟨by decide, Nat.le_of_ble_eq_true rfl⟩ ⟨Nat.le_of_ble_eq_true rfl, Nat.le_of_ble_eq_true rfl⟩ (Nat.le_of_ble_eq_true rfl) dX2_lease_5 rfl (xk_r ?_) (fun _ _ _ h => h.elim)
  refine xr_castS (hK.te t ht.1 ht.2) rfl q836 dX2_lease_8 ?_
  refine xr_astore (lv' := [some _, some _, some _, some _, some _, none, none]) dX2_lease_11 (by decide) rfl (by first | rfl | exact isRef_rf _) rfl ?_
  refine xr_aload_n dX2_lease_13 rfl (by first | rfl | exact isRef_rf _) ?_
  refine xr_getfield (ci := 0) (T := TX2) (N := 10) (i := 0) hK.hq rfl (by decide) in_X2 q186 (.inl rfl) dX2_lease_14 (by rfl) ?_
  refine xr_iload_n dX2_lease_17 rfl ?_
  refine xr_callV (n9 := 1) (rc' := 4) (rs' := 15) (k_Reg_get hG hK.r0 hK.l0 ⟨by omega, by omega⟩ rfl (hK.be (b) (by omega) (by omega)) rfl q2757) hK.r0 rfl q473 q474 q475 q88 q476 (by decide +kernel) rfl ⟨by decide, Nat.le_of_ble_eq_true rfl⟩ ⟨Nat.le_of_ble_eq_true rfl, Nat.le_of_ble_eq_true rfl⟩ (Nat.le_of_ble_eq_true rfl) dX2_lease_18 rfl (xk_r ?_) (fun _ _ _ h => h.elim)
  refine xr_castS (hK.be b hb.1 hb.2) rfl q794 dX2_lease_21 ?_
  refine xr_astore (lv' := [some _, some _, some _, some _, some _, some _, none]) dX2_lease_24 (by decide) rfl (by first | rfl | exact isRef_rf _) rfl ?_
  refine xr_aload_n dX2_lease_26 rfl (by first | rfl | exact isRef_rf _) ?_
  refine xr_aload dX2_lease_27 rfl (by first | rfl | exact isRef_rf _) ?_
  refine xr_aload dX2_lease_29 rfl (by first | rfl | exact isRef_rf _) ?_
  refine xr_callV (n9 := 2) (rc' := 1) (rs' := 2) (k_P_obstacle hG hK hB hb ht) hK.hq rfl q1107 q1108 q1109 q87 q1110 (by decide +kernel) rfl ⟨by decide, Nat.le_of_ble_eq_true rfl⟩ ⟨Nat.le_of_ble_eq_true rfl, Nat.le_of_ble_eq_true rfl⟩ (Nat.le_of_ble_eq_true rfl) dX2_lease_31 rfl (fun r w31 hw => ?_) (fun _ _ _ h => h.elim)
  obtain ⟨o, rfl, hm31, hn31, hs31⟩ := hw
  have hmN := hmN.trm hm31
  have hK := hK.ext hm31
  show XJ _ _ _ _ _ _ _ _ _ _ _ _ [va_rf o]
  refine xr_astore (lv' := [some _, some _, some _, some _, some _, some _, some _]) dX2_lease_34 (by decide) rfl (by first | rfl | exact isRef_rf _) rfl ?_
  refine xr_aload dX2_lease_36 rfl (by first | rfl | exact isRef_rf _) ?_
  refine xr_ifnull (tgt := 44) dX2_lease_38 (by decide) (fun c38 => ?_) (fun c38 => ?_)
  · skip
    have h0 := hn31 c38
    obtain ⟨b1, b2, b3, b4, b5⟩ := barred_0 h0
    refine xr_aload dX2_lease_44 rfl (by first | rfl | exact isRef_rf _) ?_
    refine xr_aload_n dX2_lease_46 rfl (by first | rfl | exact isRef_rf _) ?_
    refine xr_aload dX2_lease_47 rfl (by first | rfl | exact isRef_rf _) ?_
    refine xr_callV (n9 := 1) (rc' := 0) (rs' := 0) (k_P_rentOf hG hK hB hb) hK.hq rfl q872 q873 q874 q87 q875 (by decide +kernel) rfl ⟨by decide, Nat.le_of_ble_eq_true rfl⟩ ⟨Nat.le_of_ble_eq_true rfl, Nat.le_of_ble_eq_true rfl⟩ (Nat.le_of_ble_eq_true rfl) dX2_lease_49 rfl (xk_e fun w49 hm49 => ?_) (fun _ _ _ h => h.elim)
    have hmN := hmN.trm hm49
    have hK := hK.ext hm49
    refine xr_putfieldN (ci := 3) (T := TX10) (N := 7) (i := 5) (fs' := [_, _, _, _, _, _, _]) (hK.be b hb.1 hb.2) rfl (by decide) in_X10 tyX10 tyX10_ok nmX10 q819 (.inl rfl) rfl dX2_lease_52 (by first | rfl | exact nar_bI _ | exact nar_rf _) (by first | rfl | exact fit_bI _ | exact fit_rf _ _) (by simp) (by rfl) (.inl rfl) (fun hob52 => ?_)
    have hK1 := hK.setB' (P' := (updI P (14 + 6 * b) (rent P b))) hb (fs := [.int (iI (P (10 + 6 * b))), .int (iI (P (11 + 6 * b))), .int (iI b), .int (iI (P (12 + 6 * b))), va_rf (opt L 50 (P (13 + 6 * b))), .int (iI (rent P b)), .int (iI (P (15 + 6 * b)))]) (by simp only [bF, updI, ↓reduceIte]; repeat first | rfl | rw [if_pos (by omega)] | rw [if_neg (by omega)]) (by intro k hk; rw [updI, if_neg (by omega)]) (by rw [updI, if_neg (by omega)]; exact hK.bt b hb.1 hb.2)
    refine xr_aload dX2_lease_55 rfl (by first | rfl | exact isRef_rf _) ?_
    refine xr_iload_n dX2_lease_57 rfl ?_
    refine xr_putfieldN (ci := 3) (T := TX10) (N := 7) (i := 6) (fs' := [_, _, _, _, _, _, _]) hob52 rfl (by decide) in_X10 tyX10 tyX10_ok nmX10 q822 (.inl rfl) rfl dX2_lease_58 (by first | rfl | exact nar_bI _ | exact nar_rf _) (by first | rfl | exact fit_bI _ | exact fit_rf _ _) (by simp) (by rfl) (.inl rfl) (fun hob58 => ?_)
    have hK2 := hK1.setB' (P' := (updI (updI P (14 + 6 * b) (rent P b)) (15 + 6 * b) m)) (i := b) (by rw [show (updI P (14 + 6 * b) (rent P b)) 0 = P 0 from (by simp only [updI]; repeat first | rfl | rw [if_pos (by omega)] | rw [if_neg (by omega)])]; exact hb) (fs := [.int (iI (P (10 + 6 * b))), .int (iI (P (11 + 6 * b))), .int (iI b), .int (iI (P (12 + 6 * b))), va_rf (opt L 50 (P (13 + 6 * b))), .int (iI (rent P b)), .int (iI m)]) (by simp only [bF, updI, ↓reduceIte]; repeat first | rfl | rw [if_pos (by omega)] | rw [if_neg (by omega)]) (by intro k hk; rw [updI, if_neg (by omega)]) (by rw [updI, if_neg (by omega), show (updI P (14 + 6 * b) (rent P b)) (13 + 6 * b) = P (13 + 6 * b) from (by simp only [updI]; repeat first | rfl | rw [if_pos (by omega)] | rw [if_neg (by omega)]), show (updI P (14 + 6 * b) (rent P b)) 2 = P 2 from (by simp only [updI]; repeat first | rfl | rw [if_pos (by omega)] | rw [if_neg (by omega)])]; exact hK.bt b hb.1 hb.2)
    have hte2 := ((hK.te t ht.1 ht.2).put_k (f' := [.int (iI (P (10 + 6 * b))), .int (iI (P (11 + 6 * b))), .int (iI b), .int (iI (P (12 + 6 * b))), va_rf (opt L 50 (P (13 + 6 * b))), .int (iI (rent P b)), .int (iI (P (15 + 6 * b)))]) (hK.be b hb.1 hb.2) (by decide)).put_k (f' := [.int (iI (P (10 + 6 * b))), .int (iI (P (11 + 6 * b))), .int (iI b), .int (iI (P (12 + 6 * b))), va_rf (opt L 50 (P (13 + 6 * b))), .int (iI (rent P b)), .int (iI m)]) hob52 (by decide)
    refine xr_aload dX2_lease_61 rfl (by first | rfl | exact isRef_rf _) ?_
    refine xr_dup dX2_lease_63 (by first | rfl | exact cat_rf _) ?_
    refine xr_getfieldN (ci := 5) (T := TX11) (N := 4) (i := 1) hte2 rfl (by decide) in_X11 q843 (.inl rfl) dX2_lease_64 (by rfl) ?_
    refine xr_aload dX2_lease_67 rfl (by first | rfl | exact isRef_rf _) ?_
    refine xr_getfieldN (ci := 3) (T := TX10) (N := 7) (i := 5) hob58 rfl (by decide) in_X10 q819 (.inl rfl) dX2_lease_69 (by rfl) ?_
    refine xr_isub dX2_lease_72 ?_
    refine xr_putfieldN (ci := 5) (T := TX11) (N := 4) (i := 1) (fs' := [_, _, _, _]) hte2 rfl (by decide) in_X11 tyX11 tyX11_ok nmX11 q843 (.inl rfl) rfl dX2_lease_73 (by first | rfl | exact nar_bI _ | exact nar_rf _) (by first | rfl | exact fit_bI _ | exact fit_rf _ _) (by simp) (by rfl) (.inl rfl) (fun hob73 => ?_)
    have hK3 := hK2.setT' (P' := (updI (updI (updI P (14 + 6 * b) (rent P b)) (15 + 6 * b) m) (86 + 2 * t) (P (86 + 2 * t) - rent P b))) (i := t) (by rw [show (updI (updI P (14 + 6 * b) (rent P b)) (15 + 6 * b) m) 2 = P 2 from (by simp only [updI]; repeat first | rfl | rw [if_pos (by omega)] | rw [if_neg (by omega)])]; exact ht) (fs := [.int (iI t), .int (iI (P (86 + 2 * t) - rent P b)), .int (iI (P (87 + 2 * t))), va_rf (opt L 10 (P (102 + t)))]) (by simp only [tF, updI, ↓reduceIte]; repeat first | rfl | rw [if_pos (by omega)] | rw [if_neg (by omega)]) (by intro k hk; rw [updI, if_neg (by omega)]) (by rw [updI, if_neg (by omega), show (updI (updI P (14 + 6 * b) (rent P b)) (15 + 6 * b) m) (102 + t) = P (102 + t) from (by simp only [updI]; repeat first | rfl | rw [if_pos (by omega)] | rw [if_neg (by omega)]), show (updI (updI P (14 + 6 * b) (rent P b)) (15 + 6 * b) m) 0 = P 0 from (by simp only [updI]; repeat first | rfl | rw [if_pos (by omega)] | rw [if_neg (by omega)])]; exact hK.tb t ht.1 ht.2)
    refine xr_aload_n dX2_lease_76 rfl (by first | rfl | exact isRef_rf _) ?_
    refine xr_aload dX2_lease_77 rfl (by first | rfl | exact isRef_rf _) ?_
    refine xr_aload dX2_lease_79 rfl (by first | rfl | exact isRef_rf _) ?_
    refine xr_callV (n9 := 2) (rc' := 0) (rs' := 0) (k_P_join hG hK3 (b := b) (t := t) (by rw [show (updI (updI (updI P (14 + 6 * b) (rent P b)) (15 + 6 * b) m) (86 + 2 * t) (P (86 + 2 * t) - rent P b)) 0 = P 0 from (by simp only [updI]; repeat first | rfl | rw [if_pos (by omega)] | rw [if_neg (by omega)])]; exact hb) (by rw [show (updI (updI (updI P (14 + 6 * b) (rent P b)) (15 + 6 * b) m) (86 + 2 * t) (P (86 + 2 * t) - rent P b)) 2 = P 2 from (by simp only [updI]; repeat first | rfl | rw [if_pos (by omega)] | rw [if_neg (by omega)])]; exact ht)) hK3.hq rfl q860 q862 qs9 q87 q863 (by decide +kernel) rfl ⟨by decide, Nat.le_of_ble_eq_true rfl⟩ ⟨Nat.le_of_ble_eq_true rfl, Nat.le_of_ble_eq_true rfl⟩ (Nat.le_of_ble_eq_true rfl) dX2_lease_81 rfl (fun r w81 hw => ?_) (fun _ _ _ h => h.elim)
    obtain ⟨rfl, hK4, hm4⟩ := hw
    have hK4 : PK (zg z) w81 n0 q L (oLease P t b m) := hK4
    refine xr_aload dX2_lease_84 rfl (by first | rfl | exact isRef_rf _) ?_
    refine xr_getfieldN (ci := 3) (T := TX10) (N := 7) (i := 5) (hK4.be b hb.1 (by rw [show oLease P t b m 0 = P 0 from by simp only [oLease, updI]; repeat first | rfl | rw [if_pos (by omega)] | rw [if_neg (by omega)]]; exact hb.2)) rfl (by decide) in_X10 q819 (.inl rfl) dX2_lease_86 (by rfl) ?_
    rw [show oLease P t b m (14 + 6 * b) = rent P b from by simp only [oLease, updI]; repeat first | rfl | rw [if_pos (by omega)] | rw [if_neg (by omega)]]
    refine xr_ireturn rfl rfl dX2_lease_89 ?_
    rw [hpo]
    exact ⟨h0, rfl, hK4, (((hmN.tq (Fr.put (hK.ab hb.1 hb.2) _)).tq (Fr.put (hK.ab hb.1 hb.2) _)).tq (Fr.put (hK.at ht.1 ht.2) _)).tq hm4⟩
  · skip
    obtain ⟨a9, rfl⟩ : ∃ a9, o = some a9 := by
      cases o with
      | none => exact absurd rfl c38
      | some a9 => exact ⟨a9, rfl⟩
    obtain ⟨h1, ho9, hq9⟩ := hs31 a9 rfl
    refine xr_aload dX2_lease_41 rfl (by first | rfl | exact isRef_rf _) ?_
    show XJ _ _ _ _ _ _ _ _ _ _ _ _ [.ref a9]
    refine xr_athrow ho9 rfl dX2_lease_43 ?_
    exact xt_out (fun x hx => (htab x hx).elim) (by rw [hxp]; exact ⟨rfl, ⟨h1, ho9⟩, hm31, hq9⟩)
