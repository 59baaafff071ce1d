/-! 24.rej.lean.txt (written by tools/walker.py)  -/
set_option maxRecDepth 100000
theorem k_Rej_init3 {g : GG} {w : WW} {a : Nat} {r d c : Int} (hG : Base g) (hz : Fz g w a "BenchBroker$Rejection") (hge : gb g ≤ a) : Ct g yX12_init_2 (.code yX12_init_2 cX12_init_2 4 none) 4 54 0 0 w [.ref a, .int (iI r), .int (iI d), .int (iI c)] (fun r_ w1 => r_ = none ∧ Ob w1 a 6 [.int (iI r), .int (iI d), .int (iI c)] ∧ Fr (fun b => b = a) w w1) xF := by
  refine Ct.of (lv := [some _, some _, some _, some _]) hG (by decide +kernel) (Nat.le_of_ble_eq_true rfl) rfl ?_
  intro z hg hpo hxp hnm htab
  subst hg
  refine xr_aload_n dX12_init_2_0 rfl (by first | rfl | exact isRef_rf _) ?_
  refine xr_excInit (ci := 6) (N := 3) (T := TR_) (n9 := 9) (Cn := "BenchBroker$Rejection") (Xn := "java/lang/Exception") (names := []) tyR_ [.int (iI 0), .int (iI 0), .int (iI 0)] hz hge rfl in_R_ tyR_ok (fun _ _ => rfl) (by intro j hj; rcases (show j = 0 ∨ j = 1 ∨ j = 2 by omega) with rfl | rfl | rfl <;> rfl) (by decide +kernel) (by decide +kernel) (at_words [97, 546, 555, 567, 570, 572, 547, 548, 139, 140, 549, 554, 568, 588, 536, 589, 538, 590, 540, 550, 552, 542, 698, 699, 700, 547, 531, 1050, 1036, 1038, 558, 1039, 1040, 1041, 586, 544, 1043] (by decide +kernel) (by decide +kernel)) (by decide) (Nat.le_of_ble_eq_true rfl) dX12_init_2_1 (fun hob1 => ?_)
  refine xr_aload_n dX12_init_2_4 rfl (by first | rfl | exact isRef_rf _) ?_
  refine xr_iload_n dX12_init_2_5 rfl ?_
  refine xr_putfieldF (ci := 6) (T := TR_) (N := 3) (i := 0) (fs' := [_, _, _]) hob1 rfl (by decide) in_R_ tyR_ tyR_ok nmR_ q1051 (.inl rfl) rfl rfl hnm dX12_init_2_6 (by first | rfl | exact nar_bI _ | exact nar_rf _) (by first | rfl | exact fit_bI _ | exact fit_rf _ _) (by simp) (by rfl) (.inl rfl) (fun hob6 => ?_)
  refine xr_aload_n dX12_init_2_9 rfl (by first | rfl | exact isRef_rf _) ?_
  refine xr_iload_n dX12_init_2_10 rfl ?_
  refine xr_putfieldF (ci := 6) (T := TR_) (N := 3) (i := 1) (fs' := [_, _, _]) hob6 rfl (by decide) in_R_ tyR_ tyR_ok nmR_ q1053 (.inl rfl) rfl rfl hnm dX12_init_2_11 (by first | rfl | exact nar_bI _ | exact nar_rf _) (by first | rfl | exact fit_bI _ | exact fit_rf _ _) (by simp) (by rfl) (.inl rfl) (fun hob11 => ?_)
  refine xr_aload_n dX12_init_2_14 rfl (by first | rfl | exact isRef_rf _) ?_
  refine xr_iload_n dX12_init_2_15 rfl ?_
  refine xr_putfieldF (ci := 6) (T := TR_) (N := 3) (i := 2) (fs' := [_, _, _]) hob11 rfl (by decide) in_R_ tyR_ tyR_ok nmR_ q1055 (.inl rfl) rfl rfl hnm dX12_init_2_16 (by first | rfl | exact nar_bI _ | exact nar_rf _) (by first | rfl | exact fit_bI _ | exact fit_rf _ _) (by simp) (by rfl) (.inl rfl) (fun hob16 => ?_)
  refine xr_return rfl dX12_init_2_19 ?_
  rw [hpo]
  exact ⟨rfl, hob16, (((Fr.put1 _).tr (Fr.put1 _) (fun b _ q => q)).tr (Fr.put1 _) (fun b _ q => q)).tr (Fr.put1 _) (fun b _ q => q)⟩
theorem k_Rej_init2 {g : GG} {w : WW} {a : Nat} {r d : Int} (hG : Base g) (hz : Fz g w a "BenchBroker$Rejection") (hge : gb g ≤ a) : Ct g yX12_init (.code yX12_init cX12_init 3 none) 5 77 0 0 w [.ref a, .int (iI r), .int (iI d)] (fun r_ w1 => r_ = none ∧ Ob w1 a 6 [.int (iI r), .int (iI d), .int (iI 0)] ∧ Fr (fun b => b = a) w w1) xF := by
  refine Ct.of (lv := [some _, some _, some _]) hG (by decide +kernel) (Nat.le_of_ble_eq_true rfl) rfl ?_
  intro z hg hpo hxp hnm htab
  subst hg
  refine xr_aload_n dX12_init_0 rfl (by first | rfl | exact isRef_rf _) ?_
  refine xr_iload_n dX12_init_1 rfl ?_
  refine xr_iload_n dX12_init_2 rfl ?_
  refine xr_iconst dX12_init_3 ?_
  refine xr_callI (n9 := 3) (rc' := 0) (rs' := 0) (k_Rej_init3 hG hz hge) q1047 q1048 q116 q1049 rfl (by decide +kernel) rfl ⟨by decide, Nat.le_of_ble_eq_true rfl⟩ ⟨Nat.le_of_ble_eq_true rfl, Nat.le_of_ble_eq_true rfl⟩ (Nat.le_of_ble_eq_true rfl) dX12_init_4 rfl (fun r w4 hw => ?_) (fun _ _ _ h => h.elim)
  obtain ⟨rfl, h1, h2⟩ := hw
  refine xr_return rfl dX12_init_7 ?_
  rw [hpo]
  exact ⟨rfl, h1, h2⟩
theorem k_SE_init {g : GG} {w : WW} {a : Nat} {r : Int} (hG : Base g) (hz : Fz g w a "BenchBroker$SyntaxError") (hge : gb g ≤ a) : Ct g yX16_init (.code yX16_init cX16_init 2 none) 4 54 0 0 w [.ref a, .int (iI r)] (fun r_ w1 => r_ = none ∧ Ob w1 a 7 [.int (iI r)] ∧ Fr (fun b => b = a) w w1) xF := by
  refine Ct.of (lv := [some _, some _]) hG (by decide +kernel) (Nat.le_of_ble_eq_true rfl) rfl ?_
  intro z hg hpo hxp hnm htab
  subst hg
  refine xr_aload_n dX16_init_0 rfl (by first | rfl | exact isRef_rf _) ?_
  refine xr_excInit (ci := 7) (N := 1) (T := TS_) (n9 := 7) (Cn := "BenchBroker$SyntaxError") (Xn := "java/lang/Exception") (names := []) tyS_ [.int (iI 0)] hz hge rfl in_S_ tyS_ok (fun _ _ => rfl) (by intro j hj; obtain rfl : j = 0 := (by omega); rfl) (by decide +kernel) (by decide +kernel) (at_words [97, 546, 555, 567, 570, 572, 547, 548, 139, 140, 549, 554, 568, 588, 536, 589, 538, 590, 540, 550, 552, 542, 698, 699, 700, 547, 531, 1998, 1987, 1989, 559, 1990, 1991, 1992, 586, 544, 1994] (by decide +kernel) (by decide +kernel)) (by decide) (Nat.le_of_ble_eq_true rfl) dX16_init_1 (fun hob1 => ?_)
  refine xr_aload_n dX16_init_4 rfl (by first | rfl | exact isRef_rf _) ?_
  refine xr_iload_n dX16_init_5 rfl ?_
  refine xr_putfieldF (ci := 7) (T := TS_) (N := 1) (i := 0) (fs' := [_]) hob1 rfl (by decide) in_S_ tyS_ tyS_ok nmS_ q1999 (.inl rfl) rfl rfl hnm dX16_init_6 (by first | rfl | exact nar_bI _ | exact nar_rf _) (by first | rfl | exact fit_bI _ | exact fit_rf _ _) (by simp) (by rfl) (.inl rfl) (fun hob6 => ?_)
  refine xr_return rfl dX16_init_9 ?_
  rw [hpo]
  exact ⟨rfl, hob6, (Fr.put1 _).tr (Fr.put1 _) (fun b _ q => q)⟩
theorem k_rejectIf {g : GG} {w : WW} {b : Bool} {r d : Int} (hG : Base g)  : Ct g yX1_rejectIf (.code yX1_rejectIf cX1_rejectIf 3 none) 6 99 1 9 w [.int (bI b), .int (iI r), .int (iI d)] (fun r_ w1 => b = false ∧ r_ = none ∧ w1 = w) (fun E q w1 => b = true ∧ E = "BenchBroker$Rejection" ∧ Ob w1 q 6 [.int (iI r), .int (iI d), .int (iI 0)] ∧ Mo w.2 w w1 ∧ w.2 ≤ q) := by
  refine Ct.of (lv := [some _, some _, some _]) hG (by decide +kernel) (Nat.le_of_ble_eq_true rfl) rfl ?_
  intro z hg hpo hxp hnm htab
  subst hg
  refine xr_iload_n dX1_rejectIf_0 rfl ?_
  refine xr_ifb_eq (tgt := 14) dX1_rejectIf_1 (by decide) (fun c1 => ?_) (fun c1 => ?_)
  · skip
    try simp only [decide_eq_true_eq, decide_eq_false_iff_not] at c1
    refine xr_return rfl dX1_rejectIf_14 ?_
    rw [hpo]
    exact ⟨c1, rfl, rfl⟩
  · skip
    try simp only [decide_eq_true_eq, decide_eq_false_iff_not] at c1
    refine xr_newZ (rc' := 0) (rs' := 0) q1004 q1036 q116 ⟨Nat.le_of_ble_eq_true rfl, Nat.le_of_ble_eq_true rfl⟩ dX1_rejectIf_4 (fun a4 e4 ga4 ba4 hz4 => ?_)
    refine xr_dup dX1_rejectIf_7 (by first | rfl | exact cat_rf _) ?_
    refine xr_iload_n dX1_rejectIf_8 rfl ?_
    refine xr_iload_n dX1_rejectIf_9 rfl ?_
    refine xr_callI (n9 := 2) (rc' := 0) (rs' := 0) (k_Rej_init2 hG hz4 ba4) q1044 q1045 q116 q1046 rfl (by decide +kernel) rfl ⟨by decide, Nat.le_of_ble_eq_true rfl⟩ ⟨Nat.le_of_ble_eq_true rfl, Nat.le_of_ble_eq_true rfl⟩ (Nat.le_of_ble_eq_true rfl) dX1_rejectIf_10 rfl (fun r w10 hw => ?_) (fun _ _ _ h => h.elim)
    obtain ⟨rfl, h1, h2⟩ := hw
    refine xr_athrow h1 rfl dX1_rejectIf_13 ?_
    exact xt_out (fun x hx => (htab x hx).elim) (by rw [hxp]; exact ⟨c1, rfl, h1, (Mo.new ga4 ga4 _).tr (h2.mo (n := w.2) (fun b _ q => by omega)) (Nat.le_refl _), ga4⟩)
