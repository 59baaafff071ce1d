/-! 54.actions.lean.txt (written by tools/walker.py)  -/
set_option maxRecDepth 100000
theorem bI_sw {y : Int} (h : 0 ≤ y ∧ y ≤ 1) : bI (decide (y = 0)) = iI (1 - y) := by
  rcases (by omega : y = 0 ∨ y = 1) with rfl | rfl <;> decide +kernel
theorem fit_ch {v : Int} (h : 0 ≤ v ∧ v < 65536) : fits .char (.int (iI v)) = true := by
  have e1 : (0 : Int32) = iI 0 := by decide +kernel
  have e2 : (65535 : Int32) = iI 65535 := by decide +kernel
  simp only [fits, Bool.and_eq_true, decide_eq_true_eq]
  rw [e1, e2, iI_le (by omega), iI_le (by omega)]
  omega
theorem k_Act_first_A {g : GG} {w : WW} {a : Nat} {x y v k : Int} (hG : Base g) (ho : Ob w a 9 [.int (iI x), .int (iI y), .int (iI v), .int (iI k)]) : Ct g yX5_first (.code yX5_first cX5_first 1 (some .int)) 0 0 0 0 w [.ref a] (fun r_ w1 => r_ = some (.int (iI x)) ∧ w1 = w) xF := by
  refine Ct.of (lv := [some _]) hG (by decide +kernel) (Nat.le_of_ble_eq_true rfl) rfl ?_
  intro z hg hpo hxp hnm htab
  subst hg
  refine xr_aload_n dX5_first_0 rfl (by first | rfl | exact isRef_rf _) ?_
  refine xr_getfield (ci := 9) (T := TX6) (N := 4) (i := 0) (by assumption) rfl (by decide) in_X6 q988 (.inl rfl) dX5_first_1 (by rfl) ?_
  refine xr_ireturn rfl rfl dX5_first_4 ?_
  rw [hpo]
  first | exact ⟨rfl, rfl⟩ | exact ⟨ret_bt (by omega), rfl⟩ | exact ⟨ret_bf (by omega), rfl⟩ | exact ⟨ret_i (by omega), rfl⟩
theorem k_Act_second_A {g : GG} {w : WW} {a : Nat} {x y v k : Int} (hG : Base g) (ho : Ob w a 9 [.int (iI x), .int (iI y), .int (iI v), .int (iI k)]) : Ct g yX5_second (.code yX5_second cX5_second 1 (some .int)) 0 0 0 0 w [.ref a] (fun r_ w1 => r_ = some (.int (iI y)) ∧ w1 = w) xF := by
  refine Ct.of (lv := [some _]) hG (by decide +kernel) (Nat.le_of_ble_eq_true rfl) rfl ?_
  intro z hg hpo hxp hnm htab
  subst hg
  refine xr_aload_n dX5_second_0 rfl (by first | rfl | exact isRef_rf _) ?_
  refine xr_getfield (ci := 9) (T := TX6) (N := 4) (i := 1) (by assumption) rfl (by decide) in_X6 q989 (.inl rfl) dX5_second_1 (by rfl) ?_
  refine xr_ireturn rfl rfl dX5_second_4 ?_
  rw [hpo]
  first | exact ⟨rfl, rfl⟩ | exact ⟨ret_bt (by omega), rfl⟩ | exact ⟨ret_bf (by omega), rfl⟩ | exact ⟨ret_i (by omega), rfl⟩
theorem k_Act_third_A {g : GG} {w : WW} {a : Nat} {x y v k : Int} (hG : Base g) (ho : Ob w a 9 [.int (iI x), .int (iI y), .int (iI v), .int (iI k)]) : Ct g yX5_third (.code yX5_third cX5_third 1 (some .int)) 0 0 0 0 w [.ref a] (fun r_ w1 => r_ = some (.int (iI v)) ∧ w1 = w) xF := by
  refine Ct.of (lv := [some _]) hG (by decide +kernel) (Nat.le_of_ble_eq_true rfl) rfl ?_
  intro z hg hpo hxp hnm htab
  subst hg
  refine xr_aload_n dX5_third_0 rfl (by first | rfl | exact isRef_rf _) ?_
  refine xr_getfield (ci := 9) (T := TX6) (N := 4) (i := 2) (by assumption) rfl (by decide) in_X6 q990 (.inl rfl) dX5_third_1 (by rfl) ?_
  refine xr_ireturn rfl rfl dX5_third_4 ?_
  rw [hpo]
  first | exact ⟨rfl, rfl⟩ | exact ⟨ret_bt (by omega), rfl⟩ | exact ⟨ret_bf (by omega), rfl⟩ | exact ⟨ret_i (by omega), rfl⟩
theorem k_Act_init_A {g : GG} {w : WW} {a : Nat} {x0 y0 v0 x y v k : Int} (hG : Base g) (ho : Ob w a 9 [.int (iI x0), .int (iI y0), .int (iI v0), .int (iI k)]) : Ct g yX5_init (.code yX5_init cX5_init 4 none) 1 12 0 0 w [.ref a, .int (iI x), .int (iI y), .int (iI v)] (fun r_ w1 => r_ = none ∧ Ob w1 a 9 [.int (iI x), .int (iI y), .int (iI v), .int (iI k)] ∧ Fr (fun b => b = a) w w1) xF := by
  refine Ct.of (lv := [some _, some _, some _, some _]) hG (by decide +kernel) (Nat.le_of_ble_eq_true rfl) rfl ?_
  intro z hg hpo hxp hnm htab
  subst hg
  refine xr_aload_n dX5_init_0 rfl (by first | rfl | exact isRef_rf _) ?_
  refine xr_objInit q986 q139 q140 (by decide) (Nat.le_of_ble_eq_true rfl) dX5_init_1 ?_
  refine xr_aload_n dX5_init_4 rfl (by first | rfl | exact isRef_rf _) ?_
  refine xr_iload_n dX5_init_5 rfl ?_
  refine xr_putfieldF (ci := 9) (T := TX6) (N := 4) (i := 0) (fs' := [_, _, _, _]) ho rfl (by decide) in_X6 tyX6 tyX6_ok nmX6 q988 (.inl rfl) rfl rfl hnm dX5_init_6 (by first | rfl | exact nar_bI _ | exact nar_rf _) (by first | rfl | exact fit_bI _ | exact fit_rf _ _) (by simp) (by rfl) (.inl rfl) (fun hob6 => ?_)
  refine xr_aload_n dX5_init_9 rfl (by first | rfl | exact isRef_rf _) ?_
  refine xr_iload_n dX5_init_10 rfl ?_
  refine xr_putfieldF (ci := 9) (T := TX6) (N := 4) (i := 1) (fs' := [_, _, _, _]) hob6 rfl (by decide) in_X6 tyX6 tyX6_ok nmX6 q989 (.inl rfl) rfl rfl hnm dX5_init_11 (by first | rfl | exact nar_bI _ | exact nar_rf _) (by first | rfl | exact fit_bI _ | exact fit_rf _ _) (by simp) (by rfl) (.inl rfl) (fun hob11 => ?_)
  refine xr_aload_n dX5_init_14 rfl (by first | rfl | exact isRef_rf _) ?_
  refine xr_iload_n dX5_init_15 rfl ?_
  refine xr_putfieldF (ci := 9) (T := TX6) (N := 4) (i := 2) (fs' := [_, _, _, _]) hob11 rfl (by decide) in_X6 tyX6 tyX6_ok nmX6 q990 (.inl rfl) rfl rfl hnm dX5_init_16 (by first | rfl | exact nar_bI _ | exact nar_rf _) (by first | rfl | exact fit_bI _ | exact fit_rf _ _) (by simp) (by rfl) (.inl rfl) (fun hob16 => ?_)
  refine xr_return rfl dX5_init_19 ?_
  rw [hpo]
  exact ⟨rfl, hob16, ((Fr.put1 _).tr (Fr.put1 _) (fun b _ q => q)).tr (Fr.put1 _) (fun b _ q => q)⟩
theorem k_Addition_init {g : GG} {w : WW} {a : Nat} {k x y v : Int} (hG : Base g) (ho : Ob w a 9 [.int (iI 0), .int (iI 0), .int (iI 0), .int (iI 0)]) (hk : 0 ≤ k ∧ k < 65536) : Ct g yX6_init (.code yX6_init cX6_init 5 none) 2 35 0 0 w [.ref a, .int (iI k), .int (iI x), .int (iI y), .int (iI v)] (fun r_ w1 => r_ = none ∧ Ob w1 a 9 [.int (iI x), .int (iI y), .int (iI v), .int (iI k)] ∧ Fr (fun b => b = a) w w1) xF := by
  refine Ct.of (lv := [some _, some _, some _, some _, some _]) hG (by decide +kernel) (Nat.le_of_ble_eq_true rfl) rfl ?_
  intro z hg hpo hxp hnm htab
  subst hg
  refine xr_aload_n dX6_init_0 rfl (by first | rfl | exact isRef_rf _) ?_
  refine xr_iload_n dX6_init_1 rfl ?_
  refine xr_iload_n dX6_init_2 rfl ?_
  refine xr_iload dX6_init_3 rfl ?_
  refine xr_callI (n9 := 3) (rc' := 0) (rs' := 0) (k_Act_init_A hG ho) q983 q984 q103 q985 rfl (by decide +kernel) rfl ⟨by decide, Nat.le_of_ble_eq_true rfl⟩ ⟨Nat.le_of_ble_eq_true rfl, Nat.le_of_ble_eq_true rfl⟩ (Nat.le_of_ble_eq_true rfl) dX6_init_5 rfl (fun r w5 hw => ?_) (fun _ _ _ h => h.elim)
  obtain ⟨rfl, ho2, hfr⟩ := hw
  refine xr_aload_n dX6_init_8 rfl (by first | rfl | exact isRef_rf _) ?_
  refine xr_iload_n dX6_init_9 rfl ?_
  refine xr_putfieldF (ci := 9) (T := TX6) (N := 4) (i := 3) (fs' := [_, _, _, _]) ho2 rfl (by decide) in_X6 tyX6 tyX6_ok nmX6 q987 (.inl rfl) rfl rfl hnm dX6_init_10 (nar_ch hk) (fit_ch hk) (by simp) (by rfl) (.inl rfl) (fun hobK => ?_)
  refine xr_return rfl dX6_init_13 ?_
  rw [hpo]
  exact ⟨rfl, hobK, hfr.tr (Fr.put1 _) (fun b _ q => q)⟩
theorem k_Act_first_L {g : GG} {w : WW} {a : Nat} {x y v k : Int} (hG : Base g) (ho : Ob w a 10 [.int (iI x), .int (iI y), .int (iI v), .int (iI k)]) : Ct g yX5_first (.code yX5_first cX5_first 1 (some .int)) 0 0 0 0 w [.ref a] (fun r_ w1 => r_ = some (.int (iI x)) ∧ w1 = w) xF := by
  refine Ct.of (lv := [some _]) hG (by decide +kernel) (Nat.le_of_ble_eq_true rfl) rfl ?_
  intro z hg hpo hxp hnm htab
  subst hg
  refine xr_aload_n dX5_first_0 rfl (by first | rfl | exact isRef_rf _) ?_
  refine xr_getfield (ci := 10) (T := TX14) (N := 4) (i := 0) (by assumption) rfl (by decide) in_X14 q988 (.inl rfl) dX5_first_1 (by rfl) ?_
  refine xr_ireturn rfl rfl dX5_first_4 ?_
  rw [hpo]
  first | exact ⟨rfl, rfl⟩ | exact ⟨ret_bt (by omega), rfl⟩ | exact ⟨ret_bf (by omega), rfl⟩ | exact ⟨ret_i (by omega), rfl⟩
theorem k_Act_second_L {g : GG} {w : WW} {a : Nat} {x y v k : Int} (hG : Base g) (ho : Ob w a 10 [.int (iI x), .int (iI y), .int (iI v), .int (iI k)]) : Ct g yX5_second (.code yX5_second cX5_second 1 (some .int)) 0 0 0 0 w [.ref a] (fun r_ w1 => r_ = some (.int (iI y)) ∧ w1 = w) xF := by
  refine Ct.of (lv := [some _]) hG (by decide +kernel) (Nat.le_of_ble_eq_true rfl) rfl ?_
  intro z hg hpo hxp hnm htab
  subst hg
  refine xr_aload_n dX5_second_0 rfl (by first | rfl | exact isRef_rf _) ?_
  refine xr_getfield (ci := 10) (T := TX14) (N := 4) (i := 1) (by assumption) rfl (by decide) in_X14 q989 (.inl rfl) dX5_second_1 (by rfl) ?_
  refine xr_ireturn rfl rfl dX5_second_4 ?_
  rw [hpo]
  first | exact ⟨rfl, rfl⟩ | exact ⟨ret_bt (by omega), rfl⟩ | exact ⟨ret_bf (by omega), rfl⟩ | exact ⟨ret_i (by omega), rfl⟩
theorem k_Act_third_L {g : GG} {w : WW} {a : Nat} {x y v k : Int} (hG : Base g) (ho : Ob w a 10 [.int (iI x), .int (iI y), .int (iI v), .int (iI k)]) : Ct g yX5_third (.code yX5_third cX5_third 1 (some .int)) 0 0 0 0 w [.ref a] (fun r_ w1 => r_ = some (.int (iI v)) ∧ w1 = w) xF := by
  refine Ct.of (lv := [some _]) hG (by decide +kernel) (Nat.le_of_ble_eq_true rfl) rfl ?_
  intro z hg hpo hxp hnm htab
  subst hg
  refine xr_aload_n dX5_third_0 rfl (by first | rfl | exact isRef_rf _) ?_
  refine xr_getfield (ci := 10) (T := TX14) (N := 4) (i := 2) (by assumption) rfl (by decide) in_X14 q990 (.inl rfl) dX5_third_1 (by rfl) ?_
  refine xr_ireturn rfl rfl dX5_third_4 ?_
  rw [hpo]
  first | exact ⟨rfl, rfl⟩ | exact ⟨ret_bt (by omega), rfl⟩ | exact ⟨ret_bf (by omega), rfl⟩ | exact ⟨ret_i (by omega), rfl⟩
theorem k_Act_init_L {g : GG} {w : WW} {a : Nat} {x0 y0 v0 x y v k : Int} (hG : Base g) (ho : Ob w a 10 [.int (iI x0), .int (iI y0), .int (iI v0), .int (iI k)]) : Ct g yX5_init (.code yX5_init cX5_init 4 none) 1 12 0 0 w [.ref a, .int (iI x), .int (iI y), .int (iI v)] (fun r_ w1 => r_ = none ∧ Ob w1 a 10 [.int (iI x), .int (iI y), .int (iI v), .int (iI k)] ∧ Fr (fun b => b = a) w w1) xF := by
  refine Ct.of (lv := [some _, some _, some _, some _]) hG (by decide +kernel) (Nat.le_of_ble_eq_true rfl) rfl ?_
  intro z hg hpo hxp hnm htab
  subst hg
  refine xr_aload_n dX5_init_0 rfl (by first | rfl | exact isRef_rf _) ?_
  refine xr_objInit q986 q139 q140 (by decide) (Nat.le_of_ble_eq_true rfl) dX5_init_1 ?_
  refine xr_aload_n dX5_init_4 rfl (by first | rfl | exact isRef_rf _) ?_
  refine xr_iload_n dX5_init_5 rfl ?_
  refine xr_putfieldF (ci := 10) (T := TX14) (N := 4) (i := 0) (fs' := [_, _, _, _]) ho rfl (by decide) in_X14 tyX14 tyX14_ok nmX14 q988 (.inl rfl) rfl rfl hnm dX5_init_6 (by first | rfl | exact nar_bI _ | exact nar_rf _) (by first | rfl | exact fit_bI _ | exact fit_rf _ _) (by simp) (by rfl) (.inl rfl) (fun hob6 => ?_)
  refine xr_aload_n dX5_init_9 rfl (by first | rfl | exact isRef_rf _) ?_
  refine xr_iload_n dX5_init_10 rfl ?_
  refine xr_putfieldF (ci := 10) (T := TX14) (N := 4) (i := 1) (fs' := [_, _, _, _]) hob6 rfl (by decide) in_X14 tyX14 tyX14_ok nmX14 q989 (.inl rfl) rfl rfl hnm dX5_init_11 (by first | rfl | exact nar_bI _ | exact nar_rf _) (by first | rfl | exact fit_bI _ | exact fit_rf _ _) (by simp) (by rfl) (.inl rfl) (fun hob11 => ?_)
  refine xr_aload_n dX5_init_14 rfl (by first | rfl | exact isRef_rf _) ?_
  refine xr_iload_n dX5_init_15 rfl ?_
  refine xr_putfieldF (ci := 10) (T := TX14) (N := 4) (i := 2) (fs' := [_, _, _, _]) hob11 rfl (by decide) in_X14 tyX14 tyX14_ok nmX14 q990 (.inl rfl) rfl rfl hnm dX5_init_16 (by first | rfl | exact nar_bI _ | exact nar_rf _) (by first | rfl | exact fit_bI _ | exact fit_rf _ _) (by simp) (by rfl) (.inl rfl) (fun hob16 => ?_)
  refine xr_return rfl dX5_init_19 ?_
  rw [hpo]
  exact ⟨rfl, hob16, ((Fr.put1 _).tr (Fr.put1 _) (fun b _ q => q)).tr (Fr.put1 _) (fun b _ q => q)⟩
theorem k_LeaseAction_init {g : GG} {w : WW} {a : Nat} {k x y v : Int} (hG : Base g) (ho : Ob w a 10 [.int (iI 0), .int (iI 0), .int (iI 0), .int (iI 0)]) (hk : 0 ≤ k ∧ k < 65536) : Ct g yX14_init (.code yX14_init cX14_init 5 none) 2 35 0 0 w [.ref a, .int (iI k), .int (iI x), .int (iI y), .int (iI v)] (fun r_ w1 => r_ = none ∧ Ob w1 a 10 [.int (iI x), .int (iI y), .int (iI v), .int (iI k)] ∧ Fr (fun b => b = a) w w1) xF := by
  refine Ct.of (lv := [some _, some _, some _, some _, some _]) hG (by decide +kernel) (Nat.le_of_ble_eq_true rfl) rfl ?_
  intro z hg hpo hxp hnm htab
  subst hg
  refine xr_aload_n dX14_init_0 rfl (by first | rfl | exact isRef_rf _) ?_
  refine xr_iload_n dX14_init_1 rfl ?_
  refine xr_iload_n dX14_init_2 rfl ?_
  refine xr_iload dX14_init_3 rfl ?_
  refine xr_callI (n9 := 3) (rc' := 0) (rs' := 0) (k_Act_init_L hG ho) q1420 q984 q103 q985 rfl (by decide +kernel) rfl ⟨by decide, Nat.le_of_ble_eq_true rfl⟩ ⟨Nat.le_of_ble_eq_true rfl, Nat.le_of_ble_eq_true rfl⟩ (Nat.le_of_ble_eq_true rfl) dX14_init_5 rfl (fun r w5 hw => ?_) (fun _ _ _ h => h.elim)
  obtain ⟨rfl, ho2, hfr⟩ := hw
  refine xr_aload_n dX14_init_8 rfl (by first | rfl | exact isRef_rf _) ?_
  refine xr_iload_n dX14_init_9 rfl ?_
  refine xr_putfieldF (ci := 10) (T := TX14) (N := 4) (i := 3) (fs' := [_, _, _, _]) ho2 rfl (by decide) in_X14 tyX14 tyX14_ok nmX14 q1421 (.inl rfl) rfl rfl hnm dX14_init_10 (nar_ch hk) (fit_ch hk) (by simp) (by rfl) (.inl rfl) (fun hobK => ?_)
  refine xr_return rfl dX14_init_13 ?_
  rw [hpo]
  exact ⟨rfl, hobK, hfr.tr (Fr.put1 _) (fun b _ q => q)⟩
theorem k_Act_first_P {g : GG} {w : WW} {a : Nat} {x y v k : Int} (hG : Base g) (ho : Ob w a 11 [.int (iI x), .int (iI y), .int (iI v), .int (iI k)]) : Ct g yX5_first (.code yX5_first cX5_first 1 (some .int)) 0 0 0 0 w [.ref a] (fun r_ w1 => r_ = some (.int (iI x)) ∧ w1 = w) xF := by
  refine Ct.of (lv := [some _]) hG (by decide +kernel) (Nat.le_of_ble_eq_true rfl) rfl ?_
  intro z hg hpo hxp hnm htab
  subst hg
  refine xr_aload_n dX5_first_0 rfl (by first | rfl | exact isRef_rf _) ?_
  refine xr_getfield (ci := 11) (T := TX13) (N := 4) (i := 0) (by assumption) rfl (by decide) in_X13 q988 (.inl rfl) dX5_first_1 (by rfl) ?_
  refine xr_ireturn rfl rfl dX5_first_4 ?_
  rw [hpo]
  first | exact ⟨rfl, rfl⟩ | exact ⟨ret_bt (by omega), rfl⟩ | exact ⟨ret_bf (by omega), rfl⟩ | exact ⟨ret_i (by omega), rfl⟩
theorem k_Act_second_P {g : GG} {w : WW} {a : Nat} {x y v k : Int} (hG : Base g) (ho : Ob w a 11 [.int (iI x), .int (iI y), .int (iI v), .int (iI k)]) : Ct g yX5_second (.code yX5_second cX5_second 1 (some .int)) 0 0 0 0 w [.ref a] (fun r_ w1 => r_ = some (.int (iI y)) ∧ w1 = w) xF := by
  refine Ct.of (lv := [some _]) hG (by decide +kernel) (Nat.le_of_ble_eq_true rfl) rfl ?_
  intro z hg hpo hxp hnm htab
  subst hg
  refine xr_aload_n dX5_second_0 rfl (by first | rfl | exact isRef_rf _) ?_
  refine xr_getfield (ci := 11) (T := TX13) (N := 4) (i := 1) (by assumption) rfl (by decide) in_X13 q989 (.inl rfl) dX5_second_1 (by rfl) ?_
  refine xr_ireturn rfl rfl dX5_second_4 ?_
  rw [hpo]
  first | exact ⟨rfl, rfl⟩ | exact ⟨ret_bt (by omega), rfl⟩ | exact ⟨ret_bf (by omega), rfl⟩ | exact ⟨ret_i (by omega), rfl⟩
theorem k_Act_third_P {g : GG} {w : WW} {a : Nat} {x y v k : Int} (hG : Base g) (ho : Ob w a 11 [.int (iI x), .int (iI y), .int (iI v), .int (iI k)]) : Ct g yX5_third (.code yX5_third cX5_third 1 (some .int)) 0 0 0 0 w [.ref a] (fun r_ w1 => r_ = some (.int (iI v)) ∧ w1 = w) xF := by
  refine Ct.of (lv := [some _]) hG (by decide +kernel) (Nat.le_of_ble_eq_true rfl) rfl ?_
  intro z hg hpo hxp hnm htab
  subst hg
  refine xr_aload_n dX5_third_0 rfl (by first | rfl | exact isRef_rf _) ?_
  refine xr_getfield (ci := 11) (T := TX13) (N := 4) (i := 2) (by assumption) rfl (by decide) in_X13 q990 (.inl rfl) dX5_third_1 (by rfl) ?_
  refine xr_ireturn rfl rfl dX5_third_4 ?_
  rw [hpo]
  first | exact ⟨rfl, rfl⟩ | exact ⟨ret_bt (by omega), rfl⟩ | exact ⟨ret_bf (by omega), rfl⟩ | exact ⟨ret_i (by omega), rfl⟩
theorem k_Act_init_P {g : GG} {w : WW} {a : Nat} {x0 y0 v0 x y v k : Int} (hG : Base g) (ho : Ob w a 11 [.int (iI x0), .int (iI y0), .int (iI v0), .int (iI k)]) : Ct g yX5_init (.code yX5_init cX5_init 4 none) 1 12 0 0 w [.ref a, .int (iI x), .int (iI y), .int (iI v)] (fun r_ w1 => r_ = none ∧ Ob w1 a 11 [.int (iI x), .int (iI y), .int (iI v), .int (iI k)] ∧ Fr (fun b => b = a) w w1) xF := by
  refine Ct.of (lv := [some _, some _, some _, some _]) hG (by decide +kernel) (Nat.le_of_ble_eq_true rfl) rfl ?_
  intro z hg hpo hxp hnm htab
  subst hg
  refine xr_aload_n dX5_init_0 rfl (by first | rfl | exact isRef_rf _) ?_
  refine xr_objInit q986 q139 q140 (by decide) (Nat.le_of_ble_eq_true rfl) dX5_init_1 ?_
  refine xr_aload_n dX5_init_4 rfl (by first | rfl | exact isRef_rf _) ?_
  refine xr_iload_n dX5_init_5 rfl ?_
  refine xr_putfieldF (ci := 11) (T := TX13) (N := 4) (i := 0) (fs' := [_, _, _, _]) ho rfl (by decide) in_X13 tyX13 tyX13_ok nmX13 q988 (.inl rfl) rfl rfl hnm dX5_init_6 (by first | rfl | exact nar_bI _ | exact nar_rf _) (by first | rfl | exact fit_bI _ | exact fit_rf _ _) (by simp) (by rfl) (.inl rfl) (fun hob6 => ?_)
  refine xr_aload_n dX5_init_9 rfl (by first | rfl | exact isRef_rf _) ?_
  refine xr_iload_n dX5_init_10 rfl ?_
  refine xr_putfieldF (ci := 11) (T := TX13) (N := 4) (i := 1) (fs' := [_, _, _, _]) hob6 rfl (by decide) in_X13 tyX13 tyX13_ok nmX13 q989 (.inl rfl) rfl rfl hnm dX5_init_11 (by first | rfl | exact nar_bI _ | exact nar_rf _) (by first | rfl | exact fit_bI _ | exact fit_rf _ _) (by simp) (by rfl) (.inl rfl) (fun hob11 => ?_)
  refine xr_aload_n dX5_init_14 rfl (by first | rfl | exact isRef_rf _) ?_
  refine xr_iload_n dX5_init_15 rfl ?_
  refine xr_putfieldF (ci := 11) (T := TX13) (N := 4) (i := 2) (fs' := [_, _, _, _]) hob11 rfl (by decide) in_X13 tyX13 tyX13_ok nmX13 q990 (.inl rfl) rfl rfl hnm dX5_init_16 (by first | rfl | exact nar_bI _ | exact nar_rf _) (by first | rfl | exact fit_bI _ | exact fit_rf _ _) (by simp) (by rfl) (.inl rfl) (fun hob16 => ?_)
  refine xr_return rfl dX5_init_19 ?_
  rw [hpo]
  exact ⟨rfl, hob16, ((Fr.put1 _).tr (Fr.put1 _) (fun b _ q => q)).tr (Fr.put1 _) (fun b _ q => q)⟩
theorem k_PlainAction_init {g : GG} {w : WW} {a : Nat} {k x v : Int} (hG : Base g) (ho : Ob w a 11 [.int (iI 0), .int (iI 0), .int (iI 0), .int (iI 0)]) (hk : 0 ≤ k ∧ k < 65536) : Ct g yX13_init (.code yX13_init cX13_init 4 none) 2 35 0 0 w [.ref a, .int (iI k), .int (iI x), .int (iI v)] (fun r_ w1 => r_ = none ∧ Ob w1 a 11 [.int (iI x), .int (iI (-1)), .int (iI v), .int (iI k)] ∧ Fr (fun b => b = a) w w1) xF := by
  refine Ct.of (lv := [some _, some _, some _, some _]) hG (by decide +kernel) (Nat.le_of_ble_eq_true rfl) rfl ?_
  intro z hg hpo hxp hnm htab
  subst hg
  refine xr_aload_n dX13_init_0 rfl (by first | rfl | exact isRef_rf _) ?_
  refine xr_iload_n dX13_init_1 rfl ?_
  refine xr_iconst dX13_init_2 ?_
  refine xr_iload_n dX13_init_3 rfl ?_
  refine xr_callI (n9 := 3) (rc' := 0) (rs' := 0) (k_Act_init_P hG ho) q1234 q984 q103 q985 rfl (by decide +kernel) rfl ⟨by decide, Nat.le_of_ble_eq_true rfl⟩ ⟨Nat.le_of_ble_eq_true rfl, Nat.le_of_ble_eq_true rfl⟩ (Nat.le_of_ble_eq_true rfl) dX13_init_4 rfl (fun r w4 hw => ?_) (fun _ _ _ h => h.elim)
  obtain ⟨rfl, ho2, hfr⟩ := hw
  refine xr_aload_n dX13_init_7 rfl (by first | rfl | exact isRef_rf _) ?_
  refine xr_iload_n dX13_init_8 rfl ?_
  refine xr_putfieldF (ci := 11) (T := TX13) (N := 4) (i := 3) (fs' := [_, _, _, _]) ho2 rfl (by decide) in_X13 tyX13 tyX13_ok nmX13 q1235 (.inl rfl) rfl rfl hnm dX13_init_9 (nar_ch hk) (fit_ch hk) (by simp) (by rfl) (.inl rfl) (fun hobK => ?_)
  refine xr_return rfl dX13_init_12 ?_
  rw [hpo]
  exact ⟨rfl, hobK, hfr.tr (Fr.put1 _) (fun b _ q => q)⟩
theorem k_isAcc_b {g : GG} {w : WW} {a : Nat} {n0 : Nat → Prop} {q : Nat} {L : Int → Nat} {P : Int → Int}  {x y v : Int} (hG : Base g) (ho : Ob w a 9 [.int (iI x), .int (iI y), .int (iI v), .int (iI 98)]) (hK : PK g w n0 q L P) (hR : sm x ∧ sm y ∧ sm v) : Ct g yX6_isAccepted (.code yX6_isAccepted cX6_isAccepted 2 (some .boolean)) 2 43 0 0 w [.ref a, .ref q] (fun r_ w1 => r_ = some (.int (bI (decide (((0 ≤ x ∧ x ≤ 5) ∧ (0 ≤ y ∧ y ≤ 5)) ∧ (1 ≤ v ∧ v ≤ 20))))) ∧ w1 = w) xF := by
  refine Ct.of (lv := [some _, some _]) hG (by decide +kernel) (Nat.le_of_ble_eq_true rfl) rfl ?_
  intro z hg hpo hxp hnm htab
  subst hg
  refine xr_aload_n dX6_isAccepted_0 rfl (by first | rfl | exact isRef_rf _) ?_
  refine xr_getfield (ci := 9) (T := TX6) (N := 4) (i := 3) ho rfl (by decide) in_X6 q987 (.inl rfl) dX6_isAccepted_1 (by rfl) ?_
  refine xr_lookup (off := 28) (tgt := 32) dX6_isAccepted_4 (by omega) (by decide) (by first | rfl | decide) (by decide) ?_
  refine xr_aload_n dX6_isAccepted_32 rfl (by first | rfl | exact isRef_rf _) ?_
  refine xr_callVU (n9 := 0) (rc' := 0) (rs' := 0) (k_Act_first_A hG ho) ho rfl q1011 q1012 rfl q1015 q1014 q103 q1016 (by decide +kernel) rfl ⟨by decide, Nat.le_of_ble_eq_true rfl⟩ ⟨Nat.le_of_ble_eq_true rfl, Nat.le_of_ble_eq_true rfl⟩ (Nat.le_of_ble_eq_true rfl) dX6_isAccepted_33 rfl (xk_r ?_) (fun _ _ _ h => h.elim)
  refine xr_aload_n dX6_isAccepted_36 rfl (by first | rfl | exact isRef_rf _) ?_
  refine xr_callVU (n9 := 0) (rc' := 0) (rs' := 0) (k_Act_second_A hG ho) ho rfl q1017 q1018 rfl q1021 q1020 q103 q1022 (by decide +kernel) rfl ⟨by decide, Nat.le_of_ble_eq_true rfl⟩ ⟨Nat.le_of_ble_eq_true rfl, Nat.le_of_ble_eq_true rfl⟩ (Nat.le_of_ble_eq_true rfl) dX6_isAccepted_37 rfl (xk_r ?_) (fun _ _ _ h => h.elim)
  refine xr_callSN (n9 := 2) (rc' := 0) (rs' := 0) (k_isCell hG (by omega)) q2106 q936 q86 q937 (by decide +kernel) rfl ⟨by decide, Nat.le_of_ble_eq_true rfl⟩ ⟨Nat.le_of_ble_eq_true rfl, Nat.le_of_ble_eq_true rfl⟩ (Nat.le_of_ble_eq_true rfl) dX6_isAccepted_40 rfl (xk_r ?_) (fun _ _ _ h => h.elim)
  refine xr_ifb_eq (tgt := 60) dX6_isAccepted_43 (by decide) (fun c43 => ?_) (fun c43 => ?_)
  · skip
    try simp only [decide_eq_true_eq, decide_eq_false_iff_not] at c43
    refine xr_iconst dX6_isAccepted_60 ?_
    refine xr_goto (tgt := 103) dX6_isAccepted_61 (by decide) ?_
    refine xr_ireturn rfl (by first | rfl | exact nar_bI _ | decide +kernel) dX6_isAccepted_103 ?_
    rw [hpo]
    first | exact ⟨rfl, rfl⟩ | exact ⟨ret_bt (by omega), rfl⟩ | exact ⟨ret_bf (by omega), rfl⟩ | exact ⟨ret_i (by omega), rfl⟩
  · skip
    try simp only [decide_eq_true_eq, decide_eq_false_iff_not] at c43
    refine xr_aload_n dX6_isAccepted_46 rfl (by first | rfl | exact isRef_rf _) ?_
    refine xr_callVU (n9 := 0) (rc' := 0) (rs' := 0) (k_Act_third_A hG ho) ho rfl q1023 q1024 rfl q1027 q1026 q103 q1028 (by decide +kernel) rfl ⟨by decide, Nat.le_of_ble_eq_true rfl⟩ ⟨Nat.le_of_ble_eq_true rfl, Nat.le_of_ble_eq_true rfl⟩ (Nat.le_of_ble_eq_true rfl) dX6_isAccepted_47 rfl (xk_r ?_) (fun _ _ _ h => h.elim)
    refine xr_callSN (n9 := 1) (rc' := 0) (rs' := 0) (k_isRent hG (by omega)) q2107 q958 q86 q959 (by decide +kernel) rfl ⟨by decide, Nat.le_of_ble_eq_true rfl⟩ ⟨Nat.le_of_ble_eq_true rfl, Nat.le_of_ble_eq_true rfl⟩ (Nat.le_of_ble_eq_true rfl) dX6_isAccepted_50 rfl (xk_r ?_) (fun _ _ _ h => h.elim)
    refine xr_ifb_eq (tgt := 60) dX6_isAccepted_53 (by decide) (fun c53 => ?_) (fun c53 => ?_)
    · skip
      try simp only [decide_eq_true_eq, decide_eq_false_iff_not] at c53
      refine xr_iconst dX6_isAccepted_60 ?_
      refine xr_goto (tgt := 103) dX6_isAccepted_61 (by decide) ?_
      refine xr_ireturn rfl (by first | rfl | exact nar_bI _ | decide +kernel) dX6_isAccepted_103 ?_
      rw [hpo]
      first | exact ⟨rfl, rfl⟩ | exact ⟨ret_bt (by omega), rfl⟩ | exact ⟨ret_bf (by omega), rfl⟩ | exact ⟨ret_i (by omega), rfl⟩
    · skip
      try simp only [decide_eq_true_eq, decide_eq_false_iff_not] at c53
      refine xr_iconst dX6_isAccepted_56 ?_
      refine xr_goto (tgt := 103) dX6_isAccepted_57 (by decide) ?_
      refine xr_ireturn rfl (by first | rfl | exact nar_bI _ | decide +kernel) dX6_isAccepted_103 ?_
      rw [hpo]
      first | exact ⟨rfl, rfl⟩ | exact ⟨ret_bt (by omega), rfl⟩ | exact ⟨ret_bf (by omega), rfl⟩ | exact ⟨ret_i (by omega), rfl⟩
theorem k_run_b {g : GG} {w : WW} {a : Nat} {n0 : Nat → Prop} {q : Nat} {L : Int → Nat} {P : Int → Int} {N : Int} {x y v : Int} (hG : Base g) (ho : Ob w a 9 [.int (iI x), .int (iI y), .int (iI v), .int (iI 98)]) (hL : KL g) (hK : PK g w n0 q L P) (hB : PB P N) (hR : sm x ∧ sm y ∧ sm v) (hN : N + 13000 ≤ 10000000) (ha : ((0 ≤ x ∧ x ≤ 5) ∧ (0 ≤ y ∧ y ≤ 5)) ∧ (1 ≤ v ∧ v ≤ 20)) : Ct g yX6_run (.code yX6_run cX6_run 2 (some .int)) 9 169 5 44 w [.ref a, .ref q] (fun r_ w1 => ∃ L' : Int → Nat, r_ = some (.int (iI (P 0))) ∧ (rjBench P x y).1 = 0 ∧ PK g w1 n0 q L' (oBench P x y v) ∧ Fr n0 w w1) (fun E a9 w1 => E = "BenchBroker$Rejection" ∧ ((rjBench P x y).1 ≠ 0 ∧ Ob w1 a9 6 [.int (iI (rjBench P x y).1), .int (iI (rjBench P x y).2), .int (iI 0)]) ∧ Mo w.2 w w1 ∧ w.2 ≤ a9) := by
  refine Ct.of (lv := [some _, some _]) hG (by decide +kernel) (Nat.le_of_ble_eq_true rfl) rfl ?_
  intro z hg hpo hxp hnm htab
  subst hg
  refine xr_aload_n dX6_run_0 rfl (by first | rfl | exact isRef_rf _) ?_
  refine xr_getfield (ci := 9) (T := TX6) (N := 4) (i := 3) ho rfl (by decide) in_X6 q987 (.inl rfl) dX6_run_1 (by rfl) ?_
  refine xr_lookup (off := 28) (tgt := 32) dX6_run_4 (by omega) (by decide) (by first | rfl | decide) (by decide) ?_
  refine xr_aload_n dX6_run_32 rfl (by first | rfl | exact isRef_rf _) ?_
  refine xr_aload_n dX6_run_33 rfl (by first | rfl | exact isRef_rf _) ?_
  refine xr_callVU (n9 := 0) (rc' := 5) (rs' := 44) (k_Act_first_A hG ho) ho rfl q1011 q1012 rfl q1015 q1014 q103 q1016 (by decide +kernel) rfl ⟨by decide, Nat.le_of_ble_eq_true rfl⟩ ⟨Nat.le_of_ble_eq_true rfl, Nat.le_of_ble_eq_true rfl⟩ (Nat.le_of_ble_eq_true rfl) dX6_run_34 rfl (xk_r ?_) (fun _ _ _ h => h.elim)
  refine xr_aload_n dX6_run_37 rfl (by first | rfl | exact isRef_rf _) ?_
  refine xr_callVU (n9 := 0) (rc' := 5) (rs' := 44) (k_Act_second_A hG ho) ho rfl q1017 q1018 rfl q1021 q1020 q103 q1022 (by decide +kernel) rfl ⟨by decide, Nat.le_of_ble_eq_true rfl⟩ ⟨Nat.le_of_ble_eq_true rfl, Nat.le_of_ble_eq_true rfl⟩ (Nat.le_of_ble_eq_true rfl) dX6_run_38 rfl (xk_r ?_) (fun _ _ _ h => h.elim)
  refine xr_aload_n dX6_run_41 rfl (by first | rfl | exact isRef_rf _) ?_
  refine xr_callVU (n9 := 0) (rc' := 5) (rs' := 44) (k_Act_third_A hG ho) ho rfl q1023 q1024 rfl q1027 q1026 q103 q1028 (by decide +kernel) rfl ⟨by decide, Nat.le_of_ble_eq_true rfl⟩ ⟨Nat.le_of_ble_eq_true rfl, Nat.le_of_ble_eq_true rfl⟩ (Nat.le_of_ble_eq_true rfl) dX6_run_42 rfl (xk_r ?_) (fun _ _ _ h => h.elim)
  refine xr_callV (n9 := 3) (rc' := 0) (rs' := 0) (k_P_addBench hG hL hK hB ⟨by omega, by omega⟩) hK.hq rfl q1029 q1030 q1031 q87 q1032 (by decide +kernel) rfl ⟨by decide, Nat.le_of_ble_eq_true rfl⟩ ⟨Nat.le_of_ble_eq_true rfl, Nat.le_of_ble_eq_true rfl⟩ (Nat.le_of_ble_eq_true rfl) dX6_run_45 rfl (fun r w45 hw => ?_) ?_
  rotate_left
  · skip
    rintro E q9 w9 h9
    exact xt_out (fun x hx => (htab x hx).elim) (by rw [hxp]; exact h9)
  obtain ⟨L2, rfl, hj2, hK2, hm2⟩ := hw
  show XJ _ _ _ _ _ _ _ _ _ _ _ _ [.int (iI (P 0))]
  refine xr_goto (tgt := 78) dX6_run_48 (by decide) ?_
  refine xr_ireturn rfl rfl dX6_run_78 ?_
  rw [hpo]
  exact ⟨L2, rfl, hj2, hK2, hm2⟩
theorem k_checked_b {g : GG} {w : WW} {a : Nat} {n0 : Nat → Prop} {q : Nat} {L : Int → Nat} {P : Int → Int} {N : Int} {x y v : Int} (hG : Base g) (ho : Ob w a 9 [.int (iI x), .int (iI y), .int (iI v), .int (iI 98)]) (hL : KL g) (hK : PK g w n0 q L P) (hB : PB P N) (hR : sm x ∧ sm y ∧ sm v) (hN : N + 13000 ≤ 10000000) : Ct g yX5_checkedRun (.code yX5_checkedRun cX5_checkedRun 2 (some .int)) 10 190 5 44 w [.ref a, .ref q] (fun r_ w1 => (((0 ≤ x ∧ x ≤ 5) ∧ (0 ≤ y ∧ y ≤ 5)) ∧ (1 ≤ v ∧ v ≤ 20)) ∧ ∃ L' : Int → Nat, r_ = some (.int (iI (P 0))) ∧ (rjBench P x y).1 = 0 ∧ PK g w1 n0 q L' (oBench P x y v) ∧ Fr n0 w w1) (fun E a9 w1 => (E = "BenchBroker$BadCommand" ∧ ¬ (((0 ≤ x ∧ x ≤ 5) ∧ (0 ≤ y ∧ y ≤ 5)) ∧ (1 ≤ v ∧ v ≤ 20)) ∧ w1 = w) ∨ (((0 ≤ x ∧ x ≤ 5) ∧ (0 ≤ y ∧ y ≤ 5)) ∧ (1 ≤ v ∧ v ≤ 20)) ∧ E = "BenchBroker$Rejection" ∧ ((rjBench P x y).1 ≠ 0 ∧ Ob w1 a9 6 [.int (iI (rjBench P x y).1), .int (iI (rjBench P x y).2), .int (iI 0)]) ∧ Mo w.2 w w1 ∧ w.2 ≤ a9) := by
  refine Ct.of (lv := [some _, some _]) hG (by decide +kernel) (Nat.le_of_ble_eq_true rfl) rfl ?_
  intro z hg hpo hxp hnm htab
  subst hg
  refine xr_aload_n dX5_checkedRun_0 rfl (by first | rfl | exact isRef_rf _) ?_
  refine xr_aload_n dX5_checkedRun_1 rfl (by first | rfl | exact isRef_rf _) ?_
  refine xr_callVA (n9 := 1) (rc' := 5) (rs' := 44) (k_isAcc_b hG ho hK hR) ho rfl q2100 q2102 q2101 q2104 q2103 q104 q2105 (by decide +kernel) rfl ⟨by decide, Nat.le_of_ble_eq_true rfl⟩ ⟨Nat.le_of_ble_eq_true rfl, Nat.le_of_ble_eq_true rfl⟩ (Nat.le_of_ble_eq_true rfl) dX5_checkedRun_2 rfl (xk_r ?_) (fun _ _ _ h => h.elim)
  refine xr_ifb_ne (tgt := 16) dX5_checkedRun_5 (by decide) (fun c5 => ?_) (fun c5 => ?_)
  · skip
    try simp only [decide_eq_true_eq, decide_eq_false_iff_not] at c5
    refine xr_aload_n dX5_checkedRun_16 rfl (by first | rfl | exact isRef_rf _) ?_
    refine xr_aload_n dX5_checkedRun_17 rfl (by first | rfl | exact isRef_rf _) ?_
    refine xr_callVA (n9 := 1) (rc' := 0) (rs' := 0) (k_run_b hG ho hL hK hB hR hN c5) ho rfl q2137 q1007 q1006 q1009 q1008 q104 q1010 (by decide +kernel) rfl ⟨by decide, Nat.le_of_ble_eq_true rfl⟩ ⟨Nat.le_of_ble_eq_true rfl, Nat.le_of_ble_eq_true rfl⟩ (Nat.le_of_ble_eq_true rfl) dX5_checkedRun_18 rfl (fun r w18 hw => ?_) ?_
    rotate_left
    · skip
      rintro E q9 w9 h9
      exact xt_out (fun x hx => (htab x hx).elim) (by rw [hxp]; exact Or.inr ⟨c5, h9⟩)
    obtain ⟨L2, rfl, hj2, hK2, hm2⟩ := hw
    refine xr_ireturn rfl rfl dX5_checkedRun_21 ?_
    rw [hpo]
    exact ⟨c5, L2, rfl, hj2, hK2, hm2⟩
  · skip
    try simp only [decide_eq_true_eq, decide_eq_false_iff_not] at c5
    refine xr_throw0 (cls := "BenchBroker$BadCommand") (names := ["java/lang/Exception"]) (by decide +kernel) (by decide +kernel) q2122 q132 (at_words [97, 546, 555, 567, 570, 572, 547, 548, 139, 140, 549, 554, 568, 588, 536, 589, 538, 590, 540, 550, 552, 542, 2132, 2133, 2134, 698, 529, 698, 699, 700, 547, 531, 2131, 2123, 2124, 2125, 557, 2126, 2127, 2128, 2129, 586, 544, 2130] (by decide +kernel) (by decide +kernel)) ⟨rfl, rfl⟩ dX5_checkedRun_8 dX5_checkedRun_11 dX5_checkedRun_12 dX5_checkedRun_15 (fun x hx => (htab x hx).elim) (by decide) (Nat.le_of_ble_eq_true rfl) ⟨Nat.le_of_ble_eq_true rfl, Nat.le_of_ble_eq_true rfl⟩ (fun q9 hq9 => ?_)
    rw [hxp]
    exact Or.inl ⟨rfl, c5, rfl⟩
theorem k_isAcc_f {g : GG} {w : WW} {a : Nat} {n0 : Nat → Prop} {q : Nat} {L : Int → Nat} {P : Int → Int}  {x y v : Int} (hG : Base g) (ho : Ob w a 9 [.int (iI x), .int (iI y), .int (iI v), .int (iI 102)]) (hK : PK g w n0 q L P) (hR : sm x ∧ sm y ∧ sm v) : Ct g yX6_isAccepted (.code yX6_isAccepted cX6_isAccepted 2 (some .boolean)) 2 43 0 0 w [.ref a, .ref q] (fun r_ w1 => r_ = some (.int (bI (decide (((0 ≤ x ∧ x ≤ 5) ∧ (0 ≤ y ∧ y ≤ 5)) ∧ (1 ≤ v ∧ v ≤ 9))))) ∧ w1 = w) xF := by
  refine Ct.of (lv := [some _, some _]) hG (by decide +kernel) (Nat.le_of_ble_eq_true rfl) rfl ?_
  intro z hg hpo hxp hnm htab
  subst hg
  refine xr_aload_n dX6_isAccepted_0 rfl (by first | rfl | exact isRef_rf _) ?_
  refine xr_getfield (ci := 9) (T := TX6) (N := 4) (i := 3) ho rfl (by decide) in_X6 q987 (.inl rfl) dX6_isAccepted_1 (by rfl) ?_
  refine xr_lookup (off := 60) (tgt := 64) dX6_isAccepted_4 (by omega) (by decide) (by first | rfl | decide) (by decide) ?_
  refine xr_aload_n dX6_isAccepted_64 rfl (by first | rfl | exact isRef_rf _) ?_
  refine xr_callVU (n9 := 0) (rc' := 0) (rs' := 0) (k_Act_first_A hG ho) ho rfl q1011 q1012 rfl q1015 q1014 q103 q1016 (by decide +kernel) rfl ⟨by decide, Nat.le_of_ble_eq_true rfl⟩ ⟨Nat.le_of_ble_eq_true rfl, Nat.le_of_ble_eq_true rfl⟩ (Nat.le_of_ble_eq_true rfl) dX6_isAccepted_65 rfl (xk_r ?_) (fun _ _ _ h => h.elim)
  refine xr_aload_n dX6_isAccepted_68 rfl (by first | rfl | exact isRef_rf _) ?_
  refine xr_callVU (n9 := 0) (rc' := 0) (rs' := 0) (k_Act_second_A hG ho) ho rfl q1017 q1018 rfl q1021 q1020 q103 q1022 (by decide +kernel) rfl ⟨by decide, Nat.le_of_ble_eq_true rfl⟩ ⟨Nat.le_of_ble_eq_true rfl, Nat.le_of_ble_eq_true rfl⟩ (Nat.le_of_ble_eq_true rfl) dX6_isAccepted_69 rfl (xk_r ?_) (fun _ _ _ h => h.elim)
  refine xr_callSN (n9 := 2) (rc' := 0) (rs' := 0) (k_isCell hG (by omega)) q2106 q936 q86 q937 (by decide +kernel) rfl ⟨by decide, Nat.le_of_ble_eq_true rfl⟩ ⟨Nat.le_of_ble_eq_true rfl, Nat.le_of_ble_eq_true rfl⟩ (Nat.le_of_ble_eq_true rfl) dX6_isAccepted_72 rfl (xk_r ?_) (fun _ _ _ h => h.elim)
  refine xr_ifb_eq (tgt := 92) dX6_isAccepted_75 (by decide) (fun c75 => ?_) (fun c75 => ?_)
  · skip
    try simp only [decide_eq_true_eq, decide_eq_false_iff_not] at c75
    refine xr_iconst dX6_isAccepted_92 ?_
    refine xr_goto (tgt := 103) dX6_isAccepted_93 (by decide) ?_
    refine xr_ireturn rfl (by first | rfl | exact nar_bI _ | decide +kernel) dX6_isAccepted_103 ?_
    rw [hpo]
    first | exact ⟨rfl, rfl⟩ | exact ⟨ret_bt (by omega), rfl⟩ | exact ⟨ret_bf (by omega), rfl⟩ | exact ⟨ret_i (by omega), rfl⟩
  · skip
    try simp only [decide_eq_true_eq, decide_eq_false_iff_not] at c75
    refine xr_aload_n dX6_isAccepted_78 rfl (by first | rfl | exact isRef_rf _) ?_
    refine xr_callVU (n9 := 0) (rc' := 0) (rs' := 0) (k_Act_third_A hG ho) ho rfl q1023 q1024 rfl q1027 q1026 q103 q1028 (by decide +kernel) rfl ⟨by decide, Nat.le_of_ble_eq_true rfl⟩ ⟨Nat.le_of_ble_eq_true rfl, Nat.le_of_ble_eq_true rfl⟩ (Nat.le_of_ble_eq_true rfl) dX6_isAccepted_79 rfl (xk_r ?_) (fun _ _ _ h => h.elim)
    refine xr_callSN (n9 := 1) (rc' := 0) (rs' := 0) (k_isLoudness hG (by omega)) q2108 q1209 q86 q1210 (by decide +kernel) rfl ⟨by decide, Nat.le_of_ble_eq_true rfl⟩ ⟨Nat.le_of_ble_eq_true rfl, Nat.le_of_ble_eq_true rfl⟩ (Nat.le_of_ble_eq_true rfl) dX6_isAccepted_82 rfl (xk_r ?_) (fun _ _ _ h => h.elim)
    refine xr_ifb_eq (tgt := 92) dX6_isAccepted_85 (by decide) (fun c85 => ?_) (fun c85 => ?_)
    · skip
      try simp only [decide_eq_true_eq, decide_eq_false_iff_not] at c85
      refine xr_iconst dX6_isAccepted_92 ?_
      refine xr_goto (tgt := 103) dX6_isAccepted_93 (by decide) ?_
      refine xr_ireturn rfl (by first | rfl | exact nar_bI _ | decide +kernel) dX6_isAccepted_103 ?_
      rw [hpo]
      first | exact ⟨rfl, rfl⟩ | exact ⟨ret_bt (by omega), rfl⟩ | exact ⟨ret_bf (by omega), rfl⟩ | exact ⟨ret_i (by omega), rfl⟩
    · skip
      try simp only [decide_eq_true_eq, decide_eq_false_iff_not] at c85
      refine xr_iconst dX6_isAccepted_88 ?_
      refine xr_goto (tgt := 103) dX6_isAccepted_89 (by decide) ?_
      refine xr_ireturn rfl (by first | rfl | exact nar_bI _ | decide +kernel) dX6_isAccepted_103 ?_
      rw [hpo]
      first | exact ⟨rfl, rfl⟩ | exact ⟨ret_bt (by omega), rfl⟩ | exact ⟨ret_bf (by omega), rfl⟩ | exact ⟨ret_i (by omega), rfl⟩
theorem k_run_f {g : GG} {w : WW} {a : Nat} {n0 : Nat → Prop} {q : Nat} {L : Int → Nat} {P : Int → Int} {N : Int} {x y v : Int} (hG : Base g) (ho : Ob w a 9 [.int (iI x), .int (iI y), .int (iI v), .int (iI 102)]) (hL : KL g) (hK : PK g w n0 q L P) (hB : PB P N) (hR : sm x ∧ sm y ∧ sm v) (hN : N + 13000 ≤ 10000000) (ha : ((0 ≤ x ∧ x ≤ 5) ∧ (0 ≤ y ∧ y ≤ 5)) ∧ (1 ≤ v ∧ v ≤ 9)) : Ct g yX6_run (.code yX6_run cX6_run 2 (some .int)) 9 169 5 42 w [.ref a, .ref q] (fun r_ w1 => ∃ L' : Int → Nat, r_ = some (.int (iI (P 1))) ∧ (rjFount P x y).1 = 0 ∧ PK g w1 n0 q L' (oFount P x y v) ∧ Fr n0 w w1) (fun E a9 w1 => E = "BenchBroker$Rejection" ∧ ((rjFount P x y).1 ≠ 0 ∧ Ob w1 a9 6 [.int (iI (rjFount P x y).1), .int (iI (rjFount P x y).2), .int (iI 0)]) ∧ Mo w.2 w w1 ∧ w.2 ≤ a9) := by
  refine Ct.of (lv := [some _, some _]) hG (by decide +kernel) (Nat.le_of_ble_eq_true rfl) rfl ?_
  intro z hg hpo hxp hnm htab
  subst hg
  refine xr_aload_n dX6_run_0 rfl (by first | rfl | exact isRef_rf _) ?_
  refine xr_getfield (ci := 9) (T := TX6) (N := 4) (i := 3) ho rfl (by decide) in_X6 q987 (.inl rfl) dX6_run_1 (by rfl) ?_
  refine xr_lookup (off := 47) (tgt := 51) dX6_run_4 (by omega) (by decide) (by first | rfl | decide) (by decide) ?_
  refine xr_aload_n dX6_run_51 rfl (by first | rfl | exact isRef_rf _) ?_
  refine xr_aload_n dX6_run_52 rfl (by first | rfl | exact isRef_rf _) ?_
  refine xr_callVU (n9 := 0) (rc' := 5) (rs' := 42) (k_Act_first_A hG ho) ho rfl q1011 q1012 rfl q1015 q1014 q103 q1016 (by decide +kernel) rfl ⟨by decide, Nat.le_of_ble_eq_true rfl⟩ ⟨Nat.le_of_ble_eq_true rfl, Nat.le_of_ble_eq_true rfl⟩ (Nat.le_of_ble_eq_true rfl) dX6_run_53 rfl (xk_r ?_) (fun _ _ _ h => h.elim)
  refine xr_aload_n dX6_run_56 rfl (by first | rfl | exact isRef_rf _) ?_
  refine xr_callVU (n9 := 0) (rc' := 5) (rs' := 42) (k_Act_second_A hG ho) ho rfl q1017 q1018 rfl q1021 q1020 q103 q1022 (by decide +kernel) rfl ⟨by decide, Nat.le_of_ble_eq_true rfl⟩ ⟨Nat.le_of_ble_eq_true rfl, Nat.le_of_ble_eq_true rfl⟩ (Nat.le_of_ble_eq_true rfl) dX6_run_57 rfl (xk_r ?_) (fun _ _ _ h => h.elim)
  refine xr_aload_n dX6_run_60 rfl (by first | rfl | exact isRef_rf _) ?_
  refine xr_callVU (n9 := 0) (rc' := 5) (rs' := 42) (k_Act_third_A hG ho) ho rfl q1023 q1024 rfl q1027 q1026 q103 q1028 (by decide +kernel) rfl ⟨by decide, Nat.le_of_ble_eq_true rfl⟩ ⟨Nat.le_of_ble_eq_true rfl, Nat.le_of_ble_eq_true rfl⟩ (Nat.le_of_ble_eq_true rfl) dX6_run_61 rfl (xk_r ?_) (fun _ _ _ h => h.elim)
  refine xr_callV (n9 := 3) (rc' := 0) (rs' := 0) (k_P_addFountain hG hL hK hB ⟨by omega, by omega⟩) hK.hq rfl q1080 q1081 q1082 q87 q1083 (by decide +kernel) rfl ⟨by decide, Nat.le_of_ble_eq_true rfl⟩ ⟨Nat.le_of_ble_eq_true rfl, Nat.le_of_ble_eq_true rfl⟩ (Nat.le_of_ble_eq_true rfl) dX6_run_64 rfl (fun r w64 hw => ?_) ?_
  rotate_left
  · skip
    rintro E q9 w9 h9
    exact xt_out (fun x hx => (htab x hx).elim) (by rw [hxp]; exact h9)
  obtain ⟨L2, rfl, hj2, hK2, hm2⟩ := hw
  show XJ _ _ _ _ _ _ _ _ _ _ _ _ [.int (iI (P 1))]
  refine xr_goto (tgt := 78) dX6_run_67 (by decide) ?_
  refine xr_ireturn rfl rfl dX6_run_78 ?_
  rw [hpo]
  exact ⟨L2, rfl, hj2, hK2, hm2⟩
theorem k_checked_f {g : GG} {w : WW} {a : Nat} {n0 : Nat → Prop} {q : Nat} {L : Int → Nat} {P : Int → Int} {N : Int} {x y v : Int} (hG : Base g) (ho : Ob w a 9 [.int (iI x), .int (iI y), .int (iI v), .int (iI 102)]) (hL : KL g) (hK : PK g w n0 q L P) (hB : PB P N) (hR : sm x ∧ sm y ∧ sm v) (hN : N + 13000 ≤ 10000000) : Ct g yX5_checkedRun (.code yX5_checkedRun cX5_checkedRun 2 (some .int)) 10 190 5 42 w [.ref a, .ref q] (fun r_ w1 => (((0 ≤ x ∧ x ≤ 5) ∧ (0 ≤ y ∧ y ≤ 5)) ∧ (1 ≤ v ∧ v ≤ 9)) ∧ ∃ L' : Int → Nat, r_ = some (.int (iI (P 1))) ∧ (rjFount P x y).1 = 0 ∧ PK g w1 n0 q L' (oFount P x y v) ∧ Fr n0 w w1) (fun E a9 w1 => (E = "BenchBroker$BadCommand" ∧ ¬ (((0 ≤ x ∧ x ≤ 5) ∧ (0 ≤ y ∧ y ≤ 5)) ∧ (1 ≤ v ∧ v ≤ 9)) ∧ w1 = w) ∨ (((0 ≤ x ∧ x ≤ 5) ∧ (0 ≤ y ∧ y ≤ 5)) ∧ (1 ≤ v ∧ v ≤ 9)) ∧ E = "BenchBroker$Rejection" ∧ ((rjFount P x y).1 ≠ 0 ∧ Ob w1 a9 6 [.int (iI (rjFount P x y).1), .int (iI (rjFount P x y).2), .int (iI 0)]) ∧ Mo w.2 w w1 ∧ w.2 ≤ a9) := by
  refine Ct.of (lv := [some _, some _]) hG (by decide +kernel) (Nat.le_of_ble_eq_true rfl) rfl ?_
  intro z hg hpo hxp hnm htab
  subst hg
  refine xr_aload_n dX5_checkedRun_0 rfl (by first | rfl | exact isRef_rf _) ?_
  refine xr_aload_n dX5_checkedRun_1 rfl (by first | rfl | exact isRef_rf _) ?_
  refine xr_callVA (n9 := 1) (rc' := 5) (rs' := 42) (k_isAcc_f hG ho hK hR) ho rfl q2100 q2102 q2101 q2104 q2103 q104 q2105 (by decide +kernel) rfl ⟨by decide, Nat.le_of_ble_eq_true rfl⟩ ⟨Nat.le_of_ble_eq_true rfl, Nat.le_of_ble_eq_true rfl⟩ (Nat.le_of_ble_eq_true rfl) dX5_checkedRun_2 rfl (xk_r ?_) (fun _ _ _ h => h.elim)
  refine xr_ifb_ne (tgt := 16) dX5_checkedRun_5 (by decide) (fun c5 => ?_) (fun c5 => ?_)
  · skip
    try simp only [decide_eq_true_eq, decide_eq_false_iff_not] at c5
    refine xr_aload_n dX5_checkedRun_16 rfl (by first | rfl | exact isRef_rf _) ?_
    refine xr_aload_n dX5_checkedRun_17 rfl (by first | rfl | exact isRef_rf _) ?_
    refine xr_callVA (n9 := 1) (rc' := 0) (rs' := 0) (k_run_f hG ho hL hK hB hR hN c5) ho rfl q2137 q1007 q1006 q1009 q1008 q104 q1010 (by decide +kernel) rfl ⟨by decide, Nat.le_of_ble_eq_true rfl⟩ ⟨Nat.le_of_ble_eq_true rfl, Nat.le_of_ble_eq_true rfl⟩ (Nat.le_of_ble_eq_true rfl) dX5_checkedRun_18 rfl (fun r w18 hw => ?_) ?_
    rotate_left
    · skip
      rintro E q9 w9 h9
      exact xt_out (fun x hx => (htab x hx).elim) (by rw [hxp]; exact Or.inr ⟨c5, h9⟩)
    obtain ⟨L2, rfl, hj2, hK2, hm2⟩ := hw
    refine xr_ireturn rfl rfl dX5_checkedRun_21 ?_
    rw [hpo]
    exact ⟨c5, L2, rfl, hj2, hK2, hm2⟩
  · skip
    try simp only [decide_eq_true_eq, decide_eq_false_iff_not] at c5
    refine xr_throw0 (cls := "BenchBroker$BadCommand") (names := ["java/lang/Exception"]) (by decide +kernel) (by decide +kernel) q2122 q132 (at_words [97, 546, 555, 567, 570, 572, 547, 548, 139, 140, 549, 554, 568, 588, 536, 589, 538, 590, 540, 550, 552, 542, 2132, 2133, 2134, 698, 529, 698, 699, 700, 547, 531, 2131, 2123, 2124, 2125, 557, 2126, 2127, 2128, 2129, 586, 544, 2130] (by decide +kernel) (by decide +kernel)) ⟨rfl, rfl⟩ dX5_checkedRun_8 dX5_checkedRun_11 dX5_checkedRun_12 dX5_checkedRun_15 (fun x hx => (htab x hx).elim) (by decide) (Nat.le_of_ble_eq_true rfl) ⟨Nat.le_of_ble_eq_true rfl, Nat.le_of_ble_eq_true rfl⟩ (fun q9 hq9 => ?_)
    rw [hxp]
    exact Or.inl ⟨rfl, c5, rfl⟩
theorem k_isAcc_t {g : GG} {w : WW} {a : Nat} {n0 : Nat → Prop} {q : Nat} {L : Int → Nat} {P : Int → Int}  {v : Int} (hG : Base g) (ho : Ob w a 9 [.int (iI (-1)), .int (iI (-1)), .int (iI v), .int (iI 116)]) (hK : PK g w n0 q L P) (hR : sm v) : Ct g yX6_isAccepted (.code yX6_isAccepted cX6_isAccepted 2 (some .boolean)) 2 42 0 0 w [.ref a, .ref q] (fun r_ w1 => r_ = some (.int (bI (decide (0 ≤ v ∧ v ≤ 99)))) ∧ w1 = w) xF := by
  refine Ct.of (lv := [some _, some _]) hG (by decide +kernel) (Nat.le_of_ble_eq_true rfl) rfl ?_
  intro z hg hpo hxp hnm htab
  subst hg
  refine xr_aload_n dX6_isAccepted_0 rfl (by first | rfl | exact isRef_rf _) ?_
  refine xr_getfield (ci := 9) (T := TX6) (N := 4) (i := 3) ho rfl (by decide) in_X6 q987 (.inl rfl) dX6_isAccepted_1 (by rfl) ?_
  refine xr_lookup (off := 92) (tgt := 96) dX6_isAccepted_4 (by omega) (by decide) (by first | rfl | decide) (by decide) ?_
  refine xr_aload_n dX6_isAccepted_96 rfl (by first | rfl | exact isRef_rf _) ?_
  refine xr_callVU (n9 := 0) (rc' := 0) (rs' := 0) (k_Act_third_A hG ho) ho rfl q1023 q1024 rfl q1027 q1026 q103 q1028 (by decide +kernel) rfl ⟨by decide, Nat.le_of_ble_eq_true rfl⟩ ⟨Nat.le_of_ble_eq_true rfl, Nat.le_of_ble_eq_true rfl⟩ (Nat.le_of_ble_eq_true rfl) dX6_isAccepted_97 rfl (xk_r ?_) (fun _ _ _ h => h.elim)
  refine xr_callSN (n9 := 1) (rc' := 0) (rs' := 0) (k_isPurse hG (by omega)) q2109 q1339 q86 q1340 (by decide +kernel) rfl ⟨by decide, Nat.le_of_ble_eq_true rfl⟩ ⟨Nat.le_of_ble_eq_true rfl, Nat.le_of_ble_eq_true rfl⟩ (Nat.le_of_ble_eq_true rfl) dX6_isAccepted_100 rfl (xk_r ?_) (fun _ _ _ h => h.elim)
  refine xr_ireturn rfl (by first | rfl | exact nar_bI _ | decide +kernel) dX6_isAccepted_103 ?_
  rw [hpo]
  first | exact ⟨rfl, rfl⟩ | exact ⟨ret_bt (by omega), rfl⟩ | exact ⟨ret_bf (by omega), rfl⟩ | exact ⟨ret_i (by omega), rfl⟩
theorem k_run_t {g : GG} {w : WW} {a : Nat} {n0 : Nat → Prop} {q : Nat} {L : Int → Nat} {P : Int → Int} {N : Int} {v : Int} (hG : Base g) (ho : Ob w a 9 [.int (iI (-1)), .int (iI (-1)), .int (iI v), .int (iI 116)]) (hL : KL g) (hK : PK g w n0 q L P) (hB : PB P N) (hR : sm v) (hN : N + 13000 ≤ 10000000) (ha : 0 ≤ v ∧ v ≤ 99) : Ct g yX6_run (.code yX6_run cX6_run 2 (some .int)) 8 150 3 23 w [.ref a, .ref q] (fun r_ w1 => ∃ L' : Int → Nat, r_ = some (.int (iI (P 2))) ∧ (rjTenant P).1 = 0 ∧ PK g w1 n0 q L' (oTenant P v) ∧ Fr n0 w w1) (fun E a9 w1 => E = "BenchBroker$Rejection" ∧ ((rjTenant P).1 ≠ 0 ∧ Ob w1 a9 6 [.int (iI (rjTenant P).1), .int (iI (rjTenant P).2), .int (iI 0)]) ∧ Mo w.2 w w1 ∧ w.2 ≤ a9) := by
  refine Ct.of (lv := [some _, some _]) hG (by decide +kernel) (Nat.le_of_ble_eq_true rfl) rfl ?_
  intro z hg hpo hxp hnm htab
  subst hg
  refine xr_aload_n dX6_run_0 rfl (by first | rfl | exact isRef_rf _) ?_
  refine xr_getfield (ci := 9) (T := TX6) (N := 4) (i := 3) ho rfl (by decide) in_X6 q987 (.inl rfl) dX6_run_1 (by rfl) ?_
  refine xr_lookup (off := 66) (tgt := 70) dX6_run_4 (by omega) (by decide) (by first | rfl | decide) (by decide) ?_
  refine xr_aload_n dX6_run_70 rfl (by first | rfl | exact isRef_rf _) ?_
  refine xr_aload_n dX6_run_71 rfl (by first | rfl | exact isRef_rf _) ?_
  refine xr_callVU (n9 := 0) (rc' := 3) (rs' := 23) (k_Act_third_A hG ho) ho rfl q1023 q1024 rfl q1027 q1026 q103 q1028 (by decide +kernel) rfl ⟨by decide, Nat.le_of_ble_eq_true rfl⟩ ⟨Nat.le_of_ble_eq_true rfl, Nat.le_of_ble_eq_true rfl⟩ (Nat.le_of_ble_eq_true rfl) dX6_run_72 rfl (xk_r ?_) (fun _ _ _ h => h.elim)
  refine xr_callV (n9 := 1) (rc' := 0) (rs' := 0) (k_P_addTenant hG hL hK hB) hK.hq rfl q1087 q1088 q1089 q87 q1090 (by decide +kernel) rfl ⟨by decide, Nat.le_of_ble_eq_true rfl⟩ ⟨Nat.le_of_ble_eq_true rfl, Nat.le_of_ble_eq_true rfl⟩ (Nat.le_of_ble_eq_true rfl) dX6_run_75 rfl (fun r w75 hw => ?_) ?_
  rotate_left
  · skip
    rintro E q9 w9 h9
    exact xt_out (fun x hx => (htab x hx).elim) (by rw [hxp]; exact h9)
  obtain ⟨L2, rfl, hj2, hK2, hm2⟩ := hw
  show XJ _ _ _ _ _ _ _ _ _ _ _ _ [.int (iI (P 2))]
  refine xr_ireturn rfl rfl dX6_run_78 ?_
  rw [hpo]
  exact ⟨L2, rfl, hj2, hK2, hm2⟩
theorem k_checked_t {g : GG} {w : WW} {a : Nat} {n0 : Nat → Prop} {q : Nat} {L : Int → Nat} {P : Int → Int} {N : Int} {v : Int} (hG : Base g) (ho : Ob w a 9 [.int (iI (-1)), .int (iI (-1)), .int (iI v), .int (iI 116)]) (hL : KL g) (hK : PK g w n0 q L P) (hB : PB P N) (hR : sm v) (hN : N + 13000 ≤ 10000000) : Ct g yX5_checkedRun (.code yX5_checkedRun cX5_checkedRun 2 (some .int)) 9 171 3 23 w [.ref a, .ref q] (fun r_ w1 => (0 ≤ v ∧ v ≤ 99) ∧ ∃ L' : Int → Nat, r_ = some (.int (iI (P 2))) ∧ (rjTenant P).1 = 0 ∧ PK g w1 n0 q L' (oTenant P v) ∧ Fr n0 w w1) (fun E a9 w1 => (E = "BenchBroker$BadCommand" ∧ ¬ (0 ≤ v ∧ v ≤ 99) ∧ w1 = w) ∨ (0 ≤ v ∧ v ≤ 99) ∧ E = "BenchBroker$Rejection" ∧ ((rjTenant P).1 ≠ 0 ∧ Ob w1 a9 6 [.int (iI (rjTenant P).1), .int (iI (rjTenant P).2), .int (iI 0)]) ∧ Mo w.2 w w1 ∧ w.2 ≤ a9) := by
  refine Ct.of (lv := [some _, some _]) hG (by decide +kernel) (Nat.le_of_ble_eq_true rfl) rfl ?_
  intro z hg hpo hxp hnm htab
  subst hg
  refine xr_aload_n dX5_checkedRun_0 rfl (by first | rfl | exact isRef_rf _) ?_
  refine xr_aload_n dX5_checkedRun_1 rfl (by first | rfl | exact isRef_rf _) ?_
  refine xr_callVA (n9 := 1) (rc' := 3) (rs' := 23) (k_isAcc_t hG ho hK hR) ho rfl q2100 q2102 q2101 q2104 q2103 q104 q2105 (by decide +kernel) rfl ⟨by decide, Nat.le_of_ble_eq_true rfl⟩ ⟨Nat.le_of_ble_eq_true rfl, Nat.le_of_ble_eq_true rfl⟩ (Nat.le_of_ble_eq_true rfl) dX5_checkedRun_2 rfl (xk_r ?_) (fun _ _ _ h => h.elim)
  refine xr_ifb_ne (tgt := 16) dX5_checkedRun_5 (by decide) (fun c5 => ?_) (fun c5 => ?_)
  · skip
    try simp only [decide_eq_true_eq, decide_eq_false_iff_not] at c5
    refine xr_aload_n dX5_checkedRun_16 rfl (by first | rfl | exact isRef_rf _) ?_
    refine xr_aload_n dX5_checkedRun_17 rfl (by first | rfl | exact isRef_rf _) ?_
    refine xr_callVA (n9 := 1) (rc' := 0) (rs' := 0) (k_run_t hG ho hL hK hB hR hN c5) ho rfl q2137 q1007 q1006 q1009 q1008 q104 q1010 (by decide +kernel) rfl ⟨by decide, Nat.le_of_ble_eq_true rfl⟩ ⟨Nat.le_of_ble_eq_true rfl, Nat.le_of_ble_eq_true rfl⟩ (Nat.le_of_ble_eq_true rfl) dX5_checkedRun_18 rfl (fun r w18 hw => ?_) ?_
    rotate_left
    · skip
      rintro E q9 w9 h9
      exact xt_out (fun x hx => (htab x hx).elim) (by rw [hxp]; exact Or.inr ⟨c5, h9⟩)
    obtain ⟨L2, rfl, hj2, hK2, hm2⟩ := hw
    refine xr_ireturn rfl rfl dX5_checkedRun_21 ?_
    rw [hpo]
    exact ⟨c5, L2, rfl, hj2, hK2, hm2⟩
  · skip
    try simp only [decide_eq_true_eq, decide_eq_false_iff_not] at c5
    refine xr_throw0 (cls := "BenchBroker$BadCommand") (names := ["java/lang/Exception"]) (by decide +kernel) (by decide +kernel) q2122 q132 (at_words [97, 546, 555, 567, 570, 572, 547, 548, 139, 140, 549, 554, 568, 588, 536, 589, 538, 590, 540, 550, 552, 542, 2132, 2133, 2134, 698, 529, 698, 699, 700, 547, 531, 2131, 2123, 2124, 2125, 557, 2126, 2127, 2128, 2129, 586, 544, 2130] (by decide +kernel) (by decide +kernel)) ⟨rfl, rfl⟩ dX5_checkedRun_8 dX5_checkedRun_11 dX5_checkedRun_12 dX5_checkedRun_15 (fun x hx => (htab x hx).elim) (by decide) (Nat.le_of_ble_eq_true rfl) ⟨Nat.le_of_ble_eq_true rfl, Nat.le_of_ble_eq_true rfl⟩ (fun q9 hq9 => ?_)
    rw [hxp]
    exact Or.inl ⟨rfl, c5, rfl⟩
theorem k_isAcc_l {g : GG} {w : WW} {a : Nat} {n0 : Nat → Prop} {q : Nat} {L : Int → Nat} {P : Int → Int}  {x y v : Int} (hG : Base g) (ho : Ob w a 10 [.int (iI x), .int (iI y), .int (iI v), .int (iI 108)]) (hK : PK g w n0 q L P) (hR : sm x ∧ sm y ∧ sm v) : Ct g yX14_isAccepted (.code yX14_isAccepted cX14_isAccepted 2 (some .boolean)) 2 43 0 0 w [.ref a, .ref q] (fun r_ w1 => r_ = some (.int (bI (decide (((0 ≤ x ∧ x < P 2) ∧ (0 ≤ y ∧ y < P 0)) ∧ (1 ≤ v ∧ v ≤ 12))))) ∧ w1 = w) xF := by
  refine Ct.of (lv := [some _, some _]) hG (by decide +kernel) (Nat.le_of_ble_eq_true rfl) rfl ?_
  intro z hg hpo hxp hnm htab
  subst hg
  refine xr_aload_n dX14_isAccepted_0 rfl (by first | rfl | exact isRef_rf _) ?_
  refine xr_getfield (ci := 10) (T := TX14) (N := 4) (i := 3) ho rfl (by decide) in_X14 q1421 (.inl rfl) dX14_isAccepted_1 (by rfl) ?_
  refine xr_lookup (off := 28) (tgt := 32) dX14_isAccepted_4 (by omega) (by decide) (by first | rfl | decide) (by decide) ?_
  refine xr_aload_n dX14_isAccepted_32 rfl (by first | rfl | exact isRef_rf _) ?_
  refine xr_getfieldN (ci := 0) (T := TX2) (N := 10) (i := 2) hK.hq rfl (by decide) in_X2 q193 (.inl rfl) dX14_isAccepted_33 (by rfl) ?_
  refine xr_aload_n dX14_isAccepted_36 rfl (by first | rfl | exact isRef_rf _) ?_
  refine xr_callVU (n9 := 0) (rc' := 0) (rs' := 0) (k_Act_first_L hG ho) ho rfl q1094 q1095 rfl q1015 q1096 q103 q1016 (by decide +kernel) rfl ⟨by decide, Nat.le_of_ble_eq_true rfl⟩ ⟨Nat.le_of_ble_eq_true rfl, Nat.le_of_ble_eq_true rfl⟩ (Nat.le_of_ble_eq_true rfl) dX14_isAccepted_37 rfl (xk_r ?_) (fun _ _ _ h => h.elim)
  refine xr_callV (n9 := 1) (rc' := 0) (rs' := 0) (k_Reg_has hG hK.r2 hK.l2 (by omega)) hK.r2 rfl q2113 q1193 q1194 q88 q1195 (by decide +kernel) rfl ⟨by decide, Nat.le_of_ble_eq_true rfl⟩ ⟨Nat.le_of_ble_eq_true rfl, Nat.le_of_ble_eq_true rfl⟩ (Nat.le_of_ble_eq_true rfl) dX14_isAccepted_40 rfl (xk_r ?_) (fun _ _ _ h => h.elim)
  refine xr_ifb_eq (tgt := 74) dX14_isAccepted_43 (by decide) (fun c43 => ?_) (fun c43 => ?_)
  · skip
    try simp only [decide_eq_true_eq, decide_eq_false_iff_not] at c43
    refine xr_iconst dX14_isAccepted_74 ?_
    refine xr_goto (tgt := 121) dX14_isAccepted_75 (by decide) ?_
    refine xr_ireturn rfl (by first | rfl | exact nar_bI _ | decide +kernel) dX14_isAccepted_121 ?_
    rw [hpo]
    first | exact ⟨rfl, rfl⟩ | exact ⟨ret_bt (by omega), rfl⟩ | exact ⟨ret_bf (by omega), rfl⟩ | exact ⟨ret_i (by omega), rfl⟩
  · skip
    try simp only [decide_eq_true_eq, decide_eq_false_iff_not] at c43
    refine xr_aload_n dX14_isAccepted_46 rfl (by first | rfl | exact isRef_rf _) ?_
    refine xr_getfieldN (ci := 0) (T := TX2) (N := 10) (i := 0) hK.hq rfl (by decide) in_X2 q187 (.inl rfl) dX14_isAccepted_47 (by rfl) ?_
    refine xr_aload_n dX14_isAccepted_50 rfl (by first | rfl | exact isRef_rf _) ?_
    refine xr_callVU (n9 := 0) (rc' := 0) (rs' := 0) (k_Act_second_L hG ho) ho rfl q1097 q1098 rfl q1021 q1099 q103 q1022 (by decide +kernel) rfl ⟨by decide, Nat.le_of_ble_eq_true rfl⟩ ⟨Nat.le_of_ble_eq_true rfl, Nat.le_of_ble_eq_true rfl⟩ (Nat.le_of_ble_eq_true rfl) dX14_isAccepted_51 rfl (xk_r ?_) (fun _ _ _ h => h.elim)
    refine xr_callV (n9 := 1) (rc' := 0) (rs' := 0) (k_Reg_has hG hK.r0 hK.l0 (by omega)) hK.r0 rfl q2113 q1193 q1194 q88 q1195 (by decide +kernel) rfl ⟨by decide, Nat.le_of_ble_eq_true rfl⟩ ⟨Nat.le_of_ble_eq_true rfl, Nat.le_of_ble_eq_true rfl⟩ (Nat.le_of_ble_eq_true rfl) dX14_isAccepted_54 rfl (xk_r ?_) (fun _ _ _ h => h.elim)
    refine xr_ifb_eq (tgt := 74) dX14_isAccepted_57 (by decide) (fun c57 => ?_) (fun c57 => ?_)
    · skip
      try simp only [decide_eq_true_eq, decide_eq_false_iff_not] at c57
      refine xr_iconst dX14_isAccepted_74 ?_
      refine xr_goto (tgt := 121) dX14_isAccepted_75 (by decide) ?_
      refine xr_ireturn rfl (by first | rfl | exact nar_bI _ | decide +kernel) dX14_isAccepted_121 ?_
      rw [hpo]
      first | exact ⟨rfl, rfl⟩ | exact ⟨ret_bt (by omega), rfl⟩ | exact ⟨ret_bf (by omega), rfl⟩ | exact ⟨ret_i (by omega), rfl⟩
    · skip
      try simp only [decide_eq_true_eq, decide_eq_false_iff_not] at c57
      refine xr_aload_n dX14_isAccepted_60 rfl (by first | rfl | exact isRef_rf _) ?_
      refine xr_callVU (n9 := 0) (rc' := 0) (rs' := 0) (k_Act_third_L hG ho) ho rfl q1100 q1101 rfl q1027 q1102 q103 q1028 (by decide +kernel) rfl ⟨by decide, Nat.le_of_ble_eq_true rfl⟩ ⟨Nat.le_of_ble_eq_true rfl, Nat.le_of_ble_eq_true rfl⟩ (Nat.le_of_ble_eq_true rfl) dX14_isAccepted_61 rfl (xk_r ?_) (fun _ _ _ h => h.elim)
      refine xr_callSN (n9 := 1) (rc' := 0) (rs' := 0) (k_isTerm hG (by omega)) q2114 q1413 q86 q1414 (by decide +kernel) rfl ⟨by decide, Nat.le_of_ble_eq_true rfl⟩ ⟨Nat.le_of_ble_eq_true rfl, Nat.le_of_ble_eq_true rfl⟩ (Nat.le_of_ble_eq_true rfl) dX14_isAccepted_64 rfl (xk_r ?_) (fun _ _ _ h => h.elim)
      refine xr_ifb_eq (tgt := 74) dX14_isAccepted_67 (by decide) (fun c67 => ?_) (fun c67 => ?_)
      · skip
        try simp only [decide_eq_true_eq, decide_eq_false_iff_not] at c67
        refine xr_iconst dX14_isAccepted_74 ?_
        refine xr_goto (tgt := 121) dX14_isAccepted_75 (by decide) ?_
        refine xr_ireturn rfl (by first | rfl | exact nar_bI _ | decide +kernel) dX14_isAccepted_121 ?_
        rw [hpo]
        first | exact ⟨rfl, rfl⟩ | exact ⟨ret_bt (by omega), rfl⟩ | exact ⟨ret_bf (by omega), rfl⟩ | exact ⟨ret_i (by omega), rfl⟩
      · skip
        try simp only [decide_eq_true_eq, decide_eq_false_iff_not] at c67
        refine xr_iconst dX14_isAccepted_70 ?_
        refine xr_goto (tgt := 121) dX14_isAccepted_71 (by decide) ?_
        refine xr_ireturn rfl (by first | rfl | exact nar_bI _ | decide +kernel) dX14_isAccepted_121 ?_
        rw [hpo]
        first | exact ⟨rfl, rfl⟩ | exact ⟨ret_bt (by omega), rfl⟩ | exact ⟨ret_bf (by omega), rfl⟩ | exact ⟨ret_i (by omega), rfl⟩
theorem k_run_l {g : GG} {w : WW} {a : Nat} {n0 : Nat → Prop} {q : Nat} {L : Int → Nat} {P : Int → Int} {N : Int} {x y v : Int} (hG : Base g) (ho : Ob w a 10 [.int (iI x), .int (iI y), .int (iI v), .int (iI 108)]) (hL : KL g) (hK : PK g w n0 q L P) (hB : PB P N) (hR : sm x ∧ sm y ∧ sm v) (hN : N + 13000 ≤ 10000000) (ha : ((0 ≤ x ∧ x < P 2) ∧ (0 ≤ y ∧ y < P 0)) ∧ (1 ≤ v ∧ v ≤ 12)) : Ct g yX14_run (.code yX14_run cX14_run 2 (some .int)) 16 3192 4 15 w [.ref a, .ref q] (fun r_ w1 => ∃ L' : Int → Nat, r_ = some (.int (iI (rent P y))) ∧ (barred P x y).1 = 0 ∧ PK g w1 n0 q L' (oLease P x y v) ∧ Fr n0 w w1) (fun E a9 w1 => E = "BenchBroker$Rejection" ∧ ((barred P x y).1 ≠ 0 ∧ Ob w1 a9 6 [.int (iI (barred P x y).1), .int (iI (barred P x y).2), .int (iI 0)]) ∧ Mo w.2 w w1 ∧ w.2 ≤ a9) := by
  refine Ct.of (lv := [some _, some _]) hG (by decide +kernel) (Nat.le_of_ble_eq_true rfl) rfl ?_
  intro z hg hpo hxp hnm htab
  subst hg
  refine xr_aload_n dX14_run_0 rfl (by first | rfl | exact isRef_rf _) ?_
  refine xr_getfield (ci := 10) (T := TX14) (N := 4) (i := 3) ho rfl (by decide) in_X14 q1421 (.inl rfl) dX14_run_1 (by rfl) ?_
  refine xr_lookup (off := 28) (tgt := 32) dX14_run_4 (by omega) (by decide) (by first | rfl | decide) (by decide) ?_
  refine xr_aload_n dX14_run_32 rfl (by first | rfl | exact isRef_rf _) ?_
  refine xr_aload_n dX14_run_33 rfl (by first | rfl | exact isRef_rf _) ?_
  refine xr_callVU (n9 := 0) (rc' := 4) (rs' := 15) (k_Act_first_L hG ho) ho rfl q1094 q1095 rfl q1015 q1096 q103 q1016 (by decide +kernel) rfl ⟨by decide, Nat.le_of_ble_eq_true rfl⟩ ⟨Nat.le_of_ble_eq_true rfl, Nat.le_of_ble_eq_true rfl⟩ (Nat.le_of_ble_eq_true rfl) dX14_run_34 rfl (xk_r ?_) (fun _ _ _ h => h.elim)
  refine xr_aload_n dX14_run_37 rfl (by first | rfl | exact isRef_rf _) ?_
  refine xr_callVU (n9 := 0) (rc' := 4) (rs' := 15) (k_Act_second_L hG ho) ho rfl q1097 q1098 rfl q1021 q1099 q103 q1022 (by decide +kernel) rfl ⟨by decide, Nat.le_of_ble_eq_true rfl⟩ ⟨Nat.le_of_ble_eq_true rfl, Nat.le_of_ble_eq_true rfl⟩ (Nat.le_of_ble_eq_true rfl) dX14_run_38 rfl (xk_r ?_) (fun _ _ _ h => h.elim)
  refine xr_aload_n dX14_run_41 rfl (by first | rfl | exact isRef_rf _) ?_
  refine xr_callVU (n9 := 0) (rc' := 4) (rs' := 15) (k_Act_third_L hG ho) ho rfl q1100 q1101 rfl q1027 q1102 q103 q1028 (by decide +kernel) rfl ⟨by decide, Nat.le_of_ble_eq_true rfl⟩ ⟨Nat.le_of_ble_eq_true rfl, Nat.le_of_ble_eq_true rfl⟩ (Nat.le_of_ble_eq_true rfl) dX14_run_42 rfl (xk_r ?_) (fun _ _ _ h => h.elim)
  refine xr_callV (n9 := 3) (rc' := 0) (rs' := 0) (k_P_lease hG hK hB ha.1.2 ha.1.1) hK.hq rfl q1103 q1104 q1105 q87 q1106 (by decide +kernel) rfl ⟨by decide, Nat.le_of_ble_eq_true rfl⟩ ⟨Nat.le_of_ble_eq_true rfl, Nat.le_of_ble_eq_true rfl⟩ (Nat.le_of_ble_eq_true rfl) dX14_run_45 rfl (fun r w45 hw => ?_) ?_
  rotate_left
  · skip
    rintro E q9 w9 h9
    exact xt_out (fun x hx => (htab x hx).elim) (by rw [hxp]; exact h9)
  obtain ⟨hj2, rfl, hK2, hm2⟩ := hw
  show XJ _ _ _ _ _ _ _ _ _ _ _ _ [.int (iI (rent P y))]
  refine xr_goto (tgt := 74) dX14_run_48 (by decide) ?_
  refine xr_ireturn rfl rfl dX14_run_74 ?_
  rw [hpo]
  exact ⟨L, rfl, hj2, hK2, hm2⟩
theorem k_checked_l {g : GG} {w : WW} {a : Nat} {n0 : Nat → Prop} {q : Nat} {L : Int → Nat} {P : Int → Int} {N : Int} {x y v : Int} (hG : Base g) (ho : Ob w a 10 [.int (iI x), .int (iI y), .int (iI v), .int (iI 108)]) (hL : KL g) (hK : PK g w n0 q L P) (hB : PB P N) (hR : sm x ∧ sm y ∧ sm v) (hN : N + 13000 ≤ 10000000) : Ct g yX5_checkedRun (.code yX5_checkedRun cX5_checkedRun 2 (some .int)) 17 3213 4 15 w [.ref a, .ref q] (fun r_ w1 => (((0 ≤ x ∧ x < P 2) ∧ (0 ≤ y ∧ y < P 0)) ∧ (1 ≤ v ∧ v ≤ 12)) ∧ ∃ L' : Int → Nat, r_ = some (.int (iI (rent P y))) ∧ (barred P x y).1 = 0 ∧ PK g w1 n0 q L' (oLease P x y v) ∧ Fr n0 w w1) (fun E a9 w1 => (E = "BenchBroker$BadCommand" ∧ ¬ (((0 ≤ x ∧ x < P 2) ∧ (0 ≤ y ∧ y < P 0)) ∧ (1 ≤ v ∧ v ≤ 12)) ∧ w1 = w) ∨ (((0 ≤ x ∧ x < P 2) ∧ (0 ≤ y ∧ y < P 0)) ∧ (1 ≤ v ∧ v ≤ 12)) ∧ E = "BenchBroker$Rejection" ∧ ((barred P x y).1 ≠ 0 ∧ Ob w1 a9 6 [.int (iI (barred P x y).1), .int (iI (barred P x y).2), .int (iI 0)]) ∧ Mo w.2 w w1 ∧ w.2 ≤ a9) := by
  refine Ct.of (lv := [some _, some _]) hG (by decide +kernel) (Nat.le_of_ble_eq_true rfl) rfl ?_
  intro z hg hpo hxp hnm htab
  subst hg
  refine xr_aload_n dX5_checkedRun_0 rfl (by first | rfl | exact isRef_rf _) ?_
  refine xr_aload_n dX5_checkedRun_1 rfl (by first | rfl | exact isRef_rf _) ?_
  refine xr_callVA (n9 := 1) (rc' := 4) (rs' := 15) (k_isAcc_l hG ho hK hR) ho rfl q2100 q2102 q2101 q2111 q2110 q125 q2112 (by decide +kernel) rfl ⟨by decide, Nat.le_of_ble_eq_true rfl⟩ ⟨Nat.le_of_ble_eq_true rfl, Nat.le_of_ble_eq_true rfl⟩ (Nat.le_of_ble_eq_true rfl) dX5_checkedRun_2 rfl (xk_r ?_) (fun _ _ _ h => h.elim)
  refine xr_ifb_ne (tgt := 16) dX5_checkedRun_5 (by decide) (fun c5 => ?_) (fun c5 => ?_)
  · skip
    try simp only [decide_eq_true_eq, decide_eq_false_iff_not] at c5
    refine xr_aload_n dX5_checkedRun_16 rfl (by first | rfl | exact isRef_rf _) ?_
    refine xr_aload_n dX5_checkedRun_17 rfl (by first | rfl | exact isRef_rf _) ?_
    refine xr_callVA (n9 := 1) (rc' := 0) (rs' := 0) (k_run_l hG ho hL hK hB hR hN c5) ho rfl q2137 q1007 q1006 q1092 q1091 q125 q1093 (by decide +kernel) rfl ⟨by decide, Nat.le_of_ble_eq_true rfl⟩ ⟨Nat.le_of_ble_eq_true rfl, Nat.le_of_ble_eq_true rfl⟩ (Nat.le_of_ble_eq_true rfl) dX5_checkedRun_18 rfl (fun r w18 hw => ?_) ?_
    rotate_left
    · skip
      rintro E q9 w9 h9
      exact xt_out (fun x hx => (htab x hx).elim) (by rw [hxp]; exact Or.inr ⟨c5, h9⟩)
    obtain ⟨L2, rfl, hj2, hK2, hm2⟩ := hw
    refine xr_ireturn rfl rfl dX5_checkedRun_21 ?_
    rw [hpo]
    exact ⟨c5, L2, rfl, hj2, hK2, hm2⟩
  · skip
    try simp only [decide_eq_true_eq, decide_eq_false_iff_not] at c5
    refine xr_throw0 (cls := "BenchBroker$BadCommand") (names := ["java/lang/Exception"]) (by decide +kernel) (by decide +kernel) q2122 q132 (at_words [97, 546, 555, 567, 570, 572, 547, 548, 139, 140, 549, 554, 568, 588, 536, 589, 538, 590, 540, 550, 552, 542, 2132, 2133, 2134, 698, 529, 698, 699, 700, 547, 531, 2131, 2123, 2124, 2125, 557, 2126, 2127, 2128, 2129, 586, 544, 2130] (by decide +kernel) (by decide +kernel)) ⟨rfl, rfl⟩ dX5_checkedRun_8 dX5_checkedRun_11 dX5_checkedRun_12 dX5_checkedRun_15 (fun x hx => (htab x hx).elim) (by decide) (Nat.le_of_ble_eq_true rfl) ⟨Nat.le_of_ble_eq_true rfl, Nat.le_of_ble_eq_true rfl⟩ (fun q9 hq9 => ?_)
    rw [hxp]
    exact Or.inl ⟨rfl, c5, rfl⟩
theorem k_isAcc_r {g : GG} {w : WW} {a : Nat} {n0 : Nat → Prop} {q : Nat} {L : Int → Nat} {P : Int → Int}  {y v : Int} (hG : Base g) (ho : Ob w a 10 [.int (iI (-1)), .int (iI y), .int (iI v), .int (iI 114)]) (hK : PK g w n0 q L P) (hR : sm y ∧ sm v) : Ct g yX14_isAccepted (.code yX14_isAccepted cX14_isAccepted 2 (some .boolean)) 2 43 0 0 w [.ref a, .ref q] (fun r_ w1 => r_ = some (.int (bI (decide ((0 ≤ y ∧ y < P 0) ∧ (1 ≤ v ∧ v ≤ 12))))) ∧ w1 = w) xF := by
  refine Ct.of (lv := [some _, some _]) hG (by decide +kernel) (Nat.le_of_ble_eq_true rfl) rfl ?_
  intro z hg hpo hxp hnm htab
  subst hg
  refine xr_aload_n dX14_isAccepted_0 rfl (by first | rfl | exact isRef_rf _) ?_
  refine xr_getfield (ci := 10) (T := TX14) (N := 4) (i := 3) ho rfl (by decide) in_X14 q1421 (.inl rfl) dX14_isAccepted_1 (by rfl) ?_
  refine xr_lookup (off := 74) (tgt := 78) dX14_isAccepted_4 (by omega) (by decide) (by first | rfl | decide) (by decide) ?_
  refine xr_aload_n dX14_isAccepted_78 rfl (by first | rfl | exact isRef_rf _) ?_
  refine xr_getfieldN (ci := 0) (T := TX2) (N := 10) (i := 0) hK.hq rfl (by decide) in_X2 q187 (.inl rfl) dX14_isAccepted_79 (by rfl) ?_
  refine xr_aload_n dX14_isAccepted_82 rfl (by first | rfl | exact isRef_rf _) ?_
  refine xr_callVU (n9 := 0) (rc' := 0) (rs' := 0) (k_Act_second_L hG ho) ho rfl q1097 q1098 rfl q1021 q1099 q103 q1022 (by decide +kernel) rfl ⟨by decide, Nat.le_of_ble_eq_true rfl⟩ ⟨Nat.le_of_ble_eq_true rfl, Nat.le_of_ble_eq_true rfl⟩ (Nat.le_of_ble_eq_true rfl) dX14_isAccepted_83 rfl (xk_r ?_) (fun _ _ _ h => h.elim)
  refine xr_callV (n9 := 1) (rc' := 0) (rs' := 0) (k_Reg_has hG hK.r0 hK.l0 (by omega)) hK.r0 rfl q2113 q1193 q1194 q88 q1195 (by decide +kernel) rfl ⟨by decide, Nat.le_of_ble_eq_true rfl⟩ ⟨Nat.le_of_ble_eq_true rfl, Nat.le_of_ble_eq_true rfl⟩ (Nat.le_of_ble_eq_true rfl) dX14_isAccepted_86 rfl (xk_r ?_) (fun _ _ _ h => h.elim)
  refine xr_ifb_eq (tgt := 106) dX14_isAccepted_89 (by decide) (fun c89 => ?_) (fun c89 => ?_)
  · skip
    try simp only [decide_eq_true_eq, decide_eq_false_iff_not] at c89
    refine xr_iconst dX14_isAccepted_106 ?_
    refine xr_goto (tgt := 121) dX14_isAccepted_107 (by decide) ?_
    refine xr_ireturn rfl (by first | rfl | exact nar_bI _ | decide +kernel) dX14_isAccepted_121 ?_
    rw [hpo]
    first | exact ⟨rfl, rfl⟩ | exact ⟨ret_bt (by omega), rfl⟩ | exact ⟨ret_bf (by omega), rfl⟩ | exact ⟨ret_i (by omega), rfl⟩
  · skip
    try simp only [decide_eq_true_eq, decide_eq_false_iff_not] at c89
    refine xr_aload_n dX14_isAccepted_92 rfl (by first | rfl | exact isRef_rf _) ?_
    refine xr_callVU (n9 := 0) (rc' := 0) (rs' := 0) (k_Act_third_L hG ho) ho rfl q1100 q1101 rfl q1027 q1102 q103 q1028 (by decide +kernel) rfl ⟨by decide, Nat.le_of_ble_eq_true rfl⟩ ⟨Nat.le_of_ble_eq_true rfl, Nat.le_of_ble_eq_true rfl⟩ (Nat.le_of_ble_eq_true rfl) dX14_isAccepted_93 rfl (xk_r ?_) (fun _ _ _ h => h.elim)
    refine xr_callSN (n9 := 1) (rc' := 0) (rs' := 0) (k_isTerm hG (by omega)) q2114 q1413 q86 q1414 (by decide +kernel) rfl ⟨by decide, Nat.le_of_ble_eq_true rfl⟩ ⟨Nat.le_of_ble_eq_true rfl, Nat.le_of_ble_eq_true rfl⟩ (Nat.le_of_ble_eq_true rfl) dX14_isAccepted_96 rfl (xk_r ?_) (fun _ _ _ h => h.elim)
    refine xr_ifb_eq (tgt := 106) dX14_isAccepted_99 (by decide) (fun c99 => ?_) (fun c99 => ?_)
    · skip
      try simp only [decide_eq_true_eq, decide_eq_false_iff_not] at c99
      refine xr_iconst dX14_isAccepted_106 ?_
      refine xr_goto (tgt := 121) dX14_isAccepted_107 (by decide) ?_
      refine xr_ireturn rfl (by first | rfl | exact nar_bI _ | decide +kernel) dX14_isAccepted_121 ?_
      rw [hpo]
      first | exact ⟨rfl, rfl⟩ | exact ⟨ret_bt (by omega), rfl⟩ | exact ⟨ret_bf (by omega), rfl⟩ | exact ⟨ret_i (by omega), rfl⟩
    · skip
      try simp only [decide_eq_true_eq, decide_eq_false_iff_not] at c99
      refine xr_iconst dX14_isAccepted_102 ?_
      refine xr_goto (tgt := 121) dX14_isAccepted_103 (by decide) ?_
      refine xr_ireturn rfl (by first | rfl | exact nar_bI _ | decide +kernel) dX14_isAccepted_121 ?_
      rw [hpo]
      first | exact ⟨rfl, rfl⟩ | exact ⟨ret_bt (by omega), rfl⟩ | exact ⟨ret_bf (by omega), rfl⟩ | exact ⟨ret_i (by omega), rfl⟩
theorem k_run_r {g : GG} {w : WW} {a : Nat} {n0 : Nat → Prop} {q : Nat} {L : Int → Nat} {P : Int → Int} {N : Int} {y v : Int} (hG : Base g) (ho : Ob w a 10 [.int (iI (-1)), .int (iI y), .int (iI v), .int (iI 114)]) (hL : KL g) (hK : PK g w n0 q L P) (hB : PB P N) (hR : sm y ∧ sm v) (hN : N + 13000 ≤ 10000000) (ha : (0 ≤ y ∧ y < P 0) ∧ (1 ≤ v ∧ v ≤ 12)) : Ct g yX14_run (.code yX14_run cX14_run 2 (some .int)) 9 166 2 18 w [.ref a, .ref q] (fun r_ w1 => ∃ L' : Int → Nat, r_ = some (.int (iI (P (15 + 6 * y) + v))) ∧ (rjRenew P y v).1 = 0 ∧ PK g w1 n0 q L' (oRenew P y v) ∧ Fr n0 w w1) (fun E a9 w1 => E = "BenchBroker$Rejection" ∧ ((rjRenew P y v).1 ≠ 0 ∧ Ob w1 a9 6 [.int (iI (rjRenew P y v).1), .int (iI (rjRenew P y v).2), .int (iI 0)]) ∧ Mo w.2 w w1 ∧ w.2 ≤ a9) := by
  refine Ct.of (lv := [some _, some _]) hG (by decide +kernel) (Nat.le_of_ble_eq_true rfl) rfl ?_
  intro z hg hpo hxp hnm htab
  subst hg
  refine xr_aload_n dX14_run_0 rfl (by first | rfl | exact isRef_rf _) ?_
  refine xr_getfield (ci := 10) (T := TX14) (N := 4) (i := 3) ho rfl (by decide) in_X14 q1421 (.inl rfl) dX14_run_1 (by rfl) ?_
  refine xr_lookup (off := 47) (tgt := 51) dX14_run_4 (by omega) (by decide) (by first | rfl | decide) (by decide) ?_
  refine xr_aload_n dX14_run_51 rfl (by first | rfl | exact isRef_rf _) ?_
  refine xr_aload_n dX14_run_52 rfl (by first | rfl | exact isRef_rf _) ?_
  refine xr_callVU (n9 := 0) (rc' := 2) (rs' := 18) (k_Act_second_L hG ho) ho rfl q1097 q1098 rfl q1021 q1099 q103 q1022 (by decide +kernel) rfl ⟨by decide, Nat.le_of_ble_eq_true rfl⟩ ⟨Nat.le_of_ble_eq_true rfl, Nat.le_of_ble_eq_true rfl⟩ (Nat.le_of_ble_eq_true rfl) dX14_run_53 rfl (xk_r ?_) (fun _ _ _ h => h.elim)
  refine xr_aload_n dX14_run_56 rfl (by first | rfl | exact isRef_rf _) ?_
  refine xr_callVU (n9 := 0) (rc' := 2) (rs' := 18) (k_Act_third_L hG ho) ho rfl q1100 q1101 rfl q1027 q1102 q103 q1028 (by decide +kernel) rfl ⟨by decide, Nat.le_of_ble_eq_true rfl⟩ ⟨Nat.le_of_ble_eq_true rfl, Nat.le_of_ble_eq_true rfl⟩ (Nat.le_of_ble_eq_true rfl) dX14_run_57 rfl (xk_r ?_) (fun _ _ _ h => h.elim)
  refine xr_callV (n9 := 2) (rc' := 0) (rs' := 0) (k_P_renew hG hK hB ha.1 ha.2) hK.hq rfl q1120 q1121 q1122 q87 q1123 (by decide +kernel) rfl ⟨by decide, Nat.le_of_ble_eq_true rfl⟩ ⟨Nat.le_of_ble_eq_true rfl, Nat.le_of_ble_eq_true rfl⟩ (Nat.le_of_ble_eq_true rfl) dX14_run_60 rfl (fun r w60 hw => ?_) ?_
  rotate_left
  · skip
    rintro E q9 w9 h9
    exact xt_out (fun x hx => (htab x hx).elim) (by rw [hxp]; exact h9)
  obtain ⟨hj2, rfl, hK2, hm2⟩ := hw
  show XJ _ _ _ _ _ _ _ _ _ _ _ _ [.int (iI (P (15 + 6 * y) + v))]
  refine xr_goto (tgt := 74) dX14_run_63 (by decide) ?_
  refine xr_ireturn rfl rfl dX14_run_74 ?_
  rw [hpo]
  exact ⟨L, rfl, hj2, hK2, hm2⟩
theorem k_checked_r {g : GG} {w : WW} {a : Nat} {n0 : Nat → Prop} {q : Nat} {L : Int → Nat} {P : Int → Int} {N : Int} {y v : Int} (hG : Base g) (ho : Ob w a 10 [.int (iI (-1)), .int (iI y), .int (iI v), .int (iI 114)]) (hL : KL g) (hK : PK g w n0 q L P) (hB : PB P N) (hR : sm y ∧ sm v) (hN : N + 13000 ≤ 10000000) : Ct g yX5_checkedRun (.code yX5_checkedRun cX5_checkedRun 2 (some .int)) 10 187 2 18 w [.ref a, .ref q] (fun r_ w1 => ((0 ≤ y ∧ y < P 0) ∧ (1 ≤ v ∧ v ≤ 12)) ∧ ∃ L' : Int → Nat, r_ = some (.int (iI (P (15 + 6 * y) + v))) ∧ (rjRenew P y v).1 = 0 ∧ PK g w1 n0 q L' (oRenew P y v) ∧ Fr n0 w w1) (fun E a9 w1 => (E = "BenchBroker$BadCommand" ∧ ¬ ((0 ≤ y ∧ y < P 0) ∧ (1 ≤ v ∧ v ≤ 12)) ∧ w1 = w) ∨ ((0 ≤ y ∧ y < P 0) ∧ (1 ≤ v ∧ v ≤ 12)) ∧ E = "BenchBroker$Rejection" ∧ ((rjRenew P y v).1 ≠ 0 ∧ Ob w1 a9 6 [.int (iI (rjRenew P y v).1), .int (iI (rjRenew P y v).2), .int (iI 0)]) ∧ Mo w.2 w w1 ∧ w.2 ≤ a9) := by
  refine Ct.of (lv := [some _, some _]) hG (by decide +kernel) (Nat.le_of_ble_eq_true rfl) rfl ?_
  intro z hg hpo hxp hnm htab
  subst hg
  refine xr_aload_n dX5_checkedRun_0 rfl (by first | rfl | exact isRef_rf _) ?_
  refine xr_aload_n dX5_checkedRun_1 rfl (by first | rfl | exact isRef_rf _) ?_
  refine xr_callVA (n9 := 1) (rc' := 2) (rs' := 18) (k_isAcc_r hG ho hK hR) ho rfl q2100 q2102 q2101 q2111 q2110 q125 q2112 (by decide +kernel) rfl ⟨by decide, Nat.le_of_ble_eq_true rfl⟩ ⟨Nat.le_of_ble_eq_true rfl, Nat.le_of_ble_eq_true rfl⟩ (Nat.le_of_ble_eq_true rfl) dX5_checkedRun_2 rfl (xk_r ?_) (fun _ _ _ h => h.elim)
  refine xr_ifb_ne (tgt := 16) dX5_checkedRun_5 (by decide) (fun c5 => ?_) (fun c5 => ?_)
  · skip
    try simp only [decide_eq_true_eq, decide_eq_false_iff_not] at c5
    refine xr_aload_n dX5_checkedRun_16 rfl (by first | rfl | exact isRef_rf _) ?_
    refine xr_aload_n dX5_checkedRun_17 rfl (by first | rfl | exact isRef_rf _) ?_
    refine xr_callVA (n9 := 1) (rc' := 0) (rs' := 0) (k_run_r hG ho hL hK hB hR hN c5) ho rfl q2137 q1007 q1006 q1092 q1091 q125 q1093 (by decide +kernel) rfl ⟨by decide, Nat.le_of_ble_eq_true rfl⟩ ⟨Nat.le_of_ble_eq_true rfl, Nat.le_of_ble_eq_true rfl⟩ (Nat.le_of_ble_eq_true rfl) dX5_checkedRun_18 rfl (fun r w18 hw => ?_) ?_
    rotate_left
    · skip
      rintro E q9 w9 h9
      exact xt_out (fun x hx => (htab x hx).elim) (by rw [hxp]; exact Or.inr ⟨c5, h9⟩)
    obtain ⟨L2, rfl, hj2, hK2, hm2⟩ := hw
    refine xr_ireturn rfl rfl dX5_checkedRun_21 ?_
    rw [hpo]
    exact ⟨c5, L2, rfl, hj2, hK2, hm2⟩
  · skip
    try simp only [decide_eq_true_eq, decide_eq_false_iff_not] at c5
    refine xr_throw0 (cls := "BenchBroker$BadCommand") (names := ["java/lang/Exception"]) (by decide +kernel) (by decide +kernel) q2122 q132 (at_words [97, 546, 555, 567, 570, 572, 547, 548, 139, 140, 549, 554, 568, 588, 536, 589, 538, 590, 540, 550, 552, 542, 2132, 2133, 2134, 698, 529, 698, 699, 700, 547, 531, 2131, 2123, 2124, 2125, 557, 2126, 2127, 2128, 2129, 586, 544, 2130] (by decide +kernel) (by decide +kernel)) ⟨rfl, rfl⟩ dX5_checkedRun_8 dX5_checkedRun_11 dX5_checkedRun_12 dX5_checkedRun_15 (fun x hx => (htab x hx).elim) (by decide) (Nat.le_of_ble_eq_true rfl) ⟨Nat.le_of_ble_eq_true rfl, Nat.le_of_ble_eq_true rfl⟩ (fun q9 hq9 => ?_)
    rw [hxp]
    exact Or.inl ⟨rfl, c5, rfl⟩
theorem k_isAcc_e {g : GG} {w : WW} {a : Nat} {n0 : Nat → Prop} {q : Nat} {L : Int → Nat} {P : Int → Int}  {y : Int} (hG : Base g) (ho : Ob w a 10 [.int (iI (-1)), .int (iI y), .int (iI (-1)), .int (iI 101)]) (hK : PK g w n0 q L P) (hR : sm y) : Ct g yX14_isAccepted (.code yX14_isAccepted cX14_isAccepted 2 (some .boolean)) 2 43 0 0 w [.ref a, .ref q] (fun r_ w1 => r_ = some (.int (bI (decide (0 ≤ y ∧ y < P 0)))) ∧ w1 = w) xF := by
  refine Ct.of (lv := [some _, some _]) hG (by decide +kernel) (Nat.le_of_ble_eq_true rfl) rfl ?_
  intro z hg hpo hxp hnm htab
  subst hg
  refine xr_aload_n dX14_isAccepted_0 rfl (by first | rfl | exact isRef_rf _) ?_
  refine xr_getfield (ci := 10) (T := TX14) (N := 4) (i := 3) ho rfl (by decide) in_X14 q1421 (.inl rfl) dX14_isAccepted_1 (by rfl) ?_
  refine xr_lookup (off := 106) (tgt := 110) dX14_isAccepted_4 (by omega) (by decide) (by first | rfl | decide) (by decide) ?_
  refine xr_aload_n dX14_isAccepted_110 rfl (by first | rfl | exact isRef_rf _) ?_
  refine xr_getfieldN (ci := 0) (T := TX2) (N := 10) (i := 0) hK.hq rfl (by decide) in_X2 q187 (.inl rfl) dX14_isAccepted_111 (by rfl) ?_
  refine xr_aload_n dX14_isAccepted_114 rfl (by first | rfl | exact isRef_rf _) ?_
  refine xr_callVU (n9 := 0) (rc' := 0) (rs' := 0) (k_Act_second_L hG ho) ho rfl q1097 q1098 rfl q1021 q1099 q103 q1022 (by decide +kernel) rfl ⟨by decide, Nat.le_of_ble_eq_true rfl⟩ ⟨Nat.le_of_ble_eq_true rfl, Nat.le_of_ble_eq_true rfl⟩ (Nat.le_of_ble_eq_true rfl) dX14_isAccepted_115 rfl (xk_r ?_) (fun _ _ _ h => h.elim)
  refine xr_callV (n9 := 1) (rc' := 0) (rs' := 0) (k_Reg_has hG hK.r0 hK.l0 (by omega)) hK.r0 rfl q2113 q1193 q1194 q88 q1195 (by decide +kernel) rfl ⟨by decide, Nat.le_of_ble_eq_true rfl⟩ ⟨Nat.le_of_ble_eq_true rfl, Nat.le_of_ble_eq_true rfl⟩ (Nat.le_of_ble_eq_true rfl) dX14_isAccepted_118 rfl (xk_r ?_) (fun _ _ _ h => h.elim)
  refine xr_ireturn rfl (by first | rfl | exact nar_bI _ | decide +kernel) dX14_isAccepted_121 ?_
  rw [hpo]
  first | exact ⟨rfl, rfl⟩ | exact ⟨ret_bt (by omega), rfl⟩ | exact ⟨ret_bf (by omega), rfl⟩ | exact ⟨ret_i (by omega), rfl⟩
theorem k_run_e {g : GG} {w : WW} {a : Nat} {n0 : Nat → Prop} {q : Nat} {L : Int → Nat} {P : Int → Int} {N : Int} {y : Int} (hG : Base g) (ho : Ob w a 10 [.int (iI (-1)), .int (iI y), .int (iI (-1)), .int (iI 101)]) (hL : KL g) (hK : PK g w n0 q L P) (hB : PB P N) (hR : sm y) (hN : N + 13000 ≤ 10000000) (ha : 0 ≤ y ∧ y < P 0) : Ct g yX14_run (.code yX14_run cX14_run 2 (some .int)) 9 168 1 9 w [.ref a, .ref q] (fun r_ w1 => ∃ L' : Int → Nat, r_ = some (.int (iI ((P (14 + 6 * y)).tdiv 2))) ∧ (rjEnd P y).1 = 0 ∧ PK g w1 n0 q L' (oFree P y ((P (14 + 6 * y)).tdiv 2)) ∧ Fr n0 w w1) (fun E a9 w1 => E = "BenchBroker$Rejection" ∧ ((rjEnd P y).1 ≠ 0 ∧ Ob w1 a9 6 [.int (iI (rjEnd P y).1), .int (iI (rjEnd P y).2), .int (iI 0)]) ∧ Mo w.2 w w1 ∧ w.2 ≤ a9) := by
  refine Ct.of (lv := [some _, some _]) hG (by decide +kernel) (Nat.le_of_ble_eq_true rfl) rfl ?_
  intro z hg hpo hxp hnm htab
  subst hg
  refine xr_aload_n dX14_run_0 rfl (by first | rfl | exact isRef_rf _) ?_
  refine xr_getfield (ci := 10) (T := TX14) (N := 4) (i := 3) ho rfl (by decide) in_X14 q1421 (.inl rfl) dX14_run_1 (by rfl) ?_
  refine xr_lookup (off := 62) (tgt := 66) dX14_run_4 (by omega) (by decide) (by first | rfl | decide) (by decide) ?_
  refine xr_aload_n dX14_run_66 rfl (by first | rfl | exact isRef_rf _) ?_
  refine xr_aload_n dX14_run_67 rfl (by first | rfl | exact isRef_rf _) ?_
  refine xr_callVU (n9 := 0) (rc' := 1) (rs' := 9) (k_Act_second_L hG ho) ho rfl q1097 q1098 rfl q1021 q1099 q103 q1022 (by decide +kernel) rfl ⟨by decide, Nat.le_of_ble_eq_true rfl⟩ ⟨Nat.le_of_ble_eq_true rfl, Nat.le_of_ble_eq_true rfl⟩ (Nat.le_of_ble_eq_true rfl) dX14_run_68 rfl (xk_r ?_) (fun _ _ _ h => h.elim)
  refine xr_callV (n9 := 1) (rc' := 0) (rs' := 0) (k_P_endLease hG hK hB ha) hK.hq rfl q1128 q1129 q1130 q87 q1131 (by decide +kernel) rfl ⟨by decide, Nat.le_of_ble_eq_true rfl⟩ ⟨Nat.le_of_ble_eq_true rfl, Nat.le_of_ble_eq_true rfl⟩ (Nat.le_of_ble_eq_true rfl) dX14_run_71 rfl (fun r w71 hw => ?_) ?_
  rotate_left
  · skip
    rintro E q9 w9 h9
    exact xt_out (fun x hx => (htab x hx).elim) (by rw [hxp]; exact h9)
  obtain ⟨hj2, rfl, hK2, hm2⟩ := hw
  show XJ _ _ _ _ _ _ _ _ _ _ _ _ [.int (iI ((P (14 + 6 * y)).tdiv 2))]
  refine xr_ireturn rfl rfl dX14_run_74 ?_
  rw [hpo]
  exact ⟨L, rfl, hj2, hK2, hm2⟩
theorem k_checked_e {g : GG} {w : WW} {a : Nat} {n0 : Nat → Prop} {q : Nat} {L : Int → Nat} {P : Int → Int} {N : Int} {y : Int} (hG : Base g) (ho : Ob w a 10 [.int (iI (-1)), .int (iI y), .int (iI (-1)), .int (iI 101)]) (hL : KL g) (hK : PK g w n0 q L P) (hB : PB P N) (hR : sm y) (hN : N + 13000 ≤ 10000000) : Ct g yX5_checkedRun (.code yX5_checkedRun cX5_checkedRun 2 (some .int)) 10 189 1 9 w [.ref a, .ref q] (fun r_ w1 => (0 ≤ y ∧ y < P 0) ∧ ∃ L' : Int → Nat, r_ = some (.int (iI ((P (14 + 6 * y)).tdiv 2))) ∧ (rjEnd P y).1 = 0 ∧ PK g w1 n0 q L' (oFree P y ((P (14 + 6 * y)).tdiv 2)) ∧ Fr n0 w w1) (fun E a9 w1 => (E = "BenchBroker$BadCommand" ∧ ¬ (0 ≤ y ∧ y < P 0) ∧ w1 = w) ∨ (0 ≤ y ∧ y < P 0) ∧ E = "BenchBroker$Rejection" ∧ ((rjEnd P y).1 ≠ 0 ∧ Ob w1 a9 6 [.int (iI (rjEnd P y).1), .int (iI (rjEnd P y).2), .int (iI 0)]) ∧ Mo w.2 w w1 ∧ w.2 ≤ a9) := by
  refine Ct.of (lv := [some _, some _]) hG (by decide +kernel) (Nat.le_of_ble_eq_true rfl) rfl ?_
  intro z hg hpo hxp hnm htab
  subst hg
  refine xr_aload_n dX5_checkedRun_0 rfl (by first | rfl | exact isRef_rf _) ?_
  refine xr_aload_n dX5_checkedRun_1 rfl (by first | rfl | exact isRef_rf _) ?_
  refine xr_callVA (n9 := 1) (rc' := 1) (rs' := 9) (k_isAcc_e hG ho hK hR) ho rfl q2100 q2102 q2101 q2111 q2110 q125 q2112 (by decide +kernel) rfl ⟨by decide, Nat.le_of_ble_eq_true rfl⟩ ⟨Nat.le_of_ble_eq_true rfl, Nat.le_of_ble_eq_true rfl⟩ (Nat.le_of_ble_eq_true rfl) dX5_checkedRun_2 rfl (xk_r ?_) (fun _ _ _ h => h.elim)
  refine xr_ifb_ne (tgt := 16) dX5_checkedRun_5 (by decide) (fun c5 => ?_) (fun c5 => ?_)
  · skip
    try simp only [decide_eq_true_eq, decide_eq_false_iff_not] at c5
    refine xr_aload_n dX5_checkedRun_16 rfl (by first | rfl | exact isRef_rf _) ?_
    refine xr_aload_n dX5_checkedRun_17 rfl (by first | rfl | exact isRef_rf _) ?_
    refine xr_callVA (n9 := 1) (rc' := 0) (rs' := 0) (k_run_e hG ho hL hK hB hR hN c5) ho rfl q2137 q1007 q1006 q1092 q1091 q125 q1093 (by decide +kernel) rfl ⟨by decide, Nat.le_of_ble_eq_true rfl⟩ ⟨Nat.le_of_ble_eq_true rfl, Nat.le_of_ble_eq_true rfl⟩ (Nat.le_of_ble_eq_true rfl) dX5_checkedRun_18 rfl (fun r w18 hw => ?_) ?_
    rotate_left
    · skip
      rintro E q9 w9 h9
      exact xt_out (fun x hx => (htab x hx).elim) (by rw [hxp]; exact Or.inr ⟨c5, h9⟩)
    obtain ⟨L2, rfl, hj2, hK2, hm2⟩ := hw
    refine xr_ireturn rfl rfl dX5_checkedRun_21 ?_
    rw [hpo]
    exact ⟨c5, L2, rfl, hj2, hK2, hm2⟩
  · skip
    try simp only [decide_eq_true_eq, decide_eq_false_iff_not] at c5
    refine xr_throw0 (cls := "BenchBroker$BadCommand") (names := ["java/lang/Exception"]) (by decide +kernel) (by decide +kernel) q2122 q132 (at_words [97, 546, 555, 567, 570, 572, 547, 548, 139, 140, 549, 554, 568, 588, 536, 589, 538, 590, 540, 550, 552, 542, 2132, 2133, 2134, 698, 529, 698, 699, 700, 547, 531, 2131, 2123, 2124, 2125, 557, 2126, 2127, 2128, 2129, 586, 544, 2130] (by decide +kernel) (by decide +kernel)) ⟨rfl, rfl⟩ dX5_checkedRun_8 dX5_checkedRun_11 dX5_checkedRun_12 dX5_checkedRun_15 (fun x hx => (htab x hx).elim) (by decide) (Nat.le_of_ble_eq_true rfl) ⟨Nat.le_of_ble_eq_true rfl, Nat.le_of_ble_eq_true rfl⟩ (fun q9 hq9 => ?_)
    rw [hxp]
    exact Or.inl ⟨rfl, c5, rfl⟩
theorem k_isAcc_g {g : GG} {w : WW} {a : Nat} {n0 : Nat → Prop} {q : Nat} {L : Int → Nat} {P : Int → Int}  {x v : Int} (hG : Base g) (ho : Ob w a 11 [.int (iI x), .int (iI (-1)), .int (iI v), .int (iI 103)]) (hK : PK g w n0 q L P) (hR : sm x ∧ sm v) : Ct g yX13_isAccepted (.code yX13_isAccepted cX13_isAccepted 2 (some .boolean)) 2 43 0 0 w [.ref a, .ref q] (fun r_ w1 => r_ = some (.int (bI (decide ((0 ≤ x ∧ x < P 2) ∧ (1 ≤ v ∧ v ≤ 99))))) ∧ w1 = w) xF := by
  refine Ct.of (lv := [some _, some _]) hG (by decide +kernel) (Nat.le_of_ble_eq_true rfl) rfl ?_
  intro z hg hpo hxp hnm htab
  subst hg
  refine xr_aload_n dX13_isAccepted_0 rfl (by first | rfl | exact isRef_rf _) ?_
  refine xr_getfield (ci := 11) (T := TX13) (N := 4) (i := 3) ho rfl (by decide) in_X13 q1235 (.inl rfl) dX13_isAccepted_1 (by rfl) ?_
  refine xr_lookup (off := 36) (tgt := 40) dX13_isAccepted_4 (by omega) (by decide) (by first | rfl | decide) (by decide) ?_
  refine xr_aload_n dX13_isAccepted_40 rfl (by first | rfl | exact isRef_rf _) ?_
  refine xr_getfieldN (ci := 0) (T := TX2) (N := 10) (i := 2) hK.hq rfl (by decide) in_X2 q194 (.inl rfl) dX13_isAccepted_41 (by rfl) ?_
  refine xr_aload_n dX13_isAccepted_44 rfl (by first | rfl | exact isRef_rf _) ?_
  refine xr_callVU (n9 := 0) (rc' := 0) (rs' := 0) (k_Act_first_P hG ho) ho rfl q1135 q1136 rfl q1015 q1137 q103 q1016 (by decide +kernel) rfl ⟨by decide, Nat.le_of_ble_eq_true rfl⟩ ⟨Nat.le_of_ble_eq_true rfl, Nat.le_of_ble_eq_true rfl⟩ (Nat.le_of_ble_eq_true rfl) dX13_isAccepted_45 rfl (xk_r ?_) (fun _ _ _ h => h.elim)
  refine xr_callV (n9 := 1) (rc' := 0) (rs' := 0) (k_Reg_has hG hK.r2 hK.l2 (by omega)) hK.r2 rfl q2118 q1193 q1194 q88 q1195 (by decide +kernel) rfl ⟨by decide, Nat.le_of_ble_eq_true rfl⟩ ⟨Nat.le_of_ble_eq_true rfl, Nat.le_of_ble_eq_true rfl⟩ (Nat.le_of_ble_eq_true rfl) dX13_isAccepted_48 rfl (xk_r ?_) (fun _ _ _ h => h.elim)
  refine xr_ifb_eq (tgt := 68) dX13_isAccepted_51 (by decide) (fun c51 => ?_) (fun c51 => ?_)
  · skip
    try simp only [decide_eq_true_eq, decide_eq_false_iff_not] at c51
    refine xr_iconst dX13_isAccepted_68 ?_
    refine xr_goto (tgt := 103) dX13_isAccepted_69 (by decide) ?_
    refine xr_ireturn rfl (by first | rfl | exact nar_bI _ | decide +kernel) dX13_isAccepted_103 ?_
    rw [hpo]
    first | exact ⟨rfl, rfl⟩ | exact ⟨ret_bt (by omega), rfl⟩ | exact ⟨ret_bf (by omega), rfl⟩ | exact ⟨ret_i (by omega), rfl⟩
  · skip
    try simp only [decide_eq_true_eq, decide_eq_false_iff_not] at c51
    refine xr_aload_n dX13_isAccepted_54 rfl (by first | rfl | exact isRef_rf _) ?_
    refine xr_callVU (n9 := 0) (rc' := 0) (rs' := 0) (k_Act_third_P hG ho) ho rfl q1138 q1139 rfl q1027 q1140 q103 q1028 (by decide +kernel) rfl ⟨by decide, Nat.le_of_ble_eq_true rfl⟩ ⟨Nat.le_of_ble_eq_true rfl, Nat.le_of_ble_eq_true rfl⟩ (Nat.le_of_ble_eq_true rfl) dX13_isAccepted_55 rfl (xk_r ?_) (fun _ _ _ h => h.elim)
    refine xr_callSN (n9 := 1) (rc' := 0) (rs' := 0) (k_isGift hG (by omega)) q2119 q1349 q86 q1350 (by decide +kernel) rfl ⟨by decide, Nat.le_of_ble_eq_true rfl⟩ ⟨Nat.le_of_ble_eq_true rfl, Nat.le_of_ble_eq_true rfl⟩ (Nat.le_of_ble_eq_true rfl) dX13_isAccepted_58 rfl (xk_r ?_) (fun _ _ _ h => h.elim)
    refine xr_ifb_eq (tgt := 68) dX13_isAccepted_61 (by decide) (fun c61 => ?_) (fun c61 => ?_)
    · skip
      try simp only [decide_eq_true_eq, decide_eq_false_iff_not] at c61
      refine xr_iconst dX13_isAccepted_68 ?_
      refine xr_goto (tgt := 103) dX13_isAccepted_69 (by decide) ?_
      refine xr_ireturn rfl (by first | rfl | exact nar_bI _ | decide +kernel) dX13_isAccepted_103 ?_
      rw [hpo]
      first | exact ⟨rfl, rfl⟩ | exact ⟨ret_bt (by omega), rfl⟩ | exact ⟨ret_bf (by omega), rfl⟩ | exact ⟨ret_i (by omega), rfl⟩
    · skip
      try simp only [decide_eq_true_eq, decide_eq_false_iff_not] at c61
      refine xr_iconst dX13_isAccepted_64 ?_
      refine xr_goto (tgt := 103) dX13_isAccepted_65 (by decide) ?_
      refine xr_ireturn rfl (by first | rfl | exact nar_bI _ | decide +kernel) dX13_isAccepted_103 ?_
      rw [hpo]
      first | exact ⟨rfl, rfl⟩ | exact ⟨ret_bt (by omega), rfl⟩ | exact ⟨ret_bf (by omega), rfl⟩ | exact ⟨ret_i (by omega), rfl⟩
theorem k_run_g {g : GG} {w : WW} {a : Nat} {n0 : Nat → Prop} {q : Nat} {L : Int → Nat} {P : Int → Int} {N : Int} {x v : Int} (hG : Base g) (ho : Ob w a 11 [.int (iI x), .int (iI (-1)), .int (iI v), .int (iI 103)]) (hL : KL g) (hK : PK g w n0 q L P) (hB : PB P N) (hR : sm x ∧ sm v) (hN : N + 13000 ≤ 10000000) (ha : (0 ≤ x ∧ x < P 2) ∧ (1 ≤ v ∧ v ≤ 99)) : Ct g yX13_run (.code yX13_run cX13_run 2 (some .int)) 5 108 0 0 w [.ref a, .ref q] (fun r_ w1 => ∃ L' : Int → Nat, r_ = some (.int (iI (P (86 + 2 * x) + v))) ∧ PK g w1 n0 q L' (oGive P x v) ∧ Fr n0 w w1) xF := by
  refine Ct.of (lv := [some _, some _]) hG (by decide +kernel) (Nat.le_of_ble_eq_true rfl) rfl ?_
  intro z hg hpo hxp hnm htab
  subst hg
  refine xr_aload_n dX13_run_0 rfl (by first | rfl | exact isRef_rf _) ?_
  refine xr_getfield (ci := 11) (T := TX13) (N := 4) (i := 3) ho rfl (by decide) in_X13 q1235 (.inl rfl) dX13_run_1 (by rfl) ?_
  refine xr_lookup (off := 36) (tgt := 40) dX13_run_4 (by omega) (by decide) (by first | rfl | decide) (by decide) ?_
  refine xr_aload_n dX13_run_40 rfl (by first | rfl | exact isRef_rf _) ?_
  refine xr_aload_n dX13_run_41 rfl (by first | rfl | exact isRef_rf _) ?_
  refine xr_callVU (n9 := 0) (rc' := 0) (rs' := 0) (k_Act_first_P hG ho) ho rfl q1135 q1136 rfl q1015 q1137 q103 q1016 (by decide +kernel) rfl ⟨by decide, Nat.le_of_ble_eq_true rfl⟩ ⟨Nat.le_of_ble_eq_true rfl, Nat.le_of_ble_eq_true rfl⟩ (Nat.le_of_ble_eq_true rfl) dX13_run_42 rfl (xk_r ?_) (fun _ _ _ h => h.elim)
  refine xr_aload_n dX13_run_45 rfl (by first | rfl | exact isRef_rf _) ?_
  refine xr_callVU (n9 := 0) (rc' := 0) (rs' := 0) (k_Act_third_P hG ho) ho rfl q1138 q1139 rfl q1027 q1140 q103 q1028 (by decide +kernel) rfl ⟨by decide, Nat.le_of_ble_eq_true rfl⟩ ⟨Nat.le_of_ble_eq_true rfl, Nat.le_of_ble_eq_true rfl⟩ (Nat.le_of_ble_eq_true rfl) dX13_run_46 rfl (xk_r ?_) (fun _ _ _ h => h.elim)
  refine xr_callV (n9 := 2) (rc' := 0) (rs' := 0) (k_P_giveCoins hG hK ha.1) hK.hq rfl q1141 q1142 q1143 q87 q1144 (by decide +kernel) rfl ⟨by decide, Nat.le_of_ble_eq_true rfl⟩ ⟨Nat.le_of_ble_eq_true rfl, Nat.le_of_ble_eq_true rfl⟩ (Nat.le_of_ble_eq_true rfl) dX13_run_49 rfl (fun r w49 hw => ?_) (fun _ _ _ h => h.elim)
  obtain ⟨rfl, hK2, hm2⟩ := hw
  show XJ _ _ _ _ _ _ _ _ _ _ _ _ [.int (iI (P (86 + 2 * x) + v))]
  refine xr_goto (tgt := 88) dX13_run_52 (by decide) ?_
  refine xr_ireturn rfl rfl dX13_run_88 ?_
  rw [hpo]
  exact ⟨L, rfl, hK2, hm2⟩
theorem k_checked_g {g : GG} {w : WW} {a : Nat} {n0 : Nat → Prop} {q : Nat} {L : Int → Nat} {P : Int → Int} {N : Int} {x v : Int} (hG : Base g) (ho : Ob w a 11 [.int (iI x), .int (iI (-1)), .int (iI v), .int (iI 103)]) (hL : KL g) (hK : PK g w n0 q L P) (hB : PB P N) (hR : sm x ∧ sm v) (hN : N + 13000 ≤ 10000000) : Ct g yX5_checkedRun (.code yX5_checkedRun cX5_checkedRun 2 (some .int)) 6 129 1 6 w [.ref a, .ref q] (fun r_ w1 => ((0 ≤ x ∧ x < P 2) ∧ (1 ≤ v ∧ v ≤ 99)) ∧ ∃ L' : Int → Nat, r_ = some (.int (iI (P (86 + 2 * x) + v))) ∧ PK g w1 n0 q L' (oGive P x v) ∧ Fr n0 w w1) (fun E a9 w1 => (E = "BenchBroker$BadCommand" ∧ ¬ ((0 ≤ x ∧ x < P 2) ∧ (1 ≤ v ∧ v ≤ 99)) ∧ w1 = w)) := by
  refine Ct.of (lv := [some _, some _]) hG (by decide +kernel) (Nat.le_of_ble_eq_true rfl) rfl ?_
  intro z hg hpo hxp hnm htab
  subst hg
  refine xr_aload_n dX5_checkedRun_0 rfl (by first | rfl | exact isRef_rf _) ?_
  refine xr_aload_n dX5_checkedRun_1 rfl (by first | rfl | exact isRef_rf _) ?_
  refine xr_callVA (n9 := 1) (rc' := 1) (rs' := 6) (k_isAcc_g hG ho hK hR) ho rfl q2100 q2102 q2101 q2116 q2115 q118 q2117 (by decide +kernel) rfl ⟨by decide, Nat.le_of_ble_eq_true rfl⟩ ⟨Nat.le_of_ble_eq_true rfl, Nat.le_of_ble_eq_true rfl⟩ (Nat.le_of_ble_eq_true rfl) dX5_checkedRun_2 rfl (xk_r ?_) (fun _ _ _ h => h.elim)
  refine xr_ifb_ne (tgt := 16) dX5_checkedRun_5 (by decide) (fun c5 => ?_) (fun c5 => ?_)
  · skip
    try simp only [decide_eq_true_eq, decide_eq_false_iff_not] at c5
    refine xr_aload_n dX5_checkedRun_16 rfl (by first | rfl | exact isRef_rf _) ?_
    refine xr_aload_n dX5_checkedRun_17 rfl (by first | rfl | exact isRef_rf _) ?_
    refine xr_callVA (n9 := 1) (rc' := 1) (rs' := 6) (k_run_g hG ho hL hK hB hR hN c5) ho rfl q2137 q1007 q1006 q1133 q1132 q118 q1134 (by decide +kernel) rfl ⟨by decide, Nat.le_of_ble_eq_true rfl⟩ ⟨Nat.le_of_ble_eq_true rfl, Nat.le_of_ble_eq_true rfl⟩ (Nat.le_of_ble_eq_true rfl) dX5_checkedRun_18 rfl (fun r w18 hw => ?_) (fun _ _ _ h => h.elim)
    obtain ⟨L2, rfl, hK2, hm2⟩ := hw
    refine xr_ireturn rfl rfl dX5_checkedRun_21 ?_
    rw [hpo]
    exact ⟨c5, L2, rfl, hK2, hm2⟩
  · skip
    try simp only [decide_eq_true_eq, decide_eq_false_iff_not] at c5
    refine xr_throw0 (cls := "BenchBroker$BadCommand") (names := ["java/lang/Exception"]) (by decide +kernel) (by decide +kernel) q2122 q132 (at_words [97, 546, 555, 567, 570, 572, 547, 548, 139, 140, 549, 554, 568, 588, 536, 589, 538, 590, 540, 550, 552, 542, 2132, 2133, 2134, 698, 529, 698, 699, 700, 547, 531, 2131, 2123, 2124, 2125, 557, 2126, 2127, 2128, 2129, 586, 544, 2130] (by decide +kernel) (by decide +kernel)) ⟨rfl, rfl⟩ dX5_checkedRun_8 dX5_checkedRun_11 dX5_checkedRun_12 dX5_checkedRun_15 (fun x hx => (htab x hx).elim) (by decide) (Nat.le_of_ble_eq_true rfl) ⟨Nat.le_of_ble_eq_true rfl, Nat.le_of_ble_eq_true rfl⟩ (fun q9 hq9 => ?_)
    rw [hxp]
    exact ⟨rfl, c5, rfl⟩
theorem k_isAcc_s {g : GG} {w : WW} {a : Nat} {n0 : Nat → Prop} {q : Nat} {L : Int → Nat} {P : Int → Int}  {x : Int} (hG : Base g) (ho : Ob w a 11 [.int (iI x), .int (iI (-1)), .int (iI (-1)), .int (iI 115)]) (hK : PK g w n0 q L P) (hR : sm x) : Ct g yX13_isAccepted (.code yX13_isAccepted cX13_isAccepted 2 (some .boolean)) 2 43 0 0 w [.ref a, .ref q] (fun r_ w1 => r_ = some (.int (bI (decide (0 ≤ x ∧ x < P 1)))) ∧ w1 = w) xF := by
  refine Ct.of (lv := [some _, some _]) hG (by decide +kernel) (Nat.le_of_ble_eq_true rfl) rfl ?_
  intro z hg hpo hxp hnm htab
  subst hg
  refine xr_aload_n dX13_isAccepted_0 rfl (by first | rfl | exact isRef_rf _) ?_
  refine xr_getfield (ci := 11) (T := TX13) (N := 4) (i := 3) ho rfl (by decide) in_X13 q1235 (.inl rfl) dX13_isAccepted_1 (by rfl) ?_
  refine xr_lookup (off := 68) (tgt := 72) dX13_isAccepted_4 (by omega) (by decide) (by first | rfl | decide) (by decide) ?_
  refine xr_aload_n dX13_isAccepted_72 rfl (by first | rfl | exact isRef_rf _) ?_
  refine xr_getfieldN (ci := 0) (T := TX2) (N := 10) (i := 1) hK.hq rfl (by decide) in_X2 q190 (.inl rfl) dX13_isAccepted_73 (by rfl) ?_
  refine xr_aload_n dX13_isAccepted_76 rfl (by first | rfl | exact isRef_rf _) ?_
  refine xr_callVU (n9 := 0) (rc' := 0) (rs' := 0) (k_Act_first_P hG ho) ho rfl q1135 q1136 rfl q1015 q1137 q103 q1016 (by decide +kernel) rfl ⟨by decide, Nat.le_of_ble_eq_true rfl⟩ ⟨Nat.le_of_ble_eq_true rfl, Nat.le_of_ble_eq_true rfl⟩ (Nat.le_of_ble_eq_true rfl) dX13_isAccepted_77 rfl (xk_r ?_) (fun _ _ _ h => h.elim)
  refine xr_callV (n9 := 1) (rc' := 0) (rs' := 0) (k_Reg_has hG hK.r1 hK.l1 (by omega)) hK.r1 rfl q2118 q1193 q1194 q88 q1195 (by decide +kernel) rfl ⟨by decide, Nat.le_of_ble_eq_true rfl⟩ ⟨Nat.le_of_ble_eq_true rfl, Nat.le_of_ble_eq_true rfl⟩ (Nat.le_of_ble_eq_true rfl) dX13_isAccepted_80 rfl (xk_r ?_) (fun _ _ _ h => h.elim)
  refine xr_goto (tgt := 103) dX13_isAccepted_83 (by decide) ?_
  refine xr_ireturn rfl (by first | rfl | exact nar_bI _ | decide +kernel) dX13_isAccepted_103 ?_
  rw [hpo]
  first | exact ⟨rfl, rfl⟩ | exact ⟨ret_bt (by omega), rfl⟩ | exact ⟨ret_bf (by omega), rfl⟩ | exact ⟨ret_i (by omega), rfl⟩
theorem k_run_s {g : GG} {w : WW} {a : Nat} {n0 : Nat → Prop} {q : Nat} {L : Int → Nat} {P : Int → Int} {N : Int} {x : Int} (hG : Base g) (ho : Ob w a 11 [.int (iI x), .int (iI (-1)), .int (iI (-1)), .int (iI 115)]) (hL : KL g) (hK : PK g w n0 q L P) (hB : PB P N) (hR : sm x) (hN : N + 13000 ≤ 10000000) (ha : 0 ≤ x ∧ x < P 1) : Ct g yX13_run (.code yX13_run cX13_run 2 (some .int)) 5 107 0 0 w [.ref a, .ref q] (fun r_ w1 => ∃ L' : Int → Nat, r_ = some (.int (iI (1 - P (73 + 4 * x)))) ∧ PK g w1 n0 q L' (oSwitch P x) ∧ Fr n0 w w1) xF := by
  refine Ct.of (lv := [some _, some _]) hG (by decide +kernel) (Nat.le_of_ble_eq_true rfl) rfl ?_
  intro z hg hpo hxp hnm htab
  subst hg
  refine xr_aload_n dX13_run_0 rfl (by first | rfl | exact isRef_rf _) ?_
  refine xr_getfield (ci := 11) (T := TX13) (N := 4) (i := 3) ho rfl (by decide) in_X13 q1235 (.inl rfl) dX13_run_1 (by rfl) ?_
  refine xr_lookup (off := 51) (tgt := 55) dX13_run_4 (by omega) (by decide) (by first | rfl | decide) (by decide) ?_
  refine xr_aload_n dX13_run_55 rfl (by first | rfl | exact isRef_rf _) ?_
  refine xr_aload_n dX13_run_56 rfl (by first | rfl | exact isRef_rf _) ?_
  refine xr_callVU (n9 := 0) (rc' := 0) (rs' := 0) (k_Act_first_P hG ho) ho rfl q1135 q1136 rfl q1015 q1137 q103 q1016 (by decide +kernel) rfl ⟨by decide, Nat.le_of_ble_eq_true rfl⟩ ⟨Nat.le_of_ble_eq_true rfl, Nat.le_of_ble_eq_true rfl⟩ (Nat.le_of_ble_eq_true rfl) dX13_run_57 rfl (xk_r ?_) (fun _ _ _ h => h.elim)
  refine xr_callV (n9 := 1) (rc' := 0) (rs' := 0) (k_P_switchFountain hG hK ha (by have := hB.f (f := x) ha; omega)) hK.hq rfl q1145 q1146 q1147 q87 q1148 (by decide +kernel) rfl ⟨by decide, Nat.le_of_ble_eq_true rfl⟩ ⟨Nat.le_of_ble_eq_true rfl, Nat.le_of_ble_eq_true rfl⟩ (Nat.le_of_ble_eq_true rfl) dX13_run_60 rfl (fun r w60 hw => ?_) (fun _ _ _ h => h.elim)
  obtain ⟨rfl, hK2, hm2⟩ := hw
  have hfx := hB.f (f := x) ha
  rw [← bI_sw (y := P (73 + 4 * x)) (by omega)]
  refine xr_callSN (n9 := 1) (rc' := 0) (rs' := 0) (k_asInt (b := decide (P (73 + 4 * x) = 0)) hG) q1149 q386 q86 q387 (by decide +kernel) rfl ⟨by decide, Nat.le_of_ble_eq_true rfl⟩ ⟨Nat.le_of_ble_eq_true rfl, Nat.le_of_ble_eq_true rfl⟩ (Nat.le_of_ble_eq_true rfl) dX13_run_63 rfl (xk_r ?_) (fun _ _ _ h => h.elim)
  rw [bI_sw (y := P (73 + 4 * x)) (by omega)]
  refine xr_goto (tgt := 88) dX13_run_66 (by decide) ?_
  refine xr_ireturn rfl rfl dX13_run_88 ?_
  rw [hpo]
  exact ⟨L, rfl, hK2, hm2⟩
theorem k_checked_s {g : GG} {w : WW} {a : Nat} {n0 : Nat → Prop} {q : Nat} {L : Int → Nat} {P : Int → Int} {N : Int} {x : Int} (hG : Base g) (ho : Ob w a 11 [.int (iI x), .int (iI (-1)), .int (iI (-1)), .int (iI 115)]) (hL : KL g) (hK : PK g w n0 q L P) (hB : PB P N) (hR : sm x) (hN : N + 13000 ≤ 10000000) : Ct g yX5_checkedRun (.code yX5_checkedRun cX5_checkedRun 2 (some .int)) 6 128 1 6 w [.ref a, .ref q] (fun r_ w1 => (0 ≤ x ∧ x < P 1) ∧ ∃ L' : Int → Nat, r_ = some (.int (iI (1 - P (73 + 4 * x)))) ∧ PK g w1 n0 q L' (oSwitch P x) ∧ Fr n0 w w1) (fun E a9 w1 => (E = "BenchBroker$BadCommand" ∧ ¬ (0 ≤ x ∧ x < P 1) ∧ w1 = w)) := by
  refine Ct.of (lv := [some _, some _]) hG (by decide +kernel) (Nat.le_of_ble_eq_true rfl) rfl ?_
  intro z hg hpo hxp hnm htab
  subst hg
  refine xr_aload_n dX5_checkedRun_0 rfl (by first | rfl | exact isRef_rf _) ?_
  refine xr_aload_n dX5_checkedRun_1 rfl (by first | rfl | exact isRef_rf _) ?_
  refine xr_callVA (n9 := 1) (rc' := 1) (rs' := 6) (k_isAcc_s hG ho hK hR) ho rfl q2100 q2102 q2101 q2116 q2115 q118 q2117 (by decide +kernel) rfl ⟨by decide, Nat.le_of_ble_eq_true rfl⟩ ⟨Nat.le_of_ble_eq_true rfl, Nat.le_of_ble_eq_true rfl⟩ (Nat.le_of_ble_eq_true rfl) dX5_checkedRun_2 rfl (xk_r ?_) (fun _ _ _ h => h.elim)
  refine xr_ifb_ne (tgt := 16) dX5_checkedRun_5 (by decide) (fun c5 => ?_) (fun c5 => ?_)
  · skip
    try simp only [decide_eq_true_eq, decide_eq_false_iff_not] at c5
    refine xr_aload_n dX5_checkedRun_16 rfl (by first | rfl | exact isRef_rf _) ?_
    refine xr_aload_n dX5_checkedRun_17 rfl (by first | rfl | exact isRef_rf _) ?_
    refine xr_callVA (n9 := 1) (rc' := 1) (rs' := 6) (k_run_s hG ho hL hK hB hR hN c5) ho rfl q2137 q1007 q1006 q1133 q1132 q118 q1134 (by decide +kernel) rfl ⟨by decide, Nat.le_of_ble_eq_true rfl⟩ ⟨Nat.le_of_ble_eq_true rfl, Nat.le_of_ble_eq_true rfl⟩ (Nat.le_of_ble_eq_true rfl) dX5_checkedRun_18 rfl (fun r w18 hw => ?_) (fun _ _ _ h => h.elim)
    obtain ⟨L2, rfl, hK2, hm2⟩ := hw
    refine xr_ireturn rfl rfl dX5_checkedRun_21 ?_
    rw [hpo]
    exact ⟨c5, L2, rfl, hK2, hm2⟩
  · skip
    try simp only [decide_eq_true_eq, decide_eq_false_iff_not] at c5
    refine xr_throw0 (cls := "BenchBroker$BadCommand") (names := ["java/lang/Exception"]) (by decide +kernel) (by decide +kernel) q2122 q132 (at_words [97, 546, 555, 567, 570, 572, 547, 548, 139, 140, 549, 554, 568, 588, 536, 589, 538, 590, 540, 550, 552, 542, 2132, 2133, 2134, 698, 529, 698, 699, 700, 547, 531, 2131, 2123, 2124, 2125, 557, 2126, 2127, 2128, 2129, 586, 544, 2130] (by decide +kernel) (by decide +kernel)) ⟨rfl, rfl⟩ dX5_checkedRun_8 dX5_checkedRun_11 dX5_checkedRun_12 dX5_checkedRun_15 (fun x hx => (htab x hx).elim) (by decide) (Nat.le_of_ble_eq_true rfl) ⟨Nat.le_of_ble_eq_true rfl, Nat.le_of_ble_eq_true rfl⟩ (fun q9 hq9 => ?_)
    rw [hxp]
    exact ⟨rfl, c5, rfl⟩
theorem k_isAcc_n {g : GG} {w : WW} {a : Nat} {n0 : Nat → Prop} {q : Nat} {L : Int → Nat} {P : Int → Int}  {v : Int} (hG : Base g) (ho : Ob w a 11 [.int (iI (-1)), .int (iI (-1)), .int (iI v), .int (iI 110)]) (hK : PK g w n0 q L P) (hR : sm v) : Ct g yX13_isAccepted (.code yX13_isAccepted cX13_isAccepted 2 (some .boolean)) 2 42 0 0 w [.ref a, .ref q] (fun r_ w1 => r_ = some (.int (bI (decide (0 ≤ v ∧ v ≤ 20)))) ∧ w1 = w) xF := by
  refine Ct.of (lv := [some _, some _]) hG (by decide +kernel) (Nat.le_of_ble_eq_true rfl) rfl ?_
  intro z hg hpo hxp hnm htab
  subst hg
  refine xr_aload_n dX13_isAccepted_0 rfl (by first | rfl | exact isRef_rf _) ?_
  refine xr_getfield (ci := 11) (T := TX13) (N := 4) (i := 3) ho rfl (by decide) in_X13 q1235 (.inl rfl) dX13_isAccepted_1 (by rfl) ?_
  refine xr_lookup (off := 82) (tgt := 86) dX13_isAccepted_4 (by omega) (by decide) (by first | rfl | decide) (by decide) ?_
  refine xr_aload_n dX13_isAccepted_86 rfl (by first | rfl | exact isRef_rf _) ?_
  refine xr_callVU (n9 := 0) (rc' := 0) (rs' := 0) (k_Act_third_P hG ho) ho rfl q1138 q1139 rfl q1027 q1140 q103 q1028 (by decide +kernel) rfl ⟨by decide, Nat.le_of_ble_eq_true rfl⟩ ⟨Nat.le_of_ble_eq_true rfl, Nat.le_of_ble_eq_true rfl⟩ (Nat.le_of_ble_eq_true rfl) dX13_isAccepted_87 rfl (xk_r ?_) (fun _ _ _ h => h.elim)
  refine xr_callSN (n9 := 1) (rc' := 0) (rs' := 0) (k_isLimit hG (by omega)) q2120 q1250 q86 q1251 (by decide +kernel) rfl ⟨by decide, Nat.le_of_ble_eq_true rfl⟩ ⟨Nat.le_of_ble_eq_true rfl, Nat.le_of_ble_eq_true rfl⟩ (Nat.le_of_ble_eq_true rfl) dX13_isAccepted_90 rfl (xk_r ?_) (fun _ _ _ h => h.elim)
  refine xr_goto (tgt := 103) dX13_isAccepted_93 (by decide) ?_
  refine xr_ireturn rfl (by first | rfl | exact nar_bI _ | decide +kernel) dX13_isAccepted_103 ?_
  rw [hpo]
  first | exact ⟨rfl, rfl⟩ | exact ⟨ret_bt (by omega), rfl⟩ | exact ⟨ret_bf (by omega), rfl⟩ | exact ⟨ret_i (by omega), rfl⟩
theorem k_run_n {g : GG} {w : WW} {a : Nat} {n0 : Nat → Prop} {q : Nat} {L : Int → Nat} {P : Int → Int} {N : Int} {v : Int} (hG : Base g) (ho : Ob w a 11 [.int (iI (-1)), .int (iI (-1)), .int (iI v), .int (iI 110)]) (hL : KL g) (hK : PK g w n0 q L P) (hB : PB P N) (hR : sm v) (hN : N + 13000 ≤ 10000000) (ha : 0 ≤ v ∧ v ≤ 20) : Ct g yX13_run (.code yX13_run cX13_run 2 (some .int)) 1 22 0 0 w [.ref a, .ref q] (fun r_ w1 => ∃ L' : Int → Nat, r_ = some (.int (iI (P 3))) ∧ PK g w1 n0 q L' (oLimit P v) ∧ Fr n0 w w1) xF := by
  refine Ct.of (lv := [some _, some _]) hG (by decide +kernel) (Nat.le_of_ble_eq_true rfl) rfl ?_
  intro z hg hpo hxp hnm htab
  subst hg
  refine xr_aload_n dX13_run_0 rfl (by first | rfl | exact isRef_rf _) ?_
  refine xr_getfield (ci := 11) (T := TX13) (N := 4) (i := 3) ho rfl (by decide) in_X13 q1235 (.inl rfl) dX13_run_1 (by rfl) ?_
  refine xr_lookup (off := 65) (tgt := 69) dX13_run_4 (by omega) (by decide) (by first | rfl | decide) (by decide) ?_
  refine xr_aload_n dX13_run_69 rfl (by first | rfl | exact isRef_rf _) ?_
  refine xr_aload_n dX13_run_70 rfl (by first | rfl | exact isRef_rf _) ?_
  refine xr_callVU (n9 := 0) (rc' := 0) (rs' := 0) (k_Act_third_P hG ho) ho rfl q1138 q1139 rfl q1027 q1140 q103 q1028 (by decide +kernel) rfl ⟨by decide, Nat.le_of_ble_eq_true rfl⟩ ⟨Nat.le_of_ble_eq_true rfl, Nat.le_of_ble_eq_true rfl⟩ (Nat.le_of_ble_eq_true rfl) dX13_run_71 rfl (xk_r ?_) (fun _ _ _ h => h.elim)
  refine xr_callV (n9 := 1) (rc' := 0) (rs' := 0) (k_P_setNoiseLimit hG hK) hK.hq rfl q1150 q1151 q1152 q87 q1153 (by decide +kernel) rfl ⟨by decide, Nat.le_of_ble_eq_true rfl⟩ ⟨Nat.le_of_ble_eq_true rfl, Nat.le_of_ble_eq_true rfl⟩ (Nat.le_of_ble_eq_true rfl) dX13_run_74 rfl (fun r w74 hw => ?_) (fun _ _ _ h => h.elim)
  obtain ⟨rfl, hK2, hm2⟩ := hw
  show XJ _ _ _ _ _ _ _ _ _ _ _ _ [.int (iI (P 3))]
  refine xr_goto (tgt := 88) dX13_run_77 (by decide) ?_
  refine xr_ireturn rfl rfl dX13_run_88 ?_
  rw [hpo]
  exact ⟨L, rfl, hK2, hm2⟩
theorem k_checked_n {g : GG} {w : WW} {a : Nat} {n0 : Nat → Prop} {q : Nat} {L : Int → Nat} {P : Int → Int} {N : Int} {v : Int} (hG : Base g) (ho : Ob w a 11 [.int (iI (-1)), .int (iI (-1)), .int (iI v), .int (iI 110)]) (hL : KL g) (hK : PK g w n0 q L P) (hB : PB P N) (hR : sm v) (hN : N + 13000 ≤ 10000000) : Ct g yX5_checkedRun (.code yX5_checkedRun cX5_checkedRun 2 (some .int)) 5 68 1 6 w [.ref a, .ref q] (fun r_ w1 => (0 ≤ v ∧ v ≤ 20) ∧ ∃ L' : Int → Nat, r_ = some (.int (iI (P 3))) ∧ PK g w1 n0 q L' (oLimit P v) ∧ Fr n0 w w1) (fun E a9 w1 => (E = "BenchBroker$BadCommand" ∧ ¬ (0 ≤ v ∧ v ≤ 20) ∧ w1 = w)) := by
  refine Ct.of (lv := [some _, some _]) hG (by decide +kernel) (Nat.le_of_ble_eq_true rfl) rfl ?_
  intro z hg hpo hxp hnm htab
  subst hg
  refine xr_aload_n dX5_checkedRun_0 rfl (by first | rfl | exact isRef_rf _) ?_
  refine xr_aload_n dX5_checkedRun_1 rfl (by first | rfl | exact isRef_rf _) ?_
  refine xr_callVA (n9 := 1) (rc' := 1) (rs' := 6) (k_isAcc_n hG ho hK hR) ho rfl q2100 q2102 q2101 q2116 q2115 q118 q2117 (by decide +kernel) rfl ⟨by decide, Nat.le_of_ble_eq_true rfl⟩ ⟨Nat.le_of_ble_eq_true rfl, Nat.le_of_ble_eq_true rfl⟩ (Nat.le_of_ble_eq_true rfl) dX5_checkedRun_2 rfl (xk_r ?_) (fun _ _ _ h => h.elim)
  refine xr_ifb_ne (tgt := 16) dX5_checkedRun_5 (by decide) (fun c5 => ?_) (fun c5 => ?_)
  · skip
    try simp only [decide_eq_true_eq, decide_eq_false_iff_not] at c5
    refine xr_aload_n dX5_checkedRun_16 rfl (by first | rfl | exact isRef_rf _) ?_
    refine xr_aload_n dX5_checkedRun_17 rfl (by first | rfl | exact isRef_rf _) ?_
    refine xr_callVA (n9 := 1) (rc' := 1) (rs' := 6) (k_run_n hG ho hL hK hB hR hN c5) ho rfl q2137 q1007 q1006 q1133 q1132 q118 q1134 (by decide +kernel) rfl ⟨by decide, Nat.le_of_ble_eq_true rfl⟩ ⟨Nat.le_of_ble_eq_true rfl, Nat.le_of_ble_eq_true rfl⟩ (Nat.le_of_ble_eq_true rfl) dX5_checkedRun_18 rfl (fun r w18 hw => ?_) (fun _ _ _ h => h.elim)
    obtain ⟨L2, rfl, hK2, hm2⟩ := hw
    refine xr_ireturn rfl rfl dX5_checkedRun_21 ?_
    rw [hpo]
    exact ⟨c5, L2, rfl, hK2, hm2⟩
  · skip
    try simp only [decide_eq_true_eq, decide_eq_false_iff_not] at c5
    refine xr_throw0 (cls := "BenchBroker$BadCommand") (names := ["java/lang/Exception"]) (by decide +kernel) (by decide +kernel) q2122 q132 (at_words [97, 546, 555, 567, 570, 572, 547, 548, 139, 140, 549, 554, 568, 588, 536, 589, 538, 590, 540, 550, 552, 542, 2132, 2133, 2134, 698, 529, 698, 699, 700, 547, 531, 2131, 2123, 2124, 2125, 557, 2126, 2127, 2128, 2129, 586, 544, 2130] (by decide +kernel) (by decide +kernel)) ⟨rfl, rfl⟩ dX5_checkedRun_8 dX5_checkedRun_11 dX5_checkedRun_12 dX5_checkedRun_15 (fun x hx => (htab x hx).elim) (by decide) (Nat.le_of_ble_eq_true rfl) ⟨Nat.le_of_ble_eq_true rfl, Nat.le_of_ble_eq_true rfl⟩ (fun q9 hq9 => ?_)
    rw [hxp]
    exact ⟨rfl, c5, rfl⟩
theorem k_isAcc_p {g : GG} {w : WW} {a : Nat} {n0 : Nat → Prop} {q : Nat} {L : Int → Nat} {P : Int → Int}  {v : Int} (hG : Base g) (ho : Ob w a 11 [.int (iI (-1)), .int (iI (-1)), .int (iI v), .int (iI 112)]) (hK : PK g w n0 q L P) (hR : sm v) : Ct g yX13_isAccepted (.code yX13_isAccepted cX13_isAccepted 2 (some .boolean)) 2 42 0 0 w [.ref a, .ref q] (fun r_ w1 => r_ = some (.int (bI (decide (1 ≤ v ∧ v ≤ 12)))) ∧ w1 = w) xF := by
  refine Ct.of (lv := [some _, some _]) hG (by decide +kernel) (Nat.le_of_ble_eq_true rfl) rfl ?_
  intro z hg hpo hxp hnm htab
  subst hg
  refine xr_aload_n dX13_isAccepted_0 rfl (by first | rfl | exact isRef_rf _) ?_
  refine xr_getfield (ci := 11) (T := TX13) (N := 4) (i := 3) ho rfl (by decide) in_X13 q1235 (.inl rfl) dX13_isAccepted_1 (by rfl) ?_
  refine xr_lookup (off := 92) (tgt := 96) dX13_isAccepted_4 (by omega) (by decide) (by first | rfl | decide) (by decide) ?_
  refine xr_aload_n dX13_isAccepted_96 rfl (by first | rfl | exact isRef_rf _) ?_
  refine xr_callVU (n9 := 0) (rc' := 0) (rs' := 0) (k_Act_third_P hG ho) ho rfl q1138 q1139 rfl q1027 q1140 q103 q1028 (by decide +kernel) rfl ⟨by decide, Nat.le_of_ble_eq_true rfl⟩ ⟨Nat.le_of_ble_eq_true rfl, Nat.le_of_ble_eq_true rfl⟩ (Nat.le_of_ble_eq_true rfl) dX13_isAccepted_97 rfl (xk_r ?_) (fun _ _ _ h => h.elim)
  refine xr_callSN (n9 := 1) (rc' := 0) (rs' := 0) (k_isTerm hG (by omega)) q2121 q1413 q86 q1414 (by decide +kernel) rfl ⟨by decide, Nat.le_of_ble_eq_true rfl⟩ ⟨Nat.le_of_ble_eq_true rfl, Nat.le_of_ble_eq_true rfl⟩ (Nat.le_of_ble_eq_true rfl) dX13_isAccepted_100 rfl (xk_r ?_) (fun _ _ _ h => h.elim)
  refine xr_ireturn rfl (by first | rfl | exact nar_bI _ | decide +kernel) dX13_isAccepted_103 ?_
  rw [hpo]
  first | exact ⟨rfl, rfl⟩ | exact ⟨ret_bt (by omega), rfl⟩ | exact ⟨ret_bf (by omega), rfl⟩ | exact ⟨ret_i (by omega), rfl⟩
theorem k_run_p {g : GG} {w : WW} {a : Nat} {n0 : Nat → Prop} {q : Nat} {L : Int → Nat} {P : Int → Int} {N : Int} {v : Int} (hG : Base g) (ho : Ob w a 11 [.int (iI (-1)), .int (iI (-1)), .int (iI v), .int (iI 112)]) (hL : KL g) (hK : PK g w n0 q L P) (hB : PB P N) (hR : sm v) (hN : N + 13000 ≤ 10000000) (ha : 1 ≤ v ∧ v ≤ 12) : Ct g yX13_run (.code yX13_run cX13_run 2 (some .int)) 16 3192 286 572 w [.ref a, .ref q] (fun r_ w1 => ∃ L' : Int → Nat, r_ = some (.int (iI ((oMonths v.toNat P).2))) ∧ PK g w1 n0 q L' (oMonths v.toNat P).1 ∧ Fr n0 w w1) xF := by
  refine Ct.of (lv := [some _, some _]) hG (by decide +kernel) (Nat.le_of_ble_eq_true rfl) rfl ?_
  intro z hg hpo hxp hnm htab
  subst hg
  refine xr_aload_n dX13_run_0 rfl (by first | rfl | exact isRef_rf _) ?_
  refine xr_getfield (ci := 11) (T := TX13) (N := 4) (i := 3) ho rfl (by decide) in_X13 q1235 (.inl rfl) dX13_run_1 (by rfl) ?_
  refine xr_lookup (off := 76) (tgt := 80) dX13_run_4 (by omega) (by decide) (by first | rfl | decide) (by decide) ?_
  refine xr_aload_n dX13_run_80 rfl (by first | rfl | exact isRef_rf _) ?_
  refine xr_aload_n dX13_run_81 rfl (by first | rfl | exact isRef_rf _) ?_
  refine xr_callVU (n9 := 0) (rc' := 286) (rs' := 572) (k_Act_third_P hG ho) ho rfl q1138 q1139 rfl q1027 q1140 q103 q1028 (by decide +kernel) rfl ⟨by decide, Nat.le_of_ble_eq_true rfl⟩ ⟨Nat.le_of_ble_eq_true rfl, Nat.le_of_ble_eq_true rfl⟩ (Nat.le_of_ble_eq_true rfl) dX13_run_82 rfl (xk_r ?_) (fun _ _ _ h => h.elim)
  refine xr_callV (n9 := 1) (rc' := 0) (rs' := 0) (k_P_passMonths hG hK hB ha hN) hK.hq rfl q1154 q865 q866 q87 q867 (by decide +kernel) rfl ⟨by decide, Nat.le_of_ble_eq_true rfl⟩ ⟨Nat.le_of_ble_eq_true rfl, Nat.le_of_ble_eq_true rfl⟩ (Nat.le_of_ble_eq_true rfl) dX13_run_85 rfl (fun r w85 hw => ?_) (fun _ _ _ h => h.elim)
  obtain ⟨rfl, hK2, hm2⟩ := hw
  show XJ _ _ _ _ _ _ _ _ _ _ _ _ [.int (iI ((oMonths v.toNat P).2))]
  refine xr_ireturn rfl rfl dX13_run_88 ?_
  rw [hpo]
  exact ⟨L, rfl, hK2, hm2⟩
theorem k_checked_p {g : GG} {w : WW} {a : Nat} {n0 : Nat → Prop} {q : Nat} {L : Int → Nat} {P : Int → Int} {N : Int} {v : Int} (hG : Base g) (ho : Ob w a 11 [.int (iI (-1)), .int (iI (-1)), .int (iI v), .int (iI 112)]) (hL : KL g) (hK : PK g w n0 q L P) (hB : PB P N) (hR : sm v) (hN : N + 13000 ≤ 10000000) : Ct g yX5_checkedRun (.code yX5_checkedRun cX5_checkedRun 2 (some .int)) 17 3213 286 572 w [.ref a, .ref q] (fun r_ w1 => (1 ≤ v ∧ v ≤ 12) ∧ ∃ L' : Int → Nat, r_ = some (.int (iI ((oMonths v.toNat P).2))) ∧ PK g w1 n0 q L' (oMonths v.toNat P).1 ∧ Fr n0 w w1) (fun E a9 w1 => (E = "BenchBroker$BadCommand" ∧ ¬ (1 ≤ v ∧ v ≤ 12) ∧ w1 = w)) := by
  refine Ct.of (lv := [some _, some _]) hG (by decide +kernel) (Nat.le_of_ble_eq_true rfl) rfl ?_
  intro z hg hpo hxp hnm htab
  subst hg
  refine xr_aload_n dX5_checkedRun_0 rfl (by first | rfl | exact isRef_rf _) ?_
  refine xr_aload_n dX5_checkedRun_1 rfl (by first | rfl | exact isRef_rf _) ?_
  refine xr_callVA (n9 := 1) (rc' := 286) (rs' := 572) (k_isAcc_p hG ho hK hR) ho rfl q2100 q2102 q2101 q2116 q2115 q118 q2117 (by decide +kernel) rfl ⟨by decide, Nat.le_of_ble_eq_true rfl⟩ ⟨Nat.le_of_ble_eq_true rfl, Nat.le_of_ble_eq_true rfl⟩ (Nat.le_of_ble_eq_true rfl) dX5_checkedRun_2 rfl (xk_r ?_) (fun _ _ _ h => h.elim)
  refine xr_ifb_ne (tgt := 16) dX5_checkedRun_5 (by decide) (fun c5 => ?_) (fun c5 => ?_)
  · skip
    try simp only [decide_eq_true_eq, decide_eq_false_iff_not] at c5
    refine xr_aload_n dX5_checkedRun_16 rfl (by first | rfl | exact isRef_rf _) ?_
    refine xr_aload_n dX5_checkedRun_17 rfl (by first | rfl | exact isRef_rf _) ?_
    refine xr_callVA (n9 := 1) (rc' := 0) (rs' := 0) (k_run_p hG ho hL hK hB hR hN c5) ho rfl q2137 q1007 q1006 q1133 q1132 q118 q1134 (by decide +kernel) rfl ⟨by decide, Nat.le_of_ble_eq_true rfl⟩ ⟨Nat.le_of_ble_eq_true rfl, Nat.le_of_ble_eq_true rfl⟩ (Nat.le_of_ble_eq_true rfl) dX5_checkedRun_18 rfl (fun r w18 hw => ?_) (fun _ _ _ h => h.elim)
    obtain ⟨L2, rfl, hK2, hm2⟩ := hw
    refine xr_ireturn rfl rfl dX5_checkedRun_21 ?_
    rw [hpo]
    exact ⟨c5, L2, rfl, hK2, hm2⟩
  · skip
    try simp only [decide_eq_true_eq, decide_eq_false_iff_not] at c5
    refine xr_throw0 (cls := "BenchBroker$BadCommand") (names := ["java/lang/Exception"]) (by decide +kernel) (by decide +kernel) q2122 q132 (at_words [97, 546, 555, 567, 570, 572, 547, 548, 139, 140, 549, 554, 568, 588, 536, 589, 538, 590, 540, 550, 552, 542, 2132, 2133, 2134, 698, 529, 698, 699, 700, 547, 531, 2131, 2123, 2124, 2125, 557, 2126, 2127, 2128, 2129, 586, 544, 2130] (by decide +kernel) (by decide +kernel)) ⟨rfl, rfl⟩ dX5_checkedRun_8 dX5_checkedRun_11 dX5_checkedRun_12 dX5_checkedRun_15 (fun x hx => (htab x hx).elim) (by decide) (Nat.le_of_ble_eq_true rfl) ⟨Nat.le_of_ble_eq_true rfl, Nat.le_of_ble_eq_true rfl⟩ (fun q9 hq9 => ?_)
    rw [hxp]
    exact ⟨rfl, c5, rfl⟩
