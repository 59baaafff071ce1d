/-! 30.items.lean.txt (written by tools/walker.py)  -/
set_option maxRecDepth 100000
/-- how far two cells lie apart -/
def dist (r c r2 c2 : Int) : Int := ((r - r2).natAbs : Int) + ((c - c2).natAbs : Int)
/-- small numbers -/
abbrev sm (x : Int) : Prop := -1000000 ≤ x ∧ x ≤ 1000000
theorem k_index_B {g : GG} {w : WW} {a : Nat} {r c i b d m : Int} {t : Value} (hG : Base g) (ho : Ob w a 3 [.int (iI r), .int (iI c), .int (iI i), .int (iI b), t, .int (iI d), .int (iI m)]) : Ct g yX7_index (.code yX7_index cX7_index 1 (some .int)) 0 0 0 0 w [.ref a] (fun r_ w1 => r_ = some (.int (iI i)) ∧ w1 = w) xF := by
  refine Ct.of (lv := [some _]) hG (by decide +kernel) (Nat.le_of_ble_eq_true rfl) rfl ?_
  intro z hg hpo hxp hnm htab
  subst hg
  refine xr_aload_n dX7_index_0 rfl (by first | rfl | exact isRef_rf _) ?_
  refine xr_getfield (ci := 3) (T := TX10) (N := 7) (i := 2) (by assumption) rfl (by decide) in_X10 q751 (.inl rfl) dX7_index_1 (by rfl) ?_
  refine xr_ireturn rfl rfl dX7_index_4 ?_
  rw [hpo]
  first | exact ⟨rfl, rfl⟩ | exact ⟨ret_bt (by omega), rfl⟩ | exact ⟨ret_bf (by omega), rfl⟩ | exact ⟨ret_i (by omega), rfl⟩
theorem k_Item_init_B {g : GG} {w : WW} {a : Nat} {r c i i2 b d m : Int} {t : Value} (hG : Base g) (ho : Ob w a 3 [.int (iI r), .int (iI c), .int (iI i), .int (iI b), t, .int (iI d), .int (iI m)]) : Ct g yX7_init (.code yX7_init cX7_init 2 none) 1 12 0 0 w [.ref a, .int (iI i2)] (fun rr w1 => rr = none ∧ Ob w1 a 3 [.int (iI r), .int (iI c), .int (iI i2), .int (iI b), t, .int (iI d), .int (iI m)] ∧ Fr (fun b => b = a) w w1) xF := by
  refine Ct.of (lv := [some _, some _]) hG (by decide +kernel) (Nat.le_of_ble_eq_true rfl) rfl ?_
  intro z hg hpo hxp hnm htab
  subst hg
  refine xr_aload_n dX7_init_0 rfl (by first | rfl | exact isRef_rf _) ?_
  refine xr_objInit q742 q139 q140 (by decide) (Nat.le_of_ble_eq_true rfl) dX7_init_1 ?_
  refine xr_aload_n dX7_init_4 rfl (by first | rfl | exact isRef_rf _) ?_
  refine xr_iload_n dX7_init_5 rfl ?_
  refine xr_putfieldF (ci := 3) (T := TX10) (N := 7) (i := 2) (fs' := [_, _, _, _, _, _, _]) ho rfl (by decide) in_X10 tyX10 tyX10_ok nmX10 q751 (.inl rfl) rfl rfl hnm dX7_init_6 (by first | rfl | exact nar_bI _ | exact nar_rf _) (by first | rfl | exact fit_bI _ | exact fit_rf _ _) (by simp) (by rfl) (.inl rfl) (fun hob6 => ?_)
  refine xr_return rfl dX7_init_9 ?_
  rw [hpo]
  exact ⟨rfl, hob6, Fr.put1 _⟩
theorem k_index_F {g : GG} {w : WW} {a : Nat} {r c i l : Int} {o : Bool} (hG : Base g) (ho : Ob w a 4 [.int (iI r), .int (iI c), .int (iI i), .int (iI l), .int (bI o)]) : Ct g yX7_index (.code yX7_index cX7_index 1 (some .int)) 0 0 0 0 w [.ref a] (fun r_ w1 => r_ = some (.int (iI i)) ∧ w1 = w) xF := by
  refine Ct.of (lv := [some _]) hG (by decide +kernel) (Nat.le_of_ble_eq_true rfl) rfl ?_
  intro z hg hpo hxp hnm htab
  subst hg
  refine xr_aload_n dX7_index_0 rfl (by first | rfl | exact isRef_rf _) ?_
  refine xr_getfield (ci := 4) (T := TX9) (N := 5) (i := 2) (by assumption) rfl (by decide) in_X9 q751 (.inl rfl) dX7_index_1 (by rfl) ?_
  refine xr_ireturn rfl rfl dX7_index_4 ?_
  rw [hpo]
  first | exact ⟨rfl, rfl⟩ | exact ⟨ret_bt (by omega), rfl⟩ | exact ⟨ret_bf (by omega), rfl⟩ | exact ⟨ret_i (by omega), rfl⟩
theorem k_Item_init_F {g : GG} {w : WW} {a : Nat} {r c i i2 l : Int} {o : Bool} (hG : Base g) (ho : Ob w a 4 [.int (iI r), .int (iI c), .int (iI i), .int (iI l), .int (bI o)]) : Ct g yX7_init (.code yX7_init cX7_init 2 none) 1 12 0 0 w [.ref a, .int (iI i2)] (fun rr w1 => rr = none ∧ Ob w1 a 4 [.int (iI r), .int (iI c), .int (iI i2), .int (iI l), .int (bI o)] ∧ Fr (fun b => b = a) w w1) xF := by
  refine Ct.of (lv := [some _, some _]) hG (by decide +kernel) (Nat.le_of_ble_eq_true rfl) rfl ?_
  intro z hg hpo hxp hnm htab
  subst hg
  refine xr_aload_n dX7_init_0 rfl (by first | rfl | exact isRef_rf _) ?_
  refine xr_objInit q742 q139 q140 (by decide) (Nat.le_of_ble_eq_true rfl) dX7_init_1 ?_
  refine xr_aload_n dX7_init_4 rfl (by first | rfl | exact isRef_rf _) ?_
  refine xr_iload_n dX7_init_5 rfl ?_
  refine xr_putfieldF (ci := 4) (T := TX9) (N := 5) (i := 2) (fs' := [_, _, _, _, _]) ho rfl (by decide) in_X9 tyX9 tyX9_ok nmX9 q751 (.inl rfl) rfl rfl hnm dX7_init_6 (by first | rfl | exact nar_bI _ | exact nar_rf _) (by first | rfl | exact fit_bI _ | exact fit_rf _ _) (by simp) (by rfl) (.inl rfl) (fun hob6 => ?_)
  refine xr_return rfl dX7_init_9 ?_
  rw [hpo]
  exact ⟨rfl, hob6, Fr.put1 _⟩
theorem k_index_T {g : GG} {w : WW} {a : Nat} {i q d : Int} {t : Value} (hG : Base g) (ho : Ob w a 5 [.int (iI i), .int (iI q), .int (iI d), t]) : Ct g yX7_index (.code yX7_index cX7_index 1 (some .int)) 0 0 0 0 w [.ref a] (fun r_ w1 => r_ = some (.int (iI i)) ∧ w1 = w) xF := by
  refine Ct.of (lv := [some _]) hG (by decide +kernel) (Nat.le_of_ble_eq_true rfl) rfl ?_
  intro z hg hpo hxp hnm htab
  subst hg
  refine xr_aload_n dX7_index_0 rfl (by first | rfl | exact isRef_rf _) ?_
  refine xr_getfield (ci := 5) (T := TX11) (N := 4) (i := 0) (by assumption) rfl (by decide) in_X11 q751 (.inl rfl) dX7_index_1 (by rfl) ?_
  refine xr_ireturn rfl rfl dX7_index_4 ?_
  rw [hpo]
  first | exact ⟨rfl, rfl⟩ | exact ⟨ret_bt (by omega), rfl⟩ | exact ⟨ret_bf (by omega), rfl⟩ | exact ⟨ret_i (by omega), rfl⟩
theorem k_Item_init_T {g : GG} {w : WW} {a : Nat} {i i2 q d : Int} {t : Value} (hG : Base g) (ho : Ob w a 5 [.int (iI i), .int (iI q), .int (iI d), t]) : Ct g yX7_init (.code yX7_init cX7_init 2 none) 1 12 0 0 w [.ref a, .int (iI i2)] (fun rr w1 => rr = none ∧ Ob w1 a 5 [.int (iI i2), .int (iI q), .int (iI d), t] ∧ Fr (fun b => b = a) w w1) xF := by
  refine Ct.of (lv := [some _, some _]) hG (by decide +kernel) (Nat.le_of_ble_eq_true rfl) rfl ?_
  intro z hg hpo hxp hnm htab
  subst hg
  refine xr_aload_n dX7_init_0 rfl (by first | rfl | exact isRef_rf _) ?_
  refine xr_objInit q742 q139 q140 (by decide) (Nat.le_of_ble_eq_true rfl) dX7_init_1 ?_
  refine xr_aload_n dX7_init_4 rfl (by first | rfl | exact isRef_rf _) ?_
  refine xr_iload_n dX7_init_5 rfl ?_
  refine xr_putfieldF (ci := 5) (T := TX11) (N := 4) (i := 0) (fs' := [_, _, _, _]) ho rfl (by decide) in_X11 tyX11 tyX11_ok nmX11 q751 (.inl rfl) rfl rfl hnm dX7_init_6 (by first | rfl | exact nar_bI _ | exact nar_rf _) (by first | rfl | exact fit_bI _ | exact fit_rf _ _) (by simp) (by rfl) (.inl rfl) (fun hob6 => ?_)
  refine xr_return rfl dX7_init_9 ?_
  rw [hpo]
  exact ⟨rfl, hob6, Fr.put1 _⟩
theorem k_row_B {g : GG} {w : WW} {a : Nat} {r c i b d m : Int} {t : Value} (hG : Base g) (ho : Ob w a 3 [.int (iI r), .int (iI c), .int (iI i), .int (iI b), t, .int (iI d), .int (iI m)]) : Ct g yX8_row (.code yX8_row cX8_row 1 (some .int)) 0 0 0 0 w [.ref a] (fun r_ w1 => r_ = some (.int (iI r)) ∧ w1 = w) xF := by
  refine Ct.of (lv := [some _]) hG (by decide +kernel) (Nat.le_of_ble_eq_true rfl) rfl ?_
  intro z hg hpo hxp hnm htab
  subst hg
  refine xr_aload_n dX8_row_0 rfl (by first | rfl | exact isRef_rf _) ?_
  refine xr_getfield (ci := 3) (T := TX10) (N := 7) (i := 0) (by assumption) rfl (by decide) in_X10 q749 (.inl rfl) dX8_row_1 (by rfl) ?_
  refine xr_ireturn rfl rfl dX8_row_4 ?_
  rw [hpo]
  first | exact ⟨rfl, rfl⟩ | exact ⟨ret_bt (by omega), rfl⟩ | exact ⟨ret_bf (by omega), rfl⟩ | exact ⟨ret_i (by omega), rfl⟩
theorem k_column_B {g : GG} {w : WW} {a : Nat} {r c i b d m : Int} {t : Value} (hG : Base g) (ho : Ob w a 3 [.int (iI r), .int (iI c), .int (iI i), .int (iI b), t, .int (iI d), .int (iI m)]) : Ct g yX8_column (.code yX8_column cX8_column 1 (some .int)) 0 0 0 0 w [.ref a] (fun r_ w1 => r_ = some (.int (iI c)) ∧ w1 = w) xF := by
  refine Ct.of (lv := [some _]) hG (by decide +kernel) (Nat.le_of_ble_eq_true rfl) rfl ?_
  intro z hg hpo hxp hnm htab
  subst hg
  refine xr_aload_n dX8_column_0 rfl (by first | rfl | exact isRef_rf _) ?_
  refine xr_getfield (ci := 3) (T := TX10) (N := 7) (i := 1) (by assumption) rfl (by decide) in_X10 q750 (.inl rfl) dX8_column_1 (by rfl) ?_
  refine xr_ireturn rfl rfl dX8_column_4 ?_
  rw [hpo]
  first | exact ⟨rfl, rfl⟩ | exact ⟨ret_bt (by omega), rfl⟩ | exact ⟨ret_bf (by omega), rfl⟩ | exact ⟨ret_i (by omega), rfl⟩
theorem k_distanceTo_B {g : GG} {w : WW} {a : Nat} {r c i b d m : Int} {t : Value} {x y : Int} (hG : Base g) (ho : Ob w a 3 [.int (iI r), .int (iI c), .int (iI i), .int (iI b), t, .int (iI d), .int (iI m)]) (hr : (sm r ∧ sm c) ∧ (sm x ∧ sm y)) : Ct g yX8_distanceTo (.code yX8_distanceTo cX8_distanceTo 3 (some .int)) 1 21 0 0 w [.ref a, .int (iI x), .int (iI y)] (fun r_ w1 => r_ = some (.int (iI (dist r c x y))) ∧ w1 = w) xF := by
  refine Ct.of (lv := [some _, some _, some _]) hG (by decide +kernel) (Nat.le_of_ble_eq_true rfl) rfl ?_
  intro z hg hpo hxp hnm htab
  subst hg
  refine xr_aload_n dX8_distanceTo_0 rfl (by first | rfl | exact isRef_rf _) ?_
  refine xr_getfield (ci := 3) (T := TX10) (N := 7) (i := 0) (by assumption) rfl (by decide) in_X10 q749 (.inl rfl) dX8_distanceTo_1 (by rfl) ?_
  refine xr_iload_n dX8_distanceTo_4 rfl ?_
  refine xr_isub dX8_distanceTo_5 ?_
  refine xr_mabs q356 q357 q111 q358 (by decide) (Nat.le_of_ble_eq_true rfl) (by omega) dX8_distanceTo_6 ?_
  refine xr_aload_n dX8_distanceTo_9 rfl (by first | rfl | exact isRef_rf _) ?_
  refine xr_getfield (ci := 3) (T := TX10) (N := 7) (i := 1) (by assumption) rfl (by decide) in_X10 q750 (.inl rfl) dX8_distanceTo_10 (by rfl) ?_
  refine xr_iload_n dX8_distanceTo_13 rfl ?_
  refine xr_isub dX8_distanceTo_14 ?_
  refine xr_mabs q356 q357 q111 q358 (by decide) (Nat.le_of_ble_eq_true rfl) (by omega) dX8_distanceTo_15 ?_
  refine xr_iadd dX8_distanceTo_18 ?_
  refine xr_ireturn rfl rfl dX8_distanceTo_19 ?_
  rw [hpo]
  first | exact ⟨rfl, rfl⟩ | exact ⟨ret_bt (by omega), rfl⟩ | exact ⟨ret_bf (by omega), rfl⟩ | exact ⟨ret_i (by omega), rfl⟩
theorem k_Place_init_B {g : GG} {w : WW} {a : Nat} {r c i r2 c2 i2 b d m : Int} {t : Value} (hG : Base g) (ho : Ob w a 3 [.int (iI r), .int (iI c), .int (iI i), .int (iI b), t, .int (iI d), .int (iI m)]) : Ct g yX8_init (.code yX8_init cX8_init 4 none) 2 33 0 0 w [.ref a, .int (iI i2), .int (iI r2), .int (iI c2)] (fun rr w1 => rr = none ∧ Ob w1 a 3 [.int (iI r2), .int (iI c2), .int (iI i2), .int (iI b), t, .int (iI d), .int (iI m)] ∧ Fr (fun b => b = a) w w1) xF := by
  refine Ct.of (lv := [some _, some _, some _, some _]) hG (by decide +kernel) (Nat.le_of_ble_eq_true rfl) rfl ?_
  intro z hg hpo hxp hnm htab
  subst hg
  refine xr_aload_n dX8_init_0 rfl (by first | rfl | exact isRef_rf _) ?_
  refine xr_iload_n dX8_init_1 rfl ?_
  refine xr_callI (n9 := 1) (rc' := 0) (rs' := 0) (k_Item_init_B hG ho) q739 q740 q107 q741 rfl (by decide +kernel) rfl ⟨by decide, Nat.le_of_ble_eq_true rfl⟩ ⟨Nat.le_of_ble_eq_true rfl, Nat.le_of_ble_eq_true rfl⟩ (Nat.le_of_ble_eq_true rfl) dX8_init_2 rfl (fun r w2 hw => ?_) (fun _ _ _ h => h.elim)
  obtain ⟨rfl, ho2, hfr⟩ := hw
  refine xr_aload_n dX8_init_5 rfl (by first | rfl | exact isRef_rf _) ?_
  refine xr_iload_n dX8_init_6 rfl ?_
  refine xr_putfieldF (ci := 3) (T := TX10) (N := 7) (i := 0) (fs' := [_, _, _, _, _, _, _]) ho2 rfl (by decide) in_X10 tyX10 tyX10_ok nmX10 q749 (.inl rfl) rfl rfl hnm dX8_init_7 (by first | rfl | exact nar_bI _ | exact nar_rf _) (by first | rfl | exact fit_bI _ | exact fit_rf _ _) (by simp) (by rfl) (.inl rfl) (fun hob7 => ?_)
  refine xr_aload_n dX8_init_10 rfl (by first | rfl | exact isRef_rf _) ?_
  refine xr_iload_n dX8_init_11 rfl ?_
  refine xr_putfieldF (ci := 3) (T := TX10) (N := 7) (i := 1) (fs' := [_, _, _, _, _, _, _]) hob7 rfl (by decide) in_X10 tyX10 tyX10_ok nmX10 q750 (.inl rfl) rfl rfl hnm dX8_init_12 (by first | rfl | exact nar_bI _ | exact nar_rf _) (by first | rfl | exact fit_bI _ | exact fit_rf _ _) (by simp) (by rfl) (.inl rfl) (fun hob12 => ?_)
  refine xr_return rfl dX8_init_15 ?_
  rw [hpo]
  exact ⟨rfl, hob12, (hfr.tr (Fr.put1 _) (fun b _ q => q)).tr (Fr.put1 _) (fun b _ q => q)⟩
theorem k_row_F {g : GG} {w : WW} {a : Nat} {r c i l : Int} {o : Bool} (hG : Base g) (ho : Ob w a 4 [.int (iI r), .int (iI c), .int (iI i), .int (iI l), .int (bI o)]) : Ct g yX8_row (.code yX8_row cX8_row 1 (some .int)) 0 0 0 0 w [.ref a] (fun r_ w1 => r_ = some (.int (iI r)) ∧ w1 = w) xF := by
  refine Ct.of (lv := [some _]) hG (by decide +kernel) (Nat.le_of_ble_eq_true rfl) rfl ?_
  intro z hg hpo hxp hnm htab
  subst hg
  refine xr_aload_n dX8_row_0 rfl (by first | rfl | exact isRef_rf _) ?_
  refine xr_getfield (ci := 4) (T := TX9) (N := 5) (i := 0) (by assumption) rfl (by decide) in_X9 q749 (.inl rfl) dX8_row_1 (by rfl) ?_
  refine xr_ireturn rfl rfl dX8_row_4 ?_
  rw [hpo]
  first | exact ⟨rfl, rfl⟩ | exact ⟨ret_bt (by omega), rfl⟩ | exact ⟨ret_bf (by omega), rfl⟩ | exact ⟨ret_i (by omega), rfl⟩
theorem k_column_F {g : GG} {w : WW} {a : Nat} {r c i l : Int} {o : Bool} (hG : Base g) (ho : Ob w a 4 [.int (iI r), .int (iI c), .int (iI i), .int (iI l), .int (bI o)]) : Ct g yX8_column (.code yX8_column cX8_column 1 (some .int)) 0 0 0 0 w [.ref a] (fun r_ w1 => r_ = some (.int (iI c)) ∧ w1 = w) xF := by
  refine Ct.of (lv := [some _]) hG (by decide +kernel) (Nat.le_of_ble_eq_true rfl) rfl ?_
  intro z hg hpo hxp hnm htab
  subst hg
  refine xr_aload_n dX8_column_0 rfl (by first | rfl | exact isRef_rf _) ?_
  refine xr_getfield (ci := 4) (T := TX9) (N := 5) (i := 1) (by assumption) rfl (by decide) in_X9 q750 (.inl rfl) dX8_column_1 (by rfl) ?_
  refine xr_ireturn rfl rfl dX8_column_4 ?_
  rw [hpo]
  first | exact ⟨rfl, rfl⟩ | exact ⟨ret_bt (by omega), rfl⟩ | exact ⟨ret_bf (by omega), rfl⟩ | exact ⟨ret_i (by omega), rfl⟩
theorem k_distanceTo_F {g : GG} {w : WW} {a : Nat} {r c i l : Int} {o : Bool} {x y : Int} (hG : Base g) (ho : Ob w a 4 [.int (iI r), .int (iI c), .int (iI i), .int (iI l), .int (bI o)]) (hr : (sm r ∧ sm c) ∧ (sm x ∧ sm y)) : Ct g yX8_distanceTo (.code yX8_distanceTo cX8_distanceTo 3 (some .int)) 1 21 0 0 w [.ref a, .int (iI x), .int (iI y)] (fun r_ w1 => r_ = some (.int (iI (dist r c x y))) ∧ w1 = w) xF := by
  refine Ct.of (lv := [some _, some _, some _]) hG (by decide +kernel) (Nat.le_of_ble_eq_true rfl) rfl ?_
  intro z hg hpo hxp hnm htab
  subst hg
  refine xr_aload_n dX8_distanceTo_0 rfl (by first | rfl | exact isRef_rf _) ?_
  refine xr_getfield (ci := 4) (T := TX9) (N := 5) (i := 0) (by assumption) rfl (by decide) in_X9 q749 (.inl rfl) dX8_distanceTo_1 (by rfl) ?_
  refine xr_iload_n dX8_distanceTo_4 rfl ?_
  refine xr_isub dX8_distanceTo_5 ?_
  refine xr_mabs q356 q357 q111 q358 (by decide) (Nat.le_of_ble_eq_true rfl) (by omega) dX8_distanceTo_6 ?_
  refine xr_aload_n dX8_distanceTo_9 rfl (by first | rfl | exact isRef_rf _) ?_
  refine xr_getfield (ci := 4) (T := TX9) (N := 5) (i := 1) (by assumption) rfl (by decide) in_X9 q750 (.inl rfl) dX8_distanceTo_10 (by rfl) ?_
  refine xr_iload_n dX8_distanceTo_13 rfl ?_
  refine xr_isub dX8_distanceTo_14 ?_
  refine xr_mabs q356 q357 q111 q358 (by decide) (Nat.le_of_ble_eq_true rfl) (by omega) dX8_distanceTo_15 ?_
  refine xr_iadd dX8_distanceTo_18 ?_
  refine xr_ireturn rfl rfl dX8_distanceTo_19 ?_
  rw [hpo]
  first | exact ⟨rfl, rfl⟩ | exact ⟨ret_bt (by omega), rfl⟩ | exact ⟨ret_bf (by omega), rfl⟩ | exact ⟨ret_i (by omega), rfl⟩
theorem k_Place_init_F {g : GG} {w : WW} {a : Nat} {r c i r2 c2 i2 l : Int} {o : Bool} (hG : Base g) (ho : Ob w a 4 [.int (iI r), .int (iI c), .int (iI i), .int (iI l), .int (bI o)]) : Ct g yX8_init (.code yX8_init cX8_init 4 none) 2 33 0 0 w [.ref a, .int (iI i2), .int (iI r2), .int (iI c2)] (fun rr w1 => rr = none ∧ Ob w1 a 4 [.int (iI r2), .int (iI c2), .int (iI i2), .int (iI l), .int (bI o)] ∧ Fr (fun b => b = a) w w1) xF := by
  refine Ct.of (lv := [some _, some _, some _, some _]) hG (by decide +kernel) (Nat.le_of_ble_eq_true rfl) rfl ?_
  intro z hg hpo hxp hnm htab
  subst hg
  refine xr_aload_n dX8_init_0 rfl (by first | rfl | exact isRef_rf _) ?_
  refine xr_iload_n dX8_init_1 rfl ?_
  refine xr_callI (n9 := 1) (rc' := 0) (rs' := 0) (k_Item_init_F hG ho) q739 q740 q107 q741 rfl (by decide +kernel) rfl ⟨by decide, Nat.le_of_ble_eq_true rfl⟩ ⟨Nat.le_of_ble_eq_true rfl, Nat.le_of_ble_eq_true rfl⟩ (Nat.le_of_ble_eq_true rfl) dX8_init_2 rfl (fun r w2 hw => ?_) (fun _ _ _ h => h.elim)
  obtain ⟨rfl, ho2, hfr⟩ := hw
  refine xr_aload_n dX8_init_5 rfl (by first | rfl | exact isRef_rf _) ?_
  refine xr_iload_n dX8_init_6 rfl ?_
  refine xr_putfieldF (ci := 4) (T := TX9) (N := 5) (i := 0) (fs' := [_, _, _, _, _]) ho2 rfl (by decide) in_X9 tyX9 tyX9_ok nmX9 q749 (.inl rfl) rfl rfl hnm dX8_init_7 (by first | rfl | exact nar_bI _ | exact nar_rf _) (by first | rfl | exact fit_bI _ | exact fit_rf _ _) (by simp) (by rfl) (.inl rfl) (fun hob7 => ?_)
  refine xr_aload_n dX8_init_10 rfl (by first | rfl | exact isRef_rf _) ?_
  refine xr_iload_n dX8_init_11 rfl ?_
  refine xr_putfieldF (ci := 4) (T := TX9) (N := 5) (i := 1) (fs' := [_, _, _, _, _]) hob7 rfl (by decide) in_X9 tyX9 tyX9_ok nmX9 q750 (.inl rfl) rfl rfl hnm dX8_init_12 (by first | rfl | exact nar_bI _ | exact nar_rf _) (by first | rfl | exact fit_bI _ | exact fit_rf _ _) (by simp) (by rfl) (.inl rfl) (fun hob12 => ?_)
  refine xr_return rfl dX8_init_15 ?_
  rw [hpo]
  exact ⟨rfl, hob12, (hfr.tr (Fr.put1 _) (fun b _ q => q)).tr (Fr.put1 _) (fun b _ q => q)⟩
theorem k_Fountain_init {g : GG} {w : WW} {a : Nat} {r c i r2 c2 i2 l : Int} {o : Bool} (hG : Base g) (ho : Ob w a 4 [.int (iI r), .int (iI c), .int (iI i), .int (iI l), .int (bI o)]) : Ct g yX9_init (.code yX9_init cX9_init 4 none) 3 56 0 0 w [.ref a, .int (iI i2), .int (iI r2), .int (iI c2)] (fun rr w1 => rr = none ∧ Ob w1 a 4 [.int (iI r2), .int (iI c2), .int (iI i2), .int (iI l), .int (bI true)] ∧ Fr (fun b => b = a) w w1) xF := by
  refine Ct.of (lv := [some _, some _, some _, some _]) hG (by decide +kernel) (Nat.le_of_ble_eq_true rfl) rfl ?_
  intro z hg hpo hxp hnm htab
  subst hg
  refine xr_aload_n dX9_init_0 rfl (by first | rfl | exact isRef_rf _) ?_
  refine xr_iload_n dX9_init_1 rfl ?_
  refine xr_iload_n dX9_init_2 rfl ?_
  refine xr_iload_n dX9_init_3 rfl ?_
  refine xr_callI (n9 := 3) (rc' := 0) (rs' := 0) (k_Place_init_F hG ho) q736 q737 q108 q738 rfl (by decide +kernel) rfl ⟨by decide, Nat.le_of_ble_eq_true rfl⟩ ⟨Nat.le_of_ble_eq_true rfl, Nat.le_of_ble_eq_true rfl⟩ (Nat.le_of_ble_eq_true rfl) dX9_init_4 rfl (fun r w4 hw => ?_) (fun _ _ _ h => h.elim)
  obtain ⟨rfl, ho2, hfr⟩ := hw
  refine xr_aload_n dX9_init_7 rfl (by first | rfl | exact isRef_rf _) ?_
  refine xr_iconst dX9_init_8 ?_
  show XJ _ _ _ _ _ _ _ _ _ _ _ _ [.int (bI true), .ref a]
  refine xr_putfield (ci := 4) (T := TX9) (N := 5) (i := 4) (fs' := [_, _, _, _, _]) ho2 rfl (by decide) in_X9 tyX9 tyX9_ok nmX9 q746 (.inl rfl) rfl dX9_init_9 (by first | rfl | exact nar_bI _ | exact nar_rf _) (by first | rfl | exact fit_bI _ | exact fit_rf _ _) (by simp) (by rfl) (.inl rfl) (fun hob9 => ?_)
  refine xr_return rfl dX9_init_12 ?_
  rw [hpo]
  exact ⟨rfl, hob9, hfr.tr (Fr.put1 _) (fun b _ q => q)⟩
theorem k_Bench_init {g : GG} {w : WW} {a : Nat} {r c i r2 c2 i2 b d m : Int} {t : Value} (hG : Base g) (ho : Ob w a 3 [.int (iI r), .int (iI c), .int (iI i), .int (iI b), t, .int (iI d), .int (iI m)]) : Ct g yX10_init (.code yX10_init cX10_init 4 none) 3 56 0 0 w [.ref a, .int (iI i2), .int (iI r2), .int (iI c2)] (fun rr w1 => rr = none ∧ Ob w1 a 3 [.int (iI r2), .int (iI c2), .int (iI i2), .int (iI b), t, .int (iI d), .int (iI m)] ∧ Fr (fun b => b = a) w w1) xF := by
  refine Ct.of (lv := [some _, some _, some _, some _]) hG (by decide +kernel) (Nat.le_of_ble_eq_true rfl) rfl ?_
  intro z hg hpo hxp hnm htab
  subst hg
  refine xr_aload_n dX10_init_0 rfl (by first | rfl | exact isRef_rf _) ?_
  refine xr_iload_n dX10_init_1 rfl ?_
  refine xr_iload_n dX10_init_2 rfl ?_
  refine xr_iload_n dX10_init_3 rfl ?_
  refine xr_callI (n9 := 3) (rc' := 0) (rs' := 0) (k_Place_init_B hG ho) q811 q737 q108 q738 rfl (by decide +kernel) rfl ⟨by decide, Nat.le_of_ble_eq_true rfl⟩ ⟨Nat.le_of_ble_eq_true rfl, Nat.le_of_ble_eq_true rfl⟩ (Nat.le_of_ble_eq_true rfl) dX10_init_4 rfl (fun r w4 hw => ?_) (fun _ _ _ h => h.elim)
  obtain ⟨rfl, ho2, hfr⟩ := hw
  refine xr_return rfl dX10_init_7 ?_
  rw [hpo]
  exact ⟨rfl, ho2, hfr⟩
theorem k_Tenant_init {g : GG} {w : WW} {a : Nat} {i q i2 q2 d : Int} {t : Value} (hG : Base g) (ho : Ob w a 5 [.int (iI i), .int (iI q), .int (iI d), t]) : Ct g yX11_init (.code yX11_init cX11_init 3 none) 2 33 0 0 w [.ref a, .int (iI i2), .int (iI q2)] (fun rr w1 => rr = none ∧ Ob w1 a 5 [.int (iI i2), .int (iI q2), .int (iI d), t] ∧ Fr (fun b => b = a) w w1) xF := by
  refine Ct.of (lv := [some _, some _, some _]) hG (by decide +kernel) (Nat.le_of_ble_eq_true rfl) rfl ?_
  intro z hg hpo hxp hnm htab
  subst hg
  refine xr_aload_n dX11_init_0 rfl (by first | rfl | exact isRef_rf _) ?_
  refine xr_iload_n dX11_init_1 rfl ?_
  refine xr_callI (n9 := 1) (rc' := 0) (rs' := 0) (k_Item_init_T hG ho) q841 q740 q107 q741 rfl (by decide +kernel) rfl ⟨by decide, Nat.le_of_ble_eq_true rfl⟩ ⟨Nat.le_of_ble_eq_true rfl, Nat.le_of_ble_eq_true rfl⟩ (Nat.le_of_ble_eq_true rfl) dX11_init_2 rfl (fun r w2 hw => ?_) (fun _ _ _ h => h.elim)
  obtain ⟨rfl, ho2, hfr⟩ := hw
  refine xr_aload_n dX11_init_5 rfl (by first | rfl | exact isRef_rf _) ?_
  refine xr_iload_n dX11_init_6 rfl ?_
  refine xr_putfield (ci := 5) (T := TX11) (N := 4) (i := 1) (fs' := [_, _, _, _]) ho2 rfl (by decide) in_X11 tyX11 tyX11_ok nmX11 q842 (.inl rfl) rfl dX11_init_7 (by first | rfl | exact nar_bI _ | exact nar_rf _) (by first | rfl | exact fit_bI _ | exact fit_rf _ _) (by simp) (by rfl) (.inl rfl) (fun hob7 => ?_)
  refine xr_return rfl dX11_init_10 ?_
  rw [hpo]
  exact ⟨rfl, hob7, hfr.tr (Fr.put1 _) (fun b _ q => q)⟩
theorem k_F_noiseAt {g : GG} {w : WW} {a : Nat} {r c i l : Int} {o : Bool} {x y : Int} (hG : Base g) (ho : Ob w a 4 [.int (iI r), .int (iI c), .int (iI i), .int (iI l), .int (bI o)]) (hr : (sm r ∧ sm c ∧ sm l) ∧ (sm x ∧ sm y)) : Ct g yX9_noiseAt (.code yX9_noiseAt cX9_noiseAt 3 (some .int)) 2 43 0 0 w [.ref a, .int (iI x), .int (iI y)] (fun r_ w1 => r_ = some (.int (iI (if o = true then max 0 (l - 2 * dist r c x y) else 0))) ∧ w1 = w) xF := by
  refine Ct.of (lv := [some _, some _, some _]) hG (by decide +kernel) (Nat.le_of_ble_eq_true rfl) rfl ?_
  intro z hg hpo hxp hnm htab
  subst hg
  refine xr_aload_n dX9_noiseAt_0 rfl (by first | rfl | exact isRef_rf _) ?_
  refine xr_getfield (ci := 4) (T := TX9) (N := 5) (i := 4) (by assumption) rfl (by decide) in_X9 q746 (.inl rfl) dX9_noiseAt_1 (by rfl) ?_
  refine xr_ifb_eq (tgt := 27) dX9_noiseAt_4 (by decide) (fun c4 => ?_) (fun c4 => ?_)
  · skip
    try simp only [decide_eq_true_eq, decide_eq_false_iff_not] at c4
    refine xr_iconst dX9_noiseAt_27 ?_
    refine xr_ireturn rfl rfl dX9_noiseAt_28 ?_
    rw [hpo]
    first | (rw [if_pos c4]; exact ⟨rfl, rfl⟩) | (rw [if_neg (by rw [c4]; decide)]; exact ⟨rfl, rfl⟩)
  · skip
    try simp only [decide_eq_true_eq, decide_eq_false_iff_not] at c4
    refine xr_iconst dX9_noiseAt_7 ?_
    refine xr_aload_n dX9_noiseAt_8 rfl (by first | rfl | exact isRef_rf _) ?_
    refine xr_getfield (ci := 4) (T := TX9) (N := 5) (i := 3) (by assumption) rfl (by decide) in_X9 q743 (.inl rfl) dX9_noiseAt_9 (by rfl) ?_
    refine xr_iconst dX9_noiseAt_12 ?_
    refine xr_aload_n dX9_noiseAt_13 rfl (by first | rfl | exact isRef_rf _) ?_
    refine xr_iload_n dX9_noiseAt_14 rfl ?_
    refine xr_iload_n dX9_noiseAt_15 rfl ?_
    refine xr_callVU (n9 := 2) (rc' := 0) (rs' := 0) (k_distanceTo_F hG ho (by omega)) ho rfl q350 q351 rfl q354 q353 q108 q355 (by decide +kernel) rfl ⟨by decide, Nat.le_of_ble_eq_true rfl⟩ ⟨Nat.le_of_ble_eq_true rfl, Nat.le_of_ble_eq_true rfl⟩ (Nat.le_of_ble_eq_true rfl) dX9_noiseAt_16 rfl (xk_r ?_) (fun _ _ _ h => h.elim)
    refine xr_imul dX9_noiseAt_19 ?_
    refine xr_isub dX9_noiseAt_20 ?_
    refine xr_mmax q359 q360 q111 q361 (by decide) (Nat.le_of_ble_eq_true rfl) (by simp only [dist]; omega) dX9_noiseAt_21 ?_
    refine xr_goto (tgt := 28) dX9_noiseAt_24 (by decide) ?_
    refine xr_ireturn rfl rfl dX9_noiseAt_28 ?_
    rw [hpo]
    first | (rw [if_pos c4]; exact ⟨rfl, rfl⟩) | (rw [if_neg (by rw [c4]; decide)]; exact ⟨rfl, rfl⟩)
theorem k_F_sign {g : GG} {w : WW} {a : Nat} {r c i l : Int} {o : Bool} (hG : Base g) (ho : Ob w a 4 [.int (iI r), .int (iI c), .int (iI i), .int (iI l), .int (bI o)]) : Ct g yX9_sign (.code yX9_sign cX9_sign 1 (some .char)) 0 0 0 0 w [.ref a] (fun r_ w1 => r_ = some (.int (iI (if o = true then 70 else 102))) ∧ w1 = w) xF := by
  refine Ct.of (lv := [some _]) hG (by decide +kernel) (Nat.le_of_ble_eq_true rfl) rfl ?_
  intro z hg hpo hxp hnm htab
  subst hg
  refine xr_aload_n dX9_sign_0 rfl (by first | rfl | exact isRef_rf _) ?_
  refine xr_getfield (ci := 4) (T := TX9) (N := 5) (i := 4) (by assumption) rfl (by decide) in_X9 q746 (.inl rfl) dX9_sign_1 (by rfl) ?_
  refine xr_ifb_eq (tgt := 12) dX9_sign_4 (by decide) (fun c4 => ?_) (fun c4 => ?_)
  · skip
    try simp only [decide_eq_true_eq, decide_eq_false_iff_not] at c4
    refine xr_bipush dX9_sign_12 (by decide) ?_
    refine xr_ireturn rfl (by decide +kernel) dX9_sign_14 ?_
    rw [hpo]
    first | (rw [if_pos c4]; exact ⟨rfl, rfl⟩) | (rw [if_neg (by rw [c4]; decide)]; exact ⟨rfl, rfl⟩)
  · skip
    try simp only [decide_eq_true_eq, decide_eq_false_iff_not] at c4
    refine xr_bipush dX9_sign_7 (by decide) ?_
    refine xr_goto (tgt := 14) dX9_sign_9 (by decide) ?_
    refine xr_ireturn rfl (by decide +kernel) dX9_sign_14 ?_
    rw [hpo]
    first | (rw [if_pos c4]; exact ⟨rfl, rfl⟩) | (rw [if_neg (by rw [c4]; decide)]; exact ⟨rfl, rfl⟩)
theorem k_B_sign {g : GG} {w : WW} {a : Nat} {r c i b d m : Int} {t : Value} (hG : Base g) (ho : Ob w a 3 [.int (iI r), .int (iI c), .int (iI i), .int (iI b), t, .int (iI d), .int (iI m)]) (hr : 0 ≤ i ∧ i < 10) : Ct g yX10_sign (.code yX10_sign cX10_sign 1 (some .char)) 1 20 0 0 w [.ref a] (fun r_ w1 => r_ = some (.int (iI (48 + i))) ∧ w1 = w) xF := by
  refine Ct.of (lv := [some _]) hG (by decide +kernel) (Nat.le_of_ble_eq_true rfl) rfl ?_
  intro z hg hpo hxp hnm htab
  subst hg
  refine xr_bipush dX10_sign_0 (by decide) ?_
  refine xr_aload_n dX10_sign_2 rfl (by first | rfl | exact isRef_rf _) ?_
  refine xr_callVU (n9 := 0) (rc' := 0) (rs' := 0) (k_index_B hG ho) ho rfl q1835 q801 rfl q804 q803 q107 q805 (by decide +kernel) rfl ⟨by decide, Nat.le_of_ble_eq_true rfl⟩ ⟨Nat.le_of_ble_eq_true rfl, Nat.le_of_ble_eq_true rfl⟩ (Nat.le_of_ble_eq_true rfl) dX10_sign_3 rfl (xk_r ?_) (fun _ _ _ h => h.elim)
  refine xr_iadd dX10_sign_6 ?_
  refine xr_i2cs dX10_sign_7 (by omega) ?_
  refine xr_ireturn rfl (nar_ch (by omega)) dX10_sign_8 ?_
  rw [hpo]
  first | exact ⟨rfl, rfl⟩ | exact ⟨ret_bt (by omega), rfl⟩ | exact ⟨ret_bf (by omega), rfl⟩ | exact ⟨ret_i (by omega), rfl⟩
theorem k_B_isLet {g : GG} {w : WW} {a : Nat} {r c i b d m : Int} {t : Option Nat} (hG : Base g) (ho : Ob w a 3 [.int (iI r), .int (iI c), .int (iI i), .int (iI b), va_rf t, .int (iI d), .int (iI m)]) : Ct g yX10_isLet (.code yX10_isLet cX10_isLet 1 (some .boolean)) 0 0 0 0 w [.ref a] (fun r_ w1 => r_ = some (.int (bI (t.isSome))) ∧ w1 = w) xF := by
  refine Ct.of (lv := [some _]) hG (by decide +kernel) (Nat.le_of_ble_eq_true rfl) rfl ?_
  intro z hg hpo hxp hnm htab
  subst hg
  refine xr_aload_n dX10_isLet_0 rfl (by first | rfl | exact isRef_rf _) ?_
  refine xr_getfield (ci := 3) (T := TX10) (N := 7) (i := 4) (by assumption) rfl (by decide) in_X10 q814 (.inl rfl) dX10_isLet_1 (by rfl) ?_
  refine xr_ifnull (tgt := 11) dX10_isLet_4 (by decide) (fun c4 => ?_) (fun c4 => ?_)
  · skip
    cases t with
    | some x => exact absurd c4 (by simp [va_rf])
    | none =>
    refine xr_iconst dX10_isLet_11 ?_
    refine xr_ireturn rfl (by first | rfl | exact nar_bI _ | decide +kernel) dX10_isLet_12 ?_
    rw [hpo]
    exact ⟨rfl, rfl⟩
  · skip
    cases t with
    | none => exact absurd rfl c4
    | some x =>
    refine xr_iconst dX10_isLet_7 ?_
    refine xr_goto (tgt := 12) dX10_isLet_8 (by decide) ?_
    refine xr_ireturn rfl (by first | rfl | exact nar_bI _ | decide +kernel) dX10_isLet_12 ?_
    rw [hpo]
    exact ⟨rfl, rfl⟩
theorem k_T_isBanned {g : GG} {w : WW} {a : Nat} {i q d : Int} {t : Value} (hG : Base g) (ho : Ob w a 5 [.int (iI i), .int (iI q), .int (iI d), t]) (hr : -2147483648 ≤ d ∧ d < 2147483648) : Ct g yX11_isBanned (.code yX11_isBanned cX11_isBanned 1 (some .boolean)) 0 0 0 0 w [.ref a] (fun r_ w1 => r_ = some (.int (bI (decide (d = 3)))) ∧ w1 = w) xF := by
  refine Ct.of (lv := [some _]) hG (by decide +kernel) (Nat.le_of_ble_eq_true rfl) rfl ?_
  intro z hg hpo hxp hnm htab
  subst hg
  refine xr_aload_n dX11_isBanned_0 rfl (by first | rfl | exact isRef_rf _) ?_
  refine xr_getfield (ci := 5) (T := TX11) (N := 4) (i := 2) (by assumption) rfl (by decide) in_X11 q845 (.inl rfl) dX11_isBanned_1 (by rfl) ?_
  refine xr_iconst dX11_isBanned_4 ?_
  refine xr_icmp_ne (tgt := 12) dX11_isBanned_5 (by decide) (by omega) (fun c5 => ?_) (fun c5 => ?_)
  · skip
    refine xr_iconst dX11_isBanned_12 ?_
    refine xr_ireturn rfl (by first | rfl | exact nar_bI _ | decide +kernel) dX11_isBanned_13 ?_
    rw [hpo]
    first | exact ⟨rfl, rfl⟩ | exact ⟨ret_bt (by omega), rfl⟩ | exact ⟨ret_bf (by omega), rfl⟩ | exact ⟨ret_i (by omega), rfl⟩
  · skip
    refine xr_iconst dX11_isBanned_8 ?_
    refine xr_goto (tgt := 13) dX11_isBanned_9 (by decide) ?_
    refine xr_ireturn rfl (by first | rfl | exact nar_bI _ | decide +kernel) dX11_isBanned_13 ?_
    rw [hpo]
    first | exact ⟨rfl, rfl⟩ | exact ⟨ret_bt (by omega), rfl⟩ | exact ⟨ret_bf (by omega), rfl⟩ | exact ⟨ret_i (by omega), rfl⟩
theorem k_B_end {g : GG} {w : WW} {a ta : Nat} {r c i b d m ti tq td : Int} {tb : Value} (hG : Base g) (ho : Ob w a 3 [.int (iI r), .int (iI c), .int (iI i), .int (iI b), .ref ta, .int (iI d), .int (iI m)]) (ht : Ob w ta 5 [.int (iI ti), .int (iI tq), .int (iI td), tb]) : Ct g yX10_end (.code yX10_end cX10_end 2 (some .int)) 0 0 0 0 w [.ref a] (fun rr w1 => rr = some (.int (iI d)) ∧ w1 = wput (wput w ta (.inl (.inr (5, [.int (iI ti), .int (iI tq), .int (iI td), .null])))) a (.inl (.inr (3, [.int (iI r), .int (iI c), .int (iI i), .int (iI b), .null, .int (iI 0), .int (iI 0)])))) xF := by
  refine Ct.of (lv := [some _, none]) hG (by decide +kernel) (Nat.le_of_ble_eq_true rfl) rfl ?_
  intro z hg hpo hxp hnm htab
  subst hg
  refine xr_aload_n dX10_end_0 rfl (by first | rfl | exact isRef_rf _) ?_
  refine xr_getfield (ci := 3) (T := TX10) (N := 7) (i := 5) (by assumption) rfl (by decide) in_X10 q817 (.inl rfl) dX10_end_1 (by rfl) ?_
  refine xr_istore_n (lv' := [some _, some _]) dX10_end_4 (by decide) rfl rfl ?_
  refine xr_aload_n dX10_end_5 rfl (by first | rfl | exact isRef_rf _) ?_
  refine xr_getfield (ci := 3) (T := TX10) (N := 7) (i := 4) (by assumption) rfl (by decide) in_X10 q814 (.inl rfl) dX10_end_6 (by rfl) ?_
  refine xr_null dX10_end_9 ?_
  refine xr_putfieldN (ci := 5) (T := TX11) (N := 4) (i := 3) (fs' := [_, _, _, _]) ht rfl (by decide) in_X11 tyX11 tyX11_ok nmX11 q849 (.inl rfl) rfl dX10_end_10 (by first | rfl | exact nar_bI _ | exact nar_rf _) (by first | rfl | exact fit_bI _ | exact fit_rf _ _) (by simp) (by rfl) (.inl rfl) (fun hob10 => ?_)
  have ho10 : Ob _ a 3 _ := ho.put_k (f' := [.int (iI ti), .int (iI tq), .int (iI td), .null]) ht (by decide)
  refine xr_aload_n dX10_end_13 rfl (by first | rfl | exact isRef_rf _) ?_
  refine xr_null dX10_end_14 ?_
  refine xr_putfield (ci := 3) (T := TX10) (N := 7) (i := 4) (fs' := [_, _, _, _, _, _, _]) ho10 rfl (by decide) in_X10 tyX10 tyX10_ok nmX10 q814 (.inl rfl) rfl dX10_end_15 (by first | rfl | exact nar_bI _ | exact nar_rf _) (by first | rfl | exact fit_bI _ | exact fit_rf _ _) (by simp) (by rfl) (.inl rfl) (fun hob15 => ?_)
  refine xr_aload_n dX10_end_18 rfl (by first | rfl | exact isRef_rf _) ?_
  refine xr_iconst dX10_end_19 ?_
  refine xr_putfield (ci := 3) (T := TX10) (N := 7) (i := 5) (fs' := [_, _, _, _, _, _, _]) hob15 rfl (by decide) in_X10 tyX10 tyX10_ok nmX10 q817 (.inl rfl) rfl dX10_end_20 (by first | rfl | exact nar_bI _ | exact nar_rf _) (by first | rfl | exact fit_bI _ | exact fit_rf _ _) (by simp) (by rfl) (.inl rfl) (fun hob20 => ?_)
  refine xr_aload_n dX10_end_23 rfl (by first | rfl | exact isRef_rf _) ?_
  refine xr_iconst dX10_end_24 ?_
  refine xr_putfield (ci := 3) (T := TX10) (N := 7) (i := 6) (fs' := [_, _, _, _, _, _, _]) hob20 rfl (by decide) in_X10 tyX10 tyX10_ok nmX10 q820 (.inl rfl) rfl dX10_end_25 (by first | rfl | exact nar_bI _ | exact nar_rf _) (by first | rfl | exact fit_bI _ | exact fit_rf _ _) (by simp) (by rfl) (.inl rfl) (fun hob25 => ?_)
  refine xr_iload_n dX10_end_28 rfl ?_
  refine xr_ireturn rfl rfl dX10_end_29 ?_
  rw [hpo]
  exact ⟨rfl, by simp only [wput_wput]⟩
