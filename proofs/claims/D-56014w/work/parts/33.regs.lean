/-! 33.regs.lean.txt (written by tools/walker.py)  -/
set_option maxRecDepth 100000
theorem k_Reg_size {g : GG} {w : WW} {r l arr : Nat} {n : Int} {f : Int → Option Nat} (hG : Base g) (hr : Ob w r 1 [.ref l]) (hA : AL g w l arr n f) : Ct g yX3_size (.code yX3_size cX3_size 1 (some .int)) 1 20 0 0 w [.ref r] (fun r_ w1 => r_ = some (.int (iI n)) ∧ w1 = w) xF := by
  refine Ct.of (lv := [some _]) hG (by decide +kernel) (Nat.le_of_ble_eq_true rfl) rfl ?_
  intro z hg hpo hxp hnm htab
  subst hg
  obtain ⟨mm, hol⟩ := hA.ob
  refine xr_aload_n dX3_size_0 rfl (by first | rfl | exact isRef_rf _) ?_
  refine xr_getfield (ci := 1) (T := TX3) (N := 1) (i := 0) (by assumption) rfl (by decide) in_X3 q182 (.inl rfl) dX3_size_1 (by rfl) ?_
  refine xr_callV (n9 := 0) (rc' := 0) (rs' := 0) (k_AL_size hG hA) hol rfl q297 q298 q299 q91 q300 (by decide +kernel) rfl ⟨by decide, Nat.le_of_ble_eq_true rfl⟩ ⟨Nat.le_of_ble_eq_true rfl, Nat.le_of_ble_eq_true rfl⟩ (Nat.le_of_ble_eq_true rfl) dX3_size_4 rfl (xk_r ?_) (fun _ _ _ h => h.elim)
  refine xr_ireturn rfl rfl dX3_size_7 ?_
  rw [hpo]
  first | exact ⟨rfl, rfl⟩ | exact ⟨ret_bt (by omega), rfl⟩ | exact ⟨ret_bf (by omega), rfl⟩ | exact ⟨ret_i (by omega), rfl⟩
theorem k_Reg_has {g : GG} {w : WW} {r l arr : Nat} {n : Int} {f : Int → Option Nat} {i : Int} (hG : Base g) (hr : Ob w r 1 [.ref l]) (hA : AL g w l arr n f) (hi : -2147483648 ≤ i ∧ i < 2147483648) : Ct g yX3_has (.code yX3_has cX3_has 2 (some .boolean)) 1 22 0 0 w [.ref r, .int (iI i)] (fun r_ w1 => r_ = some (.int (bI (decide (0 ≤ i ∧ i < n)))) ∧ w1 = w) xF := by
  refine Ct.of (lv := [some _, some _]) hG (by decide +kernel) (Nat.le_of_ble_eq_true rfl) rfl ?_
  intro z hg hpo hxp hnm htab
  subst hg
  obtain ⟨mm, hol⟩ := hA.ob
  have hn := hA.lt
  refine xr_iload_n dX3_has_0 rfl ?_
  refine xr_iconst dX3_has_1 ?_
  refine xr_aload_n dX3_has_2 rfl (by first | rfl | exact isRef_rf _) ?_
  refine xr_getfield (ci := 1) (T := TX3) (N := 1) (i := 0) (by assumption) rfl (by decide) in_X3 q182 (.inl rfl) dX3_has_3 (by rfl) ?_
  refine xr_callV (n9 := 0) (rc' := 0) (rs' := 0) (k_AL_size hG hA) hol rfl q297 q298 q299 q91 q300 (by decide +kernel) rfl ⟨by decide, Nat.le_of_ble_eq_true rfl⟩ ⟨Nat.le_of_ble_eq_true rfl, Nat.le_of_ble_eq_true rfl⟩ (Nat.le_of_ble_eq_true rfl) dX3_has_6 rfl (xk_r ?_) (fun _ _ _ h => h.elim)
  refine xr_iconst dX3_has_9 ?_
  refine xr_isub dX3_has_10 ?_
  refine xr_callSN (n9 := 3) (rc' := 0) (rs' := 0) (k_isBetween hG (by omega)) q1196 q707 q86 q708 (by decide +kernel) rfl ⟨by decide, Nat.le_of_ble_eq_true rfl⟩ ⟨Nat.le_of_ble_eq_true rfl, Nat.le_of_ble_eq_true rfl⟩ (Nat.le_of_ble_eq_true rfl) dX3_has_11 rfl (xk_r ?_) (fun _ _ _ h => h.elim)
  refine xr_ireturn rfl (by first | rfl | exact nar_bI _ | decide +kernel) dX3_has_14 ?_
  rw [hpo]
  exact ⟨by rw [decide_eq_decide.mpr (show (0 ≤ i ∧ i < n) ↔ (0 ≤ i ∧ i ≤ n - 1) by omega)], rfl⟩
theorem k_Reg_get {g : GG} {w : WW} {r l arr : Nat} {n : Int} {f : Int → Option Nat} {i : Int} {v ci : Nat} {fs : List Value} {qc : vw_C} (hG : Base g) (hr : Ob w r 1 [.ref l]) (hA : AL g w l arr n f) (hi : 0 ≤ i ∧ i < n) (hfv : f i = some v) (hv : Ob w v ci fs) (hq : vwCl[ci]? = some qc) (hcast : Cond.castable qc.1 "BenchBroker$Item" ∈ lw_tbl) : Ct g yX3_get (.code yX3_get cX3_get 2 (some ((.object "BenchBroker$Item")))) 3 64 0 0 w [.ref r, .int (iI i)] (fun r_ w1 => r_ = some (.ref v) ∧ w1 = w) xF := by
  refine Ct.of (lv := [some _, some _]) hG (by decide +kernel) (Nat.le_of_ble_eq_true rfl) rfl ?_
  intro z hg hpo hxp hnm htab
  subst hg
  obtain ⟨mm, hol⟩ := hA.ob
  refine xr_aload_n dX3_get_0 rfl (by first | rfl | exact isRef_rf _) ?_
  refine xr_getfield (ci := 1) (T := TX3) (N := 1) (i := 0) (by assumption) rfl (by decide) in_X3 q182 (.inl rfl) dX3_get_1 (by rfl) ?_
  refine xr_iload_n dX3_get_4 rfl ?_
  refine xr_callV (n9 := 1) (rc' := 0) (rs' := 0) (k_AL_get hG hA hi hfv) hol rfl q366 q367 q368 q91 q369 (by decide +kernel) rfl ⟨by decide, Nat.le_of_ble_eq_true rfl⟩ ⟨Nat.le_of_ble_eq_true rfl, Nat.le_of_ble_eq_true rfl⟩ (Nat.le_of_ble_eq_true rfl) dX3_get_5 rfl (xk_r ?_) (fun _ _ _ h => h.elim)
  refine xr_castY hv hq q380 hcast dX3_get_8 ?_
  first | refine xr_areturn rfl rfl dX3_get_11 ?_ | refine xr_areturnN rfl rfl dX3_get_11 ?_
  rw [hpo]
  first | exact ⟨rfl, rfl⟩ | exact rfl
theorem k_Reg_add {g : GG} {w : WW} {r l arr : Nat} {n : Int} {f : Int → Option Nat} {v ci : Nat} {fs : List Value} {qc : vw_C} (hG : Base g) (hK : KL g) (hr : Ob w r 1 [.ref l]) (hA : AL g w l arr n f) (hn10 : n < 10) (hv : Ob w v ci fs) (hq : vwCl[ci]? = some qc) (hcast : Cond.castable qc.1 "java/lang/Object" ∈ lw_tbl) (hka : ci ≠ 2) : Ct g yX3_add (.code yX3_add cX3_add 2 none) 5 108 1 10 w [.ref r, .ref v] (fun rr w1 => rr = none ∧ ∃ arr' : Nat, AL g w1 l arr' (n + 1) (updR f n (some v)) ∧ Fr (fun b => b = l ∨ (b = arr ∧ gb g ≤ b)) w w1 ∧ (arr' = arr ∨ w.2 ≤ arr')) xF := by
  refine Ct.of (lv := [some _, some _]) hG (by decide +kernel) (Nat.le_of_ble_eq_true rfl) rfl ?_
  intro z hg hpo hxp hnm htab
  subst hg
  obtain ⟨mm, hol⟩ := hA.ob
  refine xr_aload_n dX3_add_0 rfl (by first | rfl | exact isRef_rf _) ?_
  refine xr_getfield (ci := 1) (T := TX3) (N := 1) (i := 0) (by assumption) rfl (by decide) in_X3 q182 (.inl rfl) dX3_add_1 (by rfl) ?_
  refine xr_aload_n dX3_add_4 rfl (by first | rfl | exact isRef_rf _) ?_
  refine xr_callV (n9 := 1) (rc' := 0) (rs' := 0) (k_AL_add hG hK hA hn10 hv hq hcast hka) hol rfl q767 q768 q769 q91 q770 (by decide +kernel) rfl ⟨by decide, Nat.le_of_ble_eq_true rfl⟩ ⟨Nat.le_of_ble_eq_true rfl, Nat.le_of_ble_eq_true rfl⟩ (Nat.le_of_ble_eq_true rfl) dX3_add_5 rfl (fun r w5 hw => ?_) (fun _ _ _ h => h.elim)
  obtain ⟨rfl, hw2⟩ := hw
  show XJ _ _ _ _ _ _ _ _ _ _ _ _ [_]
  refine xr_pop dX3_add_8 (by first | rfl | exact cat_rf _) ?_
  refine xr_return rfl dX3_add_9 ?_
  rw [hpo]
  exact ⟨rfl, hw2⟩
theorem k_Reg_init {g : GG} {w : WW} {a : Nat} (f : Int → Option Nat) (hG : Base g) (hK : KL g) (ho : Ob w a 1 [.null]) : Ct g yX3_init (.code yX3_init cX3_init 1 none) 4 72 1 3 w [.ref a] (fun rr w1 => rr = none ∧ ∃ l : Nat, Ob w1 a 1 [.ref l] ∧ AL g w1 l (gC g 0) 0 f ∧ w.2 ≤ l ∧ Fr (fun b => b = a) w w1) xF := by
  refine Ct.of (lv := [some _]) hG (by decide +kernel) (Nat.le_of_ble_eq_true rfl) rfl ?_
  intro z hg hpo hxp hnm htab
  subst hg
  refine xr_aload_n dX3_init_0 rfl (by first | rfl | exact isRef_rf _) ?_
  refine xr_objInit q152 q139 q140 (by decide) (Nat.le_of_ble_eq_true rfl) dX3_init_1 ?_
  refine xr_aload_n dX3_init_4 rfl (by first | rfl | exact isRef_rf _) ?_
  refine xr_new (ci := 2) (T := TJ2) (N := 3) (n9 := 3) (fs := [.int (iI 0), .null, .int (iI 0)]) (rc' := 0) (rs' := 0) rfl in_J2 tyJ2 tyJ2_ok q153 q154 q91 (by intro j hj; rcases (show j = 0 ∨ j = 1 ∨ j = 2 by omega) with rfl | rfl | rfl <;> rfl) ⟨Nat.le_of_ble_eq_true rfl, Nat.le_of_ble_eq_true rfl⟩ dX3_init_5 (fun a5 ga5 hob5 => ?_)
  have hmn5 := Mo.new ga5 ga5 (.inl (.inr (2, [.int (iI 0), .null, .int (iI 0)])))
  have ho5 := ho.new_ne ga5 (.inl (.inr (2, [.int (iI 0), .null, .int (iI 0)])))
  refine xr_dup dX3_init_8 (by first | rfl | exact cat_rf _) ?_
  refine xr_callI (n9 := 0) (rc' := 0) (rs' := 0) (k_AL_init f hG hK hob5) q155 q156 q91 q157 rfl (by decide +kernel) rfl ⟨by decide, Nat.le_of_ble_eq_true rfl⟩ ⟨Nat.le_of_ble_eq_true rfl, Nat.le_of_ble_eq_true rfl⟩ (Nat.le_of_ble_eq_true rfl) dX3_init_9 rfl (fun r w9 hw => ?_) (fun _ _ _ h => h.elim)
  obtain ⟨rfl, hA, hfr⟩ := hw
  have ho9 := ho5.fr hfr (fun q => Ob.apart ho5 hob5 (by decide) q)
  refine xr_putfieldF (ci := 1) (T := TX3) (N := 1) (i := 0) (fs' := [_]) ho9 rfl (by decide) in_X3 tyX3 tyX3_ok nmX3 q182 (.inl rfl) rfl rfl hnm dX3_init_12 (by first | rfl | exact nar_bI _ | exact nar_rf _) (by first | rfl | exact fit_bI _ | exact fit_rf _ _) (by simp) (by rfl) (.inl rfl) (fun hob12 => ?_)
  have hA2 := hA.put_k ho9 (by decide) (.inl (.inr (1, [.ref a5])))
  refine xr_return rfl dX3_init_15 ?_
  rw [hpo]
  exact ⟨rfl, a5, hob12, hA2, ga5, ((Fr.new ga5 _).tr (hfr.to (S' := fun b => b = a ∨ b = a5) (fun b _ q => Or.inr q)) (fun b hb q => by rcases q with q | q; exact q; omega)).tr (Fr.put1 _) (fun b _ q => q)⟩
