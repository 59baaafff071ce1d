/-! 36.parkfree.lean.txt (written by tools/walker.py)  -/
set_option maxRecDepth 100000
/-- who stands in a cell: a bench, 10 and a fountain, or -1 -/
def holder (P : Int → Int) (r c : Int) : Int := if benchIn P r c ≠ -1 then benchIn P r c else if fountIn P r c ≠ -1 then 10 + fountIn P r c else -1
theorem benchIn_bd {P : Int → Int} {r c : Int} : -1 ≤ benchIn P r c ∧ (benchIn P r c = -1 ∨ benchIn P r c < P 0) := by
  rcases fstR_spec (p := fun b => decide (dist (P (10 + 6 * b)) (P (11 + 6 * b)) r c = 0)) (k := 0) (n := P 0) (by decide) with ⟨h, -⟩ | ⟨h1, h2, -⟩ <;> unfold benchIn <;> omega
theorem fountIn_bd {P : Int → Int} {r c : Int} : -1 ≤ fountIn P r c ∧ (fountIn P r c = -1 ∨ fountIn P r c < P 1) := by
  rcases fstR_spec (p := fun b => decide (dist (P (70 + 4 * b)) (P (71 + 4 * b)) r c = 0)) (k := 0) (n := P 1) (by decide) with ⟨h, -⟩ | ⟨h1, h2, -⟩ <;> unfold fountIn <;> omega
theorem k_indexAt_B {g : GG} {w : WW} {n0 : Nat → Prop} {q : Nat} {L : Int → Nat} {P : Int → Int} {N : Int} {x y : Int} (hG : Base g) (hK : PK g w n0 q L P) (hB : PB P N) (hr : sm x ∧ sm y) : Ct g yX1_indexAt (.code yX1_indexAt cX1_indexAt 5 (some .int)) 4 85 0 0 w [.ref (L 0), .int (iI x), .int (iI y)] (fun r_ w1 => r_ = some (.int (iI (benchIn P x y))) ∧ w1 = w) xF := by
  refine Ct.of (lv := [some _, some _, some _, none, none]) hG (by decide +kernel) (Nat.le_of_ble_eq_true rfl) rfl ?_
  intro z hg hpo hxp hnm htab
  subst hg
  have hgg := hB.g
  refine xr_iconst dX1_indexAt_0 ?_
  refine xr_istore_n (lv' := [some _, some _, some _, some _, none]) dX1_indexAt_1 (by decide) rfl rfl ?_
  refine xr_lv (lvw_s (lvw_s (lvw_s (lvw_s (lvw_n (lvw_nil)))))) ?_
  have lp2 : ∀ (fu2 : Nat) (k : Int), 0 ≤ k → k ≤ P 0 → P 0 - k < fu2 → fstR (fun b => decide (dist (P (10 + 6 * b)) (P (11 + 6 * b)) x y = 0)) k (P 0) = benchIn P x y → XJ z yX1_indexAt.cls cX1_indexAt 5 (some .int) 4 85 w (0 * fu2 + 0) (0 * fu2 + 0) 2 [some (.ref (L 0)), some (.int (iI x)), some (.int (iI y)), some (.int (iI k)), none] [] := by
    intro fu2
    induction fu2 with
    | zero =>
      intro k hk0 hkn hfu hac
      omega
    | succ fu2 ih2 =>
      intro k hk0 hkn hfu hac
      refine xr_iload_n dX1_indexAt_2 rfl ?_
      refine xr_aload_n dX1_indexAt_3 rfl (by first | rfl | exact isRef_rf _) ?_
      refine xr_callV (n9 := 0) (rc' := 0 * fu2 + 0) (rs' := 0 * fu2 + 0) (k_Reg_size hG hK.r0 hK.l0) hK.r0 rfl q293 q294 q295 q88 q296 (by decide +kernel) rfl ⟨by decide, Nat.le_of_ble_eq_true rfl⟩ ⟨by omega, by omega⟩ (Nat.le_of_ble_eq_true rfl) dX1_indexAt_4 rfl (xk_r ?_) (fun _ _ _ h => h.elim)
      refine xr_icmp_ge (tgt := 42) dX1_indexAt_7 (by decide) (by omega) (fun c7 => ?_) (fun c7 => ?_)
      · skip
        refine xr_iconst dX1_indexAt_42 ?_
        refine xr_ireturn rfl rfl dX1_indexAt_43 ?_
        rw [hpo]
        exact ⟨by rw [← hac, fstR_ge (by omega)], rfl⟩
      · skip
        have hbb := hB.b (b := k) (by omega)
        refine xr_aload_n dX1_indexAt_10 rfl (by first | rfl | exact isRef_rf _) ?_
        refine xr_iload_n dX1_indexAt_11 rfl ?_
        refine xr_callV (n9 := 1) (rc' := 0 * fu2 + 0) (rs' := 0 * fu2 + 0) (k_Reg_get hG hK.r0 hK.l0 ⟨hk0, by omega⟩ rfl (hK.be k hk0 (by omega)) rfl q2757) hK.r0 rfl q1072 q474 q475 q88 q476 (by decide +kernel) rfl ⟨by decide, Nat.le_of_ble_eq_true rfl⟩ ⟨by omega, by omega⟩ (Nat.le_of_ble_eq_true rfl) dX1_indexAt_12 rfl (xk_r ?_) (fun _ _ _ h => h.elim)
        refine xr_castY (hK.be k hk0 (by omega)) rfl q1073 q2760 dX1_indexAt_15 ?_
        refine xr_astore (lv' := [some _, some _, some _, some _, some _]) dX1_indexAt_18 (by decide) rfl (by first | rfl | exact isRef_rf _) rfl ?_
        refine xr_aload dX1_indexAt_20 rfl (by first | rfl | exact isRef_rf _) ?_
        refine xr_iload_n dX1_indexAt_22 rfl ?_
        refine xr_iload_n dX1_indexAt_23 rfl ?_
        refine xr_callV (n9 := 2) (rc' := 0 * fu2 + 0) (rs' := 0 * fu2 + 0) (k_distanceTo_B hG (hK.be k hk0 (by omega)) ⟨⟨by omega, by omega⟩, hr⟩) (hK.be k hk0 (by omega)) rfl q1074 q354 q2737 q108 q355 (by decide +kernel) rfl ⟨by decide, Nat.le_of_ble_eq_true rfl⟩ ⟨by omega, by omega⟩ (Nat.le_of_ble_eq_true rfl) dX1_indexAt_24 rfl (xk_r ?_) (fun _ _ _ h => h.elim)
        refine xr_if_ne (tgt := 36) dX1_indexAt_27 (by decide) (by simp only [dist]; omega) (fun c27 => ?_) (fun c27 => ?_)
        · skip
          refine xr_iinc (lv' := [some _, some _, some _, some _, some _]) dX1_indexAt_36 rfl (by decide) rfl rfl ?_
          refine xr_goto (tgt := 2) dX1_indexAt_39 (by decide) ?_
          refine xr_lv (lvw_s (lvw_s (lvw_s (lvw_s (lvw_n (lvw_nil)))))) ?_
          refine xr_wk (rc' := 0 * fu2 + 0) (rs' := 0 * fu2 + 0) ⟨by omega, by omega⟩ (ih2 _ (by omega) (by omega) (by omega) (by rw [← hac, fstR_lt (show k < P 0 by omega), if_neg (fun q => c27 (of_decide_eq_true q))]))
        · skip
          refine xr_aload dX1_indexAt_30 rfl (by first | rfl | exact isRef_rf _) ?_
          refine xr_callVU (n9 := 0) (rc' := 0 * fu2 + 0) (rs' := 0 * fu2 + 0) (k_index_B hG (hK.be k hk0 (by omega))) (hK.be k hk0 (by omega)) rfl q1075 q1076 rfl q804 q1077 q107 q805 (by decide +kernel) rfl ⟨by decide, Nat.le_of_ble_eq_true rfl⟩ ⟨by omega, by omega⟩ (Nat.le_of_ble_eq_true rfl) dX1_indexAt_32 rfl (xk_r ?_) (fun _ _ _ h => h.elim)
          refine xr_ireturn rfl rfl dX1_indexAt_35 ?_
          rw [hpo]
          exact ⟨by rw [← hac, fstR_lt (show k < P 0 by omega), if_pos (decide_eq_true c27)], rfl⟩
  refine xr_wk (rc' := 0 * 11 + 0) (rs' := 0 * 11 + 0) ⟨by omega, by omega⟩ (lp2 11 _ (by omega) (by omega) (by omega) rfl)
theorem k_indexAt_F {g : GG} {w : WW} {n0 : Nat → Prop} {q : Nat} {L : Int → Nat} {P : Int → Int} {N : Int} {x y : Int} (hG : Base g) (hK : PK g w n0 q L P) (hB : PB P N) (hr : sm x ∧ sm y) : Ct g yX1_indexAt (.code yX1_indexAt cX1_indexAt 5 (some .int)) 4 85 0 0 w [.ref (L 1), .int (iI x), .int (iI y)] (fun r_ w1 => r_ = some (.int (iI (fountIn P x y))) ∧ w1 = w) xF := by
  refine Ct.of (lv := [some _, some _, some _, none, none]) hG (by decide +kernel) (Nat.le_of_ble_eq_true rfl) rfl ?_
  intro z hg hpo hxp hnm htab
  subst hg
  have hgg := hB.g
  refine xr_iconst dX1_indexAt_0 ?_
  refine xr_istore_n (lv' := [some _, some _, some _, some _, none]) dX1_indexAt_1 (by decide) rfl rfl ?_
  refine xr_lv (lvw_s (lvw_s (lvw_s (lvw_s (lvw_n (lvw_nil)))))) ?_
  have lp2 : ∀ (fu2 : Nat) (k : Int), 0 ≤ k → k ≤ P 1 → P 1 - k < fu2 → fstR (fun b => decide (dist (P (70 + 4 * b)) (P (71 + 4 * b)) x y = 0)) k (P 1) = fountIn P x y → XJ z yX1_indexAt.cls cX1_indexAt 5 (some .int) 4 85 w (0 * fu2 + 0) (0 * fu2 + 0) 2 [some (.ref (L 1)), some (.int (iI x)), some (.int (iI y)), some (.int (iI k)), none] [] := by
    intro fu2
    induction fu2 with
    | zero =>
      intro k hk0 hkn hfu hac
      omega
    | succ fu2 ih2 =>
      intro k hk0 hkn hfu hac
      refine xr_iload_n dX1_indexAt_2 rfl ?_
      refine xr_aload_n dX1_indexAt_3 rfl (by first | rfl | exact isRef_rf _) ?_
      refine xr_callV (n9 := 0) (rc' := 0 * fu2 + 0) (rs' := 0 * fu2 + 0) (k_Reg_size hG hK.r1 hK.l1) hK.r1 rfl q293 q294 q295 q88 q296 (by decide +kernel) rfl ⟨by decide, Nat.le_of_ble_eq_true rfl⟩ ⟨by omega, by omega⟩ (Nat.le_of_ble_eq_true rfl) dX1_indexAt_4 rfl (xk_r ?_) (fun _ _ _ h => h.elim)
      refine xr_icmp_ge (tgt := 42) dX1_indexAt_7 (by decide) (by omega) (fun c7 => ?_) (fun c7 => ?_)
      · skip
        refine xr_iconst dX1_indexAt_42 ?_
        refine xr_ireturn rfl rfl dX1_indexAt_43 ?_
        rw [hpo]
        exact ⟨by rw [← hac, fstR_ge (by omega)], rfl⟩
      · skip
        have hbb := hB.f (f := k) (by omega)
        refine xr_aload_n dX1_indexAt_10 rfl (by first | rfl | exact isRef_rf _) ?_
        refine xr_iload_n dX1_indexAt_11 rfl ?_
        refine xr_callV (n9 := 1) (rc' := 0 * fu2 + 0) (rs' := 0 * fu2 + 0) (k_Reg_get hG hK.r1 hK.l1 ⟨hk0, by omega⟩ rfl (hK.fo k hk0 (by omega)) rfl q2758) hK.r1 rfl q1072 q474 q475 q88 q476 (by decide +kernel) rfl ⟨by decide, Nat.le_of_ble_eq_true rfl⟩ ⟨by omega, by omega⟩ (Nat.le_of_ble_eq_true rfl) dX1_indexAt_12 rfl (xk_r ?_) (fun _ _ _ h => h.elim)
        refine xr_castY (hK.fo k hk0 (by omega)) rfl q1073 q2761 dX1_indexAt_15 ?_
        refine xr_astore (lv' := [some _, some _, some _, some _, some _]) dX1_indexAt_18 (by decide) rfl (by first | rfl | exact isRef_rf _) rfl ?_
        refine xr_aload dX1_indexAt_20 rfl (by first | rfl | exact isRef_rf _) ?_
        refine xr_iload_n dX1_indexAt_22 rfl ?_
        refine xr_iload_n dX1_indexAt_23 rfl ?_
        refine xr_callV (n9 := 2) (rc' := 0 * fu2 + 0) (rs' := 0 * fu2 + 0) (k_distanceTo_F hG (hK.fo k hk0 (by omega)) ⟨⟨by omega, by omega⟩, hr⟩) (hK.fo k hk0 (by omega)) rfl q1074 q354 q2738 q108 q355 (by decide +kernel) rfl ⟨by decide, Nat.le_of_ble_eq_true rfl⟩ ⟨by omega, by omega⟩ (Nat.le_of_ble_eq_true rfl) dX1_indexAt_24 rfl (xk_r ?_) (fun _ _ _ h => h.elim)
        refine xr_if_ne (tgt := 36) dX1_indexAt_27 (by decide) (by simp only [dist]; omega) (fun c27 => ?_) (fun c27 => ?_)
        · skip
          refine xr_iinc (lv' := [some _, some _, some _, some _, some _]) dX1_indexAt_36 rfl (by decide) rfl rfl ?_
          refine xr_goto (tgt := 2) dX1_indexAt_39 (by decide) ?_
          refine xr_lv (lvw_s (lvw_s (lvw_s (lvw_s (lvw_n (lvw_nil)))))) ?_
          refine xr_wk (rc' := 0 * fu2 + 0) (rs' := 0 * fu2 + 0) ⟨by omega, by omega⟩ (ih2 _ (by omega) (by omega) (by omega) (by rw [← hac, fstR_lt (show k < P 1 by omega), if_neg (fun q => c27 (of_decide_eq_true q))]))
        · skip
          refine xr_aload dX1_indexAt_30 rfl (by first | rfl | exact isRef_rf _) ?_
          refine xr_callVU (n9 := 0) (rc' := 0 * fu2 + 0) (rs' := 0 * fu2 + 0) (k_index_F hG (hK.fo k hk0 (by omega))) (hK.fo k hk0 (by omega)) rfl q1075 q1076 rfl q804 q1078 q107 q805 (by decide +kernel) rfl ⟨by decide, Nat.le_of_ble_eq_true rfl⟩ ⟨by omega, by omega⟩ (Nat.le_of_ble_eq_true rfl) dX1_indexAt_32 rfl (xk_r ?_) (fun _ _ _ h => h.elim)
          refine xr_ireturn rfl rfl dX1_indexAt_35 ?_
          rw [hpo]
          exact ⟨by rw [← hac, fstR_lt (show k < P 1 by omega), if_pos (decide_eq_true c27)], rfl⟩
  refine xr_wk (rc' := 0 * 11 + 0) (rs' := 0 * 11 + 0) ⟨by omega, by omega⟩ (lp2 11 _ (by omega) (by omega) (by omega) rfl)
theorem k_requireFree {g : GG} {w : WW} {n0 : Nat → Prop} {q : Nat} {L : Int → Nat} {P : Int → Int} {N : Int} {x y : Int} (hG : Base g) (hK : PK g w n0 q L P) (hB : PB P N) (hr : sm x ∧ sm y) : Ct g yX2_requireFree (.code yX2_requireFree cX2_requireFree 5 none) 7 121 2 18 w [.ref q, .int (iI x), .int (iI y)] (fun r_ w1 => holder P x y = -1 ∧ r_ = none ∧ w1 = w) (fun E a9 w1 => E = "BenchBroker$Rejection" ∧ (holder P x y ≠ -1 ∧ Ob w1 a9 6 [.int (iI 4), .int (iI (holder P x y)), .int (iI 0)]) ∧ Mo w.2 w w1 ∧ w.2 ≤ a9) := by
  refine Ct.of (lv := [some _, some _, some _, none, none]) hG (by decide +kernel) (Nat.le_of_ble_eq_true rfl) rfl ?_
  intro z hg hpo hxp hnm htab
  subst hg
  have hgg := hB.g
  have b1 := benchIn_bd (P := P) (r := x) (c := y)
  have b2 := fountIn_bd (P := P) (r := x) (c := y)
  refine xr_aload_n dX2_requireFree_0 rfl (by first | rfl | exact isRef_rf _) ?_
  refine xr_getfield (ci := 0) (T := TX2) (N := 10) (i := 0) hK.hq rfl (by decide) in_X2 q186 (.inl rfl) dX2_requireFree_1 (by rfl) ?_
  refine xr_iload_n dX2_requireFree_4 rfl ?_
  refine xr_iload_n dX2_requireFree_5 rfl ?_
  refine xr_callSN (n9 := 3) (rc' := 2) (rs' := 18) (k_indexAt_B hG hK hB hr) q1069 q1070 q86 q1071 (by decide +kernel) rfl ⟨by decide, Nat.le_of_ble_eq_true rfl⟩ ⟨Nat.le_of_ble_eq_true rfl, Nat.le_of_ble_eq_true rfl⟩ (Nat.le_of_ble_eq_true rfl) dX2_requireFree_6 rfl (xk_r ?_) (fun _ _ _ h => h.elim)
  refine xr_istore_n (lv' := [some _, some _, some _, some _, none]) dX2_requireFree_9 (by decide) rfl rfl ?_
  refine xr_aload_n dX2_requireFree_10 rfl (by first | rfl | exact isRef_rf _) ?_
  refine xr_getfield (ci := 0) (T := TX2) (N := 10) (i := 1) hK.hq rfl (by decide) in_X2 q189 (.inl rfl) dX2_requireFree_11 (by rfl) ?_
  refine xr_iload_n dX2_requireFree_14 rfl ?_
  refine xr_iload_n dX2_requireFree_15 rfl ?_
  refine xr_callSN (n9 := 3) (rc' := 2) (rs' := 18) (k_indexAt_F hG hK hB hr) q1069 q1070 q86 q1071 (by decide +kernel) rfl ⟨by decide, Nat.le_of_ble_eq_true rfl⟩ ⟨Nat.le_of_ble_eq_true rfl, Nat.le_of_ble_eq_true rfl⟩ (Nat.le_of_ble_eq_true rfl) dX2_requireFree_16 rfl (xk_r ?_) (fun _ _ _ h => h.elim)
  refine xr_istore (lv' := [some _, some _, some _, some _, some _]) dX2_requireFree_19 (by decide) rfl rfl ?_
  refine xr_iload_n dX2_requireFree_21 rfl ?_
  refine xr_iconst dX2_requireFree_22 ?_
  refine xr_icmp_eq (tgt := 30) dX2_requireFree_23 (by decide) (by omega) (fun c23 => ?_) (fun c23 => ?_)
  · skip
    refine xr_iconst dX2_requireFree_30 ?_
    refine xr_iconst dX2_requireFree_31 ?_
    refine xr_iload_n dX2_requireFree_32 rfl ?_
    refine xr_callSN (n9 := 3) (rc' := 1) (rs' := 9) (k_rejectIf (b := false) hG) q1033 q1034 q86 q1035 (by decide +kernel) rfl ⟨by decide, Nat.le_of_ble_eq_true rfl⟩ ⟨Nat.le_of_ble_eq_true rfl, Nat.le_of_ble_eq_true rfl⟩ (Nat.le_of_ble_eq_true rfl) dX2_requireFree_33 rfl (xk_req2 (fun _ => ?_)) (fun _ _ _ h9 => nomatch h9.1)
    refine xr_iload dX2_requireFree_36 rfl ?_
    refine xr_iconst dX2_requireFree_38 ?_
    refine xr_icmp_eq (tgt := 46) dX2_requireFree_39 (by decide) (by omega) (fun c39 => ?_) (fun c39 => ?_)
    · skip
      refine xr_iconst dX2_requireFree_46 ?_
      refine xr_iconst dX2_requireFree_47 ?_
      refine xr_bipush dX2_requireFree_48 (by decide) ?_
      refine xr_iload dX2_requireFree_50 rfl ?_
      refine xr_iadd dX2_requireFree_52 ?_
      refine xr_callSN (n9 := 3) (rc' := 0) (rs' := 0) (k_rejectIf (b := false) hG) q1033 q1034 q86 q1035 (by decide +kernel) rfl ⟨by decide, Nat.le_of_ble_eq_true rfl⟩ ⟨Nat.le_of_ble_eq_true rfl, Nat.le_of_ble_eq_true rfl⟩ (Nat.le_of_ble_eq_true rfl) dX2_requireFree_53 rfl (xk_req2 (fun _ => ?_)) (fun _ _ _ h9 => nomatch h9.1)
      refine xr_return rfl dX2_requireFree_56 ?_
      rw [hpo]
      exact ⟨by simp only [holder]; rw [if_neg (by omega), if_neg (by omega)], rfl, rfl⟩
    · skip
      refine xr_iconst dX2_requireFree_42 ?_
      refine xr_goto (tgt := 47) dX2_requireFree_43 (by decide) ?_
      refine xr_iconst dX2_requireFree_47 ?_
      refine xr_bipush dX2_requireFree_48 (by decide) ?_
      refine xr_iload dX2_requireFree_50 rfl ?_
      refine xr_iadd dX2_requireFree_52 ?_
      refine xr_callSN (n9 := 3) (rc' := 0) (rs' := 0) (k_rejectIf (b := true) hG) q1033 q1034 q86 q1035 (by decide +kernel) rfl ⟨by decide, Nat.le_of_ble_eq_true rfl⟩ ⟨Nat.le_of_ble_eq_true rfl, Nat.le_of_ble_eq_true rfl⟩ (Nat.le_of_ble_eq_true rfl) dX2_requireFree_53 rfl (xk_req2 (fun h9 => nomatch h9)) ?_
      rintro E q9 w9 ⟨hb9, rfl, ho9, hm9, hq9⟩
      exact xt_out (fun x hx => (htab x hx).elim) (by rw [hxp]; exact ⟨rfl, ⟨by simp only [holder]; rw [if_neg (by omega), if_pos (by omega)]; omega, by rw [show holder P x y = 10 + fountIn P x y by simp only [holder]; rw [if_neg (by omega), if_pos (by omega)]]; exact ho9⟩, hm9, hq9⟩)
  · skip
    refine xr_iconst dX2_requireFree_26 ?_
    refine xr_goto (tgt := 31) dX2_requireFree_27 (by decide) ?_
    refine xr_iconst dX2_requireFree_31 ?_
    refine xr_iload_n dX2_requireFree_32 rfl ?_
    refine xr_callSN (n9 := 3) (rc' := 1) (rs' := 9) (k_rejectIf (b := true) hG) q1033 q1034 q86 q1035 (by decide +kernel) rfl ⟨by decide, Nat.le_of_ble_eq_true rfl⟩ ⟨Nat.le_of_ble_eq_true rfl, Nat.le_of_ble_eq_true rfl⟩ (Nat.le_of_ble_eq_true rfl) dX2_requireFree_33 rfl (xk_req2 (fun h9 => nomatch h9)) ?_
    rintro E q9 w9 ⟨hb9, rfl, ho9, hm9, hq9⟩
    exact xt_out (fun x hx => (htab x hx).elim) (by rw [hxp]; exact ⟨rfl, ⟨by simp only [holder]; rw [if_pos (by omega)]; omega, by rw [show holder P x y = benchIn P x y from if_pos (by omega)]; exact ho9⟩, hm9, hq9⟩)
