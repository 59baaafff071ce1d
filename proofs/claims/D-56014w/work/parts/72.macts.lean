/-! 72.macts.lean.txt (written by tools/walker.py)  -/
set_option maxRecDepth 100000
theorem k_M_fails {g : GG} {w : WW} {m : Nat} {A : Int → Nat} {F P : Int → Int} {C : Int → Int → Int} {c : Int} (hG : Base g) (hM : MD g w m A F P C) : Ct g yX4_fails (.code yX4_fails cX4_fails 2 (some .int)) 0 0 0 0 w [.ref m, .int (iI c)] (fun r_ w1 => r_ = some (.int (iI (0))) ∧ MDF g w w1 m A (updI F 0 c) (P) (C)) xF := by
  refine Ct.of (lv := [some _, some _]) hG (by decide +kernel) (Nat.le_of_ble_eq_true rfl) rfl ?_
  intro z hg hpo hxp hnm htab
  subst hg
  have hM : MDF (zg z) w w m A F P C := ⟨hM, Fr.rf⟩
  refine xr_aload_n dX4_fails_0 rfl (by first | rfl | exact isRef_rf _) ?_
  refine xr_iload_n dX4_fails_1 rfl ?_
  refine xr_putfield (ci := 14) (T := TX4) (N := 23) (i := 0) (fs' := [_, _, _, _, _, _, _, _, _, _, _, _, _, _, _, _, _, _, _, _, _, _, _]) hM.1.1 rfl (by decide) in_X4 tyX4 tyX4_ok nmX4 q2191 (.inl rfl) rfl dX4_fails_2 (by rfl) (by rfl) (by simp) (by rfl) (.inl rfl) (fun _ => ?_)
  refine xr_mput (i := 0) hM (by rfl) (fun w2 hM => ?_)
  refine xr_iconst dX4_fails_5 ?_
  refine xr_ireturn rfl rfl dX4_fails_6 ?_
  rw [hpo]
  exact ⟨rfl, hM⟩
theorem k_M_done {g : GG} {w : WW} {m : Nat} {A : Int → Nat} {F P : Int → Int} {C : Int → Int → Int} {v : Int} (hG : Base g) (hM : MD g w m A F P C) : Ct g yX4_done (.code yX4_done cX4_done 2 (some .int)) 0 0 0 0 w [.ref m, .int (iI v)] (fun r_ w1 => r_ = some (.int (iI (0))) ∧ MDF g w w1 m A (updI F 18 v) (P) (C)) xF := by
  refine Ct.of (lv := [some _, some _]) hG (by decide +kernel) (Nat.le_of_ble_eq_true rfl) rfl ?_
  intro z hg hpo hxp hnm htab
  subst hg
  have hM : MDF (zg z) w w m A F P C := ⟨hM, Fr.rf⟩
  refine xr_aload_n dX4_done_0 rfl (by first | rfl | exact isRef_rf _) ?_
  refine xr_iload_n dX4_done_1 rfl ?_
  refine xr_putfield (ci := 14) (T := TX4) (N := 23) (i := 18) (fs' := [_, _, _, _, _, _, _, _, _, _, _, _, _, _, _, _, _, _, _, _, _, _, _]) hM.1.1 rfl (by decide) in_X4 tyX4 tyX4_ok nmX4 q2209 (.inl rfl) rfl dX4_done_2 (by rfl) (by rfl) (by simp) (by rfl) (.inl rfl) (fun _ => ?_)
  refine xr_mput (i := 18) hM (by rfl) (fun w2 hM => ?_)
  refine xr_iconst dX4_done_5 ?_
  refine xr_ireturn rfl rfl dX4_done_6 ?_
  rw [hpo]
  exact ⟨rfl, hM⟩
theorem k_M_rejected {g : GG} {w : WW} {m : Nat} {A : Int → Nat} {F P : Int → Int} {C : Int → Int → Int} {a b : Int} (hG : Base g) (hM : MD g w m A F P C) : Ct g yX4_rejected (.code yX4_rejected cX4_rejected 3 (some .int)) 0 0 0 0 w [.ref m, .int (iI a), .int (iI b)] (fun r_ w1 => r_ = some (.int (iI (a))) ∧ MDF g w w1 m A (updI F 17 b) (P) (C)) xF := by
  refine Ct.of (lv := [some _, some _, some _]) hG (by decide +kernel) (Nat.le_of_ble_eq_true rfl) rfl ?_
  intro z hg hpo hxp hnm htab
  subst hg
  have hM : MDF (zg z) w w m A F P C := ⟨hM, Fr.rf⟩
  refine xr_aload_n dX4_rejected_0 rfl (by first | rfl | exact isRef_rf _) ?_
  refine xr_iload_n dX4_rejected_1 rfl ?_
  refine xr_putfield (ci := 14) (T := TX4) (N := 23) (i := 17) (fs' := [_, _, _, _, _, _, _, _, _, _, _, _, _, _, _, _, _, _, _, _, _, _, _]) hM.1.1 rfl (by decide) in_X4 tyX4 tyX4_ok nmX4 q2208 (.inl rfl) rfl dX4_rejected_2 (by rfl) (by rfl) (by simp) (by rfl) (.inl rfl) (fun _ => ?_)
  refine xr_mput (i := 17) hM (by rfl) (fun w2 hM => ?_)
  refine xr_iload_n dX4_rejected_5 rfl ?_
  refine xr_ireturn rfl rfl dX4_rejected_6 ?_
  rw [hpo]
  exact ⟨rfl, hM⟩
theorem updC_at {C : Int → Int → Int} {j : Int} {f : Int → Int} : updC C j f j = f := if_pos rfl
theorem updC_ne {C : Int → Int → Int} {i j : Int} {f : Int → Int} (h : i ≠ j) : updC C j f i = C i := if_neg h
/-- the first k of an array are P's -/
def cpK (P Q : Int → Int) (k : Int) : Int → Int := fun j => if 0 ≤ j ∧ j < k then P j else Q j
theorem k_M_remembers {g : GG} {w : WW} {m : Nat} {A : Int → Nat} {F P : Int → Int} {C : Int → Int → Int} (hG : Base g) (hM : MD g w m A F P C) : Ct g yX4_remembers (.code yX4_remembers cX4_remembers 2 none) 0 0 0 0 w [.ref m] (fun r_ w1 => r_ = none ∧ MDF g w w1 m A (updI F 0 0) (P) (updC C 2 P)) xF := by
  refine Ct.of (lv := [some _, none]) hG (by decide +kernel) (Nat.le_of_ble_eq_true rfl) rfl ?_
  intro z hg hpo hxp hnm htab
  subst hg
  have hM : MDF (zg z) w w m A F P C := ⟨hM, Fr.rf⟩
  refine xr_aload_n dX4_remembers_0 rfl (by first | rfl | exact isRef_rf _) ?_
  refine xr_iconst dX4_remembers_1 ?_
  refine xr_putfield (ci := 14) (T := TX4) (N := 23) (i := 0) (fs' := [_, _, _, _, _, _, _, _, _, _, _, _, _, _, _, _, _, _, _, _, _, _, _]) hM.1.1 rfl (by decide) in_X4 tyX4 tyX4_ok nmX4 q2191 (.inl rfl) rfl dX4_remembers_2 (by rfl) (by rfl) (by simp) (by rfl) (.inl rfl) (fun _ => ?_)
  refine xr_mput (i := 0) hM (by rfl) (fun w2 hM => ?_)
  refine xr_iconst dX4_remembers_5 ?_
  refine xr_istore_n (lv' := [some _, some _]) dX4_remembers_6 (by decide) rfl rfl ?_
  have lp7 : ∀ (fu7 : Nat) (w9 : WW) (k : Int), 0 ≤ k → k ≤ 102 → 102 - k < fu7 → MDF (zg z) w w9 m A (updI F 0 0) P (updC C 2 (cpK P (C 2) k)) → XJ z yX4_remembers.cls cX4_remembers 2 none 0 0 w9 (0 * fu7 + 0) (0 * fu7 + 0) 7 [some (.ref m), some (.int (iI k))] [] := by
    intro fu7
    induction fu7 with
    | zero =>
      intro w9 k hk0 hk1 hfu hM
      omega
    | succ fu7 ih7 =>
      intro w9 k hk0 hk1 hfu hM
      refine xr_iload_n dX4_remembers_7 rfl ?_
      refine xr_bipush dX4_remembers_8 (by decide) ?_
      refine xr_icmp_ge (tgt := 31) dX4_remembers_10 (by decide) (by omega) (fun c10 => ?_) (fun c10 => ?_)
      · skip
        refine xr_return rfl dX4_remembers_31 ?_
        rw [hpo]
        exact ⟨rfl, hM.toC (fun j i h0 h1 => by
          by_cases hj : j = 2
          · subst hj
            have h2 : i < (102 : Nat) := h1
            rw [updC_at, updC_at]; unfold cpK; rw [if_pos (by omega)]
          · rw [updC_ne hj, updC_ne hj])⟩
      · skip
        refine xr_aload_n dX4_remembers_13 rfl (by first | rfl | exact isRef_rf _) ?_
        refine xr_getfield (ci := 14) (T := TX4) (N := 23) (i := 2) hM.1.1 rfl (by decide) in_X4 q2193 (.inl rfl) dX4_remembers_14 (by rfl) ?_
        refine xr_iload_n dX4_remembers_17 rfl ?_
        refine xr_aload_n dX4_remembers_18 rfl (by first | rfl | exact isRef_rf _) ?_
        refine xr_getfield (ci := 14) (T := TX4) (N := 23) (i := 1) hM.1.1 rfl (by decide) in_X4 q2192 (.inl rfl) dX4_remembers_19 (by rfl) ?_
        refine xr_iload_n dX4_remembers_22 rfl ?_
        refine xr_iaload hM.1.2.1 (by omega) (by decide) dX4_remembers_23 ?_
        refine xr_mstC (j := 2) hM (by decide) (show (0 : Int) ≤ _ ∧ _ < ((102 : Nat) : Int) from by omega) dX4_remembers_24 (fun w24 hM => ?_)
        refine xr_iinc (lv' := [some _, some _]) dX4_remembers_25 rfl (by decide) rfl rfl ?_
        refine xr_goto (tgt := 7) dX4_remembers_28 (by decide) ?_
        refine xr_wk (rc' := 0 * fu7 + 0) (rs' := 0 * fu7 + 0) ⟨by omega, by omega⟩ (ih7 w24 (k + 1) (by omega) (by omega) (by omega) (hM.toC (fun j i h0 h1 => by
    by_cases hj : j = 2
    · subst hj; simp only [updC_at, updI, cpK]
      by_cases e9 : i = k
      · rw [if_pos e9, if_pos (by omega), e9]
      · rw [if_neg e9]
        by_cases e8 : i < k
        · rw [if_pos (by omega), if_pos (by omega)]
        · rw [if_neg (by omega), if_neg (by omega)]
    · rw [updC_ne hj, updC_ne hj, updC_ne hj])))
  refine xr_wk (rc' := 0 * 103 + 0) (rs' := 0 * 103 + 0) ⟨by omega, by omega⟩ (lp7 103 w2 0 (by omega) (by omega) (by omega) (hM.toC (fun j i h0 h1 => by
    by_cases hj : j = 2
    · subst hj; rw [updC_at]; unfold cpK; rw [if_neg (by omega)]
    · rw [updC_ne hj])))
/-- why the other model says no: as the first one -/
theorem byT_eq {P : Int → Int} {N t : Int} (hB : PB P N) (hC : PCon P) (ht : 0 ≤ t ∧ t < P 2) : byT P t = P (102 + t) - 1 := by
  have htt := hB.t ht
  rcases fstR_spec (p := fun b => decide (P (13 + 6 * b) - 1 = t)) (k := 0) (n := P 0) (by decide) with ⟨h1, h2⟩ | ⟨h1, h2, h3, -⟩
  · show fstR _ 0 (P 0) = _
    rw [h1]
    by_cases h0 : P (102 + t) = 0
    · omega
    · have h4 := hC.2 t ht.1 ht.2 h0
      have h5 := h2 (P (102 + t) - 1) (by omega) (by omega)
      have h6 := of_decide_eq_false h5
      omega
  · have h4 := of_decide_eq_true h3
    have h5 := hC.1 _ h1 h2 (by omega)
    rw [h4] at h5
    show fstR _ 0 (P 0) = _
    omega
def MA (C1 C2 : Prop) (rj : Int × Int) (v : Int) (P P' F : Int → Int) (r : Int) (F1 P1 : Int → Int) : Prop :=
  (¬ C1 ∧ r = -1 ∧ F1 = F ∧ P1 = P) ∨ (C1 ∧ ¬ C2 ∧ r = -2 ∧ F1 = F ∧ P1 = P) ∨ (C1 ∧ C2 ∧ rj.1 ≠ 0 ∧ r = rj.1 ∧ F1 = updI F 17 rj.2 ∧ P1 = P) ∨ (C1 ∧ C2 ∧ rj.1 = 0 ∧ r = 0 ∧ F1 = updI F 18 v ∧ P1 = P')
theorem k_M_barred {g : GG} {w : WW} {m : Nat} {A : Int → Nat} {F P : Int → Int} {C : Int → Int → Int} {t b N : Int} (hG : Base g) (hM : MD g w m A F P C) (hB : PB P N) (hC : PCon P) (ht : 0 ≤ t ∧ t < P 2) (hb : 0 ≤ b ∧ b < P 0) : Ct g yX4_barred (.code yX4_barred cX4_barred 3 (some .int)) 4 91 0 0 w [.ref m, .int (iI t), .int (iI b)] (fun r_ w1 => r_ = some (.int (iI ((barred P t b).1))) ∧ MDF g w w1 m A (if (barred P t b).1 = 0 then F else updI F 17 (barred P t b).2) (P) (C)) xF := by
  refine Ct.of (lv := [some _, some _, some _]) hG (by decide +kernel) (Nat.le_of_ble_eq_true rfl) rfl ?_
  intro z hg hpo hxp hnm htab
  subst hg
  have hM : MDF (zg z) w w m A F P C := ⟨hM, Fr.rf⟩
  have hgg := hB.g
  have hbb := hB.b hb
  have htt := hB.t ht
  have hyt := byT_eq hB hC ht
  have hyb := byT_bd (P := P) (t := t)
  have hrr := rent_bd hB hb.1 hb.2
  have hnn : 0 ≤ noiseOf P b ∧ noiseOf P b ≤ 36 := noise_bd hB
  refine xr_aload_n dX4_barred_0 rfl (by first | rfl | exact isRef_rf _) ?_
  refine xr_iload_n dX4_barred_1 rfl ?_
  refine xr_iconst dX4_barred_2 ?_
  refine xr_callV (n9 := 2) (rc' := 0) (rs' := 0) (k_M_tenant_1 hG hM.1 (by omega)) hM.1.1 rfl q2459 q2461 qs62 q96 q2462 (by decide +kernel) rfl ⟨by decide, Nat.le_of_ble_eq_true rfl⟩ ⟨Nat.le_of_ble_eq_true rfl, Nat.le_of_ble_eq_true rfl⟩ (Nat.le_of_ble_eq_true rfl) dX4_barred_3 rfl (xk_r ?_) (fun _ _ _ h => h.elim)
  refine xr_iconst dX4_barred_6 ?_
  refine xr_icmp_ne (tgt := 17) dX4_barred_7 (by decide) (by omega) (fun c7 => ?_) (fun c7 => ?_)
  · skip
    refine xr_aload_n dX4_barred_17 rfl (by first | rfl | exact isRef_rf _) ?_
    refine xr_iload_n dX4_barred_18 rfl ?_
    refine xr_callV (n9 := 1) (rc' := 0) (rs' := 0) (k_M_benchBy hG hM.1 hB (by omega)) hM.1.1 rfl q2483 q2485 qs64 q96 q2486 (by decide +kernel) rfl ⟨by decide, Nat.le_of_ble_eq_true rfl⟩ ⟨Nat.le_of_ble_eq_true rfl, Nat.le_of_ble_eq_true rfl⟩ (Nat.le_of_ble_eq_true rfl) dX4_barred_19 rfl (xk_r ?_) (fun _ _ _ h => h.elim)
    refine xr_iconst dX4_barred_22 ?_
    refine xr_icmp_eq (tgt := 38) dX4_barred_23 (by decide) (by omega) (fun c23 => ?_) (fun c23 => ?_)
    · skip
      refine xr_aload_n dX4_barred_38 rfl (by first | rfl | exact isRef_rf _) ?_
      refine xr_iload_n dX4_barred_39 rfl ?_
      refine xr_callV (n9 := 1) (rc' := 0) (rs' := 0) (k_M_by hG hM.1 (by omega)) hM.1.1 rfl q2487 q2489 qs65 q96 q2490 (by decide +kernel) rfl ⟨by decide, Nat.le_of_ble_eq_true rfl⟩ ⟨Nat.le_of_ble_eq_true rfl, Nat.le_of_ble_eq_true rfl⟩ (Nat.le_of_ble_eq_true rfl) dX4_barred_40 rfl (xk_r ?_) (fun _ _ _ h => h.elim)
      refine xr_iconst dX4_barred_43 ?_
      refine xr_icmp_eq (tgt := 59) dX4_barred_44 (by decide) (by omega) (fun c44 => ?_) (fun c44 => ?_)
      · skip
        refine xr_aload_n dX4_barred_59 rfl (by first | rfl | exact isRef_rf _) ?_
        refine xr_iload_n dX4_barred_60 rfl ?_
        refine xr_callV (n9 := 1) (rc' := 0) (rs' := 0) (k_M_quiet hG hM.1 hB (by omega)) hM.1.1 rfl q2431 q2433 qs58 q96 q2434 (by decide +kernel) rfl ⟨by decide, Nat.le_of_ble_eq_true rfl⟩ ⟨Nat.le_of_ble_eq_true rfl, Nat.le_of_ble_eq_true rfl⟩ (Nat.le_of_ble_eq_true rfl) dX4_barred_61 rfl (xk_r ?_) (fun _ _ _ h => h.elim)
        refine xr_ifb_ne (tgt := 79) dX4_barred_64 (by decide) (fun c64 => ?_) (fun c64 => ?_)
        · skip
          try simp only [decide_eq_true_eq, decide_eq_false_iff_not] at c64
          refine xr_aload_n dX4_barred_79 rfl (by first | rfl | exact isRef_rf _) ?_
          refine xr_iload_n dX4_barred_80 rfl ?_
          refine xr_iconst dX4_barred_81 ?_
          refine xr_callV (n9 := 2) (rc' := 0) (rs' := 0) (k_M_tenant_0 hG hM.1 (by omega)) hM.1.1 rfl q2459 q2461 qs62 q96 q2462 (by decide +kernel) rfl ⟨by decide, Nat.le_of_ble_eq_true rfl⟩ ⟨Nat.le_of_ble_eq_true rfl, Nat.le_of_ble_eq_true rfl⟩ (Nat.le_of_ble_eq_true rfl) dX4_barred_82 rfl (xk_r ?_) (fun _ _ _ h => h.elim)
          refine xr_aload_n dX4_barred_85 rfl (by first | rfl | exact isRef_rf _) ?_
          refine xr_iload_n dX4_barred_86 rfl ?_
          refine xr_callV (n9 := 1) (rc' := 0) (rs' := 0) (k_M_rent hG hM.1 hB (by omega)) hM.1.1 rfl q2387 q2389 qs55 q96 q2390 (by decide +kernel) rfl ⟨by decide, Nat.le_of_ble_eq_true rfl⟩ ⟨Nat.le_of_ble_eq_true rfl, Nat.le_of_ble_eq_true rfl⟩ (Nat.le_of_ble_eq_true rfl) dX4_barred_87 rfl (xk_r ?_) (fun _ _ _ h => h.elim)
          refine xr_icmp_ge (tgt := 108) dX4_barred_90 (by decide) (by omega) (fun c90 => ?_) (fun c90 => ?_)
          · skip
            have e9 : barred P t b = (0, 0) := by unfold barred; rw [if_neg (by omega), if_neg (by omega), if_neg (by omega), if_neg (by omega), if_neg (by omega)]
            refine xr_iconst dX4_barred_108 ?_
            refine xr_ireturn rfl rfl dX4_barred_109 ?_
            rw [hpo]
            rw [e9]
            exact ⟨rfl, hM⟩
          · skip
            refine xr_aload_n dX4_barred_93 rfl (by first | rfl | exact isRef_rf _) ?_
            refine xr_bipush dX4_barred_94 (by decide) ?_
            refine xr_aload_n dX4_barred_96 rfl (by first | rfl | exact isRef_rf _) ?_
            refine xr_iload_n dX4_barred_97 rfl ?_
            refine xr_iconst dX4_barred_98 ?_
            refine xr_callV (n9 := 2) (rc' := 0) (rs' := 0) (k_M_tenant_0 hG hM.1 (by omega)) hM.1.1 rfl q2459 q2461 qs62 q96 q2462 (by decide +kernel) rfl ⟨by decide, Nat.le_of_ble_eq_true rfl⟩ ⟨Nat.le_of_ble_eq_true rfl, Nat.le_of_ble_eq_true rfl⟩ (Nat.le_of_ble_eq_true rfl) dX4_barred_99 rfl (xk_r ?_) (fun _ _ _ h => h.elim)
            refine xr_callV (n9 := 2) (rc' := 0) (rs' := 0) (k_M_rejected hG hM.1) hM.1.1 rfl q2283 q2285 qs39 q96 q2286 (by decide +kernel) rfl ⟨by decide, Nat.le_of_ble_eq_true rfl⟩ ⟨Nat.le_of_ble_eq_true rfl, Nat.le_of_ble_eq_true rfl⟩ (Nat.le_of_ble_eq_true rfl) dX4_barred_102 rfl (fun r w102 hw => ?_) (fun _ _ _ h => h.elim)
            obtain ⟨rfl, hw⟩ := hw
            have hM := hM.tr hw
            have e9 : barred P t b = (9, P (86 + 2 * t)) := by unfold barred; rw [if_neg (by omega), if_neg (by omega), if_neg (by omega), if_neg (by omega), if_pos (by omega)]
            refine xr_goto (tgt := 109) dX4_barred_105 (by decide) ?_
            refine xr_ireturn rfl rfl dX4_barred_109 ?_
            rw [hpo]
            rw [e9]
            exact ⟨rfl, hM⟩
        · skip
          try simp only [decide_eq_true_eq, decide_eq_false_iff_not] at c64
          refine xr_aload_n dX4_barred_67 rfl (by first | rfl | exact isRef_rf _) ?_
          refine xr_bipush dX4_barred_68 (by decide) ?_
          refine xr_aload_n dX4_barred_70 rfl (by first | rfl | exact isRef_rf _) ?_
          refine xr_iload_n dX4_barred_71 rfl ?_
          refine xr_callV (n9 := 1) (rc' := 0) (rs' := 0) (k_M_noiseOf hG hM.1 hB (by omega)) hM.1.1 rfl q2391 q2393 qs56 q96 q2394 (by decide +kernel) rfl ⟨by decide, Nat.le_of_ble_eq_true rfl⟩ ⟨Nat.le_of_ble_eq_true rfl, Nat.le_of_ble_eq_true rfl⟩ (Nat.le_of_ble_eq_true rfl) dX4_barred_72 rfl (xk_r ?_) (fun _ _ _ h => h.elim)
          refine xr_callV (n9 := 2) (rc' := 0) (rs' := 0) (k_M_rejected hG hM.1) hM.1.1 rfl q2283 q2285 qs39 q96 q2286 (by decide +kernel) rfl ⟨by decide, Nat.le_of_ble_eq_true rfl⟩ ⟨Nat.le_of_ble_eq_true rfl, Nat.le_of_ble_eq_true rfl⟩ (Nat.le_of_ble_eq_true rfl) dX4_barred_75 rfl (fun r w75 hw => ?_) (fun _ _ _ h => h.elim)
          obtain ⟨rfl, hw⟩ := hw
          have hM := hM.tr hw
          refine xr_ireturn rfl rfl dX4_barred_78 ?_
          rw [hpo]
          have e9 : barred P t b = (8, noiseOf P b) := by unfold barred; rw [if_neg (by omega), if_neg (by omega), if_neg (by omega), if_pos (by omega)]
          rw [e9]
          exact ⟨rfl, hM⟩
      · skip
        refine xr_aload_n dX4_barred_47 rfl (by first | rfl | exact isRef_rf _) ?_
        refine xr_bipush dX4_barred_48 (by decide) ?_
        refine xr_aload_n dX4_barred_50 rfl (by first | rfl | exact isRef_rf _) ?_
        refine xr_iload_n dX4_barred_51 rfl ?_
        refine xr_callV (n9 := 1) (rc' := 0) (rs' := 0) (k_M_by hG hM.1 (by omega)) hM.1.1 rfl q2487 q2489 qs65 q96 q2490 (by decide +kernel) rfl ⟨by decide, Nat.le_of_ble_eq_true rfl⟩ ⟨Nat.le_of_ble_eq_true rfl, Nat.le_of_ble_eq_true rfl⟩ (Nat.le_of_ble_eq_true rfl) dX4_barred_52 rfl (xk_r ?_) (fun _ _ _ h => h.elim)
        refine xr_callV (n9 := 2) (rc' := 0) (rs' := 0) (k_M_rejected hG hM.1) hM.1.1 rfl q2283 q2285 qs39 q96 q2286 (by decide +kernel) rfl ⟨by decide, Nat.le_of_ble_eq_true rfl⟩ ⟨Nat.le_of_ble_eq_true rfl, Nat.le_of_ble_eq_true rfl⟩ (Nat.le_of_ble_eq_true rfl) dX4_barred_55 rfl (fun r w55 hw => ?_) (fun _ _ _ h => h.elim)
        obtain ⟨rfl, hw⟩ := hw
        have hM := hM.tr hw
        refine xr_ireturn rfl rfl dX4_barred_58 ?_
        rw [hpo]
        have e9 : barred P t b = (7, P (13 + 6 * b) - 1) := by unfold barred; rw [if_neg (by omega), if_neg (by omega), if_pos (by omega)]
        rw [e9]
        exact ⟨rfl, hM⟩
    · skip
      refine xr_aload_n dX4_barred_26 rfl (by first | rfl | exact isRef_rf _) ?_
      refine xr_bipush dX4_barred_27 (by decide) ?_
      refine xr_aload_n dX4_barred_29 rfl (by first | rfl | exact isRef_rf _) ?_
      refine xr_iload_n dX4_barred_30 rfl ?_
      refine xr_callV (n9 := 1) (rc' := 0) (rs' := 0) (k_M_benchBy hG hM.1 hB (by omega)) hM.1.1 rfl q2483 q2485 qs64 q96 q2486 (by decide +kernel) rfl ⟨by decide, Nat.le_of_ble_eq_true rfl⟩ ⟨Nat.le_of_ble_eq_true rfl, Nat.le_of_ble_eq_true rfl⟩ (Nat.le_of_ble_eq_true rfl) dX4_barred_31 rfl (xk_r ?_) (fun _ _ _ h => h.elim)
      refine xr_callV (n9 := 2) (rc' := 0) (rs' := 0) (k_M_rejected hG hM.1) hM.1.1 rfl q2283 q2285 qs39 q96 q2286 (by decide +kernel) rfl ⟨by decide, Nat.le_of_ble_eq_true rfl⟩ ⟨Nat.le_of_ble_eq_true rfl, Nat.le_of_ble_eq_true rfl⟩ (Nat.le_of_ble_eq_true rfl) dX4_barred_34 rfl (fun r w34 hw => ?_) (fun _ _ _ h => h.elim)
      obtain ⟨rfl, hw⟩ := hw
      have hM := hM.tr hw
      refine xr_ireturn rfl rfl dX4_barred_37 ?_
      rw [hpo]
      have e9 : barred P t b = (6, byT P t) := by unfold barred; rw [if_neg (by omega), if_pos (by omega), hyt]
      rw [e9]
      exact ⟨rfl, hM⟩
  · skip
    refine xr_aload_n dX4_barred_10 rfl (by first | rfl | exact isRef_rf _) ?_
    refine xr_iconst dX4_barred_11 ?_
    refine xr_iload_n dX4_barred_12 rfl ?_
    refine xr_callV (n9 := 2) (rc' := 0) (rs' := 0) (k_M_rejected hG hM.1) hM.1.1 rfl q2283 q2285 qs39 q96 q2286 (by decide +kernel) rfl ⟨by decide, Nat.le_of_ble_eq_true rfl⟩ ⟨Nat.le_of_ble_eq_true rfl, Nat.le_of_ble_eq_true rfl⟩ (Nat.le_of_ble_eq_true rfl) dX4_barred_13 rfl (fun r w13 hw => ?_) (fun _ _ _ h => h.elim)
    obtain ⟨rfl, hw⟩ := hw
    have hM := hM.tr hw
    refine xr_ireturn rfl rfl dX4_barred_16 ?_
    rw [hpo]
    have e9 : barred P t b = (5, t) := by unfold barred; rw [if_pos (by omega)]
    rw [e9]
    exact ⟨rfl, hM⟩
def zrK (P : Int → Int) (b k : Int) : Int → Int := fun j => if 10 + 6 * b ≤ j ∧ j < 10 + 6 * b + k then 0 else P j
theorem k_M_addsBench {g : GG} {w : WW} {m : Nat} {A : Int → Nat} {F P : Int → Int} {C : Int → Int → Int} {a b v N : Int} (hG : Base g) (hM : MD g w m A F P C) (hB : PB P N)  (hr : (-2147483648 ≤ a ∧ a < 2147483648) ∧ (-2147483648 ≤ b ∧ b < 2147483648) ∧ (-2147483648 ≤ v ∧ v < 2147483648)) : Ct g yX4_addsBench (.code yX4_addsBench cX4_addsBench 6 (some .int)) 2 45 0 0 w [.ref m, .int (iI a), .int (iI b), .int (iI v)] (fun r_ w1 => ∃ (r : Int) (F1 P1 : Int → Int), r_ = some (.int (iI r)) ∧ MDF g w w1 m A F1 P1 C ∧ MA ((0 ≤ a ∧ a ≤ 5) ∧ (0 ≤ b ∧ b ≤ 5)) (1 ≤ v ∧ v ≤ 20) (rjBench P a b) (P 0) P (oBench P a b v) F r F1 P1) xF := by
  refine Ct.of (lv := [some _, some _, some _, some _, none, none]) hG (by decide +kernel) (Nat.le_of_ble_eq_true rfl) rfl ?_
  intro z hg hpo hxp hnm htab
  subst hg
  have hM : MDF (zg z) w w m A F P C := ⟨hM, Fr.rf⟩
  have hgg := hB.g
  have b1 := benchIn_bd (P := P) (r := a) (c := b)
  have b2 := fountIn_bd (P := P) (r := a) (c := b)
  have b3 : -1 ≤ holder P a b ∧ holder P a b ≤ 20 := by unfold holder; split; omega; split <;> omega
  refine xr_iload_n dX4_addsBench_0 rfl ?_
  refine xr_iload_n dX4_addsBench_1 rfl ?_
  refine xr_callS (n9 := 2) (rc' := 0) (rs' := 0) (k_M_isCell hG (by omega)) q2277 q2278 q96 q2279 (by decide +kernel) rfl ⟨by decide, Nat.le_of_ble_eq_true rfl⟩ ⟨Nat.le_of_ble_eq_true rfl, Nat.le_of_ble_eq_true rfl⟩ (Nat.le_of_ble_eq_true rfl) dX4_addsBench_2 rfl (xk_r ?_) (fun _ _ _ h => h.elim)
  refine xr_ifb_ne (tgt := 10) dX4_addsBench_5 (by decide) (fun c5 => ?_) (fun c5 => ?_)
  · skip
    try simp only [decide_eq_true_eq, decide_eq_false_iff_not] at c5
    refine xr_iload_n dX4_addsBench_10 rfl ?_
    refine xr_iconst dX4_addsBench_11 ?_
    refine xr_bipush dX4_addsBench_12 (by decide) ?_
    refine xr_callS (n9 := 3) (rc' := 0) (rs' := 0) (k_M_in hG (by omega)) q2280 q2281 q96 q2282 (by decide +kernel) rfl ⟨by decide, Nat.le_of_ble_eq_true rfl⟩ ⟨Nat.le_of_ble_eq_true rfl, Nat.le_of_ble_eq_true rfl⟩ (Nat.le_of_ble_eq_true rfl) dX4_addsBench_14 rfl (xk_r ?_) (fun _ _ _ h => h.elim)
    refine xr_ifb_ne (tgt := 23) dX4_addsBench_17 (by decide) (fun c17 => ?_) (fun c17 => ?_)
    · skip
      try simp only [decide_eq_true_eq, decide_eq_false_iff_not] at c17
      refine xr_aload_n dX4_addsBench_23 rfl (by first | rfl | exact isRef_rf _) ?_
      refine xr_getfield (ci := 14) (T := TX4) (N := 23) (i := 1) hM.1.1 rfl (by decide) in_X4 q2192 (.inl rfl) dX4_addsBench_24 (by rfl) ?_
      refine xr_iconst dX4_addsBench_27 ?_
      refine xr_iaload hM.1.2.1 (by omega) (by decide) dX4_addsBench_28 ?_
      refine xr_istore (lv' := [some _, some _, some _, some _, some _, none]) dX4_addsBench_29 (by decide) rfl rfl ?_
      refine xr_iload dX4_addsBench_31 rfl ?_
      refine xr_bipush dX4_addsBench_33 (by decide) ?_
      refine xr_icmp_ne (tgt := 46) dX4_addsBench_35 (by decide) (by omega) (fun c35 => ?_) (fun c35 => ?_)
      · skip
        refine xr_aload_n dX4_addsBench_46 rfl (by first | rfl | exact isRef_rf _) ?_
        refine xr_iload_n dX4_addsBench_47 rfl ?_
        refine xr_iload_n dX4_addsBench_48 rfl ?_
        refine xr_callV (n9 := 2) (rc' := 0) (rs' := 0) (k_M_holder hG hM.1 hB (by omega)) hM.1.1 rfl q2287 q2289 qs40 q96 q2290 (by decide +kernel) rfl ⟨by decide, Nat.le_of_ble_eq_true rfl⟩ ⟨Nat.le_of_ble_eq_true rfl, Nat.le_of_ble_eq_true rfl⟩ (Nat.le_of_ble_eq_true rfl) dX4_addsBench_49 rfl (xk_r ?_) (fun _ _ _ h => h.elim)
        refine xr_iconst dX4_addsBench_52 ?_
        refine xr_icmp_eq (tgt := 68) dX4_addsBench_53 (by decide) (by omega) (fun c53 => ?_) (fun c53 => ?_)
        · skip
          refine xr_iconst dX4_addsBench_68 ?_
          refine xr_istore (lv' := [some _, some _, some _, some _, some _, some _]) dX4_addsBench_69 (by decide) rfl rfl ?_
          have lp71 : ∀ (fu71 : Nat) (w9 : WW) (k : Int), 0 ≤ k → k ≤ 6 → 6 - k < fu71 → MDF (zg z) w w9 m A F (zrK P (P 0) k) C → XJ z yX4_addsBench.cls cX4_addsBench 6 (some .int) 2 45 w9 (0 * fu71 + 0) (0 * fu71 + 0) 71 [some (.ref m), some (.int (iI a)), some (.int (iI b)), some (.int (iI v)), some (.int (iI (P 0))), some (.int (iI k))] [] := by
            intro fu71
            induction fu71 with
            | zero =>
              intro w9 k hk0 hk1 hfu hM
              omega
            | succ fu71 ih71 =>
              intro w9 k hk0 hk1 hfu hM
              refine xr_iload dX4_addsBench_71 rfl ?_
              refine xr_bipush dX4_addsBench_73 (by decide) ?_
              refine xr_icmp_ge (tgt := 101) dX4_addsBench_75 (by decide) (by omega) (fun c75 => ?_) (fun c75 => ?_)
              · skip
                refine xr_aload_n dX4_addsBench_101 rfl (by first | rfl | exact isRef_rf _) ?_
                refine xr_getfield (ci := 14) (T := TX4) (N := 23) (i := 1) hM.1.1 rfl (by decide) in_X4 q2192 (.inl rfl) dX4_addsBench_102 (by rfl) ?_
                refine xr_bipush dX4_addsBench_105 (by decide) ?_
                refine xr_bipush dX4_addsBench_107 (by decide) ?_
                refine xr_iload dX4_addsBench_109 rfl ?_
                refine xr_imul dX4_addsBench_111 ?_
                refine xr_iadd dX4_addsBench_112 ?_
                refine xr_iconst dX4_addsBench_113 ?_
                refine xr_iadd dX4_addsBench_114 ?_
                refine xr_iload_n dX4_addsBench_115 rfl ?_
                refine xr_mstS hM (by omega) dX4_addsBench_116 (fun w116 hM => ?_)
                refine xr_aload_n dX4_addsBench_117 rfl (by first | rfl | exact isRef_rf _) ?_
                refine xr_getfield (ci := 14) (T := TX4) (N := 23) (i := 1) hM.1.1 rfl (by decide) in_X4 q2192 (.inl rfl) dX4_addsBench_118 (by rfl) ?_
                refine xr_bipush dX4_addsBench_121 (by decide) ?_
                refine xr_bipush dX4_addsBench_123 (by decide) ?_
                refine xr_iload dX4_addsBench_125 rfl ?_
                refine xr_imul dX4_addsBench_127 ?_
                refine xr_iadd dX4_addsBench_128 ?_
                refine xr_iconst dX4_addsBench_129 ?_
                refine xr_iadd dX4_addsBench_130 ?_
                refine xr_iload_n dX4_addsBench_131 rfl ?_
                refine xr_mstS hM (by omega) dX4_addsBench_132 (fun w132 hM => ?_)
                refine xr_aload_n dX4_addsBench_133 rfl (by first | rfl | exact isRef_rf _) ?_
                refine xr_getfield (ci := 14) (T := TX4) (N := 23) (i := 1) hM.1.1 rfl (by decide) in_X4 q2192 (.inl rfl) dX4_addsBench_134 (by rfl) ?_
                refine xr_bipush dX4_addsBench_137 (by decide) ?_
                refine xr_bipush dX4_addsBench_139 (by decide) ?_
                refine xr_iload dX4_addsBench_141 rfl ?_
                refine xr_imul dX4_addsBench_143 ?_
                refine xr_iadd dX4_addsBench_144 ?_
                refine xr_iconst dX4_addsBench_145 ?_
                refine xr_iadd dX4_addsBench_146 ?_
                refine xr_iload_n dX4_addsBench_147 rfl ?_
                refine xr_mstS hM (by omega) dX4_addsBench_148 (fun w148 hM => ?_)
                refine xr_aload_n dX4_addsBench_149 rfl (by first | rfl | exact isRef_rf _) ?_
                refine xr_getfield (ci := 14) (T := TX4) (N := 23) (i := 1) hM.1.1 rfl (by decide) in_X4 q2192 (.inl rfl) dX4_addsBench_150 (by rfl) ?_
                refine xr_iconst dX4_addsBench_153 ?_
                refine xr_iload dX4_addsBench_154 rfl ?_
                refine xr_iconst dX4_addsBench_156 ?_
                refine xr_iadd dX4_addsBench_157 ?_
                refine xr_mstS hM (by omega) dX4_addsBench_158 (fun w158 hM => ?_)
                refine xr_aload_n dX4_addsBench_159 rfl (by first | rfl | exact isRef_rf _) ?_
                refine xr_iload dX4_addsBench_160 rfl ?_
                refine xr_callV (n9 := 1) (rc' := 0 * fu71 + 0) (rs' := 0 * fu71 + 0) (k_M_done hG hM.1) hM.1.1 rfl q2299 q2301 qs43 q96 q2302 (by decide +kernel) rfl ⟨by decide, Nat.le_of_ble_eq_true rfl⟩ ⟨by omega, by omega⟩ (Nat.le_of_ble_eq_true rfl) dX4_addsBench_162 rfl (fun r w162 hw => ?_) (fun _ _ _ h => h.elim)
                obtain ⟨rfl, hw⟩ := hw
                have hM := hM.tr hw
                refine xr_ireturn rfl rfl dX4_addsBench_165 ?_
                rw [hpo]
                exact ⟨0, _, oBench P a b v, rfl, hM.toP (fun k h0 h1 => by
                  simp only [oBench, zrK, updI, Int.add_zero]
                  repeat' split
                  all_goals first | rfl | omega), Or.inr (Or.inr (Or.inr ⟨by omega, by first | trivial | omega, by rw [show rjBench P a b = (0, 0) by unfold rjBench; rw [if_neg (by omega), if_neg (by omega)]], rfl, rfl, rfl⟩))⟩
              · skip
                refine xr_aload_n dX4_addsBench_78 rfl (by first | rfl | exact isRef_rf _) ?_
                refine xr_getfield (ci := 14) (T := TX4) (N := 23) (i := 1) hM.1.1 rfl (by decide) in_X4 q2192 (.inl rfl) dX4_addsBench_79 (by rfl) ?_
                refine xr_bipush dX4_addsBench_82 (by decide) ?_
                refine xr_bipush dX4_addsBench_84 (by decide) ?_
                refine xr_iload dX4_addsBench_86 rfl ?_
                refine xr_imul dX4_addsBench_88 ?_
                refine xr_iadd dX4_addsBench_89 ?_
                refine xr_iload dX4_addsBench_90 rfl ?_
                refine xr_iadd dX4_addsBench_92 ?_
                refine xr_iconst dX4_addsBench_93 ?_
                refine xr_mstS hM (by omega) dX4_addsBench_94 (fun w94 hM => ?_)
                refine xr_iinc (lv' := [some _, some _, some _, some _, some _, some _]) dX4_addsBench_95 rfl (by decide) rfl rfl ?_
                refine xr_goto (tgt := 71) dX4_addsBench_98 (by decide) ?_
                refine xr_wk (rc' := 0 * fu71 + 0) (rs' := 0 * fu71 + 0) ⟨by omega, by omega⟩ (ih71 w94 (k + 1) (by omega) (by omega) (by omega) (hM.toP (fun j h0 h1 => by
      simp only [zrK, updI]
      repeat' split
      all_goals first | rfl | omega)))
          refine xr_wk (rc' := 0 * 7 + 0) (rs' := 0 * 7 + 0) ⟨by omega, by omega⟩ (lp71 7 w 0 (by omega) (by omega) (by omega) (hM.toP (fun j h0 h1 => by unfold zrK; rw [if_neg (by omega)])))
        · skip
          refine xr_aload_n dX4_addsBench_56 rfl (by first | rfl | exact isRef_rf _) ?_
          refine xr_iconst dX4_addsBench_57 ?_
          refine xr_aload_n dX4_addsBench_58 rfl (by first | rfl | exact isRef_rf _) ?_
          refine xr_iload_n dX4_addsBench_59 rfl ?_
          refine xr_iload_n dX4_addsBench_60 rfl ?_
          refine xr_callV (n9 := 2) (rc' := 0) (rs' := 0) (k_M_holder hG hM.1 hB (by omega)) hM.1.1 rfl q2287 q2289 qs40 q96 q2290 (by decide +kernel) rfl ⟨by decide, Nat.le_of_ble_eq_true rfl⟩ ⟨Nat.le_of_ble_eq_true rfl, Nat.le_of_ble_eq_true rfl⟩ (Nat.le_of_ble_eq_true rfl) dX4_addsBench_61 rfl (xk_r ?_) (fun _ _ _ h => h.elim)
          refine xr_callV (n9 := 2) (rc' := 0) (rs' := 0) (k_M_rejected hG hM.1) hM.1.1 rfl q2283 q2285 qs39 q96 q2286 (by decide +kernel) rfl ⟨by decide, Nat.le_of_ble_eq_true rfl⟩ ⟨Nat.le_of_ble_eq_true rfl, Nat.le_of_ble_eq_true rfl⟩ (Nat.le_of_ble_eq_true rfl) dX4_addsBench_64 rfl (fun r w64 hw => ?_) (fun _ _ _ h => h.elim)
          obtain ⟨rfl, hw⟩ := hw
          have hM := hM.tr hw
          refine xr_ireturn rfl rfl dX4_addsBench_67 ?_
          rw [hpo]
          have e9 : rjBench P a b = (4, holder P a b) := by unfold rjBench; rw [if_neg (by omega), if_pos (by omega)]
          exact ⟨4, _, P, rfl, hM, Or.inr (Or.inr (Or.inl ⟨by omega, by first | trivial | omega, by rw [e9]; show (4 : Int) ≠ 0; decide, by rw [e9], by rw [e9], rfl⟩))⟩
      · skip
        refine xr_aload_n dX4_addsBench_38 rfl (by first | rfl | exact isRef_rf _) ?_
        refine xr_iconst dX4_addsBench_39 ?_
        refine xr_bipush dX4_addsBench_40 (by decide) ?_
        refine xr_callV (n9 := 2) (rc' := 0) (rs' := 0) (k_M_rejected hG hM.1) hM.1.1 rfl q2283 q2285 qs39 q96 q2286 (by decide +kernel) rfl ⟨by decide, Nat.le_of_ble_eq_true rfl⟩ ⟨Nat.le_of_ble_eq_true rfl, Nat.le_of_ble_eq_true rfl⟩ (Nat.le_of_ble_eq_true rfl) dX4_addsBench_42 rfl (fun r w42 hw => ?_) (fun _ _ _ h => h.elim)
        obtain ⟨rfl, hw⟩ := hw
        have hM := hM.tr hw
        refine xr_ireturn rfl rfl dX4_addsBench_45 ?_
        rw [hpo]
        have e9 : rjBench P a b = (1, 10) := by unfold rjBench; rw [if_pos (by omega)]
        exact ⟨1, _, P, rfl, hM, Or.inr (Or.inr (Or.inl ⟨by omega, by first | trivial | omega, by rw [e9]; show (1 : Int) ≠ 0; decide, by rw [e9], by rw [e9], rfl⟩))⟩
    · skip
      try simp only [decide_eq_true_eq, decide_eq_false_iff_not] at c17
      refine xr_bipush dX4_addsBench_20 (by decide) ?_
      refine xr_ireturn rfl rfl dX4_addsBench_22 ?_
      rw [hpo]
      exact ⟨-2, F, P, rfl, hM, Or.inr (Or.inl ⟨by omega, by omega, rfl, rfl, rfl⟩)⟩
  · skip
    try simp only [decide_eq_true_eq, decide_eq_false_iff_not] at c5
    refine xr_iconst dX4_addsBench_8 ?_
    refine xr_ireturn rfl rfl dX4_addsBench_9 ?_
    rw [hpo]
    exact ⟨-1, F, P, rfl, hM, Or.inl ⟨by omega, rfl, rfl, rfl⟩⟩
theorem k_M_addsFountain {g : GG} {w : WW} {m : Nat} {A : Int → Nat} {F P : Int → Int} {C : Int → Int → Int} {a b v N : Int} (hG : Base g) (hM : MD g w m A F P C) (hB : PB P N)  (hr : (-2147483648 ≤ a ∧ a < 2147483648) ∧ (-2147483648 ≤ b ∧ b < 2147483648) ∧ (-2147483648 ≤ v ∧ v < 2147483648)) : Ct g yX4_addsFountain (.code yX4_addsFountain cX4_addsFountain 5 (some .int)) 2 45 0 0 w [.ref m, .int (iI a), .int (iI b), .int (iI v)] (fun r_ w1 => ∃ (r : Int) (F1 P1 : Int → Int), r_ = some (.int (iI r)) ∧ MDF g w w1 m A F1 P1 C ∧ MA ((0 ≤ a ∧ a ≤ 5) ∧ (0 ≤ b ∧ b ≤ 5)) (1 ≤ v ∧ v ≤ 9) (rjFount P a b) (P 1) P (oFount P a b v) F r F1 P1) xF := by
  refine Ct.of (lv := [some _, some _, some _, some _, none]) hG (by decide +kernel) (Nat.le_of_ble_eq_true rfl) rfl ?_
  intro z hg hpo hxp hnm htab
  subst hg
  have hM : MDF (zg z) w w m A F P C := ⟨hM, Fr.rf⟩
  have hgg := hB.g
  have b1 := benchIn_bd (P := P) (r := a) (c := b)
  have b2 := fountIn_bd (P := P) (r := a) (c := b)
  have b3 : -1 ≤ holder P a b ∧ holder P a b ≤ 20 := by unfold holder; split; omega; split <;> omega
  refine xr_iload_n dX4_addsFountain_0 rfl ?_
  refine xr_iload_n dX4_addsFountain_1 rfl ?_
  refine xr_callS (n9 := 2) (rc' := 0) (rs' := 0) (k_M_isCell hG (by omega)) q2277 q2278 q96 q2279 (by decide +kernel) rfl ⟨by decide, Nat.le_of_ble_eq_true rfl⟩ ⟨Nat.le_of_ble_eq_true rfl, Nat.le_of_ble_eq_true rfl⟩ (Nat.le_of_ble_eq_true rfl) dX4_addsFountain_2 rfl (xk_r ?_) (fun _ _ _ h => h.elim)
  refine xr_ifb_ne (tgt := 10) dX4_addsFountain_5 (by decide) (fun c5 => ?_) (fun c5 => ?_)
  · skip
    try simp only [decide_eq_true_eq, decide_eq_false_iff_not] at c5
    refine xr_iload_n dX4_addsFountain_10 rfl ?_
    refine xr_iconst dX4_addsFountain_11 ?_
    refine xr_bipush dX4_addsFountain_12 (by decide) ?_
    refine xr_callS (n9 := 3) (rc' := 0) (rs' := 0) (k_M_in hG (by omega)) q2280 q2281 q96 q2282 (by decide +kernel) rfl ⟨by decide, Nat.le_of_ble_eq_true rfl⟩ ⟨Nat.le_of_ble_eq_true rfl, Nat.le_of_ble_eq_true rfl⟩ (Nat.le_of_ble_eq_true rfl) dX4_addsFountain_14 rfl (xk_r ?_) (fun _ _ _ h => h.elim)
    refine xr_ifb_ne (tgt := 23) dX4_addsFountain_17 (by decide) (fun c17 => ?_) (fun c17 => ?_)
    · skip
      try simp only [decide_eq_true_eq, decide_eq_false_iff_not] at c17
      refine xr_aload_n dX4_addsFountain_23 rfl (by first | rfl | exact isRef_rf _) ?_
      refine xr_getfield (ci := 14) (T := TX4) (N := 23) (i := 1) hM.1.1 rfl (by decide) in_X4 q2192 (.inl rfl) dX4_addsFountain_24 (by rfl) ?_
      refine xr_iconst dX4_addsFountain_27 ?_
      refine xr_iaload hM.1.2.1 (by omega) (by decide) dX4_addsFountain_28 ?_
      refine xr_istore (lv' := [some _, some _, some _, some _, some _]) dX4_addsFountain_29 (by decide) rfl rfl ?_
      refine xr_iload dX4_addsFountain_31 rfl ?_
      refine xr_iconst dX4_addsFountain_33 ?_
      refine xr_icmp_ne (tgt := 44) dX4_addsFountain_34 (by decide) (by omega) (fun c34 => ?_) (fun c34 => ?_)
      · skip
        refine xr_aload_n dX4_addsFountain_44 rfl (by first | rfl | exact isRef_rf _) ?_
        refine xr_iload_n dX4_addsFountain_45 rfl ?_
        refine xr_iload_n dX4_addsFountain_46 rfl ?_
        refine xr_callV (n9 := 2) (rc' := 0) (rs' := 0) (k_M_holder hG hM.1 hB (by omega)) hM.1.1 rfl q2287 q2289 qs40 q96 q2290 (by decide +kernel) rfl ⟨by decide, Nat.le_of_ble_eq_true rfl⟩ ⟨Nat.le_of_ble_eq_true rfl, Nat.le_of_ble_eq_true rfl⟩ (Nat.le_of_ble_eq_true rfl) dX4_addsFountain_47 rfl (xk_r ?_) (fun _ _ _ h => h.elim)
        refine xr_iconst dX4_addsFountain_50 ?_
        refine xr_icmp_eq (tgt := 66) dX4_addsFountain_51 (by decide) (by omega) (fun c51 => ?_) (fun c51 => ?_)
        · skip
          refine xr_aload_n dX4_addsFountain_66 rfl (by first | rfl | exact isRef_rf _) ?_
          refine xr_getfield (ci := 14) (T := TX4) (N := 23) (i := 1) hM.1.1 rfl (by decide) in_X4 q2192 (.inl rfl) dX4_addsFountain_67 (by rfl) ?_
          refine xr_bipush dX4_addsFountain_70 (by decide) ?_
          refine xr_iconst dX4_addsFountain_72 ?_
          refine xr_iload dX4_addsFountain_73 rfl ?_
          refine xr_imul dX4_addsFountain_75 ?_
          refine xr_iadd dX4_addsFountain_76 ?_
          refine xr_iconst dX4_addsFountain_77 ?_
          refine xr_iadd dX4_addsFountain_78 ?_
          refine xr_iload_n dX4_addsFountain_79 rfl ?_
          refine xr_mstS hM (by omega) dX4_addsFountain_80 (fun w80 hM => ?_)
          refine xr_aload_n dX4_addsFountain_81 rfl (by first | rfl | exact isRef_rf _) ?_
          refine xr_getfield (ci := 14) (T := TX4) (N := 23) (i := 1) hM.1.1 rfl (by decide) in_X4 q2192 (.inl rfl) dX4_addsFountain_82 (by rfl) ?_
          refine xr_bipush dX4_addsFountain_85 (by decide) ?_
          refine xr_iconst dX4_addsFountain_87 ?_
          refine xr_iload dX4_addsFountain_88 rfl ?_
          refine xr_imul dX4_addsFountain_90 ?_
          refine xr_iadd dX4_addsFountain_91 ?_
          refine xr_iconst dX4_addsFountain_92 ?_
          refine xr_iadd dX4_addsFountain_93 ?_
          refine xr_iload_n dX4_addsFountain_94 rfl ?_
          refine xr_mstS hM (by omega) dX4_addsFountain_95 (fun w95 hM => ?_)
          refine xr_aload_n dX4_addsFountain_96 rfl (by first | rfl | exact isRef_rf _) ?_
          refine xr_getfield (ci := 14) (T := TX4) (N := 23) (i := 1) hM.1.1 rfl (by decide) in_X4 q2192 (.inl rfl) dX4_addsFountain_97 (by rfl) ?_
          refine xr_bipush dX4_addsFountain_100 (by decide) ?_
          refine xr_iconst dX4_addsFountain_102 ?_
          refine xr_iload dX4_addsFountain_103 rfl ?_
          refine xr_imul dX4_addsFountain_105 ?_
          refine xr_iadd dX4_addsFountain_106 ?_
          refine xr_iconst dX4_addsFountain_107 ?_
          refine xr_iadd dX4_addsFountain_108 ?_
          refine xr_iload_n dX4_addsFountain_109 rfl ?_
          refine xr_mstS hM (by omega) dX4_addsFountain_110 (fun w110 hM => ?_)
          refine xr_aload_n dX4_addsFountain_111 rfl (by first | rfl | exact isRef_rf _) ?_
          refine xr_getfield (ci := 14) (T := TX4) (N := 23) (i := 1) hM.1.1 rfl (by decide) in_X4 q2192 (.inl rfl) dX4_addsFountain_112 (by rfl) ?_
          refine xr_bipush dX4_addsFountain_115 (by decide) ?_
          refine xr_iconst dX4_addsFountain_117 ?_
          refine xr_iload dX4_addsFountain_118 rfl ?_
          refine xr_imul dX4_addsFountain_120 ?_
          refine xr_iadd dX4_addsFountain_121 ?_
          refine xr_iconst dX4_addsFountain_122 ?_
          refine xr_iadd dX4_addsFountain_123 ?_
          refine xr_iconst dX4_addsFountain_124 ?_
          refine xr_mstS hM (by omega) dX4_addsFountain_125 (fun w125 hM => ?_)
          refine xr_aload_n dX4_addsFountain_126 rfl (by first | rfl | exact isRef_rf _) ?_
          refine xr_getfield (ci := 14) (T := TX4) (N := 23) (i := 1) hM.1.1 rfl (by decide) in_X4 q2192 (.inl rfl) dX4_addsFountain_127 (by rfl) ?_
          refine xr_iconst dX4_addsFountain_130 ?_
          refine xr_iload dX4_addsFountain_131 rfl ?_
          refine xr_iconst dX4_addsFountain_133 ?_
          refine xr_iadd dX4_addsFountain_134 ?_
          refine xr_mstS hM (by omega) dX4_addsFountain_135 (fun w135 hM => ?_)
          refine xr_aload_n dX4_addsFountain_136 rfl (by first | rfl | exact isRef_rf _) ?_
          refine xr_iload dX4_addsFountain_137 rfl ?_
          refine xr_callV (n9 := 1) (rc' := 0) (rs' := 0) (k_M_done hG hM.1) hM.1.1 rfl q2299 q2301 qs43 q96 q2302 (by decide +kernel) rfl ⟨by decide, Nat.le_of_ble_eq_true rfl⟩ ⟨Nat.le_of_ble_eq_true rfl, Nat.le_of_ble_eq_true rfl⟩ (Nat.le_of_ble_eq_true rfl) dX4_addsFountain_139 rfl (fun r w139 hw => ?_) (fun _ _ _ h => h.elim)
          obtain ⟨rfl, hw⟩ := hw
          have hM := hM.tr hw
          refine xr_ireturn rfl rfl dX4_addsFountain_142 ?_
          rw [hpo]
          exact ⟨0, _, oFount P a b v, rfl, hM.toP (fun k h0 h1 => by
            simp only [oFount, updI, Int.add_zero]
            repeat' split
            all_goals first | rfl | omega), Or.inr (Or.inr (Or.inr ⟨by omega, by first | trivial | omega, by rw [show rjFount P a b = (0, 0) by unfold rjFount; rw [if_neg (by omega), if_neg (by omega)]], rfl, rfl, rfl⟩))⟩
        · skip
          refine xr_aload_n dX4_addsFountain_54 rfl (by first | rfl | exact isRef_rf _) ?_
          refine xr_iconst dX4_addsFountain_55 ?_
          refine xr_aload_n dX4_addsFountain_56 rfl (by first | rfl | exact isRef_rf _) ?_
          refine xr_iload_n dX4_addsFountain_57 rfl ?_
          refine xr_iload_n dX4_addsFountain_58 rfl ?_
          refine xr_callV (n9 := 2) (rc' := 0) (rs' := 0) (k_M_holder hG hM.1 hB (by omega)) hM.1.1 rfl q2287 q2289 qs40 q96 q2290 (by decide +kernel) rfl ⟨by decide, Nat.le_of_ble_eq_true rfl⟩ ⟨Nat.le_of_ble_eq_true rfl, Nat.le_of_ble_eq_true rfl⟩ (Nat.le_of_ble_eq_true rfl) dX4_addsFountain_59 rfl (xk_r ?_) (fun _ _ _ h => h.elim)
          refine xr_callV (n9 := 2) (rc' := 0) (rs' := 0) (k_M_rejected hG hM.1) hM.1.1 rfl q2283 q2285 qs39 q96 q2286 (by decide +kernel) rfl ⟨by decide, Nat.le_of_ble_eq_true rfl⟩ ⟨Nat.le_of_ble_eq_true rfl, Nat.le_of_ble_eq_true rfl⟩ (Nat.le_of_ble_eq_true rfl) dX4_addsFountain_62 rfl (fun r w62 hw => ?_) (fun _ _ _ h => h.elim)
          obtain ⟨rfl, hw⟩ := hw
          have hM := hM.tr hw
          refine xr_ireturn rfl rfl dX4_addsFountain_65 ?_
          rw [hpo]
          have e9 : rjFount P a b = (4, holder P a b) := by unfold rjFount; rw [if_neg (by omega), if_pos (by omega)]
          exact ⟨4, _, P, rfl, hM, Or.inr (Or.inr (Or.inl ⟨by omega, by first | trivial | omega, by rw [e9]; show (4 : Int) ≠ 0; decide, by rw [e9], by rw [e9], rfl⟩))⟩
      · skip
        refine xr_aload_n dX4_addsFountain_37 rfl (by first | rfl | exact isRef_rf _) ?_
        refine xr_iconst dX4_addsFountain_38 ?_
        refine xr_iconst dX4_addsFountain_39 ?_
        refine xr_callV (n9 := 2) (rc' := 0) (rs' := 0) (k_M_rejected hG hM.1) hM.1.1 rfl q2283 q2285 qs39 q96 q2286 (by decide +kernel) rfl ⟨by decide, Nat.le_of_ble_eq_true rfl⟩ ⟨Nat.le_of_ble_eq_true rfl, Nat.le_of_ble_eq_true rfl⟩ (Nat.le_of_ble_eq_true rfl) dX4_addsFountain_40 rfl (fun r w40 hw => ?_) (fun _ _ _ h => h.elim)
        obtain ⟨rfl, hw⟩ := hw
        have hM := hM.tr hw
        refine xr_ireturn rfl rfl dX4_addsFountain_43 ?_
        rw [hpo]
        have e9 : rjFount P a b = (2, 4) := by unfold rjFount; rw [if_pos (by omega)]
        exact ⟨2, _, P, rfl, hM, Or.inr (Or.inr (Or.inl ⟨by omega, by first | trivial | omega, by rw [e9]; show (2 : Int) ≠ 0; decide, by rw [e9], by rw [e9], rfl⟩))⟩
    · skip
      try simp only [decide_eq_true_eq, decide_eq_false_iff_not] at c17
      refine xr_bipush dX4_addsFountain_20 (by decide) ?_
      refine xr_ireturn rfl rfl dX4_addsFountain_22 ?_
      rw [hpo]
      exact ⟨-2, F, P, rfl, hM, Or.inr (Or.inl ⟨by omega, by omega, rfl, rfl, rfl⟩)⟩
  · skip
    try simp only [decide_eq_true_eq, decide_eq_false_iff_not] at c5
    refine xr_iconst dX4_addsFountain_8 ?_
    refine xr_ireturn rfl rfl dX4_addsFountain_9 ?_
    rw [hpo]
    exact ⟨-1, F, P, rfl, hM, Or.inl ⟨by omega, rfl, rfl, rfl⟩⟩
theorem k_M_addsTenant {g : GG} {w : WW} {m : Nat} {A : Int → Nat} {F P : Int → Int} {C : Int → Int → Int} {v N : Int} (hG : Base g) (hM : MD g w m A F P C) (hB : PB P N)  (hr : (-2147483648 ≤ v ∧ v < 2147483648)) : Ct g yX4_addsTenant (.code yX4_addsTenant cX4_addsTenant 3 (some .int)) 1 22 0 0 w [.ref m, .int (iI v)] (fun r_ w1 => ∃ (r : Int) (F1 P1 : Int → Int), r_ = some (.int (iI r)) ∧ MDF g w w1 m A F1 P1 C ∧ MA (0 ≤ v ∧ v ≤ 99) (True) (rjTenant P) (P 2) P (oTenant P v) F r F1 P1) xF := by
  refine Ct.of (lv := [some _, some _, none]) hG (by decide +kernel) (Nat.le_of_ble_eq_true rfl) rfl ?_
  intro z hg hpo hxp hnm htab
  subst hg
  have hM : MDF (zg z) w w m A F P C := ⟨hM, Fr.rf⟩
  have hgg := hB.g
  refine xr_iload_n dX4_addsTenant_0 rfl ?_
  refine xr_iconst dX4_addsTenant_1 ?_
  refine xr_bipush dX4_addsTenant_2 (by decide) ?_
  refine xr_callS (n9 := 3) (rc' := 0) (rs' := 0) (k_M_in hG (by omega)) q2280 q2281 q96 q2282 (by decide +kernel) rfl ⟨by decide, Nat.le_of_ble_eq_true rfl⟩ ⟨Nat.le_of_ble_eq_true rfl, Nat.le_of_ble_eq_true rfl⟩ (Nat.le_of_ble_eq_true rfl) dX4_addsTenant_4 rfl (xk_r ?_) (fun _ _ _ h => h.elim)
  refine xr_ifb_ne (tgt := 12) dX4_addsTenant_7 (by decide) (fun c7 => ?_) (fun c7 => ?_)
  · skip
    try simp only [decide_eq_true_eq, decide_eq_false_iff_not] at c7
    refine xr_aload_n dX4_addsTenant_12 rfl (by first | rfl | exact isRef_rf _) ?_
    refine xr_getfield (ci := 14) (T := TX4) (N := 23) (i := 1) hM.1.1 rfl (by decide) in_X4 q2192 (.inl rfl) dX4_addsTenant_13 (by rfl) ?_
    refine xr_iconst dX4_addsTenant_16 ?_
    refine xr_iaload hM.1.2.1 (by omega) (by decide) dX4_addsTenant_17 ?_
    refine xr_istore_n (lv' := [some _, some _, some _]) dX4_addsTenant_18 (by decide) rfl rfl ?_
    refine xr_iload_n dX4_addsTenant_19 rfl ?_
    refine xr_bipush dX4_addsTenant_20 (by decide) ?_
    refine xr_icmp_ne (tgt := 33) dX4_addsTenant_22 (by decide) (by omega) (fun c22 => ?_) (fun c22 => ?_)
    · skip
      refine xr_aload_n dX4_addsTenant_33 rfl (by first | rfl | exact isRef_rf _) ?_
      refine xr_getfield (ci := 14) (T := TX4) (N := 23) (i := 1) hM.1.1 rfl (by decide) in_X4 q2192 (.inl rfl) dX4_addsTenant_34 (by rfl) ?_
      refine xr_bipush dX4_addsTenant_37 (by decide) ?_
      refine xr_iconst dX4_addsTenant_39 ?_
      refine xr_iload_n dX4_addsTenant_40 rfl ?_
      refine xr_imul dX4_addsTenant_41 ?_
      refine xr_iadd dX4_addsTenant_42 ?_
      refine xr_iconst dX4_addsTenant_43 ?_
      refine xr_iadd dX4_addsTenant_44 ?_
      refine xr_iload_n dX4_addsTenant_45 rfl ?_
      refine xr_mstS hM (by omega) dX4_addsTenant_46 (fun w46 hM => ?_)
      refine xr_aload_n dX4_addsTenant_47 rfl (by first | rfl | exact isRef_rf _) ?_
      refine xr_getfield (ci := 14) (T := TX4) (N := 23) (i := 1) hM.1.1 rfl (by decide) in_X4 q2192 (.inl rfl) dX4_addsTenant_48 (by rfl) ?_
      refine xr_bipush dX4_addsTenant_51 (by decide) ?_
      refine xr_iconst dX4_addsTenant_53 ?_
      refine xr_iload_n dX4_addsTenant_54 rfl ?_
      refine xr_imul dX4_addsTenant_55 ?_
      refine xr_iadd dX4_addsTenant_56 ?_
      refine xr_iconst dX4_addsTenant_57 ?_
      refine xr_iadd dX4_addsTenant_58 ?_
      refine xr_iconst dX4_addsTenant_59 ?_
      refine xr_mstS hM (by omega) dX4_addsTenant_60 (fun w60 hM => ?_)
      refine xr_aload_n dX4_addsTenant_61 rfl (by first | rfl | exact isRef_rf _) ?_
      refine xr_getfield (ci := 14) (T := TX4) (N := 23) (i := 1) hM.1.1 rfl (by decide) in_X4 q2192 (.inl rfl) dX4_addsTenant_62 (by rfl) ?_
      refine xr_iconst dX4_addsTenant_65 ?_
      refine xr_iload_n dX4_addsTenant_66 rfl ?_
      refine xr_iconst dX4_addsTenant_67 ?_
      refine xr_iadd dX4_addsTenant_68 ?_
      refine xr_mstS hM (by omega) dX4_addsTenant_69 (fun w69 hM => ?_)
      refine xr_aload_n dX4_addsTenant_70 rfl (by first | rfl | exact isRef_rf _) ?_
      refine xr_getfield (ci := 14) (T := TX4) (N := 23) (i := 1) hM.1.1 rfl (by decide) in_X4 q2192 (.inl rfl) dX4_addsTenant_71 (by rfl) ?_
      refine xr_bipush dX4_addsTenant_74 (by decide) ?_
      refine xr_dup2 dX4_addsTenant_76 (by first | rfl | exact cat_rf _) (by first | rfl | exact cat_rf _) ?_
      refine xr_iaload hM.1.2.1 (by omega) (by decide) dX4_addsTenant_77 ?_
      refine xr_iload_n dX4_addsTenant_78 rfl ?_
      refine xr_iadd dX4_addsTenant_79 ?_
      refine xr_mstS hM (by omega) dX4_addsTenant_80 (fun w80 hM => ?_)
      refine xr_aload_n dX4_addsTenant_81 rfl (by first | rfl | exact isRef_rf _) ?_
      refine xr_iload_n dX4_addsTenant_82 rfl ?_
      refine xr_callV (n9 := 1) (rc' := 0) (rs' := 0) (k_M_done hG hM.1) hM.1.1 rfl q2299 q2301 qs43 q96 q2302 (by decide +kernel) rfl ⟨by decide, Nat.le_of_ble_eq_true rfl⟩ ⟨Nat.le_of_ble_eq_true rfl, Nat.le_of_ble_eq_true rfl⟩ (Nat.le_of_ble_eq_true rfl) dX4_addsTenant_83 rfl (fun r w83 hw => ?_) (fun _ _ _ h => h.elim)
      obtain ⟨rfl, hw⟩ := hw
      have hM := hM.tr hw
      refine xr_ireturn rfl rfl dX4_addsTenant_86 ?_
      rw [hpo]
      exact ⟨0, _, oTenant P v, rfl, hM.toP (fun k h0 h1 => by
        simp only [oTenant, updI, Int.add_zero]
        repeat' split
        all_goals first | rfl | omega), Or.inr (Or.inr (Or.inr ⟨by omega, by first | trivial | omega, by rw [show rjTenant P = (0, 0) by unfold rjTenant; rw [if_neg (by omega)]], rfl, rfl, rfl⟩))⟩
    · skip
      refine xr_aload_n dX4_addsTenant_25 rfl (by first | rfl | exact isRef_rf _) ?_
      refine xr_iconst dX4_addsTenant_26 ?_
      refine xr_bipush dX4_addsTenant_27 (by decide) ?_
      refine xr_callV (n9 := 2) (rc' := 0) (rs' := 0) (k_M_rejected hG hM.1) hM.1.1 rfl q2283 q2285 qs39 q96 q2286 (by decide +kernel) rfl ⟨by decide, Nat.le_of_ble_eq_true rfl⟩ ⟨Nat.le_of_ble_eq_true rfl, Nat.le_of_ble_eq_true rfl⟩ (Nat.le_of_ble_eq_true rfl) dX4_addsTenant_29 rfl (fun r w29 hw => ?_) (fun _ _ _ h => h.elim)
      obtain ⟨rfl, hw⟩ := hw
      have hM := hM.tr hw
      refine xr_ireturn rfl rfl dX4_addsTenant_32 ?_
      rw [hpo]
      have e9 : rjTenant P = (3, 8) := by unfold rjTenant; rw [if_pos (by omega)]
      exact ⟨3, _, P, rfl, hM, Or.inr (Or.inr (Or.inl ⟨by omega, by first | trivial | omega, by rw [e9]; show (3 : Int) ≠ 0; decide, by rw [e9], by rw [e9], rfl⟩))⟩
  · skip
    try simp only [decide_eq_true_eq, decide_eq_false_iff_not] at c7
    refine xr_iconst dX4_addsTenant_10 ?_
    refine xr_ireturn rfl rfl dX4_addsTenant_11 ?_
    rw [hpo]
    exact ⟨-1, F, P, rfl, hM, Or.inl ⟨by omega, rfl, rfl, rfl⟩⟩
theorem k_M_gives {g : GG} {w : WW} {m : Nat} {A : Int → Nat} {F P : Int → Int} {C : Int → Int → Int} {t v N : Int} (hG : Base g) (hM : MD g w m A F P C) (hB : PB P N)  (hr : (-2147483648 ≤ t ∧ t < 2147483648) ∧ (-2147483648 ≤ v ∧ v < 2147483648)) : Ct g yX4_gives (.code yX4_gives cX4_gives 3 (some .int)) 2 43 0 0 w [.ref m, .int (iI t), .int (iI v)] (fun r_ w1 => ∃ (r : Int) (F1 P1 : Int → Int), r_ = some (.int (iI r)) ∧ MDF g w w1 m A F1 P1 C ∧ MA (0 ≤ t ∧ t < P 2) (1 ≤ v ∧ v ≤ 99) (((0, 0) : Int × Int)) (P (86 + 2 * t) + v) P (oGive P t v) F r F1 P1) xF := by
  refine Ct.of (lv := [some _, some _, some _]) hG (by decide +kernel) (Nat.le_of_ble_eq_true rfl) rfl ?_
  intro z hg hpo hxp hnm htab
  subst hg
  have hM : MDF (zg z) w w m A F P C := ⟨hM, Fr.rf⟩
  have hgg := hB.g
  refine xr_aload_n dX4_gives_0 rfl (by first | rfl | exact isRef_rf _) ?_
  refine xr_iload_n dX4_gives_1 rfl ?_
  refine xr_callV (n9 := 1) (rc' := 0) (rs' := 0) (k_M_isTenant hG hM.1 hB (by omega)) hM.1.1 rfl q2455 q2457 qs61 q96 q2458 (by decide +kernel) rfl ⟨by decide, Nat.le_of_ble_eq_true rfl⟩ ⟨Nat.le_of_ble_eq_true rfl, Nat.le_of_ble_eq_true rfl⟩ (Nat.le_of_ble_eq_true rfl) dX4_gives_2 rfl (xk_r ?_) (fun _ _ _ h => h.elim)
  refine xr_ifb_ne (tgt := 10) dX4_gives_5 (by decide) (fun c5 => ?_) (fun c5 => ?_)
  · skip
    try simp only [decide_eq_true_eq, decide_eq_false_iff_not] at c5
    refine xr_iload_n dX4_gives_10 rfl ?_
    refine xr_iconst dX4_gives_11 ?_
    refine xr_bipush dX4_gives_12 (by decide) ?_
    refine xr_callS (n9 := 3) (rc' := 0) (rs' := 0) (k_M_in hG (by omega)) q2280 q2281 q96 q2282 (by decide +kernel) rfl ⟨by decide, Nat.le_of_ble_eq_true rfl⟩ ⟨Nat.le_of_ble_eq_true rfl, Nat.le_of_ble_eq_true rfl⟩ (Nat.le_of_ble_eq_true rfl) dX4_gives_14 rfl (xk_r ?_) (fun _ _ _ h => h.elim)
    refine xr_ifb_ne (tgt := 23) dX4_gives_17 (by decide) (fun c17 => ?_) (fun c17 => ?_)
    · skip
      try simp only [decide_eq_true_eq, decide_eq_false_iff_not] at c17
      refine xr_aload_n dX4_gives_23 rfl (by first | rfl | exact isRef_rf _) ?_
      refine xr_getfield (ci := 14) (T := TX4) (N := 23) (i := 1) hM.1.1 rfl (by decide) in_X4 q2192 (.inl rfl) dX4_gives_24 (by rfl) ?_
      refine xr_bipush dX4_gives_27 (by decide) ?_
      refine xr_iconst dX4_gives_29 ?_
      refine xr_iload_n dX4_gives_30 rfl ?_
      refine xr_imul dX4_gives_31 ?_
      refine xr_iadd dX4_gives_32 ?_
      refine xr_iconst dX4_gives_33 ?_
      refine xr_iadd dX4_gives_34 ?_
      refine xr_dup2 dX4_gives_35 (by first | rfl | exact cat_rf _) (by first | rfl | exact cat_rf _) ?_
      refine xr_iaload hM.1.2.1 (by omega) (by decide) dX4_gives_36 ?_
      refine xr_iload_n dX4_gives_37 rfl ?_
      refine xr_iadd dX4_gives_38 ?_
      refine xr_mstS hM (by omega) dX4_gives_39 (fun w39 hM => ?_)
      refine xr_aload_n dX4_gives_40 rfl (by first | rfl | exact isRef_rf _) ?_
      refine xr_getfield (ci := 14) (T := TX4) (N := 23) (i := 1) hM.1.1 rfl (by decide) in_X4 q2192 (.inl rfl) dX4_gives_41 (by rfl) ?_
      refine xr_bipush dX4_gives_44 (by decide) ?_
      refine xr_dup2 dX4_gives_46 (by first | rfl | exact cat_rf _) (by first | rfl | exact cat_rf _) ?_
      refine xr_iaload hM.1.2.1 (by omega) (by decide) dX4_gives_47 ?_
      refine xr_iload_n dX4_gives_48 rfl ?_
      refine xr_iadd dX4_gives_49 ?_
      refine xr_mstS hM (by omega) dX4_gives_50 (fun w50 hM => ?_)
      refine xr_aload_n dX4_gives_51 rfl (by first | rfl | exact isRef_rf _) ?_
      refine xr_aload_n dX4_gives_52 rfl (by first | rfl | exact isRef_rf _) ?_
      refine xr_iload_n dX4_gives_53 rfl ?_
      refine xr_iconst dX4_gives_54 ?_
      refine xr_callV (n9 := 2) (rc' := 0) (rs' := 0) (k_M_tenant_0 hG hM.1 (by omega)) hM.1.1 rfl q2459 q2461 qs62 q96 q2462 (by decide +kernel) rfl ⟨by decide, Nat.le_of_ble_eq_true rfl⟩ ⟨Nat.le_of_ble_eq_true rfl, Nat.le_of_ble_eq_true rfl⟩ (Nat.le_of_ble_eq_true rfl) dX4_gives_55 rfl (xk_r ?_) (fun _ _ _ h => h.elim)
      refine xr_callV (n9 := 1) (rc' := 0) (rs' := 0) (k_M_done hG hM.1) hM.1.1 rfl q2299 q2301 qs43 q96 q2302 (by decide +kernel) rfl ⟨by decide, Nat.le_of_ble_eq_true rfl⟩ ⟨Nat.le_of_ble_eq_true rfl, Nat.le_of_ble_eq_true rfl⟩ (Nat.le_of_ble_eq_true rfl) dX4_gives_58 rfl (fun r w58 hw => ?_) (fun _ _ _ h => h.elim)
      obtain ⟨rfl, hw⟩ := hw
      have hM := hM.tr hw
      refine xr_ireturn rfl rfl dX4_gives_61 ?_
      rw [hpo]
      have htt := hB.t (t := t) (by omega)
      exact ⟨0, _, oGive P t v, rfl, hM.toP (fun k h0 h1 => by
        simp only [oGive, updI, Int.add_zero]
        repeat' split
        all_goals first | rfl | omega), Or.inr (Or.inr (Or.inr ⟨by omega, by first | trivial | omega, rfl, rfl, by congr 1; simp only [updI, Int.add_zero, if_true]; rw [if_neg (by omega)], rfl⟩))⟩
    · skip
      try simp only [decide_eq_true_eq, decide_eq_false_iff_not] at c17
      refine xr_bipush dX4_gives_20 (by decide) ?_
      refine xr_ireturn rfl rfl dX4_gives_22 ?_
      rw [hpo]
      exact ⟨-2, F, P, rfl, hM, Or.inr (Or.inl ⟨by omega, by omega, rfl, rfl, rfl⟩)⟩
  · skip
    try simp only [decide_eq_true_eq, decide_eq_false_iff_not] at c5
    refine xr_iconst dX4_gives_8 ?_
    refine xr_ireturn rfl rfl dX4_gives_9 ?_
    rw [hpo]
    exact ⟨-1, F, P, rfl, hM, Or.inl ⟨by omega, rfl, rfl, rfl⟩⟩
theorem k_M_rents {g : GG} {w : WW} {m : Nat} {A : Int → Nat} {F P : Int → Int} {C : Int → Int → Int} {b v N : Int} (hG : Base g) (hM : MD g w m A F P C) (hB : PB P N)  (hr : (-2147483648 ≤ b ∧ b < 2147483648) ∧ (-2147483648 ≤ v ∧ v < 2147483648)) : Ct g yX4_rents (.code yX4_rents cX4_rents 4 (some .int)) 2 43 0 0 w [.ref m, .int (iI b), .int (iI v)] (fun r_ w1 => ∃ (r : Int) (F1 P1 : Int → Int), r_ = some (.int (iI r)) ∧ MDF g w w1 m A F1 P1 C ∧ MA (0 ≤ b ∧ b < P 0) (1 ≤ v ∧ v ≤ 20) (((0, 0) : Int × Int)) (P (12 + 6 * b)) P (oRent P b v) F r F1 P1) xF := by
  refine Ct.of (lv := [some _, some _, some _, none]) hG (by decide +kernel) (Nat.le_of_ble_eq_true rfl) rfl ?_
  intro z hg hpo hxp hnm htab
  subst hg
  have hM : MDF (zg z) w w m A F P C := ⟨hM, Fr.rf⟩
  have hgg := hB.g
  refine xr_aload_n dX4_rents_0 rfl (by first | rfl | exact isRef_rf _) ?_
  refine xr_iload_n dX4_rents_1 rfl ?_
  refine xr_callV (n9 := 1) (rc' := 0) (rs' := 0) (k_M_isBench hG hM.1 hB (by omega)) hM.1.1 rfl q2323 q2325 qs48 q96 q2326 (by decide +kernel) rfl ⟨by decide, Nat.le_of_ble_eq_true rfl⟩ ⟨Nat.le_of_ble_eq_true rfl, Nat.le_of_ble_eq_true rfl⟩ (Nat.le_of_ble_eq_true rfl) dX4_rents_2 rfl (xk_r ?_) (fun _ _ _ h => h.elim)
  refine xr_ifb_ne (tgt := 10) dX4_rents_5 (by decide) (fun c5 => ?_) (fun c5 => ?_)
  · skip
    try simp only [decide_eq_true_eq, decide_eq_false_iff_not] at c5
    refine xr_iload_n dX4_rents_10 rfl ?_
    refine xr_iconst dX4_rents_11 ?_
    refine xr_bipush dX4_rents_12 (by decide) ?_
    refine xr_callS (n9 := 3) (rc' := 0) (rs' := 0) (k_M_in hG (by omega)) q2280 q2281 q96 q2282 (by decide +kernel) rfl ⟨by decide, Nat.le_of_ble_eq_true rfl⟩ ⟨Nat.le_of_ble_eq_true rfl, Nat.le_of_ble_eq_true rfl⟩ (Nat.le_of_ble_eq_true rfl) dX4_rents_14 rfl (xk_r ?_) (fun _ _ _ h => h.elim)
    refine xr_ifb_ne (tgt := 23) dX4_rents_17 (by decide) (fun c17 => ?_) (fun c17 => ?_)
    · skip
      try simp only [decide_eq_true_eq, decide_eq_false_iff_not] at c17
      refine xr_aload_n dX4_rents_23 rfl (by first | rfl | exact isRef_rf _) ?_
      refine xr_iload_n dX4_rents_24 rfl ?_
      refine xr_iconst dX4_rents_25 ?_
      refine xr_callV (n9 := 2) (rc' := 0) (rs' := 0) (k_M_bench_2 hG hM.1 (by omega)) hM.1.1 rfl q2291 q2293 qs41 q96 q2294 (by decide +kernel) rfl ⟨by decide, Nat.le_of_ble_eq_true rfl⟩ ⟨Nat.le_of_ble_eq_true rfl, Nat.le_of_ble_eq_true rfl⟩ (Nat.le_of_ble_eq_true rfl) dX4_rents_26 rfl (xk_r ?_) (fun _ _ _ h => h.elim)
      refine xr_istore_n (lv' := [some _, some _, some _, some _]) dX4_rents_29 (by decide) rfl rfl ?_
      refine xr_aload_n dX4_rents_30 rfl (by first | rfl | exact isRef_rf _) ?_
      refine xr_getfield (ci := 14) (T := TX4) (N := 23) (i := 1) hM.1.1 rfl (by decide) in_X4 q2192 (.inl rfl) dX4_rents_31 (by rfl) ?_
      refine xr_bipush dX4_rents_34 (by decide) ?_
      refine xr_bipush dX4_rents_36 (by decide) ?_
      refine xr_iload_n dX4_rents_38 rfl ?_
      refine xr_imul dX4_rents_39 ?_
      refine xr_iadd dX4_rents_40 ?_
      refine xr_iconst dX4_rents_41 ?_
      refine xr_iadd dX4_rents_42 ?_
      refine xr_iload_n dX4_rents_43 rfl ?_
      refine xr_mstS hM (by omega) dX4_rents_44 (fun w44 hM => ?_)
      refine xr_aload_n dX4_rents_45 rfl (by first | rfl | exact isRef_rf _) ?_
      refine xr_iload_n dX4_rents_46 rfl ?_
      refine xr_callV (n9 := 1) (rc' := 0) (rs' := 0) (k_M_done hG hM.1) hM.1.1 rfl q2299 q2301 qs43 q96 q2302 (by decide +kernel) rfl ⟨by decide, Nat.le_of_ble_eq_true rfl⟩ ⟨Nat.le_of_ble_eq_true rfl, Nat.le_of_ble_eq_true rfl⟩ (Nat.le_of_ble_eq_true rfl) dX4_rents_47 rfl (fun r w47 hw => ?_) (fun _ _ _ h => h.elim)
      obtain ⟨rfl, hw⟩ := hw
      have hM := hM.tr hw
      refine xr_ireturn rfl rfl dX4_rents_50 ?_
      rw [hpo]
      exact ⟨0, _, oRent P b v, rfl, hM.toP (fun k h0 h1 => by
        simp only [oRent, updI, Int.add_zero]
        repeat' split
        all_goals first | rfl | omega), Or.inr (Or.inr (Or.inr ⟨by omega, by first | trivial | omega, rfl, rfl, rfl, rfl⟩))⟩
    · skip
      try simp only [decide_eq_true_eq, decide_eq_false_iff_not] at c17
      refine xr_bipush dX4_rents_20 (by decide) ?_
      refine xr_ireturn rfl rfl dX4_rents_22 ?_
      rw [hpo]
      exact ⟨-2, F, P, rfl, hM, Or.inr (Or.inl ⟨by omega, by omega, rfl, rfl, rfl⟩)⟩
  · skip
    try simp only [decide_eq_true_eq, decide_eq_false_iff_not] at c5
    refine xr_iconst dX4_rents_8 ?_
    refine xr_ireturn rfl rfl dX4_rents_9 ?_
    rw [hpo]
    exact ⟨-1, F, P, rfl, hM, Or.inl ⟨by omega, rfl, rfl, rfl⟩⟩
theorem k_M_louds {g : GG} {w : WW} {m : Nat} {A : Int → Nat} {F P : Int → Int} {C : Int → Int → Int} {b v N : Int} (hG : Base g) (hM : MD g w m A F P C) (hB : PB P N)  (hr : (-2147483648 ≤ b ∧ b < 2147483648) ∧ (-2147483648 ≤ v ∧ v < 2147483648)) : Ct g yX4_louds (.code yX4_louds cX4_louds 4 (some .int)) 2 43 0 0 w [.ref m, .int (iI b), .int (iI v)] (fun r_ w1 => ∃ (r : Int) (F1 P1 : Int → Int), r_ = some (.int (iI r)) ∧ MDF g w w1 m A F1 P1 C ∧ MA (0 ≤ b ∧ b < P 1) (1 ≤ v ∧ v ≤ 9) (((0, 0) : Int × Int)) (P (72 + 4 * b)) P (oLoud P b v) F r F1 P1) xF := by
  refine Ct.of (lv := [some _, some _, some _, none]) hG (by decide +kernel) (Nat.le_of_ble_eq_true rfl) rfl ?_
  intro z hg hpo hxp hnm htab
  subst hg
  have hM : MDF (zg z) w w m A F P C := ⟨hM, Fr.rf⟩
  have hgg := hB.g
  refine xr_aload_n dX4_louds_0 rfl (by first | rfl | exact isRef_rf _) ?_
  refine xr_iload_n dX4_louds_1 rfl ?_
  refine xr_callV (n9 := 1) (rc' := 0) (rs' := 0) (k_M_isFountain hG hM.1 hB (by omega)) hM.1.1 rfl q2343 q2345 qs51 q96 q2346 (by decide +kernel) rfl ⟨by decide, Nat.le_of_ble_eq_true rfl⟩ ⟨Nat.le_of_ble_eq_true rfl, Nat.le_of_ble_eq_true rfl⟩ (Nat.le_of_ble_eq_true rfl) dX4_louds_2 rfl (xk_r ?_) (fun _ _ _ h => h.elim)
  refine xr_ifb_ne (tgt := 10) dX4_louds_5 (by decide) (fun c5 => ?_) (fun c5 => ?_)
  · skip
    try simp only [decide_eq_true_eq, decide_eq_false_iff_not] at c5
    refine xr_iload_n dX4_louds_10 rfl ?_
    refine xr_iconst dX4_louds_11 ?_
    refine xr_bipush dX4_louds_12 (by decide) ?_
    refine xr_callS (n9 := 3) (rc' := 0) (rs' := 0) (k_M_in hG (by omega)) q2280 q2281 q96 q2282 (by decide +kernel) rfl ⟨by decide, Nat.le_of_ble_eq_true rfl⟩ ⟨Nat.le_of_ble_eq_true rfl, Nat.le_of_ble_eq_true rfl⟩ (Nat.le_of_ble_eq_true rfl) dX4_louds_14 rfl (xk_r ?_) (fun _ _ _ h => h.elim)
    refine xr_ifb_ne (tgt := 23) dX4_louds_17 (by decide) (fun c17 => ?_) (fun c17 => ?_)
    · skip
      try simp only [decide_eq_true_eq, decide_eq_false_iff_not] at c17
      refine xr_aload_n dX4_louds_23 rfl (by first | rfl | exact isRef_rf _) ?_
      refine xr_iload_n dX4_louds_24 rfl ?_
      refine xr_iconst dX4_louds_25 ?_
      refine xr_callV (n9 := 2) (rc' := 0) (rs' := 0) (k_M_fountain_2 hG hM.1 (by omega)) hM.1.1 rfl q2295 q2297 qs42 q96 q2298 (by decide +kernel) rfl ⟨by decide, Nat.le_of_ble_eq_true rfl⟩ ⟨Nat.le_of_ble_eq_true rfl, Nat.le_of_ble_eq_true rfl⟩ (Nat.le_of_ble_eq_true rfl) dX4_louds_26 rfl (xk_r ?_) (fun _ _ _ h => h.elim)
      refine xr_istore_n (lv' := [some _, some _, some _, some _]) dX4_louds_29 (by decide) rfl rfl ?_
      refine xr_aload_n dX4_louds_30 rfl (by first | rfl | exact isRef_rf _) ?_
      refine xr_getfield (ci := 14) (T := TX4) (N := 23) (i := 1) hM.1.1 rfl (by decide) in_X4 q2192 (.inl rfl) dX4_louds_31 (by rfl) ?_
      refine xr_bipush dX4_louds_34 (by decide) ?_
      refine xr_iconst dX4_louds_36 ?_
      refine xr_iload_n dX4_louds_37 rfl ?_
      refine xr_imul dX4_louds_38 ?_
      refine xr_iadd dX4_louds_39 ?_
      refine xr_iconst dX4_louds_40 ?_
      refine xr_iadd dX4_louds_41 ?_
      refine xr_iload_n dX4_louds_42 rfl ?_
      refine xr_mstS hM (by omega) dX4_louds_43 (fun w43 hM => ?_)
      refine xr_aload_n dX4_louds_44 rfl (by first | rfl | exact isRef_rf _) ?_
      refine xr_iload_n dX4_louds_45 rfl ?_
      refine xr_callV (n9 := 1) (rc' := 0) (rs' := 0) (k_M_done hG hM.1) hM.1.1 rfl q2299 q2301 qs43 q96 q2302 (by decide +kernel) rfl ⟨by decide, Nat.le_of_ble_eq_true rfl⟩ ⟨Nat.le_of_ble_eq_true rfl, Nat.le_of_ble_eq_true rfl⟩ (Nat.le_of_ble_eq_true rfl) dX4_louds_46 rfl (fun r w46 hw => ?_) (fun _ _ _ h => h.elim)
      obtain ⟨rfl, hw⟩ := hw
      have hM := hM.tr hw
      refine xr_ireturn rfl rfl dX4_louds_49 ?_
      rw [hpo]
      exact ⟨0, _, oLoud P b v, rfl, hM.toP (fun k h0 h1 => by
        simp only [oLoud, updI, Int.add_zero]
        repeat' split
        all_goals first | rfl | omega), Or.inr (Or.inr (Or.inr ⟨by omega, by first | trivial | omega, rfl, rfl, rfl, rfl⟩))⟩
    · skip
      try simp only [decide_eq_true_eq, decide_eq_false_iff_not] at c17
      refine xr_bipush dX4_louds_20 (by decide) ?_
      refine xr_ireturn rfl rfl dX4_louds_22 ?_
      rw [hpo]
      exact ⟨-2, F, P, rfl, hM, Or.inr (Or.inl ⟨by omega, by omega, rfl, rfl, rfl⟩)⟩
  · skip
    try simp only [decide_eq_true_eq, decide_eq_false_iff_not] at c5
    refine xr_iconst dX4_louds_8 ?_
    refine xr_ireturn rfl rfl dX4_louds_9 ?_
    rw [hpo]
    exact ⟨-1, F, P, rfl, hM, Or.inl ⟨by omega, rfl, rfl, rfl⟩⟩
theorem k_M_switches {g : GG} {w : WW} {m : Nat} {A : Int → Nat} {F P : Int → Int} {C : Int → Int → Int} {b N : Int} (hG : Base g) (hM : MD g w m A F P C) (hB : PB P N)  (hr : (-2147483648 ≤ b ∧ b < 2147483648)) : Ct g yX4_switches (.code yX4_switches cX4_switches 2 (some .int)) 2 43 0 0 w [.ref m, .int (iI b)] (fun r_ w1 => ∃ (r : Int) (F1 P1 : Int → Int), r_ = some (.int (iI r)) ∧ MDF g w w1 m A F1 P1 C ∧ MA (0 ≤ b ∧ b < P 1) (True) (((0, 0) : Int × Int)) (1 - P (73 + 4 * b)) P (oSwitch P b) F r F1 P1) xF := by
  refine Ct.of (lv := [some _, some _]) hG (by decide +kernel) (Nat.le_of_ble_eq_true rfl) rfl ?_
  intro z hg hpo hxp hnm htab
  subst hg
  have hM : MDF (zg z) w w m A F P C := ⟨hM, Fr.rf⟩
  have hgg := hB.g
  refine xr_aload_n dX4_switches_0 rfl (by first | rfl | exact isRef_rf _) ?_
  refine xr_iload_n dX4_switches_1 rfl ?_
  refine xr_callV (n9 := 1) (rc' := 0) (rs' := 0) (k_M_isFountain hG hM.1 hB (by omega)) hM.1.1 rfl q2343 q2345 qs51 q96 q2346 (by decide +kernel) rfl ⟨by decide, Nat.le_of_ble_eq_true rfl⟩ ⟨Nat.le_of_ble_eq_true rfl, Nat.le_of_ble_eq_true rfl⟩ (Nat.le_of_ble_eq_true rfl) dX4_switches_2 rfl (xk_r ?_) (fun _ _ _ h => h.elim)
  refine xr_ifb_ne (tgt := 10) dX4_switches_5 (by decide) (fun c5 => ?_) (fun c5 => ?_)
  · skip
    try simp only [decide_eq_true_eq, decide_eq_false_iff_not] at c5
    refine xr_aload_n dX4_switches_10 rfl (by first | rfl | exact isRef_rf _) ?_
    refine xr_getfield (ci := 14) (T := TX4) (N := 23) (i := 1) hM.1.1 rfl (by decide) in_X4 q2192 (.inl rfl) dX4_switches_11 (by rfl) ?_
    refine xr_bipush dX4_switches_14 (by decide) ?_
    refine xr_iconst dX4_switches_16 ?_
    refine xr_iload_n dX4_switches_17 rfl ?_
    refine xr_imul dX4_switches_18 ?_
    refine xr_iadd dX4_switches_19 ?_
    refine xr_iconst dX4_switches_20 ?_
    refine xr_iadd dX4_switches_21 ?_
    refine xr_iconst dX4_switches_22 ?_
    refine xr_aload_n dX4_switches_23 rfl (by first | rfl | exact isRef_rf _) ?_
    refine xr_iload_n dX4_switches_24 rfl ?_
    refine xr_iconst dX4_switches_25 ?_
    refine xr_callV (n9 := 2) (rc' := 0) (rs' := 0) (k_M_fountain_3 hG hM.1 (by omega)) hM.1.1 rfl q2295 q2297 qs42 q96 q2298 (by decide +kernel) rfl ⟨by decide, Nat.le_of_ble_eq_true rfl⟩ ⟨Nat.le_of_ble_eq_true rfl, Nat.le_of_ble_eq_true rfl⟩ (Nat.le_of_ble_eq_true rfl) dX4_switches_26 rfl (xk_r ?_) (fun _ _ _ h => h.elim)
    refine xr_isub dX4_switches_29 ?_
    refine xr_mstS hM (by omega) dX4_switches_30 (fun w30 hM => ?_)
    refine xr_aload_n dX4_switches_31 rfl (by first | rfl | exact isRef_rf _) ?_
    refine xr_aload_n dX4_switches_32 rfl (by first | rfl | exact isRef_rf _) ?_
    refine xr_iload_n dX4_switches_33 rfl ?_
    refine xr_iconst dX4_switches_34 ?_
    refine xr_callV (n9 := 2) (rc' := 0) (rs' := 0) (k_M_fountain_3 hG hM.1 (by omega)) hM.1.1 rfl q2295 q2297 qs42 q96 q2298 (by decide +kernel) rfl ⟨by decide, Nat.le_of_ble_eq_true rfl⟩ ⟨Nat.le_of_ble_eq_true rfl, Nat.le_of_ble_eq_true rfl⟩ (Nat.le_of_ble_eq_true rfl) dX4_switches_35 rfl (xk_r ?_) (fun _ _ _ h => h.elim)
    refine xr_callV (n9 := 1) (rc' := 0) (rs' := 0) (k_M_done hG hM.1) hM.1.1 rfl q2299 q2301 qs43 q96 q2302 (by decide +kernel) rfl ⟨by decide, Nat.le_of_ble_eq_true rfl⟩ ⟨Nat.le_of_ble_eq_true rfl, Nat.le_of_ble_eq_true rfl⟩ (Nat.le_of_ble_eq_true rfl) dX4_switches_38 rfl (fun r w38 hw => ?_) (fun _ _ _ h => h.elim)
    obtain ⟨rfl, hw⟩ := hw
    have hM := hM.tr hw
    refine xr_ireturn rfl rfl dX4_switches_41 ?_
    rw [hpo]
    exact ⟨0, _, oSwitch P b, rfl, hM.toP (fun k h0 h1 => by
      simp only [oSwitch, updI, Int.add_zero]
      repeat' split
      all_goals first | rfl | omega), Or.inr (Or.inr (Or.inr ⟨by omega, by first | trivial | omega, rfl, rfl, by congr 1; simp only [updI]; rw [if_pos (by omega)], rfl⟩))⟩
  · skip
    try simp only [decide_eq_true_eq, decide_eq_false_iff_not] at c5
    refine xr_iconst dX4_switches_8 ?_
    refine xr_ireturn rfl rfl dX4_switches_9 ?_
    rw [hpo]
    exact ⟨-1, F, P, rfl, hM, Or.inl ⟨by omega, rfl, rfl, rfl⟩⟩
theorem k_M_limits {g : GG} {w : WW} {m : Nat} {A : Int → Nat} {F P : Int → Int} {C : Int → Int → Int} {v N : Int} (hG : Base g) (hM : MD g w m A F P C) (hB : PB P N)  (hr : (-2147483648 ≤ v ∧ v < 2147483648)) : Ct g yX4_limits (.code yX4_limits cX4_limits 3 (some .int)) 1 22 0 0 w [.ref m, .int (iI v)] (fun r_ w1 => ∃ (r : Int) (F1 P1 : Int → Int), r_ = some (.int (iI r)) ∧ MDF g w w1 m A F1 P1 C ∧ MA (0 ≤ v ∧ v ≤ 20) (True) (((0, 0) : Int × Int)) (P 3) P (oLimit P v) F r F1 P1) xF := by
  refine Ct.of (lv := [some _, some _, none]) hG (by decide +kernel) (Nat.le_of_ble_eq_true rfl) rfl ?_
  intro z hg hpo hxp hnm htab
  subst hg
  have hM : MDF (zg z) w w m A F P C := ⟨hM, Fr.rf⟩
  have hgg := hB.g
  refine xr_iload_n dX4_limits_0 rfl ?_
  refine xr_iconst dX4_limits_1 ?_
  refine xr_bipush dX4_limits_2 (by decide) ?_
  refine xr_callS (n9 := 3) (rc' := 0) (rs' := 0) (k_M_in hG (by omega)) q2280 q2281 q96 q2282 (by decide +kernel) rfl ⟨by decide, Nat.le_of_ble_eq_true rfl⟩ ⟨Nat.le_of_ble_eq_true rfl, Nat.le_of_ble_eq_true rfl⟩ (Nat.le_of_ble_eq_true rfl) dX4_limits_4 rfl (xk_r ?_) (fun _ _ _ h => h.elim)
  refine xr_ifb_ne (tgt := 12) dX4_limits_7 (by decide) (fun c7 => ?_) (fun c7 => ?_)
  · skip
    try simp only [decide_eq_true_eq, decide_eq_false_iff_not] at c7
    refine xr_aload_n dX4_limits_12 rfl (by first | rfl | exact isRef_rf _) ?_
    refine xr_getfield (ci := 14) (T := TX4) (N := 23) (i := 1) hM.1.1 rfl (by decide) in_X4 q2192 (.inl rfl) dX4_limits_13 (by rfl) ?_
    refine xr_iconst dX4_limits_16 ?_
    refine xr_iaload hM.1.2.1 (by omega) (by decide) dX4_limits_17 ?_
    refine xr_istore_n (lv' := [some _, some _, some _]) dX4_limits_18 (by decide) rfl rfl ?_
    refine xr_aload_n dX4_limits_19 rfl (by first | rfl | exact isRef_rf _) ?_
    refine xr_getfield (ci := 14) (T := TX4) (N := 23) (i := 1) hM.1.1 rfl (by decide) in_X4 q2192 (.inl rfl) dX4_limits_20 (by rfl) ?_
    refine xr_iconst dX4_limits_23 ?_
    refine xr_iload_n dX4_limits_24 rfl ?_
    refine xr_mstS hM (by omega) dX4_limits_25 (fun w25 hM => ?_)
    refine xr_aload_n dX4_limits_26 rfl (by first | rfl | exact isRef_rf _) ?_
    refine xr_iload_n dX4_limits_27 rfl ?_
    refine xr_callV (n9 := 1) (rc' := 0) (rs' := 0) (k_M_done hG hM.1) hM.1.1 rfl q2299 q2301 qs43 q96 q2302 (by decide +kernel) rfl ⟨by decide, Nat.le_of_ble_eq_true rfl⟩ ⟨Nat.le_of_ble_eq_true rfl, Nat.le_of_ble_eq_true rfl⟩ (Nat.le_of_ble_eq_true rfl) dX4_limits_28 rfl (fun r w28 hw => ?_) (fun _ _ _ h => h.elim)
    obtain ⟨rfl, hw⟩ := hw
    have hM := hM.tr hw
    refine xr_ireturn rfl rfl dX4_limits_31 ?_
    rw [hpo]
    exact ⟨0, _, oLimit P v, rfl, hM.toP (fun k h0 h1 => by
      simp only [oLimit, updI, Int.add_zero]
      repeat' split
      all_goals first | rfl | omega), Or.inr (Or.inr (Or.inr ⟨by omega, by first | trivial | omega, rfl, rfl, rfl, rfl⟩))⟩
  · skip
    try simp only [decide_eq_true_eq, decide_eq_false_iff_not] at c7
    refine xr_iconst dX4_limits_10 ?_
    refine xr_ireturn rfl rfl dX4_limits_11 ?_
    rw [hpo]
    exact ⟨-1, F, P, rfl, hM, Or.inl ⟨by omega, rfl, rfl, rfl⟩⟩
