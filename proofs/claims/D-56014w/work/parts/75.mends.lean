/-! 75.mends.lean.txt (written by tools/walker.py)  -/
set_option maxRecDepth 100000
/-! what the other model remembers -/
def shH (f : Int → Int) (k : Int) : Int → Int := fun j => if 0 ≤ j ∧ j < k then f (j + 102) else f j
def puH (f fr : Int → Int) (a k : Int) : Int → Int := fun j => if a ≤ j ∧ j < a + k then fr (j - a) else f j
def CH (F : Int → Int) (C : Int → Int → Int) (F2 : Int → Int) (C2 : Int → Int → Int) : Prop := ∃ (h5 : Int → Int) (K5 : Int), ((F 6 = 8 ∧ K5 = 8 ∧ h5 = shH (C 4) 714) ∨ (F 6 ≠ 8 ∧ K5 = F 6 + 1 ∧ h5 = C 4)) ∧ F2 = updI F 6 K5 ∧ C2 = updC C 4 (puH h5 (C 2) (102 * (K5 - 1)) 102)
def ED (r code : Int) (F : Int → Int) (C : Int → Int → Int) (y : Int) (F2 : Int → Int) (C2 : Int → Int → Int) : Prop :=
  (r = 0 ∧ y = F 18 ∧ CH F C F2 C2) ∨ (r < 0 ∧ y = 0 ∧ F2 = updI F 0 (-r) ∧ C2 = C) ∨ (0 < r ∧ y = 0 ∧ F2 = updI (updI (updI (updI F 14 r) 15 (F 17)) 16 0) 0 code ∧ C2 = C)
theorem k_M_changed {g : GG} {w : WW} {m : Nat} {A : Int → Nat} {F P : Int → Int} {C : Int → Int → Int} {a : Int} (hG : Base g) (hM : MD g w m A F P C) (h6 : 0 ≤ F 6 ∧ F 6 ≤ 8) : Ct g yX4_changed (.code yX4_changed cX4_changed 3 (some .int)) 0 0 0 0 w [.ref m, .int (iI a)] (fun r_ w1 => ∃ (F2 : Int → Int) (C2 : Int → Int → Int), r_ = some (.int (iI a)) ∧ MDF g w w1 m A F2 P C2 ∧ CH F C F2 C2) xF := by
  refine Ct.of (lv := [some _, some _, none]) hG (by decide +kernel) (Nat.le_of_ble_eq_true rfl) rfl ?_
  intro z hg hpo hxp hnm htab
  subst hg
  have hM : MDF (zg z) w w m A F P C := ⟨hM, Fr.rf⟩
  refine xr_aload_n dX4_changed_0 rfl (by first | rfl | exact isRef_rf _) ?_
  refine xr_getfield (ci := 14) (T := TX4) (N := 23) (i := 6) hM.1.1 rfl (by decide) in_X4 q2197 (.inl rfl) dX4_changed_1 (by rfl) ?_
  refine xr_bipush dX4_changed_4 (by decide) ?_
  refine xr_icmp_ne (tgt := 42) dX4_changed_6 (by decide) (by omega) (fun c6 => ?_) (fun c6 => ?_)
  · skip
    refine xr_aload_n dX4_changed_42 rfl (by first | rfl | exact isRef_rf _) ?_
    refine xr_dup dX4_changed_43 (by first | rfl | exact cat_rf _) ?_
    refine xr_getfield (ci := 14) (T := TX4) (N := 23) (i := 6) hM.1.1 rfl (by decide) in_X4 q2197 (.inl rfl) dX4_changed_44 (by rfl) ?_
    refine xr_iconst dX4_changed_47 ?_
    refine xr_iadd dX4_changed_48 ?_
    refine xr_putfield (ci := 14) (T := TX4) (N := 23) (i := 6) (fs' := [_, _, _, _, _, _, _, _, _, _, _, _, _, _, _, _, _, _, _, _, _, _, _]) hM.1.1 rfl (by decide) in_X4 tyX4 tyX4_ok nmX4 q2197 (.inl rfl) rfl dX4_changed_49 (by rfl) (by rfl) (by simp) (by rfl) (.inl rfl) (fun _ => ?_)
    refine xr_mput (i := 6) hM (by rfl) (fun w49 hM => ?_)
    obtain ⟨h5, hh5⟩ : ∃ h5, h5 = C 4 := ⟨_, rfl⟩
    obtain ⟨K5, hK5⟩ : ∃ K5 : Int, K5 = F 6 + 1 := ⟨_, rfl⟩
    rw [← hK5] at hM
    have hM := hM.toC (C' := updC C 4 h5) (fun j i h0 h1 => by
      by_cases hj : j = 4
      · subst hj; rw [updC_at, hh5]
      · rw [updC_ne hj])
    have hD : (F 6 = 8 ∧ K5 = 8 ∧ h5 = shH (C 4) 714) ∨ (F 6 ≠ 8 ∧ K5 = F 6 + 1 ∧ h5 = C 4) := Or.inr ⟨by omega, hK5, hh5⟩
    refine xr_iconst dX4_changed_52 ?_
    refine xr_istore_n (lv' := [some _, some _, some _]) dX4_changed_53 (by decide) rfl rfl ?_
    have lp54 : ∀ (fu54 : Nat) (w9 : WW) (k : Int), 0 ≤ k → k ≤ 102 → 102 - k < fu54 → MDF (zg z) w w9 m A (updI F 6 K5) P (updC C 4 (puH h5 (C 2) (102 * (K5 - 1)) k)) → XJ z yX4_changed.cls cX4_changed 3 (some .int) 0 0 w9 (0 * fu54 + 0) (0 * fu54 + 0) 54 [some (.ref m), some (.int (iI a)), some (.int (iI k))] [] := by
      intro fu54
      induction fu54 with
      | zero =>
        intro w9 k hk0 hk1 hfu hM
        omega
      | succ fu54 ih54 =>
        intro w9 k hk0 hk1 hfu hM
        refine xr_iload_n dX4_changed_54 rfl ?_
        refine xr_bipush dX4_changed_55 (by decide) ?_
        refine xr_icmp_ge (tgt := 88) dX4_changed_57 (by decide) (by omega) (fun c57 => ?_) (fun c57 => ?_)
        · skip
          refine xr_iload_n dX4_changed_88 rfl ?_
          refine xr_ireturn rfl rfl dX4_changed_89 ?_
          rw [hpo]
          have hk7 : k = 102 := by omega
          rw [hk7] at hM
          exact ⟨_, _, rfl, hM, h5, K5, hD, rfl, rfl⟩
        · skip
          refine xr_aload_n dX4_changed_60 rfl (by first | rfl | exact isRef_rf _) ?_
          refine xr_getfield (ci := 14) (T := TX4) (N := 23) (i := 4) hM.1.1 rfl (by decide) in_X4 q2195 (.inl rfl) dX4_changed_61 (by rfl) ?_
          refine xr_bipush dX4_changed_64 (by decide) ?_
          refine xr_aload_n dX4_changed_66 rfl (by first | rfl | exact isRef_rf _) ?_
          refine xr_getfield (ci := 14) (T := TX4) (N := 23) (i := 6) hM.1.1 rfl (by decide) in_X4 q2197 (.inl rfl) dX4_changed_67 (by rfl) ?_
          rw [show updI F 6 K5 6 = K5 from updI_eq]
          refine xr_iconst dX4_changed_70 ?_
          refine xr_isub dX4_changed_71 ?_
          refine xr_imul dX4_changed_72 ?_
          refine xr_iload_n dX4_changed_73 rfl ?_
          refine xr_iadd dX4_changed_74 ?_
          refine xr_aload_n dX4_changed_75 rfl (by first | rfl | exact isRef_rf _) ?_
          refine xr_getfield (ci := 14) (T := TX4) (N := 23) (i := 2) hM.1.1 rfl (by decide) in_X4 q2193 (.inl rfl) dX4_changed_76 (by rfl) ?_
          refine xr_iload_n dX4_changed_79 rfl ?_
          refine xr_iaload (hM.1.2.2.1 2 (by decide)) (show (0 : Int) ≤ _ ∧ _ < ((102 : Nat) : Int) from by omega) (by decide) dX4_changed_80 ?_
          refine xr_mstC (j := 4) hM (by decide) (show (0 : Int) ≤ _ ∧ _ < ((816 : Nat) : Int) from by omega) dX4_changed_81 (fun w81 hM => ?_)
          refine xr_iinc (lv' := [some _, some _, some _]) dX4_changed_82 rfl (by decide) rfl rfl ?_
          refine xr_goto (tgt := 54) dX4_changed_85 (by decide) ?_
          refine xr_wk (rc' := 0 * fu54 + 0) (rs' := 0 * fu54 + 0) ⟨by omega, by omega⟩ (ih54 _ (k + 1) (by omega) (by omega) (by omega) (hM.toC (fun j i h0 h1 => by
    by_cases hj : j = 4
    · subst hj; simp only [updC_at, updI, puH]
      rw [updC_ne (show (2 : Int) ≠ 4 by decide)]
      by_cases e9 : i = 102 * (K5 - 1) + k
      · rw [if_pos e9, if_pos (by omega), e9]; congr 1; omega
      · rw [if_neg e9]
        by_cases e8 : 102 * (K5 - 1) ≤ i ∧ i < 102 * (K5 - 1) + k
        · rw [if_pos e8, if_pos (by omega)]
        · rw [if_neg e8, if_neg (by omega)]
    · simp only [updC_ne hj])))
    refine xr_wk (rc' := 0 * 103 + 0) (rs' := 0 * 103 + 0) ⟨by omega, by omega⟩ (lp54 103 _ 0 (by omega) (by omega) (by omega) (hM.toC (fun j i h0 h1 => by
    by_cases hj : j = 4
    · subst hj; rw [updC_at, updC_at]
      unfold puH; rw [if_neg (by omega)]
    · rw [updC_ne hj, updC_ne hj])))
  · skip
    refine xr_iconst dX4_changed_9 ?_
    refine xr_istore_n (lv' := [some _, some _, some _]) dX4_changed_10 (by decide) rfl rfl ?_
    have lp11 : ∀ (fu11 : Nat) (w9 : WW) (k : Int), 0 ≤ k → k ≤ 714 → 714 - k < fu11 → MDF (zg z) w w9 m A F P (updC C 4 (shH (C 4) k)) → XJ z yX4_changed.cls cX4_changed 3 (some .int) 0 0 w9 (0 * fu11 + 0) (0 * fu11 + 0) 11 [some (.ref m), some (.int (iI a)), some (.int (iI k))] [] := by
      intro fu11
      induction fu11 with
      | zero =>
        intro w9 k hk0 hk1 hfu hM
        omega
      | succ fu11 ih11 =>
        intro w9 k hk0 hk1 hfu hM
        refine xr_iload_n dX4_changed_11 rfl ?_
        refine xr_sipush dX4_changed_12 (by decide) ?_
        refine xr_icmp_ge (tgt := 39) dX4_changed_15 (by decide) (by omega) (fun c15 => ?_) (fun c15 => ?_)
        · skip
          obtain ⟨h5, hh5⟩ : ∃ h5, h5 = shH (C 4) 714 := ⟨_, rfl⟩
          obtain ⟨K5, hK5⟩ : ∃ K5 : Int, K5 = 8 := ⟨_, rfl⟩
          have hk7 : k = 714 := by omega
          rw [hk7, ← hh5] at hM
          have hM : MDF (zg z) w w9 m A (updI F 6 K5) P (updC C 4 h5) := ⟨hM.1.toF (fun i => by
            by_cases h : i = 6
            · rw [h, updI_eq]; omega
            · rw [updI_ne h]), hM.2⟩
          have hD : (F 6 = 8 ∧ K5 = 8 ∧ h5 = shH (C 4) 714) ∨ (F 6 ≠ 8 ∧ K5 = F 6 + 1 ∧ h5 = C 4) := Or.inl ⟨by omega, hK5, hh5⟩
          refine xr_goto (tgt := 52) dX4_changed_39 (by decide) ?_
          refine xr_iconst dX4_changed_52 ?_
          refine xr_istore_n (lv' := [some _, some _, some _]) dX4_changed_53 (by decide) rfl rfl ?_
          have lp54 : ∀ (fu54 : Nat) (w9 : WW) (k : Int), 0 ≤ k → k ≤ 102 → 102 - k < fu54 → MDF (zg z) w w9 m A (updI F 6 K5) P (updC C 4 (puH h5 (C 2) (102 * (K5 - 1)) k)) → XJ z yX4_changed.cls cX4_changed 3 (some .int) 0 0 w9 (0 * fu11 + 0 * fu54 + 0) (0 * fu11 + 0 * fu54 + 0) 54 [some (.ref m), some (.int (iI a)), some (.int (iI k))] [] := by
            intro fu54
            induction fu54 with
            | zero =>
              intro w9 k hk0 hk1 hfu hM
              omega
            | succ fu54 ih54 =>
              intro w9 k hk0 hk1 hfu hM
              refine xr_iload_n dX4_changed_54 rfl ?_
              refine xr_bipush dX4_changed_55 (by decide) ?_
              refine xr_icmp_ge (tgt := 88) dX4_changed_57 (by decide) (by omega) (fun c57 => ?_) (fun c57 => ?_)
              · skip
                refine xr_iload_n dX4_changed_88 rfl ?_
                refine xr_ireturn rfl rfl dX4_changed_89 ?_
                rw [hpo]
                have hk7 : k = 102 := by omega
                rw [hk7] at hM
                exact ⟨_, _, rfl, hM, h5, K5, hD, rfl, rfl⟩
              · skip
                refine xr_aload_n dX4_changed_60 rfl (by first | rfl | exact isRef_rf _) ?_
                refine xr_getfield (ci := 14) (T := TX4) (N := 23) (i := 4) hM.1.1 rfl (by decide) in_X4 q2195 (.inl rfl) dX4_changed_61 (by rfl) ?_
                refine xr_bipush dX4_changed_64 (by decide) ?_
                refine xr_aload_n dX4_changed_66 rfl (by first | rfl | exact isRef_rf _) ?_
                refine xr_getfield (ci := 14) (T := TX4) (N := 23) (i := 6) hM.1.1 rfl (by decide) in_X4 q2197 (.inl rfl) dX4_changed_67 (by rfl) ?_
                rw [show updI F 6 K5 6 = K5 from updI_eq]
                refine xr_iconst dX4_changed_70 ?_
                refine xr_isub dX4_changed_71 ?_
                refine xr_imul dX4_changed_72 ?_
                refine xr_iload_n dX4_changed_73 rfl ?_
                refine xr_iadd dX4_changed_74 ?_
                refine xr_aload_n dX4_changed_75 rfl (by first | rfl | exact isRef_rf _) ?_
                refine xr_getfield (ci := 14) (T := TX4) (N := 23) (i := 2) hM.1.1 rfl (by decide) in_X4 q2193 (.inl rfl) dX4_changed_76 (by rfl) ?_
                refine xr_iload_n dX4_changed_79 rfl ?_
                refine xr_iaload (hM.1.2.2.1 2 (by decide)) (show (0 : Int) ≤ _ ∧ _ < ((102 : Nat) : Int) from by omega) (by decide) dX4_changed_80 ?_
                refine xr_mstC (j := 4) hM (by decide) (show (0 : Int) ≤ _ ∧ _ < ((816 : Nat) : Int) from by omega) dX4_changed_81 (fun w81 hM => ?_)
                refine xr_iinc (lv' := [some _, some _, some _]) dX4_changed_82 rfl (by decide) rfl rfl ?_
                refine xr_goto (tgt := 54) dX4_changed_85 (by decide) ?_
                refine xr_wk (rc' := 0 * fu11 + 0 * fu54 + 0) (rs' := 0 * fu11 + 0 * fu54 + 0) ⟨by omega, by omega⟩ (ih54 _ (k + 1) (by omega) (by omega) (by omega) (hM.toC (fun j i h0 h1 => by
    by_cases hj : j = 4
    · subst hj; simp only [updC_at, updI, puH]
      rw [updC_ne (show (2 : Int) ≠ 4 by decide)]
      by_cases e9 : i = 102 * (K5 - 1) + k
      · rw [if_pos e9, if_pos (by omega), e9]; congr 1; omega
      · rw [if_neg e9]
        by_cases e8 : 102 * (K5 - 1) ≤ i ∧ i < 102 * (K5 - 1) + k
        · rw [if_pos e8, if_pos (by omega)]
        · rw [if_neg e8, if_neg (by omega)]
    · simp only [updC_ne hj])))
          refine xr_wk (rc' := 0 * fu11 + 0 * 103 + 0) (rs' := 0 * fu11 + 0 * 103 + 0) ⟨by omega, by omega⟩ (lp54 103 _ 0 (by omega) (by omega) (by omega) (hM.toC (fun j i h0 h1 => by
    by_cases hj : j = 4
    · subst hj; rw [updC_at, updC_at]
      unfold puH; rw [if_neg (by omega)]
    · rw [updC_ne hj, updC_ne hj])))
        · skip
          refine xr_aload_n dX4_changed_18 rfl (by first | rfl | exact isRef_rf _) ?_
          refine xr_getfield (ci := 14) (T := TX4) (N := 23) (i := 4) hM.1.1 rfl (by decide) in_X4 q2195 (.inl rfl) dX4_changed_19 (by rfl) ?_
          refine xr_iload_n dX4_changed_22 rfl ?_
          refine xr_aload_n dX4_changed_23 rfl (by first | rfl | exact isRef_rf _) ?_
          refine xr_getfield (ci := 14) (T := TX4) (N := 23) (i := 4) hM.1.1 rfl (by decide) in_X4 q2195 (.inl rfl) dX4_changed_24 (by rfl) ?_
          refine xr_iload_n dX4_changed_27 rfl ?_
          refine xr_bipush dX4_changed_28 (by decide) ?_
          refine xr_iadd dX4_changed_30 ?_
          refine xr_iaload (hM.1.2.2.1 4 (by decide)) (show (0 : Int) ≤ _ ∧ _ < ((816 : Nat) : Int) from by omega) (by decide) dX4_changed_31 ?_
          refine xr_mstC (j := 4) hM (by decide) (show (0 : Int) ≤ _ ∧ _ < ((816 : Nat) : Int) from by omega) dX4_changed_32 (fun w32 hM => ?_)
          refine xr_iinc (lv' := [some _, some _, some _]) dX4_changed_33 rfl (by decide) rfl rfl ?_
          refine xr_goto (tgt := 11) dX4_changed_36 (by decide) ?_
          refine xr_wk (rc' := 0 * fu11 + 0) (rs' := 0 * fu11 + 0) ⟨by omega, by omega⟩ (ih11 _ (k + 1) (by omega) (by omega) (by omega) (hM.toC (fun j i h0 h1 => by
    by_cases hj : j = 4
    · subst hj; simp only [updC_at, updI, shH]
      rw [if_neg (show ¬ (0 ≤ k + 102 ∧ k + 102 < k) by omega)]
      by_cases e9 : i = k
      · rw [if_pos e9, if_pos (by omega), e9]
      · rw [if_neg e9]
        by_cases e8 : i < k
        · rw [if_pos (by omega), if_pos (by omega)]
        · rw [if_neg (by omega), if_neg (by omega)]
    · simp only [updC_ne hj])))
    refine xr_wk (rc' := 0 * 715 + 0) (rs' := 0 * 715 + 0) ⟨by omega, by omega⟩ (lp11 715 w 0 (by omega) (by omega) (by omega) (hM.toC (fun j i h0 h1 => by
    by_cases hj : j = 4
    · subst hj; rw [updC_at]
      unfold shH; rw [if_neg (by omega)]
    · rw [updC_ne hj])))
theorem k_M_ends {g : GG} {w : WW} {m : Nat} {A : Int → Nat} {F P : Int → Int} {C : Int → Int → Int} {r code : Int} (hG : Base g) (hM : MD g w m A F P C) (h6 : 0 ≤ F 6 ∧ F 6 ≤ 8) (hr : -100 ≤ r ∧ r ≤ 100) : Ct g yX4_ends (.code yX4_ends cX4_ends 3 (some .int)) 1 22 0 0 w [.ref m, .int (iI r), .int (iI code)] (fun r_ w1 => ∃ (y : Int) (F2 : Int → Int) (C2 : Int → Int → Int), r_ = some (.int (iI y)) ∧ MDF g w w1 m A F2 P C2 ∧ ED r code F C y F2 C2) xF := by
  refine Ct.of (lv := [some _, some _, some _]) hG (by decide +kernel) (Nat.le_of_ble_eq_true rfl) rfl ?_
  intro z hg hpo hxp hnm htab
  subst hg
  have hM : MDF (zg z) w w m A F P C := ⟨hM, Fr.rf⟩
  refine xr_iload_n dX4_ends_0 rfl ?_
  refine xr_if_ne (tgt := 13) dX4_ends_1 (by decide) (by omega) (fun c1 => ?_) (fun c1 => ?_)
  · skip
    refine xr_iload_n dX4_ends_13 rfl ?_
    refine xr_if_ge (tgt := 24) dX4_ends_14 (by decide) (by omega) (fun c14 => ?_) (fun c14 => ?_)
    · skip
      refine xr_aload_n dX4_ends_24 rfl (by first | rfl | exact isRef_rf _) ?_
      refine xr_iload_n dX4_ends_25 rfl ?_
      refine xr_putfield (ci := 14) (T := TX4) (N := 23) (i := 14) (fs' := [_, _, _, _, _, _, _, _, _, _, _, _, _, _, _, _, _, _, _, _, _, _, _]) hM.1.1 rfl (by decide) in_X4 tyX4 tyX4_ok nmX4 q2205 (.inl rfl) rfl dX4_ends_26 (by rfl) (by rfl) (by simp) (by rfl) (.inl rfl) (fun _ => ?_)
      refine xr_mput (i := 14) hM (by rfl) (fun w26 hM => ?_)
      refine xr_aload_n dX4_ends_29 rfl (by first | rfl | exact isRef_rf _) ?_
      refine xr_aload_n dX4_ends_30 rfl (by first | rfl | exact isRef_rf _) ?_
      refine xr_getfield (ci := 14) (T := TX4) (N := 23) (i := 17) hM.1.1 rfl (by decide) in_X4 q2208 (.inl rfl) dX4_ends_31 (by rfl) ?_
      rw [show updI F 14 r 17 = F 17 from updI_ne (by decide)]
      refine xr_putfield (ci := 14) (T := TX4) (N := 23) (i := 15) (fs' := [_, _, _, _, _, _, _, _, _, _, _, _, _, _, _, _, _, _, _, _, _, _, _]) hM.1.1 rfl (by decide) in_X4 tyX4 tyX4_ok nmX4 q2206 (.inl rfl) rfl dX4_ends_34 (by rfl) (by rfl) (by simp) (by rfl) (.inl rfl) (fun _ => ?_)
      refine xr_mput (i := 15) hM (by rfl) (fun w34 hM => ?_)
      refine xr_aload_n dX4_ends_37 rfl (by first | rfl | exact isRef_rf _) ?_
      refine xr_iconst dX4_ends_38 ?_
      refine xr_putfield (ci := 14) (T := TX4) (N := 23) (i := 16) (fs' := [_, _, _, _, _, _, _, _, _, _, _, _, _, _, _, _, _, _, _, _, _, _, _]) hM.1.1 rfl (by decide) in_X4 tyX4 tyX4_ok nmX4 q2207 (.inl rfl) rfl dX4_ends_39 (by rfl) (by rfl) (by simp) (by rfl) (.inl rfl) (fun _ => ?_)
      refine xr_mput (i := 16) hM (by rfl) (fun w39 hM => ?_)
      refine xr_aload_n dX4_ends_42 rfl (by first | rfl | exact isRef_rf _) ?_
      refine xr_iload_n dX4_ends_43 rfl ?_
      refine xr_callV (n9 := 1) (rc' := 0) (rs' := 0) (k_M_fails hG hM.1) hM.1.1 rfl q2311 q2313 qs46 q96 q2314 (by decide +kernel) rfl ⟨by decide, Nat.le_of_ble_eq_true rfl⟩ ⟨Nat.le_of_ble_eq_true rfl, Nat.le_of_ble_eq_true rfl⟩ (Nat.le_of_ble_eq_true rfl) dX4_ends_44 rfl (fun r w44 hw => ?_) (fun _ _ _ h => h.elim)
      obtain ⟨rfl, hw⟩ := hw
      have hM := hM.tr hw
      refine xr_ireturn rfl rfl dX4_ends_47 ?_
      rw [hpo]
      exact ⟨_, _, _, rfl, hM, Or.inr (Or.inr ⟨by omega, rfl, rfl, rfl⟩)⟩
    · skip
      refine xr_aload_n dX4_ends_17 rfl (by first | rfl | exact isRef_rf _) ?_
      refine xr_iload_n dX4_ends_18 rfl ?_
      refine xr_ineg dX4_ends_19 ?_
      refine xr_callV (n9 := 1) (rc' := 0) (rs' := 0) (k_M_fails hG hM.1) hM.1.1 rfl q2311 q2313 qs46 q96 q2314 (by decide +kernel) rfl ⟨by decide, Nat.le_of_ble_eq_true rfl⟩ ⟨Nat.le_of_ble_eq_true rfl, Nat.le_of_ble_eq_true rfl⟩ (Nat.le_of_ble_eq_true rfl) dX4_ends_20 rfl (fun r w20 hw => ?_) (fun _ _ _ h => h.elim)
      obtain ⟨rfl, hw⟩ := hw
      have hM := hM.tr hw
      refine xr_ireturn rfl rfl dX4_ends_23 ?_
      rw [hpo]
      exact ⟨_, _, _, rfl, hM, Or.inr (Or.inl ⟨by omega, rfl, rfl, rfl⟩)⟩
  · skip
    refine xr_aload_n dX4_ends_4 rfl (by first | rfl | exact isRef_rf _) ?_
    refine xr_aload_n dX4_ends_5 rfl (by first | rfl | exact isRef_rf _) ?_
    refine xr_getfield (ci := 14) (T := TX4) (N := 23) (i := 18) hM.1.1 rfl (by decide) in_X4 q2209 (.inl rfl) dX4_ends_6 (by rfl) ?_
    refine xr_callV (n9 := 1) (rc' := 0) (rs' := 0) (k_M_changed hG hM.1 h6) hM.1.1 rfl q2307 q2309 qs45 q96 q2310 (by decide +kernel) rfl ⟨by decide, Nat.le_of_ble_eq_true rfl⟩ ⟨Nat.le_of_ble_eq_true rfl, Nat.le_of_ble_eq_true rfl⟩ (Nat.le_of_ble_eq_true rfl) dX4_ends_9 rfl (fun r w9 hw => ?_) (fun _ _ _ h => h.elim)
    obtain ⟨F2, C2, rfl, hw9, hch⟩ := hw
    show XJ _ _ _ _ _ _ _ _ _ _ _ _ [.int (iI (F 18))]
    refine xr_ireturn rfl rfl dX4_ends_12 ?_
    rw [hpo]
    exact ⟨_, F2, C2, rfl, hM.tr hw9, Or.inl ⟨by omega, rfl, hch⟩⟩
