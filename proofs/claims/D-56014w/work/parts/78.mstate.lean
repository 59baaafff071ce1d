/-! 78.mstate.lean.txt (written by tools/walker.py)  -/
set_option maxRecDepth 100000
theorem k_N_undo {g : GG} {w : WW} {m : Nat} {A : Int → Nat} {th : Int} {P : Int → Int} {S : Option (Int → Int)} {H : List (Int → Int)} {I O : Tx} {se : Option Int} {rj : Option (Int × Int × Int)} (hG : Base g) (hX : MR g w m A th P S H I O se rj) : Ct g yX4_undo (.code yX4_undo cX4_undo 2 (some .int)) 1 21 0 0 w [.ref m] (fun r_ w1 => ∃ y : Int, r_ = some (.int (iI y)) ∧ Fr (MS m A) w w1 ∧ ((∃ (H9 : List (Int → Int)) (Ph : Int → Int), H = H9 ++ [Ph] ∧ y = H9.length ∧ MR g w1 m A 0 Ph S H9 I O se rj) ∨ (H = [] ∧ MR g w1 m A 1 P S H I O se rj))) xF := by
  refine Ct.of (lv := [some _, none]) hG (by decide +kernel) (Nat.le_of_ble_eq_true rfl) rfl ?_
  intro z hg hpo hxp hnm htab
  subst hg
  obtain ⟨F, C, hM, -, hS⟩ := hX
  have hM : MDF (zg z) w w m A F P C := ⟨hM, Fr.rf⟩
  have h68 : 0 ≤ F 6 ∧ F 6 ≤ 8 := by have := hS.1.1; have := hS.1.2.1; omega
  refine xr_aload_n dX4_undo_0 rfl (by first | rfl | exact isRef_rf _) ?_
  refine xr_iconst dX4_undo_1 ?_
  refine xr_putfield (ci := 14) (T := TX4) (N := 23) (i := 0) (fs' := [_, _, _, _, _, _, _, _, _, _, _, _, _, _, _, _, _, _, _, _, _, _, _]) hM.1.1 rfl (by decide) in_X4 tyX4 tyX4_ok nmX4 q2191 (.inl rfl) rfl dX4_undo_2 (by rfl) (by rfl) (by simp) (by rfl) (.inl rfl) (fun _ => ?_)
  refine xr_mput (i := 0) hM (by rfl) (fun w2 hM => ?_)
  refine xr_aload_n dX4_undo_5 rfl (by first | rfl | exact isRef_rf _) ?_
  refine xr_getfield (ci := 14) (T := TX4) (N := 23) (i := 6) hM.1.1 rfl (by decide) in_X4 q2197 (.inl rfl) dX4_undo_6 (by rfl) ?_
  rw [show updI F 0 0 6 = F 6 from updI_ne (by decide)]
  refine xr_if_ne (tgt := 18) dX4_undo_9 (by decide) (by omega) (fun c9 => ?_) (fun c9 => ?_)
  · skip
    obtain ⟨H9, Ph, hHe⟩ : ∃ (H9 : List (Int → Int)) (Ph : Int → Int), H = H9 ++ [Ph] := by
      have hne : H ≠ [] := fun q9 => by have h9 := hS.1.1; rw [q9] at h9; simp at h9; omega
      exact ⟨H.dropLast, H.getLast hne, (List.dropLast_concat_getLast hne).symm⟩
    have hlen : F 6 = H9.length + 1 := by rw [hS.1.1, hHe, List.length_append]; rfl
    have hl8 : H9.length ≤ 7 := by have h9 := hS.1.2.1; rw [hHe, List.length_append] at h9; simp at h9; omega
    have hi := hS.1.2.2
    refine xr_aload_n dX4_undo_18 rfl (by first | rfl | exact isRef_rf _) ?_
    refine xr_dup dX4_undo_19 (by first | rfl | exact cat_rf _) ?_
    refine xr_getfield (ci := 14) (T := TX4) (N := 23) (i := 6) hM.1.1 rfl (by decide) in_X4 q2197 (.inl rfl) dX4_undo_20 (by rfl) ?_
    rw [show updI F 0 0 6 = F 6 from updI_ne (by decide)]
    refine xr_iconst dX4_undo_23 ?_
    refine xr_isub dX4_undo_24 ?_
    refine xr_putfield (ci := 14) (T := TX4) (N := 23) (i := 6) (fs' := [_, _, _, _, _, _, _, _, _, _, _, _, _, _, _, _, _, _, _, _, _, _, _]) hM.1.1 rfl (by decide) in_X4 tyX4 tyX4_ok nmX4 q2197 (.inl rfl) rfl dX4_undo_25 (by rfl) (by rfl) (by simp) (by rfl) (.inl rfl) (fun _ => ?_)
    refine xr_mput (i := 6) hM (by rfl) (fun w25 hM => ?_)
    have e6 : F 6 - 1 = H9.length := by omega
    rw [e6] at hM
    refine xr_iconst dX4_undo_28 ?_
    refine xr_istore_n (lv' := [some _, some _]) dX4_undo_29 (by decide) rfl rfl ?_
    have lp30 : ∀ (fu30 : Nat) (w9 : WW) (k : Int), 0 ≤ k → k ≤ 102 → 102 - k < fu30 → MDF (zg z) w w9 m A (updI (updI F 0 0) 6 H9.length) (cpK (fun j => C 4 (102 * H9.length + j)) P k) C → XJ z yX4_undo.cls cX4_undo 2 (some .int) 1 21 w9 (0 * fu30 + 0) (0 * fu30 + 0) 30 [some (.ref m), some (.int (iI k))] [] := by
      intro fu30
      induction fu30 with
      | zero =>
        intro w9 k hk0 hk1 hfu hM
        omega
      | succ fu30 ih30 =>
        intro w9 k hk0 hk1 hfu hM
        refine xr_iload_n dX4_undo_30 rfl ?_
        refine xr_bipush dX4_undo_31 (by decide) ?_
        refine xr_icmp_ge (tgt := 62) dX4_undo_33 (by decide) (by omega) (fun c33 => ?_) (fun c33 => ?_)
        · skip
          refine xr_aload_n dX4_undo_62 rfl (by first | rfl | exact isRef_rf _) ?_
          refine xr_getfield (ci := 14) (T := TX4) (N := 23) (i := 6) hM.1.1 rfl (by decide) in_X4 q2197 (.inl rfl) dX4_undo_63 (by rfl) ?_
          rw [updI_eq]
          refine xr_ireturn rfl rfl dX4_undo_66 ?_
          rw [hpo]
          have hM := hM.toP (P' := Ph) (fun j h0 h1 => by
            unfold cpK
            rw [if_pos (by omega)]
            exact hi H9.length Ph (by rw [hHe, List.getElem?_append_right (Nat.le_refl _), Nat.sub_self]; rfl) j h0 h1)
          refine ⟨_, rfl, hM.2, Or.inl ⟨H9, Ph, hHe, rfl, _, _, hM.1, by rw [updI_ne (by decide), updI_eq], ?_⟩⟩
          obtain ⟨-, a2, a3, a4, a5, a6⟩ := hS
          refine ⟨⟨updI_eq, by omega, fun i Pi hx => hi i Pi ?_⟩, a2, a3, a4, a5, a6⟩
          have hil := (List.getElem?_eq_some_iff.mp hx).1
          rw [hHe, List.getElem?_append_left hil]
          exact hx
        · skip
          refine xr_aload_n dX4_undo_36 rfl (by first | rfl | exact isRef_rf _) ?_
          refine xr_getfield (ci := 14) (T := TX4) (N := 23) (i := 1) hM.1.1 rfl (by decide) in_X4 q2192 (.inl rfl) dX4_undo_37 (by rfl) ?_
          refine xr_iload_n dX4_undo_40 rfl ?_
          refine xr_aload_n dX4_undo_41 rfl (by first | rfl | exact isRef_rf _) ?_
          refine xr_getfield (ci := 14) (T := TX4) (N := 23) (i := 4) hM.1.1 rfl (by decide) in_X4 q2195 (.inl rfl) dX4_undo_42 (by rfl) ?_
          refine xr_bipush dX4_undo_45 (by decide) ?_
          refine xr_aload_n dX4_undo_47 rfl (by first | rfl | exact isRef_rf _) ?_
          refine xr_getfield (ci := 14) (T := TX4) (N := 23) (i := 6) hM.1.1 rfl (by decide) in_X4 q2197 (.inl rfl) dX4_undo_48 (by rfl) ?_
          rw [updI_eq]
          refine xr_imul dX4_undo_51 ?_
          refine xr_iload_n dX4_undo_52 rfl ?_
          refine xr_iadd dX4_undo_53 ?_
          refine xr_iaload (hM.1.2.2.1 4 (by decide)) (show (0 : Int) ≤ _ ∧ _ < ((816 : Nat) : Int) from by omega) (by decide) dX4_undo_54 ?_
          refine xr_mstS hM (by omega) dX4_undo_55 (fun w55 hM => ?_)
          refine xr_iinc (lv' := [some _, some _]) dX4_undo_56 rfl (by decide) rfl rfl ?_
          refine xr_goto (tgt := 30) dX4_undo_59 (by decide) ?_
          refine xr_wk (rc' := 0 * fu30 + 0) (rs' := 0 * fu30 + 0) ⟨by omega, by omega⟩ (ih30 _ (k + 1) (by omega) (by omega) (by omega) (hM.toP (fun j h0 h1 => by
    simp only [updI, cpK]
    by_cases e9 : j = k
    · rw [if_pos e9, if_pos (by omega), e9]
    · rw [if_neg e9]
      by_cases e8 : j < k
      · rw [if_pos (by omega), if_pos (by omega)]
      · rw [if_neg (by omega), if_neg (by omega)])))
    refine xr_wk (rc' := 0 * 103 + 0) (rs' := 0 * 103 + 0) ⟨by omega, by omega⟩ (lp30 103 _ 0 (by omega) (by omega) (by omega) (hM.toP (fun j h0 h1 => by unfold cpK; rw [if_neg (by omega)])))
  · skip
    refine xr_aload_n dX4_undo_12 rfl (by first | rfl | exact isRef_rf _) ?_
    refine xr_iconst dX4_undo_13 ?_
    refine xr_callV (n9 := 1) (rc' := 0) (rs' := 0) (k_M_fails hG hM.1) hM.1.1 rfl q2311 q2313 qs46 q96 q2314 (by decide +kernel) rfl ⟨by decide, Nat.le_of_ble_eq_true rfl⟩ ⟨Nat.le_of_ble_eq_true rfl, Nat.le_of_ble_eq_true rfl⟩ (Nat.le_of_ble_eq_true rfl) dX4_undo_14 rfl (fun r w14 hw => ?_) (fun _ _ _ h => h.elim)
    obtain ⟨rfl, hw⟩ := hw
    have hM := hM.tr hw
    refine xr_ireturn rfl rfl dX4_undo_17 ?_
    rw [hpo]
    exact ⟨_, rfl, hM.2, Or.inr ⟨List.length_eq_zero_iff.mp (by have := hS.1.1; omega), _, _, hM.1, updI_eq, hS.to (fun k hk => by rw [updI_ne (by omega), updI_ne (by omega)]) (fun j hj => rfl)⟩⟩
theorem k_N_saveSnapshot {g : GG} {w : WW} {m : Nat} {A : Int → Nat} {th : Int} {P : Int → Int} {S : Option (Int → Int)} {H : List (Int → Int)} {I O : Tx} {se : Option Int} {rj : Option (Int × Int × Int)} (hG : Base g) (hX : MR g w m A th P S H I O se rj) : Ct g yX4_saveSnapshot (.code yX4_saveSnapshot cX4_saveSnapshot 2 (some .int)) 0 0 0 0 w [.ref m] (fun r_ w1 => ∃ y : Int, r_ = some (.int (iI y)) ∧ Fr (MS m A) w w1 ∧ (y = P 0 ∧ MR g w1 m A 0 P (some P) H I O se rj)) xF := by
  refine Ct.of (lv := [some _, none]) hG (by decide +kernel) (Nat.le_of_ble_eq_true rfl) rfl ?_
  intro z hg hpo hxp hnm htab
  subst hg
  obtain ⟨F, C, hM, -, hS⟩ := hX
  have hM : MDF (zg z) w w m A F P C := ⟨hM, Fr.rf⟩
  have h68 : 0 ≤ F 6 ∧ F 6 ≤ 8 := by have := hS.1.1; have := hS.1.2.1; omega
  refine xr_aload_n dX4_saveSnapshot_0 rfl (by first | rfl | exact isRef_rf _) ?_
  refine xr_iconst dX4_saveSnapshot_1 ?_
  refine xr_putfield (ci := 14) (T := TX4) (N := 23) (i := 0) (fs' := [_, _, _, _, _, _, _, _, _, _, _, _, _, _, _, _, _, _, _, _, _, _, _]) hM.1.1 rfl (by decide) in_X4 tyX4 tyX4_ok nmX4 q2191 (.inl rfl) rfl dX4_saveSnapshot_2 (by rfl) (by rfl) (by simp) (by rfl) (.inl rfl) (fun _ => ?_)
  refine xr_mput (i := 0) hM (by rfl) (fun w2 hM => ?_)
  refine xr_iconst dX4_saveSnapshot_5 ?_
  refine xr_istore_n (lv' := [some _, some _]) dX4_saveSnapshot_6 (by decide) rfl rfl ?_
  have lp7 : ∀ (fu7 : Nat) (w9 : WW) (k : Int), 0 ≤ k → k ≤ 102 → 102 - k < fu7 → MDF (zg z) w w9 m A (updI F 0 0) P (updC C 3 (cpK P (C 3) k)) → XJ z yX4_saveSnapshot.cls cX4_saveSnapshot 2 (some .int) 0 0 w9 (0 * fu7 + 0) (0 * fu7 + 0) 7 [some (.ref m), some (.int (iI k))] [] := by
    intro fu7
    induction fu7 with
    | zero =>
      intro w9 k hk0 hk1 hfu hM
      omega
    | succ fu7 ih7 =>
      intro w9 k hk0 hk1 hfu hM
      refine xr_iload_n dX4_saveSnapshot_7 rfl ?_
      refine xr_bipush dX4_saveSnapshot_8 (by decide) ?_
      refine xr_icmp_ge (tgt := 31) dX4_saveSnapshot_10 (by decide) (by omega) (fun c10 => ?_) (fun c10 => ?_)
      · skip
        refine xr_aload_n dX4_saveSnapshot_31 rfl (by first | rfl | exact isRef_rf _) ?_
        refine xr_iconst dX4_saveSnapshot_32 ?_
        refine xr_putfield (ci := 14) (T := TX4) (N := 23) (i := 7) (fs' := [_, _, _, _, _, _, _, _, _, _, _, _, _, _, _, _, _, _, _, _, _, _, _]) hM.1.1 rfl (by decide) in_X4 tyX4 tyX4_ok nmX4 q2198 (.inl rfl) rfl dX4_saveSnapshot_33 (by decide +kernel) (by decide +kernel) (by simp) (by rfl) (.inl rfl) (fun _ => ?_)
        refine xr_mput (i := 7) hM (by rfl) (fun w33 hM => ?_)
        refine xr_aload_n dX4_saveSnapshot_36 rfl (by first | rfl | exact isRef_rf _) ?_
        refine xr_getfield (ci := 14) (T := TX4) (N := 23) (i := 1) hM.1.1 rfl (by decide) in_X4 q2192 (.inl rfl) dX4_saveSnapshot_37 (by rfl) ?_
        refine xr_iconst dX4_saveSnapshot_40 ?_
        refine xr_iaload hM.1.2.1 (by omega) (by decide) dX4_saveSnapshot_41 ?_
        refine xr_ireturn rfl rfl dX4_saveSnapshot_42 ?_
        rw [hpo]
        refine ⟨_, rfl, hM.2, rfl, _, _, hM.1, by rw [updI_ne (by decide), updI_eq], ?_⟩
        have hk7 : k = 102 := by omega
        obtain ⟨a1, -, a3, a4, a5, a6⟩ := hS
        refine ⟨?_, Or.inr ⟨P, rfl, updI_eq, fun j h0 h1 => ?_⟩, ?_, ?_, a5, a6⟩
        · exact a1
        · rw [updC_at]; unfold cpK; rw [if_pos (by omega)]
        · exact a3
        · exact a4
      · skip
        refine xr_aload_n dX4_saveSnapshot_13 rfl (by first | rfl | exact isRef_rf _) ?_
        refine xr_getfield (ci := 14) (T := TX4) (N := 23) (i := 3) hM.1.1 rfl (by decide) in_X4 q2194 (.inl rfl) dX4_saveSnapshot_14 (by rfl) ?_
        refine xr_iload_n dX4_saveSnapshot_17 rfl ?_
        refine xr_aload_n dX4_saveSnapshot_18 rfl (by first | rfl | exact isRef_rf _) ?_
        refine xr_getfield (ci := 14) (T := TX4) (N := 23) (i := 1) hM.1.1 rfl (by decide) in_X4 q2192 (.inl rfl) dX4_saveSnapshot_19 (by rfl) ?_
        refine xr_iload_n dX4_saveSnapshot_22 rfl ?_
        refine xr_iaload hM.1.2.1 (by omega) (by decide) dX4_saveSnapshot_23 ?_
        refine xr_mstC (j := 3) hM (by decide) (show (0 : Int) ≤ _ ∧ _ < ((102 : Nat) : Int) from by omega) dX4_saveSnapshot_24 (fun w24 hM => ?_)
        refine xr_iinc (lv' := [some _, some _]) dX4_saveSnapshot_25 rfl (by decide) rfl rfl ?_
        refine xr_goto (tgt := 7) dX4_saveSnapshot_28 (by decide) ?_
        refine xr_wk (rc' := 0 * fu7 + 0) (rs' := 0 * fu7 + 0) ⟨by omega, by omega⟩ (ih7 _ (k + 1) (by omega) (by omega) (by omega) (hM.toC (fun j i h0 h1 => by
    by_cases hj : j = 3
    · subst hj; simp only [updC_at, updI, cpK]
      by_cases e9 : i = k
      · rw [if_pos e9, if_pos (by omega), e9]
      · rw [if_neg e9]
        by_cases e8 : i < k
        · rw [if_pos (by omega), if_pos (by omega)]
        · rw [if_neg (by omega), if_neg (by omega)]
    · rw [updC_ne hj, updC_ne hj, updC_ne hj])))
  refine xr_wk (rc' := 0 * 103 + 0) (rs' := 0 * 103 + 0) ⟨by omega, by omega⟩ (lp7 103 _ 0 (by omega) (by omega) (by omega) (hM.toC (fun j i h0 h1 => by
    by_cases hj : j = 3
    · subst hj; rw [updC_at]; unfold cpK; rw [if_neg (by omega)]
    · rw [updC_ne hj])))
theorem k_N_restoreSnapshot {g : GG} {w : WW} {m : Nat} {A : Int → Nat} {th : Int} {P : Int → Int} {S : Option (Int → Int)} {H : List (Int → Int)} {I O : Tx} {se : Option Int} {rj : Option (Int × Int × Int)} (hG : Base g) (hX : MR g w m A th P S H I O se rj) : Ct g yX4_restoreSnapshot (.code yX4_restoreSnapshot cX4_restoreSnapshot 2 (some .int)) 1 21 0 0 w [.ref m] (fun r_ w1 => ∃ y : Int, r_ = some (.int (iI y)) ∧ Fr (MS m A) w w1 ∧ ((∃ Ps : Int → Int, S = some Ps ∧ y = Ps 0 ∧ MR g w1 m A 0 Ps S [] I O se rj) ∨ (S = none ∧ MR g w1 m A 1 P S H I O se rj))) xF := by
  refine Ct.of (lv := [some _, none]) hG (by decide +kernel) (Nat.le_of_ble_eq_true rfl) rfl ?_
  intro z hg hpo hxp hnm htab
  subst hg
  obtain ⟨F, C, hM, -, hS⟩ := hX
  have hM : MDF (zg z) w w m A F P C := ⟨hM, Fr.rf⟩
  have h68 : 0 ≤ F 6 ∧ F 6 ≤ 8 := by have := hS.1.1; have := hS.1.2.1; omega
  refine xr_aload_n dX4_restoreSnapshot_0 rfl (by first | rfl | exact isRef_rf _) ?_
  refine xr_iconst dX4_restoreSnapshot_1 ?_
  refine xr_putfield (ci := 14) (T := TX4) (N := 23) (i := 0) (fs' := [_, _, _, _, _, _, _, _, _, _, _, _, _, _, _, _, _, _, _, _, _, _, _]) hM.1.1 rfl (by decide) in_X4 tyX4 tyX4_ok nmX4 q2191 (.inl rfl) rfl dX4_restoreSnapshot_2 (by rfl) (by rfl) (by simp) (by rfl) (.inl rfl) (fun _ => ?_)
  refine xr_mput (i := 0) hM (by rfl) (fun w2 hM => ?_)
  refine xr_aload_n dX4_restoreSnapshot_5 rfl (by first | rfl | exact isRef_rf _) ?_
  refine xr_getfield (ci := 14) (T := TX4) (N := 23) (i := 7) hM.1.1 rfl (by decide) in_X4 q2198 (.inl rfl) dX4_restoreSnapshot_6 (by rfl) ?_
  rw [show updI F 0 0 7 = F 7 from updI_ne (by decide)]
  have h7 : F 7 = 0 ∨ F 7 = 1 := by
    rcases hS.2.1 with h | ⟨Ps, h, h9, -⟩
    · exact Or.inl h.2
    · exact Or.inr h9
  refine xr_if_ne (tgt := 18) dX4_restoreSnapshot_9 (by decide) (by omega) (fun c9 => ?_) (fun c9 => ?_)
  · skip
    obtain ⟨Ps, hS1, hS2, hS3⟩ : ∃ Ps : Int → Int, S = some Ps ∧ F 7 = 1 ∧ ∀ k : Int, 0 ≤ k → k < 102 → C 3 k = Ps k := by
      rcases hS.2.1 with h | h
      · have := h.2; omega
      · exact h
    refine xr_iconst dX4_restoreSnapshot_18 ?_
    refine xr_istore_n (lv' := [some _, some _]) dX4_restoreSnapshot_19 (by decide) rfl rfl ?_
    have lp20 : ∀ (fu20 : Nat) (w9 : WW) (k : Int), 0 ≤ k → k ≤ 102 → 102 - k < fu20 → MDF (zg z) w w9 m A (updI F 0 0) (cpK (C 3) P k) C → XJ z yX4_restoreSnapshot.cls cX4_restoreSnapshot 2 (some .int) 1 21 w9 (0 * fu20 + 0) (0 * fu20 + 0) 20 [some (.ref m), some (.int (iI k))] [] := by
      intro fu20
      induction fu20 with
      | zero =>
        intro w9 k hk0 hk1 hfu hM
        omega
      | succ fu20 ih20 =>
        intro w9 k hk0 hk1 hfu hM
        refine xr_iload_n dX4_restoreSnapshot_20 rfl ?_
        refine xr_bipush dX4_restoreSnapshot_21 (by decide) ?_
        refine xr_icmp_ge (tgt := 44) dX4_restoreSnapshot_23 (by decide) (by omega) (fun c23 => ?_) (fun c23 => ?_)
        · skip
          refine xr_aload_n dX4_restoreSnapshot_44 rfl (by first | rfl | exact isRef_rf _) ?_
          refine xr_iconst dX4_restoreSnapshot_45 ?_
          refine xr_putfield (ci := 14) (T := TX4) (N := 23) (i := 6) (fs' := [_, _, _, _, _, _, _, _, _, _, _, _, _, _, _, _, _, _, _, _, _, _, _]) hM.1.1 rfl (by decide) in_X4 tyX4 tyX4_ok nmX4 q2197 (.inl rfl) rfl dX4_restoreSnapshot_46 (by rfl) (by rfl) (by simp) (by rfl) (.inl rfl) (fun _ => ?_)
          refine xr_mput (i := 6) hM (by rfl) (fun w46 hM => ?_)
          have hk7 : k = 102 := by omega
          have hM := hM.toP (P' := Ps) (fun j h0 h1 => by unfold cpK; rw [if_pos (by omega)]; exact hS3 j h0 h1)
          refine xr_aload_n dX4_restoreSnapshot_49 rfl (by first | rfl | exact isRef_rf _) ?_
          refine xr_getfield (ci := 14) (T := TX4) (N := 23) (i := 1) hM.1.1 rfl (by decide) in_X4 q2192 (.inl rfl) dX4_restoreSnapshot_50 (by rfl) ?_
          refine xr_iconst dX4_restoreSnapshot_53 ?_
          refine xr_iaload hM.1.2.1 (by omega) (by decide) dX4_restoreSnapshot_54 ?_
          refine xr_ireturn rfl rfl dX4_restoreSnapshot_55 ?_
          rw [hpo]
          refine ⟨_, rfl, hM.2, Or.inl ⟨Ps, hS1, rfl, _, _, hM.1, by rw [updI_ne (by decide), updI_eq], ?_⟩⟩
          obtain ⟨-, a2, a3, a4, a5, a6⟩ := hS
          exact ⟨⟨updI_eq, by simp, fun i Pi hx => by simp at hx⟩, a2, a3, a4, a5, a6⟩
        · skip
          refine xr_aload_n dX4_restoreSnapshot_26 rfl (by first | rfl | exact isRef_rf _) ?_
          refine xr_getfield (ci := 14) (T := TX4) (N := 23) (i := 1) hM.1.1 rfl (by decide) in_X4 q2192 (.inl rfl) dX4_restoreSnapshot_27 (by rfl) ?_
          refine xr_iload_n dX4_restoreSnapshot_30 rfl ?_
          refine xr_aload_n dX4_restoreSnapshot_31 rfl (by first | rfl | exact isRef_rf _) ?_
          refine xr_getfield (ci := 14) (T := TX4) (N := 23) (i := 3) hM.1.1 rfl (by decide) in_X4 q2194 (.inl rfl) dX4_restoreSnapshot_32 (by rfl) ?_
          refine xr_iload_n dX4_restoreSnapshot_35 rfl ?_
          refine xr_iaload (hM.1.2.2.1 3 (by decide)) (show (0 : Int) ≤ _ ∧ _ < ((102 : Nat) : Int) from by omega) (by decide) dX4_restoreSnapshot_36 ?_
          refine xr_mstS hM (by omega) dX4_restoreSnapshot_37 (fun w37 hM => ?_)
          refine xr_iinc (lv' := [some _, some _]) dX4_restoreSnapshot_38 rfl (by decide) rfl rfl ?_
          refine xr_goto (tgt := 20) dX4_restoreSnapshot_41 (by decide) ?_
          refine xr_wk (rc' := 0 * fu20 + 0) (rs' := 0 * fu20 + 0) ⟨by omega, by omega⟩ (ih20 _ (k + 1) (by omega) (by omega) (by omega) (hM.toP (fun j h0 h1 => by
    simp only [updI, cpK]
    by_cases e9 : j = k
    · rw [if_pos e9, if_pos (by omega), e9]
    · rw [if_neg e9]
      by_cases e8 : j < k
      · rw [if_pos (by omega), if_pos (by omega)]
      · rw [if_neg (by omega), if_neg (by omega)])))
    refine xr_wk (rc' := 0 * 103 + 0) (rs' := 0 * 103 + 0) ⟨by omega, by omega⟩ (lp20 103 _ 0 (by omega) (by omega) (by omega) (hM.toP (fun j h0 h1 => by unfold cpK; rw [if_neg (by omega)])))
  · skip
    have hSn : S = none := by
      rcases hS.2.1 with h | ⟨Ps, h, h9, -⟩
      · exact h.1
      · omega
    refine xr_aload_n dX4_restoreSnapshot_12 rfl (by first | rfl | exact isRef_rf _) ?_
    refine xr_iconst dX4_restoreSnapshot_13 ?_
    refine xr_callV (n9 := 1) (rc' := 0) (rs' := 0) (k_M_fails hG hM.1) hM.1.1 rfl q2311 q2313 qs46 q96 q2314 (by decide +kernel) rfl ⟨by decide, Nat.le_of_ble_eq_true rfl⟩ ⟨Nat.le_of_ble_eq_true rfl, Nat.le_of_ble_eq_true rfl⟩ (Nat.le_of_ble_eq_true rfl) dX4_restoreSnapshot_14 rfl (fun r w14 hw => ?_) (fun _ _ _ h => h.elim)
    obtain ⟨rfl, hw⟩ := hw
    have hM := hM.tr hw
    refine xr_ireturn rfl rfl dX4_restoreSnapshot_17 ?_
    rw [hpo]
    exact ⟨_, rfl, hM.2, Or.inr ⟨hSn, _, _, hM.1, updI_eq, hS.to (fun k hk => by rw [updI_ne (by omega), updI_ne (by omega)]) (fun j hj => rfl)⟩⟩
theorem k_N_syntaxErrorOffset {g : GG} {w : WW} {m : Nat} {A : Int → Nat} {th : Int} {P : Int → Int} {S : Option (Int → Int)} {H : List (Int → Int)} {I O : Tx} {se : Option Int} {rj : Option (Int × Int × Int)} (hG : Base g) (hX : MR g w m A th P S H I O se rj) : Ct g yX4_syntaxErrorOffset (.code yX4_syntaxErrorOffset cX4_syntaxErrorOffset 1 (some .int)) 1 21 0 0 w [.ref m] (fun r_ w1 => ∃ y : Int, r_ = some (.int (iI y)) ∧ Fr (MS m A) w w1 ∧ ((∃ e : Int, se = some e ∧ y = e ∧ MR g w1 m A 0 P S H I O se rj) ∨ (se = none ∧ MR g w1 m A 1 P S H I O se rj))) xF := by
  refine Ct.of (lv := [some _]) hG (by decide +kernel) (Nat.le_of_ble_eq_true rfl) rfl ?_
  intro z hg hpo hxp hnm htab
  subst hg
  obtain ⟨F, C, hM, -, hS⟩ := hX
  have hM : MDF (zg z) w w m A F P C := ⟨hM, Fr.rf⟩
  have h68 : 0 ≤ F 6 ∧ F 6 ≤ 8 := by have := hS.1.1; have := hS.1.2.1; omega
  have h13 : (se = none ∧ F 13 = -1) ∨ ∃ e : Int, se = some e ∧ 0 ≤ e ∧ e ≤ 60 ∧ F 13 = e := hS.2.2.2.2.1
  have h13b : -1 ≤ F 13 ∧ F 13 ≤ 60 := by rcases h13 with h | ⟨e, h1, h2, h3, h4⟩ <;> omega
  refine xr_aload_n dX4_syntaxErrorOffset_0 rfl (by first | rfl | exact isRef_rf _) ?_
  refine xr_iconst dX4_syntaxErrorOffset_1 ?_
  refine xr_putfield (ci := 14) (T := TX4) (N := 23) (i := 0) (fs' := [_, _, _, _, _, _, _, _, _, _, _, _, _, _, _, _, _, _, _, _, _, _, _]) hM.1.1 rfl (by decide) in_X4 tyX4 tyX4_ok nmX4 q2191 (.inl rfl) rfl dX4_syntaxErrorOffset_2 (by rfl) (by rfl) (by simp) (by rfl) (.inl rfl) (fun _ => ?_)
  refine xr_mput (i := 0) hM (by rfl) (fun w2 hM => ?_)
  refine xr_aload_n dX4_syntaxErrorOffset_5 rfl (by first | rfl | exact isRef_rf _) ?_
  refine xr_getfield (ci := 14) (T := TX4) (N := 23) (i := 13) hM.1.1 rfl (by decide) in_X4 q2204 (.inl rfl) dX4_syntaxErrorOffset_6 (by rfl) ?_
  rw [show updI F 0 0 13 = F 13 from updI_ne (by decide)]
  refine xr_iconst dX4_syntaxErrorOffset_9 ?_
  refine xr_icmp_ne (tgt := 21) dX4_syntaxErrorOffset_10 (by decide) (by omega) (fun c10 => ?_) (fun c10 => ?_)
  · skip
    refine xr_aload_n dX4_syntaxErrorOffset_21 rfl (by first | rfl | exact isRef_rf _) ?_
    refine xr_getfield (ci := 14) (T := TX4) (N := 23) (i := 13) hM.1.1 rfl (by decide) in_X4 q2204 (.inl rfl) dX4_syntaxErrorOffset_22 (by rfl) ?_
    rw [show updI F 0 0 13 = F 13 from updI_ne (by decide)]
    refine xr_ireturn rfl rfl dX4_syntaxErrorOffset_25 ?_
    rw [hpo]
    rcases h13 with ⟨h1, h2⟩ | ⟨e, h1, h2, h3, h4⟩
    · first
      | omega
      | exact ⟨_, rfl, hM.2, Or.inr ⟨h1, _, _, hM.1, updI_eq, hS.to (fun k hk => by rw [updI_ne (by omega), updI_ne (by omega)]) (fun j hj => rfl)⟩⟩
    · first
      | omega
      | exact ⟨_, rfl, hM.2, Or.inl ⟨e, h1, h4, _, _, hM.1, updI_eq, hS.to (fun k hk => updI_ne (by omega)) (fun j hj => rfl)⟩⟩
  · skip
    refine xr_aload_n dX4_syntaxErrorOffset_13 rfl (by first | rfl | exact isRef_rf _) ?_
    refine xr_iconst dX4_syntaxErrorOffset_14 ?_
    refine xr_callV (n9 := 1) (rc' := 0) (rs' := 0) (k_M_fails hG hM.1) hM.1.1 rfl q2311 q2313 qs46 q96 q2314 (by decide +kernel) rfl ⟨by decide, Nat.le_of_ble_eq_true rfl⟩ ⟨Nat.le_of_ble_eq_true rfl, Nat.le_of_ble_eq_true rfl⟩ (Nat.le_of_ble_eq_true rfl) dX4_syntaxErrorOffset_15 rfl (fun r w15 hw => ?_) (fun _ _ _ h => h.elim)
    obtain ⟨rfl, hw⟩ := hw
    have hM := hM.tr hw
    refine xr_goto (tgt := 25) dX4_syntaxErrorOffset_18 (by decide) ?_
    refine xr_ireturn rfl rfl dX4_syntaxErrorOffset_25 ?_
    rw [hpo]
    rcases h13 with ⟨h1, h2⟩ | ⟨e, h1, h2, h3, h4⟩
    · first
      | omega
      | exact ⟨_, rfl, hM.2, Or.inr ⟨h1, _, _, hM.1, updI_eq, hS.to (fun k hk => by rw [updI_ne (by omega), updI_ne (by omega)]) (fun j hj => rfl)⟩⟩
    · first
      | omega
      | exact ⟨_, rfl, hM.2, Or.inl ⟨e, h1, h4, _, _, hM.1, updI_eq, hS.to (fun k hk => updI_ne (by omega)) (fun j hj => rfl)⟩⟩
theorem k_N_rejectionReason {g : GG} {w : WW} {m : Nat} {A : Int → Nat} {th : Int} {P : Int → Int} {S : Option (Int → Int)} {H : List (Int → Int)} {I O : Tx} {se : Option Int} {rj : Option (Int × Int × Int)} (hG : Base g) (hX : MR g w m A th P S H I O se rj) : Ct g yX4_rejectionReason (.code yX4_rejectionReason cX4_rejectionReason 1 (some .int)) 0 0 0 0 w [.ref m] (fun r_ w1 => ∃ y : Int, r_ = some (.int (iI y)) ∧ Fr (MS m A) w w1 ∧ ((∃ r : Int × Int × Int, rj = some r ∧ y = r.1 ∧ MR g w1 m A 0 P S H I O se rj) ∨ (rj = none ∧ MR g w1 m A 1 P S H I O se rj))) xF := by
  refine Ct.of (lv := [some _]) hG (by decide +kernel) (Nat.le_of_ble_eq_true rfl) rfl ?_
  intro z hg hpo hxp hnm htab
  subst hg
  obtain ⟨F, C, hM, -, hS⟩ := hX
  have hM : MDF (zg z) w w m A F P C := ⟨hM, Fr.rf⟩
  have h68 : 0 ≤ F 6 ∧ F 6 ≤ 8 := by have := hS.1.1; have := hS.1.2.1; omega
  have h14 : (rj = none ∧ F 14 = 0) ∨ ∃ r : Int × Int × Int, rj = some r ∧ (0 < r.1 ∧ r.1 ≤ 12) ∧ F 14 = r.1 ∧ F 15 = r.2.1 ∧ F 16 = r.2.2 := hS.2.2.2.2.2
  have h14b : 0 ≤ F 14 ∧ F 14 ≤ 12 := by rcases h14 with h | ⟨e, h1, h2, h3, h4⟩ <;> omega
  refine xr_aload_n dX4_rejectionReason_0 rfl (by first | rfl | exact isRef_rf _) ?_
  refine xr_aload_n dX4_rejectionReason_1 rfl (by first | rfl | exact isRef_rf _) ?_
  refine xr_getfield (ci := 14) (T := TX4) (N := 23) (i := 14) hM.1.1 rfl (by decide) in_X4 q2205 (.inl rfl) dX4_rejectionReason_2 (by rfl) ?_
  refine xr_if_ne (tgt := 12) dX4_rejectionReason_5 (by decide) (by omega) (fun c5 => ?_) (fun c5 => ?_)
  · skip
    refine xr_iconst dX4_rejectionReason_12 ?_
    refine xr_putfield (ci := 14) (T := TX4) (N := 23) (i := 0) (fs' := [_, _, _, _, _, _, _, _, _, _, _, _, _, _, _, _, _, _, _, _, _, _, _]) hM.1.1 rfl (by decide) in_X4 tyX4 tyX4_ok nmX4 q2191 (.inl rfl) rfl dX4_rejectionReason_13 (by rfl) (by rfl) (by simp) (by rfl) (.inl rfl) (fun _ => ?_)
    refine xr_mput (i := 0) hM (by rfl) (fun w13 hM => ?_)
    refine xr_aload_n dX4_rejectionReason_16 rfl (by first | rfl | exact isRef_rf _) ?_
    refine xr_getfield (ci := 14) (T := TX4) (N := 23) (i := 14) hM.1.1 rfl (by decide) in_X4 q2205 (.inl rfl) dX4_rejectionReason_17 (by rfl) ?_
    refine xr_ireturn rfl rfl dX4_rejectionReason_20 ?_
    rw [hpo]
    rcases h14 with ⟨h1, h2⟩ | ⟨r, h1, h2, h3, h4, h5⟩
    · first
      | omega
      | exact ⟨_, rfl, hM.2, Or.inr ⟨h1, _, _, hM.1, updI_eq, hS.to (fun k hk => updI_ne (by omega)) (fun j hj => rfl)⟩⟩
    · first
      | omega
      | exact ⟨_, rfl, hM.2, Or.inl ⟨r, h1, (updI_ne (by decide)).trans h3, _, _, hM.1, updI_eq, hS.to (fun k hk => updI_ne (by omega)) (fun j hj => rfl)⟩⟩
  · skip
    refine xr_iconst dX4_rejectionReason_8 ?_
    refine xr_goto (tgt := 13) dX4_rejectionReason_9 (by decide) ?_
    refine xr_putfield (ci := 14) (T := TX4) (N := 23) (i := 0) (fs' := [_, _, _, _, _, _, _, _, _, _, _, _, _, _, _, _, _, _, _, _, _, _, _]) hM.1.1 rfl (by decide) in_X4 tyX4 tyX4_ok nmX4 q2191 (.inl rfl) rfl dX4_rejectionReason_13 (by rfl) (by rfl) (by simp) (by rfl) (.inl rfl) (fun _ => ?_)
    refine xr_mput (i := 0) hM (by rfl) (fun w13 hM => ?_)
    refine xr_aload_n dX4_rejectionReason_16 rfl (by first | rfl | exact isRef_rf _) ?_
    refine xr_getfield (ci := 14) (T := TX4) (N := 23) (i := 14) hM.1.1 rfl (by decide) in_X4 q2205 (.inl rfl) dX4_rejectionReason_17 (by rfl) ?_
    refine xr_ireturn rfl rfl dX4_rejectionReason_20 ?_
    rw [hpo]
    rcases h14 with ⟨h1, h2⟩ | ⟨r, h1, h2, h3, h4, h5⟩
    · first
      | omega
      | exact ⟨_, rfl, hM.2, Or.inr ⟨h1, _, _, hM.1, updI_eq, hS.to (fun k hk => updI_ne (by omega)) (fun j hj => rfl)⟩⟩
    · first
      | omega
      | exact ⟨_, rfl, hM.2, Or.inl ⟨r, h1, (updI_ne (by decide)).trans h3, _, _, hM.1, updI_eq, hS.to (fun k hk => updI_ne (by omega)) (fun j hj => rfl)⟩⟩
theorem k_N_rejectionDetail {g : GG} {w : WW} {m : Nat} {A : Int → Nat} {th : Int} {P : Int → Int} {S : Option (Int → Int)} {H : List (Int → Int)} {I O : Tx} {se : Option Int} {rj : Option (Int × Int × Int)} (hG : Base g) (hX : MR g w m A th P S H I O se rj) : Ct g yX4_rejectionDetail (.code yX4_rejectionDetail cX4_rejectionDetail 1 (some .int)) 0 0 0 0 w [.ref m] (fun r_ w1 => ∃ y : Int, r_ = some (.int (iI y)) ∧ Fr (MS m A) w w1 ∧ ((∃ r : Int × Int × Int, rj = some r ∧ y = r.2.1 ∧ MR g w1 m A 0 P S H I O se rj) ∨ (rj = none ∧ MR g w1 m A 1 P S H I O se rj))) xF := by
  refine Ct.of (lv := [some _]) hG (by decide +kernel) (Nat.le_of_ble_eq_true rfl) rfl ?_
  intro z hg hpo hxp hnm htab
  subst hg
  obtain ⟨F, C, hM, -, hS⟩ := hX
  have hM : MDF (zg z) w w m A F P C := ⟨hM, Fr.rf⟩
  have h68 : 0 ≤ F 6 ∧ F 6 ≤ 8 := by have := hS.1.1; have := hS.1.2.1; omega
  have h14 : (rj = none ∧ F 14 = 0) ∨ ∃ r : Int × Int × Int, rj = some r ∧ (0 < r.1 ∧ r.1 ≤ 12) ∧ F 14 = r.1 ∧ F 15 = r.2.1 ∧ F 16 = r.2.2 := hS.2.2.2.2.2
  have h14b : 0 ≤ F 14 ∧ F 14 ≤ 12 := by rcases h14 with h | ⟨e, h1, h2, h3, h4⟩ <;> omega
  refine xr_aload_n dX4_rejectionDetail_0 rfl (by first | rfl | exact isRef_rf _) ?_
  refine xr_aload_n dX4_rejectionDetail_1 rfl (by first | rfl | exact isRef_rf _) ?_
  refine xr_getfield (ci := 14) (T := TX4) (N := 23) (i := 14) hM.1.1 rfl (by decide) in_X4 q2205 (.inl rfl) dX4_rejectionDetail_2 (by rfl) ?_
  refine xr_if_ne (tgt := 12) dX4_rejectionDetail_5 (by decide) (by omega) (fun c5 => ?_) (fun c5 => ?_)
  · skip
    refine xr_iconst dX4_rejectionDetail_12 ?_
    refine xr_putfield (ci := 14) (T := TX4) (N := 23) (i := 0) (fs' := [_, _, _, _, _, _, _, _, _, _, _, _, _, _, _, _, _, _, _, _, _, _, _]) hM.1.1 rfl (by decide) in_X4 tyX4 tyX4_ok nmX4 q2191 (.inl rfl) rfl dX4_rejectionDetail_13 (by rfl) (by rfl) (by simp) (by rfl) (.inl rfl) (fun _ => ?_)
    refine xr_mput (i := 0) hM (by rfl) (fun w13 hM => ?_)
    refine xr_aload_n dX4_rejectionDetail_16 rfl (by first | rfl | exact isRef_rf _) ?_
    refine xr_getfield (ci := 14) (T := TX4) (N := 23) (i := 0) hM.1.1 rfl (by decide) in_X4 q2191 (.inl rfl) dX4_rejectionDetail_17 (by rfl) ?_
    rw [updI_eq]
    refine xr_if_le (tgt := 27) dX4_rejectionDetail_20 (by decide) (by decide) (fun c20 => ?_) (fun c20 => absurd c20 (by decide))
    refine xr_aload_n dX4_rejectionDetail_27 rfl (by first | rfl | exact isRef_rf _) ?_
    refine xr_getfield (ci := 14) (T := TX4) (N := 23) (i := 15) hM.1.1 rfl (by decide) in_X4 q2206 (.inl rfl) dX4_rejectionDetail_28 (by rfl) ?_
    refine xr_ireturn rfl rfl dX4_rejectionDetail_31 ?_
    rw [hpo]
    rcases h14 with ⟨h1, h2⟩ | ⟨r, h1, h2, h3, h4, h5⟩
    · first
      | omega
      | exact ⟨_, rfl, hM.2, Or.inr ⟨h1, _, _, hM.1, updI_eq, hS.to (fun k hk => updI_ne (by omega)) (fun j hj => rfl)⟩⟩
    · first
      | omega
      | exact ⟨_, rfl, hM.2, Or.inl ⟨r, h1, (updI_ne (by decide)).trans h4, _, _, hM.1, updI_eq, hS.to (fun k hk => updI_ne (by omega)) (fun j hj => rfl)⟩⟩
  · skip
    refine xr_iconst dX4_rejectionDetail_8 ?_
    refine xr_goto (tgt := 13) dX4_rejectionDetail_9 (by decide) ?_
    refine xr_putfield (ci := 14) (T := TX4) (N := 23) (i := 0) (fs' := [_, _, _, _, _, _, _, _, _, _, _, _, _, _, _, _, _, _, _, _, _, _, _]) hM.1.1 rfl (by decide) in_X4 tyX4 tyX4_ok nmX4 q2191 (.inl rfl) rfl dX4_rejectionDetail_13 (by rfl) (by rfl) (by simp) (by rfl) (.inl rfl) (fun _ => ?_)
    refine xr_mput (i := 0) hM (by rfl) (fun w13 hM => ?_)
    refine xr_aload_n dX4_rejectionDetail_16 rfl (by first | rfl | exact isRef_rf _) ?_
    refine xr_getfield (ci := 14) (T := TX4) (N := 23) (i := 0) hM.1.1 rfl (by decide) in_X4 q2191 (.inl rfl) dX4_rejectionDetail_17 (by rfl) ?_
    rw [updI_eq]
    refine xr_if_le (tgt := 27) dX4_rejectionDetail_20 (by decide) (by decide) (fun c20 => absurd c20 (by decide)) (fun c20 => ?_)
    refine xr_iconst dX4_rejectionDetail_23 ?_
    refine xr_goto (tgt := 31) dX4_rejectionDetail_24 (by decide) ?_
    refine xr_ireturn rfl rfl dX4_rejectionDetail_31 ?_
    rw [hpo]
    rcases h14 with ⟨h1, h2⟩ | ⟨r, h1, h2, h3, h4, h5⟩
    · first
      | omega
      | exact ⟨_, rfl, hM.2, Or.inr ⟨h1, _, _, hM.1, updI_eq, hS.to (fun k hk => updI_ne (by omega)) (fun j hj => rfl)⟩⟩
    · first
      | omega
      | exact ⟨_, rfl, hM.2, Or.inl ⟨r, h1, (updI_ne (by decide)).trans h4, _, _, hM.1, updI_eq, hS.to (fun k hk => updI_ne (by omega)) (fun j hj => rfl)⟩⟩
theorem k_N_causeReason {g : GG} {w : WW} {m : Nat} {A : Int → Nat} {th : Int} {P : Int → Int} {S : Option (Int → Int)} {H : List (Int → Int)} {I O : Tx} {se : Option Int} {rj : Option (Int × Int × Int)} (hG : Base g) (hX : MR g w m A th P S H I O se rj) : Ct g yX4_causeReason (.code yX4_causeReason cX4_causeReason 1 (some .int)) 0 0 0 0 w [.ref m] (fun r_ w1 => ∃ y : Int, r_ = some (.int (iI y)) ∧ Fr (MS m A) w w1 ∧ ((∃ r : Int × Int × Int, rj = some r ∧ r.1 = 12 ∧ y = r.2.2 ∧ MR g w1 m A 0 P S H I O se rj) ∨ ((∀ r : Int × Int × Int, rj = some r → r.1 ≠ 12) ∧ MR g w1 m A 1 P S H I O se rj))) xF := by
  refine Ct.of (lv := [some _]) hG (by decide +kernel) (Nat.le_of_ble_eq_true rfl) rfl ?_
  intro z hg hpo hxp hnm htab
  subst hg
  obtain ⟨F, C, hM, -, hS⟩ := hX
  have hM : MDF (zg z) w w m A F P C := ⟨hM, Fr.rf⟩
  have h68 : 0 ≤ F 6 ∧ F 6 ≤ 8 := by have := hS.1.1; have := hS.1.2.1; omega
  have h14 : (rj = none ∧ F 14 = 0) ∨ ∃ r : Int × Int × Int, rj = some r ∧ (0 < r.1 ∧ r.1 ≤ 12) ∧ F 14 = r.1 ∧ F 15 = r.2.1 ∧ F 16 = r.2.2 := hS.2.2.2.2.2
  have h14b : 0 ≤ F 14 ∧ F 14 ≤ 12 := by rcases h14 with h | ⟨e, h1, h2, h3, h4⟩ <;> omega
  refine xr_aload_n dX4_causeReason_0 rfl (by first | rfl | exact isRef_rf _) ?_
  refine xr_aload_n dX4_causeReason_1 rfl (by first | rfl | exact isRef_rf _) ?_
  refine xr_getfield (ci := 14) (T := TX4) (N := 23) (i := 14) hM.1.1 rfl (by decide) in_X4 q2205 (.inl rfl) dX4_causeReason_2 (by rfl) ?_
  refine xr_bipush dX4_causeReason_5 (by decide) ?_
  refine xr_icmp_ne (tgt := 14) dX4_causeReason_7 (by decide) (by omega) (fun c7 => ?_) (fun c7 => ?_)
  · skip
    refine xr_iconst dX4_causeReason_14 ?_
    refine xr_putfield (ci := 14) (T := TX4) (N := 23) (i := 0) (fs' := [_, _, _, _, _, _, _, _, _, _, _, _, _, _, _, _, _, _, _, _, _, _, _]) hM.1.1 rfl (by decide) in_X4 tyX4 tyX4_ok nmX4 q2191 (.inl rfl) rfl dX4_causeReason_15 (by rfl) (by rfl) (by simp) (by rfl) (.inl rfl) (fun _ => ?_)
    refine xr_mput (i := 0) hM (by rfl) (fun w15 hM => ?_)
    refine xr_aload_n dX4_causeReason_18 rfl (by first | rfl | exact isRef_rf _) ?_
    refine xr_getfield (ci := 14) (T := TX4) (N := 23) (i := 0) hM.1.1 rfl (by decide) in_X4 q2191 (.inl rfl) dX4_causeReason_19 (by rfl) ?_
    rw [updI_eq]
    refine xr_if_le (tgt := 29) dX4_causeReason_22 (by decide) (by decide) (fun c22 => absurd c22 (by decide)) (fun c22 => ?_)
    refine xr_iconst dX4_causeReason_25 ?_
    refine xr_goto (tgt := 33) dX4_causeReason_26 (by decide) ?_
    refine xr_ireturn rfl rfl dX4_causeReason_33 ?_
    rw [hpo]
    rcases h14 with ⟨h1, h2⟩ | ⟨r, h1, h2, h3, h4, h5⟩
    · first
      | omega
      | exact ⟨_, rfl, hM.2, Or.inr ⟨fun r q => (by rw [h1] at q; cases q), _, _, hM.1, updI_eq, hS.to (fun k hk => updI_ne (by omega)) (fun j hj => rfl)⟩⟩
    · first
      | exact ⟨_, rfl, hM.2, Or.inr ⟨fun r' q => (by rw [h1] at q; cases q; omega), _, _, hM.1, updI_eq, hS.to (fun k hk => updI_ne (by omega)) (fun j hj => rfl)⟩⟩
      | exact ⟨_, rfl, hM.2, Or.inl ⟨r, h1, by omega, (updI_ne (by decide)).trans h5, _, _, hM.1, updI_eq, hS.to (fun k hk => updI_ne (by omega)) (fun j hj => rfl)⟩⟩
  · skip
    refine xr_iconst dX4_causeReason_10 ?_
    refine xr_goto (tgt := 15) dX4_causeReason_11 (by decide) ?_
    refine xr_putfield (ci := 14) (T := TX4) (N := 23) (i := 0) (fs' := [_, _, _, _, _, _, _, _, _, _, _, _, _, _, _, _, _, _, _, _, _, _, _]) hM.1.1 rfl (by decide) in_X4 tyX4 tyX4_ok nmX4 q2191 (.inl rfl) rfl dX4_causeReason_15 (by rfl) (by rfl) (by simp) (by rfl) (.inl rfl) (fun _ => ?_)
    refine xr_mput (i := 0) hM (by rfl) (fun w15 hM => ?_)
    refine xr_aload_n dX4_causeReason_18 rfl (by first | rfl | exact isRef_rf _) ?_
    refine xr_getfield (ci := 14) (T := TX4) (N := 23) (i := 0) hM.1.1 rfl (by decide) in_X4 q2191 (.inl rfl) dX4_causeReason_19 (by rfl) ?_
    rw [updI_eq]
    refine xr_if_le (tgt := 29) dX4_causeReason_22 (by decide) (by decide) (fun c22 => ?_) (fun c22 => absurd c22 (by decide))
    refine xr_aload_n dX4_causeReason_29 rfl (by first | rfl | exact isRef_rf _) ?_
    refine xr_getfield (ci := 14) (T := TX4) (N := 23) (i := 16) hM.1.1 rfl (by decide) in_X4 q2207 (.inl rfl) dX4_causeReason_30 (by rfl) ?_
    refine xr_ireturn rfl rfl dX4_causeReason_33 ?_
    rw [hpo]
    rcases h14 with ⟨h1, h2⟩ | ⟨r, h1, h2, h3, h4, h5⟩
    · first
      | omega
      | exact ⟨_, rfl, hM.2, Or.inr ⟨fun r q => (by rw [h1] at q; cases q), _, _, hM.1, updI_eq, hS.to (fun k hk => updI_ne (by omega)) (fun j hj => rfl)⟩⟩
    · first
      | exact ⟨_, rfl, hM.2, Or.inr ⟨fun r' q => (by rw [h1] at q; cases q; omega), _, _, hM.1, updI_eq, hS.to (fun k hk => updI_ne (by omega)) (fun j hj => rfl)⟩⟩
      | exact ⟨_, rfl, hM.2, Or.inl ⟨r, h1, by omega, (updI_ne (by decide)).trans h5, _, _, hM.1, updI_eq, hS.to (fun k hk => updI_ne (by omega)) (fun j hj => rfl)⟩⟩
theorem k_N_isConsistent {g : GG} {w : WW} {m : Nat} {A : Int → Nat} {th : Int} {P : Int → Int} {S : Option (Int → Int)} {H : List (Int → Int)} {I O : Tx} {se : Option Int} {rj : Option (Int × Int × Int)} (hG : Base g) (hX : MR g w m A th P S H I O se rj) : Ct g yX4_isConsistent (.code yX4_isConsistent cX4_isConsistent 1 (some .boolean)) 0 0 0 0 w [.ref m] (fun r_ w1 => ∃ y : Int, r_ = some (.int (iI y)) ∧ Fr (MS m A) w w1 ∧ (y = 1 ∧ MR g w1 m A 0 P S H I O se rj)) xF := by
  refine Ct.of (lv := [some _]) hG (by decide +kernel) (Nat.le_of_ble_eq_true rfl) rfl ?_
  intro z hg hpo hxp hnm htab
  subst hg
  obtain ⟨F, C, hM, -, hS⟩ := hX
  have hM : MDF (zg z) w w m A F P C := ⟨hM, Fr.rf⟩
  have h68 : 0 ≤ F 6 ∧ F 6 ≤ 8 := by have := hS.1.1; have := hS.1.2.1; omega
  refine xr_aload_n dX4_isConsistent_0 rfl (by first | rfl | exact isRef_rf _) ?_
  refine xr_iconst dX4_isConsistent_1 ?_
  refine xr_putfield (ci := 14) (T := TX4) (N := 23) (i := 0) (fs' := [_, _, _, _, _, _, _, _, _, _, _, _, _, _, _, _, _, _, _, _, _, _, _]) hM.1.1 rfl (by decide) in_X4 tyX4 tyX4_ok nmX4 q2191 (.inl rfl) rfl dX4_isConsistent_2 (by rfl) (by rfl) (by simp) (by rfl) (.inl rfl) (fun _ => ?_)
  refine xr_mput (i := 0) hM (by rfl) (fun w2 hM => ?_)
  refine xr_iconst dX4_isConsistent_5 ?_
  refine xr_ireturn rfl (by first | rfl | exact nar_bI _ | decide +kernel) dX4_isConsistent_6 ?_
  rw [hpo]
  exact ⟨1, rfl, hM.2, rfl, _, _, hM.1, updI_eq, hS.to (fun k hk => updI_ne (by omega)) (fun j hj => rfl)⟩
