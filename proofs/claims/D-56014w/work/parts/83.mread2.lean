/-! 83.mread2.lean.txt (written by tools/walker.py)  -/
set_option maxRecDepth 100000
theorem k_N_appendInput {g : GG} {w : WW} {m : Nat} {A : Int → Nat} {th : Int} {P : Int → Int} {S : Option (Int → Int)} {H : List (Int → Int)} {I O : Tx} {se : Option Int} {rj : Option (Int × Int × Int)} {c : Int} (hG : Base g) (hX : MR g w m A th P S H I O se rj) (hc : 0 ≤ c ∧ c < 65536) : Ct g yX4_appendInput (.code yX4_appendInput cX4_appendInput 2 (some .int)) 1 22 0 0 w [.ref m, .int (iI c)] (fun r_ w1 => ∃ y : Int, r_ = some (.int (iI y)) ∧ Fr (MS m A) w w1 ∧ (((32 ≤ c ∧ c ≤ 126) ∧ I.1 < 60 ∧ y = (I.1 + 1 : Nat) ∧ MR g w1 m A 0 P S H (I.1 + 1, updI I.2 I.1 c) O se rj) ∨ (¬ (32 ≤ c ∧ c ≤ 126) ∧ MR g w1 m A 1 P S H I O se rj) ∨ ((32 ≤ c ∧ c ≤ 126) ∧ ¬ I.1 < 60 ∧ MR g w1 m A 2 P S H I O se rj))) xF := by
  refine Ct.of (lv := [some _, some _]) hG (by decide +kernel) (Nat.le_of_ble_eq_true rfl) rfl ?_
  intro z hg hpo hxp hnm htab
  subst hg
  obtain ⟨F, C, hM, -, hS⟩ := hX
  have hM : MDF (zg z) w w m A F P C := ⟨hM, Fr.rf⟩
  have h68 : 0 ≤ F 6 ∧ F 6 ≤ 8 := by have := hS.1.1; have := hS.1.2.1; omega
  obtain ⟨i1, i2, i3⟩ := hS.2.2.1
  have i2 : I.1 ≤ 60 := i2
  refine xr_aload_n dX4_appendInput_0 rfl (by first | rfl | exact isRef_rf _) ?_
  refine xr_iload_n dX4_appendInput_1 rfl ?_
  refine xr_bipush dX4_appendInput_2 (by decide) ?_
  refine xr_bipush dX4_appendInput_4 (by decide) ?_
  refine xr_callS (n9 := 3) (rc' := 0) (rs' := 0) (k_M_in hG (by omega)) q2280 q2281 q96 q2282 (by decide +kernel) rfl ⟨by decide, Nat.le_of_ble_eq_true rfl⟩ ⟨Nat.le_of_ble_eq_true rfl, Nat.le_of_ble_eq_true rfl⟩ (Nat.le_of_ble_eq_true rfl) dX4_appendInput_6 rfl (xk_r ?_) (fun _ _ _ h => h.elim)
  refine xr_ifb_ne (tgt := 16) dX4_appendInput_9 (by decide) (fun c9 => ?_) (fun c9 => ?_)
  · skip
    try simp only [decide_eq_true_eq, decide_eq_false_iff_not] at c9
    refine xr_aload_n dX4_appendInput_16 rfl (by first | rfl | exact isRef_rf _) ?_
    refine xr_getfield (ci := 14) (T := TX4) (N := 23) (i := 11) hM.1.1 rfl (by decide) in_X4 q2202 (.inl rfl) dX4_appendInput_17 (by rfl) ?_
    refine xr_bipush dX4_appendInput_20 (by decide) ?_
    refine xr_icmp_ne (tgt := 29) dX4_appendInput_22 (by decide) (by omega) (fun c22 => ?_) (fun c22 => ?_)
    · skip
      refine xr_iconst dX4_appendInput_29 ?_
      refine xr_putfield (ci := 14) (T := TX4) (N := 23) (i := 0) (fs' := [_, _, _, _, _, _, _, _, _, _, _, _, _, _, _, _, _, _, _, _, _, _, _]) hM.1.1 rfl (by decide) in_X4 tyX4 tyX4_ok nmX4 q2191 (.inl rfl) rfl dX4_appendInput_30 (by rfl) (by rfl) (by simp) (by rfl) (.inl rfl) (fun _ => ?_)
      refine xr_mput (i := 0) hM (by rfl) (fun w30 hM => ?_)
      refine xr_aload_n dX4_appendInput_33 rfl (by first | rfl | exact isRef_rf _) ?_
      refine xr_getfield (ci := 14) (T := TX4) (N := 23) (i := 0) hM.1.1 rfl (by decide) in_X4 q2191 (.inl rfl) dX4_appendInput_34 (by rfl) ?_
      rw [updI_eq]
      refine xr_if_le (tgt := 42) dX4_appendInput_37 (by decide) (by decide) (fun c37 => ?_) (fun c37 => absurd c37 (by decide))
      refine xr_aload_n dX4_appendInput_42 rfl (by first | rfl | exact isRef_rf _) ?_
      refine xr_getfield (ci := 14) (T := TX4) (N := 23) (i := 8) hM.1.1 rfl (by decide) in_X4 q2199 (.inl rfl) dX4_appendInput_43 (by rfl) ?_
      refine xr_aload_n dX4_appendInput_46 rfl (by first | rfl | exact isRef_rf _) ?_
      refine xr_getfield (ci := 14) (T := TX4) (N := 23) (i := 11) hM.1.1 rfl (by decide) in_X4 q2202 (.inl rfl) dX4_appendInput_47 (by rfl) ?_
      rw [show updI F 0 0 11 = F 11 from updI_ne (by decide)]
      rw [i1]
      refine xr_iload_n dX4_appendInput_50 rfl ?_
      refine xr_mstC (j := 8) hM (by decide) (show (0 : Int) ≤ _ ∧ _ < ((60 : Nat) : Int) from by omega) dX4_appendInput_51 (fun w51 hM => ?_)
      refine xr_aload_n dX4_appendInput_52 rfl (by first | rfl | exact isRef_rf _) ?_
      refine xr_dup dX4_appendInput_53 (by first | rfl | exact cat_rf _) ?_
      refine xr_getfield (ci := 14) (T := TX4) (N := 23) (i := 11) hM.1.1 rfl (by decide) in_X4 q2202 (.inl rfl) dX4_appendInput_54 (by rfl) ?_
      rw [show updI F 0 0 11 = F 11 from updI_ne (by decide)]
      rw [i1]
      refine xr_iconst dX4_appendInput_57 ?_
      refine xr_iadd dX4_appendInput_58 ?_
      refine xr_putfield (ci := 14) (T := TX4) (N := 23) (i := 11) (fs' := [_, _, _, _, _, _, _, _, _, _, _, _, _, _, _, _, _, _, _, _, _, _, _]) hM.1.1 rfl (by decide) in_X4 tyX4 tyX4_ok nmX4 q2202 (.inl rfl) rfl dX4_appendInput_59 (by rfl) (by rfl) (by simp) (by rfl) (.inl rfl) (fun _ => ?_)
      refine xr_mput (i := 11) hM (by rfl) (fun w59 hM => ?_)
      refine xr_aload_n dX4_appendInput_62 rfl (by first | rfl | exact isRef_rf _) ?_
      refine xr_getfield (ci := 14) (T := TX4) (N := 23) (i := 11) hM.1.1 rfl (by decide) in_X4 q2202 (.inl rfl) dX4_appendInput_63 (by rfl) ?_
      rw [updI_eq]
      refine xr_ireturn rfl rfl dX4_appendInput_66 ?_
      rw [hpo]
      obtain ⟨a1, a2, a3, a4, a5, a6⟩ := hS
      refine ⟨(I.1 + 1 : Nat), rfl, hM.2, Or.inl ⟨by omega, by omega, rfl, _, _, hM.1, by rw [updI_ne (by decide), updI_eq], ?_⟩⟩
      refine ⟨?_, ?_, ⟨by rw [updI_eq]; rfl, by dsimp only; omega, fun k h0 h1 => ?_⟩, ?_, ?_, ?_⟩
      · exact a1
      · exact a2
      · have h1 : k < ((I.1 + 1 : Nat) : Int) := h1
        rw [updC_at]
        show updI (C 8) I.1 c k = updI I.2 I.1 c k
        by_cases hk : k = I.1
        · rw [hk, updI_eq, updI_eq]
        · rw [updI_ne hk, updI_ne hk, i3 k h0 (by omega)]
      · exact a4
      · exact a5
      · exact a6
    · skip
      refine xr_iconst dX4_appendInput_25 ?_
      refine xr_goto (tgt := 30) dX4_appendInput_26 (by decide) ?_
      refine xr_putfield (ci := 14) (T := TX4) (N := 23) (i := 0) (fs' := [_, _, _, _, _, _, _, _, _, _, _, _, _, _, _, _, _, _, _, _, _, _, _]) hM.1.1 rfl (by decide) in_X4 tyX4 tyX4_ok nmX4 q2191 (.inl rfl) rfl dX4_appendInput_30 (by rfl) (by rfl) (by simp) (by rfl) (.inl rfl) (fun _ => ?_)
      refine xr_mput (i := 0) hM (by rfl) (fun w30 hM => ?_)
      refine xr_aload_n dX4_appendInput_33 rfl (by first | rfl | exact isRef_rf _) ?_
      refine xr_getfield (ci := 14) (T := TX4) (N := 23) (i := 0) hM.1.1 rfl (by decide) in_X4 q2191 (.inl rfl) dX4_appendInput_34 (by rfl) ?_
      rw [updI_eq]
      refine xr_if_le (tgt := 42) dX4_appendInput_37 (by decide) (by decide) (fun c37 => absurd c37 (by decide)) (fun c37 => ?_)
      refine xr_iconst dX4_appendInput_40 ?_
      refine xr_ireturn rfl rfl dX4_appendInput_41 ?_
      rw [hpo]
      first
        | exact ⟨_, rfl, hM.2, Or.inr (Or.inl ⟨by omega, _, _, hM.1, updI_eq, hS.to (fun k hk => updI_ne (by omega)) (fun j hj => rfl)⟩)⟩
        | exact ⟨_, rfl, hM.2, Or.inr (Or.inr ⟨by omega, by omega, _, _, hM.1, updI_eq, hS.to (fun k hk => updI_ne (by omega)) (fun j hj => rfl)⟩)⟩
  · skip
    try simp only [decide_eq_true_eq, decide_eq_false_iff_not] at c9
    refine xr_iconst dX4_appendInput_12 ?_
    refine xr_goto (tgt := 30) dX4_appendInput_13 (by decide) ?_
    refine xr_putfield (ci := 14) (T := TX4) (N := 23) (i := 0) (fs' := [_, _, _, _, _, _, _, _, _, _, _, _, _, _, _, _, _, _, _, _, _, _, _]) hM.1.1 rfl (by decide) in_X4 tyX4 tyX4_ok nmX4 q2191 (.inl rfl) rfl dX4_appendInput_30 (by rfl) (by rfl) (by simp) (by rfl) (.inl rfl) (fun _ => ?_)
    refine xr_mput (i := 0) hM (by rfl) (fun w30 hM => ?_)
    refine xr_aload_n dX4_appendInput_33 rfl (by first | rfl | exact isRef_rf _) ?_
    refine xr_getfield (ci := 14) (T := TX4) (N := 23) (i := 0) hM.1.1 rfl (by decide) in_X4 q2191 (.inl rfl) dX4_appendInput_34 (by rfl) ?_
    rw [updI_eq]
    refine xr_if_le (tgt := 42) dX4_appendInput_37 (by decide) (by decide) (fun c37 => absurd c37 (by decide)) (fun c37 => ?_)
    refine xr_iconst dX4_appendInput_40 ?_
    refine xr_ireturn rfl rfl dX4_appendInput_41 ?_
    rw [hpo]
    first
      | exact ⟨_, rfl, hM.2, Or.inr (Or.inl ⟨by omega, _, _, hM.1, updI_eq, hS.to (fun k hk => updI_ne (by omega)) (fun j hj => rfl)⟩)⟩
      | exact ⟨_, rfl, hM.2, Or.inr (Or.inr ⟨by omega, by omega, _, _, hM.1, updI_eq, hS.to (fun k hk => updI_ne (by omega)) (fun j hj => rfl)⟩)⟩
/-! the other model's reader: text T of n chars in array 8; o where it stands, e whether it is wrong, k how many commands -/
def RD (F : Int → Int) (C : Int → Int → Int) (T : Int → Int) (n o e k : Int) : Prop := F 20 = n ∧ F 19 = o ∧ F 22 = e ∧ F 21 = k ∧ (0 ≤ n ∧ n ≤ 60) ∧ (0 ≤ o ∧ o ≤ n) ∧ ∀ i : Int, 0 ≤ i → i < n → C 8 i = T i ∧ 32 ≤ T i ∧ T i ≤ 126
def hereT (T : Int → Int) (n o : Int) : Int := if o < n then T o else -1
theorem hereT_cur {T : Int → Int} {n o c : Int} (hc : 0 < c) : (hereT T n o = c) ↔ (curT T n o = c) := by
  unfold hereT curT
  split
  · exact Iff.rfl
  · omega
theorem k_M_here {g : GG} {w : WW} {m : Nat} {A : Int → Nat} {F P : Int → Int} {C : Int → Int → Int} {T : Int → Int} {n o e k d : Int} (hG : Base g) (hM : MD g w m A F P C) (hR : RD F C T n o e k) (hd : 0 ≤ d ∧ d ≤ 1) : Ct g yX4_here (.code yX4_here cX4_here 2 (some .int)) 0 0 0 0 w [.ref m, .int (iI d)] (fun r_ w1 => r_ = some (.int (iI (hereT T n (o + d)))) ∧ w1 = w) xF := by
  refine Ct.of (lv := [some _, some _]) hG (by decide +kernel) (Nat.le_of_ble_eq_true rfl) rfl ?_
  intro z hg hpo hxp hnm htab
  subst hg
  have hM : MDF (zg z) w w m A F P C := ⟨hM, Fr.rf⟩
  obtain ⟨r1, r2, r3, r4, r5, r6, r7⟩ := hR
  refine xr_aload_n dX4_here_0 rfl (by first | rfl | exact isRef_rf _) ?_
  refine xr_getfield (ci := 14) (T := TX4) (N := 23) (i := 19) hM.1.1 rfl (by decide) in_X4 q2210 (.inl rfl) dX4_here_1 (by rfl) ?_
  rw [r2]
  refine xr_iload_n dX4_here_4 rfl ?_
  refine xr_iadd dX4_here_5 ?_
  refine xr_aload_n dX4_here_6 rfl (by first | rfl | exact isRef_rf _) ?_
  refine xr_getfield (ci := 14) (T := TX4) (N := 23) (i := 20) hM.1.1 rfl (by decide) in_X4 q2211 (.inl rfl) dX4_here_7 (by rfl) ?_
  rw [r1]
  refine xr_icmp_ge (tgt := 27) dX4_here_10 (by decide) (by omega) (fun c10 => ?_) (fun c10 => ?_)
  · skip
    refine xr_iconst dX4_here_27 ?_
    refine xr_ireturn rfl rfl dX4_here_28 ?_
    rw [hpo]
    first
      | (have h9 := (r7 (o + d) (by omega) (by omega)).1
         exact ⟨by rw [h9, hereT, if_pos (by omega)], rfl⟩)
      | exact ⟨by rw [hereT, if_neg (by omega)], rfl⟩
  · skip
    refine xr_aload_n dX4_here_13 rfl (by first | rfl | exact isRef_rf _) ?_
    refine xr_getfield (ci := 14) (T := TX4) (N := 23) (i := 8) hM.1.1 rfl (by decide) in_X4 q2199 (.inl rfl) dX4_here_14 (by rfl) ?_
    refine xr_aload_n dX4_here_17 rfl (by first | rfl | exact isRef_rf _) ?_
    refine xr_getfield (ci := 14) (T := TX4) (N := 23) (i := 19) hM.1.1 rfl (by decide) in_X4 q2210 (.inl rfl) dX4_here_18 (by rfl) ?_
    rw [r2]
    refine xr_iload_n dX4_here_21 rfl ?_
    refine xr_iadd dX4_here_22 ?_
    refine xr_iaload (hM.1.2.2.1 8 (by decide)) (show (0 : Int) ≤ _ ∧ _ < ((60 : Nat) : Int) from by omega) (by decide) dX4_here_23 ?_
    refine xr_goto (tgt := 28) dX4_here_24 (by decide) ?_
    refine xr_ireturn rfl rfl dX4_here_28 ?_
    rw [hpo]
    first
      | (have h9 := (r7 (o + d) (by omega) (by omega)).1
         exact ⟨by rw [h9, hereT, if_pos (by omega)], rfl⟩)
      | exact ⟨by rw [hereT, if_neg (by omega)], rfl⟩
