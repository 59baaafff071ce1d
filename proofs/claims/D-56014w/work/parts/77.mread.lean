/-! 77.mread.lean.txt (written by tools/walker.py)  -/
set_option maxRecDepth 100000
theorem k_N_benchCount {g : GG} {w : WW} {m : Nat} {A : Int → Nat} {th : Int} {P : Int → Int} {S : Option (Int → Int)} {H : List (Int → Int)} {I O : Tx} {se : Option Int} {rj : Option (Int × Int × Int)} (hG : Base g) (hX : MR g w m A th P S H I O se rj) : Ct g yX4_benchCount (.code yX4_benchCount cX4_benchCount 1 (some .int)) 0 0 0 0 w [.ref m] (fun r_ w1 => ∃ y th : Int, r_ = some (.int (iI y)) ∧ Fr (MS m A) w w1 ∧ MR g w1 m A th P S H I O se rj ∧ (th = 0 ∧ y = P 0)) xF := by
  refine Ct.of (lv := [some _]) hG (by decide +kernel) (Nat.le_of_ble_eq_true rfl) rfl ?_
  intro z hg hpo hxp hnm htab
  subst hg
  obtain ⟨F, C, hM, -, hS⟩ := hX
  have hM : MDF (zg z) w w m A F P C := ⟨hM, Fr.rf⟩
  have h68 : 0 ≤ F 6 ∧ F 6 ≤ 8 := by have := hS.1.1; have := hS.1.2.1; omega
  refine xr_aload_n dX4_benchCount_0 rfl (by first | rfl | exact isRef_rf _) ?_
  refine xr_iconst dX4_benchCount_1 ?_
  refine xr_putfield (ci := 14) (T := TX4) (N := 23) (i := 0) (fs' := [_, _, _, _, _, _, _, _, _, _, _, _, _, _, _, _, _, _, _, _, _, _, _]) hM.1.1 rfl (by decide) in_X4 tyX4 tyX4_ok nmX4 q2191 (.inl rfl) rfl dX4_benchCount_2 (by rfl) (by rfl) (by simp) (by rfl) (.inl rfl) (fun _ => ?_)
  refine xr_mput (i := 0) hM (by rfl) (fun w2 hM => ?_)
  refine xr_aload_n dX4_benchCount_5 rfl (by first | rfl | exact isRef_rf _) ?_
  refine xr_getfield (ci := 14) (T := TX4) (N := 23) (i := 1) hM.1.1 rfl (by decide) in_X4 q2192 (.inl rfl) dX4_benchCount_6 (by rfl) ?_
  refine xr_iconst dX4_benchCount_9 ?_
  refine xr_iaload hM.1.2.1 (by omega) (by decide) dX4_benchCount_10 ?_
  refine xr_ireturn rfl rfl dX4_benchCount_11 ?_
  rw [hpo]
  first
    | exact ⟨_, 0, rfl, hM.2, ⟨_, _, hM.1, updI_eq, hS.to (fun k hk => updI_ne (by omega)) (fun j hj => rfl)⟩, ⟨rfl, rfl⟩⟩
theorem k_N_fountainCount {g : GG} {w : WW} {m : Nat} {A : Int → Nat} {th : Int} {P : Int → Int} {S : Option (Int → Int)} {H : List (Int → Int)} {I O : Tx} {se : Option Int} {rj : Option (Int × Int × Int)} (hG : Base g) (hX : MR g w m A th P S H I O se rj) : Ct g yX4_fountainCount (.code yX4_fountainCount cX4_fountainCount 1 (some .int)) 0 0 0 0 w [.ref m] (fun r_ w1 => ∃ y th : Int, r_ = some (.int (iI y)) ∧ Fr (MS m A) w w1 ∧ MR g w1 m A th P S H I O se rj ∧ (th = 0 ∧ y = P 1)) xF := by
  refine Ct.of (lv := [some _]) hG (by decide +kernel) (Nat.le_of_ble_eq_true rfl) rfl ?_
  intro z hg hpo hxp hnm htab
  subst hg
  obtain ⟨F, C, hM, -, hS⟩ := hX
  have hM : MDF (zg z) w w m A F P C := ⟨hM, Fr.rf⟩
  have h68 : 0 ≤ F 6 ∧ F 6 ≤ 8 := by have := hS.1.1; have := hS.1.2.1; omega
  refine xr_aload_n dX4_fountainCount_0 rfl (by first | rfl | exact isRef_rf _) ?_
  refine xr_iconst dX4_fountainCount_1 ?_
  refine xr_putfield (ci := 14) (T := TX4) (N := 23) (i := 0) (fs' := [_, _, _, _, _, _, _, _, _, _, _, _, _, _, _, _, _, _, _, _, _, _, _]) hM.1.1 rfl (by decide) in_X4 tyX4 tyX4_ok nmX4 q2191 (.inl rfl) rfl dX4_fountainCount_2 (by rfl) (by rfl) (by simp) (by rfl) (.inl rfl) (fun _ => ?_)
  refine xr_mput (i := 0) hM (by rfl) (fun w2 hM => ?_)
  refine xr_aload_n dX4_fountainCount_5 rfl (by first | rfl | exact isRef_rf _) ?_
  refine xr_getfield (ci := 14) (T := TX4) (N := 23) (i := 1) hM.1.1 rfl (by decide) in_X4 q2192 (.inl rfl) dX4_fountainCount_6 (by rfl) ?_
  refine xr_iconst dX4_fountainCount_9 ?_
  refine xr_iaload hM.1.2.1 (by omega) (by decide) dX4_fountainCount_10 ?_
  refine xr_ireturn rfl rfl dX4_fountainCount_11 ?_
  rw [hpo]
  first
    | exact ⟨_, 0, rfl, hM.2, ⟨_, _, hM.1, updI_eq, hS.to (fun k hk => updI_ne (by omega)) (fun j hj => rfl)⟩, ⟨rfl, rfl⟩⟩
theorem k_N_noiseLimit {g : GG} {w : WW} {m : Nat} {A : Int → Nat} {th : Int} {P : Int → Int} {S : Option (Int → Int)} {H : List (Int → Int)} {I O : Tx} {se : Option Int} {rj : Option (Int × Int × Int)} (hG : Base g) (hX : MR g w m A th P S H I O se rj) : Ct g yX4_noiseLimit (.code yX4_noiseLimit cX4_noiseLimit 1 (some .int)) 0 0 0 0 w [.ref m] (fun r_ w1 => ∃ y th : Int, r_ = some (.int (iI y)) ∧ Fr (MS m A) w w1 ∧ MR g w1 m A th P S H I O se rj ∧ (th = 0 ∧ y = P 3)) xF := by
  refine Ct.of (lv := [some _]) hG (by decide +kernel) (Nat.le_of_ble_eq_true rfl) rfl ?_
  intro z hg hpo hxp hnm htab
  subst hg
  obtain ⟨F, C, hM, -, hS⟩ := hX
  have hM : MDF (zg z) w w m A F P C := ⟨hM, Fr.rf⟩
  have h68 : 0 ≤ F 6 ∧ F 6 ≤ 8 := by have := hS.1.1; have := hS.1.2.1; omega
  refine xr_aload_n dX4_noiseLimit_0 rfl (by first | rfl | exact isRef_rf _) ?_
  refine xr_iconst dX4_noiseLimit_1 ?_
  refine xr_putfield (ci := 14) (T := TX4) (N := 23) (i := 0) (fs' := [_, _, _, _, _, _, _, _, _, _, _, _, _, _, _, _, _, _, _, _, _, _, _]) hM.1.1 rfl (by decide) in_X4 tyX4 tyX4_ok nmX4 q2191 (.inl rfl) rfl dX4_noiseLimit_2 (by rfl) (by rfl) (by simp) (by rfl) (.inl rfl) (fun _ => ?_)
  refine xr_mput (i := 0) hM (by rfl) (fun w2 hM => ?_)
  refine xr_aload_n dX4_noiseLimit_5 rfl (by first | rfl | exact isRef_rf _) ?_
  refine xr_getfield (ci := 14) (T := TX4) (N := 23) (i := 1) hM.1.1 rfl (by decide) in_X4 q2192 (.inl rfl) dX4_noiseLimit_6 (by rfl) ?_
  refine xr_iconst dX4_noiseLimit_9 ?_
  refine xr_iaload hM.1.2.1 (by omega) (by decide) dX4_noiseLimit_10 ?_
  refine xr_ireturn rfl rfl dX4_noiseLimit_11 ?_
  rw [hpo]
  first
    | exact ⟨_, 0, rfl, hM.2, ⟨_, _, hM.1, updI_eq, hS.to (fun k hk => updI_ne (by omega)) (fun j hj => rfl)⟩, ⟨rfl, rfl⟩⟩
theorem k_N_tenantCount {g : GG} {w : WW} {m : Nat} {A : Int → Nat} {th : Int} {P : Int → Int} {S : Option (Int → Int)} {H : List (Int → Int)} {I O : Tx} {se : Option Int} {rj : Option (Int × Int × Int)} (hG : Base g) (hX : MR g w m A th P S H I O se rj) : Ct g yX4_tenantCount (.code yX4_tenantCount cX4_tenantCount 1 (some .int)) 0 0 0 0 w [.ref m] (fun r_ w1 => ∃ y th : Int, r_ = some (.int (iI y)) ∧ Fr (MS m A) w w1 ∧ MR g w1 m A th P S H I O se rj ∧ (th = 0 ∧ y = P 2)) xF := by
  refine Ct.of (lv := [some _]) hG (by decide +kernel) (Nat.le_of_ble_eq_true rfl) rfl ?_
  intro z hg hpo hxp hnm htab
  subst hg
  obtain ⟨F, C, hM, -, hS⟩ := hX
  have hM : MDF (zg z) w w m A F P C := ⟨hM, Fr.rf⟩
  have h68 : 0 ≤ F 6 ∧ F 6 ≤ 8 := by have := hS.1.1; have := hS.1.2.1; omega
  refine xr_aload_n dX4_tenantCount_0 rfl (by first | rfl | exact isRef_rf _) ?_
  refine xr_iconst dX4_tenantCount_1 ?_
  refine xr_putfield (ci := 14) (T := TX4) (N := 23) (i := 0) (fs' := [_, _, _, _, _, _, _, _, _, _, _, _, _, _, _, _, _, _, _, _, _, _, _]) hM.1.1 rfl (by decide) in_X4 tyX4 tyX4_ok nmX4 q2191 (.inl rfl) rfl dX4_tenantCount_2 (by rfl) (by rfl) (by simp) (by rfl) (.inl rfl) (fun _ => ?_)
  refine xr_mput (i := 0) hM (by rfl) (fun w2 hM => ?_)
  refine xr_aload_n dX4_tenantCount_5 rfl (by first | rfl | exact isRef_rf _) ?_
  refine xr_getfield (ci := 14) (T := TX4) (N := 23) (i := 1) hM.1.1 rfl (by decide) in_X4 q2192 (.inl rfl) dX4_tenantCount_6 (by rfl) ?_
  refine xr_iconst dX4_tenantCount_9 ?_
  refine xr_iaload hM.1.2.1 (by omega) (by decide) dX4_tenantCount_10 ?_
  refine xr_ireturn rfl rfl dX4_tenantCount_11 ?_
  rw [hpo]
  first
    | exact ⟨_, 0, rfl, hM.2, ⟨_, _, hM.1, updI_eq, hS.to (fun k hk => updI_ne (by omega)) (fun j hj => rfl)⟩, ⟨rfl, rfl⟩⟩
theorem k_N_month {g : GG} {w : WW} {m : Nat} {A : Int → Nat} {th : Int} {P : Int → Int} {S : Option (Int → Int)} {H : List (Int → Int)} {I O : Tx} {se : Option Int} {rj : Option (Int × Int × Int)} (hG : Base g) (hX : MR g w m A th P S H I O se rj) : Ct g yX4_month (.code yX4_month cX4_month 1 (some .int)) 0 0 0 0 w [.ref m] (fun r_ w1 => ∃ y th : Int, r_ = some (.int (iI y)) ∧ Fr (MS m A) w w1 ∧ MR g w1 m A th P S H I O se rj ∧ (th = 0 ∧ y = P 4)) xF := by
  refine Ct.of (lv := [some _]) hG (by decide +kernel) (Nat.le_of_ble_eq_true rfl) rfl ?_
  intro z hg hpo hxp hnm htab
  subst hg
  obtain ⟨F, C, hM, -, hS⟩ := hX
  have hM : MDF (zg z) w w m A F P C := ⟨hM, Fr.rf⟩
  have h68 : 0 ≤ F 6 ∧ F 6 ≤ 8 := by have := hS.1.1; have := hS.1.2.1; omega
  refine xr_aload_n dX4_month_0 rfl (by first | rfl | exact isRef_rf _) ?_
  refine xr_iconst dX4_month_1 ?_
  refine xr_putfield (ci := 14) (T := TX4) (N := 23) (i := 0) (fs' := [_, _, _, _, _, _, _, _, _, _, _, _, _, _, _, _, _, _, _, _, _, _, _]) hM.1.1 rfl (by decide) in_X4 tyX4 tyX4_ok nmX4 q2191 (.inl rfl) rfl dX4_month_2 (by rfl) (by rfl) (by simp) (by rfl) (.inl rfl) (fun _ => ?_)
  refine xr_mput (i := 0) hM (by rfl) (fun w2 hM => ?_)
  refine xr_aload_n dX4_month_5 rfl (by first | rfl | exact isRef_rf _) ?_
  refine xr_getfield (ci := 14) (T := TX4) (N := 23) (i := 1) hM.1.1 rfl (by decide) in_X4 q2192 (.inl rfl) dX4_month_6 (by rfl) ?_
  refine xr_iconst dX4_month_9 ?_
  refine xr_iaload hM.1.2.1 (by omega) (by decide) dX4_month_10 ?_
  refine xr_ireturn rfl rfl dX4_month_11 ?_
  rw [hpo]
  first
    | exact ⟨_, 0, rfl, hM.2, ⟨_, _, hM.1, updI_eq, hS.to (fun k hk => updI_ne (by omega)) (fun j hj => rfl)⟩, ⟨rfl, rfl⟩⟩
theorem k_N_brokerCoins {g : GG} {w : WW} {m : Nat} {A : Int → Nat} {th : Int} {P : Int → Int} {S : Option (Int → Int)} {H : List (Int → Int)} {I O : Tx} {se : Option Int} {rj : Option (Int × Int × Int)} (hG : Base g) (hX : MR g w m A th P S H I O se rj) : Ct g yX4_brokerCoins (.code yX4_brokerCoins cX4_brokerCoins 1 (some .int)) 0 0 0 0 w [.ref m] (fun r_ w1 => ∃ y th : Int, r_ = some (.int (iI y)) ∧ Fr (MS m A) w w1 ∧ MR g w1 m A th P S H I O se rj ∧ (th = 0 ∧ y = P 5)) xF := by
  refine Ct.of (lv := [some _]) hG (by decide +kernel) (Nat.le_of_ble_eq_true rfl) rfl ?_
  intro z hg hpo hxp hnm htab
  subst hg
  obtain ⟨F, C, hM, -, hS⟩ := hX
  have hM : MDF (zg z) w w m A F P C := ⟨hM, Fr.rf⟩
  have h68 : 0 ≤ F 6 ∧ F 6 ≤ 8 := by have := hS.1.1; have := hS.1.2.1; omega
  refine xr_aload_n dX4_brokerCoins_0 rfl (by first | rfl | exact isRef_rf _) ?_
  refine xr_iconst dX4_brokerCoins_1 ?_
  refine xr_putfield (ci := 14) (T := TX4) (N := 23) (i := 0) (fs' := [_, _, _, _, _, _, _, _, _, _, _, _, _, _, _, _, _, _, _, _, _, _, _]) hM.1.1 rfl (by decide) in_X4 tyX4 tyX4_ok nmX4 q2191 (.inl rfl) rfl dX4_brokerCoins_2 (by rfl) (by rfl) (by simp) (by rfl) (.inl rfl) (fun _ => ?_)
  refine xr_mput (i := 0) hM (by rfl) (fun w2 hM => ?_)
  refine xr_aload_n dX4_brokerCoins_5 rfl (by first | rfl | exact isRef_rf _) ?_
  refine xr_getfield (ci := 14) (T := TX4) (N := 23) (i := 1) hM.1.1 rfl (by decide) in_X4 q2192 (.inl rfl) dX4_brokerCoins_6 (by rfl) ?_
  refine xr_iconst dX4_brokerCoins_9 ?_
  refine xr_iaload hM.1.2.1 (by omega) (by decide) dX4_brokerCoins_10 ?_
  refine xr_ireturn rfl rfl dX4_brokerCoins_11 ?_
  rw [hpo]
  first
    | exact ⟨_, 0, rfl, hM.2, ⟨_, _, hM.1, updI_eq, hS.to (fun k hk => updI_ne (by omega)) (fun j hj => rfl)⟩, ⟨rfl, rfl⟩⟩
theorem k_N_allCoinsGiven {g : GG} {w : WW} {m : Nat} {A : Int → Nat} {th : Int} {P : Int → Int} {S : Option (Int → Int)} {H : List (Int → Int)} {I O : Tx} {se : Option Int} {rj : Option (Int × Int × Int)} (hG : Base g) (hX : MR g w m A th P S H I O se rj) : Ct g yX4_allCoinsGiven (.code yX4_allCoinsGiven cX4_allCoinsGiven 1 (some .int)) 0 0 0 0 w [.ref m] (fun r_ w1 => ∃ y th : Int, r_ = some (.int (iI y)) ∧ Fr (MS m A) w w1 ∧ MR g w1 m A th P S H I O se rj ∧ (th = 0 ∧ y = P 6)) xF := by
  refine Ct.of (lv := [some _]) hG (by decide +kernel) (Nat.le_of_ble_eq_true rfl) rfl ?_
  intro z hg hpo hxp hnm htab
  subst hg
  obtain ⟨F, C, hM, -, hS⟩ := hX
  have hM : MDF (zg z) w w m A F P C := ⟨hM, Fr.rf⟩
  have h68 : 0 ≤ F 6 ∧ F 6 ≤ 8 := by have := hS.1.1; have := hS.1.2.1; omega
  refine xr_aload_n dX4_allCoinsGiven_0 rfl (by first | rfl | exact isRef_rf _) ?_
  refine xr_iconst dX4_allCoinsGiven_1 ?_
  refine xr_putfield (ci := 14) (T := TX4) (N := 23) (i := 0) (fs' := [_, _, _, _, _, _, _, _, _, _, _, _, _, _, _, _, _, _, _, _, _, _, _]) hM.1.1 rfl (by decide) in_X4 tyX4 tyX4_ok nmX4 q2191 (.inl rfl) rfl dX4_allCoinsGiven_2 (by rfl) (by rfl) (by simp) (by rfl) (.inl rfl) (fun _ => ?_)
  refine xr_mput (i := 0) hM (by rfl) (fun w2 hM => ?_)
  refine xr_aload_n dX4_allCoinsGiven_5 rfl (by first | rfl | exact isRef_rf _) ?_
  refine xr_getfield (ci := 14) (T := TX4) (N := 23) (i := 1) hM.1.1 rfl (by decide) in_X4 q2192 (.inl rfl) dX4_allCoinsGiven_6 (by rfl) ?_
  refine xr_bipush dX4_allCoinsGiven_9 (by decide) ?_
  refine xr_iaload hM.1.2.1 (by omega) (by decide) dX4_allCoinsGiven_11 ?_
  refine xr_ireturn rfl rfl dX4_allCoinsGiven_12 ?_
  rw [hpo]
  first
    | exact ⟨_, 0, rfl, hM.2, ⟨_, _, hM.1, updI_eq, hS.to (fun k hk => updI_ne (by omega)) (fun j hj => rfl)⟩, ⟨rfl, rfl⟩⟩
theorem k_N_defaultedLeases {g : GG} {w : WW} {m : Nat} {A : Int → Nat} {th : Int} {P : Int → Int} {S : Option (Int → Int)} {H : List (Int → Int)} {I O : Tx} {se : Option Int} {rj : Option (Int × Int × Int)} (hG : Base g) (hX : MR g w m A th P S H I O se rj) : Ct g yX4_defaultedLeases (.code yX4_defaultedLeases cX4_defaultedLeases 1 (some .int)) 0 0 0 0 w [.ref m] (fun r_ w1 => ∃ y th : Int, r_ = some (.int (iI y)) ∧ Fr (MS m A) w w1 ∧ MR g w1 m A th P S H I O se rj ∧ (th = 0 ∧ y = P 7)) xF := by
  refine Ct.of (lv := [some _]) hG (by decide +kernel) (Nat.le_of_ble_eq_true rfl) rfl ?_
  intro z hg hpo hxp hnm htab
  subst hg
  obtain ⟨F, C, hM, -, hS⟩ := hX
  have hM : MDF (zg z) w w m A F P C := ⟨hM, Fr.rf⟩
  have h68 : 0 ≤ F 6 ∧ F 6 ≤ 8 := by have := hS.1.1; have := hS.1.2.1; omega
  refine xr_aload_n dX4_defaultedLeases_0 rfl (by first | rfl | exact isRef_rf _) ?_
  refine xr_iconst dX4_defaultedLeases_1 ?_
  refine xr_putfield (ci := 14) (T := TX4) (N := 23) (i := 0) (fs' := [_, _, _, _, _, _, _, _, _, _, _, _, _, _, _, _, _, _, _, _, _, _, _]) hM.1.1 rfl (by decide) in_X4 tyX4 tyX4_ok nmX4 q2191 (.inl rfl) rfl dX4_defaultedLeases_2 (by rfl) (by rfl) (by simp) (by rfl) (.inl rfl) (fun _ => ?_)
  refine xr_mput (i := 0) hM (by rfl) (fun w2 hM => ?_)
  refine xr_aload_n dX4_defaultedLeases_5 rfl (by first | rfl | exact isRef_rf _) ?_
  refine xr_getfield (ci := 14) (T := TX4) (N := 23) (i := 1) hM.1.1 rfl (by decide) in_X4 q2192 (.inl rfl) dX4_defaultedLeases_6 (by rfl) ?_
  refine xr_bipush dX4_defaultedLeases_9 (by decide) ?_
  refine xr_iaload hM.1.2.1 (by omega) (by decide) dX4_defaultedLeases_11 ?_
  refine xr_ireturn rfl rfl dX4_defaultedLeases_12 ?_
  rw [hpo]
  first
    | exact ⟨_, 0, rfl, hM.2, ⟨_, _, hM.1, updI_eq, hS.to (fun k hk => updI_ne (by omega)) (fun j hj => rfl)⟩, ⟨rfl, rfl⟩⟩
theorem k_N_terminatedLeases {g : GG} {w : WW} {m : Nat} {A : Int → Nat} {th : Int} {P : Int → Int} {S : Option (Int → Int)} {H : List (Int → Int)} {I O : Tx} {se : Option Int} {rj : Option (Int × Int × Int)} (hG : Base g) (hX : MR g w m A th P S H I O se rj) : Ct g yX4_terminatedLeases (.code yX4_terminatedLeases cX4_terminatedLeases 1 (some .int)) 0 0 0 0 w [.ref m] (fun r_ w1 => ∃ y th : Int, r_ = some (.int (iI y)) ∧ Fr (MS m A) w w1 ∧ MR g w1 m A th P S H I O se rj ∧ (th = 0 ∧ y = P 8)) xF := by
  refine Ct.of (lv := [some _]) hG (by decide +kernel) (Nat.le_of_ble_eq_true rfl) rfl ?_
  intro z hg hpo hxp hnm htab
  subst hg
  obtain ⟨F, C, hM, -, hS⟩ := hX
  have hM : MDF (zg z) w w m A F P C := ⟨hM, Fr.rf⟩
  have h68 : 0 ≤ F 6 ∧ F 6 ≤ 8 := by have := hS.1.1; have := hS.1.2.1; omega
  refine xr_aload_n dX4_terminatedLeases_0 rfl (by first | rfl | exact isRef_rf _) ?_
  refine xr_iconst dX4_terminatedLeases_1 ?_
  refine xr_putfield (ci := 14) (T := TX4) (N := 23) (i := 0) (fs' := [_, _, _, _, _, _, _, _, _, _, _, _, _, _, _, _, _, _, _, _, _, _, _]) hM.1.1 rfl (by decide) in_X4 tyX4 tyX4_ok nmX4 q2191 (.inl rfl) rfl dX4_terminatedLeases_2 (by rfl) (by rfl) (by simp) (by rfl) (.inl rfl) (fun _ => ?_)
  refine xr_mput (i := 0) hM (by rfl) (fun w2 hM => ?_)
  refine xr_aload_n dX4_terminatedLeases_5 rfl (by first | rfl | exact isRef_rf _) ?_
  refine xr_getfield (ci := 14) (T := TX4) (N := 23) (i := 1) hM.1.1 rfl (by decide) in_X4 q2192 (.inl rfl) dX4_terminatedLeases_6 (by rfl) ?_
  refine xr_bipush dX4_terminatedLeases_9 (by decide) ?_
  refine xr_iaload hM.1.2.1 (by omega) (by decide) dX4_terminatedLeases_11 ?_
  refine xr_ireturn rfl rfl dX4_terminatedLeases_12 ?_
  rw [hpo]
  first
    | exact ⟨_, 0, rfl, hM.2, ⟨_, _, hM.1, updI_eq, hS.to (fun k hk => updI_ne (by omega)) (fun j hj => rfl)⟩, ⟨rfl, rfl⟩⟩
theorem k_N_completedLeases {g : GG} {w : WW} {m : Nat} {A : Int → Nat} {th : Int} {P : Int → Int} {S : Option (Int → Int)} {H : List (Int → Int)} {I O : Tx} {se : Option Int} {rj : Option (Int × Int × Int)} (hG : Base g) (hX : MR g w m A th P S H I O se rj) : Ct g yX4_completedLeases (.code yX4_completedLeases cX4_completedLeases 1 (some .int)) 0 0 0 0 w [.ref m] (fun r_ w1 => ∃ y th : Int, r_ = some (.int (iI y)) ∧ Fr (MS m A) w w1 ∧ MR g w1 m A th P S H I O se rj ∧ (th = 0 ∧ y = P 9)) xF := by
  refine Ct.of (lv := [some _]) hG (by decide +kernel) (Nat.le_of_ble_eq_true rfl) rfl ?_
  intro z hg hpo hxp hnm htab
  subst hg
  obtain ⟨F, C, hM, -, hS⟩ := hX
  have hM : MDF (zg z) w w m A F P C := ⟨hM, Fr.rf⟩
  have h68 : 0 ≤ F 6 ∧ F 6 ≤ 8 := by have := hS.1.1; have := hS.1.2.1; omega
  refine xr_aload_n dX4_completedLeases_0 rfl (by first | rfl | exact isRef_rf _) ?_
  refine xr_iconst dX4_completedLeases_1 ?_
  refine xr_putfield (ci := 14) (T := TX4) (N := 23) (i := 0) (fs' := [_, _, _, _, _, _, _, _, _, _, _, _, _, _, _, _, _, _, _, _, _, _, _]) hM.1.1 rfl (by decide) in_X4 tyX4 tyX4_ok nmX4 q2191 (.inl rfl) rfl dX4_completedLeases_2 (by rfl) (by rfl) (by simp) (by rfl) (.inl rfl) (fun _ => ?_)
  refine xr_mput (i := 0) hM (by rfl) (fun w2 hM => ?_)
  refine xr_aload_n dX4_completedLeases_5 rfl (by first | rfl | exact isRef_rf _) ?_
  refine xr_getfield (ci := 14) (T := TX4) (N := 23) (i := 1) hM.1.1 rfl (by decide) in_X4 q2192 (.inl rfl) dX4_completedLeases_6 (by rfl) ?_
  refine xr_bipush dX4_completedLeases_9 (by decide) ?_
  refine xr_iaload hM.1.2.1 (by omega) (by decide) dX4_completedLeases_11 ?_
  refine xr_ireturn rfl rfl dX4_completedLeases_12 ?_
  rw [hpo]
  first
    | exact ⟨_, 0, rfl, hM.2, ⟨_, _, hM.1, updI_eq, hS.to (fun k hk => updI_ne (by omega)) (fun j hj => rfl)⟩, ⟨rfl, rfl⟩⟩
theorem k_N_askedBench_0 {g : GG} {w : WW} {m : Nat} {A : Int → Nat} {th : Int} {P : Int → Int} {S : Option (Int → Int)} {H : List (Int → Int)} {I O : Tx} {se : Option Int} {rj : Option (Int × Int × Int)} {b N : Int} (hG : Base g) (hX : MR g w m A th P S H I O se rj) (hB : PB P N) (hr : (-2147483648 ≤ b ∧ b < 2147483648)) : Ct g yX4_askedBench (.code yX4_askedBench cX4_askedBench 3 (some .int)) 2 43 0 0 w [.ref m, .int (iI b), .int (iI 0)] (fun r_ w1 => ∃ y th : Int, r_ = some (.int (iI y)) ∧ Fr (MS m A) w w1 ∧ MR g w1 m A th P S H I O se rj ∧ (((0 ≤ b ∧ b < P 0) ∧ th = 0 ∧ y = P (10 + 6 * b)) ∨ (¬ (0 ≤ b ∧ b < P 0) ∧ th = 1))) xF := by
  refine Ct.of (lv := [some _, some _, some _]) hG (by decide +kernel) (Nat.le_of_ble_eq_true rfl) rfl ?_
  intro z hg hpo hxp hnm htab
  subst hg
  obtain ⟨F, C, hM, -, hS⟩ := hX
  have hM : MDF (zg z) w w m A F P C := ⟨hM, Fr.rf⟩
  have h68 : 0 ≤ F 6 ∧ F 6 ≤ 8 := by have := hS.1.1; have := hS.1.2.1; omega
  have hgg := hB.g
  refine xr_aload_n dX4_askedBench_0 rfl (by first | rfl | exact isRef_rf _) ?_
  refine xr_aload_n dX4_askedBench_1 rfl (by first | rfl | exact isRef_rf _) ?_
  refine xr_iload_n dX4_askedBench_2 rfl ?_
  refine xr_callV (n9 := 1) (rc' := 0) (rs' := 0) (k_M_isBench hG hM.1 hB (by omega)) hM.1.1 rfl q2323 q2325 qs48 q96 q2326 (by decide +kernel) rfl ⟨by decide, Nat.le_of_ble_eq_true rfl⟩ ⟨Nat.le_of_ble_eq_true rfl, Nat.le_of_ble_eq_true rfl⟩ (Nat.le_of_ble_eq_true rfl) dX4_askedBench_3 rfl (xk_r ?_) (fun _ _ _ h => h.elim)
  refine xr_ifb_eq (tgt := 13) dX4_askedBench_6 (by decide) (fun c6 => ?_) (fun c6 => ?_)
  · skip
    try simp only [decide_eq_true_eq, decide_eq_false_iff_not] at c6
    refine xr_iconst dX4_askedBench_13 ?_
    refine xr_putfield (ci := 14) (T := TX4) (N := 23) (i := 0) (fs' := [_, _, _, _, _, _, _, _, _, _, _, _, _, _, _, _, _, _, _, _, _, _, _]) hM.1.1 rfl (by decide) in_X4 tyX4 tyX4_ok nmX4 q2191 (.inl rfl) rfl dX4_askedBench_14 (by rfl) (by rfl) (by simp) (by rfl) (.inl rfl) (fun _ => ?_)
    refine xr_mput (i := 0) hM (by rfl) (fun w14 hM => ?_)
    refine xr_aload_n dX4_askedBench_17 rfl (by first | rfl | exact isRef_rf _) ?_
    refine xr_getfield (ci := 14) (T := TX4) (N := 23) (i := 0) hM.1.1 rfl (by decide) in_X4 q2191 (.inl rfl) dX4_askedBench_18 (by rfl) ?_
    rw [updI_eq]
    refine xr_if_le (tgt := 28) dX4_askedBench_21 (by decide) (by decide) (fun c21 => absurd c21 (by decide)) (fun c21 => ?_)
    refine xr_iconst dX4_askedBench_24 ?_
    refine xr_goto (tgt := 34) dX4_askedBench_25 (by decide) ?_
    refine xr_ireturn rfl rfl dX4_askedBench_34 ?_
    rw [hpo]
    first
      | exact ⟨_, 0, rfl, hM.2, ⟨_, _, hM.1, updI_eq, hS.to (fun k hk => updI_ne (by omega)) (fun j hj => rfl)⟩, Or.inl ⟨by omega, rfl, rfl⟩⟩
      | exact ⟨_, 1, rfl, hM.2, ⟨_, _, hM.1, updI_eq, hS.to (fun k hk => updI_ne (by omega)) (fun j hj => rfl)⟩, Or.inr ⟨by omega, rfl⟩⟩
  · skip
    try simp only [decide_eq_true_eq, decide_eq_false_iff_not] at c6
    refine xr_iconst dX4_askedBench_9 ?_
    refine xr_goto (tgt := 14) dX4_askedBench_10 (by decide) ?_
    refine xr_putfield (ci := 14) (T := TX4) (N := 23) (i := 0) (fs' := [_, _, _, _, _, _, _, _, _, _, _, _, _, _, _, _, _, _, _, _, _, _, _]) hM.1.1 rfl (by decide) in_X4 tyX4 tyX4_ok nmX4 q2191 (.inl rfl) rfl dX4_askedBench_14 (by rfl) (by rfl) (by simp) (by rfl) (.inl rfl) (fun _ => ?_)
    refine xr_mput (i := 0) hM (by rfl) (fun w14 hM => ?_)
    refine xr_aload_n dX4_askedBench_17 rfl (by first | rfl | exact isRef_rf _) ?_
    refine xr_getfield (ci := 14) (T := TX4) (N := 23) (i := 0) hM.1.1 rfl (by decide) in_X4 q2191 (.inl rfl) dX4_askedBench_18 (by rfl) ?_
    rw [updI_eq]
    refine xr_if_le (tgt := 28) dX4_askedBench_21 (by decide) (by decide) (fun c21 => ?_) (fun c21 => absurd c21 (by decide))
    refine xr_aload_n dX4_askedBench_28 rfl (by first | rfl | exact isRef_rf _) ?_
    refine xr_iload_n dX4_askedBench_29 rfl ?_
    refine xr_iload_n dX4_askedBench_30 rfl ?_
    refine xr_callV (n9 := 2) (rc' := 0) (rs' := 0) (k_M_bench_0 hG hM.1 (by omega)) hM.1.1 rfl q2291 q2293 qs41 q96 q2294 (by decide +kernel) rfl ⟨by decide, Nat.le_of_ble_eq_true rfl⟩ ⟨Nat.le_of_ble_eq_true rfl, Nat.le_of_ble_eq_true rfl⟩ (Nat.le_of_ble_eq_true rfl) dX4_askedBench_31 rfl (xk_r ?_) (fun _ _ _ h => h.elim)
    refine xr_ireturn rfl rfl dX4_askedBench_34 ?_
    rw [hpo]
    first
      | exact ⟨_, 0, rfl, hM.2, ⟨_, _, hM.1, updI_eq, hS.to (fun k hk => updI_ne (by omega)) (fun j hj => rfl)⟩, Or.inl ⟨by omega, rfl, rfl⟩⟩
      | exact ⟨_, 1, rfl, hM.2, ⟨_, _, hM.1, updI_eq, hS.to (fun k hk => updI_ne (by omega)) (fun j hj => rfl)⟩, Or.inr ⟨by omega, rfl⟩⟩
theorem k_N_rowOf {g : GG} {w : WW} {m : Nat} {A : Int → Nat} {th : Int} {P : Int → Int} {S : Option (Int → Int)} {H : List (Int → Int)} {I O : Tx} {se : Option Int} {rj : Option (Int × Int × Int)} {b N : Int} (hG : Base g) (hX : MR g w m A th P S H I O se rj) (hB : PB P N) (hr : (-2147483648 ≤ b ∧ b < 2147483648)) : Ct g yX4_rowOf (.code yX4_rowOf cX4_rowOf 2 (some .int)) 3 65 0 0 w [.ref m, .int (iI b)] (fun r_ w1 => ∃ y th : Int, r_ = some (.int (iI y)) ∧ Fr (MS m A) w w1 ∧ MR g w1 m A th P S H I O se rj ∧ (((0 ≤ b ∧ b < P 0) ∧ th = 0 ∧ y = P (10 + 6 * b)) ∨ (¬ (0 ≤ b ∧ b < P 0) ∧ th = 1))) xF := by
  refine Ct.of (lv := [some _, some _]) hG (by decide +kernel) (Nat.le_of_ble_eq_true rfl) rfl ?_
  intro z hg hpo hxp hnm htab
  subst hg
  obtain ⟨F, C, hM, -, hS⟩ := hX
  have hM : MDF (zg z) w w m A F P C := ⟨hM, Fr.rf⟩
  have h68 : 0 ≤ F 6 ∧ F 6 ≤ 8 := by have := hS.1.1; have := hS.1.2.1; omega
  have hgg := hB.g
  refine xr_aload_n dX4_rowOf_0 rfl (by first | rfl | exact isRef_rf _) ?_
  refine xr_iload_n dX4_rowOf_1 rfl ?_
  refine xr_iconst dX4_rowOf_2 ?_
  refine xr_callV (n9 := 2) (rc' := 0) (rs' := 0) (k_N_askedBench_0 hG ⟨F, C, hM.1, rfl, hS⟩ hB hr) hM.1.1 rfl q2371 q2373 qs54 q96 q2374 (by decide +kernel) rfl ⟨by decide, Nat.le_of_ble_eq_true rfl⟩ ⟨Nat.le_of_ble_eq_true rfl, Nat.le_of_ble_eq_true rfl⟩ (Nat.le_of_ble_eq_true rfl) dX4_rowOf_3 rfl (fun r w3 hw => ?_) (fun _ _ _ h => h.elim)
  obtain ⟨y, th, rfl, hf, hX, hD⟩ := hw
  show XJ _ _ _ _ _ _ _ _ _ _ _ _ [.int (iI y)]
  refine xr_ireturn rfl rfl dX4_rowOf_6 ?_
  rw [hpo]
  exact ⟨y, th, rfl, hM.2.tq hf, hX, hD⟩
theorem k_N_askedBench_1 {g : GG} {w : WW} {m : Nat} {A : Int → Nat} {th : Int} {P : Int → Int} {S : Option (Int → Int)} {H : List (Int → Int)} {I O : Tx} {se : Option Int} {rj : Option (Int × Int × Int)} {b N : Int} (hG : Base g) (hX : MR g w m A th P S H I O se rj) (hB : PB P N) (hr : (-2147483648 ≤ b ∧ b < 2147483648)) : Ct g yX4_askedBench (.code yX4_askedBench cX4_askedBench 3 (some .int)) 2 43 0 0 w [.ref m, .int (iI b), .int (iI 1)] (fun r_ w1 => ∃ y th : Int, r_ = some (.int (iI y)) ∧ Fr (MS m A) w w1 ∧ MR g w1 m A th P S H I O se rj ∧ (((0 ≤ b ∧ b < P 0) ∧ th = 0 ∧ y = P (11 + 6 * b)) ∨ (¬ (0 ≤ b ∧ b < P 0) ∧ th = 1))) xF := by
  refine Ct.of (lv := [some _, some _, some _]) hG (by decide +kernel) (Nat.le_of_ble_eq_true rfl) rfl ?_
  intro z hg hpo hxp hnm htab
  subst hg
  obtain ⟨F, C, hM, -, hS⟩ := hX
  have hM : MDF (zg z) w w m A F P C := ⟨hM, Fr.rf⟩
  have h68 : 0 ≤ F 6 ∧ F 6 ≤ 8 := by have := hS.1.1; have := hS.1.2.1; omega
  have hgg := hB.g
  refine xr_aload_n dX4_askedBench_0 rfl (by first | rfl | exact isRef_rf _) ?_
  refine xr_aload_n dX4_askedBench_1 rfl (by first | rfl | exact isRef_rf _) ?_
  refine xr_iload_n dX4_askedBench_2 rfl ?_
  refine xr_callV (n9 := 1) (rc' := 0) (rs' := 0) (k_M_isBench hG hM.1 hB (by omega)) hM.1.1 rfl q2323 q2325 qs48 q96 q2326 (by decide +kernel) rfl ⟨by decide, Nat.le_of_ble_eq_true rfl⟩ ⟨Nat.le_of_ble_eq_true rfl, Nat.le_of_ble_eq_true rfl⟩ (Nat.le_of_ble_eq_true rfl) dX4_askedBench_3 rfl (xk_r ?_) (fun _ _ _ h => h.elim)
  refine xr_ifb_eq (tgt := 13) dX4_askedBench_6 (by decide) (fun c6 => ?_) (fun c6 => ?_)
  · skip
    try simp only [decide_eq_true_eq, decide_eq_false_iff_not] at c6
    refine xr_iconst dX4_askedBench_13 ?_
    refine xr_putfield (ci := 14) (T := TX4) (N := 23) (i := 0) (fs' := [_, _, _, _, _, _, _, _, _, _, _, _, _, _, _, _, _, _, _, _, _, _, _]) hM.1.1 rfl (by decide) in_X4 tyX4 tyX4_ok nmX4 q2191 (.inl rfl) rfl dX4_askedBench_14 (by rfl) (by rfl) (by simp) (by rfl) (.inl rfl) (fun _ => ?_)
    refine xr_mput (i := 0) hM (by rfl) (fun w14 hM => ?_)
    refine xr_aload_n dX4_askedBench_17 rfl (by first | rfl | exact isRef_rf _) ?_
    refine xr_getfield (ci := 14) (T := TX4) (N := 23) (i := 0) hM.1.1 rfl (by decide) in_X4 q2191 (.inl rfl) dX4_askedBench_18 (by rfl) ?_
    rw [updI_eq]
    refine xr_if_le (tgt := 28) dX4_askedBench_21 (by decide) (by decide) (fun c21 => absurd c21 (by decide)) (fun c21 => ?_)
    refine xr_iconst dX4_askedBench_24 ?_
    refine xr_goto (tgt := 34) dX4_askedBench_25 (by decide) ?_
    refine xr_ireturn rfl rfl dX4_askedBench_34 ?_
    rw [hpo]
    first
      | exact ⟨_, 0, rfl, hM.2, ⟨_, _, hM.1, updI_eq, hS.to (fun k hk => updI_ne (by omega)) (fun j hj => rfl)⟩, Or.inl ⟨by omega, rfl, rfl⟩⟩
      | exact ⟨_, 1, rfl, hM.2, ⟨_, _, hM.1, updI_eq, hS.to (fun k hk => updI_ne (by omega)) (fun j hj => rfl)⟩, Or.inr ⟨by omega, rfl⟩⟩
  · skip
    try simp only [decide_eq_true_eq, decide_eq_false_iff_not] at c6
    refine xr_iconst dX4_askedBench_9 ?_
    refine xr_goto (tgt := 14) dX4_askedBench_10 (by decide) ?_
    refine xr_putfield (ci := 14) (T := TX4) (N := 23) (i := 0) (fs' := [_, _, _, _, _, _, _, _, _, _, _, _, _, _, _, _, _, _, _, _, _, _, _]) hM.1.1 rfl (by decide) in_X4 tyX4 tyX4_ok nmX4 q2191 (.inl rfl) rfl dX4_askedBench_14 (by rfl) (by rfl) (by simp) (by rfl) (.inl rfl) (fun _ => ?_)
    refine xr_mput (i := 0) hM (by rfl) (fun w14 hM => ?_)
    refine xr_aload_n dX4_askedBench_17 rfl (by first | rfl | exact isRef_rf _) ?_
    refine xr_getfield (ci := 14) (T := TX4) (N := 23) (i := 0) hM.1.1 rfl (by decide) in_X4 q2191 (.inl rfl) dX4_askedBench_18 (by rfl) ?_
    rw [updI_eq]
    refine xr_if_le (tgt := 28) dX4_askedBench_21 (by decide) (by decide) (fun c21 => ?_) (fun c21 => absurd c21 (by decide))
    refine xr_aload_n dX4_askedBench_28 rfl (by first | rfl | exact isRef_rf _) ?_
    refine xr_iload_n dX4_askedBench_29 rfl ?_
    refine xr_iload_n dX4_askedBench_30 rfl ?_
    refine xr_callV (n9 := 2) (rc' := 0) (rs' := 0) (k_M_bench_1 hG hM.1 (by omega)) hM.1.1 rfl q2291 q2293 qs41 q96 q2294 (by decide +kernel) rfl ⟨by decide, Nat.le_of_ble_eq_true rfl⟩ ⟨Nat.le_of_ble_eq_true rfl, Nat.le_of_ble_eq_true rfl⟩ (Nat.le_of_ble_eq_true rfl) dX4_askedBench_31 rfl (xk_r ?_) (fun _ _ _ h => h.elim)
    refine xr_ireturn rfl rfl dX4_askedBench_34 ?_
    rw [hpo]
    first
      | exact ⟨_, 0, rfl, hM.2, ⟨_, _, hM.1, updI_eq, hS.to (fun k hk => updI_ne (by omega)) (fun j hj => rfl)⟩, Or.inl ⟨by omega, rfl, rfl⟩⟩
      | exact ⟨_, 1, rfl, hM.2, ⟨_, _, hM.1, updI_eq, hS.to (fun k hk => updI_ne (by omega)) (fun j hj => rfl)⟩, Or.inr ⟨by omega, rfl⟩⟩
theorem k_N_columnOf {g : GG} {w : WW} {m : Nat} {A : Int → Nat} {th : Int} {P : Int → Int} {S : Option (Int → Int)} {H : List (Int → Int)} {I O : Tx} {se : Option Int} {rj : Option (Int × Int × Int)} {b N : Int} (hG : Base g) (hX : MR g w m A th P S H I O se rj) (hB : PB P N) (hr : (-2147483648 ≤ b ∧ b < 2147483648)) : Ct g yX4_columnOf (.code yX4_columnOf cX4_columnOf 2 (some .int)) 3 65 0 0 w [.ref m, .int (iI b)] (fun r_ w1 => ∃ y th : Int, r_ = some (.int (iI y)) ∧ Fr (MS m A) w w1 ∧ MR g w1 m A th P S H I O se rj ∧ (((0 ≤ b ∧ b < P 0) ∧ th = 0 ∧ y = P (11 + 6 * b)) ∨ (¬ (0 ≤ b ∧ b < P 0) ∧ th = 1))) xF := by
  refine Ct.of (lv := [some _, some _]) hG (by decide +kernel) (Nat.le_of_ble_eq_true rfl) rfl ?_
  intro z hg hpo hxp hnm htab
  subst hg
  obtain ⟨F, C, hM, -, hS⟩ := hX
  have hM : MDF (zg z) w w m A F P C := ⟨hM, Fr.rf⟩
  have h68 : 0 ≤ F 6 ∧ F 6 ≤ 8 := by have := hS.1.1; have := hS.1.2.1; omega
  have hgg := hB.g
  refine xr_aload_n dX4_columnOf_0 rfl (by first | rfl | exact isRef_rf _) ?_
  refine xr_iload_n dX4_columnOf_1 rfl ?_
  refine xr_iconst dX4_columnOf_2 ?_
  refine xr_callV (n9 := 2) (rc' := 0) (rs' := 0) (k_N_askedBench_1 hG ⟨F, C, hM.1, rfl, hS⟩ hB hr) hM.1.1 rfl q2371 q2373 qs54 q96 q2374 (by decide +kernel) rfl ⟨by decide, Nat.le_of_ble_eq_true rfl⟩ ⟨Nat.le_of_ble_eq_true rfl, Nat.le_of_ble_eq_true rfl⟩ (Nat.le_of_ble_eq_true rfl) dX4_columnOf_3 rfl (fun r w3 hw => ?_) (fun _ _ _ h => h.elim)
  obtain ⟨y, th, rfl, hf, hX, hD⟩ := hw
  show XJ _ _ _ _ _ _ _ _ _ _ _ _ [.int (iI y)]
  refine xr_ireturn rfl rfl dX4_columnOf_6 ?_
  rw [hpo]
  exact ⟨y, th, rfl, hM.2.tq hf, hX, hD⟩
theorem k_N_askedBench_2 {g : GG} {w : WW} {m : Nat} {A : Int → Nat} {th : Int} {P : Int → Int} {S : Option (Int → Int)} {H : List (Int → Int)} {I O : Tx} {se : Option Int} {rj : Option (Int × Int × Int)} {b N : Int} (hG : Base g) (hX : MR g w m A th P S H I O se rj) (hB : PB P N) (hr : (-2147483648 ≤ b ∧ b < 2147483648)) : Ct g yX4_askedBench (.code yX4_askedBench cX4_askedBench 3 (some .int)) 2 43 0 0 w [.ref m, .int (iI b), .int (iI 2)] (fun r_ w1 => ∃ y th : Int, r_ = some (.int (iI y)) ∧ Fr (MS m A) w w1 ∧ MR g w1 m A th P S H I O se rj ∧ (((0 ≤ b ∧ b < P 0) ∧ th = 0 ∧ y = P (12 + 6 * b)) ∨ (¬ (0 ≤ b ∧ b < P 0) ∧ th = 1))) xF := by
  refine Ct.of (lv := [some _, some _, some _]) hG (by decide +kernel) (Nat.le_of_ble_eq_true rfl) rfl ?_
  intro z hg hpo hxp hnm htab
  subst hg
  obtain ⟨F, C, hM, -, hS⟩ := hX
  have hM : MDF (zg z) w w m A F P C := ⟨hM, Fr.rf⟩
  have h68 : 0 ≤ F 6 ∧ F 6 ≤ 8 := by have := hS.1.1; have := hS.1.2.1; omega
  have hgg := hB.g
  refine xr_aload_n dX4_askedBench_0 rfl (by first | rfl | exact isRef_rf _) ?_
  refine xr_aload_n dX4_askedBench_1 rfl (by first | rfl | exact isRef_rf _) ?_
  refine xr_iload_n dX4_askedBench_2 rfl ?_
  refine xr_callV (n9 := 1) (rc' := 0) (rs' := 0) (k_M_isBench hG hM.1 hB (by omega)) hM.1.1 rfl q2323 q2325 qs48 q96 q2326 (by decide +kernel) rfl ⟨by decide, Nat.le_of_ble_eq_true rfl⟩ ⟨Nat.le_of_ble_eq_true rfl, Nat.le_of_ble_eq_true rfl⟩ (Nat.le_of_ble_eq_true rfl) dX4_askedBench_3 rfl (xk_r ?_) (fun _ _ _ h => h.elim)
  refine xr_ifb_eq (tgt := 13) dX4_askedBench_6 (by decide) (fun c6 => ?_) (fun c6 => ?_)
  · skip
    try simp only [decide_eq_true_eq, decide_eq_false_iff_not] at c6
    refine xr_iconst dX4_askedBench_13 ?_
    refine xr_putfield (ci := 14) (T := TX4) (N := 23) (i := 0) (fs' := [_, _, _, _, _, _, _, _, _, _, _, _, _, _, _, _, _, _, _, _, _, _, _]) hM.1.1 rfl (by decide) in_X4 tyX4 tyX4_ok nmX4 q2191 (.inl rfl) rfl dX4_askedBench_14 (by rfl) (by rfl) (by simp) (by rfl) (.inl rfl) (fun _ => ?_)
    refine xr_mput (i := 0) hM (by rfl) (fun w14 hM => ?_)
    refine xr_aload_n dX4_askedBench_17 rfl (by first | rfl | exact isRef_rf _) ?_
    refine xr_getfield (ci := 14) (T := TX4) (N := 23) (i := 0) hM.1.1 rfl (by decide) in_X4 q2191 (.inl rfl) dX4_askedBench_18 (by rfl) ?_
    rw [updI_eq]
    refine xr_if_le (tgt := 28) dX4_askedBench_21 (by decide) (by decide) (fun c21 => absurd c21 (by decide)) (fun c21 => ?_)
    refine xr_iconst dX4_askedBench_24 ?_
    refine xr_goto (tgt := 34) dX4_askedBench_25 (by decide) ?_
    refine xr_ireturn rfl rfl dX4_askedBench_34 ?_
    rw [hpo]
    first
      | exact ⟨_, 0, rfl, hM.2, ⟨_, _, hM.1, updI_eq, hS.to (fun k hk => updI_ne (by omega)) (fun j hj => rfl)⟩, Or.inl ⟨by omega, rfl, rfl⟩⟩
      | exact ⟨_, 1, rfl, hM.2, ⟨_, _, hM.1, updI_eq, hS.to (fun k hk => updI_ne (by omega)) (fun j hj => rfl)⟩, Or.inr ⟨by omega, rfl⟩⟩
  · skip
    try simp only [decide_eq_true_eq, decide_eq_false_iff_not] at c6
    refine xr_iconst dX4_askedBench_9 ?_
    refine xr_goto (tgt := 14) dX4_askedBench_10 (by decide) ?_
    refine xr_putfield (ci := 14) (T := TX4) (N := 23) (i := 0) (fs' := [_, _, _, _, _, _, _, _, _, _, _, _, _, _, _, _, _, _, _, _, _, _, _]) hM.1.1 rfl (by decide) in_X4 tyX4 tyX4_ok nmX4 q2191 (.inl rfl) rfl dX4_askedBench_14 (by rfl) (by rfl) (by simp) (by rfl) (.inl rfl) (fun _ => ?_)
    refine xr_mput (i := 0) hM (by rfl) (fun w14 hM => ?_)
    refine xr_aload_n dX4_askedBench_17 rfl (by first | rfl | exact isRef_rf _) ?_
    refine xr_getfield (ci := 14) (T := TX4) (N := 23) (i := 0) hM.1.1 rfl (by decide) in_X4 q2191 (.inl rfl) dX4_askedBench_18 (by rfl) ?_
    rw [updI_eq]
    refine xr_if_le (tgt := 28) dX4_askedBench_21 (by decide) (by decide) (fun c21 => ?_) (fun c21 => absurd c21 (by decide))
    refine xr_aload_n dX4_askedBench_28 rfl (by first | rfl | exact isRef_rf _) ?_
    refine xr_iload_n dX4_askedBench_29 rfl ?_
    refine xr_iload_n dX4_askedBench_30 rfl ?_
    refine xr_callV (n9 := 2) (rc' := 0) (rs' := 0) (k_M_bench_2 hG hM.1 (by omega)) hM.1.1 rfl q2291 q2293 qs41 q96 q2294 (by decide +kernel) rfl ⟨by decide, Nat.le_of_ble_eq_true rfl⟩ ⟨Nat.le_of_ble_eq_true rfl, Nat.le_of_ble_eq_true rfl⟩ (Nat.le_of_ble_eq_true rfl) dX4_askedBench_31 rfl (xk_r ?_) (fun _ _ _ h => h.elim)
    refine xr_ireturn rfl rfl dX4_askedBench_34 ?_
    rw [hpo]
    first
      | exact ⟨_, 0, rfl, hM.2, ⟨_, _, hM.1, updI_eq, hS.to (fun k hk => updI_ne (by omega)) (fun j hj => rfl)⟩, Or.inl ⟨by omega, rfl, rfl⟩⟩
      | exact ⟨_, 1, rfl, hM.2, ⟨_, _, hM.1, updI_eq, hS.to (fun k hk => updI_ne (by omega)) (fun j hj => rfl)⟩, Or.inr ⟨by omega, rfl⟩⟩
theorem k_N_baseRent {g : GG} {w : WW} {m : Nat} {A : Int → Nat} {th : Int} {P : Int → Int} {S : Option (Int → Int)} {H : List (Int → Int)} {I O : Tx} {se : Option Int} {rj : Option (Int × Int × Int)} {b N : Int} (hG : Base g) (hX : MR g w m A th P S H I O se rj) (hB : PB P N) (hr : (-2147483648 ≤ b ∧ b < 2147483648)) : Ct g yX4_baseRent (.code yX4_baseRent cX4_baseRent 2 (some .int)) 3 65 0 0 w [.ref m, .int (iI b)] (fun r_ w1 => ∃ y th : Int, r_ = some (.int (iI y)) ∧ Fr (MS m A) w w1 ∧ MR g w1 m A th P S H I O se rj ∧ (((0 ≤ b ∧ b < P 0) ∧ th = 0 ∧ y = P (12 + 6 * b)) ∨ (¬ (0 ≤ b ∧ b < P 0) ∧ th = 1))) xF := by
  refine Ct.of (lv := [some _, some _]) hG (by decide +kernel) (Nat.le_of_ble_eq_true rfl) rfl ?_
  intro z hg hpo hxp hnm htab
  subst hg
  obtain ⟨F, C, hM, -, hS⟩ := hX
  have hM : MDF (zg z) w w m A F P C := ⟨hM, Fr.rf⟩
  have h68 : 0 ≤ F 6 ∧ F 6 ≤ 8 := by have := hS.1.1; have := hS.1.2.1; omega
  have hgg := hB.g
  refine xr_aload_n dX4_baseRent_0 rfl (by first | rfl | exact isRef_rf _) ?_
  refine xr_iload_n dX4_baseRent_1 rfl ?_
  refine xr_iconst dX4_baseRent_2 ?_
  refine xr_callV (n9 := 2) (rc' := 0) (rs' := 0) (k_N_askedBench_2 hG ⟨F, C, hM.1, rfl, hS⟩ hB hr) hM.1.1 rfl q2371 q2373 qs54 q96 q2374 (by decide +kernel) rfl ⟨by decide, Nat.le_of_ble_eq_true rfl⟩ ⟨Nat.le_of_ble_eq_true rfl, Nat.le_of_ble_eq_true rfl⟩ (Nat.le_of_ble_eq_true rfl) dX4_baseRent_3 rfl (fun r w3 hw => ?_) (fun _ _ _ h => h.elim)
  obtain ⟨y, th, rfl, hf, hX, hD⟩ := hw
  show XJ _ _ _ _ _ _ _ _ _ _ _ _ [.int (iI y)]
  refine xr_ireturn rfl rfl dX4_baseRent_6 ?_
  rw [hpo]
  exact ⟨y, th, rfl, hM.2.tq hf, hX, hD⟩
theorem k_N_askedTenant_0 {g : GG} {w : WW} {m : Nat} {A : Int → Nat} {th : Int} {P : Int → Int} {S : Option (Int → Int)} {H : List (Int → Int)} {I O : Tx} {se : Option Int} {rj : Option (Int × Int × Int)} {b N : Int} (hG : Base g) (hX : MR g w m A th P S H I O se rj) (hB : PB P N) (hr : (-2147483648 ≤ b ∧ b < 2147483648)) : Ct g yX4_askedTenant (.code yX4_askedTenant cX4_askedTenant 3 (some .int)) 2 43 0 0 w [.ref m, .int (iI b), .int (iI 0)] (fun r_ w1 => ∃ y th : Int, r_ = some (.int (iI y)) ∧ Fr (MS m A) w w1 ∧ MR g w1 m A th P S H I O se rj ∧ (((0 ≤ b ∧ b < P 2) ∧ th = 0 ∧ y = P (86 + 2 * b)) ∨ (¬ (0 ≤ b ∧ b < P 2) ∧ th = 1))) xF := by
  refine Ct.of (lv := [some _, some _, some _]) hG (by decide +kernel) (Nat.le_of_ble_eq_true rfl) rfl ?_
  intro z hg hpo hxp hnm htab
  subst hg
  obtain ⟨F, C, hM, -, hS⟩ := hX
  have hM : MDF (zg z) w w m A F P C := ⟨hM, Fr.rf⟩
  have h68 : 0 ≤ F 6 ∧ F 6 ≤ 8 := by have := hS.1.1; have := hS.1.2.1; omega
  have hgg := hB.g
  refine xr_aload_n dX4_askedTenant_0 rfl (by first | rfl | exact isRef_rf _) ?_
  refine xr_aload_n dX4_askedTenant_1 rfl (by first | rfl | exact isRef_rf _) ?_
  refine xr_iload_n dX4_askedTenant_2 rfl ?_
  refine xr_callV (n9 := 1) (rc' := 0) (rs' := 0) (k_M_isTenant hG hM.1 hB (by omega)) hM.1.1 rfl q2455 q2457 qs61 q96 q2458 (by decide +kernel) rfl ⟨by decide, Nat.le_of_ble_eq_true rfl⟩ ⟨Nat.le_of_ble_eq_true rfl, Nat.le_of_ble_eq_true rfl⟩ (Nat.le_of_ble_eq_true rfl) dX4_askedTenant_3 rfl (xk_r ?_) (fun _ _ _ h => h.elim)
  refine xr_ifb_eq (tgt := 13) dX4_askedTenant_6 (by decide) (fun c6 => ?_) (fun c6 => ?_)
  · skip
    try simp only [decide_eq_true_eq, decide_eq_false_iff_not] at c6
    refine xr_iconst dX4_askedTenant_13 ?_
    refine xr_putfield (ci := 14) (T := TX4) (N := 23) (i := 0) (fs' := [_, _, _, _, _, _, _, _, _, _, _, _, _, _, _, _, _, _, _, _, _, _, _]) hM.1.1 rfl (by decide) in_X4 tyX4 tyX4_ok nmX4 q2191 (.inl rfl) rfl dX4_askedTenant_14 (by rfl) (by rfl) (by simp) (by rfl) (.inl rfl) (fun _ => ?_)
    refine xr_mput (i := 0) hM (by rfl) (fun w14 hM => ?_)
    refine xr_aload_n dX4_askedTenant_17 rfl (by first | rfl | exact isRef_rf _) ?_
    refine xr_getfield (ci := 14) (T := TX4) (N := 23) (i := 0) hM.1.1 rfl (by decide) in_X4 q2191 (.inl rfl) dX4_askedTenant_18 (by rfl) ?_
    rw [updI_eq]
    refine xr_if_le (tgt := 28) dX4_askedTenant_21 (by decide) (by decide) (fun c21 => absurd c21 (by decide)) (fun c21 => ?_)
    refine xr_iconst dX4_askedTenant_24 ?_
    refine xr_goto (tgt := 34) dX4_askedTenant_25 (by decide) ?_
    refine xr_ireturn rfl rfl dX4_askedTenant_34 ?_
    rw [hpo]
    first
      | exact ⟨_, 0, rfl, hM.2, ⟨_, _, hM.1, updI_eq, hS.to (fun k hk => updI_ne (by omega)) (fun j hj => rfl)⟩, Or.inl ⟨by omega, rfl, rfl⟩⟩
      | exact ⟨_, 1, rfl, hM.2, ⟨_, _, hM.1, updI_eq, hS.to (fun k hk => updI_ne (by omega)) (fun j hj => rfl)⟩, Or.inr ⟨by omega, rfl⟩⟩
  · skip
    try simp only [decide_eq_true_eq, decide_eq_false_iff_not] at c6
    refine xr_iconst dX4_askedTenant_9 ?_
    refine xr_goto (tgt := 14) dX4_askedTenant_10 (by decide) ?_
    refine xr_putfield (ci := 14) (T := TX4) (N := 23) (i := 0) (fs' := [_, _, _, _, _, _, _, _, _, _, _, _, _, _, _, _, _, _, _, _, _, _, _]) hM.1.1 rfl (by decide) in_X4 tyX4 tyX4_ok nmX4 q2191 (.inl rfl) rfl dX4_askedTenant_14 (by rfl) (by rfl) (by simp) (by rfl) (.inl rfl) (fun _ => ?_)
    refine xr_mput (i := 0) hM (by rfl) (fun w14 hM => ?_)
    refine xr_aload_n dX4_askedTenant_17 rfl (by first | rfl | exact isRef_rf _) ?_
    refine xr_getfield (ci := 14) (T := TX4) (N := 23) (i := 0) hM.1.1 rfl (by decide) in_X4 q2191 (.inl rfl) dX4_askedTenant_18 (by rfl) ?_
    rw [updI_eq]
    refine xr_if_le (tgt := 28) dX4_askedTenant_21 (by decide) (by decide) (fun c21 => ?_) (fun c21 => absurd c21 (by decide))
    refine xr_aload_n dX4_askedTenant_28 rfl (by first | rfl | exact isRef_rf _) ?_
    refine xr_iload_n dX4_askedTenant_29 rfl ?_
    refine xr_iload_n dX4_askedTenant_30 rfl ?_
    refine xr_callV (n9 := 2) (rc' := 0) (rs' := 0) (k_M_tenant_0 hG hM.1 (by omega)) hM.1.1 rfl q2459 q2461 qs62 q96 q2462 (by decide +kernel) rfl ⟨by decide, Nat.le_of_ble_eq_true rfl⟩ ⟨Nat.le_of_ble_eq_true rfl, Nat.le_of_ble_eq_true rfl⟩ (Nat.le_of_ble_eq_true rfl) dX4_askedTenant_31 rfl (xk_r ?_) (fun _ _ _ h => h.elim)
    refine xr_ireturn rfl rfl dX4_askedTenant_34 ?_
    rw [hpo]
    first
      | exact ⟨_, 0, rfl, hM.2, ⟨_, _, hM.1, updI_eq, hS.to (fun k hk => updI_ne (by omega)) (fun j hj => rfl)⟩, Or.inl ⟨by omega, rfl, rfl⟩⟩
      | exact ⟨_, 1, rfl, hM.2, ⟨_, _, hM.1, updI_eq, hS.to (fun k hk => updI_ne (by omega)) (fun j hj => rfl)⟩, Or.inr ⟨by omega, rfl⟩⟩
theorem k_N_coinsOf {g : GG} {w : WW} {m : Nat} {A : Int → Nat} {th : Int} {P : Int → Int} {S : Option (Int → Int)} {H : List (Int → Int)} {I O : Tx} {se : Option Int} {rj : Option (Int × Int × Int)} {b N : Int} (hG : Base g) (hX : MR g w m A th P S H I O se rj) (hB : PB P N) (hr : (-2147483648 ≤ b ∧ b < 2147483648)) : Ct g yX4_coinsOf (.code yX4_coinsOf cX4_coinsOf 2 (some .int)) 3 65 0 0 w [.ref m, .int (iI b)] (fun r_ w1 => ∃ y th : Int, r_ = some (.int (iI y)) ∧ Fr (MS m A) w w1 ∧ MR g w1 m A th P S H I O se rj ∧ (((0 ≤ b ∧ b < P 2) ∧ th = 0 ∧ y = P (86 + 2 * b)) ∨ (¬ (0 ≤ b ∧ b < P 2) ∧ th = 1))) xF := by
  refine Ct.of (lv := [some _, some _]) hG (by decide +kernel) (Nat.le_of_ble_eq_true rfl) rfl ?_
  intro z hg hpo hxp hnm htab
  subst hg
  obtain ⟨F, C, hM, -, hS⟩ := hX
  have hM : MDF (zg z) w w m A F P C := ⟨hM, Fr.rf⟩
  have h68 : 0 ≤ F 6 ∧ F 6 ≤ 8 := by have := hS.1.1; have := hS.1.2.1; omega
  have hgg := hB.g
  refine xr_aload_n dX4_coinsOf_0 rfl (by first | rfl | exact isRef_rf _) ?_
  refine xr_iload_n dX4_coinsOf_1 rfl ?_
  refine xr_iconst dX4_coinsOf_2 ?_
  refine xr_callV (n9 := 2) (rc' := 0) (rs' := 0) (k_N_askedTenant_0 hG ⟨F, C, hM.1, rfl, hS⟩ hB hr) hM.1.1 rfl q2471 q2473 qs63 q96 q2474 (by decide +kernel) rfl ⟨by decide, Nat.le_of_ble_eq_true rfl⟩ ⟨Nat.le_of_ble_eq_true rfl, Nat.le_of_ble_eq_true rfl⟩ (Nat.le_of_ble_eq_true rfl) dX4_coinsOf_3 rfl (fun r w3 hw => ?_) (fun _ _ _ h => h.elim)
  obtain ⟨y, th, rfl, hf, hX, hD⟩ := hw
  show XJ _ _ _ _ _ _ _ _ _ _ _ _ [.int (iI y)]
  refine xr_ireturn rfl rfl dX4_coinsOf_6 ?_
  rw [hpo]
  exact ⟨y, th, rfl, hM.2.tq hf, hX, hD⟩
theorem k_N_askedTenant_1 {g : GG} {w : WW} {m : Nat} {A : Int → Nat} {th : Int} {P : Int → Int} {S : Option (Int → Int)} {H : List (Int → Int)} {I O : Tx} {se : Option Int} {rj : Option (Int × Int × Int)} {b N : Int} (hG : Base g) (hX : MR g w m A th P S H I O se rj) (hB : PB P N) (hr : (-2147483648 ≤ b ∧ b < 2147483648)) : Ct g yX4_askedTenant (.code yX4_askedTenant cX4_askedTenant 3 (some .int)) 2 43 0 0 w [.ref m, .int (iI b), .int (iI 1)] (fun r_ w1 => ∃ y th : Int, r_ = some (.int (iI y)) ∧ Fr (MS m A) w w1 ∧ MR g w1 m A th P S H I O se rj ∧ (((0 ≤ b ∧ b < P 2) ∧ th = 0 ∧ y = P (87 + 2 * b)) ∨ (¬ (0 ≤ b ∧ b < P 2) ∧ th = 1))) xF := by
  refine Ct.of (lv := [some _, some _, some _]) hG (by decide +kernel) (Nat.le_of_ble_eq_true rfl) rfl ?_
  intro z hg hpo hxp hnm htab
  subst hg
  obtain ⟨F, C, hM, -, hS⟩ := hX
  have hM : MDF (zg z) w w m A F P C := ⟨hM, Fr.rf⟩
  have h68 : 0 ≤ F 6 ∧ F 6 ≤ 8 := by have := hS.1.1; have := hS.1.2.1; omega
  have hgg := hB.g
  refine xr_aload_n dX4_askedTenant_0 rfl (by first | rfl | exact isRef_rf _) ?_
  refine xr_aload_n dX4_askedTenant_1 rfl (by first | rfl | exact isRef_rf _) ?_
  refine xr_iload_n dX4_askedTenant_2 rfl ?_
  refine xr_callV (n9 := 1) (rc' := 0) (rs' := 0) (k_M_isTenant hG hM.1 hB (by omega)) hM.1.1 rfl q2455 q2457 qs61 q96 q2458 (by decide +kernel) rfl ⟨by decide, Nat.le_of_ble_eq_true rfl⟩ ⟨Nat.le_of_ble_eq_true rfl, Nat.le_of_ble_eq_true rfl⟩ (Nat.le_of_ble_eq_true rfl) dX4_askedTenant_3 rfl (xk_r ?_) (fun _ _ _ h => h.elim)
  refine xr_ifb_eq (tgt := 13) dX4_askedTenant_6 (by decide) (fun c6 => ?_) (fun c6 => ?_)
  · skip
    try simp only [decide_eq_true_eq, decide_eq_false_iff_not] at c6
    refine xr_iconst dX4_askedTenant_13 ?_
    refine xr_putfield (ci := 14) (T := TX4) (N := 23) (i := 0) (fs' := [_, _, _, _, _, _, _, _, _, _, _, _, _, _, _, _, _, _, _, _, _, _, _]) hM.1.1 rfl (by decide) in_X4 tyX4 tyX4_ok nmX4 q2191 (.inl rfl) rfl dX4_askedTenant_14 (by rfl) (by rfl) (by simp) (by rfl) (.inl rfl) (fun _ => ?_)
    refine xr_mput (i := 0) hM (by rfl) (fun w14 hM => ?_)
    refine xr_aload_n dX4_askedTenant_17 rfl (by first | rfl | exact isRef_rf _) ?_
    refine xr_getfield (ci := 14) (T := TX4) (N := 23) (i := 0) hM.1.1 rfl (by decide) in_X4 q2191 (.inl rfl) dX4_askedTenant_18 (by rfl) ?_
    rw [updI_eq]
    refine xr_if_le (tgt := 28) dX4_askedTenant_21 (by decide) (by decide) (fun c21 => absurd c21 (by decide)) (fun c21 => ?_)
    refine xr_iconst dX4_askedTenant_24 ?_
    refine xr_goto (tgt := 34) dX4_askedTenant_25 (by decide) ?_
    refine xr_ireturn rfl rfl dX4_askedTenant_34 ?_
    rw [hpo]
    first
      | exact ⟨_, 0, rfl, hM.2, ⟨_, _, hM.1, updI_eq, hS.to (fun k hk => updI_ne (by omega)) (fun j hj => rfl)⟩, Or.inl ⟨by omega, rfl, rfl⟩⟩
      | exact ⟨_, 1, rfl, hM.2, ⟨_, _, hM.1, updI_eq, hS.to (fun k hk => updI_ne (by omega)) (fun j hj => rfl)⟩, Or.inr ⟨by omega, rfl⟩⟩
  · skip
    try simp only [decide_eq_true_eq, decide_eq_false_iff_not] at c6
    refine xr_iconst dX4_askedTenant_9 ?_
    refine xr_goto (tgt := 14) dX4_askedTenant_10 (by decide) ?_
    refine xr_putfield (ci := 14) (T := TX4) (N := 23) (i := 0) (fs' := [_, _, _, _, _, _, _, _, _, _, _, _, _, _, _, _, _, _, _, _, _, _, _]) hM.1.1 rfl (by decide) in_X4 tyX4 tyX4_ok nmX4 q2191 (.inl rfl) rfl dX4_askedTenant_14 (by rfl) (by rfl) (by simp) (by rfl) (.inl rfl) (fun _ => ?_)
    refine xr_mput (i := 0) hM (by rfl) (fun w14 hM => ?_)
    refine xr_aload_n dX4_askedTenant_17 rfl (by first | rfl | exact isRef_rf _) ?_
    refine xr_getfield (ci := 14) (T := TX4) (N := 23) (i := 0) hM.1.1 rfl (by decide) in_X4 q2191 (.inl rfl) dX4_askedTenant_18 (by rfl) ?_
    rw [updI_eq]
    refine xr_if_le (tgt := 28) dX4_askedTenant_21 (by decide) (by decide) (fun c21 => ?_) (fun c21 => absurd c21 (by decide))
    refine xr_aload_n dX4_askedTenant_28 rfl (by first | rfl | exact isRef_rf _) ?_
    refine xr_iload_n dX4_askedTenant_29 rfl ?_
    refine xr_iload_n dX4_askedTenant_30 rfl ?_
    refine xr_callV (n9 := 2) (rc' := 0) (rs' := 0) (k_M_tenant_1 hG hM.1 (by omega)) hM.1.1 rfl q2459 q2461 qs62 q96 q2462 (by decide +kernel) rfl ⟨by decide, Nat.le_of_ble_eq_true rfl⟩ ⟨Nat.le_of_ble_eq_true rfl, Nat.le_of_ble_eq_true rfl⟩ (Nat.le_of_ble_eq_true rfl) dX4_askedTenant_31 rfl (xk_r ?_) (fun _ _ _ h => h.elim)
    refine xr_ireturn rfl rfl dX4_askedTenant_34 ?_
    rw [hpo]
    first
      | exact ⟨_, 0, rfl, hM.2, ⟨_, _, hM.1, updI_eq, hS.to (fun k hk => updI_ne (by omega)) (fun j hj => rfl)⟩, Or.inl ⟨by omega, rfl, rfl⟩⟩
      | exact ⟨_, 1, rfl, hM.2, ⟨_, _, hM.1, updI_eq, hS.to (fun k hk => updI_ne (by omega)) (fun j hj => rfl)⟩, Or.inr ⟨by omega, rfl⟩⟩
theorem k_N_defaultsOf {g : GG} {w : WW} {m : Nat} {A : Int → Nat} {th : Int} {P : Int → Int} {S : Option (Int → Int)} {H : List (Int → Int)} {I O : Tx} {se : Option Int} {rj : Option (Int × Int × Int)} {b N : Int} (hG : Base g) (hX : MR g w m A th P S H I O se rj) (hB : PB P N) (hr : (-2147483648 ≤ b ∧ b < 2147483648)) : Ct g yX4_defaultsOf (.code yX4_defaultsOf cX4_defaultsOf 2 (some .int)) 3 65 0 0 w [.ref m, .int (iI b)] (fun r_ w1 => ∃ y th : Int, r_ = some (.int (iI y)) ∧ Fr (MS m A) w w1 ∧ MR g w1 m A th P S H I O se rj ∧ (((0 ≤ b ∧ b < P 2) ∧ th = 0 ∧ y = P (87 + 2 * b)) ∨ (¬ (0 ≤ b ∧ b < P 2) ∧ th = 1))) xF := by
  refine Ct.of (lv := [some _, some _]) hG (by decide +kernel) (Nat.le_of_ble_eq_true rfl) rfl ?_
  intro z hg hpo hxp hnm htab
  subst hg
  obtain ⟨F, C, hM, -, hS⟩ := hX
  have hM : MDF (zg z) w w m A F P C := ⟨hM, Fr.rf⟩
  have h68 : 0 ≤ F 6 ∧ F 6 ≤ 8 := by have := hS.1.1; have := hS.1.2.1; omega
  have hgg := hB.g
  refine xr_aload_n dX4_defaultsOf_0 rfl (by first | rfl | exact isRef_rf _) ?_
  refine xr_iload_n dX4_defaultsOf_1 rfl ?_
  refine xr_iconst dX4_defaultsOf_2 ?_
  refine xr_callV (n9 := 2) (rc' := 0) (rs' := 0) (k_N_askedTenant_1 hG ⟨F, C, hM.1, rfl, hS⟩ hB hr) hM.1.1 rfl q2471 q2473 qs63 q96 q2474 (by decide +kernel) rfl ⟨by decide, Nat.le_of_ble_eq_true rfl⟩ ⟨Nat.le_of_ble_eq_true rfl, Nat.le_of_ble_eq_true rfl⟩ (Nat.le_of_ble_eq_true rfl) dX4_defaultsOf_3 rfl (fun r w3 hw => ?_) (fun _ _ _ h => h.elim)
  obtain ⟨y, th, rfl, hf, hX, hD⟩ := hw
  show XJ _ _ _ _ _ _ _ _ _ _ _ _ [.int (iI y)]
  refine xr_ireturn rfl rfl dX4_defaultsOf_6 ?_
  rw [hpo]
  exact ⟨y, th, rfl, hM.2.tq hf, hX, hD⟩
theorem k_N_rentOf {g : GG} {w : WW} {m : Nat} {A : Int → Nat} {th : Int} {P : Int → Int} {S : Option (Int → Int)} {H : List (Int → Int)} {I O : Tx} {se : Option Int} {rj : Option (Int × Int × Int)} {b N : Int} (hG : Base g) (hX : MR g w m A th P S H I O se rj) (hB : PB P N) (hr : (-2147483648 ≤ b ∧ b < 2147483648)) : Ct g yX4_rentOf (.code yX4_rentOf cX4_rentOf 2 (some .int)) 4 91 0 0 w [.ref m, .int (iI b)] (fun r_ w1 => ∃ y th : Int, r_ = some (.int (iI y)) ∧ Fr (MS m A) w w1 ∧ MR g w1 m A th P S H I O se rj ∧ (((0 ≤ b ∧ b < P 0) ∧ th = 0 ∧ y = rent P b) ∨ (¬ (0 ≤ b ∧ b < P 0) ∧ th = 1))) xF := by
  refine Ct.of (lv := [some _, some _]) hG (by decide +kernel) (Nat.le_of_ble_eq_true rfl) rfl ?_
  intro z hg hpo hxp hnm htab
  subst hg
  obtain ⟨F, C, hM, -, hS⟩ := hX
  have hM : MDF (zg z) w w m A F P C := ⟨hM, Fr.rf⟩
  have h68 : 0 ≤ F 6 ∧ F 6 ≤ 8 := by have := hS.1.1; have := hS.1.2.1; omega
  have hgg := hB.g
  refine xr_aload_n dX4_rentOf_0 rfl (by first | rfl | exact isRef_rf _) ?_
  refine xr_aload_n dX4_rentOf_1 rfl (by first | rfl | exact isRef_rf _) ?_
  refine xr_iload_n dX4_rentOf_2 rfl ?_
  refine xr_callV (n9 := 1) (rc' := 0) (rs' := 0) (k_M_isBench hG hM.1 hB (by omega)) hM.1.1 rfl q2323 q2325 qs48 q96 q2326 (by decide +kernel) rfl ⟨by decide, Nat.le_of_ble_eq_true rfl⟩ ⟨Nat.le_of_ble_eq_true rfl, Nat.le_of_ble_eq_true rfl⟩ (Nat.le_of_ble_eq_true rfl) dX4_rentOf_3 rfl (xk_r ?_) (fun _ _ _ h => h.elim)
  refine xr_ifb_eq (tgt := 13) dX4_rentOf_6 (by decide) (fun c6 => ?_) (fun c6 => ?_)
  · skip
    try simp only [decide_eq_true_eq, decide_eq_false_iff_not] at c6
    refine xr_iconst dX4_rentOf_13 ?_
    refine xr_putfield (ci := 14) (T := TX4) (N := 23) (i := 0) (fs' := [_, _, _, _, _, _, _, _, _, _, _, _, _, _, _, _, _, _, _, _, _, _, _]) hM.1.1 rfl (by decide) in_X4 tyX4 tyX4_ok nmX4 q2191 (.inl rfl) rfl dX4_rentOf_14 (by rfl) (by rfl) (by simp) (by rfl) (.inl rfl) (fun _ => ?_)
    refine xr_mput (i := 0) hM (by rfl) (fun w14 hM => ?_)
    refine xr_aload_n dX4_rentOf_17 rfl (by first | rfl | exact isRef_rf _) ?_
    refine xr_getfield (ci := 14) (T := TX4) (N := 23) (i := 0) hM.1.1 rfl (by decide) in_X4 q2191 (.inl rfl) dX4_rentOf_18 (by rfl) ?_
    rw [updI_eq]
    refine xr_if_le (tgt := 28) dX4_rentOf_21 (by decide) (by decide) (fun c21 => absurd c21 (by decide)) (fun c21 => ?_)
    refine xr_iconst dX4_rentOf_24 ?_
    refine xr_goto (tgt := 33) dX4_rentOf_25 (by decide) ?_
    refine xr_ireturn rfl rfl dX4_rentOf_33 ?_
    rw [hpo]
    first
      | exact ⟨_, 0, rfl, hM.2, ⟨_, _, hM.1, updI_eq, hS.to (fun k hk => updI_ne (by omega)) (fun j hj => rfl)⟩, Or.inl ⟨by omega, rfl, rfl⟩⟩
      | exact ⟨_, 1, rfl, hM.2, ⟨_, _, hM.1, updI_eq, hS.to (fun k hk => updI_ne (by omega)) (fun j hj => rfl)⟩, Or.inr ⟨by omega, rfl⟩⟩
  · skip
    try simp only [decide_eq_true_eq, decide_eq_false_iff_not] at c6
    refine xr_iconst dX4_rentOf_9 ?_
    refine xr_goto (tgt := 14) dX4_rentOf_10 (by decide) ?_
    refine xr_putfield (ci := 14) (T := TX4) (N := 23) (i := 0) (fs' := [_, _, _, _, _, _, _, _, _, _, _, _, _, _, _, _, _, _, _, _, _, _, _]) hM.1.1 rfl (by decide) in_X4 tyX4 tyX4_ok nmX4 q2191 (.inl rfl) rfl dX4_rentOf_14 (by rfl) (by rfl) (by simp) (by rfl) (.inl rfl) (fun _ => ?_)
    refine xr_mput (i := 0) hM (by rfl) (fun w14 hM => ?_)
    refine xr_aload_n dX4_rentOf_17 rfl (by first | rfl | exact isRef_rf _) ?_
    refine xr_getfield (ci := 14) (T := TX4) (N := 23) (i := 0) hM.1.1 rfl (by decide) in_X4 q2191 (.inl rfl) dX4_rentOf_18 (by rfl) ?_
    rw [updI_eq]
    refine xr_if_le (tgt := 28) dX4_rentOf_21 (by decide) (by decide) (fun c21 => ?_) (fun c21 => absurd c21 (by decide))
    refine xr_aload_n dX4_rentOf_28 rfl (by first | rfl | exact isRef_rf _) ?_
    refine xr_iload_n dX4_rentOf_29 rfl ?_
    refine xr_callV (n9 := 1) (rc' := 0) (rs' := 0) (k_M_rent hG hM.1 hB (by omega)) hM.1.1 rfl q2387 q2389 qs55 q96 q2390 (by decide +kernel) rfl ⟨by decide, Nat.le_of_ble_eq_true rfl⟩ ⟨Nat.le_of_ble_eq_true rfl, Nat.le_of_ble_eq_true rfl⟩ (Nat.le_of_ble_eq_true rfl) dX4_rentOf_30 rfl (xk_r ?_) (fun _ _ _ h => h.elim)
    refine xr_ireturn rfl rfl dX4_rentOf_33 ?_
    rw [hpo]
    first
      | exact ⟨_, 0, rfl, hM.2, ⟨_, _, hM.1, updI_eq, hS.to (fun k hk => updI_ne (by omega)) (fun j hj => rfl)⟩, Or.inl ⟨by omega, rfl, rfl⟩⟩
      | exact ⟨_, 1, rfl, hM.2, ⟨_, _, hM.1, updI_eq, hS.to (fun k hk => updI_ne (by omega)) (fun j hj => rfl)⟩, Or.inr ⟨by omega, rfl⟩⟩
theorem k_N_loudnessOf {g : GG} {w : WW} {m : Nat} {A : Int → Nat} {th : Int} {P : Int → Int} {S : Option (Int → Int)} {H : List (Int → Int)} {I O : Tx} {se : Option Int} {rj : Option (Int × Int × Int)} {b N : Int} (hG : Base g) (hX : MR g w m A th P S H I O se rj) (hB : PB P N) (hr : (-2147483648 ≤ b ∧ b < 2147483648)) : Ct g yX4_loudnessOf (.code yX4_loudnessOf cX4_loudnessOf 2 (some .int)) 2 43 0 0 w [.ref m, .int (iI b)] (fun r_ w1 => ∃ y th : Int, r_ = some (.int (iI y)) ∧ Fr (MS m A) w w1 ∧ MR g w1 m A th P S H I O se rj ∧ (((0 ≤ b ∧ b < P 1) ∧ th = 0 ∧ y = P (72 + 4 * b)) ∨ (¬ (0 ≤ b ∧ b < P 1) ∧ th = 1))) xF := by
  refine Ct.of (lv := [some _, some _]) hG (by decide +kernel) (Nat.le_of_ble_eq_true rfl) rfl ?_
  intro z hg hpo hxp hnm htab
  subst hg
  obtain ⟨F, C, hM, -, hS⟩ := hX
  have hM : MDF (zg z) w w m A F P C := ⟨hM, Fr.rf⟩
  have h68 : 0 ≤ F 6 ∧ F 6 ≤ 8 := by have := hS.1.1; have := hS.1.2.1; omega
  have hgg := hB.g
  refine xr_aload_n dX4_loudnessOf_0 rfl (by first | rfl | exact isRef_rf _) ?_
  refine xr_aload_n dX4_loudnessOf_1 rfl (by first | rfl | exact isRef_rf _) ?_
  refine xr_iload_n dX4_loudnessOf_2 rfl ?_
  refine xr_callV (n9 := 1) (rc' := 0) (rs' := 0) (k_M_isFountain hG hM.1 hB (by omega)) hM.1.1 rfl q2343 q2345 qs51 q96 q2346 (by decide +kernel) rfl ⟨by decide, Nat.le_of_ble_eq_true rfl⟩ ⟨Nat.le_of_ble_eq_true rfl, Nat.le_of_ble_eq_true rfl⟩ (Nat.le_of_ble_eq_true rfl) dX4_loudnessOf_3 rfl (xk_r ?_) (fun _ _ _ h => h.elim)
  refine xr_ifb_eq (tgt := 13) dX4_loudnessOf_6 (by decide) (fun c6 => ?_) (fun c6 => ?_)
  · skip
    try simp only [decide_eq_true_eq, decide_eq_false_iff_not] at c6
    refine xr_iconst dX4_loudnessOf_13 ?_
    refine xr_putfield (ci := 14) (T := TX4) (N := 23) (i := 0) (fs' := [_, _, _, _, _, _, _, _, _, _, _, _, _, _, _, _, _, _, _, _, _, _, _]) hM.1.1 rfl (by decide) in_X4 tyX4 tyX4_ok nmX4 q2191 (.inl rfl) rfl dX4_loudnessOf_14 (by rfl) (by rfl) (by simp) (by rfl) (.inl rfl) (fun _ => ?_)
    refine xr_mput (i := 0) hM (by rfl) (fun w14 hM => ?_)
    refine xr_aload_n dX4_loudnessOf_17 rfl (by first | rfl | exact isRef_rf _) ?_
    refine xr_getfield (ci := 14) (T := TX4) (N := 23) (i := 0) hM.1.1 rfl (by decide) in_X4 q2191 (.inl rfl) dX4_loudnessOf_18 (by rfl) ?_
    rw [updI_eq]
    refine xr_if_le (tgt := 28) dX4_loudnessOf_21 (by decide) (by decide) (fun c21 => absurd c21 (by decide)) (fun c21 => ?_)
    refine xr_iconst dX4_loudnessOf_24 ?_
    refine xr_goto (tgt := 34) dX4_loudnessOf_25 (by decide) ?_
    refine xr_ireturn rfl rfl dX4_loudnessOf_34 ?_
    rw [hpo]
    first
      | exact ⟨_, 0, rfl, hM.2, ⟨_, _, hM.1, updI_eq, hS.to (fun k hk => updI_ne (by omega)) (fun j hj => rfl)⟩, Or.inl ⟨by omega, rfl, rfl⟩⟩
      | exact ⟨_, 1, rfl, hM.2, ⟨_, _, hM.1, updI_eq, hS.to (fun k hk => updI_ne (by omega)) (fun j hj => rfl)⟩, Or.inr ⟨by omega, rfl⟩⟩
  · skip
    try simp only [decide_eq_true_eq, decide_eq_false_iff_not] at c6
    refine xr_iconst dX4_loudnessOf_9 ?_
    refine xr_goto (tgt := 14) dX4_loudnessOf_10 (by decide) ?_
    refine xr_putfield (ci := 14) (T := TX4) (N := 23) (i := 0) (fs' := [_, _, _, _, _, _, _, _, _, _, _, _, _, _, _, _, _, _, _, _, _, _, _]) hM.1.1 rfl (by decide) in_X4 tyX4 tyX4_ok nmX4 q2191 (.inl rfl) rfl dX4_loudnessOf_14 (by rfl) (by rfl) (by simp) (by rfl) (.inl rfl) (fun _ => ?_)
    refine xr_mput (i := 0) hM (by rfl) (fun w14 hM => ?_)
    refine xr_aload_n dX4_loudnessOf_17 rfl (by first | rfl | exact isRef_rf _) ?_
    refine xr_getfield (ci := 14) (T := TX4) (N := 23) (i := 0) hM.1.1 rfl (by decide) in_X4 q2191 (.inl rfl) dX4_loudnessOf_18 (by rfl) ?_
    rw [updI_eq]
    refine xr_if_le (tgt := 28) dX4_loudnessOf_21 (by decide) (by decide) (fun c21 => ?_) (fun c21 => absurd c21 (by decide))
    refine xr_aload_n dX4_loudnessOf_28 rfl (by first | rfl | exact isRef_rf _) ?_
    refine xr_iload_n dX4_loudnessOf_29 rfl ?_
    refine xr_iconst dX4_loudnessOf_30 ?_
    refine xr_callV (n9 := 2) (rc' := 0) (rs' := 0) (k_M_fountain_2 hG hM.1 (by omega)) hM.1.1 rfl q2295 q2297 qs42 q96 q2298 (by decide +kernel) rfl ⟨by decide, Nat.le_of_ble_eq_true rfl⟩ ⟨Nat.le_of_ble_eq_true rfl, Nat.le_of_ble_eq_true rfl⟩ (Nat.le_of_ble_eq_true rfl) dX4_loudnessOf_31 rfl (xk_r ?_) (fun _ _ _ h => h.elim)
    refine xr_ireturn rfl rfl dX4_loudnessOf_34 ?_
    rw [hpo]
    first
      | exact ⟨_, 0, rfl, hM.2, ⟨_, _, hM.1, updI_eq, hS.to (fun k hk => updI_ne (by omega)) (fun j hj => rfl)⟩, Or.inl ⟨by omega, rfl, rfl⟩⟩
      | exact ⟨_, 1, rfl, hM.2, ⟨_, _, hM.1, updI_eq, hS.to (fun k hk => updI_ne (by omega)) (fun j hj => rfl)⟩, Or.inr ⟨by omega, rfl⟩⟩
theorem k_N_noiseAt {g : GG} {w : WW} {m : Nat} {A : Int → Nat} {th : Int} {P : Int → Int} {S : Option (Int → Int)} {H : List (Int → Int)} {I O : Tx} {se : Option Int} {rj : Option (Int × Int × Int)} {a b N : Int} (hG : Base g) (hX : MR g w m A th P S H I O se rj) (hB : PB P N) (hr : (-2147483648 ≤ a ∧ a < 2147483648) ∧ (-2147483648 ≤ b ∧ b < 2147483648)) : Ct g yX4_noiseAt (.code yX4_noiseAt cX4_noiseAt 3 (some .int)) 2 48 0 0 w [.ref m, .int (iI a), .int (iI b)] (fun r_ w1 => ∃ y th : Int, r_ = some (.int (iI y)) ∧ Fr (MS m A) w w1 ∧ MR g w1 m A th P S H I O se rj ∧ ((((0 ≤ a ∧ a ≤ 5) ∧ (0 ≤ b ∧ b ≤ 5)) ∧ th = 0 ∧ y = noise P a b) ∨ (¬ ((0 ≤ a ∧ a ≤ 5) ∧ (0 ≤ b ∧ b ≤ 5)) ∧ th = 1))) xF := by
  refine Ct.of (lv := [some _, some _, some _]) hG (by decide +kernel) (Nat.le_of_ble_eq_true rfl) rfl ?_
  intro z hg hpo hxp hnm htab
  subst hg
  obtain ⟨F, C, hM, -, hS⟩ := hX
  have hM : MDF (zg z) w w m A F P C := ⟨hM, Fr.rf⟩
  have h68 : 0 ≤ F 6 ∧ F 6 ≤ 8 := by have := hS.1.1; have := hS.1.2.1; omega
  have hgg := hB.g
  refine xr_aload_n dX4_noiseAt_0 rfl (by first | rfl | exact isRef_rf _) ?_
  refine xr_iload_n dX4_noiseAt_1 rfl ?_
  refine xr_iload_n dX4_noiseAt_2 rfl ?_
  refine xr_callS (n9 := 2) (rc' := 0) (rs' := 0) (k_M_isCell hG (by omega)) q2277 q2278 q96 q2279 (by decide +kernel) rfl ⟨by decide, Nat.le_of_ble_eq_true rfl⟩ ⟨Nat.le_of_ble_eq_true rfl, Nat.le_of_ble_eq_true rfl⟩ (Nat.le_of_ble_eq_true rfl) dX4_noiseAt_3 rfl (xk_r ?_) (fun _ _ _ h => h.elim)
  refine xr_ifb_eq (tgt := 13) dX4_noiseAt_6 (by decide) (fun c6 => ?_) (fun c6 => ?_)
  · skip
    try simp only [decide_eq_true_eq, decide_eq_false_iff_not] at c6
    refine xr_iconst dX4_noiseAt_13 ?_
    refine xr_putfield (ci := 14) (T := TX4) (N := 23) (i := 0) (fs' := [_, _, _, _, _, _, _, _, _, _, _, _, _, _, _, _, _, _, _, _, _, _, _]) hM.1.1 rfl (by decide) in_X4 tyX4 tyX4_ok nmX4 q2191 (.inl rfl) rfl dX4_noiseAt_14 (by rfl) (by rfl) (by simp) (by rfl) (.inl rfl) (fun _ => ?_)
    refine xr_mput (i := 0) hM (by rfl) (fun w14 hM => ?_)
    refine xr_aload_n dX4_noiseAt_17 rfl (by first | rfl | exact isRef_rf _) ?_
    refine xr_getfield (ci := 14) (T := TX4) (N := 23) (i := 0) hM.1.1 rfl (by decide) in_X4 q2191 (.inl rfl) dX4_noiseAt_18 (by rfl) ?_
    rw [updI_eq]
    refine xr_if_le (tgt := 28) dX4_noiseAt_21 (by decide) (by decide) (fun c21 => absurd c21 (by decide)) (fun c21 => ?_)
    refine xr_iconst dX4_noiseAt_24 ?_
    refine xr_goto (tgt := 34) dX4_noiseAt_25 (by decide) ?_
    refine xr_ireturn rfl rfl dX4_noiseAt_34 ?_
    rw [hpo]
    first
      | exact ⟨_, 0, rfl, hM.2, ⟨_, _, hM.1, updI_eq, hS.to (fun k hk => updI_ne (by omega)) (fun j hj => rfl)⟩, Or.inl ⟨by omega, rfl, rfl⟩⟩
      | exact ⟨_, 1, rfl, hM.2, ⟨_, _, hM.1, updI_eq, hS.to (fun k hk => updI_ne (by omega)) (fun j hj => rfl)⟩, Or.inr ⟨by omega, rfl⟩⟩
  · skip
    try simp only [decide_eq_true_eq, decide_eq_false_iff_not] at c6
    refine xr_iconst dX4_noiseAt_9 ?_
    refine xr_goto (tgt := 14) dX4_noiseAt_10 (by decide) ?_
    refine xr_putfield (ci := 14) (T := TX4) (N := 23) (i := 0) (fs' := [_, _, _, _, _, _, _, _, _, _, _, _, _, _, _, _, _, _, _, _, _, _, _]) hM.1.1 rfl (by decide) in_X4 tyX4 tyX4_ok nmX4 q2191 (.inl rfl) rfl dX4_noiseAt_14 (by rfl) (by rfl) (by simp) (by rfl) (.inl rfl) (fun _ => ?_)
    refine xr_mput (i := 0) hM (by rfl) (fun w14 hM => ?_)
    refine xr_aload_n dX4_noiseAt_17 rfl (by first | rfl | exact isRef_rf _) ?_
    refine xr_getfield (ci := 14) (T := TX4) (N := 23) (i := 0) hM.1.1 rfl (by decide) in_X4 q2191 (.inl rfl) dX4_noiseAt_18 (by rfl) ?_
    rw [updI_eq]
    refine xr_if_le (tgt := 28) dX4_noiseAt_21 (by decide) (by decide) (fun c21 => ?_) (fun c21 => absurd c21 (by decide))
    refine xr_aload_n dX4_noiseAt_28 rfl (by first | rfl | exact isRef_rf _) ?_
    refine xr_iload_n dX4_noiseAt_29 rfl ?_
    refine xr_iload_n dX4_noiseAt_30 rfl ?_
    refine xr_callV (n9 := 2) (rc' := 0) (rs' := 0) (k_M_noise hG hM.1 hB (by omega)) hM.1.1 rfl q2395 q2397 qs57 q96 q2398 (by decide +kernel) rfl ⟨by decide, Nat.le_of_ble_eq_true rfl⟩ ⟨Nat.le_of_ble_eq_true rfl, Nat.le_of_ble_eq_true rfl⟩ (Nat.le_of_ble_eq_true rfl) dX4_noiseAt_31 rfl (xk_r ?_) (fun _ _ _ h => h.elim)
    refine xr_ireturn rfl rfl dX4_noiseAt_34 ?_
    rw [hpo]
    first
      | exact ⟨_, 0, rfl, hM.2, ⟨_, _, hM.1, updI_eq, hS.to (fun k hk => updI_ne (by omega)) (fun j hj => rfl)⟩, Or.inl ⟨by omega, rfl, rfl⟩⟩
      | exact ⟨_, 1, rfl, hM.2, ⟨_, _, hM.1, updI_eq, hS.to (fun k hk => updI_ne (by omega)) (fun j hj => rfl)⟩, Or.inr ⟨by omega, rfl⟩⟩
theorem k_N_noiseBySpreading {g : GG} {w : WW} {m : Nat} {A : Int → Nat} {th : Int} {P : Int → Int} {S : Option (Int → Int)} {H : List (Int → Int)} {I O : Tx} {se : Option Int} {rj : Option (Int × Int × Int)} {a b N : Int} (hG : Base g) (hX : MR g w m A th P S H I O se rj) (hB : PB P N) (hr : (-2147483648 ≤ a ∧ a < 2147483648) ∧ (-2147483648 ≤ b ∧ b < 2147483648)) : Ct g yX4_noiseBySpreading (.code yX4_noiseBySpreading cX4_noiseBySpreading 3 (some .int)) 3 70 0 0 w [.ref m, .int (iI a), .int (iI b)] (fun r_ w1 => ∃ y th : Int, r_ = some (.int (iI y)) ∧ Fr (MS m A) w w1 ∧ MR g w1 m A th P S H I O se rj ∧ ((((0 ≤ a ∧ a ≤ 5) ∧ (0 ≤ b ∧ b ≤ 5)) ∧ th = 0 ∧ y = noise P a b) ∨ (¬ ((0 ≤ a ∧ a ≤ 5) ∧ (0 ≤ b ∧ b ≤ 5)) ∧ th = 1))) xF := by
  refine Ct.of (lv := [some _, some _, some _]) hG (by decide +kernel) (Nat.le_of_ble_eq_true rfl) rfl ?_
  intro z hg hpo hxp hnm htab
  subst hg
  obtain ⟨F, C, hM, -, hS⟩ := hX
  have hM : MDF (zg z) w w m A F P C := ⟨hM, Fr.rf⟩
  have h68 : 0 ≤ F 6 ∧ F 6 ≤ 8 := by have := hS.1.1; have := hS.1.2.1; omega
  have hgg := hB.g
  refine xr_aload_n dX4_noiseBySpreading_0 rfl (by first | rfl | exact isRef_rf _) ?_
  refine xr_iload_n dX4_noiseBySpreading_1 rfl ?_
  refine xr_iload_n dX4_noiseBySpreading_2 rfl ?_
  refine xr_callV (n9 := 2) (rc' := 0) (rs' := 0) (k_N_noiseAt hG ⟨F, C, hM.1, rfl, hS⟩ hB hr) hM.1.1 rfl q2426 q2419 q2420 q96 q2421 (by decide +kernel) rfl ⟨by decide, Nat.le_of_ble_eq_true rfl⟩ ⟨Nat.le_of_ble_eq_true rfl, Nat.le_of_ble_eq_true rfl⟩ (Nat.le_of_ble_eq_true rfl) dX4_noiseBySpreading_3 rfl (fun r w3 hw => ?_) (fun _ _ _ h => h.elim)
  obtain ⟨y, th, rfl, hf, hX, hD⟩ := hw
  show XJ _ _ _ _ _ _ _ _ _ _ _ _ [.int (iI y)]
  refine xr_ireturn rfl rfl dX4_noiseBySpreading_6 ?_
  rw [hpo]
  exact ⟨y, th, rfl, hM.2.tq hf, hX, hD⟩
theorem k_N_isRunning {g : GG} {w : WW} {m : Nat} {A : Int → Nat} {th : Int} {P : Int → Int} {S : Option (Int → Int)} {H : List (Int → Int)} {I O : Tx} {se : Option Int} {rj : Option (Int × Int × Int)} {b N : Int} (hG : Base g) (hX : MR g w m A th P S H I O se rj) (hB : PB P N) (hr : (-2147483648 ≤ b ∧ b < 2147483648)) : Ct g yX4_isRunning (.code yX4_isRunning cX4_isRunning 2 (some .boolean)) 2 43 0 0 w [.ref m, .int (iI b)] (fun r_ w1 => ∃ y th : Int, r_ = some (.int (iI y)) ∧ Fr (MS m A) w w1 ∧ MR g w1 m A th P S H I O se rj ∧ (((0 ≤ b ∧ b < P 1) ∧ th = 0 ∧ y = if P (73 + 4 * b) = 1 then 1 else 0) ∨ (¬ (0 ≤ b ∧ b < P 1) ∧ th = 1))) xF := by
  refine Ct.of (lv := [some _, some _]) hG (by decide +kernel) (Nat.le_of_ble_eq_true rfl) rfl ?_
  intro z hg hpo hxp hnm htab
  subst hg
  obtain ⟨F, C, hM, -, hS⟩ := hX
  have hM : MDF (zg z) w w m A F P C := ⟨hM, Fr.rf⟩
  have h68 : 0 ≤ F 6 ∧ F 6 ≤ 8 := by have := hS.1.1; have := hS.1.2.1; omega
  have hgg := hB.g
  refine xr_aload_n dX4_isRunning_0 rfl (by first | rfl | exact isRef_rf _) ?_
  refine xr_aload_n dX4_isRunning_1 rfl (by first | rfl | exact isRef_rf _) ?_
  refine xr_iload_n dX4_isRunning_2 rfl ?_
  refine xr_callV (n9 := 1) (rc' := 0) (rs' := 0) (k_M_isFountain hG hM.1 hB (by omega)) hM.1.1 rfl q2343 q2345 qs51 q96 q2346 (by decide +kernel) rfl ⟨by decide, Nat.le_of_ble_eq_true rfl⟩ ⟨Nat.le_of_ble_eq_true rfl, Nat.le_of_ble_eq_true rfl⟩ (Nat.le_of_ble_eq_true rfl) dX4_isRunning_3 rfl (xk_r ?_) (fun _ _ _ h => h.elim)
  refine xr_ifb_eq (tgt := 13) dX4_isRunning_6 (by decide) (fun c6 => ?_) (fun c6 => ?_)
  · skip
    try simp only [decide_eq_true_eq, decide_eq_false_iff_not] at c6
    refine xr_iconst dX4_isRunning_13 ?_
    refine xr_putfield (ci := 14) (T := TX4) (N := 23) (i := 0) (fs' := [_, _, _, _, _, _, _, _, _, _, _, _, _, _, _, _, _, _, _, _, _, _, _]) hM.1.1 rfl (by decide) in_X4 tyX4 tyX4_ok nmX4 q2191 (.inl rfl) rfl dX4_isRunning_14 (by rfl) (by rfl) (by simp) (by rfl) (.inl rfl) (fun _ => ?_)
    refine xr_mput (i := 0) hM (by rfl) (fun w14 hM => ?_)
    refine xr_aload_n dX4_isRunning_17 rfl (by first | rfl | exact isRef_rf _) ?_
    refine xr_getfield (ci := 14) (T := TX4) (N := 23) (i := 0) hM.1.1 rfl (by decide) in_X4 q2191 (.inl rfl) dX4_isRunning_18 (by rfl) ?_
    rw [updI_eq]
    refine xr_if_ne (tgt := 38) dX4_isRunning_21 (by decide) (by decide) (fun c21 => ?_) (fun c21 => absurd c21 (by decide))
    refine xr_iconst dX4_isRunning_38 ?_
    refine xr_ireturn rfl (by first | rfl | exact nar_bI _ | decide +kernel) dX4_isRunning_39 ?_
    rw [hpo]
    first
      | exact ⟨1, 0, rfl, hM.2, ⟨_, _, hM.1, updI_eq, hS.to (fun k hk => updI_ne (by omega)) (fun j hj => rfl)⟩, Or.inl ⟨by omega, rfl, by rw [if_pos (by omega)]⟩⟩
      | exact ⟨0, 0, rfl, hM.2, ⟨_, _, hM.1, updI_eq, hS.to (fun k hk => updI_ne (by omega)) (fun j hj => rfl)⟩, Or.inl ⟨by omega, rfl, by rw [if_neg (by omega)]⟩⟩
      | exact ⟨_, 1, rfl, hM.2, ⟨_, _, hM.1, updI_eq, hS.to (fun k hk => updI_ne (by omega)) (fun j hj => rfl)⟩, Or.inr ⟨by omega, rfl⟩⟩
  · skip
    try simp only [decide_eq_true_eq, decide_eq_false_iff_not] at c6
    refine xr_iconst dX4_isRunning_9 ?_
    refine xr_goto (tgt := 14) dX4_isRunning_10 (by decide) ?_
    refine xr_putfield (ci := 14) (T := TX4) (N := 23) (i := 0) (fs' := [_, _, _, _, _, _, _, _, _, _, _, _, _, _, _, _, _, _, _, _, _, _, _]) hM.1.1 rfl (by decide) in_X4 tyX4 tyX4_ok nmX4 q2191 (.inl rfl) rfl dX4_isRunning_14 (by rfl) (by rfl) (by simp) (by rfl) (.inl rfl) (fun _ => ?_)
    refine xr_mput (i := 0) hM (by rfl) (fun w14 hM => ?_)
    refine xr_aload_n dX4_isRunning_17 rfl (by first | rfl | exact isRef_rf _) ?_
    refine xr_getfield (ci := 14) (T := TX4) (N := 23) (i := 0) hM.1.1 rfl (by decide) in_X4 q2191 (.inl rfl) dX4_isRunning_18 (by rfl) ?_
    rw [updI_eq]
    refine xr_if_ne (tgt := 38) dX4_isRunning_21 (by decide) (by decide) (fun c21 => absurd c21 (by decide)) (fun c21 => ?_)
    refine xr_aload_n dX4_isRunning_24 rfl (by first | rfl | exact isRef_rf _) ?_
    refine xr_iload_n dX4_isRunning_25 rfl ?_
    refine xr_iconst dX4_isRunning_26 ?_
    refine xr_callV (n9 := 2) (rc' := 0) (rs' := 0) (k_M_fountain_3 hG hM.1 (by omega)) hM.1.1 rfl q2295 q2297 qs42 q96 q2298 (by decide +kernel) rfl ⟨by decide, Nat.le_of_ble_eq_true rfl⟩ ⟨Nat.le_of_ble_eq_true rfl, Nat.le_of_ble_eq_true rfl⟩ (Nat.le_of_ble_eq_true rfl) dX4_isRunning_27 rfl (xk_r ?_) (fun _ _ _ h => h.elim)
    refine xr_iconst dX4_isRunning_30 ?_
    have hff := hB.f (f := b) (by omega)
    refine xr_icmp_ne (tgt := 38) dX4_isRunning_31 (by decide) (by omega) (fun c31 => ?_) (fun c31 => ?_)
    · skip
      refine xr_iconst dX4_isRunning_38 ?_
      refine xr_ireturn rfl (by first | rfl | exact nar_bI _ | decide +kernel) dX4_isRunning_39 ?_
      rw [hpo]
      first
        | exact ⟨1, 0, rfl, hM.2, ⟨_, _, hM.1, updI_eq, hS.to (fun k hk => updI_ne (by omega)) (fun j hj => rfl)⟩, Or.inl ⟨by omega, rfl, by rw [if_pos (by omega)]⟩⟩
        | exact ⟨0, 0, rfl, hM.2, ⟨_, _, hM.1, updI_eq, hS.to (fun k hk => updI_ne (by omega)) (fun j hj => rfl)⟩, Or.inl ⟨by omega, rfl, by rw [if_neg (by omega)]⟩⟩
        | exact ⟨_, 1, rfl, hM.2, ⟨_, _, hM.1, updI_eq, hS.to (fun k hk => updI_ne (by omega)) (fun j hj => rfl)⟩, Or.inr ⟨by omega, rfl⟩⟩
    · skip
      refine xr_iconst dX4_isRunning_34 ?_
      refine xr_goto (tgt := 39) dX4_isRunning_35 (by decide) ?_
      refine xr_ireturn rfl (by first | rfl | exact nar_bI _ | decide +kernel) dX4_isRunning_39 ?_
      rw [hpo]
      first
        | exact ⟨1, 0, rfl, hM.2, ⟨_, _, hM.1, updI_eq, hS.to (fun k hk => updI_ne (by omega)) (fun j hj => rfl)⟩, Or.inl ⟨by omega, rfl, by rw [if_pos (by omega)]⟩⟩
        | exact ⟨0, 0, rfl, hM.2, ⟨_, _, hM.1, updI_eq, hS.to (fun k hk => updI_ne (by omega)) (fun j hj => rfl)⟩, Or.inl ⟨by omega, rfl, by rw [if_neg (by omega)]⟩⟩
        | exact ⟨_, 1, rfl, hM.2, ⟨_, _, hM.1, updI_eq, hS.to (fun k hk => updI_ne (by omega)) (fun j hj => rfl)⟩, Or.inr ⟨by omega, rfl⟩⟩
theorem k_N_isQuiet {g : GG} {w : WW} {m : Nat} {A : Int → Nat} {th : Int} {P : Int → Int} {S : Option (Int → Int)} {H : List (Int → Int)} {I O : Tx} {se : Option Int} {rj : Option (Int × Int × Int)} {b N : Int} (hG : Base g) (hX : MR g w m A th P S H I O se rj) (hB : PB P N) (hr : (-2147483648 ≤ b ∧ b < 2147483648)) : Ct g yX4_isQuiet (.code yX4_isQuiet cX4_isQuiet 2 (some .boolean)) 4 90 0 0 w [.ref m, .int (iI b)] (fun r_ w1 => ∃ y th : Int, r_ = some (.int (iI y)) ∧ Fr (MS m A) w w1 ∧ MR g w1 m A th P S H I O se rj ∧ (((0 ≤ b ∧ b < P 0) ∧ th = 0 ∧ y = if noiseOf P b ≤ P 3 then 1 else 0) ∨ (¬ (0 ≤ b ∧ b < P 0) ∧ th = 1))) xF := by
  refine Ct.of (lv := [some _, some _]) hG (by decide +kernel) (Nat.le_of_ble_eq_true rfl) rfl ?_
  intro z hg hpo hxp hnm htab
  subst hg
  obtain ⟨F, C, hM, -, hS⟩ := hX
  have hM : MDF (zg z) w w m A F P C := ⟨hM, Fr.rf⟩
  have h68 : 0 ≤ F 6 ∧ F 6 ≤ 8 := by have := hS.1.1; have := hS.1.2.1; omega
  have hgg := hB.g
  refine xr_aload_n dX4_isQuiet_0 rfl (by first | rfl | exact isRef_rf _) ?_
  refine xr_aload_n dX4_isQuiet_1 rfl (by first | rfl | exact isRef_rf _) ?_
  refine xr_iload_n dX4_isQuiet_2 rfl ?_
  refine xr_callV (n9 := 1) (rc' := 0) (rs' := 0) (k_M_isBench hG hM.1 hB (by omega)) hM.1.1 rfl q2323 q2325 qs48 q96 q2326 (by decide +kernel) rfl ⟨by decide, Nat.le_of_ble_eq_true rfl⟩ ⟨Nat.le_of_ble_eq_true rfl, Nat.le_of_ble_eq_true rfl⟩ (Nat.le_of_ble_eq_true rfl) dX4_isQuiet_3 rfl (xk_r ?_) (fun _ _ _ h => h.elim)
  refine xr_ifb_eq (tgt := 13) dX4_isQuiet_6 (by decide) (fun c6 => ?_) (fun c6 => ?_)
  · skip
    try simp only [decide_eq_true_eq, decide_eq_false_iff_not] at c6
    refine xr_iconst dX4_isQuiet_13 ?_
    refine xr_putfield (ci := 14) (T := TX4) (N := 23) (i := 0) (fs' := [_, _, _, _, _, _, _, _, _, _, _, _, _, _, _, _, _, _, _, _, _, _, _]) hM.1.1 rfl (by decide) in_X4 tyX4 tyX4_ok nmX4 q2191 (.inl rfl) rfl dX4_isQuiet_14 (by rfl) (by rfl) (by simp) (by rfl) (.inl rfl) (fun _ => ?_)
    refine xr_mput (i := 0) hM (by rfl) (fun w14 hM => ?_)
    refine xr_aload_n dX4_isQuiet_17 rfl (by first | rfl | exact isRef_rf _) ?_
    refine xr_getfield (ci := 14) (T := TX4) (N := 23) (i := 0) hM.1.1 rfl (by decide) in_X4 q2191 (.inl rfl) dX4_isQuiet_18 (by rfl) ?_
    rw [updI_eq]
    refine xr_if_ne (tgt := 36) dX4_isQuiet_21 (by decide) (by decide) (fun c21 => ?_) (fun c21 => absurd c21 (by decide))
    refine xr_iconst dX4_isQuiet_36 ?_
    refine xr_ireturn rfl (by first | rfl | exact nar_bI _ | decide +kernel) dX4_isQuiet_37 ?_
    rw [hpo]
    first
      | exact ⟨1, 0, rfl, hM.2, ⟨_, _, hM.1, updI_eq, hS.to (fun k hk => updI_ne (by omega)) (fun j hj => rfl)⟩, Or.inl ⟨by omega, rfl, by rw [if_pos (by omega)]⟩⟩
      | exact ⟨0, 0, rfl, hM.2, ⟨_, _, hM.1, updI_eq, hS.to (fun k hk => updI_ne (by omega)) (fun j hj => rfl)⟩, Or.inl ⟨by omega, rfl, by rw [if_neg (by omega)]⟩⟩
      | exact ⟨_, 1, rfl, hM.2, ⟨_, _, hM.1, updI_eq, hS.to (fun k hk => updI_ne (by omega)) (fun j hj => rfl)⟩, Or.inr ⟨by omega, rfl⟩⟩
  · skip
    try simp only [decide_eq_true_eq, decide_eq_false_iff_not] at c6
    refine xr_iconst dX4_isQuiet_9 ?_
    refine xr_goto (tgt := 14) dX4_isQuiet_10 (by decide) ?_
    refine xr_putfield (ci := 14) (T := TX4) (N := 23) (i := 0) (fs' := [_, _, _, _, _, _, _, _, _, _, _, _, _, _, _, _, _, _, _, _, _, _, _]) hM.1.1 rfl (by decide) in_X4 tyX4 tyX4_ok nmX4 q2191 (.inl rfl) rfl dX4_isQuiet_14 (by rfl) (by rfl) (by simp) (by rfl) (.inl rfl) (fun _ => ?_)
    refine xr_mput (i := 0) hM (by rfl) (fun w14 hM => ?_)
    refine xr_aload_n dX4_isQuiet_17 rfl (by first | rfl | exact isRef_rf _) ?_
    refine xr_getfield (ci := 14) (T := TX4) (N := 23) (i := 0) hM.1.1 rfl (by decide) in_X4 q2191 (.inl rfl) dX4_isQuiet_18 (by rfl) ?_
    rw [updI_eq]
    refine xr_if_ne (tgt := 36) dX4_isQuiet_21 (by decide) (by decide) (fun c21 => absurd c21 (by decide)) (fun c21 => ?_)
    refine xr_aload_n dX4_isQuiet_24 rfl (by first | rfl | exact isRef_rf _) ?_
    refine xr_iload_n dX4_isQuiet_25 rfl ?_
    refine xr_callV (n9 := 1) (rc' := 0) (rs' := 0) (k_M_quiet hG hM.1 hB (by omega)) hM.1.1 rfl q2431 q2433 qs58 q96 q2434 (by decide +kernel) rfl ⟨by decide, Nat.le_of_ble_eq_true rfl⟩ ⟨Nat.le_of_ble_eq_true rfl, Nat.le_of_ble_eq_true rfl⟩ (Nat.le_of_ble_eq_true rfl) dX4_isQuiet_26 rfl (xk_r ?_) (fun _ _ _ h => h.elim)
    refine xr_ifb_eq (tgt := 36) dX4_isQuiet_29 (by decide) (fun c29 => ?_) (fun c29 => ?_)
    · skip
      try simp only [decide_eq_true_eq, decide_eq_false_iff_not] at c29
      refine xr_iconst dX4_isQuiet_36 ?_
      refine xr_ireturn rfl (by first | rfl | exact nar_bI _ | decide +kernel) dX4_isQuiet_37 ?_
      rw [hpo]
      first
        | exact ⟨1, 0, rfl, hM.2, ⟨_, _, hM.1, updI_eq, hS.to (fun k hk => updI_ne (by omega)) (fun j hj => rfl)⟩, Or.inl ⟨by omega, rfl, by rw [if_pos (by omega)]⟩⟩
        | exact ⟨0, 0, rfl, hM.2, ⟨_, _, hM.1, updI_eq, hS.to (fun k hk => updI_ne (by omega)) (fun j hj => rfl)⟩, Or.inl ⟨by omega, rfl, by rw [if_neg (by omega)]⟩⟩
        | exact ⟨_, 1, rfl, hM.2, ⟨_, _, hM.1, updI_eq, hS.to (fun k hk => updI_ne (by omega)) (fun j hj => rfl)⟩, Or.inr ⟨by omega, rfl⟩⟩
    · skip
      try simp only [decide_eq_true_eq, decide_eq_false_iff_not] at c29
      refine xr_iconst dX4_isQuiet_32 ?_
      refine xr_goto (tgt := 37) dX4_isQuiet_33 (by decide) ?_
      refine xr_ireturn rfl (by first | rfl | exact nar_bI _ | decide +kernel) dX4_isQuiet_37 ?_
      rw [hpo]
      first
        | exact ⟨1, 0, rfl, hM.2, ⟨_, _, hM.1, updI_eq, hS.to (fun k hk => updI_ne (by omega)) (fun j hj => rfl)⟩, Or.inl ⟨by omega, rfl, by rw [if_pos (by omega)]⟩⟩
        | exact ⟨0, 0, rfl, hM.2, ⟨_, _, hM.1, updI_eq, hS.to (fun k hk => updI_ne (by omega)) (fun j hj => rfl)⟩, Or.inl ⟨by omega, rfl, by rw [if_neg (by omega)]⟩⟩
        | exact ⟨_, 1, rfl, hM.2, ⟨_, _, hM.1, updI_eq, hS.to (fun k hk => updI_ne (by omega)) (fun j hj => rfl)⟩, Or.inr ⟨by omega, rfl⟩⟩
theorem k_N_isLet {g : GG} {w : WW} {m : Nat} {A : Int → Nat} {th : Int} {P : Int → Int} {S : Option (Int → Int)} {H : List (Int → Int)} {I O : Tx} {se : Option Int} {rj : Option (Int × Int × Int)} {b N : Int} (hG : Base g) (hX : MR g w m A th P S H I O se rj) (hB : PB P N) (hr : (-2147483648 ≤ b ∧ b < 2147483648)) : Ct g yX4_isLet (.code yX4_isLet cX4_isLet 2 (some .boolean)) 2 43 0 0 w [.ref m, .int (iI b)] (fun r_ w1 => ∃ y th : Int, r_ = some (.int (iI y)) ∧ Fr (MS m A) w w1 ∧ MR g w1 m A th P S H I O se rj ∧ (((0 ≤ b ∧ b < P 0) ∧ th = 0 ∧ y = if P (13 + 6 * b) ≠ 0 then 1 else 0) ∨ (¬ (0 ≤ b ∧ b < P 0) ∧ th = 1))) xF := by
  refine Ct.of (lv := [some _, some _]) hG (by decide +kernel) (Nat.le_of_ble_eq_true rfl) rfl ?_
  intro z hg hpo hxp hnm htab
  subst hg
  obtain ⟨F, C, hM, -, hS⟩ := hX
  have hM : MDF (zg z) w w m A F P C := ⟨hM, Fr.rf⟩
  have h68 : 0 ≤ F 6 ∧ F 6 ≤ 8 := by have := hS.1.1; have := hS.1.2.1; omega
  have hgg := hB.g
  refine xr_aload_n dX4_isLet_0 rfl (by first | rfl | exact isRef_rf _) ?_
  refine xr_aload_n dX4_isLet_1 rfl (by first | rfl | exact isRef_rf _) ?_
  refine xr_iload_n dX4_isLet_2 rfl ?_
  refine xr_callV (n9 := 1) (rc' := 0) (rs' := 0) (k_M_isBench hG hM.1 hB (by omega)) hM.1.1 rfl q2323 q2325 qs48 q96 q2326 (by decide +kernel) rfl ⟨by decide, Nat.le_of_ble_eq_true rfl⟩ ⟨Nat.le_of_ble_eq_true rfl, Nat.le_of_ble_eq_true rfl⟩ (Nat.le_of_ble_eq_true rfl) dX4_isLet_3 rfl (xk_r ?_) (fun _ _ _ h => h.elim)
  refine xr_ifb_eq (tgt := 13) dX4_isLet_6 (by decide) (fun c6 => ?_) (fun c6 => ?_)
  · skip
    try simp only [decide_eq_true_eq, decide_eq_false_iff_not] at c6
    refine xr_iconst dX4_isLet_13 ?_
    refine xr_putfield (ci := 14) (T := TX4) (N := 23) (i := 0) (fs' := [_, _, _, _, _, _, _, _, _, _, _, _, _, _, _, _, _, _, _, _, _, _, _]) hM.1.1 rfl (by decide) in_X4 tyX4 tyX4_ok nmX4 q2191 (.inl rfl) rfl dX4_isLet_14 (by rfl) (by rfl) (by simp) (by rfl) (.inl rfl) (fun _ => ?_)
    refine xr_mput (i := 0) hM (by rfl) (fun w14 hM => ?_)
    refine xr_aload_n dX4_isLet_17 rfl (by first | rfl | exact isRef_rf _) ?_
    refine xr_getfield (ci := 14) (T := TX4) (N := 23) (i := 0) hM.1.1 rfl (by decide) in_X4 q2191 (.inl rfl) dX4_isLet_18 (by rfl) ?_
    rw [updI_eq]
    refine xr_if_ne (tgt := 37) dX4_isLet_21 (by decide) (by decide) (fun c21 => ?_) (fun c21 => absurd c21 (by decide))
    refine xr_iconst dX4_isLet_37 ?_
    refine xr_ireturn rfl (by first | rfl | exact nar_bI _ | decide +kernel) dX4_isLet_38 ?_
    rw [hpo]
    first
      | exact ⟨1, 0, rfl, hM.2, ⟨_, _, hM.1, updI_eq, hS.to (fun k hk => updI_ne (by omega)) (fun j hj => rfl)⟩, Or.inl ⟨by omega, rfl, by rw [if_pos (by omega)]⟩⟩
      | exact ⟨0, 0, rfl, hM.2, ⟨_, _, hM.1, updI_eq, hS.to (fun k hk => updI_ne (by omega)) (fun j hj => rfl)⟩, Or.inl ⟨by omega, rfl, by rw [if_neg (by omega)]⟩⟩
      | exact ⟨_, 1, rfl, hM.2, ⟨_, _, hM.1, updI_eq, hS.to (fun k hk => updI_ne (by omega)) (fun j hj => rfl)⟩, Or.inr ⟨by omega, rfl⟩⟩
  · skip
    try simp only [decide_eq_true_eq, decide_eq_false_iff_not] at c6
    refine xr_iconst dX4_isLet_9 ?_
    refine xr_goto (tgt := 14) dX4_isLet_10 (by decide) ?_
    refine xr_putfield (ci := 14) (T := TX4) (N := 23) (i := 0) (fs' := [_, _, _, _, _, _, _, _, _, _, _, _, _, _, _, _, _, _, _, _, _, _, _]) hM.1.1 rfl (by decide) in_X4 tyX4 tyX4_ok nmX4 q2191 (.inl rfl) rfl dX4_isLet_14 (by rfl) (by rfl) (by simp) (by rfl) (.inl rfl) (fun _ => ?_)
    refine xr_mput (i := 0) hM (by rfl) (fun w14 hM => ?_)
    refine xr_aload_n dX4_isLet_17 rfl (by first | rfl | exact isRef_rf _) ?_
    refine xr_getfield (ci := 14) (T := TX4) (N := 23) (i := 0) hM.1.1 rfl (by decide) in_X4 q2191 (.inl rfl) dX4_isLet_18 (by rfl) ?_
    rw [updI_eq]
    refine xr_if_ne (tgt := 37) dX4_isLet_21 (by decide) (by decide) (fun c21 => absurd c21 (by decide)) (fun c21 => ?_)
    refine xr_aload_n dX4_isLet_24 rfl (by first | rfl | exact isRef_rf _) ?_
    refine xr_iload_n dX4_isLet_25 rfl ?_
    refine xr_callV (n9 := 1) (rc' := 0) (rs' := 0) (k_M_by hG hM.1 (by omega)) hM.1.1 rfl q2487 q2489 qs65 q96 q2490 (by decide +kernel) rfl ⟨by decide, Nat.le_of_ble_eq_true rfl⟩ ⟨Nat.le_of_ble_eq_true rfl, Nat.le_of_ble_eq_true rfl⟩ (Nat.le_of_ble_eq_true rfl) dX4_isLet_26 rfl (xk_r ?_) (fun _ _ _ h => h.elim)
    refine xr_iconst dX4_isLet_29 ?_
    have hbb := hB.b (b := b) (by omega)
    refine xr_icmp_eq (tgt := 37) dX4_isLet_30 (by decide) (by omega) (fun c30 => ?_) (fun c30 => ?_)
    · skip
      refine xr_iconst dX4_isLet_37 ?_
      refine xr_ireturn rfl (by first | rfl | exact nar_bI _ | decide +kernel) dX4_isLet_38 ?_
      rw [hpo]
      first
        | exact ⟨1, 0, rfl, hM.2, ⟨_, _, hM.1, updI_eq, hS.to (fun k hk => updI_ne (by omega)) (fun j hj => rfl)⟩, Or.inl ⟨by omega, rfl, by rw [if_pos (by omega)]⟩⟩
        | exact ⟨0, 0, rfl, hM.2, ⟨_, _, hM.1, updI_eq, hS.to (fun k hk => updI_ne (by omega)) (fun j hj => rfl)⟩, Or.inl ⟨by omega, rfl, by rw [if_neg (by omega)]⟩⟩
        | exact ⟨_, 1, rfl, hM.2, ⟨_, _, hM.1, updI_eq, hS.to (fun k hk => updI_ne (by omega)) (fun j hj => rfl)⟩, Or.inr ⟨by omega, rfl⟩⟩
    · skip
      refine xr_iconst dX4_isLet_33 ?_
      refine xr_goto (tgt := 38) dX4_isLet_34 (by decide) ?_
      refine xr_ireturn rfl (by first | rfl | exact nar_bI _ | decide +kernel) dX4_isLet_38 ?_
      rw [hpo]
      first
        | exact ⟨1, 0, rfl, hM.2, ⟨_, _, hM.1, updI_eq, hS.to (fun k hk => updI_ne (by omega)) (fun j hj => rfl)⟩, Or.inl ⟨by omega, rfl, by rw [if_pos (by omega)]⟩⟩
        | exact ⟨0, 0, rfl, hM.2, ⟨_, _, hM.1, updI_eq, hS.to (fun k hk => updI_ne (by omega)) (fun j hj => rfl)⟩, Or.inl ⟨by omega, rfl, by rw [if_neg (by omega)]⟩⟩
        | exact ⟨_, 1, rfl, hM.2, ⟨_, _, hM.1, updI_eq, hS.to (fun k hk => updI_ne (by omega)) (fun j hj => rfl)⟩, Or.inr ⟨by omega, rfl⟩⟩
theorem k_N_benchOf {g : GG} {w : WW} {m : Nat} {A : Int → Nat} {th : Int} {P : Int → Int} {S : Option (Int → Int)} {H : List (Int → Int)} {I O : Tx} {se : Option Int} {rj : Option (Int × Int × Int)} {b N : Int} (hG : Base g) (hX : MR g w m A th P S H I O se rj) (hB : PB P N) (hC : PCon P) (hr : (-2147483648 ≤ b ∧ b < 2147483648)) : Ct g yX4_benchOf (.code yX4_benchOf cX4_benchOf 2 (some .int)) 3 65 0 0 w [.ref m, .int (iI b)] (fun r_ w1 => ∃ y th : Int, r_ = some (.int (iI y)) ∧ Fr (MS m A) w w1 ∧ MR g w1 m A th P S H I O se rj ∧ (((0 ≤ b ∧ b < P 2) ∧ (P (102 + b) ≠ 0) ∧ th = 0 ∧ y = P (102 + b) - 1) ∨ (¬ (0 ≤ b ∧ b < P 2) ∧ th = 1) ∨ ((0 ≤ b ∧ b < P 2) ∧ (P (102 + b) = 0) ∧ th = 2))) xF := by
  refine Ct.of (lv := [some _, some _]) hG (by decide +kernel) (Nat.le_of_ble_eq_true rfl) rfl ?_
  intro z hg hpo hxp hnm htab
  subst hg
  obtain ⟨F, C, hM, -, hS⟩ := hX
  have hM : MDF (zg z) w w m A F P C := ⟨hM, Fr.rf⟩
  have h68 : 0 ≤ F 6 ∧ F 6 ≤ 8 := by have := hS.1.1; have := hS.1.2.1; omega
  have hgg := hB.g
  refine xr_aload_n dX4_benchOf_0 rfl (by first | rfl | exact isRef_rf _) ?_
  refine xr_aload_n dX4_benchOf_1 rfl (by first | rfl | exact isRef_rf _) ?_
  refine xr_iload_n dX4_benchOf_2 rfl ?_
  refine xr_callV (n9 := 1) (rc' := 0) (rs' := 0) (k_M_isTenant hG hM.1 hB (by omega)) hM.1.1 rfl q2455 q2457 qs61 q96 q2458 (by decide +kernel) rfl ⟨by decide, Nat.le_of_ble_eq_true rfl⟩ ⟨Nat.le_of_ble_eq_true rfl, Nat.le_of_ble_eq_true rfl⟩ (Nat.le_of_ble_eq_true rfl) dX4_benchOf_3 rfl (xk_r ?_) (fun _ _ _ h => h.elim)
  refine xr_ifb_ne (tgt := 13) dX4_benchOf_6 (by decide) (fun c6 => ?_) (fun c6 => ?_)
  · skip
    try simp only [decide_eq_true_eq, decide_eq_false_iff_not] at c6
    have hyt := byT_eq hB hC (by omega : 0 ≤ b ∧ b < P 2)
    have hyb := byT_bd (P := P) (t := b)
    have htt := hB.t (t := b) (by omega)
    refine xr_aload_n dX4_benchOf_13 rfl (by first | rfl | exact isRef_rf _) ?_
    refine xr_iload_n dX4_benchOf_14 rfl ?_
    refine xr_callV (n9 := 1) (rc' := 0) (rs' := 0) (k_M_benchBy hG hM.1 hB (by omega)) hM.1.1 rfl q2483 q2485 qs64 q96 q2486 (by decide +kernel) rfl ⟨by decide, Nat.le_of_ble_eq_true rfl⟩ ⟨Nat.le_of_ble_eq_true rfl, Nat.le_of_ble_eq_true rfl⟩ (Nat.le_of_ble_eq_true rfl) dX4_benchOf_15 rfl (xk_r ?_) (fun _ _ _ h => h.elim)
    refine xr_iconst dX4_benchOf_18 ?_
    refine xr_icmp_ne (tgt := 26) dX4_benchOf_19 (by decide) (by omega) (fun c19 => ?_) (fun c19 => ?_)
    · skip
      refine xr_iconst dX4_benchOf_26 ?_
      refine xr_putfield (ci := 14) (T := TX4) (N := 23) (i := 0) (fs' := [_, _, _, _, _, _, _, _, _, _, _, _, _, _, _, _, _, _, _, _, _, _, _]) hM.1.1 rfl (by decide) in_X4 tyX4 tyX4_ok nmX4 q2191 (.inl rfl) rfl dX4_benchOf_27 (by rfl) (by rfl) (by simp) (by rfl) (.inl rfl) (fun _ => ?_)
      refine xr_mput (i := 0) hM (by rfl) (fun w27 hM => ?_)
      refine xr_aload_n dX4_benchOf_30 rfl (by first | rfl | exact isRef_rf _) ?_
      refine xr_getfield (ci := 14) (T := TX4) (N := 23) (i := 0) hM.1.1 rfl (by decide) in_X4 q2191 (.inl rfl) dX4_benchOf_31 (by rfl) ?_
      rw [updI_eq]
      refine xr_if_le (tgt := 41) dX4_benchOf_34 (by decide) (by decide) (fun c34 => ?_) (fun c34 => absurd c34 (by decide))
      refine xr_aload_n dX4_benchOf_41 rfl (by first | rfl | exact isRef_rf _) ?_
      refine xr_iload_n dX4_benchOf_42 rfl ?_
      refine xr_callV (n9 := 1) (rc' := 0) (rs' := 0) (k_M_benchBy hG hM.1 hB (by omega)) hM.1.1 rfl q2483 q2485 qs64 q96 q2486 (by decide +kernel) rfl ⟨by decide, Nat.le_of_ble_eq_true rfl⟩ ⟨Nat.le_of_ble_eq_true rfl, Nat.le_of_ble_eq_true rfl⟩ (Nat.le_of_ble_eq_true rfl) dX4_benchOf_43 rfl (xk_r ?_) (fun _ _ _ h => h.elim)
      refine xr_ireturn rfl rfl dX4_benchOf_46 ?_
      rw [hpo]
      first
        | exact ⟨_, 0, rfl, hM.2, ⟨_, _, hM.1, updI_eq, hS.to (fun k hk => updI_ne (by omega)) (fun j hj => rfl)⟩, Or.inl ⟨by omega, by omega, rfl, hyt⟩⟩
        | exact ⟨_, 1, rfl, hM.2, ⟨_, _, hM.1, updI_eq, hS.to (fun k hk => updI_ne (by omega)) (fun j hj => rfl)⟩, Or.inr (Or.inl ⟨by omega, rfl⟩)⟩
        | exact ⟨_, 2, rfl, hM.2, ⟨_, _, hM.1, updI_eq, hS.to (fun k hk => updI_ne (by omega)) (fun j hj => rfl)⟩, Or.inr (Or.inr ⟨by omega, by omega, rfl⟩)⟩
    · skip
      refine xr_iconst dX4_benchOf_22 ?_
      refine xr_goto (tgt := 27) dX4_benchOf_23 (by decide) ?_
      refine xr_putfield (ci := 14) (T := TX4) (N := 23) (i := 0) (fs' := [_, _, _, _, _, _, _, _, _, _, _, _, _, _, _, _, _, _, _, _, _, _, _]) hM.1.1 rfl (by decide) in_X4 tyX4 tyX4_ok nmX4 q2191 (.inl rfl) rfl dX4_benchOf_27 (by rfl) (by rfl) (by simp) (by rfl) (.inl rfl) (fun _ => ?_)
      refine xr_mput (i := 0) hM (by rfl) (fun w27 hM => ?_)
      refine xr_aload_n dX4_benchOf_30 rfl (by first | rfl | exact isRef_rf _) ?_
      refine xr_getfield (ci := 14) (T := TX4) (N := 23) (i := 0) hM.1.1 rfl (by decide) in_X4 q2191 (.inl rfl) dX4_benchOf_31 (by rfl) ?_
      rw [updI_eq]
      refine xr_if_le (tgt := 41) dX4_benchOf_34 (by decide) (by decide) (fun c34 => absurd c34 (by decide)) (fun c34 => ?_)
      refine xr_iconst dX4_benchOf_37 ?_
      refine xr_goto (tgt := 46) dX4_benchOf_38 (by decide) ?_
      refine xr_ireturn rfl rfl dX4_benchOf_46 ?_
      rw [hpo]
      first
        | exact ⟨_, 0, rfl, hM.2, ⟨_, _, hM.1, updI_eq, hS.to (fun k hk => updI_ne (by omega)) (fun j hj => rfl)⟩, Or.inl ⟨by omega, by omega, rfl, hyt⟩⟩
        | exact ⟨_, 1, rfl, hM.2, ⟨_, _, hM.1, updI_eq, hS.to (fun k hk => updI_ne (by omega)) (fun j hj => rfl)⟩, Or.inr (Or.inl ⟨by omega, rfl⟩)⟩
        | exact ⟨_, 2, rfl, hM.2, ⟨_, _, hM.1, updI_eq, hS.to (fun k hk => updI_ne (by omega)) (fun j hj => rfl)⟩, Or.inr (Or.inr ⟨by omega, by omega, rfl⟩)⟩
  · skip
    try simp only [decide_eq_true_eq, decide_eq_false_iff_not] at c6
    refine xr_iconst dX4_benchOf_9 ?_
    refine xr_goto (tgt := 27) dX4_benchOf_10 (by decide) ?_
    refine xr_putfield (ci := 14) (T := TX4) (N := 23) (i := 0) (fs' := [_, _, _, _, _, _, _, _, _, _, _, _, _, _, _, _, _, _, _, _, _, _, _]) hM.1.1 rfl (by decide) in_X4 tyX4 tyX4_ok nmX4 q2191 (.inl rfl) rfl dX4_benchOf_27 (by rfl) (by rfl) (by simp) (by rfl) (.inl rfl) (fun _ => ?_)
    refine xr_mput (i := 0) hM (by rfl) (fun w27 hM => ?_)
    refine xr_aload_n dX4_benchOf_30 rfl (by first | rfl | exact isRef_rf _) ?_
    refine xr_getfield (ci := 14) (T := TX4) (N := 23) (i := 0) hM.1.1 rfl (by decide) in_X4 q2191 (.inl rfl) dX4_benchOf_31 (by rfl) ?_
    rw [updI_eq]
    refine xr_if_le (tgt := 41) dX4_benchOf_34 (by decide) (by decide) (fun c34 => absurd c34 (by decide)) (fun c34 => ?_)
    refine xr_iconst dX4_benchOf_37 ?_
    refine xr_goto (tgt := 46) dX4_benchOf_38 (by decide) ?_
    refine xr_ireturn rfl rfl dX4_benchOf_46 ?_
    rw [hpo]
    first
      | exact ⟨_, 0, rfl, hM.2, ⟨_, _, hM.1, updI_eq, hS.to (fun k hk => updI_ne (by omega)) (fun j hj => rfl)⟩, Or.inl ⟨by omega, by omega, rfl, hyt⟩⟩
      | exact ⟨_, 1, rfl, hM.2, ⟨_, _, hM.1, updI_eq, hS.to (fun k hk => updI_ne (by omega)) (fun j hj => rfl)⟩, Or.inr (Or.inl ⟨by omega, rfl⟩)⟩
      | exact ⟨_, 2, rfl, hM.2, ⟨_, _, hM.1, updI_eq, hS.to (fun k hk => updI_ne (by omega)) (fun j hj => rfl)⟩, Or.inr (Or.inr ⟨by omega, by omega, rfl⟩)⟩
def lth (P : Int → Int) (b : Int) : Int := if ¬ (0 ≤ b ∧ b < P 0) then 1 else if P (13 + 6 * b) = 0 then 2 else 0
theorem k_M_isLeased {g : GG} {w : WW} {m : Nat} {A : Int → Nat} {F P : Int → Int} {C : Int → Int → Int} {b N : Int} (hG : Base g) (hM : MD g w m A F P C) (hB : PB P N) (hr : (-2147483648 ≤ b ∧ b < 2147483648)) : Ct g yX4_isLeased (.code yX4_isLeased cX4_isLeased 2 (some .boolean)) 2 43 0 0 w [.ref m, .int (iI b)] (fun r_ w1 => r_ = some (.int (bI (decide (lth P b = 0)))) ∧ MDF g w w1 m A (updI F 0 (lth P b)) P C) xF := by
  refine Ct.of (lv := [some _, some _]) hG (by decide +kernel) (Nat.le_of_ble_eq_true rfl) rfl ?_
  intro z hg hpo hxp hnm htab
  subst hg
  have hM : MDF (zg z) w w m A F P C := ⟨hM, Fr.rf⟩
  have hgg := hB.g
  refine xr_aload_n dX4_isLeased_0 rfl (by first | rfl | exact isRef_rf _) ?_
  refine xr_aload_n dX4_isLeased_1 rfl (by first | rfl | exact isRef_rf _) ?_
  refine xr_iload_n dX4_isLeased_2 rfl ?_
  refine xr_callV (n9 := 1) (rc' := 0) (rs' := 0) (k_M_isBench hG hM.1 hB (by omega)) hM.1.1 rfl q2323 q2325 qs48 q96 q2326 (by decide +kernel) rfl ⟨by decide, Nat.le_of_ble_eq_true rfl⟩ ⟨Nat.le_of_ble_eq_true rfl, Nat.le_of_ble_eq_true rfl⟩ (Nat.le_of_ble_eq_true rfl) dX4_isLeased_3 rfl (xk_r ?_) (fun _ _ _ h => h.elim)
  refine xr_ifb_ne (tgt := 13) dX4_isLeased_6 (by decide) (fun c6 => ?_) (fun c6 => ?_)
  · skip
    try simp only [decide_eq_true_eq, decide_eq_false_iff_not] at c6
    have hbb := hB.b (b := b) (by omega)
    refine xr_aload_n dX4_isLeased_13 rfl (by first | rfl | exact isRef_rf _) ?_
    refine xr_iload_n dX4_isLeased_14 rfl ?_
    refine xr_callV (n9 := 1) (rc' := 0) (rs' := 0) (k_M_by hG hM.1 (by omega)) hM.1.1 rfl q2487 q2489 qs65 q96 q2490 (by decide +kernel) rfl ⟨by decide, Nat.le_of_ble_eq_true rfl⟩ ⟨Nat.le_of_ble_eq_true rfl, Nat.le_of_ble_eq_true rfl⟩ (Nat.le_of_ble_eq_true rfl) dX4_isLeased_15 rfl (xk_r ?_) (fun _ _ _ h => h.elim)
    refine xr_iconst dX4_isLeased_18 ?_
    refine xr_icmp_ne (tgt := 26) dX4_isLeased_19 (by decide) (by omega) (fun c19 => ?_) (fun c19 => ?_)
    · skip
      refine xr_iconst dX4_isLeased_26 ?_
      refine xr_putfield (ci := 14) (T := TX4) (N := 23) (i := 0) (fs' := [_, _, _, _, _, _, _, _, _, _, _, _, _, _, _, _, _, _, _, _, _, _, _]) hM.1.1 rfl (by decide) in_X4 tyX4 tyX4_ok nmX4 q2191 (.inl rfl) rfl dX4_isLeased_27 (by rfl) (by rfl) (by simp) (by rfl) (.inl rfl) (fun _ => ?_)
      refine xr_mput (i := 0) hM (by rfl) (fun w27 hM => ?_)
      refine xr_aload_n dX4_isLeased_30 rfl (by first | rfl | exact isRef_rf _) ?_
      refine xr_getfield (ci := 14) (T := TX4) (N := 23) (i := 0) hM.1.1 rfl (by decide) in_X4 q2191 (.inl rfl) dX4_isLeased_31 (by rfl) ?_
      rw [updI_eq]
      refine xr_if_ne (tgt := 41) dX4_isLeased_34 (by decide) (by decide) (fun c34 => absurd c34 (by decide)) (fun c34 => ?_)
      refine xr_iconst dX4_isLeased_37 ?_
      refine xr_goto (tgt := 42) dX4_isLeased_38 (by decide) ?_
      refine xr_ireturn rfl (by first | rfl | exact nar_bI _ | decide +kernel) dX4_isLeased_42 ?_
      rw [hpo]
      first
        | (have e9 : lth P b = 1 := by unfold lth; rw [if_pos (by omega)]
           rw [e9]; exact ⟨rfl, hM⟩)
        | (have e9 : lth P b = 2 := by unfold lth; rw [if_neg (by omega), if_pos (by omega)]
           rw [e9]; exact ⟨rfl, hM⟩)
        | (have e9 : lth P b = 0 := by unfold lth; rw [if_neg (by omega), if_neg (by omega)]
           rw [e9]; exact ⟨rfl, hM⟩)
    · skip
      refine xr_iconst dX4_isLeased_22 ?_
      refine xr_goto (tgt := 27) dX4_isLeased_23 (by decide) ?_
      refine xr_putfield (ci := 14) (T := TX4) (N := 23) (i := 0) (fs' := [_, _, _, _, _, _, _, _, _, _, _, _, _, _, _, _, _, _, _, _, _, _, _]) hM.1.1 rfl (by decide) in_X4 tyX4 tyX4_ok nmX4 q2191 (.inl rfl) rfl dX4_isLeased_27 (by rfl) (by rfl) (by simp) (by rfl) (.inl rfl) (fun _ => ?_)
      refine xr_mput (i := 0) hM (by rfl) (fun w27 hM => ?_)
      refine xr_aload_n dX4_isLeased_30 rfl (by first | rfl | exact isRef_rf _) ?_
      refine xr_getfield (ci := 14) (T := TX4) (N := 23) (i := 0) hM.1.1 rfl (by decide) in_X4 q2191 (.inl rfl) dX4_isLeased_31 (by rfl) ?_
      rw [updI_eq]
      refine xr_if_ne (tgt := 41) dX4_isLeased_34 (by decide) (by decide) (fun c34 => ?_) (fun c34 => absurd c34 (by decide))
      refine xr_iconst dX4_isLeased_41 ?_
      refine xr_ireturn rfl (by first | rfl | exact nar_bI _ | decide +kernel) dX4_isLeased_42 ?_
      rw [hpo]
      first
        | (have e9 : lth P b = 1 := by unfold lth; rw [if_pos (by omega)]
           rw [e9]; exact ⟨rfl, hM⟩)
        | (have e9 : lth P b = 2 := by unfold lth; rw [if_neg (by omega), if_pos (by omega)]
           rw [e9]; exact ⟨rfl, hM⟩)
        | (have e9 : lth P b = 0 := by unfold lth; rw [if_neg (by omega), if_neg (by omega)]
           rw [e9]; exact ⟨rfl, hM⟩)
  · skip
    try simp only [decide_eq_true_eq, decide_eq_false_iff_not] at c6
    refine xr_iconst dX4_isLeased_9 ?_
    refine xr_goto (tgt := 27) dX4_isLeased_10 (by decide) ?_
    refine xr_putfield (ci := 14) (T := TX4) (N := 23) (i := 0) (fs' := [_, _, _, _, _, _, _, _, _, _, _, _, _, _, _, _, _, _, _, _, _, _, _]) hM.1.1 rfl (by decide) in_X4 tyX4 tyX4_ok nmX4 q2191 (.inl rfl) rfl dX4_isLeased_27 (by rfl) (by rfl) (by simp) (by rfl) (.inl rfl) (fun _ => ?_)
    refine xr_mput (i := 0) hM (by rfl) (fun w27 hM => ?_)
    refine xr_aload_n dX4_isLeased_30 rfl (by first | rfl | exact isRef_rf _) ?_
    refine xr_getfield (ci := 14) (T := TX4) (N := 23) (i := 0) hM.1.1 rfl (by decide) in_X4 q2191 (.inl rfl) dX4_isLeased_31 (by rfl) ?_
    rw [updI_eq]
    refine xr_if_ne (tgt := 41) dX4_isLeased_34 (by decide) (by decide) (fun c34 => ?_) (fun c34 => absurd c34 (by decide))
    refine xr_iconst dX4_isLeased_41 ?_
    refine xr_ireturn rfl (by first | rfl | exact nar_bI _ | decide +kernel) dX4_isLeased_42 ?_
    rw [hpo]
    first
      | (have e9 : lth P b = 1 := by unfold lth; rw [if_pos (by omega)]
         rw [e9]; exact ⟨rfl, hM⟩)
      | (have e9 : lth P b = 2 := by unfold lth; rw [if_neg (by omega), if_pos (by omega)]
         rw [e9]; exact ⟨rfl, hM⟩)
      | (have e9 : lth P b = 0 := by unfold lth; rw [if_neg (by omega), if_neg (by omega)]
         rw [e9]; exact ⟨rfl, hM⟩)
theorem k_N_tenantOf {g : GG} {w : WW} {m : Nat} {A : Int → Nat} {th : Int} {P : Int → Int} {S : Option (Int → Int)} {H : List (Int → Int)} {I O : Tx} {se : Option Int} {rj : Option (Int × Int × Int)} {b N : Int} (hG : Base g) (hX : MR g w m A th P S H I O se rj) (hB : PB P N) (hr : (-2147483648 ≤ b ∧ b < 2147483648)) : Ct g yX4_tenantOf (.code yX4_tenantOf cX4_tenantOf 2 (some .int)) 3 64 0 0 w [.ref m, .int (iI b)] (fun r_ w1 => ∃ y th : Int, r_ = some (.int (iI y)) ∧ Fr (MS m A) w w1 ∧ MR g w1 m A th P S H I O se rj ∧ (((0 ≤ b ∧ b < P 0) ∧ (P (13 + 6 * b) ≠ 0) ∧ th = 0 ∧ y = P (13 + 6 * b) - 1) ∨ (¬ (0 ≤ b ∧ b < P 0) ∧ th = 1) ∨ ((0 ≤ b ∧ b < P 0) ∧ (P (13 + 6 * b) = 0) ∧ th = 2))) xF := by
  refine Ct.of (lv := [some _, some _]) hG (by decide +kernel) (Nat.le_of_ble_eq_true rfl) rfl ?_
  intro z hg hpo hxp hnm htab
  subst hg
  obtain ⟨F, C, hM, -, hS⟩ := hX
  have hM : MDF (zg z) w w m A F P C := ⟨hM, Fr.rf⟩
  have h68 : 0 ≤ F 6 ∧ F 6 ≤ 8 := by have := hS.1.1; have := hS.1.2.1; omega
  have hgg := hB.g
  have hl9 : (lth P b = 0 ∧ (0 ≤ b ∧ b < P 0) ∧ P (13 + 6 * b) ≠ 0) ∨ (lth P b = 1 ∧ ¬ (0 ≤ b ∧ b < P 0)) ∨ (lth P b = 2 ∧ (0 ≤ b ∧ b < P 0) ∧ P (13 + 6 * b) = 0) := by
    unfold lth
    split
    · omega
    · split <;> omega
  refine xr_aload_n dX4_tenantOf_0 rfl (by first | rfl | exact isRef_rf _) ?_
  refine xr_iload_n dX4_tenantOf_1 rfl ?_
  refine xr_callV (n9 := 1) (rc' := 0) (rs' := 0) (k_M_isLeased hG hM.1 hB (by omega)) hM.1.1 rfl q2539 q2541 qs71 q96 q2542 (by decide +kernel) rfl ⟨by decide, Nat.le_of_ble_eq_true rfl⟩ ⟨Nat.le_of_ble_eq_true rfl, Nat.le_of_ble_eq_true rfl⟩ (Nat.le_of_ble_eq_true rfl) dX4_tenantOf_2 rfl (fun r w2 hw => ?_) (fun _ _ _ h => h.elim)
  obtain ⟨rfl, hw⟩ := hw
  have hM := hM.tr hw
  refine xr_ifb_eq (tgt := 16) dX4_tenantOf_5 (by decide) (fun c5 => ?_) (fun c5 => ?_)
  · skip
    try simp only [decide_eq_true_eq, decide_eq_false_iff_not] at c5
    have hl0 : lth P b ≠ 0 := by omega
    refine xr_iconst dX4_tenantOf_16 ?_
    refine xr_ireturn rfl rfl dX4_tenantOf_17 ?_
    rw [hpo]
    first
      | exact ⟨_, 0, rfl, hM.2, ⟨_, _, hM.1, by first | exact updI_eq | (rw [updI_eq]; omega), hS.to (fun k hk => updI_ne (by omega)) (fun j hj => rfl)⟩, Or.inl ⟨by omega, by omega, rfl, rfl⟩⟩
      | (rcases hl9 with h9 | h9 | h9
         · omega
         · exact ⟨_, 1, rfl, hM.2, ⟨_, _, hM.1, updI_eq.trans h9.1, hS.to (fun k hk => updI_ne (by omega)) (fun j hj => rfl)⟩, Or.inr (Or.inl ⟨h9.2, rfl⟩)⟩
         · exact ⟨_, 2, rfl, hM.2, ⟨_, _, hM.1, updI_eq.trans h9.1, hS.to (fun k hk => updI_ne (by omega)) (fun j hj => rfl)⟩, Or.inr (Or.inr ⟨h9.2.1, by omega, rfl⟩)⟩)
  · skip
    try simp only [decide_eq_true_eq, decide_eq_false_iff_not] at c5
    have hl0 : lth P b = 0 := by omega
    refine xr_aload_n dX4_tenantOf_8 rfl (by first | rfl | exact isRef_rf _) ?_
    refine xr_iload_n dX4_tenantOf_9 rfl ?_
    refine xr_callV (n9 := 1) (rc' := 0) (rs' := 0) (k_M_by hG hM.1 (by omega)) hM.1.1 rfl q2487 q2489 qs65 q96 q2490 (by decide +kernel) rfl ⟨by decide, Nat.le_of_ble_eq_true rfl⟩ ⟨Nat.le_of_ble_eq_true rfl, Nat.le_of_ble_eq_true rfl⟩ (Nat.le_of_ble_eq_true rfl) dX4_tenantOf_10 rfl (xk_r ?_) (fun _ _ _ h => h.elim)
    refine xr_goto (tgt := 17) dX4_tenantOf_13 (by decide) ?_
    refine xr_ireturn rfl rfl dX4_tenantOf_17 ?_
    rw [hpo]
    first
      | exact ⟨_, 0, rfl, hM.2, ⟨_, _, hM.1, by first | exact updI_eq | (rw [updI_eq]; omega), hS.to (fun k hk => updI_ne (by omega)) (fun j hj => rfl)⟩, Or.inl ⟨by omega, by omega, rfl, rfl⟩⟩
      | (rcases hl9 with h9 | h9 | h9
         · omega
         · exact ⟨_, 1, rfl, hM.2, ⟨_, _, hM.1, updI_eq.trans h9.1, hS.to (fun k hk => updI_ne (by omega)) (fun j hj => rfl)⟩, Or.inr (Or.inl ⟨h9.2, rfl⟩)⟩
         · exact ⟨_, 2, rfl, hM.2, ⟨_, _, hM.1, updI_eq.trans h9.1, hS.to (fun k hk => updI_ne (by omega)) (fun j hj => rfl)⟩, Or.inr (Or.inr ⟨h9.2.1, by omega, rfl⟩)⟩)
theorem k_N_depositOf {g : GG} {w : WW} {m : Nat} {A : Int → Nat} {th : Int} {P : Int → Int} {S : Option (Int → Int)} {H : List (Int → Int)} {I O : Tx} {se : Option Int} {rj : Option (Int × Int × Int)} {b N : Int} (hG : Base g) (hX : MR g w m A th P S H I O se rj) (hB : PB P N) (hr : (-2147483648 ≤ b ∧ b < 2147483648)) : Ct g yX4_depositOf (.code yX4_depositOf cX4_depositOf 2 (some .int)) 3 64 0 0 w [.ref m, .int (iI b)] (fun r_ w1 => ∃ y th : Int, r_ = some (.int (iI y)) ∧ Fr (MS m A) w w1 ∧ MR g w1 m A th P S H I O se rj ∧ (((0 ≤ b ∧ b < P 0) ∧ (P (13 + 6 * b) ≠ 0) ∧ th = 0 ∧ y = P (14 + 6 * b)) ∨ (¬ (0 ≤ b ∧ b < P 0) ∧ th = 1) ∨ ((0 ≤ b ∧ b < P 0) ∧ (P (13 + 6 * b) = 0) ∧ th = 2))) xF := by
  refine Ct.of (lv := [some _, some _]) hG (by decide +kernel) (Nat.le_of_ble_eq_true rfl) rfl ?_
  intro z hg hpo hxp hnm htab
  subst hg
  obtain ⟨F, C, hM, -, hS⟩ := hX
  have hM : MDF (zg z) w w m A F P C := ⟨hM, Fr.rf⟩
  have h68 : 0 ≤ F 6 ∧ F 6 ≤ 8 := by have := hS.1.1; have := hS.1.2.1; omega
  have hgg := hB.g
  have hl9 : (lth P b = 0 ∧ (0 ≤ b ∧ b < P 0) ∧ P (13 + 6 * b) ≠ 0) ∨ (lth P b = 1 ∧ ¬ (0 ≤ b ∧ b < P 0)) ∨ (lth P b = 2 ∧ (0 ≤ b ∧ b < P 0) ∧ P (13 + 6 * b) = 0) := by
    unfold lth
    split
    · omega
    · split <;> omega
  refine xr_aload_n dX4_depositOf_0 rfl (by first | rfl | exact isRef_rf _) ?_
  refine xr_iload_n dX4_depositOf_1 rfl ?_
  refine xr_callV (n9 := 1) (rc' := 0) (rs' := 0) (k_M_isLeased hG hM.1 hB (by omega)) hM.1.1 rfl q2539 q2541 qs71 q96 q2542 (by decide +kernel) rfl ⟨by decide, Nat.le_of_ble_eq_true rfl⟩ ⟨Nat.le_of_ble_eq_true rfl, Nat.le_of_ble_eq_true rfl⟩ (Nat.le_of_ble_eq_true rfl) dX4_depositOf_2 rfl (fun r w2 hw => ?_) (fun _ _ _ h => h.elim)
  obtain ⟨rfl, hw⟩ := hw
  have hM := hM.tr hw
  refine xr_ifb_eq (tgt := 17) dX4_depositOf_5 (by decide) (fun c5 => ?_) (fun c5 => ?_)
  · skip
    try simp only [decide_eq_true_eq, decide_eq_false_iff_not] at c5
    have hl0 : lth P b ≠ 0 := by omega
    refine xr_iconst dX4_depositOf_17 ?_
    refine xr_ireturn rfl rfl dX4_depositOf_18 ?_
    rw [hpo]
    first
      | exact ⟨_, 0, rfl, hM.2, ⟨_, _, hM.1, by first | exact updI_eq | (rw [updI_eq]; omega), hS.to (fun k hk => updI_ne (by omega)) (fun j hj => rfl)⟩, Or.inl ⟨by omega, by omega, rfl, rfl⟩⟩
      | (rcases hl9 with h9 | h9 | h9
         · omega
         · exact ⟨_, 1, rfl, hM.2, ⟨_, _, hM.1, updI_eq.trans h9.1, hS.to (fun k hk => updI_ne (by omega)) (fun j hj => rfl)⟩, Or.inr (Or.inl ⟨h9.2, rfl⟩)⟩
         · exact ⟨_, 2, rfl, hM.2, ⟨_, _, hM.1, updI_eq.trans h9.1, hS.to (fun k hk => updI_ne (by omega)) (fun j hj => rfl)⟩, Or.inr (Or.inr ⟨h9.2.1, by omega, rfl⟩)⟩)
  · skip
    try simp only [decide_eq_true_eq, decide_eq_false_iff_not] at c5
    have hl0 : lth P b = 0 := by omega
    refine xr_aload_n dX4_depositOf_8 rfl (by first | rfl | exact isRef_rf _) ?_
    refine xr_iload_n dX4_depositOf_9 rfl ?_
    refine xr_iconst dX4_depositOf_10 ?_
    refine xr_callV (n9 := 2) (rc' := 0) (rs' := 0) (k_M_bench_4 hG hM.1 (by omega)) hM.1.1 rfl q2291 q2293 qs41 q96 q2294 (by decide +kernel) rfl ⟨by decide, Nat.le_of_ble_eq_true rfl⟩ ⟨Nat.le_of_ble_eq_true rfl, Nat.le_of_ble_eq_true rfl⟩ (Nat.le_of_ble_eq_true rfl) dX4_depositOf_11 rfl (xk_r ?_) (fun _ _ _ h => h.elim)
    refine xr_goto (tgt := 18) dX4_depositOf_14 (by decide) ?_
    refine xr_ireturn rfl rfl dX4_depositOf_18 ?_
    rw [hpo]
    first
      | exact ⟨_, 0, rfl, hM.2, ⟨_, _, hM.1, by first | exact updI_eq | (rw [updI_eq]; omega), hS.to (fun k hk => updI_ne (by omega)) (fun j hj => rfl)⟩, Or.inl ⟨by omega, by omega, rfl, rfl⟩⟩
      | (rcases hl9 with h9 | h9 | h9
         · omega
         · exact ⟨_, 1, rfl, hM.2, ⟨_, _, hM.1, updI_eq.trans h9.1, hS.to (fun k hk => updI_ne (by omega)) (fun j hj => rfl)⟩, Or.inr (Or.inl ⟨h9.2, rfl⟩)⟩
         · exact ⟨_, 2, rfl, hM.2, ⟨_, _, hM.1, updI_eq.trans h9.1, hS.to (fun k hk => updI_ne (by omega)) (fun j hj => rfl)⟩, Or.inr (Or.inr ⟨h9.2.1, by omega, rfl⟩)⟩)
theorem k_N_monthsLeft {g : GG} {w : WW} {m : Nat} {A : Int → Nat} {th : Int} {P : Int → Int} {S : Option (Int → Int)} {H : List (Int → Int)} {I O : Tx} {se : Option Int} {rj : Option (Int × Int × Int)} {b N : Int} (hG : Base g) (hX : MR g w m A th P S H I O se rj) (hB : PB P N) (hr : (-2147483648 ≤ b ∧ b < 2147483648)) : Ct g yX4_monthsLeft (.code yX4_monthsLeft cX4_monthsLeft 2 (some .int)) 3 64 0 0 w [.ref m, .int (iI b)] (fun r_ w1 => ∃ y th : Int, r_ = some (.int (iI y)) ∧ Fr (MS m A) w w1 ∧ MR g w1 m A th P S H I O se rj ∧ (((0 ≤ b ∧ b < P 0) ∧ (P (13 + 6 * b) ≠ 0) ∧ th = 0 ∧ y = P (15 + 6 * b)) ∨ (¬ (0 ≤ b ∧ b < P 0) ∧ th = 1) ∨ ((0 ≤ b ∧ b < P 0) ∧ (P (13 + 6 * b) = 0) ∧ th = 2))) xF := by
  refine Ct.of (lv := [some _, some _]) hG (by decide +kernel) (Nat.le_of_ble_eq_true rfl) rfl ?_
  intro z hg hpo hxp hnm htab
  subst hg
  obtain ⟨F, C, hM, -, hS⟩ := hX
  have hM : MDF (zg z) w w m A F P C := ⟨hM, Fr.rf⟩
  have h68 : 0 ≤ F 6 ∧ F 6 ≤ 8 := by have := hS.1.1; have := hS.1.2.1; omega
  have hgg := hB.g
  have hl9 : (lth P b = 0 ∧ (0 ≤ b ∧ b < P 0) ∧ P (13 + 6 * b) ≠ 0) ∨ (lth P b = 1 ∧ ¬ (0 ≤ b ∧ b < P 0)) ∨ (lth P b = 2 ∧ (0 ≤ b ∧ b < P 0) ∧ P (13 + 6 * b) = 0) := by
    unfold lth
    split
    · omega
    · split <;> omega
  refine xr_aload_n dX4_monthsLeft_0 rfl (by first | rfl | exact isRef_rf _) ?_
  refine xr_iload_n dX4_monthsLeft_1 rfl ?_
  refine xr_callV (n9 := 1) (rc' := 0) (rs' := 0) (k_M_isLeased hG hM.1 hB (by omega)) hM.1.1 rfl q2539 q2541 qs71 q96 q2542 (by decide +kernel) rfl ⟨by decide, Nat.le_of_ble_eq_true rfl⟩ ⟨Nat.le_of_ble_eq_true rfl, Nat.le_of_ble_eq_true rfl⟩ (Nat.le_of_ble_eq_true rfl) dX4_monthsLeft_2 rfl (fun r w2 hw => ?_) (fun _ _ _ h => h.elim)
  obtain ⟨rfl, hw⟩ := hw
  have hM := hM.tr hw
  refine xr_ifb_eq (tgt := 17) dX4_monthsLeft_5 (by decide) (fun c5 => ?_) (fun c5 => ?_)
  · skip
    try simp only [decide_eq_true_eq, decide_eq_false_iff_not] at c5
    have hl0 : lth P b ≠ 0 := by omega
    refine xr_iconst dX4_monthsLeft_17 ?_
    refine xr_ireturn rfl rfl dX4_monthsLeft_18 ?_
    rw [hpo]
    first
      | exact ⟨_, 0, rfl, hM.2, ⟨_, _, hM.1, by first | exact updI_eq | (rw [updI_eq]; omega), hS.to (fun k hk => updI_ne (by omega)) (fun j hj => rfl)⟩, Or.inl ⟨by omega, by omega, rfl, rfl⟩⟩
      | (rcases hl9 with h9 | h9 | h9
         · omega
         · exact ⟨_, 1, rfl, hM.2, ⟨_, _, hM.1, updI_eq.trans h9.1, hS.to (fun k hk => updI_ne (by omega)) (fun j hj => rfl)⟩, Or.inr (Or.inl ⟨h9.2, rfl⟩)⟩
         · exact ⟨_, 2, rfl, hM.2, ⟨_, _, hM.1, updI_eq.trans h9.1, hS.to (fun k hk => updI_ne (by omega)) (fun j hj => rfl)⟩, Or.inr (Or.inr ⟨h9.2.1, by omega, rfl⟩)⟩)
  · skip
    try simp only [decide_eq_true_eq, decide_eq_false_iff_not] at c5
    have hl0 : lth P b = 0 := by omega
    refine xr_aload_n dX4_monthsLeft_8 rfl (by first | rfl | exact isRef_rf _) ?_
    refine xr_iload_n dX4_monthsLeft_9 rfl ?_
    refine xr_iconst dX4_monthsLeft_10 ?_
    refine xr_callV (n9 := 2) (rc' := 0) (rs' := 0) (k_M_bench_5 hG hM.1 (by omega)) hM.1.1 rfl q2291 q2293 qs41 q96 q2294 (by decide +kernel) rfl ⟨by decide, Nat.le_of_ble_eq_true rfl⟩ ⟨Nat.le_of_ble_eq_true rfl, Nat.le_of_ble_eq_true rfl⟩ (Nat.le_of_ble_eq_true rfl) dX4_monthsLeft_11 rfl (xk_r ?_) (fun _ _ _ h => h.elim)
    refine xr_goto (tgt := 18) dX4_monthsLeft_14 (by decide) ?_
    refine xr_ireturn rfl rfl dX4_monthsLeft_18 ?_
    rw [hpo]
    first
      | exact ⟨_, 0, rfl, hM.2, ⟨_, _, hM.1, by first | exact updI_eq | (rw [updI_eq]; omega), hS.to (fun k hk => updI_ne (by omega)) (fun j hj => rfl)⟩, Or.inl ⟨by omega, by omega, rfl, rfl⟩⟩
      | (rcases hl9 with h9 | h9 | h9
         · omega
         · exact ⟨_, 1, rfl, hM.2, ⟨_, _, hM.1, updI_eq.trans h9.1, hS.to (fun k hk => updI_ne (by omega)) (fun j hj => rfl)⟩, Or.inr (Or.inl ⟨h9.2, rfl⟩)⟩
         · exact ⟨_, 2, rfl, hM.2, ⟨_, _, hM.1, updI_eq.trans h9.1, hS.to (fun k hk => updI_ne (by omega)) (fun j hj => rfl)⟩, Or.inr (Or.inr ⟨h9.2.1, by omega, rfl⟩)⟩)
def depS (P : Int → Int) : Int := sumR (fun b => P (14 + 6 * b)) 0 (P 0)
theorem k_M_deposits {g : GG} {w : WW} {m : Nat} {A : Int → Nat} {F P : Int → Int} {C : Int → Int → Int} {N : Int} (hG : Base g) (hM : MD g w m A F P C) (hB : PB P N) : Ct g yX4_deposits (.code yX4_deposits cX4_deposits 3 (some .int)) 1 22 0 0 w [.ref m] (fun r_ w1 => r_ = some (.int (iI (depS P))) ∧ w1 = w) xF := by
  refine Ct.of (lv := [some _, none, none]) hG (by decide +kernel) (Nat.le_of_ble_eq_true rfl) rfl ?_
  intro z hg hpo hxp hnm htab
  subst hg
  have hM : MDF (zg z) w w m A F P C := ⟨hM, Fr.rf⟩
  have hgg := hB.g
  refine xr_iconst dX4_deposits_0 ?_
  refine xr_istore_n (lv' := [some _, some _, none]) dX4_deposits_1 (by decide) rfl rfl ?_
  refine xr_iconst dX4_deposits_2 ?_
  refine xr_istore_n (lv' := [some _, some _, some _]) dX4_deposits_3 (by decide) rfl rfl ?_
  have lp4 : ∀ (fu4 : Nat) (s9 k : Int), 0 ≤ k → k ≤ P 0 → P 0 - k < fu4 → s9 + sumR (fun b => P (14 + 6 * b)) k (P 0) = depS P → XJ z yX4_deposits.cls cX4_deposits 3 (some .int) 1 22 w (0 * fu4 + 0) (0 * fu4 + 0) 4 [some (.ref m), some (.int (iI s9)), some (.int (iI k))] [] := by
    intro fu4
    induction fu4 with
    | zero =>
      intro s9 k hk0 hk1 hfu hr9
      omega
    | succ fu4 ih4 =>
      intro s9 k hk0 hk1 hfu hr9
      refine xr_iload_n dX4_deposits_4 rfl ?_
      refine xr_aload_n dX4_deposits_5 rfl (by first | rfl | exact isRef_rf _) ?_
      refine xr_getfield (ci := 14) (T := TX4) (N := 23) (i := 1) hM.1.1 rfl (by decide) in_X4 q2192 (.inl rfl) dX4_deposits_6 (by rfl) ?_
      refine xr_iconst dX4_deposits_9 ?_
      refine xr_iaload hM.1.2.1 (by omega) (by decide) dX4_deposits_10 ?_
      refine xr_icmp_ge (tgt := 29) dX4_deposits_11 (by decide) (by omega) (fun c11 => ?_) (fun c11 => ?_)
      · skip
        refine xr_iload_n dX4_deposits_29 rfl ?_
        refine xr_ireturn rfl rfl dX4_deposits_30 ?_
        rw [hpo]
        rw [sumR_ge (by omega), Int.add_zero] at hr9
        exact ⟨by rw [hr9], rfl⟩
      · skip
        rw [sumR_lt (show k < P 0 by omega)] at hr9
        refine xr_iload_n dX4_deposits_14 rfl ?_
        refine xr_aload_n dX4_deposits_15 rfl (by first | rfl | exact isRef_rf _) ?_
        refine xr_iload_n dX4_deposits_16 rfl ?_
        refine xr_iconst dX4_deposits_17 ?_
        refine xr_callV (n9 := 2) (rc' := 0 * fu4 + 0) (rs' := 0 * fu4 + 0) (k_M_bench_4 hG hM.1 (by omega)) hM.1.1 rfl q2291 q2293 qs41 q96 q2294 (by decide +kernel) rfl ⟨by decide, Nat.le_of_ble_eq_true rfl⟩ ⟨by omega, by omega⟩ (Nat.le_of_ble_eq_true rfl) dX4_deposits_18 rfl (xk_r ?_) (fun _ _ _ h => h.elim)
        refine xr_iadd dX4_deposits_21 ?_
        refine xr_istore_n (lv' := [some _, some _, some _]) dX4_deposits_22 (by decide) rfl rfl ?_
        refine xr_iinc (lv' := [some _, some _, some _]) dX4_deposits_23 rfl (by decide) rfl rfl ?_
        refine xr_goto (tgt := 4) dX4_deposits_26 (by decide) ?_
        refine xr_wk (rc' := 0 * fu4 + 0) (rs' := 0 * fu4 + 0) ⟨by omega, by omega⟩ (ih4 _ (k + 1) (by omega) (by omega) (by omega) (by rw [← hr9, Int.add_assoc]))
  refine xr_wk (rc' := 0 * 11 + 0) (rs' := 0 * 11 + 0) ⟨by omega, by omega⟩ (lp4 11 0 0 (by omega) (by omega) (by omega) (by rw [Int.zero_add]; rfl))
theorem k_N_depositTotal {g : GG} {w : WW} {m : Nat} {A : Int → Nat} {th : Int} {P : Int → Int} {S : Option (Int → Int)} {H : List (Int → Int)} {I O : Tx} {se : Option Int} {rj : Option (Int × Int × Int)} {N : Int} (hG : Base g) (hX : MR g w m A th P S H I O se rj) (hB : PB P N) : Ct g yX4_depositTotal (.code yX4_depositTotal cX4_depositTotal 1 (some .int)) 2 44 0 0 w [.ref m] (fun r_ w1 => ∃ y th : Int, r_ = some (.int (iI y)) ∧ Fr (MS m A) w w1 ∧ MR g w1 m A th P S H I O se rj ∧ (th = 0 ∧ y = depS P)) xF := by
  refine Ct.of (lv := [some _]) hG (by decide +kernel) (Nat.le_of_ble_eq_true rfl) rfl ?_
  intro z hg hpo hxp hnm htab
  subst hg
  obtain ⟨F, C, hM, -, hS⟩ := hX
  have hM : MDF (zg z) w w m A F P C := ⟨hM, Fr.rf⟩
  have h68 : 0 ≤ F 6 ∧ F 6 ≤ 8 := by have := hS.1.1; have := hS.1.2.1; omega
  refine xr_aload_n dX4_depositTotal_0 rfl (by first | rfl | exact isRef_rf _) ?_
  refine xr_iconst dX4_depositTotal_1 ?_
  refine xr_putfield (ci := 14) (T := TX4) (N := 23) (i := 0) (fs' := [_, _, _, _, _, _, _, _, _, _, _, _, _, _, _, _, _, _, _, _, _, _, _]) hM.1.1 rfl (by decide) in_X4 tyX4 tyX4_ok nmX4 q2191 (.inl rfl) rfl dX4_depositTotal_2 (by rfl) (by rfl) (by simp) (by rfl) (.inl rfl) (fun _ => ?_)
  refine xr_mput (i := 0) hM (by rfl) (fun w2 hM => ?_)
  refine xr_aload_n dX4_depositTotal_5 rfl (by first | rfl | exact isRef_rf _) ?_
  refine xr_callV (n9 := 0) (rc' := 0) (rs' := 0) (k_M_deposits hG hM.1 hB) hM.1.1 rfl q2588 q2590 qs74 q96 q2591 (by decide +kernel) rfl ⟨by decide, Nat.le_of_ble_eq_true rfl⟩ ⟨Nat.le_of_ble_eq_true rfl, Nat.le_of_ble_eq_true rfl⟩ (Nat.le_of_ble_eq_true rfl) dX4_depositTotal_6 rfl (xk_r ?_) (fun _ _ _ h => h.elim)
  refine xr_ireturn rfl rfl dX4_depositTotal_9 ?_
  rw [hpo]
  first
    | exact ⟨_, 0, rfl, hM.2, ⟨_, _, hM.1, updI_eq, hS.to (fun k hk => updI_ne (by omega)) (fun j hj => rfl)⟩, ⟨rfl, rfl⟩⟩
theorem k_N_allCoins {g : GG} {w : WW} {m : Nat} {A : Int → Nat} {th : Int} {P : Int → Int} {S : Option (Int → Int)} {H : List (Int → Int)} {I O : Tx} {se : Option Int} {rj : Option (Int × Int × Int)} {N : Int} (hG : Base g) (hX : MR g w m A th P S H I O se rj) (hB : PB P N) : Ct g yX4_allCoins (.code yX4_allCoins cX4_allCoins 3 (some .int)) 2 44 0 0 w [.ref m] (fun r_ w1 => ∃ y th : Int, r_ = some (.int (iI y)) ∧ Fr (MS m A) w w1 ∧ MR g w1 m A th P S H I O se rj ∧ (th = 0 ∧ y = P 5 + depS P + sumR (fun t => P (86 + 2 * t)) 0 (P 2))) xF := by
  refine Ct.of (lv := [some _, none, none]) hG (by decide +kernel) (Nat.le_of_ble_eq_true rfl) rfl ?_
  intro z hg hpo hxp hnm htab
  subst hg
  obtain ⟨F, C, hM, -, hS⟩ := hX
  have hM : MDF (zg z) w w m A F P C := ⟨hM, Fr.rf⟩
  have h68 : 0 ≤ F 6 ∧ F 6 ≤ 8 := by have := hS.1.1; have := hS.1.2.1; omega
  have hgg := hB.g
  refine xr_aload_n dX4_allCoins_0 rfl (by first | rfl | exact isRef_rf _) ?_
  refine xr_iconst dX4_allCoins_1 ?_
  refine xr_putfield (ci := 14) (T := TX4) (N := 23) (i := 0) (fs' := [_, _, _, _, _, _, _, _, _, _, _, _, _, _, _, _, _, _, _, _, _, _, _]) hM.1.1 rfl (by decide) in_X4 tyX4 tyX4_ok nmX4 q2191 (.inl rfl) rfl dX4_allCoins_2 (by rfl) (by rfl) (by simp) (by rfl) (.inl rfl) (fun _ => ?_)
  refine xr_mput (i := 0) hM (by rfl) (fun w2 hM => ?_)
  refine xr_aload_n dX4_allCoins_5 rfl (by first | rfl | exact isRef_rf _) ?_
  refine xr_getfield (ci := 14) (T := TX4) (N := 23) (i := 1) hM.1.1 rfl (by decide) in_X4 q2192 (.inl rfl) dX4_allCoins_6 (by rfl) ?_
  refine xr_iconst dX4_allCoins_9 ?_
  refine xr_iaload hM.1.2.1 (by omega) (by decide) dX4_allCoins_10 ?_
  refine xr_aload_n dX4_allCoins_11 rfl (by first | rfl | exact isRef_rf _) ?_
  refine xr_callV (n9 := 0) (rc' := 0) (rs' := 0) (k_M_deposits hG hM.1 hB) hM.1.1 rfl q2588 q2590 qs74 q96 q2591 (by decide +kernel) rfl ⟨by decide, Nat.le_of_ble_eq_true rfl⟩ ⟨Nat.le_of_ble_eq_true rfl, Nat.le_of_ble_eq_true rfl⟩ (Nat.le_of_ble_eq_true rfl) dX4_allCoins_12 rfl (xk_r ?_) (fun _ _ _ h => h.elim)
  refine xr_iadd dX4_allCoins_15 ?_
  refine xr_istore_n (lv' := [some _, some _, none]) dX4_allCoins_16 (by decide) rfl rfl ?_
  refine xr_iconst dX4_allCoins_17 ?_
  refine xr_istore_n (lv' := [some _, some _, some _]) dX4_allCoins_18 (by decide) rfl rfl ?_
  have lp19 : ∀ (fu19 : Nat) (s9 k : Int), 0 ≤ k → k ≤ P 2 → P 2 - k < fu19 → s9 + sumR (fun t => P (86 + 2 * t)) k (P 2) = P 5 + depS P + sumR (fun t => P (86 + 2 * t)) 0 (P 2) → XJ z yX4_allCoins.cls cX4_allCoins 3 (some .int) 2 44 w2 (0 * fu19 + 0) (0 * fu19 + 0) 19 [some (.ref m), some (.int (iI s9)), some (.int (iI k))] [] := by
    intro fu19
    induction fu19 with
    | zero =>
      intro s9 k hk0 hk1 hfu hr9
      omega
    | succ fu19 ih19 =>
      intro s9 k hk0 hk1 hfu hr9
      refine xr_iload_n dX4_allCoins_19 rfl ?_
      refine xr_aload_n dX4_allCoins_20 rfl (by first | rfl | exact isRef_rf _) ?_
      refine xr_getfield (ci := 14) (T := TX4) (N := 23) (i := 1) hM.1.1 rfl (by decide) in_X4 q2192 (.inl rfl) dX4_allCoins_21 (by rfl) ?_
      refine xr_iconst dX4_allCoins_24 ?_
      refine xr_iaload hM.1.2.1 (by omega) (by decide) dX4_allCoins_25 ?_
      refine xr_icmp_ge (tgt := 44) dX4_allCoins_26 (by decide) (by omega) (fun c26 => ?_) (fun c26 => ?_)
      · skip
        refine xr_iload_n dX4_allCoins_44 rfl ?_
        refine xr_ireturn rfl rfl dX4_allCoins_45 ?_
        rw [hpo]
        rw [sumR_ge (by omega), Int.add_zero] at hr9
        exact ⟨s9, 0, rfl, hM.2, ⟨_, _, hM.1, updI_eq, hS.to (fun k hk => updI_ne (by omega)) (fun j hj => rfl)⟩, rfl, hr9⟩
      · skip
        rw [sumR_lt (show k < P 2 by omega)] at hr9
        refine xr_iload_n dX4_allCoins_29 rfl ?_
        refine xr_aload_n dX4_allCoins_30 rfl (by first | rfl | exact isRef_rf _) ?_
        refine xr_iload_n dX4_allCoins_31 rfl ?_
        refine xr_iconst dX4_allCoins_32 ?_
        refine xr_callV (n9 := 2) (rc' := 0 * fu19 + 0) (rs' := 0 * fu19 + 0) (k_M_tenant_0 hG hM.1 (by omega)) hM.1.1 rfl q2459 q2461 qs62 q96 q2462 (by decide +kernel) rfl ⟨by decide, Nat.le_of_ble_eq_true rfl⟩ ⟨by omega, by omega⟩ (Nat.le_of_ble_eq_true rfl) dX4_allCoins_33 rfl (xk_r ?_) (fun _ _ _ h => h.elim)
        refine xr_iadd dX4_allCoins_36 ?_
        refine xr_istore_n (lv' := [some _, some _, some _]) dX4_allCoins_37 (by decide) rfl rfl ?_
        refine xr_iinc (lv' := [some _, some _, some _]) dX4_allCoins_38 rfl (by decide) rfl rfl ?_
        refine xr_goto (tgt := 19) dX4_allCoins_41 (by decide) ?_
        refine xr_wk (rc' := 0 * fu19 + 0) (rs' := 0 * fu19 + 0) ⟨by omega, by omega⟩ (ih19 _ (k + 1) (by omega) (by omega) (by omega) (by rw [← hr9, Int.add_assoc]))
  refine xr_wk (rc' := 0 * 9 + 0) (rs' := 0 * 9 + 0) ⟨by omega, by omega⟩ (lp19 9 _ 0 (by omega) (by omega) (by omega) rfl)
def quietS (P : Int → Int) : Int := sumR (fun b => if noiseOf P b ≤ P 3 then 1 else 0) 0 (P 0)
theorem k_N_quietCount {g : GG} {w : WW} {m : Nat} {A : Int → Nat} {th : Int} {P : Int → Int} {S : Option (Int → Int)} {H : List (Int → Int)} {I O : Tx} {se : Option Int} {rj : Option (Int × Int × Int)} {N : Int} (hG : Base g) (hX : MR g w m A th P S H I O se rj) (hB : PB P N) : Ct g yX4_quietCount (.code yX4_quietCount cX4_quietCount 3 (some .int)) 4 90 0 0 w [.ref m] (fun r_ w1 => ∃ y th : Int, r_ = some (.int (iI y)) ∧ Fr (MS m A) w w1 ∧ MR g w1 m A th P S H I O se rj ∧ (th = 0 ∧ y = quietS P)) xF := by
  refine Ct.of (lv := [some _, none, none]) hG (by decide +kernel) (Nat.le_of_ble_eq_true rfl) rfl ?_
  intro z hg hpo hxp hnm htab
  subst hg
  obtain ⟨F, C, hM, -, hS⟩ := hX
  have hM : MDF (zg z) w w m A F P C := ⟨hM, Fr.rf⟩
  have h68 : 0 ≤ F 6 ∧ F 6 ≤ 8 := by have := hS.1.1; have := hS.1.2.1; omega
  have hgg := hB.g
  refine xr_aload_n dX4_quietCount_0 rfl (by first | rfl | exact isRef_rf _) ?_
  refine xr_iconst dX4_quietCount_1 ?_
  refine xr_putfield (ci := 14) (T := TX4) (N := 23) (i := 0) (fs' := [_, _, _, _, _, _, _, _, _, _, _, _, _, _, _, _, _, _, _, _, _, _, _]) hM.1.1 rfl (by decide) in_X4 tyX4 tyX4_ok nmX4 q2191 (.inl rfl) rfl dX4_quietCount_2 (by rfl) (by rfl) (by simp) (by rfl) (.inl rfl) (fun _ => ?_)
  refine xr_mput (i := 0) hM (by rfl) (fun w2 hM => ?_)
  refine xr_iconst dX4_quietCount_5 ?_
  refine xr_istore_n (lv' := [some _, some _, none]) dX4_quietCount_6 (by decide) rfl rfl ?_
  refine xr_iconst dX4_quietCount_7 ?_
  refine xr_istore_n (lv' := [some _, some _, some _]) dX4_quietCount_8 (by decide) rfl rfl ?_
  have lp9 : ∀ (fu9 : Nat) (s9 k : Int), 0 ≤ k → k ≤ P 0 → P 0 - k < fu9 → s9 + sumR (fun b => if noiseOf P b ≤ P 3 then 1 else 0) k (P 0) = quietS P → XJ z yX4_quietCount.cls cX4_quietCount 3 (some .int) 4 90 w2 (0 * fu9 + 0) (0 * fu9 + 0) 9 [some (.ref m), some (.int (iI s9)), some (.int (iI k))] [] := by
    intro fu9
    induction fu9 with
    | zero =>
      intro s9 k hk0 hk1 hfu hr9
      omega
    | succ fu9 ih9 =>
      intro s9 k hk0 hk1 hfu hr9
      refine xr_iload_n dX4_quietCount_9 rfl ?_
      refine xr_aload_n dX4_quietCount_10 rfl (by first | rfl | exact isRef_rf _) ?_
      refine xr_getfield (ci := 14) (T := TX4) (N := 23) (i := 1) hM.1.1 rfl (by decide) in_X4 q2192 (.inl rfl) dX4_quietCount_11 (by rfl) ?_
      refine xr_iconst dX4_quietCount_14 ?_
      refine xr_iaload hM.1.2.1 (by omega) (by decide) dX4_quietCount_15 ?_
      refine xr_icmp_ge (tgt := 41) dX4_quietCount_16 (by decide) (by omega) (fun c16 => ?_) (fun c16 => ?_)
      · skip
        refine xr_iload_n dX4_quietCount_41 rfl ?_
        refine xr_ireturn rfl rfl dX4_quietCount_42 ?_
        rw [hpo]
        rw [sumR_ge (by omega), Int.add_zero] at hr9
        exact ⟨s9, 0, rfl, hM.2, ⟨_, _, hM.1, updI_eq, hS.to (fun k hk => updI_ne (by omega)) (fun j hj => rfl)⟩, rfl, hr9⟩
      · skip
        rw [sumR_lt (show k < P 0 by omega)] at hr9
        refine xr_iload_n dX4_quietCount_19 rfl ?_
        refine xr_aload_n dX4_quietCount_20 rfl (by first | rfl | exact isRef_rf _) ?_
        refine xr_iload_n dX4_quietCount_21 rfl ?_
        refine xr_callV (n9 := 1) (rc' := 0 * fu9 + 0) (rs' := 0 * fu9 + 0) (k_M_quiet hG hM.1 hB (by omega)) hM.1.1 rfl q2431 q2433 qs58 q96 q2434 (by decide +kernel) rfl ⟨by decide, Nat.le_of_ble_eq_true rfl⟩ ⟨by omega, by omega⟩ (Nat.le_of_ble_eq_true rfl) dX4_quietCount_22 rfl (xk_r ?_) (fun _ _ _ h => h.elim)
        refine xr_ifb_eq (tgt := 32) dX4_quietCount_25 (by decide) (fun c25 => ?_) (fun c25 => ?_)
        · skip
          try simp only [decide_eq_true_eq, decide_eq_false_iff_not] at c25
          rw [if_neg (by omega)] at hr9
          refine xr_iconst dX4_quietCount_32 ?_
          refine xr_iadd dX4_quietCount_33 ?_
          refine xr_istore_n (lv' := [some _, some _, some _]) dX4_quietCount_34 (by decide) rfl rfl ?_
          refine xr_iinc (lv' := [some _, some _, some _]) dX4_quietCount_35 rfl (by decide) rfl rfl ?_
          refine xr_goto (tgt := 9) dX4_quietCount_38 (by decide) ?_
          refine xr_wk (rc' := 0 * fu9 + 0) (rs' := 0 * fu9 + 0) ⟨by omega, by omega⟩ (ih9 _ (k + 1) (by omega) (by omega) (by omega) (by rw [← hr9, Int.add_assoc]))
        · skip
          try simp only [decide_eq_true_eq, decide_eq_false_iff_not] at c25
          rw [if_pos (by omega)] at hr9
          refine xr_iconst dX4_quietCount_28 ?_
          refine xr_goto (tgt := 33) dX4_quietCount_29 (by decide) ?_
          refine xr_iadd dX4_quietCount_33 ?_
          refine xr_istore_n (lv' := [some _, some _, some _]) dX4_quietCount_34 (by decide) rfl rfl ?_
          refine xr_iinc (lv' := [some _, some _, some _]) dX4_quietCount_35 rfl (by decide) rfl rfl ?_
          refine xr_goto (tgt := 9) dX4_quietCount_38 (by decide) ?_
          refine xr_wk (rc' := 0 * fu9 + 0) (rs' := 0 * fu9 + 0) ⟨by omega, by omega⟩ (ih9 _ (k + 1) (by omega) (by omega) (by omega) (by rw [← hr9, Int.add_assoc]))
  refine xr_wk (rc' := 0 * 11 + 0) (rs' := 0 * 11 + 0) ⟨by omega, by omega⟩ (lp9 11 0 0 (by omega) (by omega) (by omega) (by rw [Int.zero_add]; rfl))
