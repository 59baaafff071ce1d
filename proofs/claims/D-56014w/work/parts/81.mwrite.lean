/-! 81.mwrite.lean.txt (written by tools/walker.py)  -/
set_option maxRecDepth 100000
/-! the other model's text output: s what was written so far, on top of F0 and C0 -/
def TO (F0 : Int → Int) (C0 : Int → Int → Int) (F : Int → Int) (C : Int → Int → Int) (s : Tx) : Prop := TC (F 12) (C 10) s ∧ (∀ k : Int, k ≠ 12 → F k = F0 k) ∧ ∀ j : Int, j ≠ 10 → C j = C0 j
theorem TO.c {F0 F : Int → Int} {C0 C : Int → Int → Int} {s : Tx} {c : Int} (h : TO F0 C0 F C s) (hn : s.1 ≤ 59) : TO F0 C0 (updI F 12 (F 12 + 1)) (updC C 10 (updI (C 10) (F 12) c)) (tC s c) := by
  obtain ⟨⟨h1, h2, h3⟩, h4, h5⟩ := h
  refine ⟨⟨?_, ?_, fun k hk0 hk1 => ?_⟩, fun k hk => (updI_ne hk).trans (h4 k hk), fun j hj => (updC_ne hj).trans (h5 j hj)⟩
  · rw [updI_eq, h1]; rfl
  · show s.1 + 1 ≤ 60; omega
  · have hk1 : k < ((s.1 + 1 : Nat) : Int) := hk1
    rw [updC_at, h1]
    show updI (C 10) s.1 c k = updI s.2 s.1 c k
    by_cases hk : k = s.1
    · rw [hk, updI_eq, updI_eq]
    · rw [updI_ne hk, updI_ne hk, h3 k hk0 (by omega)]
theorem tN_1 {s : Tx} {v : Int} (h : v < 10) : tN s v = tC s (48 + v) := by
  unfold tN tC lenI appI
  rw [if_pos h, if_pos h]
theorem tN_2 {s : Tx} {v : Int} (h : ¬ v < 10) : tN s v = tC (tC s (48 + v / 10)) (48 + v % 10) := by
  unfold tN tC lenI appI
  rw [if_neg h, if_neg h]
  refine Prod.ext rfl ?_
  funext k
  show updI (updI s.2 (s.1 + 1) (48 + v % 10)) s.1 (48 + v / 10) k = updI (updI s.2 s.1 (48 + v / 10)) ((s.1 + 1 : Nat) : Int) (48 + v % 10) k
  simp only [updI]
  repeat' split
  all_goals first | rfl | omega
theorem k_M_writes {g : GG} {w : WW} {m : Nat} {A : Int → Nat} {F P : Int → Int} {C : Int → Int → Int} {F0 : Int → Int} {C0 : Int → Int → Int} {s : Tx} {c : Int} (hG : Base g) (hM : MD g w m A F P C) (hT : TO F0 C0 F C s) (hn : s.1 ≤ 59) : Ct g yX4_writes (.code yX4_writes cX4_writes 2 none) 0 0 0 0 w [.ref m, .int (iI c)] (fun r_ w1 => ∃ (F1 : Int → Int) (C1 : Int → Int → Int), r_ = none ∧ MDF g w w1 m A F1 P C1 ∧ TO F0 C0 F1 C1 (tC s c)) xF := by
  refine Ct.of (lv := [some _, some _]) hG (by decide +kernel) (Nat.le_of_ble_eq_true rfl) rfl ?_
  intro z hg hpo hxp hnm htab
  subst hg
  have hM : MDF (zg z) w w m A F P C := ⟨hM, Fr.rf⟩
  have h12 : F 12 = s.1 := hT.1.1
  refine xr_aload_n dX4_writes_0 rfl (by first | rfl | exact isRef_rf _) ?_
  refine xr_getfield (ci := 14) (T := TX4) (N := 23) (i := 10) hM.1.1 rfl (by decide) in_X4 q2201 (.inl rfl) dX4_writes_1 (by rfl) ?_
  refine xr_aload_n dX4_writes_4 rfl (by first | rfl | exact isRef_rf _) ?_
  refine xr_getfield (ci := 14) (T := TX4) (N := 23) (i := 12) hM.1.1 rfl (by decide) in_X4 q2203 (.inl rfl) dX4_writes_5 (by rfl) ?_
  refine xr_iload_n dX4_writes_8 rfl ?_
  refine xr_mstC (j := 10) hM (by decide) (show (0 : Int) ≤ _ ∧ _ < ((60 : Nat) : Int) from by omega) dX4_writes_9 (fun w9 hM => ?_)
  refine xr_aload_n dX4_writes_10 rfl (by first | rfl | exact isRef_rf _) ?_
  refine xr_dup dX4_writes_11 (by first | rfl | exact cat_rf _) ?_
  refine xr_getfield (ci := 14) (T := TX4) (N := 23) (i := 12) hM.1.1 rfl (by decide) in_X4 q2203 (.inl rfl) dX4_writes_12 (by rfl) ?_
  refine xr_iconst dX4_writes_15 ?_
  refine xr_iadd dX4_writes_16 ?_
  refine xr_putfield (ci := 14) (T := TX4) (N := 23) (i := 12) (fs' := [_, _, _, _, _, _, _, _, _, _, _, _, _, _, _, _, _, _, _, _, _, _, _]) hM.1.1 rfl (by decide) in_X4 tyX4 tyX4_ok nmX4 q2203 (.inl rfl) rfl dX4_writes_17 (by rfl) (by rfl) (by simp) (by rfl) (.inl rfl) (fun _ => ?_)
  refine xr_mput (i := 12) hM (by rfl) (fun w17 hM => ?_)
  refine xr_return rfl dX4_writes_20 ?_
  rw [hpo]
  exact ⟨_, _, rfl, hM, hT.c hn⟩
theorem k_M_writesNumber {g : GG} {w : WW} {m : Nat} {A : Int → Nat} {F P : Int → Int} {C : Int → Int → Int} {F0 : Int → Int} {C0 : Int → Int → Int} {s : Tx} {v : Int} (hG : Base g) (hM : MD g w m A F P C) (hT : TO F0 C0 F C s) (hn : s.1 ≤ 58) (hv : 0 ≤ v ∧ v ≤ 99) : Ct g yX4_writesNumber (.code yX4_writesNumber cX4_writesNumber 2 none) 1 21 0 0 w [.ref m, .int (iI v)] (fun r_ w1 => ∃ (F1 : Int → Int) (C1 : Int → Int → Int), r_ = none ∧ MDF g w w1 m A F1 P C1 ∧ TO F0 C0 F1 C1 (tN s v)) xF := by
  refine Ct.of (lv := [some _, some _]) hG (by decide +kernel) (Nat.le_of_ble_eq_true rfl) rfl ?_
  intro z hg hpo hxp hnm htab
  subst hg
  have hM : MDF (zg z) w w m A F P C := ⟨hM, Fr.rf⟩
  refine xr_iload_n dX4_writesNumber_0 rfl ?_
  refine xr_bipush dX4_writesNumber_1 (by decide) ?_
  refine xr_icmp_le (tgt := 17) dX4_writesNumber_3 (by decide) (by omega) (fun c3 => ?_) (fun c3 => ?_)
  · skip
    obtain ⟨s1, hs1⟩ : ∃ s1 : Tx, s1 = s := ⟨_, rfl⟩
    have hn1 : s1.1 ≤ 59 := by rw [hs1]; omega
    have hT1 := hT
    rw [← hs1] at hT
    refine xr_aload_n dX4_writesNumber_17 rfl (by first | rfl | exact isRef_rf _) ?_
    refine xr_bipush dX4_writesNumber_18 (by decide) ?_
    refine xr_iload_n dX4_writesNumber_20 rfl ?_
    refine xr_bipush dX4_writesNumber_21 (by decide) ?_
    refine xr_irem dX4_writesNumber_23 (by omega) (by omega) ?_
    rw [Int.tmod_eq_emod_of_nonneg hv.1]
    refine xr_iadd dX4_writesNumber_24 ?_
    refine xr_callV (n9 := 1) (rc' := 0) (rs' := 0) (k_M_writes hG hM.1 hT hn1) hM.1.1 rfl q2648 q2650 qs78 q96 q2651 (by decide +kernel) rfl ⟨by decide, Nat.le_of_ble_eq_true rfl⟩ ⟨Nat.le_of_ble_eq_true rfl, Nat.le_of_ble_eq_true rfl⟩ (Nat.le_of_ble_eq_true rfl) dX4_writesNumber_25 rfl (fun r w25 hw => ?_) (fun _ _ _ h => h.elim)
    obtain ⟨F25, C25, rfl, hw, hT⟩ := hw
    have hM := hM.tr hw
    refine xr_return rfl dX4_writesNumber_28 ?_
    rw [hpo]
    first
      | exact ⟨_, _, rfl, hM, by rw [tN_2 (by omega), ← hs1]; exact hT⟩
      | exact ⟨_, _, rfl, hM, by rw [tN_1 (by omega)]; rw [hs1, Int.emod_eq_of_lt (by omega) (by omega)] at hT; exact hT⟩
  · skip
    refine xr_aload_n dX4_writesNumber_6 rfl (by first | rfl | exact isRef_rf _) ?_
    refine xr_bipush dX4_writesNumber_7 (by decide) ?_
    refine xr_iload_n dX4_writesNumber_9 rfl ?_
    refine xr_bipush dX4_writesNumber_10 (by decide) ?_
    refine xr_idiv dX4_writesNumber_12 (by omega) (by omega) ?_
    rw [Int.tdiv_eq_ediv_of_nonneg hv.1]
    refine xr_iadd dX4_writesNumber_13 ?_
    refine xr_callV (n9 := 1) (rc' := 0) (rs' := 0) (k_M_writes hG hM.1 hT (by omega)) hM.1.1 rfl q2648 q2650 qs78 q96 q2651 (by decide +kernel) rfl ⟨by decide, Nat.le_of_ble_eq_true rfl⟩ ⟨Nat.le_of_ble_eq_true rfl, Nat.le_of_ble_eq_true rfl⟩ (Nat.le_of_ble_eq_true rfl) dX4_writesNumber_14 rfl (fun r w14 hw => ?_) (fun _ _ _ h => h.elim)
    obtain ⟨F14, C14, rfl, hw, hT⟩ := hw
    have hM := hM.tr hw
    obtain ⟨s1, hs1⟩ : ∃ s1 : Tx, s1 = tC s (48 + v / 10) := ⟨_, rfl⟩
    have hn1 : s1.1 ≤ 59 := by rw [hs1]; show s.1 + 1 ≤ 59; omega
    rw [← hs1] at hT
    refine xr_aload_n dX4_writesNumber_17 rfl (by first | rfl | exact isRef_rf _) ?_
    refine xr_bipush dX4_writesNumber_18 (by decide) ?_
    refine xr_iload_n dX4_writesNumber_20 rfl ?_
    refine xr_bipush dX4_writesNumber_21 (by decide) ?_
    refine xr_irem dX4_writesNumber_23 (by omega) (by omega) ?_
    rw [Int.tmod_eq_emod_of_nonneg hv.1]
    refine xr_iadd dX4_writesNumber_24 ?_
    refine xr_callV (n9 := 1) (rc' := 0) (rs' := 0) (k_M_writes hG hM.1 hT hn1) hM.1.1 rfl q2648 q2650 qs78 q96 q2651 (by decide +kernel) rfl ⟨by decide, Nat.le_of_ble_eq_true rfl⟩ ⟨Nat.le_of_ble_eq_true rfl, Nat.le_of_ble_eq_true rfl⟩ (Nat.le_of_ble_eq_true rfl) dX4_writesNumber_25 rfl (fun r w25 hw => ?_) (fun _ _ _ h => h.elim)
    obtain ⟨F25, C25, rfl, hw, hT⟩ := hw
    have hM := hM.tr hw
    refine xr_return rfl dX4_writesNumber_28 ?_
    rw [hpo]
    first
      | exact ⟨_, _, rfl, hM, by rw [tN_2 (by omega), ← hs1]; exact hT⟩
      | exact ⟨_, _, rfl, hM, by rw [tN_1 (by omega)]; rw [hs1, Int.emod_eq_of_lt (by omega) (by omega)] at hT; exact hT⟩
