/-! 82.mtext.lean.txt (written by tools/walker.py)  -/
set_option maxRecDepth 100000
theorem k_N_writeBench {g : GG} {w : WW} {m : Nat} {A : Int → Nat} {th : Int} {P : Int → Int} {S : Option (Int → Int)} {H : List (Int → Int)} {I O : Tx} {se : Option Int} {rj : Option (Int × Int × Int)} {b N : Int} (hG : Base g) (hX : MR g w m A th P S H I O se rj) (hB : PB P N) (hr : (-2147483648 ≤ b ∧ b < 2147483648)) : Ct g yX4_writeBench (.code yX4_writeBench cX4_writeBench 2 (some .int)) 4 91 0 0 w [.ref m, .int (iI b)] (fun r_ w1 => ∃ y : Int, r_ = some (.int (iI y)) ∧ Fr (MS m A) w w1 ∧ (((0 ≤ b ∧ b < P 0) ∧ y = (wBench P b (0, fun _ => 0)).1 ∧ MR g w1 m A 0 P S H I (wBench P b (0, fun _ => 0)) se rj) ∨ (¬ (0 ≤ b ∧ b < P 0) ∧ MR g w1 m A 1 P S H I O se rj))) xF := by
  refine Ct.of (lv := [some _, some _]) hG (by decide +kernel) (Nat.le_of_ble_eq_true rfl) rfl ?_
  intro z hg hpo hxp hnm htab
  subst hg
  obtain ⟨F, C, hM, -, hS⟩ := hX
  have hM : MDF (zg z) w w m A F P C := ⟨hM, Fr.rf⟩
  have h68 : 0 ≤ F 6 ∧ F 6 ≤ 8 := by have := hS.1.1; have := hS.1.2.1; omega
  have hgg := hB.g
  refine xr_aload_n dX4_writeBench_0 rfl (by first | rfl | exact isRef_rf _) ?_
  refine xr_aload_n dX4_writeBench_1 rfl (by first | rfl | exact isRef_rf _) ?_
  refine xr_iload_n dX4_writeBench_2 rfl ?_
  refine xr_callV (n9 := 1) (rc' := 0) (rs' := 0) (k_M_isBench hG hM.1 hB (by omega)) hM.1.1 rfl q2323 q2325 qs48 q96 q2326 (by decide +kernel) rfl ⟨by decide, Nat.le_of_ble_eq_true rfl⟩ ⟨Nat.le_of_ble_eq_true rfl, Nat.le_of_ble_eq_true rfl⟩ (Nat.le_of_ble_eq_true rfl) dX4_writeBench_3 rfl (xk_r ?_) (fun _ _ _ h => h.elim)
  refine xr_ifb_eq (tgt := 13) dX4_writeBench_6 (by decide) (fun c6 => ?_) (fun c6 => ?_)
  · skip
    try simp only [decide_eq_true_eq, decide_eq_false_iff_not] at c6
    refine xr_iconst dX4_writeBench_13 ?_
    refine xr_putfield (ci := 14) (T := TX4) (N := 23) (i := 0) (fs' := [_, _, _, _, _, _, _, _, _, _, _, _, _, _, _, _, _, _, _, _, _, _, _]) hM.1.1 rfl (by decide) in_X4 tyX4 tyX4_ok nmX4 q2191 (.inl rfl) rfl dX4_writeBench_14 (by rfl) (by rfl) (by simp) (by rfl) (.inl rfl) (fun _ => ?_)
    refine xr_mput (i := 0) hM (by rfl) (fun w14 hM => ?_)
    refine xr_aload_n dX4_writeBench_17 rfl (by first | rfl | exact isRef_rf _) ?_
    refine xr_getfield (ci := 14) (T := TX4) (N := 23) (i := 0) hM.1.1 rfl (by decide) in_X4 q2191 (.inl rfl) dX4_writeBench_18 (by rfl) ?_
    rw [updI_eq]
    refine xr_if_le (tgt := 26) dX4_writeBench_21 (by decide) (by decide) (fun c21 => absurd c21 (by decide)) (fun c21 => ?_)
    refine xr_iconst dX4_writeBench_24 ?_
    refine xr_ireturn rfl rfl dX4_writeBench_25 ?_
    rw [hpo]
    exact ⟨0, rfl, hM.2, Or.inr ⟨by omega, _, _, hM.1, updI_eq, hS.to (fun k hk => updI_ne (by omega)) (fun j hj => rfl)⟩⟩
  · skip
    try simp only [decide_eq_true_eq, decide_eq_false_iff_not] at c6
    refine xr_iconst dX4_writeBench_9 ?_
    refine xr_goto (tgt := 14) dX4_writeBench_10 (by decide) ?_
    refine xr_putfield (ci := 14) (T := TX4) (N := 23) (i := 0) (fs' := [_, _, _, _, _, _, _, _, _, _, _, _, _, _, _, _, _, _, _, _, _, _, _]) hM.1.1 rfl (by decide) in_X4 tyX4 tyX4_ok nmX4 q2191 (.inl rfl) rfl dX4_writeBench_14 (by rfl) (by rfl) (by simp) (by rfl) (.inl rfl) (fun _ => ?_)
    refine xr_mput (i := 0) hM (by rfl) (fun w14 hM => ?_)
    refine xr_aload_n dX4_writeBench_17 rfl (by first | rfl | exact isRef_rf _) ?_
    refine xr_getfield (ci := 14) (T := TX4) (N := 23) (i := 0) hM.1.1 rfl (by decide) in_X4 q2191 (.inl rfl) dX4_writeBench_18 (by rfl) ?_
    rw [updI_eq]
    refine xr_if_le (tgt := 26) dX4_writeBench_21 (by decide) (by decide) (fun c21 => ?_) (fun c21 => absurd c21 (by decide))
    refine xr_aload_n dX4_writeBench_26 rfl (by first | rfl | exact isRef_rf _) ?_
    refine xr_iconst dX4_writeBench_27 ?_
    refine xr_putfield (ci := 14) (T := TX4) (N := 23) (i := 12) (fs' := [_, _, _, _, _, _, _, _, _, _, _, _, _, _, _, _, _, _, _, _, _, _, _]) hM.1.1 rfl (by decide) in_X4 tyX4 tyX4_ok nmX4 q2203 (.inl rfl) rfl dX4_writeBench_28 (by rfl) (by rfl) (by simp) (by rfl) (.inl rfl) (fun _ => ?_)
    refine xr_mput (i := 12) hM (by rfl) (fun w28 hM => ?_)
    obtain ⟨s28, hs28⟩ : ∃ s : Tx, s = (0, fun _ => 0) := ⟨_, rfl⟩
    have hT : TO (updI F 0 0) C (updI (updI F 0 0) 12 0) C s28 := ⟨⟨by rw [updI_eq, hs28]; rfl, by rw [hs28]; exact Nat.zero_le _, fun k h0 h1 => by rw [hs28] at h1; have h1 : k < ((0 : Nat) : Int) := h1; omega⟩, fun k hk => updI_ne hk, fun _ _ => rfl⟩
    have hn28 : s28.1 ≤ 0 := by rw [hs28]; exact Nat.le_refl _
    have hbb := hB.b (b := b) (by omega)
    have hrr := rent_bd hB (show 0 ≤ b by omega) (show b < P 0 by omega)
    have hnn : 0 ≤ noiseOf P b ∧ noiseOf P b ≤ 36 := noise_bd hB
    refine xr_aload_n dX4_writeBench_31 rfl (by first | rfl | exact isRef_rf _) ?_
    refine xr_iload_n dX4_writeBench_32 rfl ?_
    refine xr_callV (n9 := 1) (rc' := 0) (rs' := 0) (k_M_writesNumber hG hM.1 hT (by omega) (by omega)) hM.1.1 rfl q2644 q2646 qs77 q96 q2647 (by decide +kernel) rfl ⟨by decide, Nat.le_of_ble_eq_true rfl⟩ ⟨Nat.le_of_ble_eq_true rfl, Nat.le_of_ble_eq_true rfl⟩ (Nat.le_of_ble_eq_true rfl) dX4_writeBench_33 rfl (fun r w33 hw => ?_) (fun _ _ _ h => h.elim)
    obtain ⟨F33, C33, rfl, hw, hT⟩ := hw
    have hM := hM.tr hw
    obtain ⟨s33, hs33⟩ : ∃ s, s = tN s28 (b) := ⟨_, rfl⟩
    rw [← hs33] at hT
    have hn33 : s33.1 ≤ 2 := by rw [hs33]; have := tN_len (s := s28) (v := b); omega
    refine xr_aload_n dX4_writeBench_36 rfl (by first | rfl | exact isRef_rf _) ?_
    refine xr_bipush dX4_writeBench_37 (by decide) ?_
    refine xr_callV (n9 := 1) (rc' := 0) (rs' := 0) (k_M_writes hG hM.1 hT (by omega)) hM.1.1 rfl q2648 q2650 qs78 q96 q2651 (by decide +kernel) rfl ⟨by decide, Nat.le_of_ble_eq_true rfl⟩ ⟨Nat.le_of_ble_eq_true rfl, Nat.le_of_ble_eq_true rfl⟩ (Nat.le_of_ble_eq_true rfl) dX4_writeBench_39 rfl (fun r w39 hw => ?_) (fun _ _ _ h => h.elim)
    obtain ⟨F39, C39, rfl, hw, hT⟩ := hw
    have hM := hM.tr hw
    obtain ⟨s39, hs39⟩ : ∃ s, s = tC s33 (64) := ⟨_, rfl⟩
    rw [← hs39] at hT
    have hn39 : s39.1 ≤ 3 := by rw [hs39]; have := tC_len (s := s33) (c := 64); omega
    refine xr_aload_n dX4_writeBench_42 rfl (by first | rfl | exact isRef_rf _) ?_
    refine xr_aload_n dX4_writeBench_43 rfl (by first | rfl | exact isRef_rf _) ?_
    refine xr_iload_n dX4_writeBench_44 rfl ?_
    refine xr_iconst dX4_writeBench_45 ?_
    refine xr_callV (n9 := 2) (rc' := 0) (rs' := 0) (k_M_bench_0 hG hM.1 (by omega)) hM.1.1 rfl q2291 q2293 qs41 q96 q2294 (by decide +kernel) rfl ⟨by decide, Nat.le_of_ble_eq_true rfl⟩ ⟨Nat.le_of_ble_eq_true rfl, Nat.le_of_ble_eq_true rfl⟩ (Nat.le_of_ble_eq_true rfl) dX4_writeBench_46 rfl (xk_r ?_) (fun _ _ _ h => h.elim)
    refine xr_callV (n9 := 1) (rc' := 0) (rs' := 0) (k_M_writesNumber hG hM.1 hT (by omega) (by omega)) hM.1.1 rfl q2644 q2646 qs77 q96 q2647 (by decide +kernel) rfl ⟨by decide, Nat.le_of_ble_eq_true rfl⟩ ⟨Nat.le_of_ble_eq_true rfl, Nat.le_of_ble_eq_true rfl⟩ (Nat.le_of_ble_eq_true rfl) dX4_writeBench_49 rfl (fun r w49 hw => ?_) (fun _ _ _ h => h.elim)
    obtain ⟨F49, C49, rfl, hw, hT⟩ := hw
    have hM := hM.tr hw
    obtain ⟨s49, hs49⟩ : ∃ s, s = tN s39 (P (10 + 6 * b)) := ⟨_, rfl⟩
    rw [← hs49] at hT
    have hn49 : s49.1 ≤ 5 := by rw [hs49]; have := tN_len (s := s39) (v := P (10 + 6 * b)); omega
    refine xr_aload_n dX4_writeBench_52 rfl (by first | rfl | exact isRef_rf _) ?_
    refine xr_bipush dX4_writeBench_53 (by decide) ?_
    refine xr_callV (n9 := 1) (rc' := 0) (rs' := 0) (k_M_writes hG hM.1 hT (by omega)) hM.1.1 rfl q2648 q2650 qs78 q96 q2651 (by decide +kernel) rfl ⟨by decide, Nat.le_of_ble_eq_true rfl⟩ ⟨Nat.le_of_ble_eq_true rfl, Nat.le_of_ble_eq_true rfl⟩ (Nat.le_of_ble_eq_true rfl) dX4_writeBench_55 rfl (fun r w55 hw => ?_) (fun _ _ _ h => h.elim)
    obtain ⟨F55, C55, rfl, hw, hT⟩ := hw
    have hM := hM.tr hw
    obtain ⟨s55, hs55⟩ : ∃ s, s = tC s49 (44) := ⟨_, rfl⟩
    rw [← hs55] at hT
    have hn55 : s55.1 ≤ 6 := by rw [hs55]; have := tC_len (s := s49) (c := 44); omega
    refine xr_aload_n dX4_writeBench_58 rfl (by first | rfl | exact isRef_rf _) ?_
    refine xr_aload_n dX4_writeBench_59 rfl (by first | rfl | exact isRef_rf _) ?_
    refine xr_iload_n dX4_writeBench_60 rfl ?_
    refine xr_iconst dX4_writeBench_61 ?_
    refine xr_callV (n9 := 2) (rc' := 0) (rs' := 0) (k_M_bench_1 hG hM.1 (by omega)) hM.1.1 rfl q2291 q2293 qs41 q96 q2294 (by decide +kernel) rfl ⟨by decide, Nat.le_of_ble_eq_true rfl⟩ ⟨Nat.le_of_ble_eq_true rfl, Nat.le_of_ble_eq_true rfl⟩ (Nat.le_of_ble_eq_true rfl) dX4_writeBench_62 rfl (xk_r ?_) (fun _ _ _ h => h.elim)
    refine xr_callV (n9 := 1) (rc' := 0) (rs' := 0) (k_M_writesNumber hG hM.1 hT (by omega) (by omega)) hM.1.1 rfl q2644 q2646 qs77 q96 q2647 (by decide +kernel) rfl ⟨by decide, Nat.le_of_ble_eq_true rfl⟩ ⟨Nat.le_of_ble_eq_true rfl, Nat.le_of_ble_eq_true rfl⟩ (Nat.le_of_ble_eq_true rfl) dX4_writeBench_65 rfl (fun r w65 hw => ?_) (fun _ _ _ h => h.elim)
    obtain ⟨F65, C65, rfl, hw, hT⟩ := hw
    have hM := hM.tr hw
    obtain ⟨s65, hs65⟩ : ∃ s, s = tN s55 (P (11 + 6 * b)) := ⟨_, rfl⟩
    rw [← hs65] at hT
    have hn65 : s65.1 ≤ 8 := by rw [hs65]; have := tN_len (s := s55) (v := P (11 + 6 * b)); omega
    refine xr_aload_n dX4_writeBench_68 rfl (by first | rfl | exact isRef_rf _) ?_
    refine xr_bipush dX4_writeBench_69 (by decide) ?_
    refine xr_callV (n9 := 1) (rc' := 0) (rs' := 0) (k_M_writes hG hM.1 hT (by omega)) hM.1.1 rfl q2648 q2650 qs78 q96 q2651 (by decide +kernel) rfl ⟨by decide, Nat.le_of_ble_eq_true rfl⟩ ⟨Nat.le_of_ble_eq_true rfl, Nat.le_of_ble_eq_true rfl⟩ (Nat.le_of_ble_eq_true rfl) dX4_writeBench_71 rfl (fun r w71 hw => ?_) (fun _ _ _ h => h.elim)
    obtain ⟨F71, C71, rfl, hw, hT⟩ := hw
    have hM := hM.tr hw
    obtain ⟨s71, hs71⟩ : ∃ s, s = tC s65 (36) := ⟨_, rfl⟩
    rw [← hs71] at hT
    have hn71 : s71.1 ≤ 9 := by rw [hs71]; have := tC_len (s := s65) (c := 36); omega
    refine xr_aload_n dX4_writeBench_74 rfl (by first | rfl | exact isRef_rf _) ?_
    refine xr_aload_n dX4_writeBench_75 rfl (by first | rfl | exact isRef_rf _) ?_
    refine xr_iload_n dX4_writeBench_76 rfl ?_
    refine xr_callV (n9 := 1) (rc' := 0) (rs' := 0) (k_M_rent hG hM.1 hB (by omega)) hM.1.1 rfl q2387 q2389 qs55 q96 q2390 (by decide +kernel) rfl ⟨by decide, Nat.le_of_ble_eq_true rfl⟩ ⟨Nat.le_of_ble_eq_true rfl, Nat.le_of_ble_eq_true rfl⟩ (Nat.le_of_ble_eq_true rfl) dX4_writeBench_77 rfl (xk_r ?_) (fun _ _ _ h => h.elim)
    refine xr_callV (n9 := 1) (rc' := 0) (rs' := 0) (k_M_writesNumber hG hM.1 hT (by omega) (by omega)) hM.1.1 rfl q2644 q2646 qs77 q96 q2647 (by decide +kernel) rfl ⟨by decide, Nat.le_of_ble_eq_true rfl⟩ ⟨Nat.le_of_ble_eq_true rfl, Nat.le_of_ble_eq_true rfl⟩ (Nat.le_of_ble_eq_true rfl) dX4_writeBench_80 rfl (fun r w80 hw => ?_) (fun _ _ _ h => h.elim)
    obtain ⟨F80, C80, rfl, hw, hT⟩ := hw
    have hM := hM.tr hw
    obtain ⟨s80, hs80⟩ : ∃ s, s = tN s71 (rent P b) := ⟨_, rfl⟩
    rw [← hs80] at hT
    have hn80 : s80.1 ≤ 11 := by rw [hs80]; have := tN_len (s := s71) (v := rent P b); omega
    refine xr_aload_n dX4_writeBench_83 rfl (by first | rfl | exact isRef_rf _) ?_
    refine xr_bipush dX4_writeBench_84 (by decide) ?_
    refine xr_callV (n9 := 1) (rc' := 0) (rs' := 0) (k_M_writes hG hM.1 hT (by omega)) hM.1.1 rfl q2648 q2650 qs78 q96 q2651 (by decide +kernel) rfl ⟨by decide, Nat.le_of_ble_eq_true rfl⟩ ⟨Nat.le_of_ble_eq_true rfl, Nat.le_of_ble_eq_true rfl⟩ (Nat.le_of_ble_eq_true rfl) dX4_writeBench_86 rfl (fun r w86 hw => ?_) (fun _ _ _ h => h.elim)
    obtain ⟨F86, C86, rfl, hw, hT⟩ := hw
    have hM := hM.tr hw
    obtain ⟨s86, hs86⟩ : ∃ s, s = tC s80 (126) := ⟨_, rfl⟩
    rw [← hs86] at hT
    have hn86 : s86.1 ≤ 12 := by rw [hs86]; have := tC_len (s := s80) (c := 126); omega
    refine xr_aload_n dX4_writeBench_89 rfl (by first | rfl | exact isRef_rf _) ?_
    refine xr_aload_n dX4_writeBench_90 rfl (by first | rfl | exact isRef_rf _) ?_
    refine xr_iload_n dX4_writeBench_91 rfl ?_
    refine xr_callV (n9 := 1) (rc' := 0) (rs' := 0) (k_M_noiseOf hG hM.1 hB (by omega)) hM.1.1 rfl q2391 q2393 qs56 q96 q2394 (by decide +kernel) rfl ⟨by decide, Nat.le_of_ble_eq_true rfl⟩ ⟨Nat.le_of_ble_eq_true rfl, Nat.le_of_ble_eq_true rfl⟩ (Nat.le_of_ble_eq_true rfl) dX4_writeBench_92 rfl (xk_r ?_) (fun _ _ _ h => h.elim)
    refine xr_callV (n9 := 1) (rc' := 0) (rs' := 0) (k_M_writesNumber hG hM.1 hT (by omega) (by omega)) hM.1.1 rfl q2644 q2646 qs77 q96 q2647 (by decide +kernel) rfl ⟨by decide, Nat.le_of_ble_eq_true rfl⟩ ⟨Nat.le_of_ble_eq_true rfl, Nat.le_of_ble_eq_true rfl⟩ (Nat.le_of_ble_eq_true rfl) dX4_writeBench_95 rfl (fun r w95 hw => ?_) (fun _ _ _ h => h.elim)
    obtain ⟨F95, C95, rfl, hw, hT⟩ := hw
    have hM := hM.tr hw
    obtain ⟨s95, hs95⟩ : ∃ s, s = tN s86 (noiseOf P b) := ⟨_, rfl⟩
    rw [← hs95] at hT
    have hn95 : s95.1 ≤ 14 := by rw [hs95]; have := tN_len (s := s86) (v := noiseOf P b); omega
    have hw0 : s95 = wBench0 P b (0, fun _ => 0) := by rw [hs95, hs86, hs80, hs71, hs65, hs55, hs49, hs39, hs33, hs28]; rfl
    refine xr_aload_n dX4_writeBench_98 rfl (by first | rfl | exact isRef_rf _) ?_
    refine xr_iload_n dX4_writeBench_99 rfl ?_
    refine xr_callV (n9 := 1) (rc' := 0) (rs' := 0) (k_M_by hG hM.1 (by omega)) hM.1.1 rfl q2487 q2489 qs65 q96 q2490 (by decide +kernel) rfl ⟨by decide, Nat.le_of_ble_eq_true rfl⟩ ⟨Nat.le_of_ble_eq_true rfl, Nat.le_of_ble_eq_true rfl⟩ (Nat.le_of_ble_eq_true rfl) dX4_writeBench_100 rfl (xk_r ?_) (fun _ _ _ h => h.elim)
    refine xr_iconst dX4_writeBench_103 ?_
    refine xr_icmp_eq (tgt := 138) dX4_writeBench_104 (by decide) (by omega) (fun c104 => ?_) (fun c104 => ?_)
    · skip
      have hwF : s95 = wBench P b (0, fun _ => 0) := by rw [hw0, wBench, if_pos (by omega)]
      obtain ⟨FF, hFF⟩ : ∃ FF : Int → Int, FF = F95 := ⟨_, rfl⟩
      obtain ⟨CF, hCF⟩ : ∃ CF : Int → Int → Int, CF = C95 := ⟨_, rfl⟩
      rw [← hFF, ← hCF] at hT hM
      rw [hwF] at hT
      refine xr_aload_n dX4_writeBench_138 rfl (by first | rfl | exact isRef_rf _) ?_
      refine xr_getfield (ci := 14) (T := TX4) (N := 23) (i := 12) hM.1.1 rfl (by decide) in_X4 q2203 (.inl rfl) dX4_writeBench_139 (by rfl) ?_
      rw [hT.1.1]
      refine xr_ireturn rfl rfl dX4_writeBench_142 ?_
      rw [hpo]
      obtain ⟨a1, a2, a3, a4, a5, a6⟩ := hS
      obtain ⟨t1, t2, t3⟩ := hT
      have t2' : ∀ k : Int, k ≠ 0 → k ≠ 12 → FF k = F k := fun k h0 h1 => (t2 k h1).trans (updI_ne h0)
      have hS9 : MRS FF CF S H I (wBench P b (0, fun _ => 0)) se rj := by
        refine ⟨?_, ?_, ?_, t1, ?_, ?_⟩
        · unfold HC at *; rw [t2' 6 (by omega) (by omega), t3 4 (by omega)]; exact a1
        · unfold SC at *; rw [t2' 7 (by omega) (by omega), t3 3 (by omega)]; exact a2
        · rw [t2' 11 (by omega) (by omega), t3 8 (by omega)]; exact a3
        · rw [t2' 13 (by omega) (by omega)]; exact a5
        · unfold RC at *; rw [t2' 14 (by omega) (by omega), t2' 15 (by omega) (by omega), t2' 16 (by omega) (by omega)]; exact a6
      exact ⟨_, rfl, hM.2, Or.inl ⟨by omega, rfl, FF, CF, hM.1, (t2 0 (by decide)).trans updI_eq, hS9⟩⟩
    · skip
      refine xr_aload_n dX4_writeBench_107 rfl (by first | rfl | exact isRef_rf _) ?_
      refine xr_bipush dX4_writeBench_108 (by decide) ?_
      refine xr_callV (n9 := 1) (rc' := 0) (rs' := 0) (k_M_writes hG hM.1 hT (by omega)) hM.1.1 rfl q2648 q2650 qs78 q96 q2651 (by decide +kernel) rfl ⟨by decide, Nat.le_of_ble_eq_true rfl⟩ ⟨Nat.le_of_ble_eq_true rfl, Nat.le_of_ble_eq_true rfl⟩ (Nat.le_of_ble_eq_true rfl) dX4_writeBench_110 rfl (fun r w110 hw => ?_) (fun _ _ _ h => h.elim)
      obtain ⟨F110, C110, rfl, hw, hT⟩ := hw
      have hM := hM.tr hw
      obtain ⟨s110, hs110⟩ : ∃ s, s = tC s95 (61) := ⟨_, rfl⟩
      rw [← hs110] at hT
      have hn110 : s110.1 ≤ 15 := by rw [hs110]; have := tC_len (s := s95) (c := 61); omega
      refine xr_aload_n dX4_writeBench_113 rfl (by first | rfl | exact isRef_rf _) ?_
      refine xr_aload_n dX4_writeBench_114 rfl (by first | rfl | exact isRef_rf _) ?_
      refine xr_iload_n dX4_writeBench_115 rfl ?_
      refine xr_callV (n9 := 1) (rc' := 0) (rs' := 0) (k_M_by hG hM.1 (by omega)) hM.1.1 rfl q2487 q2489 qs65 q96 q2490 (by decide +kernel) rfl ⟨by decide, Nat.le_of_ble_eq_true rfl⟩ ⟨Nat.le_of_ble_eq_true rfl, Nat.le_of_ble_eq_true rfl⟩ (Nat.le_of_ble_eq_true rfl) dX4_writeBench_116 rfl (xk_r ?_) (fun _ _ _ h => h.elim)
      refine xr_callV (n9 := 1) (rc' := 0) (rs' := 0) (k_M_writesNumber hG hM.1 hT (by omega) (by omega)) hM.1.1 rfl q2644 q2646 qs77 q96 q2647 (by decide +kernel) rfl ⟨by decide, Nat.le_of_ble_eq_true rfl⟩ ⟨Nat.le_of_ble_eq_true rfl, Nat.le_of_ble_eq_true rfl⟩ (Nat.le_of_ble_eq_true rfl) dX4_writeBench_119 rfl (fun r w119 hw => ?_) (fun _ _ _ h => h.elim)
      obtain ⟨F119, C119, rfl, hw, hT⟩ := hw
      have hM := hM.tr hw
      obtain ⟨s119, hs119⟩ : ∃ s, s = tN s110 (P (13 + 6 * b) - 1) := ⟨_, rfl⟩
      rw [← hs119] at hT
      have hn119 : s119.1 ≤ 17 := by rw [hs119]; have := tN_len (s := s110) (v := P (13 + 6 * b) - 1); omega
      refine xr_aload_n dX4_writeBench_122 rfl (by first | rfl | exact isRef_rf _) ?_
      refine xr_bipush dX4_writeBench_123 (by decide) ?_
      refine xr_callV (n9 := 1) (rc' := 0) (rs' := 0) (k_M_writes hG hM.1 hT (by omega)) hM.1.1 rfl q2648 q2650 qs78 q96 q2651 (by decide +kernel) rfl ⟨by decide, Nat.le_of_ble_eq_true rfl⟩ ⟨Nat.le_of_ble_eq_true rfl, Nat.le_of_ble_eq_true rfl⟩ (Nat.le_of_ble_eq_true rfl) dX4_writeBench_125 rfl (fun r w125 hw => ?_) (fun _ _ _ h => h.elim)
      obtain ⟨F125, C125, rfl, hw, hT⟩ := hw
      have hM := hM.tr hw
      obtain ⟨s125, hs125⟩ : ∃ s, s = tC s119 (47) := ⟨_, rfl⟩
      rw [← hs125] at hT
      have hn125 : s125.1 ≤ 18 := by rw [hs125]; have := tC_len (s := s119) (c := 47); omega
      refine xr_aload_n dX4_writeBench_128 rfl (by first | rfl | exact isRef_rf _) ?_
      refine xr_aload_n dX4_writeBench_129 rfl (by first | rfl | exact isRef_rf _) ?_
      refine xr_iload_n dX4_writeBench_130 rfl ?_
      refine xr_iconst dX4_writeBench_131 ?_
      refine xr_callV (n9 := 2) (rc' := 0) (rs' := 0) (k_M_bench_5 hG hM.1 (by omega)) hM.1.1 rfl q2291 q2293 qs41 q96 q2294 (by decide +kernel) rfl ⟨by decide, Nat.le_of_ble_eq_true rfl⟩ ⟨Nat.le_of_ble_eq_true rfl, Nat.le_of_ble_eq_true rfl⟩ (Nat.le_of_ble_eq_true rfl) dX4_writeBench_132 rfl (xk_r ?_) (fun _ _ _ h => h.elim)
      refine xr_callV (n9 := 1) (rc' := 0) (rs' := 0) (k_M_writesNumber hG hM.1 hT (by omega) (by omega)) hM.1.1 rfl q2644 q2646 qs77 q96 q2647 (by decide +kernel) rfl ⟨by decide, Nat.le_of_ble_eq_true rfl⟩ ⟨Nat.le_of_ble_eq_true rfl, Nat.le_of_ble_eq_true rfl⟩ (Nat.le_of_ble_eq_true rfl) dX4_writeBench_135 rfl (fun r w135 hw => ?_) (fun _ _ _ h => h.elim)
      obtain ⟨F135, C135, rfl, hw, hT⟩ := hw
      have hM := hM.tr hw
      obtain ⟨s135, hs135⟩ : ∃ s, s = tN s125 (P (15 + 6 * b)) := ⟨_, rfl⟩
      rw [← hs135] at hT
      have hn135 : s135.1 ≤ 20 := by rw [hs135]; have := tN_len (s := s125) (v := P (15 + 6 * b)); omega
      have hwF : s135 = wBench P b (0, fun _ => 0) := by rw [hs135, hs125, hs119, hs110, hw0, wBench, if_neg (by omega)]
      obtain ⟨FF, hFF⟩ : ∃ FF : Int → Int, FF = F135 := ⟨_, rfl⟩
      obtain ⟨CF, hCF⟩ : ∃ CF : Int → Int → Int, CF = C135 := ⟨_, rfl⟩
      rw [← hFF, ← hCF] at hT hM
      rw [hwF] at hT
      refine xr_aload_n dX4_writeBench_138 rfl (by first | rfl | exact isRef_rf _) ?_
      refine xr_getfield (ci := 14) (T := TX4) (N := 23) (i := 12) hM.1.1 rfl (by decide) in_X4 q2203 (.inl rfl) dX4_writeBench_139 (by rfl) ?_
      rw [hT.1.1]
      refine xr_ireturn rfl rfl dX4_writeBench_142 ?_
      rw [hpo]
      obtain ⟨a1, a2, a3, a4, a5, a6⟩ := hS
      obtain ⟨t1, t2, t3⟩ := hT
      have t2' : ∀ k : Int, k ≠ 0 → k ≠ 12 → FF k = F k := fun k h0 h1 => (t2 k h1).trans (updI_ne h0)
      have hS9 : MRS FF CF S H I (wBench P b (0, fun _ => 0)) se rj := by
        refine ⟨?_, ?_, ?_, t1, ?_, ?_⟩
        · unfold HC at *; rw [t2' 6 (by omega) (by omega), t3 4 (by omega)]; exact a1
        · unfold SC at *; rw [t2' 7 (by omega) (by omega), t3 3 (by omega)]; exact a2
        · rw [t2' 11 (by omega) (by omega), t3 8 (by omega)]; exact a3
        · rw [t2' 13 (by omega) (by omega)]; exact a5
        · unfold RC at *; rw [t2' 14 (by omega) (by omega), t2' 15 (by omega) (by omega), t2' 16 (by omega) (by omega)]; exact a6
      exact ⟨_, rfl, hM.2, Or.inl ⟨by omega, rfl, FF, CF, hM.1, (t2 0 (by decide)).trans updI_eq, hS9⟩⟩
theorem k_N_writeRow {g : GG} {w : WW} {m : Nat} {A : Int → Nat} {th : Int} {P : Int → Int} {S : Option (Int → Int)} {H : List (Int → Int)} {I O : Tx} {se : Option Int} {rj : Option (Int × Int × Int)} {b N : Int} (hG : Base g) (hX : MR g w m A th P S H I O se rj) (hB : PB P N) (hr : (-2147483648 ≤ b ∧ b < 2147483648)) : Ct g yX4_writeRow (.code yX4_writeRow cX4_writeRow 4 (some .int)) 2 45 0 0 w [.ref m, .int (iI b)] (fun r_ w1 => ∃ y : Int, r_ = some (.int (iI y)) ∧ Fr (MS m A) w w1 ∧ (((0 ≤ b ∧ b ≤ 5) ∧ y = (wRow P b).1 ∧ MR g w1 m A 0 P S H I (wRow P b) se rj) ∨ (¬ (0 ≤ b ∧ b ≤ 5) ∧ MR g w1 m A 1 P S H I O se rj))) xF := by
  refine Ct.of (lv := [some _, some _, none, none]) hG (by decide +kernel) (Nat.le_of_ble_eq_true rfl) rfl ?_
  intro z hg hpo hxp hnm htab
  subst hg
  obtain ⟨F, C, hM, -, hS⟩ := hX
  have hM : MDF (zg z) w w m A F P C := ⟨hM, Fr.rf⟩
  have h68 : 0 ≤ F 6 ∧ F 6 ≤ 8 := by have := hS.1.1; have := hS.1.2.1; omega
  have hgg := hB.g
  refine xr_aload_n dX4_writeRow_0 rfl (by first | rfl | exact isRef_rf _) ?_
  refine xr_iload_n dX4_writeRow_1 rfl ?_
  refine xr_iconst dX4_writeRow_2 ?_
  refine xr_iconst dX4_writeRow_3 ?_
  refine xr_callS (n9 := 3) (rc' := 0) (rs' := 0) (k_M_in hG (by omega)) q2280 q2281 q96 q2282 (by decide +kernel) rfl ⟨by decide, Nat.le_of_ble_eq_true rfl⟩ ⟨Nat.le_of_ble_eq_true rfl, Nat.le_of_ble_eq_true rfl⟩ (Nat.le_of_ble_eq_true rfl) dX4_writeRow_4 rfl (xk_r ?_) (fun _ _ _ h => h.elim)
  refine xr_ifb_eq (tgt := 14) dX4_writeRow_7 (by decide) (fun c7 => ?_) (fun c7 => ?_)
  · skip
    try simp only [decide_eq_true_eq, decide_eq_false_iff_not] at c7
    refine xr_iconst dX4_writeRow_14 ?_
    refine xr_putfield (ci := 14) (T := TX4) (N := 23) (i := 0) (fs' := [_, _, _, _, _, _, _, _, _, _, _, _, _, _, _, _, _, _, _, _, _, _, _]) hM.1.1 rfl (by decide) in_X4 tyX4 tyX4_ok nmX4 q2191 (.inl rfl) rfl dX4_writeRow_15 (by rfl) (by rfl) (by simp) (by rfl) (.inl rfl) (fun _ => ?_)
    refine xr_mput (i := 0) hM (by rfl) (fun w15 hM => ?_)
    refine xr_aload_n dX4_writeRow_18 rfl (by first | rfl | exact isRef_rf _) ?_
    refine xr_getfield (ci := 14) (T := TX4) (N := 23) (i := 0) hM.1.1 rfl (by decide) in_X4 q2191 (.inl rfl) dX4_writeRow_19 (by rfl) ?_
    rw [updI_eq]
    refine xr_if_le (tgt := 27) dX4_writeRow_22 (by decide) (by decide) (fun c22 => absurd c22 (by decide)) (fun c22 => ?_)
    refine xr_iconst dX4_writeRow_25 ?_
    refine xr_ireturn rfl rfl dX4_writeRow_26 ?_
    rw [hpo]
    exact ⟨0, rfl, hM.2, Or.inr ⟨by omega, _, _, hM.1, updI_eq, hS.to (fun k hk => updI_ne (by omega)) (fun j hj => rfl)⟩⟩
  · skip
    try simp only [decide_eq_true_eq, decide_eq_false_iff_not] at c7
    refine xr_iconst dX4_writeRow_10 ?_
    refine xr_goto (tgt := 15) dX4_writeRow_11 (by decide) ?_
    refine xr_putfield (ci := 14) (T := TX4) (N := 23) (i := 0) (fs' := [_, _, _, _, _, _, _, _, _, _, _, _, _, _, _, _, _, _, _, _, _, _, _]) hM.1.1 rfl (by decide) in_X4 tyX4 tyX4_ok nmX4 q2191 (.inl rfl) rfl dX4_writeRow_15 (by rfl) (by rfl) (by simp) (by rfl) (.inl rfl) (fun _ => ?_)
    refine xr_mput (i := 0) hM (by rfl) (fun w15 hM => ?_)
    refine xr_aload_n dX4_writeRow_18 rfl (by first | rfl | exact isRef_rf _) ?_
    refine xr_getfield (ci := 14) (T := TX4) (N := 23) (i := 0) hM.1.1 rfl (by decide) in_X4 q2191 (.inl rfl) dX4_writeRow_19 (by rfl) ?_
    rw [updI_eq]
    refine xr_if_le (tgt := 27) dX4_writeRow_22 (by decide) (by decide) (fun c22 => ?_) (fun c22 => absurd c22 (by decide))
    refine xr_aload_n dX4_writeRow_27 rfl (by first | rfl | exact isRef_rf _) ?_
    refine xr_iconst dX4_writeRow_28 ?_
    refine xr_putfield (ci := 14) (T := TX4) (N := 23) (i := 12) (fs' := [_, _, _, _, _, _, _, _, _, _, _, _, _, _, _, _, _, _, _, _, _, _, _]) hM.1.1 rfl (by decide) in_X4 tyX4 tyX4_ok nmX4 q2203 (.inl rfl) rfl dX4_writeRow_29 (by rfl) (by rfl) (by simp) (by rfl) (.inl rfl) (fun _ => ?_)
    refine xr_mput (i := 12) hM (by rfl) (fun w29 hM => ?_)
    obtain ⟨s28, hs28⟩ : ∃ s : Tx, s = (0, fun _ => 0) := ⟨_, rfl⟩
    have hT : TO (updI F 0 0) C (updI (updI F 0 0) 12 0) C s28 := ⟨⟨by rw [updI_eq, hs28]; rfl, by rw [hs28]; exact Nat.zero_le _, fun k h0 h1 => by rw [hs28] at h1; have h1 : k < ((0 : Nat) : Int) := h1; omega⟩, fun k hk => updI_ne hk, fun _ _ => rfl⟩
    have hn28 : s28.1 ≤ 0 := by rw [hs28]; exact Nat.le_refl _
    refine xr_iconst dX4_writeRow_32 ?_
    refine xr_istore_n (lv' := [some _, some _, some _, none]) dX4_writeRow_33 (by decide) rfl rfl ?_
    refine xr_lv (lvw_s (lvw_s (lvw_s (lvw_n (lvw_nil))))) ?_
    have lp34 : ∀ (fu34 : Nat) (w9 : WW) (FF : Int → Int) (CF : Int → Int → Int) (s9 : Tx) (c : Int), 0 ≤ c → c ≤ 6 → 6 - c < fu34 → s9.1 ≤ c.toNat → MDF (zg z) w w9 m A FF P CF → TO (updI F 0 0) C FF CF s9 → wRowF P b (6 - c).toNat c s9 = wRow P b → XJ z yX4_writeRow.cls cX4_writeRow 4 (some .int) 2 45 w9 (0 * fu34 + 0) (0 * fu34 + 0) 34 [some (.ref m), some (.int (iI b)), some (.int (iI c)), none] [] := by
      intro fu34
      induction fu34 with
      | zero =>
        intro w9 FF CF s9 c hc0 hc6 hfu hn9 hM hT hr9
        omega
      | succ fu34 ih34 =>
        intro w9 FF CF s9 c hc0 hc6 hfu hn9 hM hT hr9
        refine xr_iload_n dX4_writeRow_34 rfl ?_
        refine xr_bipush dX4_writeRow_35 (by decide) ?_
        refine xr_icmp_ge (tgt := 100) dX4_writeRow_37 (by decide) (by omega) (fun c37 => ?_) (fun c37 => ?_)
        · skip
          have hwF : s9 = wRow P b := by rw [← hr9, show (6 - c).toNat = 0 by omega]; rfl
          rw [hwF] at hT
          refine xr_aload_n dX4_writeRow_100 rfl (by first | rfl | exact isRef_rf _) ?_
          refine xr_getfield (ci := 14) (T := TX4) (N := 23) (i := 12) hM.1.1 rfl (by decide) in_X4 q2203 (.inl rfl) dX4_writeRow_101 (by rfl) ?_
          rw [hT.1.1]
          refine xr_ireturn rfl rfl dX4_writeRow_104 ?_
          rw [hpo]
          obtain ⟨a1, a2, a3, a4, a5, a6⟩ := hS
          obtain ⟨t1, t2, t3⟩ := hT
          have t2' : ∀ k : Int, k ≠ 0 → k ≠ 12 → FF k = F k := fun k h0 h1 => (t2 k h1).trans (updI_ne h0)
          have hS9 : MRS FF CF S H I (wRow P b) se rj := by
            refine ⟨?_, ?_, ?_, t1, ?_, ?_⟩
            · unfold HC at *; rw [t2' 6 (by omega) (by omega), t3 4 (by omega)]; exact a1
            · unfold SC at *; rw [t2' 7 (by omega) (by omega), t3 3 (by omega)]; exact a2
            · rw [t2' 11 (by omega) (by omega), t3 8 (by omega)]; exact a3
            · rw [t2' 13 (by omega) (by omega)]; exact a5
            · unfold RC at *; rw [t2' 14 (by omega) (by omega), t2' 15 (by omega) (by omega), t2' 16 (by omega) (by omega)]; exact a6
          exact ⟨_, rfl, hM.2, Or.inl ⟨by omega, rfl, FF, CF, hM.1, (t2 0 (by decide)).trans updI_eq, hS9⟩⟩
        · skip
          refine xr_aload_n dX4_writeRow_40 rfl (by first | rfl | exact isRef_rf _) ?_
          refine xr_iload_n dX4_writeRow_41 rfl ?_
          refine xr_iload_n dX4_writeRow_42 rfl ?_
          refine xr_callV (n9 := 2) (rc' := 0 * fu34 + 0) (rs' := 0 * fu34 + 0) (k_M_holder hG hM.1 hB (by omega)) hM.1.1 rfl q2287 q2289 qs40 q96 q2290 (by decide +kernel) rfl ⟨by decide, Nat.le_of_ble_eq_true rfl⟩ ⟨by omega, by omega⟩ (Nat.le_of_ble_eq_true rfl) dX4_writeRow_43 rfl (xk_r ?_) (fun _ _ _ h => h.elim)
          have b1 := benchIn_bd (P := P) (r := b) (c := c)
          have b2 := fountIn_bd (P := P) (r := b) (c := c)
          have hsg : signOf P b c = if holder P b c = -1 then 46 else if holder P b c < 10 then 48 + holder P b c else if P (73 + 4 * (holder P b c - 10)) = 1 then 70 else 102 := by
            unfold signOf holder
            by_cases h1 : benchIn P b c ≠ -1
            · rw [if_pos h1, if_pos h1, if_neg (by omega), if_pos (by omega)]
            · rw [if_neg h1, if_neg h1]
              by_cases h2 : fountIn P b c ≠ -1
              · rw [if_pos h2, if_neg (show ¬ fountIn P b c = -1 by omega), if_neg (show ¬ 10 + fountIn P b c = -1 by omega), if_neg (show ¬ 10 + fountIn P b c < 10 by omega), show 10 + fountIn P b c - 10 = fountIn P b c by omega]
              · rw [if_neg h2, if_pos (by omega), if_pos rfl]
          have hhb : -1 ≤ holder P b c ∧ holder P b c ≤ 13 ∧ (10 ≤ holder P b c → holder P b c - 10 < P 1) := by
            unfold holder
            split
            · omega
            · split <;> omega
          refine xr_istore_n (lv' := [some _, some _, some _, some _]) dX4_writeRow_46 (by decide) rfl rfl ?_
          refine xr_aload_n dX4_writeRow_47 rfl (by first | rfl | exact isRef_rf _) ?_
          refine xr_iload_n dX4_writeRow_48 rfl ?_
          refine xr_iconst dX4_writeRow_49 ?_
          refine xr_icmp_ne (tgt := 58) dX4_writeRow_50 (by decide) (by omega) (fun c50 => ?_) (fun c50 => ?_)
          · skip
            refine xr_iload_n dX4_writeRow_58 rfl ?_
            refine xr_bipush dX4_writeRow_59 (by decide) ?_
            refine xr_icmp_ge (tgt := 71) dX4_writeRow_61 (by decide) (by omega) (fun c61 => ?_) (fun c61 => ?_)
            · skip
              refine xr_aload_n dX4_writeRow_71 rfl (by first | rfl | exact isRef_rf _) ?_
              refine xr_iload_n dX4_writeRow_72 rfl ?_
              refine xr_bipush dX4_writeRow_73 (by decide) ?_
              refine xr_isub dX4_writeRow_75 ?_
              refine xr_iconst dX4_writeRow_76 ?_
              refine xr_callV (n9 := 2) (rc' := 0 * fu34 + 0) (rs' := 0 * fu34 + 0) (k_M_fountain_3 hG hM.1 (by omega)) hM.1.1 rfl q2295 q2297 qs42 q96 q2298 (by decide +kernel) rfl ⟨by decide, Nat.le_of_ble_eq_true rfl⟩ ⟨by omega, by omega⟩ (Nat.le_of_ble_eq_true rfl) dX4_writeRow_77 rfl (xk_r ?_) (fun _ _ _ h => h.elim)
              have hff := hB.f (f := holder P b c - 10) (by omega)
              refine xr_iconst dX4_writeRow_80 ?_
              refine xr_icmp_ne (tgt := 89) dX4_writeRow_81 (by decide) (by omega) (fun c81 => ?_) (fun c81 => ?_)
              · skip
                refine xr_bipush dX4_writeRow_89 (by decide) ?_
                refine xr_callV (n9 := 1) (rc' := 0 * fu34 + 0) (rs' := 0 * fu34 + 0) (k_M_writes hG hM.1 hT (by omega)) hM.1.1 rfl q2648 q2650 qs78 q96 q2651 (by decide +kernel) rfl ⟨by decide, Nat.le_of_ble_eq_true rfl⟩ ⟨by omega, by omega⟩ (Nat.le_of_ble_eq_true rfl) dX4_writeRow_91 rfl (fun r w91 hw => ?_) (fun _ _ _ h => h.elim)
                obtain ⟨F91, C91, rfl, hw, hT⟩ := hw
                have hM := hM.tr hw
                have hTs : TO (updI F 0 0) C F91 C91 (tC s9 (signOf P b c)) := by
                  rw [hsg]
                  first
                    | (rw [if_pos (by omega)]; exact hT)
                    | (rw [if_neg (by omega), if_pos (by omega)]; exact hT)
                    | (rw [if_neg (by omega), if_neg (by omega), if_pos (by omega)]; exact hT)
                    | (rw [if_neg (by omega), if_neg (by omega), if_neg (by omega)]; exact hT)
                refine xr_iinc (lv' := [some _, some _, some _, some _]) dX4_writeRow_94 rfl (by decide) rfl rfl ?_
                refine xr_goto (tgt := 34) dX4_writeRow_97 (by decide) ?_
                refine xr_lv (lvw_s (lvw_s (lvw_s (lvw_n (lvw_nil))))) ?_
                refine xr_wk (rc' := 0 * fu34 + 0) (rs' := 0 * fu34 + 0) ⟨by omega, by omega⟩ (ih34 _ F91 C91 (tC s9 (signOf P b c)) (c + 1) (by omega) (by omega) (by omega) (by show s9.1 + 1 ≤ _; omega) hM hTs (by rw [← hr9, show (6 - c).toNat = (6 - (c + 1)).toNat + 1 by omega]; rfl))
              · skip
                refine xr_bipush dX4_writeRow_84 (by decide) ?_
                refine xr_goto (tgt := 91) dX4_writeRow_86 (by decide) ?_
                refine xr_callV (n9 := 1) (rc' := 0 * fu34 + 0) (rs' := 0 * fu34 + 0) (k_M_writes hG hM.1 hT (by omega)) hM.1.1 rfl q2648 q2650 qs78 q96 q2651 (by decide +kernel) rfl ⟨by decide, Nat.le_of_ble_eq_true rfl⟩ ⟨by omega, by omega⟩ (Nat.le_of_ble_eq_true rfl) dX4_writeRow_91 rfl (fun r w91 hw => ?_) (fun _ _ _ h => h.elim)
                obtain ⟨F91, C91, rfl, hw, hT⟩ := hw
                have hM := hM.tr hw
                have hTs : TO (updI F 0 0) C F91 C91 (tC s9 (signOf P b c)) := by
                  rw [hsg]
                  first
                    | (rw [if_pos (by omega)]; exact hT)
                    | (rw [if_neg (by omega), if_pos (by omega)]; exact hT)
                    | (rw [if_neg (by omega), if_neg (by omega), if_pos (by omega)]; exact hT)
                    | (rw [if_neg (by omega), if_neg (by omega), if_neg (by omega)]; exact hT)
                refine xr_iinc (lv' := [some _, some _, some _, some _]) dX4_writeRow_94 rfl (by decide) rfl rfl ?_
                refine xr_goto (tgt := 34) dX4_writeRow_97 (by decide) ?_
                refine xr_lv (lvw_s (lvw_s (lvw_s (lvw_n (lvw_nil))))) ?_
                refine xr_wk (rc' := 0 * fu34 + 0) (rs' := 0 * fu34 + 0) ⟨by omega, by omega⟩ (ih34 _ F91 C91 (tC s9 (signOf P b c)) (c + 1) (by omega) (by omega) (by omega) (by show s9.1 + 1 ≤ _; omega) hM hTs (by rw [← hr9, show (6 - c).toNat = (6 - (c + 1)).toNat + 1 by omega]; rfl))
            · skip
              refine xr_bipush dX4_writeRow_64 (by decide) ?_
              refine xr_iload_n dX4_writeRow_66 rfl ?_
              refine xr_iadd dX4_writeRow_67 ?_
              refine xr_goto (tgt := 91) dX4_writeRow_68 (by decide) ?_
              refine xr_callV (n9 := 1) (rc' := 0 * fu34 + 0) (rs' := 0 * fu34 + 0) (k_M_writes hG hM.1 hT (by omega)) hM.1.1 rfl q2648 q2650 qs78 q96 q2651 (by decide +kernel) rfl ⟨by decide, Nat.le_of_ble_eq_true rfl⟩ ⟨by omega, by omega⟩ (Nat.le_of_ble_eq_true rfl) dX4_writeRow_91 rfl (fun r w91 hw => ?_) (fun _ _ _ h => h.elim)
              obtain ⟨F91, C91, rfl, hw, hT⟩ := hw
              have hM := hM.tr hw
              have hTs : TO (updI F 0 0) C F91 C91 (tC s9 (signOf P b c)) := by
                rw [hsg]
                first
                  | (rw [if_pos (by omega)]; exact hT)
                  | (rw [if_neg (by omega), if_pos (by omega)]; exact hT)
                  | (rw [if_neg (by omega), if_neg (by omega), if_pos (by omega)]; exact hT)
                  | (rw [if_neg (by omega), if_neg (by omega), if_neg (by omega)]; exact hT)
              refine xr_iinc (lv' := [some _, some _, some _, some _]) dX4_writeRow_94 rfl (by decide) rfl rfl ?_
              refine xr_goto (tgt := 34) dX4_writeRow_97 (by decide) ?_
              refine xr_lv (lvw_s (lvw_s (lvw_s (lvw_n (lvw_nil))))) ?_
              refine xr_wk (rc' := 0 * fu34 + 0) (rs' := 0 * fu34 + 0) ⟨by omega, by omega⟩ (ih34 _ F91 C91 (tC s9 (signOf P b c)) (c + 1) (by omega) (by omega) (by omega) (by show s9.1 + 1 ≤ _; omega) hM hTs (by rw [← hr9, show (6 - c).toNat = (6 - (c + 1)).toNat + 1 by omega]; rfl))
          · skip
            refine xr_bipush dX4_writeRow_53 (by decide) ?_
            refine xr_goto (tgt := 91) dX4_writeRow_55 (by decide) ?_
            refine xr_callV (n9 := 1) (rc' := 0 * fu34 + 0) (rs' := 0 * fu34 + 0) (k_M_writes hG hM.1 hT (by omega)) hM.1.1 rfl q2648 q2650 qs78 q96 q2651 (by decide +kernel) rfl ⟨by decide, Nat.le_of_ble_eq_true rfl⟩ ⟨by omega, by omega⟩ (Nat.le_of_ble_eq_true rfl) dX4_writeRow_91 rfl (fun r w91 hw => ?_) (fun _ _ _ h => h.elim)
            obtain ⟨F91, C91, rfl, hw, hT⟩ := hw
            have hM := hM.tr hw
            have hTs : TO (updI F 0 0) C F91 C91 (tC s9 (signOf P b c)) := by
              rw [hsg]
              first
                | (rw [if_pos (by omega)]; exact hT)
                | (rw [if_neg (by omega), if_pos (by omega)]; exact hT)
                | (rw [if_neg (by omega), if_neg (by omega), if_pos (by omega)]; exact hT)
                | (rw [if_neg (by omega), if_neg (by omega), if_neg (by omega)]; exact hT)
            refine xr_iinc (lv' := [some _, some _, some _, some _]) dX4_writeRow_94 rfl (by decide) rfl rfl ?_
            refine xr_goto (tgt := 34) dX4_writeRow_97 (by decide) ?_
            refine xr_lv (lvw_s (lvw_s (lvw_s (lvw_n (lvw_nil))))) ?_
            refine xr_wk (rc' := 0 * fu34 + 0) (rs' := 0 * fu34 + 0) ⟨by omega, by omega⟩ (ih34 _ F91 C91 (tC s9 (signOf P b c)) (c + 1) (by omega) (by omega) (by omega) (by show s9.1 + 1 ≤ _; omega) hM hTs (by rw [← hr9, show (6 - c).toNat = (6 - (c + 1)).toNat + 1 by omega]; rfl))
    refine xr_wk (rc' := 0 * 7 + 0) (rs' := 0 * 7 + 0) ⟨by omega, by omega⟩ (lp34 7 _ _ _ s28 0 (by omega) (by omega) (by omega) hn28 hM hT (by rw [hs28]; rfl))
theorem k_N_outputAt {g : GG} {w : WW} {m : Nat} {A : Int → Nat} {th : Int} {P : Int → Int} {S : Option (Int → Int)} {H : List (Int → Int)} {I O : Tx} {se : Option Int} {rj : Option (Int × Int × Int)} {b : Int} (hG : Base g) (hX : MR g w m A th P S H I O se rj) (hO : ∀ k : Int, 0 ≤ k → k < O.1 → 0 ≤ O.2 k ∧ O.2 k ≤ 127) (hr : (-2147483648 ≤ b ∧ b < 2147483648)) : Ct g yX4_outputAt (.code yX4_outputAt cX4_outputAt 2 (some .char)) 1 22 0 0 w [.ref m, .int (iI b)] (fun r_ w1 => ∃ y : Int, r_ = some (.int (iI y)) ∧ Fr (MS m A) w w1 ∧ (((0 ≤ b ∧ b ≤ (O.1 : Int) - 1) ∧ y = O.2 b ∧ MR g w1 m A 0 P S H I O se rj) ∨ (¬ (0 ≤ b ∧ b ≤ (O.1 : Int) - 1) ∧ MR g w1 m A 1 P S H I O se rj))) xF := by
  refine Ct.of (lv := [some _, some _]) hG (by decide +kernel) (Nat.le_of_ble_eq_true rfl) rfl ?_
  intro z hg hpo hxp hnm htab
  subst hg
  obtain ⟨F, C, hM, -, hS⟩ := hX
  have hM : MDF (zg z) w w m A F P C := ⟨hM, Fr.rf⟩
  have h68 : 0 ≤ F 6 ∧ F 6 ≤ 8 := by have := hS.1.1; have := hS.1.2.1; omega
  obtain ⟨o1, o2, o3⟩ := hS.2.2.2.1
  have o2 : O.1 ≤ 60 := o2
  refine xr_aload_n dX4_outputAt_0 rfl (by first | rfl | exact isRef_rf _) ?_
  refine xr_iload_n dX4_outputAt_1 rfl ?_
  refine xr_iconst dX4_outputAt_2 ?_
  refine xr_aload_n dX4_outputAt_3 rfl (by first | rfl | exact isRef_rf _) ?_
  refine xr_getfield (ci := 14) (T := TX4) (N := 23) (i := 12) hM.1.1 rfl (by decide) in_X4 q2203 (.inl rfl) dX4_outputAt_4 (by rfl) ?_
  rw [o1]
  refine xr_iconst dX4_outputAt_7 ?_
  refine xr_isub dX4_outputAt_8 ?_
  refine xr_callS (n9 := 3) (rc' := 0) (rs' := 0) (k_M_in hG (by omega)) q2280 q2281 q96 q2282 (by decide +kernel) rfl ⟨by decide, Nat.le_of_ble_eq_true rfl⟩ ⟨Nat.le_of_ble_eq_true rfl, Nat.le_of_ble_eq_true rfl⟩ (Nat.le_of_ble_eq_true rfl) dX4_outputAt_9 rfl (xk_r ?_) (fun _ _ _ h => h.elim)
  refine xr_ifb_eq (tgt := 19) dX4_outputAt_12 (by decide) (fun c12 => ?_) (fun c12 => ?_)
  · skip
    try simp only [decide_eq_true_eq, decide_eq_false_iff_not] at c12
    refine xr_iconst dX4_outputAt_19 ?_
    refine xr_putfield (ci := 14) (T := TX4) (N := 23) (i := 0) (fs' := [_, _, _, _, _, _, _, _, _, _, _, _, _, _, _, _, _, _, _, _, _, _, _]) hM.1.1 rfl (by decide) in_X4 tyX4 tyX4_ok nmX4 q2191 (.inl rfl) rfl dX4_outputAt_20 (by rfl) (by rfl) (by simp) (by rfl) (.inl rfl) (fun _ => ?_)
    refine xr_mput (i := 0) hM (by rfl) (fun w20 hM => ?_)
    refine xr_aload_n dX4_outputAt_23 rfl (by first | rfl | exact isRef_rf _) ?_
    refine xr_getfield (ci := 14) (T := TX4) (N := 23) (i := 0) hM.1.1 rfl (by decide) in_X4 q2191 (.inl rfl) dX4_outputAt_24 (by rfl) ?_
    rw [updI_eq]
    refine xr_if_le (tgt := 34) dX4_outputAt_27 (by decide) (by decide) (fun c27 => absurd c27 (by decide)) (fun c27 => ?_)
    refine xr_iconst dX4_outputAt_30 ?_
    refine xr_goto (tgt := 41) dX4_outputAt_31 (by decide) ?_
    refine xr_ireturn rfl (by first | exact nar_ch (by omega) | decide +kernel) dX4_outputAt_41 ?_
    rw [hpo]
    first
      | exact ⟨_, rfl, hM.2, Or.inl ⟨by omega, rfl, _, _, hM.1, updI_eq, hS.to (fun k hk => updI_ne (by omega)) (fun j hj => rfl)⟩⟩
      | exact ⟨_, rfl, hM.2, Or.inr ⟨by omega, _, _, hM.1, updI_eq, hS.to (fun k hk => updI_ne (by omega)) (fun j hj => rfl)⟩⟩
  · skip
    try simp only [decide_eq_true_eq, decide_eq_false_iff_not] at c12
    refine xr_iconst dX4_outputAt_15 ?_
    refine xr_goto (tgt := 20) dX4_outputAt_16 (by decide) ?_
    refine xr_putfield (ci := 14) (T := TX4) (N := 23) (i := 0) (fs' := [_, _, _, _, _, _, _, _, _, _, _, _, _, _, _, _, _, _, _, _, _, _, _]) hM.1.1 rfl (by decide) in_X4 tyX4 tyX4_ok nmX4 q2191 (.inl rfl) rfl dX4_outputAt_20 (by rfl) (by rfl) (by simp) (by rfl) (.inl rfl) (fun _ => ?_)
    refine xr_mput (i := 0) hM (by rfl) (fun w20 hM => ?_)
    refine xr_aload_n dX4_outputAt_23 rfl (by first | rfl | exact isRef_rf _) ?_
    refine xr_getfield (ci := 14) (T := TX4) (N := 23) (i := 0) hM.1.1 rfl (by decide) in_X4 q2191 (.inl rfl) dX4_outputAt_24 (by rfl) ?_
    rw [updI_eq]
    refine xr_if_le (tgt := 34) dX4_outputAt_27 (by decide) (by decide) (fun c27 => ?_) (fun c27 => absurd c27 (by decide))
    refine xr_aload_n dX4_outputAt_34 rfl (by first | rfl | exact isRef_rf _) ?_
    refine xr_getfield (ci := 14) (T := TX4) (N := 23) (i := 10) hM.1.1 rfl (by decide) in_X4 q2201 (.inl rfl) dX4_outputAt_35 (by rfl) ?_
    refine xr_iload_n dX4_outputAt_38 rfl ?_
    refine xr_iaload (hM.1.2.2.1 10 (by decide)) (show (0 : Int) ≤ _ ∧ _ < ((60 : Nat) : Int) from by omega) (by decide) dX4_outputAt_39 ?_
    rw [o3 b (by omega) (by omega)]
    have hob := hO b (by omega) (by omega)
    refine xr_i2cs dX4_outputAt_40 (by omega) ?_
    refine xr_ireturn rfl (by first | exact nar_ch (by omega) | decide +kernel) dX4_outputAt_41 ?_
    rw [hpo]
    first
      | exact ⟨_, rfl, hM.2, Or.inl ⟨by omega, rfl, _, _, hM.1, updI_eq, hS.to (fun k hk => updI_ne (by omega)) (fun j hj => rfl)⟩⟩
      | exact ⟨_, rfl, hM.2, Or.inr ⟨by omega, _, _, hM.1, updI_eq, hS.to (fun k hk => updI_ne (by omega)) (fun j hj => rfl)⟩⟩
