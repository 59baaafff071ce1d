/-! 89.mdoes.lean.txt (written by tools/walker.py)  -/
set_option maxRecDepth 100000
/-- what a command does, in the first model's words -/
def DC (c : Cm) (P F : Int → Int) (r : Int) (F1 P1 : Int → Int) : Prop := ((cA c P = false ∧ r < 0 ∧ P1 = P) ∨ (cA c P = true ∧ 0 < (cR c P).1 ∧ r = (cR c P).1 ∧ P1 = P) ∨ (cA c P = true ∧ (cR c P).1 = 0 ∧ r = 0 ∧ P1 = cO c P)) ∧ (-100 ≤ r ∧ r ≤ 100) ∧ ∀ i : Int, i ≠ 17 → i ≠ 18 → F1 i = F i
theorem MA.cm {c : Cm} {C1 C2 : Prop} {rj : Int × Int} {v r : Int} {P P' F F1 P1 : Int → Int} (h : MA C1 C2 rj v P P' F r F1 P1) (hA : cA c P = true ↔ (C1 ∧ C2)) (hR : cR c P = rj) (hO : cO c P = P') (hr : 0 ≤ rj.1 ∧ rj.1 ≤ 12) : DC c P F r F1 P1 := by
  refine ⟨?_, by rcases h with ⟨-, h, -⟩ | ⟨-, -, h, -⟩ | ⟨-, -, -, h, -⟩ | ⟨-, -, -, h, -⟩ <;> omega, fun i h1 h2 => h.fk h1 h2⟩
  have hf : ¬ (C1 ∧ C2) → cA c P = false := fun q => by
    cases h9 : cA c P with
    | false => rfl
    | true => exact absurd (hA.mp h9) q
  rw [hR, hO]
  rcases h with ⟨c1, rfl, -, rfl⟩ | ⟨c1, c2, rfl, -, rfl⟩ | ⟨c1, c2, c3, rfl, -, rfl⟩ | ⟨c1, c2, c3, rfl, -, rfl⟩
  · exact Or.inl ⟨hf (fun q => c1 q.1), by omega, rfl⟩
  · exact Or.inl ⟨hf (fun q => c2 q.2), by omega, rfl⟩
  · exact Or.inr (Or.inl ⟨hA.mpr ⟨c1, c2⟩, by omega, rfl, rfl⟩)
  · exact Or.inr (Or.inr ⟨hA.mpr ⟨c1, c2⟩, c3, rfl, rfl⟩)
theorem k_M_does {g : GG} {w : WW} {m : Nat} {A : Int → Nat} {F P : Int → Int} {C : Int → Int → Int} {k N : Int} {cm : Cm} (hG : Base g) (hM : MD g w m A F P C) (hB : PB P N) (hC : PCon P) (hN : N + 13000 ≤ 10000000) (hTL : TL (C 9) k cm) (hcm : cmS cm) (hk : 0 ≤ k ∧ k ≤ 20) : Ct g yX4_does (.code yX4_does cX4_does 5 (some .int)) 6 138 0 0 w [.ref m, .int (iI k)] (fun r_ w1 => ∃ (r : Int) (F1 P1 : Int → Int), r_ = some (.int (iI r)) ∧ MDF g w w1 m A F1 P1 C ∧ DC cm P F r F1 P1) xF := by
  refine Ct.of (lv := [some _, some _, none, none, none]) hG (by decide +kernel) (Nat.le_of_ble_eq_true rfl) rfl ?_
  intro z hg hpo hxp hnm htab
  subst hg
  have hM : MDF (zg z) w w m A F P C := ⟨hM, Fr.rf⟩
  obtain ⟨s9, a, b, v⟩ := cm
  obtain ⟨hs, ha9, hb9, hv9⟩ := hcm
  dsimp only at hs ha9 hb9 hv9
  have ht0 : C 9 (4 * k) = s9 := hTL.1
  have ht1 : C 9 (4 * k + 1) = a := hTL.2.1
  have h98 : 0 ≤ (rjBench P a b).1 ∧ (rjBench P a b).1 ≤ 12 := by
    unfold rjBench
    repeat' split
    all_goals simp
  have h102 : 0 ≤ (rjFount P a b).1 ∧ (rjFount P a b).1 ≤ 12 := by
    unfold rjFount
    repeat' split
    all_goals simp
  have h116 : 0 ≤ (rjTenant P).1 ∧ (rjTenant P).1 ≤ 12 := by
    unfold rjTenant
    repeat' split
    all_goals simp
  have h101 : 0 ≤ (rjEnd P a).1 ∧ (rjEnd P a).1 ≤ 12 := by
    unfold rjEnd
    repeat' split
    all_goals simp
  have h114 : 0 ≤ (rjRenew P a b).1 ∧ (rjRenew P a b).1 ≤ 12 := by
    unfold rjRenew
    repeat' split
    all_goals simp
  refine xr_aload_n dX4_does_0 rfl (by first | rfl | exact isRef_rf _) ?_
  refine xr_getfield (ci := 14) (T := TX4) (N := 23) (i := 9) hM.1.1 rfl (by decide) in_X4 q2200 (.inl rfl) dX4_does_1 (by rfl) ?_
  refine xr_iconst dX4_does_4 ?_
  refine xr_iload_n dX4_does_5 rfl ?_
  refine xr_imul dX4_does_6 ?_
  refine xr_iconst dX4_does_7 ?_
  refine xr_iadd dX4_does_8 ?_
  refine xr_iaload (hM.1.2.2.1 9 (by decide)) (show (0 : Int) ≤ _ ∧ _ < ((240 : Nat) : Int) from by omega) (by decide) dX4_does_9 ?_
  rw [ht1]
  refine xr_istore_n (lv' := [some _, some _, some _, none, none]) dX4_does_10 (by decide) rfl rfl ?_
  refine xr_aload_n dX4_does_11 rfl (by first | rfl | exact isRef_rf _) ?_
  refine xr_getfield (ci := 14) (T := TX4) (N := 23) (i := 9) hM.1.1 rfl (by decide) in_X4 q2200 (.inl rfl) dX4_does_12 (by rfl) ?_
  refine xr_iconst dX4_does_15 ?_
  refine xr_iload_n dX4_does_16 rfl ?_
  refine xr_imul dX4_does_17 ?_
  refine xr_iconst dX4_does_18 ?_
  refine xr_iadd dX4_does_19 ?_
  refine xr_iaload (hM.1.2.2.1 9 (by decide)) (show (0 : Int) ≤ _ ∧ _ < ((240 : Nat) : Int) from by omega) (by decide) dX4_does_20 ?_
  refine xr_istore_n (lv' := [some _, some _, some _, some _, none]) dX4_does_21 (by decide) rfl rfl ?_
  refine xr_aload_n dX4_does_22 rfl (by first | rfl | exact isRef_rf _) ?_
  refine xr_getfield (ci := 14) (T := TX4) (N := 23) (i := 9) hM.1.1 rfl (by decide) in_X4 q2200 (.inl rfl) dX4_does_23 (by rfl) ?_
  refine xr_iconst dX4_does_26 ?_
  refine xr_iload_n dX4_does_27 rfl ?_
  refine xr_imul dX4_does_28 ?_
  refine xr_iconst dX4_does_29 ?_
  refine xr_iadd dX4_does_30 ?_
  refine xr_iaload (hM.1.2.2.1 9 (by decide)) (show (0 : Int) ≤ _ ∧ _ < ((240 : Nat) : Int) from by omega) (by decide) dX4_does_31 ?_
  refine xr_istore (lv' := [some _, some _, some _, some _, some _]) dX4_does_32 (by decide) rfl rfl ?_
  refine xr_aload_n dX4_does_34 rfl (by first | rfl | exact isRef_rf _) ?_
  refine xr_getfield (ci := 14) (T := TX4) (N := 23) (i := 9) hM.1.1 rfl (by decide) in_X4 q2200 (.inl rfl) dX4_does_35 (by rfl) ?_
  refine xr_iconst dX4_does_38 ?_
  refine xr_iload_n dX4_does_39 rfl ?_
  refine xr_imul dX4_does_40 ?_
  refine xr_iaload (hM.1.2.2.1 9 (by decide)) (show (0 : Int) ≤ _ ∧ _ < ((240 : Nat) : Int) from by omega) (by decide) dX4_does_41 ?_
  rw [ht0]
  by_cases s42_98 : s9 = 98
  · skip
    have hso : s9 = 98 := s42_98
    subst hso
    have ht2 : C 9 (4 * k + 2) = b := hTL.2.2.1 (by simp)
    rw [ht2]
    have ht3 : C 9 (4 * k + 3) = v := hTL.2.2.2 (by simp)
    rw [ht3]
    refine xr_tableIn (off := 90) (tgt := 132) dX4_does_42 (by omega) (by omega) (by rw [s42_98]; first | rfl | decide) (by decide) ?_
    refine xr_aload_n dX4_does_132 rfl (by first | rfl | exact isRef_rf _) ?_
    refine xr_iload_n dX4_does_133 rfl ?_
    refine xr_iload_n dX4_does_134 rfl ?_
    refine xr_iload dX4_does_135 rfl ?_
    refine xr_callV (n9 := 3) (rc' := 0) (rs' := 0) (k_M_addsBench hG hM.1 hB  ⟨by omega, by omega, by omega⟩) hM.1.1 rfl q2273 q2275 qs38 q96 q2276 (by decide +kernel) rfl ⟨by decide, Nat.le_of_ble_eq_true rfl⟩ ⟨Nat.le_of_ble_eq_true rfl, Nat.le_of_ble_eq_true rfl⟩ (Nat.le_of_ble_eq_true rfl) dX4_does_137 rfl (fun r w137 hw => ?_) (fun _ _ _ h => h.elim)
    obtain ⟨r, F1, P1, rfl, hw, hA⟩ := hw
    have hM := hM.tr hw
    have hDC := hA.cm (c := (98, a, b, v)) (Iff.trans decide_eq_true_iff Iff.rfl) rfl rfl h98
    show XJ _ _ _ _ _ _ _ _ _ _ _ _ [.int (iI r)]
    refine xr_ireturn rfl rfl dX4_does_140 ?_
    rw [hpo]
    exact ⟨r, F1, P1, rfl, hM, hDC⟩
  by_cases s42_101 : s9 = 101
  · skip
    have hso : s9 = 101 := s42_101
    subst hso
    refine xr_tableIn (off := 136) (tgt := 178) dX4_does_42 (by omega) (by omega) (by rw [s42_101]; first | rfl | decide) (by decide) ?_
    refine xr_aload_n dX4_does_178 rfl (by first | rfl | exact isRef_rf _) ?_
    refine xr_iload_n dX4_does_179 rfl ?_
    refine xr_callV (n9 := 1) (rc' := 0) (rs' := 0) (k_M_endsLease hG hM.1 hB  (by omega)) hM.1.1 rfl q2515 q2517 qs68 q96 q2518 (by decide +kernel) rfl ⟨by decide, Nat.le_of_ble_eq_true rfl⟩ ⟨Nat.le_of_ble_eq_true rfl, Nat.le_of_ble_eq_true rfl⟩ (Nat.le_of_ble_eq_true rfl) dX4_does_180 rfl (fun r w180 hw => ?_) (fun _ _ _ h => h.elim)
    obtain ⟨r, F1, P1, rfl, hw, hA⟩ := hw
    have hM := hM.tr hw
    have hDC := hA.cm (c := (101, a, b, v)) (Iff.trans decide_eq_true_iff ⟨fun h => ⟨h, trivial⟩, fun h => h.1⟩) rfl rfl h101
    show XJ _ _ _ _ _ _ _ _ _ _ _ _ [.int (iI r)]
    refine xr_ireturn rfl rfl dX4_does_183 ?_
    rw [hpo]
    exact ⟨r, F1, P1, rfl, hM, hDC⟩
  by_cases s42_102 : s9 = 102
  · skip
    have hso : s9 = 102 := s42_102
    subst hso
    have ht2 : C 9 (4 * k + 2) = b := hTL.2.2.1 (by simp)
    rw [ht2]
    have ht3 : C 9 (4 * k + 3) = v := hTL.2.2.2 (by simp)
    rw [ht3]
    refine xr_tableIn (off := 99) (tgt := 141) dX4_does_42 (by omega) (by omega) (by rw [s42_102]; first | rfl | decide) (by decide) ?_
    refine xr_aload_n dX4_does_141 rfl (by first | rfl | exact isRef_rf _) ?_
    refine xr_iload_n dX4_does_142 rfl ?_
    refine xr_iload_n dX4_does_143 rfl ?_
    refine xr_iload dX4_does_144 rfl ?_
    refine xr_callV (n9 := 3) (rc' := 0) (rs' := 0) (k_M_addsFountain hG hM.1 hB  ⟨by omega, by omega, by omega⟩) hM.1.1 rfl q2331 q2333 qs49 q96 q2334 (by decide +kernel) rfl ⟨by decide, Nat.le_of_ble_eq_true rfl⟩ ⟨Nat.le_of_ble_eq_true rfl, Nat.le_of_ble_eq_true rfl⟩ (Nat.le_of_ble_eq_true rfl) dX4_does_146 rfl (fun r w146 hw => ?_) (fun _ _ _ h => h.elim)
    obtain ⟨r, F1, P1, rfl, hw, hA⟩ := hw
    have hM := hM.tr hw
    have hDC := hA.cm (c := (102, a, b, v)) (Iff.trans decide_eq_true_iff Iff.rfl) rfl rfl h102
    show XJ _ _ _ _ _ _ _ _ _ _ _ _ [.int (iI r)]
    refine xr_ireturn rfl rfl dX4_does_149 ?_
    rw [hpo]
    exact ⟨r, F1, P1, rfl, hM, hDC⟩
  by_cases s42_103 : s9 = 103
  · skip
    have hso : s9 = 103 := s42_103
    subst hso
    have ht2 : C 9 (4 * k + 2) = b := hTL.2.2.1 (by simp)
    rw [ht2]
    refine xr_tableIn (off := 114) (tgt := 156) dX4_does_42 (by omega) (by omega) (by rw [s42_103]; first | rfl | decide) (by decide) ?_
    refine xr_aload_n dX4_does_156 rfl (by first | rfl | exact isRef_rf _) ?_
    refine xr_iload_n dX4_does_157 rfl ?_
    refine xr_iload_n dX4_does_158 rfl ?_
    refine xr_callV (n9 := 2) (rc' := 0) (rs' := 0) (k_M_gives hG hM.1 hB  ⟨(by omega), (by omega)⟩) hM.1.1 rfl q2451 q2453 qs60 q96 q2454 (by decide +kernel) rfl ⟨by decide, Nat.le_of_ble_eq_true rfl⟩ ⟨Nat.le_of_ble_eq_true rfl, Nat.le_of_ble_eq_true rfl⟩ (Nat.le_of_ble_eq_true rfl) dX4_does_159 rfl (fun r w159 hw => ?_) (fun _ _ _ h => h.elim)
    obtain ⟨r, F1, P1, rfl, hw, hA⟩ := hw
    have hM := hM.tr hw
    have hDC := hA.cm (c := (103, a, b, v)) (Iff.trans decide_eq_true_iff Iff.rfl) rfl rfl ⟨Int.le_refl _, by decide⟩
    show XJ _ _ _ _ _ _ _ _ _ _ _ _ [.int (iI r)]
    refine xr_ireturn rfl rfl dX4_does_162 ?_
    rw [hpo]
    exact ⟨r, F1, P1, rfl, hM, hDC⟩
  by_cases s42_105 : s9 = 105
  · skip
    have hso : s9 = 105 := s42_105
    subst hso
    refine xr_tableIn (off := 121) (tgt := 163) dX4_does_42 (by omega) (by omega) (by rw [s42_105]; first | rfl | decide) (by decide) ?_
    refine xr_aload_n dX4_does_163 rfl (by first | rfl | exact isRef_rf _) ?_
    refine xr_iload_n dX4_does_164 rfl ?_
    refine xr_callV (n9 := 1) (rc' := 0) (rs' := 0) (k_M_limits hG hM.1 hB  (by omega)) hM.1.1 rfl q2359 q2361 qs53 q96 q2362 (by decide +kernel) rfl ⟨by decide, Nat.le_of_ble_eq_true rfl⟩ ⟨Nat.le_of_ble_eq_true rfl, Nat.le_of_ble_eq_true rfl⟩ (Nat.le_of_ble_eq_true rfl) dX4_does_165 rfl (fun r w165 hw => ?_) (fun _ _ _ h => h.elim)
    obtain ⟨r, F1, P1, rfl, hw, hA⟩ := hw
    have hM := hM.tr hw
    have hDC := hA.cm (c := (105, a, b, v)) (Iff.trans decide_eq_true_iff ⟨fun h => ⟨h, trivial⟩, fun h => h.1⟩) rfl rfl ⟨Int.le_refl _, by decide⟩
    show XJ _ _ _ _ _ _ _ _ _ _ _ _ [.int (iI r)]
    refine xr_ireturn rfl rfl dX4_does_168 ?_
    rw [hpo]
    exact ⟨r, F1, P1, rfl, hM, hDC⟩
  by_cases s42_108 : s9 = 108
  · skip
    have hso : s9 = 108 := s42_108
    subst hso
    have ht2 : C 9 (4 * k + 2) = b := hTL.2.2.1 (by simp)
    rw [ht2]
    have ht3 : C 9 (4 * k + 3) = v := hTL.2.2.2 (by simp)
    rw [ht3]
    refine xr_tableIn (off := 127) (tgt := 169) dX4_does_42 (by omega) (by omega) (by rw [s42_108]; first | rfl | decide) (by decide) ?_
    refine xr_aload_n dX4_does_169 rfl (by first | rfl | exact isRef_rf _) ?_
    refine xr_iload_n dX4_does_170 rfl ?_
    refine xr_iload_n dX4_does_171 rfl ?_
    refine xr_iload dX4_does_172 rfl ?_
    refine xr_callV (n9 := 3) (rc' := 0) (rs' := 0) (k_M_leases hG hM.1 hB hC ⟨by omega, by omega, by omega⟩) hM.1.1 rfl q2507 q2509 qs67 q96 q2510 (by decide +kernel) rfl ⟨by decide, Nat.le_of_ble_eq_true rfl⟩ ⟨Nat.le_of_ble_eq_true rfl, Nat.le_of_ble_eq_true rfl⟩ (Nat.le_of_ble_eq_true rfl) dX4_does_174 rfl (fun r w174 hw => ?_) (fun _ _ _ h => h.elim)
    obtain ⟨r, F1, P1, rfl, hw, hA⟩ := hw
    have hM := hM.tr hw
    have hDC := hA.cm (c := (108, a, b, v)) (Iff.trans decide_eq_true_iff Iff.rfl) rfl rfl ⟨barred_bd.1, by have := (barred_bd (P := P) (t := a) (b := b)).2; omega⟩
    show XJ _ _ _ _ _ _ _ _ _ _ _ _ [.int (iI r)]
    refine xr_ireturn rfl rfl dX4_does_177 ?_
    rw [hpo]
    exact ⟨r, F1, P1, rfl, hM, hDC⟩
  by_cases s42_114 : s9 = 114
  · skip
    have hso : s9 = 114 := s42_114
    subst hso
    have ht2 : C 9 (4 * k + 2) = b := hTL.2.2.1 (by simp)
    rw [ht2]
    refine xr_tableIn (off := 142) (tgt := 184) dX4_does_42 (by omega) (by omega) (by rw [s42_114]; first | rfl | decide) (by decide) ?_
    refine xr_aload_n dX4_does_184 rfl (by first | rfl | exact isRef_rf _) ?_
    refine xr_iload_n dX4_does_185 rfl ?_
    refine xr_iload_n dX4_does_186 rfl ?_
    refine xr_callV (n9 := 2) (rc' := 0) (rs' := 0) (k_M_renews hG hM.1 hB  ⟨(by omega), (by omega)⟩) hM.1.1 rfl q2527 q2529 qs70 q96 q2530 (by decide +kernel) rfl ⟨by decide, Nat.le_of_ble_eq_true rfl⟩ ⟨Nat.le_of_ble_eq_true rfl, Nat.le_of_ble_eq_true rfl⟩ (Nat.le_of_ble_eq_true rfl) dX4_does_187 rfl (fun r w187 hw => ?_) (fun _ _ _ h => h.elim)
    obtain ⟨r, F1, P1, rfl, hw, hA⟩ := hw
    have hM := hM.tr hw
    have hDC := hA.cm (c := (114, a, b, v)) (Iff.trans decide_eq_true_iff Iff.rfl) rfl rfl h114
    show XJ _ _ _ _ _ _ _ _ _ _ _ _ [.int (iI r)]
    refine xr_ireturn rfl rfl dX4_does_190 ?_
    rw [hpo]
    exact ⟨r, F1, P1, rfl, hM, hDC⟩
  by_cases s42_115 : s9 = 115
  · skip
    have hso : s9 = 115 := s42_115
    subst hso
    refine xr_tableIn (off := 149) (tgt := 191) dX4_does_42 (by omega) (by omega) (by rw [s42_115]; first | rfl | decide) (by decide) ?_
    refine xr_aload_n dX4_does_191 rfl (by first | rfl | exact isRef_rf _) ?_
    refine xr_iload_n dX4_does_192 rfl ?_
    refine xr_callV (n9 := 1) (rc' := 0) (rs' := 0) (k_M_switches hG hM.1 hB  (by omega)) hM.1.1 rfl q2351 q2353 qs52 q96 q2354 (by decide +kernel) rfl ⟨by decide, Nat.le_of_ble_eq_true rfl⟩ ⟨Nat.le_of_ble_eq_true rfl, Nat.le_of_ble_eq_true rfl⟩ (Nat.le_of_ble_eq_true rfl) dX4_does_193 rfl (fun r w193 hw => ?_) (fun _ _ _ h => h.elim)
    obtain ⟨r, F1, P1, rfl, hw, hA⟩ := hw
    have hM := hM.tr hw
    have hDC := hA.cm (c := (115, a, b, v)) (Iff.trans decide_eq_true_iff ⟨fun h => ⟨h, trivial⟩, fun h => h.1⟩) rfl rfl ⟨Int.le_refl _, by decide⟩
    show XJ _ _ _ _ _ _ _ _ _ _ _ _ [.int (iI r)]
    refine xr_ireturn rfl rfl dX4_does_196 ?_
    rw [hpo]
    exact ⟨r, F1, P1, rfl, hM, hDC⟩
  by_cases s42_116 : s9 = 116
  · skip
    have hso : s9 = 116 := s42_116
    subst hso
    refine xr_tableIn (off := 108) (tgt := 150) dX4_does_42 (by omega) (by omega) (by rw [s42_116]; first | rfl | decide) (by decide) ?_
    refine xr_aload_n dX4_does_150 rfl (by first | rfl | exact isRef_rf _) ?_
    refine xr_iload_n dX4_does_151 rfl ?_
    refine xr_callV (n9 := 1) (rc' := 0) (rs' := 0) (k_M_addsTenant hG hM.1 hB  (by omega)) hM.1.1 rfl q2443 q2445 qs59 q96 q2446 (by decide +kernel) rfl ⟨by decide, Nat.le_of_ble_eq_true rfl⟩ ⟨Nat.le_of_ble_eq_true rfl, Nat.le_of_ble_eq_true rfl⟩ (Nat.le_of_ble_eq_true rfl) dX4_does_152 rfl (fun r w152 hw => ?_) (fun _ _ _ h => h.elim)
    obtain ⟨r, F1, P1, rfl, hw, hA⟩ := hw
    have hM := hM.tr hw
    have hDC := hA.cm (c := (116, a, b, v)) (Iff.trans decide_eq_true_iff ⟨fun h => ⟨h, trivial⟩, fun h => h.1⟩) rfl rfl h116
    show XJ _ _ _ _ _ _ _ _ _ _ _ _ [.int (iI r)]
    refine xr_ireturn rfl rfl dX4_does_155 ?_
    rw [hpo]
    exact ⟨r, F1, P1, rfl, hM, hDC⟩
  have hso : s9 = 112 := by omega
  have hd42 : (s9 < 98 ∨ 116 < s9) ∨ (s9 = 99 ∨ s9 = 100 ∨ s9 = 104 ∨ s9 = 106 ∨ s9 = 107 ∨ s9 = 109 ∨ s9 = 110 ∨ s9 = 111 ∨ s9 = 112 ∨ s9 = 113) := by omega
  refine xr_tableD (tgt := 197) dX4_does_42 (by omega) (by rcases hd42 with h8 | h8; exact Or.inl h8; refine Or.inr ⟨by omega, by omega, ?_⟩; rcases h8 with h8 | h8 | h8 | h8 | h8 | h8 | h8 | h8 | h8 | h8 <;> (rw [h8]; rfl)) (by decide) ?_
  refine xr_aload_n dX4_does_197 rfl (by first | rfl | exact isRef_rf _) ?_
  subst hso
  refine xr_iload_n dX4_does_198 rfl ?_
  refine xr_callV (n9 := 1) (rc' := 0) (rs' := 0) (k_M_passes hG hM.1 hB hN (by omega)) hM.1.1 rfl q2559 q2561 qs72 q96 q2562 (by decide +kernel) rfl ⟨by decide, Nat.le_of_ble_eq_true rfl⟩ ⟨Nat.le_of_ble_eq_true rfl, Nat.le_of_ble_eq_true rfl⟩ (Nat.le_of_ble_eq_true rfl) dX4_does_199 rfl (fun r w199 hw => ?_) (fun _ _ _ h => h.elim)
  obtain ⟨r, F1, P1, rfl, hw, hA⟩ := hw
  have hM := hM.tr hw
  have hDC := hA.cm (c := (112, a, b, v)) (Iff.trans decide_eq_true_iff ⟨fun h => ⟨h, trivial⟩, fun h => h.1⟩) rfl rfl ⟨Int.le_refl _, by decide⟩
  show XJ _ _ _ _ _ _ _ _ _ _ _ _ [.int (iI r)]
  refine xr_ireturn rfl rfl dX4_does_202 ?_
  rw [hpo]
  exact ⟨r, F1, P1, rfl, hM, hDC⟩
