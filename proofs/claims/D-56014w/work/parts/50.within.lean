/-! 50.within.lean.txt (written by tools/walker.py)  -/
set_option maxRecDepth 100000
theorem k_P_incomeWithin {g : GG} {w : WW} {n0 : Nat → Prop} {q : Nat} {L : Int → Nat} {P : Int → Int} {N : Int} {m : Int} (hG : Base g) (hL : KL g) (hK : PK g w n0 q L P) (hB : PB P N) (hC : PCon P) (hm : 1 ≤ m ∧ m ≤ 12) (hN : N + 13000 ≤ 10000000) : Ct g yX2_incomeWithin (.code yX2_incomeWithin cX2_incomeWithin 4 (some .int)) 16 3192 343 982 w [.ref q, .int (iI m)] (fun r_ w1 => r_ = some (.int (iI ((oMonths m.toNat P).1 5 - P 5))) ∧ Mo w.2 w w1) xF := by
  refine Ct.of (lv := [some _, some _, none, none]) hG (by decide +kernel) (Nat.le_of_ble_eq_true rfl) rfl ?_
  intro z hg hpo hxp hnm htab
  subst hg
  refine xr_aload_n dX2_incomeWithin_0 rfl (by first | rfl | exact isRef_rf _) ?_
  refine xr_callV (n9 := 0) (rc' := 286) (rs' := 572) (k_P_copy hG hL hK hC) hK.hq rfl q726 q727 q728 q87 q729 (by decide +kernel) rfl ⟨by decide, Nat.le_of_ble_eq_true rfl⟩ ⟨Nat.le_of_ble_eq_true rfl, Nat.le_of_ble_eq_true rfl⟩ (Nat.le_of_ble_eq_true rfl) dX2_incomeWithin_1 rfl (fun r w1 hw => ?_) (fun _ _ _ h => h.elim)
  obtain ⟨q2, L2, rfl, hK2, hg2, hm2⟩ := hw
  refine xr_astore_n (lv' := [some _, some _, some _, none]) dX2_incomeWithin_4 (by decide) rfl (by first | rfl | exact isRef_rf _) rfl ?_
  refine xr_aload_n dX2_incomeWithin_5 rfl (by first | rfl | exact isRef_rf _) ?_
  refine xr_iload_n dX2_incomeWithin_6 rfl ?_
  refine xr_callV (n9 := 1) (rc' := 0) (rs' := 0) (k_P_passMonths hG hK2 hB hm hN) hK2.hq rfl q864 q865 q866 q87 q867 (by decide +kernel) rfl ⟨by decide, Nat.le_of_ble_eq_true rfl⟩ ⟨Nat.le_of_ble_eq_true rfl, Nat.le_of_ble_eq_true rfl⟩ (Nat.le_of_ble_eq_true rfl) dX2_incomeWithin_7 rfl (fun r w7 hw => ?_) (fun _ _ _ h => h.elim)
  obtain ⟨rfl, hK3, hm3⟩ := hw
  have hm4 := hm2.tr (hm3.mo (n := w.2) (fun b _ (q9 : q2 ≤ b) => by omega)) (Nat.le_refl _)
  have hK4 := hK.ext hm4
  refine xr_istore_n (lv' := [some _, some _, some _, some _]) dX2_incomeWithin_10 (by decide) rfl rfl ?_
  refine xr_aload_n dX2_incomeWithin_11 rfl (by first | rfl | exact isRef_rf _) ?_
  refine xr_getfield (ci := 0) (T := TX2) (N := 10) (i := 5) hK3.hq rfl (by decide) in_X2 q200 (.inl rfl) dX2_incomeWithin_12 (by rfl) ?_
  refine xr_aload_n dX2_incomeWithin_15 rfl (by first | rfl | exact isRef_rf _) ?_
  refine xr_getfield (ci := 0) (T := TX2) (N := 10) (i := 5) hK4.hq rfl (by decide) in_X2 q200 (.inl rfl) dX2_incomeWithin_16 (by rfl) ?_
  refine xr_isub dX2_incomeWithin_19 ?_
  refine xr_ireturn rfl rfl dX2_incomeWithin_20 ?_
  rw [hpo]
  exact ⟨rfl, hm4⟩
