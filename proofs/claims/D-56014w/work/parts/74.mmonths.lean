/-! 74.mmonths.lean.txt (written by tools/walker.py)  -/
set_option maxRecDepth 100000
/-! the month counts behind the benches, or ahead of them -/
theorem noise4 {P : Int → Int} {v r c : Int} : noise (updI P 4 v) r c = noise P r c := noise_cg (updI_ne (by omega)) (fun k h0 h1 => updI_ne (by omega))
theorem rent4 {P : Int → Int} {v b : Int} (hb : 0 ≤ b) : rent (updI P 4 v) b = rent P b ∧ noiseOf (updI P 4 v) b = noiseOf P b := rent_cg (updI_ne (by omega)) (fun k h0 h1 => updI_ne (by omega)) (updI_ne (by omega)) (updI_ne (by omega)) (updI_ne (by omega))
theorem oEnd4 {P : Int → Int} {v b : Int} (hb : 0 ≤ b) (hl : 0 ≤ P (13 + 6 * b)) : oEnd (updI P 4 v) b = updI (oEnd P b) 4 v := by
  funext k
  have e13 : updI P 4 v (13 + 6 * b) = P (13 + 6 * b) := updI_ne (by omega)
  simp only [oEnd, e13]
  simp only [updI]
  repeat' split
  all_goals first | rfl | omega
theorem upd4 {Q : Int → Int} {k v x : Int} (hk : k ≠ 4) : updI (updI Q 4 v) k x = updI (updI Q k x) 4 v := by
  funext j
  simp only [updI]
  repeat' split
  all_goals first | rfl | omega
theorem oOne4 {P : Int → Int} {v b : Int} (hb : 0 ≤ b) (hb2 : b < 10) (hl : 0 ≤ P (13 + 6 * b)) : oOne (updI P 4 v) b = (updI (oOne P b).1 4 v, (oOne P b).2) := by
  have n4 : ∀ {k : Int}, k ≠ 4 → updI P 4 v k = P k := fun h => updI_ne h
  have hr := (rent4 (P := P) (v := v) hb).1
  have hn := (rent4 (P := P) (v := v) hb).2
  unfold oOne
  rw [n4 (show 13 + 6 * b ≠ 4 by omega)]
  by_cases h0 : P (13 + 6 * b) = 0
  · rw [if_pos h0, if_pos h0]
  rw [if_neg h0, if_neg h0]
  have e13 : updI P 4 v (13 + 6 * b) = P (13 + 6 * b) := n4 (by omega)
  have e14 : updI P 4 v (14 + 6 * b) = P (14 + 6 * b) := n4 (by omega)
  have e15 : updI P 4 v (15 + 6 * b) = P (15 + 6 * b) := n4 (by omega)
  have e86 : updI P 4 v (86 + 2 * (P (13 + 6 * b) - 1)) = P (86 + 2 * (P (13 + 6 * b) - 1)) := n4 (by omega)
  have e87 : updI P 4 v (87 + 2 * (P (13 + 6 * b) - 1)) = P (87 + 2 * (P (13 + 6 * b) - 1)) := n4 (by omega)
  have e3 : updI P 4 v 3 = P 3 := n4 (by omega)
  have e5 : updI P 4 v 5 = P 5 := n4 (by omega)
  have e7 : updI P 4 v 7 = P 7 := n4 (by omega)
  have e8 : updI P 4 v 8 = P 8 := n4 (by omega)
  have e9 : updI P 4 v 9 = P 9 := n4 (by omega)
  have hp : oPaid (updI P 4 v) b = updI (oPaid P b) 4 v := by
    unfold oPaid
    rw [e13, e86, e15, e5, hr, upd4 (by omega), upd4 (by omega), upd4 (by omega)]
  unfold oBill
  rw [e3, e13, e86, e15, hr, hn]
  split
  · unfold oLoudEnd
    rw [e13, e86, e14, e8, oEnd4 hb hl, upd4 (by omega), upd4 (by omega)]
  split
  · unfold oDefault
    rw [e13, e87, e14, e5, e7, upd4 (k := 87 + 2 * (P (13 + 6 * b) - 1)) (by omega), oEnd4 hb (by rw [updI_ne (by omega)]; exact hl), upd4 (by omega), upd4 (by omega)]
  split
  · rw [hp]
  · unfold oDone
    rw [hp, e13, e86, e14, e9, hr, oEnd4 hb (by unfold oPaid; rw [updI_ne (by omega), updI_ne (by omega), updI_ne (by omega)]; exact hl), upd4 (by omega), upd4 (by omega)]
theorem row4 {v : Int} : ∀ (m : Nat) (k : Int) (P : Int → Int) (N : Int), PB P N → N + 100 * m ≤ 10000000 → 0 ≤ k → k + m ≤ P 0 → oRow m k (updI P 4 v) = (updI (oRow m k P).1 4 v, (oRow m k P).2)
  | 0, _, _, _, _, _, _, _ => rfl
  | m + 1, k, P, N, hB, hN, hk, hm => by
    have hb := hB.b (b := k) ⟨hk, by omega⟩
    have hg := hB.g
    obtain ⟨h1, h2⟩ := PB_one hB (by omega) ⟨hk, by omega⟩
    show ((oRow m (k + 1) (oOne (updI P 4 v) k).1).1, (oOne (updI P 4 v) k).2 + (oRow m (k + 1) (oOne (updI P 4 v) k).1).2) = _
    rw [oOne4 hk (by omega) (by omega)]
    dsimp only
    rw [row4 m (k + 1) (oOne P k).1 (N + 100) h1 (by omega) (by omega) (by omega)]
    rfl
theorem row4k {m : Nat} {k : Int} {P : Int → Int} {N : Int} (hB : PB P N) (hN : N + 100 * m ≤ 10000000) (hk : 0 ≤ k) (hm : k + m ≤ P 0) : (oRow m k P).1 4 = P 4 := by
  have e : updI P 4 (P 4) = P := by
    funext j
    unfold updI
    split
    · next h => rw [h]
    · rfl
  have h := row4 (v := P 4) m k P N hB hN hk hm
  rw [e] at h
  have h1 := congrArg Prod.fst h
  dsimp only at h1
  rw [h1, updI_eq]
theorem k_M_passes {g : GG} {w : WW} {m : Nat} {A : Int → Nat} {F P : Int → Int} {C : Int → Int → Int} {v N : Int} (hG : Base g) (hM : MD g w m A F P C) (hB : PB P N) (hN : N + 13000 ≤ 10000000) (hr : (-2147483648 ≤ v ∧ v < 2147483648)) : Ct g yX4_passes (.code yX4_passes cX4_passes 5 (some .int)) 5 113 0 0 w [.ref m, .int (iI v)] (fun r_ w1 => ∃ (r : Int) (F1 P1 : Int → Int), r_ = some (.int (iI r)) ∧ MDF g w w1 m A F1 P1 C ∧ MA (1 ≤ v ∧ v ≤ 12) (True) (((0, 0) : Int × Int)) ((oMonths v.toNat P).2) P ((oMonths v.toNat P).1) F r F1 P1) xF := by
  refine Ct.of (lv := [some _, some _, none, none, none]) hG (by decide +kernel) (Nat.le_of_ble_eq_true rfl) rfl ?_
  intro z hg hpo hxp hnm htab
  subst hg
  have hM : MDF (zg z) w w m A F P C := ⟨hM, Fr.rf⟩
  have hgg := hB.g
  refine xr_iload_n dX4_passes_0 rfl ?_
  refine xr_iconst dX4_passes_1 ?_
  refine xr_bipush dX4_passes_2 (by decide) ?_
  refine xr_callS (n9 := 3) (rc' := 0) (rs' := 0) (k_M_in hG (by omega)) q2280 q2281 q96 q2282 (by decide +kernel) rfl ⟨by decide, Nat.le_of_ble_eq_true rfl⟩ ⟨Nat.le_of_ble_eq_true rfl, Nat.le_of_ble_eq_true rfl⟩ (Nat.le_of_ble_eq_true rfl) dX4_passes_4 rfl (xk_r ?_) (fun _ _ _ h => h.elim)
  refine xr_ifb_ne (tgt := 12) dX4_passes_7 (by decide) (fun c7 => ?_) (fun c7 => ?_)
  · skip
    try simp only [decide_eq_true_eq, decide_eq_false_iff_not] at c7
    refine xr_iconst dX4_passes_12 ?_
    refine xr_istore_n (lv' := [some _, some _, some _, none, none]) dX4_passes_13 (by decide) rfl rfl ?_
    refine xr_iconst dX4_passes_14 ?_
    refine xr_istore_n (lv' := [some _, some _, some _, some _, none]) dX4_passes_15 (by decide) rfl rfl ?_
    refine xr_lv (lvw_s (lvw_s (lvw_s (lvw_s (lvw_n (lvw_nil)))))) ?_
    have lp16 : ∀ (fu16 : Nat) (w9 : WW) (P9 : Int → Int) (acc k : Int), 0 ≤ k → k ≤ v → v - k < fu16 → MDF (zg z) w w9 m A F P9 C → PB P9 (N + 1001 * k) → (oMonths (v - k).toNat P9).1 = (oMonths v.toNat P).1 → acc + (oMonths (v - k).toNat P9).2 = (oMonths v.toNat P).2 → XJ z yX4_passes.cls cX4_passes 5 (some .int) 5 113 w9 (0 * fu16 + 0) (0 * fu16 + 0) 16 [some (.ref m), some (.int (iI v)), some (.int (iI acc)), some (.int (iI k)), none] [] := by
      intro fu16
      induction fu16 with
      | zero =>
        intro w9 P9 acc k hk0 hkm hfu hM hB9 hr3 hr6
        omega
      | succ fu16 ih16 =>
        intro w9 P9 acc k hk0 hkm hfu hM hB9 hr3 hr6
        refine xr_iload_n dX4_passes_16 rfl ?_
        refine xr_iload_n dX4_passes_17 rfl ?_
        refine xr_icmp_ge (tgt := 80) dX4_passes_18 (by decide) (by omega) (fun c18 => ?_) (fun c18 => ?_)
        · skip
          refine xr_aload_n dX4_passes_80 rfl (by first | rfl | exact isRef_rf _) ?_
          refine xr_iload_n dX4_passes_81 rfl ?_
          refine xr_callV (n9 := 1) (rc' := 0 * fu16 + 0) (rs' := 0 * fu16 + 0) (k_M_done hG hM.1) hM.1.1 rfl q2299 q2301 qs43 q96 q2302 (by decide +kernel) rfl ⟨by decide, Nat.le_of_ble_eq_true rfl⟩ ⟨by omega, by omega⟩ (Nat.le_of_ble_eq_true rfl) dX4_passes_82 rfl (fun r w82 hw => ?_) (fun _ _ _ h => h.elim)
          obtain ⟨rfl, hw⟩ := hw
          have hM := hM.tr hw
          refine xr_ireturn rfl rfl dX4_passes_85 ?_
          rw [hpo]
          rw [oMonths_ge (by omega)] at hr3
          rw [oMonths_ge (by omega), Int.add_zero] at hr6
          dsimp only at hr3
          exact ⟨0, _, (oMonths v.toNat P).1, rfl, by rw [← hr3]; exact hM, Or.inr (Or.inr (Or.inr ⟨by omega, trivial, rfl, rfl, by rw [hr6], rfl⟩))⟩
        · skip
          have hg9 := hB9.g
          obtain ⟨hB7, e70, e71, e72⟩ := PB_month hB9 (by omega)
          have hr4 := row4 (v := P9 4 + 1) (P9 0).toNat 0 P9 _ hB9 (by omega) (by omega) (by omega)
          have hr5 := row4k (m := (P9 0).toNat) (k := 0) hB9 (by omega) (by omega) (by omega)
          refine xr_iconst dX4_passes_21 ?_
          refine xr_istore (lv' := [some _, some _, some _, some _, some _]) dX4_passes_22 (by decide) rfl rfl ?_
          have lp24 : ∀ (fu24 : Nat) (w8 : WW) (P8 : Int → Int) (ac2 j : Int), 0 ≤ j → j ≤ P9 0 → P9 0 - j < fu24 → MDF (zg z) w w8 m A F P8 C → PB P8 (N + 1001 * k + 100 * j) → P8 0 = P9 0 → (oRow (P9 0 - j).toNat j P8).1 = (oRow (P9 0).toNat 0 P9).1 → ac2 + (oRow (P9 0 - j).toNat j P8).2 = acc + (oRow (P9 0).toNat 0 P9).2 → XJ z yX4_passes.cls cX4_passes 5 (some .int) 5 113 w8 (0 * fu16 + 0 * fu24 + 0) (0 * fu16 + 0 * fu24 + 0) 24 [some (.ref m), some (.int (iI v)), some (.int (iI ac2)), some (.int (iI k)), some (.int (iI j))] [] := by
            intro fu24
            induction fu24 with
            | zero =>
              intro w8 P8 ac2 j hj0 hjn hfu8 hM hB8 e80 hr1 hr2
              omega
            | succ fu24 ih24 =>
              intro w8 P8 ac2 j hj0 hjn hfu8 hM hB8 e80 hr1 hr2
              refine xr_iload dX4_passes_24 rfl ?_
              refine xr_aload_n dX4_passes_26 rfl (by first | rfl | exact isRef_rf _) ?_
              refine xr_getfield (ci := 14) (T := TX4) (N := 23) (i := 1) hM.1.1 rfl (by decide) in_X4 q2192 (.inl rfl) dX4_passes_27 (by rfl) ?_
              refine xr_iconst dX4_passes_30 ?_
              refine xr_iaload hM.1.2.1 (by omega) (by decide) dX4_passes_31 ?_
              refine xr_icmp_ge (tgt := 64) dX4_passes_32 (by decide) (by omega) (fun c32 => ?_) (fun c32 => ?_)
              · skip
                refine xr_aload_n dX4_passes_64 rfl (by first | rfl | exact isRef_rf _) ?_
                refine xr_getfield (ci := 14) (T := TX4) (N := 23) (i := 1) hM.1.1 rfl (by decide) in_X4 q2192 (.inl rfl) dX4_passes_65 (by rfl) ?_
                refine xr_iconst dX4_passes_68 ?_
                refine xr_dup2 dX4_passes_69 (by first | rfl | exact cat_rf _) (by first | rfl | exact cat_rf _) ?_
                refine xr_iaload hM.1.2.1 (by omega) (by decide) dX4_passes_70 ?_
                refine xr_iconst dX4_passes_71 ?_
                refine xr_iadd dX4_passes_72 ?_
                refine xr_mstS hM (by omega) dX4_passes_73 (fun w73 hM => ?_)
                refine xr_iinc (lv' := [some _, some _, some _, some _, some _]) dX4_passes_74 rfl (by decide) rfl rfl ?_
                refine xr_goto (tgt := 16) dX4_passes_77 (by decide) ?_
                refine xr_lv (lvw_s (lvw_s (lvw_s (lvw_s (lvw_n (lvw_nil)))))) ?_
                rw [oMonths_lt (show k < v by omega)] at hr3 hr6
                dsimp only at hr3 hr6
                have e8 := oRow_ge (P := P8) (show P9 0 ≤ j by omega)
                rw [e8] at hr1 hr2
                dsimp only at hr1 hr2
                have e84 : P8 4 = P9 4 := by rw [hr1, hr5]
                rw [e84] at hM
                have eP : updI P8 4 (P9 4 + 1) = (oRow (P9 0).toNat 0 (updI P9 4 (P9 4 + 1))).1 := by rw [hr4, hr1]
                rw [eP] at hM
                rw [hr4] at hr6 hr3 hB7 hM
                dsimp only at hr6 hr3 hB7 hM
                refine xr_wk (rc' := 0 * fu16 + 0) (rs' := 0 * fu16 + 0) ⟨by omega, by omega⟩ (ih16 w73 (updI (oRow (P9 0).toNat 0 P9).1 4 (P9 4 + 1)) ac2 (k + 1) (by omega) (by omega) (by omega) hM (hB7.mono (by omega)) hr3 (by omega))
              · skip
                have hg8 := hB8.g
                have hbb := hB8.b (b := j) ⟨hj0, by omega⟩
                obtain ⟨hB6, e60⟩ := PB_one (b := j) hB8 (by omega) ⟨hj0, by omega⟩
                rw [oRow_lt (show j < P9 0 by omega)] at hr1 hr2
                dsimp only at hr1 hr2
                refine xr_iload_n dX4_passes_35 rfl ?_
                refine xr_aload_n dX4_passes_36 rfl (by first | rfl | exact isRef_rf _) ?_
                refine xr_iload dX4_passes_37 rfl ?_
                refine xr_callV (n9 := 1) (rc' := 0 * fu16 + 0 * fu24 + 0) (rs' := 0 * fu16 + 0 * fu24 + 0) (k_M_by hG hM.1 (by omega)) hM.1.1 rfl q2487 q2489 qs65 q96 q2490 (by decide +kernel) rfl ⟨by decide, Nat.le_of_ble_eq_true rfl⟩ ⟨by omega, by omega⟩ (Nat.le_of_ble_eq_true rfl) dX4_passes_39 rfl (xk_r ?_) (fun _ _ _ h => h.elim)
                refine xr_iconst dX4_passes_42 ?_
                refine xr_icmp_ne (tgt := 50) dX4_passes_43 (by decide) (by omega) (fun c43 => ?_) (fun c43 => ?_)
                · skip
                  have c54 : P8 (13 + 6 * j) ≠ 0 := by omega
                  have e5 : oOne P8 j = oBill P8 j := if_neg c54
                  rw [e5] at hr1 hr2 hB6 e60
                  refine xr_aload_n dX4_passes_50 rfl (by first | rfl | exact isRef_rf _) ?_
                  refine xr_iload dX4_passes_51 rfl ?_
                  refine xr_callV (n9 := 1) (rc' := 0 * fu16 + 0 * fu24 + 0) (rs' := 0 * fu16 + 0 * fu24 + 0) (k_M_billed hG hM.1 hB8 ⟨hj0, by omega⟩ c54) hM.1.1 rfl q2563 q2565 qs73 q96 q2566 (by decide +kernel) rfl ⟨by decide, Nat.le_of_ble_eq_true rfl⟩ ⟨by omega, by omega⟩ (Nat.le_of_ble_eq_true rfl) dX4_passes_53 rfl (fun r w53 hw => ?_) (fun _ _ _ h => h.elim)
                  obtain ⟨rfl, hw⟩ := hw
                  have hM := hM.tr hw
                  refine xr_iadd dX4_passes_56 ?_
                  refine xr_istore_n (lv' := [some _, some _, some _, some _, some _]) dX4_passes_57 (by decide) rfl rfl ?_
                  refine xr_iinc (lv' := [some _, some _, some _, some _, some _]) dX4_passes_58 rfl (by decide) rfl rfl ?_
                  refine xr_goto (tgt := 24) dX4_passes_61 (by decide) ?_
                  refine xr_wk (rc' := 0 * fu16 + 0 * fu24 + 0) (rs' := 0 * fu16 + 0 * fu24 + 0) ⟨by omega, by omega⟩ (ih24 _ _ _ (j + 1) (by omega) (by omega) (by omega) hM (hB6.mono (by omega)) (e60.trans e80) hr1 (by omega))
                · skip
                  have c54 : P8 (13 + 6 * j) = 0 := by omega
                  have e5 : oOne P8 j = (P8, 0) := if_pos c54
                  rw [e5] at hr1 hr2 hB6 e60
                  dsimp only at hr1 hr2 hB6 e60
                  refine xr_iconst dX4_passes_46 ?_
                  refine xr_goto (tgt := 56) dX4_passes_47 (by decide) ?_
                  refine xr_iadd dX4_passes_56 ?_
                  refine xr_istore_n (lv' := [some _, some _, some _, some _, some _]) dX4_passes_57 (by decide) rfl rfl ?_
                  refine xr_iinc (lv' := [some _, some _, some _, some _, some _]) dX4_passes_58 rfl (by decide) rfl rfl ?_
                  refine xr_goto (tgt := 24) dX4_passes_61 (by decide) ?_
                  refine xr_wk (rc' := 0 * fu16 + 0 * fu24 + 0) (rs' := 0 * fu16 + 0 * fu24 + 0) ⟨by omega, by omega⟩ (ih24 _ _ _ (j + 1) (by omega) (by omega) (by omega) hM (hB6.mono (by omega)) (e60.trans e80) hr1 (by omega))
          refine xr_wk (rc' := 0 * fu16 + 0 * 11 + 0) (rs' := 0 * fu16 + 0 * 11 + 0) ⟨by omega, by omega⟩ (lp24 11 w9 P9 acc 0 (by omega) (by omega) (by omega) hM (by rw [Int.mul_zero, Int.add_zero]; exact hB9) rfl (by rw [Int.sub_zero]) (by rw [Int.sub_zero]))
    refine xr_wk (rc' := 0 * 13 + 0) (rs' := 0 * 13 + 0) ⟨by omega, by omega⟩ (lp16 13 w P 0 0 (by omega) (by omega) (by omega) hM (by rw [Int.mul_zero, Int.add_zero]; exact hB) (by rw [Int.sub_zero]) (by rw [Int.sub_zero]; omega))
  · skip
    try simp only [decide_eq_true_eq, decide_eq_false_iff_not] at c7
    refine xr_iconst dX4_passes_10 ?_
    refine xr_ireturn rfl rfl dX4_passes_11 ?_
    rw [hpo]
    exact ⟨-1, F, P, rfl, hM, Or.inl ⟨by omega, rfl, rfl, rfl⟩⟩
