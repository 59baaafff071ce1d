/-! 35.parkread.lean.txt (written by tools/walker.py)  -/
set_option maxRecDepth 100000
theorem PB.b {P : Int → Int} {N b : Int} (h : PB P N) (h0 : 0 ≤ b ∧ b < P 0) : (0 ≤ P (10 + 6 * b) ∧ P (10 + 6 * b) ≤ 5) ∧ (0 ≤ P (11 + 6 * b) ∧ P (11 + 6 * b) ≤ 5) ∧ (1 ≤ P (12 + 6 * b) ∧ P (12 + 6 * b) ≤ 20) ∧ (0 ≤ P (13 + 6 * b) ∧ P (13 + 6 * b) ≤ P 2) ∧ (0 ≤ P (14 + 6 * b) ∧ P (14 + 6 * b) ≤ 20) ∧ (0 ≤ P (15 + 6 * b) ∧ P (15 + 6 * b) ≤ 12) := h.2.2.2.2.2.2.1 b h0.1 h0.2
theorem PB.t {P : Int → Int} {N t : Int} (h : PB P N) (h0 : 0 ≤ t ∧ t < P 2) : (0 ≤ P (86 + 2 * t) ∧ P (86 + 2 * t) ≤ N) ∧ (0 ≤ P (87 + 2 * t) ∧ P (87 + 2 * t) ≤ N) ∧ (0 ≤ P (102 + t) ∧ P (102 + t) ≤ P 0) := h.2.2.2.2.2.2.2.2 t h0.1 h0.2
theorem PB.f {P : Int → Int} {N f : Int} (h : PB P N) (h0 : 0 ≤ f ∧ f < P 1) : (0 ≤ P (70 + 4 * f) ∧ P (70 + 4 * f) ≤ 5) ∧ (0 ≤ P (71 + 4 * f) ∧ P (71 + 4 * f) ≤ 5) ∧ (1 ≤ P (72 + 4 * f) ∧ P (72 + 4 * f) ≤ 9) ∧ (0 ≤ P (73 + 4 * f) ∧ P (73 + 4 * f) ≤ 1) := h.2.2.2.2.2.2.2.1 f h0.1 h0.2
theorem PB.g {P : Int → Int} {N : Int} (h : PB P N) : (0 ≤ P 0 ∧ P 0 ≤ 10) ∧ (0 ≤ P 1 ∧ P 1 ≤ 4) ∧ (0 ≤ P 2 ∧ P 2 ≤ 8) ∧ (0 ≤ P 3 ∧ P 3 ≤ 20) ∧ (0 ≤ N ∧ N ≤ 10000000) := ⟨h.1, h.2.1, h.2.2.1, h.2.2.2.1, h.2.2.2.2.1⟩
theorem PB.k {P : Int → Int} {N k : Int} (h : PB P N) (h0 : 4 ≤ k) (h1 : k ≤ 9) : 0 ≤ P k ∧ P k ≤ N := h.2.2.2.2.2.1 k h0 h1
theorem tdiv_bd {a r : Int} (h0 : 0 ≤ a) (h1 : 1 ≤ r) : 0 ≤ a.tdiv r ∧ a.tdiv r ≤ a := by
  rw [Int.tdiv_eq_ediv_of_nonneg h0]
  exact ⟨Int.ediv_nonneg h0 (by omega), Int.ediv_le_self r h0⟩
theorem opt_ne {L : Int → Nat} {b x : Int} (h : x ≠ 0) : opt L b x = some (L (b + (x - 1))) := if_neg h
theorem opt_eq {L : Int → Nat} {b x : Int} (h : x = 0) : opt L b x = none := if_pos h
theorem opt_is {L : Int → Nat} {b x : Int} : (opt L b x).isSome = decide (x ≠ 0) := by
  by_cases h : x = 0
  · rw [opt_eq h, h]; rfl
  · rw [opt_ne h]; simp [h]
theorem k_P_noiseOf {g : GG} {w : WW} {n0 : Nat → Prop} {q : Nat} {L : Int → Nat} {P : Int → Int} {N : Int} {b : Int} (hG : Base g) (hK : PK g w n0 q L P) (hB : PB P N) (hb : 0 ≤ b ∧ b < P 0) : Ct g yX2_noiseOf (.code yX2_noiseOf cX2_noiseOf 2 (some .int)) 12 3102 1 2 w [.ref q, .ref (L (10 + b))] (fun r_ w1 => r_ = some (.int (iI (noiseOf P b))) ∧ Mo w.2 w w1) xF := by
  refine Ct.of (lv := [some _, some _]) hG (by decide +kernel) (Nat.le_of_ble_eq_true rfl) rfl ?_
  intro z hg hpo hxp hnm htab
  subst hg
  have hmo : Mo w.2 w w := Mo.rf
  have hbb := hB.b hb
  refine xr_aload_n dX2_noiseOf_0 rfl (by first | rfl | exact isRef_rf _) ?_
  refine xr_aload_n dX2_noiseOf_1 rfl (by first | rfl | exact isRef_rf _) ?_
  refine xr_callVU (n9 := 0) (rc' := 1) (rs' := 2) (k_row_B hG (hK.be b hb.1 hb.2)) (hK.be b hb.1 hb.2) rfl q328 q329 rfl q332 q331 q108 q333 (by decide +kernel) rfl ⟨by decide, Nat.le_of_ble_eq_true rfl⟩ ⟨Nat.le_of_ble_eq_true rfl, Nat.le_of_ble_eq_true rfl⟩ (Nat.le_of_ble_eq_true rfl) dX2_noiseOf_2 rfl (xk_r ?_) (fun _ _ _ h => h.elim)
  refine xr_aload_n dX2_noiseOf_5 rfl (by first | rfl | exact isRef_rf _) ?_
  refine xr_callVU (n9 := 0) (rc' := 1) (rs' := 2) (k_column_B hG (hK.be b hb.1 hb.2)) (hK.be b hb.1 hb.2) rfl q334 q335 rfl q338 q337 q108 q339 (by decide +kernel) rfl ⟨by decide, Nat.le_of_ble_eq_true rfl⟩ ⟨Nat.le_of_ble_eq_true rfl, Nat.le_of_ble_eq_true rfl⟩ (Nat.le_of_ble_eq_true rfl) dX2_noiseOf_6 rfl (xk_r ?_) (fun _ _ _ h => h.elim)
  refine xr_callV (n9 := 2) (rc' := 0) (rs' := 0) (k_P_noiseAt hG hK hB (by omega)) hK.hq rfl q340 q341 q342 q87 q343 (by decide +kernel) rfl ⟨by decide, Nat.le_of_ble_eq_true rfl⟩ ⟨Nat.le_of_ble_eq_true rfl, Nat.le_of_ble_eq_true rfl⟩ (Nat.le_of_ble_eq_true rfl) dX2_noiseOf_9 rfl (xk_e fun w9 hm9 => ?_) (fun _ _ _ h => h.elim)
  have hmo := hmo.tr hm9 hmo.1
  have hK := hK.ext hm9
  refine xr_ireturn rfl rfl dX2_noiseOf_12 ?_
  rw [hpo]
  first | exact ⟨rfl, hmo⟩ | exact ⟨ret_bt (by omega), hmo⟩ | exact ⟨ret_bf (by omega), hmo⟩ | exact ⟨ret_i (by omega), hmo⟩
theorem k_P_rentOf {g : GG} {w : WW} {n0 : Nat → Prop} {q : Nat} {L : Int → Nat} {P : Int → Int} {N : Int} {b : Int} (hG : Base g) (hK : PK g w n0 q L P) (hB : PB P N) (hb : 0 ≤ b ∧ b < P 0) : Ct g yX2_rentOf (.code yX2_rentOf cX2_rentOf 2 (some .int)) 13 3123 1 2 w [.ref q, .ref (L (10 + b))] (fun r_ w1 => r_ = some (.int (iI (rent P b))) ∧ Mo w.2 w w1) xF := by
  refine Ct.of (lv := [some _, some _]) hG (by decide +kernel) (Nat.le_of_ble_eq_true rfl) rfl ?_
  intro z hg hpo hxp hnm htab
  subst hg
  have hmo : Mo w.2 w w := Mo.rf
  have hbb := hB.b hb
  have hnn : 0 ≤ noiseOf P b ∧ noiseOf P b ≤ 36 := noise_bd hB
  refine xr_iconst dX2_rentOf_0 ?_
  refine xr_aload_n dX2_rentOf_1 rfl (by first | rfl | exact isRef_rf _) ?_
  refine xr_getfieldN (ci := 3) (T := TX10) (N := 7) (i := 3) (hK.be b hb.1 hb.2) rfl (by decide) in_X10 q812 (.inl rfl) dX2_rentOf_2 (by rfl) ?_
  refine xr_aload_n dX2_rentOf_5 rfl (by first | rfl | exact isRef_rf _) ?_
  refine xr_aload_n dX2_rentOf_6 rfl (by first | rfl | exact isRef_rf _) ?_
  refine xr_callV (n9 := 1) (rc' := 0) (rs' := 0) (k_P_noiseOf hG hK hB hb) hK.hq rfl q324 q325 q326 q87 q327 (by decide +kernel) rfl ⟨by decide, Nat.le_of_ble_eq_true rfl⟩ ⟨Nat.le_of_ble_eq_true rfl, Nat.le_of_ble_eq_true rfl⟩ (Nat.le_of_ble_eq_true rfl) dX2_rentOf_7 rfl (xk_e fun w7 hm7 => ?_) (fun _ _ _ h => h.elim)
  have hmo := hmo.tr hm7 hmo.1
  have hK := hK.ext hm7
  refine xr_isub dX2_rentOf_10 ?_
  refine xr_mmax q876 q360 q111 q361 (by decide) (Nat.le_of_ble_eq_true rfl) (by omega) dX2_rentOf_11 ?_
  refine xr_ireturn rfl rfl dX2_rentOf_14 ?_
  rw [hpo]
  first | exact ⟨rfl, hmo⟩ | exact ⟨ret_bt (by omega), hmo⟩ | exact ⟨ret_bf (by omega), hmo⟩ | exact ⟨ret_i (by omega), hmo⟩
theorem k_P_isQuiet {g : GG} {w : WW} {n0 : Nat → Prop} {q : Nat} {L : Int → Nat} {P : Int → Int} {N : Int} {b : Int} (hG : Base g) (hK : PK g w n0 q L P) (hB : PB P N) (hb : 0 ≤ b ∧ b < P 0) : Ct g yX2_isQuiet (.code yX2_isQuiet cX2_isQuiet 2 (some .boolean)) 13 3123 1 2 w [.ref q, .ref (L (10 + b))] (fun r_ w1 => r_ = some (.int (bI (decide (noiseOf P b ≤ P 3)))) ∧ Mo w.2 w w1) xF := by
  refine Ct.of (lv := [some _, some _]) hG (by decide +kernel) (Nat.le_of_ble_eq_true rfl) rfl ?_
  intro z hg hpo hxp hnm htab
  subst hg
  have hmo : Mo w.2 w w := Mo.rf
  have hgg := hB.g
  have hnn : 0 ≤ noiseOf P b ∧ noiseOf P b ≤ 36 := noise_bd hB
  refine xr_aload_n dX2_isQuiet_0 rfl (by first | rfl | exact isRef_rf _) ?_
  refine xr_aload_n dX2_isQuiet_1 rfl (by first | rfl | exact isRef_rf _) ?_
  refine xr_callV (n9 := 1) (rc' := 0) (rs' := 0) (k_P_noiseOf hG hK hB hb) hK.hq rfl q324 q325 q326 q87 q327 (by decide +kernel) rfl ⟨by decide, Nat.le_of_ble_eq_true rfl⟩ ⟨Nat.le_of_ble_eq_true rfl, Nat.le_of_ble_eq_true rfl⟩ (Nat.le_of_ble_eq_true rfl) dX2_isQuiet_2 rfl (xk_e fun w2 hm2 => ?_) (fun _ _ _ h => h.elim)
  have hmo := hmo.tr hm2 hmo.1
  have hK := hK.ext hm2
  refine xr_aload_n dX2_isQuiet_5 rfl (by first | rfl | exact isRef_rf _) ?_
  refine xr_getfield (ci := 0) (T := TX2) (N := 10) (i := 3) hK.hq rfl (by decide) in_X2 q196 (.inl rfl) dX2_isQuiet_6 (by rfl) ?_
  refine xr_icmp_gt (tgt := 16) dX2_isQuiet_9 (by decide) (by omega) (fun c9 => ?_) (fun c9 => ?_)
  · skip
    refine xr_iconst dX2_isQuiet_16 ?_
    refine xr_ireturn rfl (by first | rfl | exact nar_bI _ | decide +kernel) dX2_isQuiet_17 ?_
    rw [hpo]
    first | exact ⟨rfl, hmo⟩ | exact ⟨ret_bt (by omega), hmo⟩ | exact ⟨ret_bf (by omega), hmo⟩ | exact ⟨ret_i (by omega), hmo⟩
  · skip
    refine xr_iconst dX2_isQuiet_12 ?_
    refine xr_goto (tgt := 17) dX2_isQuiet_13 (by decide) ?_
    refine xr_ireturn rfl (by first | rfl | exact nar_bI _ | decide +kernel) dX2_isQuiet_17 ?_
    rw [hpo]
    first | exact ⟨rfl, hmo⟩ | exact ⟨ret_bt (by omega), hmo⟩ | exact ⟨ret_bf (by omega), hmo⟩ | exact ⟨ret_i (by omega), hmo⟩
theorem k_P_payable {g : GG} {w : WW} {n0 : Nat → Prop} {q : Nat} {L : Int → Nat} {P : Int → Int} {N : Int} {b : Int} (hG : Base g) (hK : PK g w n0 q L P) (hB : PB P N) (hb : 0 ≤ b ∧ b < P 0) (hl : P (13 + 6 * b) ≠ 0) : Ct g yX2_payable (.code yX2_payable cX2_payable 2 (some .int)) 14 3144 1 2 w [.ref q, .ref (L (10 + b))] (fun r_ w1 => r_ = some (.int (iI (payable P b))) ∧ Mo w.2 w w1) xF := by
  refine Ct.of (lv := [some _, some _]) hG (by decide +kernel) (Nat.le_of_ble_eq_true rfl) rfl ?_
  intro z hg hpo hxp hnm htab
  subst hg
  have hmo : Mo w.2 w w := Mo.rf
  have hgg := hB.g
  have hbb := hB.b hb
  have htt := hB.t (t := P (13 + 6 * b) - 1) (by omega)
  have hrr := rent_bd hB hb.1 hb.2
  refine xr_aload_n dX2_payable_0 rfl (by first | rfl | exact isRef_rf _) ?_
  refine xr_getfieldN (ci := 3) (T := TX10) (N := 7) (i := 4) (hK.be b hb.1 hb.2) rfl (by decide) in_X10 q815 (.inl rfl) dX2_payable_1 (by rfl) ?_
  rw [opt_ne hl]
  show XJ _ _ _ _ _ _ _ _ _ _ _ _ [.ref (L (50 + (P (13 + 6 * b) - 1)))]
  refine xr_getfieldN (ci := 5) (T := TX11) (N := 4) (i := 1) (hK.te (P (13 + 6 * b) - 1) (by omega) (by omega)) rfl (by decide) in_X11 q843 (.inl rfl) dX2_payable_4 (by rfl) ?_
  refine xr_aload_n dX2_payable_7 rfl (by first | rfl | exact isRef_rf _) ?_
  refine xr_aload_n dX2_payable_8 rfl (by first | rfl | exact isRef_rf _) ?_
  refine xr_callV (n9 := 1) (rc' := 0) (rs' := 0) (k_P_rentOf hG hK hB hb) hK.hq rfl q872 q873 q874 q87 q875 (by decide +kernel) rfl ⟨by decide, Nat.le_of_ble_eq_true rfl⟩ ⟨Nat.le_of_ble_eq_true rfl, Nat.le_of_ble_eq_true rfl⟩ (Nat.le_of_ble_eq_true rfl) dX2_payable_9 rfl (xk_e fun w9 hm9 => ?_) (fun _ _ _ h => h.elim)
  have hmo := hmo.tr hm9 hmo.1
  have hK := hK.ext hm9
  refine xr_idiv dX2_payable_12 (by omega) (by omega) ?_
  refine xr_ireturn rfl rfl dX2_payable_13 ?_
  rw [hpo]
  first | exact ⟨rfl, hmo⟩ | exact ⟨ret_bt (by omega), hmo⟩ | exact ⟨ret_bf (by omega), hmo⟩ | exact ⟨ret_i (by omega), hmo⟩
theorem k_P_incomeOf {g : GG} {w : WW} {n0 : Nat → Prop} {q : Nat} {L : Int → Nat} {P : Int → Int} {N : Int} {b : Int} {m : Int} (hG : Base g) (hK : PK g w n0 q L P) (hB : PB P N) (hb : 0 ≤ b ∧ b < P 0) (hm : 1 ≤ m ∧ m ≤ 12) : Ct g yX2_incomeOf (.code yX2_incomeOf cX2_incomeOf 5 (some .int)) 15 3165 3 6 w [.ref q, .ref (L (10 + b)), .int (iI m)] (fun r_ w1 => r_ = some (.int (iI (income1 P b m))) ∧ Mo w.2 w w1) xF := by
  refine Ct.of (lv := [some _, some _, some _, none, none]) hG (by decide +kernel) (Nat.le_of_ble_eq_true rfl) rfl ?_
  intro z hg hpo hxp hnm htab
  subst hg
  have hmo : Mo w.2 w w := Mo.rf
  have hgg := hB.g
  have hbb := hB.b hb
  have hrr := rent_bd hB hb.1 hb.2
  refine xr_aload_n dX2_incomeOf_0 rfl (by first | rfl | exact isRef_rf _) ?_
  refine xr_callV (n9 := 0) (rc' := 3) (rs' := 6) (k_B_isLet hG (hK.be b hb.1 hb.2)) (hK.be b hb.1 hb.2) rfl q716 q717 q718 q114 q719 (by decide +kernel) rfl ⟨by decide, Nat.le_of_ble_eq_true rfl⟩ ⟨Nat.le_of_ble_eq_true rfl, Nat.le_of_ble_eq_true rfl⟩ (Nat.le_of_ble_eq_true rfl) dX2_incomeOf_1 rfl (xk_r ?_) (fun _ _ _ h => h.elim)
  rw [opt_is]
  refine xr_ifb_eq (tgt := 15) dX2_incomeOf_4 (by decide) (fun c4 => ?_) (fun c4 => ?_)
  · skip
    try simp only [decide_eq_true_eq, decide_eq_false_iff_not] at c4
    refine xr_iconst dX2_incomeOf_15 ?_
    refine xr_ireturn rfl rfl dX2_incomeOf_16 ?_
    rw [hpo]
    exact ⟨by simp only [income1]; rw [if_pos (by omega)], hmo⟩
  · skip
    try simp only [decide_eq_true_eq, decide_eq_false_iff_not] at c4
    refine xr_aload_n dX2_incomeOf_7 rfl (by first | rfl | exact isRef_rf _) ?_
    refine xr_aload_n dX2_incomeOf_8 rfl (by first | rfl | exact isRef_rf _) ?_
    refine xr_callV (n9 := 1) (rc' := 2) (rs' := 4) (k_P_isQuiet hG hK hB hb) hK.hq rfl q320 q321 q322 q87 q323 (by decide +kernel) rfl ⟨by decide, Nat.le_of_ble_eq_true rfl⟩ ⟨Nat.le_of_ble_eq_true rfl, Nat.le_of_ble_eq_true rfl⟩ (Nat.le_of_ble_eq_true rfl) dX2_incomeOf_9 rfl (xk_e fun w9 hm9 => ?_) (fun _ _ _ h => h.elim)
    have hmo := hmo.tr hm9 hmo.1
    have hK := hK.ext hm9
    refine xr_ifb_ne (tgt := 17) dX2_incomeOf_12 (by decide) (fun c12 => ?_) (fun c12 => ?_)
    · skip
      try simp only [decide_eq_true_eq, decide_eq_false_iff_not] at c12
      have htt := hB.t (t := P (13 + 6 * b) - 1) (by omega)
      have hpp := tdiv_bd htt.1.1 hrr.1
      refine xr_iload_n dX2_incomeOf_17 rfl ?_
      refine xr_aload_n dX2_incomeOf_18 rfl (by first | rfl | exact isRef_rf _) ?_
      refine xr_getfieldN (ci := 3) (T := TX10) (N := 7) (i := 6) (hK.be b hb.1 hb.2) rfl (by decide) in_X10 q822 (.inl rfl) dX2_incomeOf_19 (by rfl) ?_
      refine xr_mmin q892 q641 q111 q642 (by decide) (Nat.le_of_ble_eq_true rfl) (by omega) dX2_incomeOf_22 ?_
      refine xr_istore_n (lv' := [some _, some _, some _, some _, none]) dX2_incomeOf_25 (by decide) rfl rfl ?_
      refine xr_iload_n dX2_incomeOf_26 rfl ?_
      refine xr_aload_n dX2_incomeOf_27 rfl (by first | rfl | exact isRef_rf _) ?_
      refine xr_aload_n dX2_incomeOf_28 rfl (by first | rfl | exact isRef_rf _) ?_
      refine xr_callV (n9 := 1) (rc' := 1) (rs' := 2) (k_P_payable hG hK hB hb c4) hK.hq rfl q893 q895 qs13 q87 q896 (by decide +kernel) rfl ⟨by decide, Nat.le_of_ble_eq_true rfl⟩ ⟨Nat.le_of_ble_eq_true rfl, Nat.le_of_ble_eq_true rfl⟩ (Nat.le_of_ble_eq_true rfl) dX2_incomeOf_29 rfl (xk_e fun w29 hm29 => ?_) (fun _ _ _ h => h.elim)
      have hmo := hmo.tr hm29 hmo.1
      have hK := hK.ext hm29
      refine xr_mmin q892 q641 q111 q642 (by decide) (Nat.le_of_ble_eq_true rfl) (by simp only [payable]; omega) dX2_incomeOf_32 ?_
      refine xr_istore (lv' := [some _, some _, some _, some _, some _]) dX2_incomeOf_35 (by decide) rfl rfl ?_
      refine xr_iload dX2_incomeOf_37 rfl ?_
      refine xr_aload_n dX2_incomeOf_39 rfl (by first | rfl | exact isRef_rf _) ?_
      refine xr_aload_n dX2_incomeOf_40 rfl (by first | rfl | exact isRef_rf _) ?_
      refine xr_callV (n9 := 1) (rc' := 0) (rs' := 0) (k_P_rentOf hG hK hB hb) hK.hq rfl q872 q873 q874 q87 q875 (by decide +kernel) rfl ⟨by decide, Nat.le_of_ble_eq_true rfl⟩ ⟨Nat.le_of_ble_eq_true rfl, Nat.le_of_ble_eq_true rfl⟩ (Nat.le_of_ble_eq_true rfl) dX2_incomeOf_41 rfl (xk_e fun w41 hm41 => ?_) (fun _ _ _ h => h.elim)
      have hmo := hmo.tr hm41 hmo.1
      have hK := hK.ext hm41
      refine xr_imul dX2_incomeOf_44 ?_
      refine xr_iload dX2_incomeOf_45 rfl ?_
      refine xr_iload_n dX2_incomeOf_47 rfl ?_
      refine xr_icmp_ge (tgt := 58) dX2_incomeOf_48 (by decide) (by simp only [payable]; omega) (fun c48 => ?_) (fun c48 => ?_)
      · skip
        refine xr_iconst dX2_incomeOf_58 ?_
        refine xr_iadd dX2_incomeOf_59 ?_
        refine xr_ireturn rfl rfl dX2_incomeOf_60 ?_
        rw [hpo]
        first | exact ⟨by simp only [income1]; rw [if_neg (by omega), if_pos (Int.not_le.mp c48)], hmo⟩ | exact ⟨by simp only [income1]; rw [if_neg (by omega), if_neg (Int.not_lt.mpr c48)], hmo⟩
      · skip
        refine xr_aload_n dX2_incomeOf_51 rfl (by first | rfl | exact isRef_rf _) ?_
        refine xr_getfieldN (ci := 3) (T := TX10) (N := 7) (i := 5) (hK.be b hb.1 hb.2) rfl (by decide) in_X10 q819 (.inl rfl) dX2_incomeOf_52 (by rfl) ?_
        refine xr_goto (tgt := 59) dX2_incomeOf_55 (by decide) ?_
        refine xr_iadd dX2_incomeOf_59 ?_
        refine xr_ireturn rfl rfl dX2_incomeOf_60 ?_
        rw [hpo]
        first | exact ⟨by simp only [income1]; rw [if_neg (by omega), if_pos (Int.not_le.mp c48)], hmo⟩ | exact ⟨by simp only [income1]; rw [if_neg (by omega), if_neg (Int.not_lt.mpr c48)], hmo⟩
    · skip
      try simp only [decide_eq_true_eq, decide_eq_false_iff_not] at c12
      refine xr_iconst dX2_incomeOf_15 ?_
      refine xr_ireturn rfl rfl dX2_incomeOf_16 ?_
      rw [hpo]
      exact ⟨by simp only [income1]; rw [if_pos (by omega)], hmo⟩
theorem k_P_defaultMonth {g : GG} {w : WW} {n0 : Nat → Prop} {q : Nat} {L : Int → Nat} {P : Int → Int} {N : Int} {b : Int} (hG : Base g) (hK : PK g w n0 q L P) (hB : PB P N) (hb : 0 ≤ b ∧ b < P 0) : Ct g yX2_defaultMonth (.code yX2_defaultMonth cX2_defaultMonth 3 (some .int)) 15 3165 3 6 w [.ref q, .ref (L (10 + b))] (fun r_ w1 => r_ = some (.int (iI (defMonth P b))) ∧ Mo w.2 w w1) xF := by
  refine Ct.of (lv := [some _, some _, none]) hG (by decide +kernel) (Nat.le_of_ble_eq_true rfl) rfl ?_
  intro z hg hpo hxp hnm htab
  subst hg
  have hmo : Mo w.2 w w := Mo.rf
  have hgg := hB.g
  have hbb := hB.b hb
  have hrr := rent_bd hB hb.1 hb.2
  refine xr_aload_n dX2_defaultMonth_0 rfl (by first | rfl | exact isRef_rf _) ?_
  refine xr_callV (n9 := 0) (rc' := 3) (rs' := 6) (k_B_isLet hG (hK.be b hb.1 hb.2)) (hK.be b hb.1 hb.2) rfl q716 q717 q718 q114 q719 (by decide +kernel) rfl ⟨by decide, Nat.le_of_ble_eq_true rfl⟩ ⟨Nat.le_of_ble_eq_true rfl, Nat.le_of_ble_eq_true rfl⟩ (Nat.le_of_ble_eq_true rfl) dX2_defaultMonth_1 rfl (xk_r ?_) (fun _ _ _ h => h.elim)
  rw [opt_is]
  refine xr_ifb_eq (tgt := 31) dX2_defaultMonth_4 (by decide) (fun c4 => ?_) (fun c4 => ?_)
  · skip
    try simp only [decide_eq_true_eq, decide_eq_false_iff_not] at c4
    refine xr_iconst dX2_defaultMonth_31 ?_
    refine xr_istore_n (lv' := [some _, some _, some _]) dX2_defaultMonth_32 (by decide) rfl rfl ?_
    refine xr_iload_n dX2_defaultMonth_33 rfl ?_
    refine xr_if_eq (tgt := 47) dX2_defaultMonth_34 (by decide) (by decide) (fun c34 => ?_) (fun c34 => absurd c34 (by decide))
    refine xr_iconst dX2_defaultMonth_47 ?_
    refine xr_ireturn rfl rfl dX2_defaultMonth_48 ?_
    rw [hpo]
    first | exact ⟨by simp only [defMonth]; rw [if_pos ⟨by omega, by omega, by omega⟩], hmo⟩ | exact ⟨by simp only [defMonth]; rw [if_neg (by omega)], hmo⟩ | omega
  · skip
    try simp only [decide_eq_true_eq, decide_eq_false_iff_not] at c4
    refine xr_aload_n dX2_defaultMonth_7 rfl (by first | rfl | exact isRef_rf _) ?_
    refine xr_aload_n dX2_defaultMonth_8 rfl (by first | rfl | exact isRef_rf _) ?_
    refine xr_callV (n9 := 1) (rc' := 2) (rs' := 4) (k_P_isQuiet hG hK hB hb) hK.hq rfl q320 q321 q322 q87 q323 (by decide +kernel) rfl ⟨by decide, Nat.le_of_ble_eq_true rfl⟩ ⟨Nat.le_of_ble_eq_true rfl, Nat.le_of_ble_eq_true rfl⟩ (Nat.le_of_ble_eq_true rfl) dX2_defaultMonth_9 rfl (xk_e fun w9 hm9 => ?_) (fun _ _ _ h => h.elim)
    have hmo := hmo.tr hm9 hmo.1
    have hK := hK.ext hm9
    refine xr_ifb_eq (tgt := 31) dX2_defaultMonth_12 (by decide) (fun c12 => ?_) (fun c12 => ?_)
    · skip
      try simp only [decide_eq_true_eq, decide_eq_false_iff_not] at c12
      refine xr_iconst dX2_defaultMonth_31 ?_
      refine xr_istore_n (lv' := [some _, some _, some _]) dX2_defaultMonth_32 (by decide) rfl rfl ?_
      refine xr_iload_n dX2_defaultMonth_33 rfl ?_
      refine xr_if_eq (tgt := 47) dX2_defaultMonth_34 (by decide) (by decide) (fun c34 => ?_) (fun c34 => absurd c34 (by decide))
      refine xr_iconst dX2_defaultMonth_47 ?_
      refine xr_ireturn rfl rfl dX2_defaultMonth_48 ?_
      rw [hpo]
      first | exact ⟨by simp only [defMonth]; rw [if_pos ⟨by omega, by omega, by omega⟩], hmo⟩ | exact ⟨by simp only [defMonth]; rw [if_neg (by omega)], hmo⟩ | omega
    · skip
      try simp only [decide_eq_true_eq, decide_eq_false_iff_not] at c12
      have htt := hB.t (t := P (13 + 6 * b) - 1) (by omega)
      have hpp := tdiv_bd htt.1.1 hrr.1
      refine xr_aload_n dX2_defaultMonth_15 rfl (by first | rfl | exact isRef_rf _) ?_
      refine xr_aload_n dX2_defaultMonth_16 rfl (by first | rfl | exact isRef_rf _) ?_
      refine xr_callV (n9 := 1) (rc' := 1) (rs' := 2) (k_P_payable hG hK hB hb c4) hK.hq rfl q893 q895 qs13 q87 q896 (by decide +kernel) rfl ⟨by decide, Nat.le_of_ble_eq_true rfl⟩ ⟨Nat.le_of_ble_eq_true rfl, Nat.le_of_ble_eq_true rfl⟩ (Nat.le_of_ble_eq_true rfl) dX2_defaultMonth_17 rfl (xk_e fun w17 hm17 => ?_) (fun _ _ _ h => h.elim)
      have hmo := hmo.tr hm17 hmo.1
      have hK := hK.ext hm17
      refine xr_aload_n dX2_defaultMonth_20 rfl (by first | rfl | exact isRef_rf _) ?_
      refine xr_getfieldN (ci := 3) (T := TX10) (N := 7) (i := 6) (hK.be b hb.1 hb.2) rfl (by decide) in_X10 q822 (.inl rfl) dX2_defaultMonth_21 (by rfl) ?_
      refine xr_icmp_ge (tgt := 31) dX2_defaultMonth_24 (by decide) (by simp only [payable]; omega) (fun c24 => ?_) (fun c24 => ?_)
      · skip
        refine xr_iconst dX2_defaultMonth_31 ?_
        refine xr_istore_n (lv' := [some _, some _, some _]) dX2_defaultMonth_32 (by decide) rfl rfl ?_
        refine xr_iload_n dX2_defaultMonth_33 rfl ?_
        refine xr_if_eq (tgt := 47) dX2_defaultMonth_34 (by decide) (by decide) (fun c34 => ?_) (fun c34 => absurd c34 (by decide))
        refine xr_iconst dX2_defaultMonth_47 ?_
        refine xr_ireturn rfl rfl dX2_defaultMonth_48 ?_
        rw [hpo]
        first | exact ⟨by simp only [defMonth]; rw [if_pos ⟨by omega, by omega, by omega⟩], hmo⟩ | exact ⟨by simp only [defMonth]; rw [if_neg (by omega)], hmo⟩ | omega
      · skip
        refine xr_iconst dX2_defaultMonth_27 ?_
        refine xr_goto (tgt := 32) dX2_defaultMonth_28 (by decide) ?_
        refine xr_istore_n (lv' := [some _, some _, some _]) dX2_defaultMonth_32 (by decide) rfl rfl ?_
        refine xr_iload_n dX2_defaultMonth_33 rfl ?_
        refine xr_if_eq (tgt := 47) dX2_defaultMonth_34 (by decide) (by decide) (fun c34 => absurd c34 (by decide)) (fun c34 => ?_)
        refine xr_aload_n dX2_defaultMonth_37 rfl (by first | rfl | exact isRef_rf _) ?_
        refine xr_aload_n dX2_defaultMonth_38 rfl (by first | rfl | exact isRef_rf _) ?_
        refine xr_callV (n9 := 1) (rc' := 0) (rs' := 0) (k_P_payable hG hK hB hb c4) hK.hq rfl q893 q895 qs13 q87 q896 (by decide +kernel) rfl ⟨by decide, Nat.le_of_ble_eq_true rfl⟩ ⟨Nat.le_of_ble_eq_true rfl, Nat.le_of_ble_eq_true rfl⟩ (Nat.le_of_ble_eq_true rfl) dX2_defaultMonth_39 rfl (xk_e fun w39 hm39 => ?_) (fun _ _ _ h => h.elim)
        have hmo := hmo.tr hm39 hmo.1
        have hK := hK.ext hm39
        refine xr_iconst dX2_defaultMonth_42 ?_
        refine xr_iadd dX2_defaultMonth_43 ?_
        refine xr_goto (tgt := 48) dX2_defaultMonth_44 (by decide) ?_
        refine xr_ireturn rfl rfl dX2_defaultMonth_48 ?_
        rw [hpo]
        first | exact ⟨by simp only [defMonth]; rw [if_pos ⟨by omega, by omega, by omega⟩], hmo⟩ | exact ⟨by simp only [defMonth]; rw [if_neg (by omega)], hmo⟩ | omega
