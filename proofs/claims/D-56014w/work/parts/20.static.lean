/-! 20.static.lean.txt (written by tools/walker.py)  -/
set_option maxRecDepth 100000
theorem k_isBetween {g : GG} {w : WW} {a b c : Int} (hG : Base g) (hr : (-2147483648 ≤ a ∧ a < 2147483648) ∧ (-2147483648 ≤ b ∧ b < 2147483648) ∧ (-2147483648 ≤ c ∧ c < 2147483648)) : Ct g yX1_isBetween (.code yX1_isBetween cX1_isBetween 3 (some .boolean)) 0 0 0 0 w [.int (iI a), .int (iI b), .int (iI c)] (fun r_ w1 => r_ = some (.int (bI (decide (b ≤ a ∧ a ≤ c)))) ∧ w1 = w) xF := by
  refine Ct.of (lv := [some _, some _, some _]) hG (by decide +kernel) (Nat.le_of_ble_eq_true rfl) rfl ?_
  intro z hg hpo hxp hnm htab
  subst hg
  refine xr_iload_n dX1_isBetween_0 rfl ?_
  refine xr_iload_n dX1_isBetween_1 rfl ?_
  refine xr_icmp_lt (tgt := 14) dX1_isBetween_2 (by decide) (by omega) (fun c2 => ?_) (fun c2 => ?_)
  · skip
    refine xr_iconst dX1_isBetween_14 ?_
    refine xr_ireturn rfl (by first | rfl | exact nar_bI _ | decide +kernel) dX1_isBetween_15 ?_
    rw [hpo]
    first | exact ⟨rfl, rfl⟩ | exact ⟨ret_bt (by omega), rfl⟩ | exact ⟨ret_bf (by omega), rfl⟩ | exact ⟨ret_i (by omega), rfl⟩
  · skip
    refine xr_iload_n dX1_isBetween_5 rfl ?_
    refine xr_iload_n dX1_isBetween_6 rfl ?_
    refine xr_icmp_gt (tgt := 14) dX1_isBetween_7 (by decide) (by omega) (fun c7 => ?_) (fun c7 => ?_)
    · skip
      refine xr_iconst dX1_isBetween_14 ?_
      refine xr_ireturn rfl (by first | rfl | exact nar_bI _ | decide +kernel) dX1_isBetween_15 ?_
      rw [hpo]
      first | exact ⟨rfl, rfl⟩ | exact ⟨ret_bt (by omega), rfl⟩ | exact ⟨ret_bf (by omega), rfl⟩ | exact ⟨ret_i (by omega), rfl⟩
    · skip
      refine xr_iconst dX1_isBetween_10 ?_
      refine xr_goto (tgt := 15) dX1_isBetween_11 (by decide) ?_
      refine xr_ireturn rfl (by first | rfl | exact nar_bI _ | decide +kernel) dX1_isBetween_15 ?_
      rw [hpo]
      first | exact ⟨rfl, rfl⟩ | exact ⟨ret_bt (by omega), rfl⟩ | exact ⟨ret_bf (by omega), rfl⟩ | exact ⟨ret_i (by omega), rfl⟩
theorem k_isRent {g : GG} {w : WW} {a : Int} (hG : Base g) (hr : (-2147483648 ≤ a ∧ a < 2147483648)) : Ct g yX1_isRent (.code yX1_isRent cX1_isRent 1 (some .boolean)) 1 22 0 0 w [.int (iI a)] (fun r_ w1 => r_ = some (.int (bI (decide (1 ≤ a ∧ a ≤ 20)))) ∧ w1 = w) xF := by
  refine Ct.of (lv := [some _]) hG (by decide +kernel) (Nat.le_of_ble_eq_true rfl) rfl ?_
  intro z hg hpo hxp hnm htab
  subst hg
  refine xr_iload_n dX1_isRent_0 rfl ?_
  refine xr_iconst dX1_isRent_1 ?_
  refine xr_bipush dX1_isRent_2 (by decide) ?_
  refine xr_callS (n9 := 3) (rc' := 0) (rs' := 0) (k_isBetween hG (by omega)) q938 q707 q86 q708 (by decide +kernel) rfl ⟨by decide, Nat.le_of_ble_eq_true rfl⟩ ⟨Nat.le_of_ble_eq_true rfl, Nat.le_of_ble_eq_true rfl⟩ (Nat.le_of_ble_eq_true rfl) dX1_isRent_4 rfl (xk_r ?_) (fun _ _ _ h => h.elim)
  refine xr_ireturn rfl (by first | rfl | exact nar_bI _ | decide +kernel) dX1_isRent_7 ?_
  rw [hpo]
  first | exact ⟨rfl, rfl⟩ | exact ⟨ret_bt (by omega), rfl⟩ | exact ⟨ret_bf (by omega), rfl⟩ | exact ⟨ret_i (by omega), rfl⟩
theorem k_isLoudness {g : GG} {w : WW} {a : Int} (hG : Base g) (hr : (-2147483648 ≤ a ∧ a < 2147483648)) : Ct g yX1_isLoudness (.code yX1_isLoudness cX1_isLoudness 1 (some .boolean)) 1 22 0 0 w [.int (iI a)] (fun r_ w1 => r_ = some (.int (bI (decide (1 ≤ a ∧ a ≤ 9)))) ∧ w1 = w) xF := by
  refine Ct.of (lv := [some _]) hG (by decide +kernel) (Nat.le_of_ble_eq_true rfl) rfl ?_
  intro z hg hpo hxp hnm htab
  subst hg
  refine xr_iload_n dX1_isLoudness_0 rfl ?_
  refine xr_iconst dX1_isLoudness_1 ?_
  refine xr_bipush dX1_isLoudness_2 (by decide) ?_
  refine xr_callS (n9 := 3) (rc' := 0) (rs' := 0) (k_isBetween hG (by omega)) q938 q707 q86 q708 (by decide +kernel) rfl ⟨by decide, Nat.le_of_ble_eq_true rfl⟩ ⟨Nat.le_of_ble_eq_true rfl, Nat.le_of_ble_eq_true rfl⟩ (Nat.le_of_ble_eq_true rfl) dX1_isLoudness_4 rfl (xk_r ?_) (fun _ _ _ h => h.elim)
  refine xr_ireturn rfl (by first | rfl | exact nar_bI _ | decide +kernel) dX1_isLoudness_7 ?_
  rw [hpo]
  first | exact ⟨rfl, rfl⟩ | exact ⟨ret_bt (by omega), rfl⟩ | exact ⟨ret_bf (by omega), rfl⟩ | exact ⟨ret_i (by omega), rfl⟩
theorem k_isLimit {g : GG} {w : WW} {a : Int} (hG : Base g) (hr : (-2147483648 ≤ a ∧ a < 2147483648)) : Ct g yX1_isLimit (.code yX1_isLimit cX1_isLimit 1 (some .boolean)) 1 22 0 0 w [.int (iI a)] (fun r_ w1 => r_ = some (.int (bI (decide (0 ≤ a ∧ a ≤ 20)))) ∧ w1 = w) xF := by
  refine Ct.of (lv := [some _]) hG (by decide +kernel) (Nat.le_of_ble_eq_true rfl) rfl ?_
  intro z hg hpo hxp hnm htab
  subst hg
  refine xr_iload_n dX1_isLimit_0 rfl ?_
  refine xr_iconst dX1_isLimit_1 ?_
  refine xr_bipush dX1_isLimit_2 (by decide) ?_
  refine xr_callS (n9 := 3) (rc' := 0) (rs' := 0) (k_isBetween hG (by omega)) q938 q707 q86 q708 (by decide +kernel) rfl ⟨by decide, Nat.le_of_ble_eq_true rfl⟩ ⟨Nat.le_of_ble_eq_true rfl, Nat.le_of_ble_eq_true rfl⟩ (Nat.le_of_ble_eq_true rfl) dX1_isLimit_4 rfl (xk_r ?_) (fun _ _ _ h => h.elim)
  refine xr_ireturn rfl (by first | rfl | exact nar_bI _ | decide +kernel) dX1_isLimit_7 ?_
  rw [hpo]
  first | exact ⟨rfl, rfl⟩ | exact ⟨ret_bt (by omega), rfl⟩ | exact ⟨ret_bf (by omega), rfl⟩ | exact ⟨ret_i (by omega), rfl⟩
theorem k_isPurse {g : GG} {w : WW} {a : Int} (hG : Base g) (hr : (-2147483648 ≤ a ∧ a < 2147483648)) : Ct g yX1_isPurse (.code yX1_isPurse cX1_isPurse 1 (some .boolean)) 1 22 0 0 w [.int (iI a)] (fun r_ w1 => r_ = some (.int (bI (decide (0 ≤ a ∧ a ≤ 99)))) ∧ w1 = w) xF := by
  refine Ct.of (lv := [some _]) hG (by decide +kernel) (Nat.le_of_ble_eq_true rfl) rfl ?_
  intro z hg hpo hxp hnm htab
  subst hg
  refine xr_iload_n dX1_isPurse_0 rfl ?_
  refine xr_iconst dX1_isPurse_1 ?_
  refine xr_bipush dX1_isPurse_2 (by decide) ?_
  refine xr_callS (n9 := 3) (rc' := 0) (rs' := 0) (k_isBetween hG (by omega)) q938 q707 q86 q708 (by decide +kernel) rfl ⟨by decide, Nat.le_of_ble_eq_true rfl⟩ ⟨Nat.le_of_ble_eq_true rfl, Nat.le_of_ble_eq_true rfl⟩ (Nat.le_of_ble_eq_true rfl) dX1_isPurse_4 rfl (xk_r ?_) (fun _ _ _ h => h.elim)
  refine xr_ireturn rfl (by first | rfl | exact nar_bI _ | decide +kernel) dX1_isPurse_7 ?_
  rw [hpo]
  first | exact ⟨rfl, rfl⟩ | exact ⟨ret_bt (by omega), rfl⟩ | exact ⟨ret_bf (by omega), rfl⟩ | exact ⟨ret_i (by omega), rfl⟩
theorem k_isGift {g : GG} {w : WW} {a : Int} (hG : Base g) (hr : (-2147483648 ≤ a ∧ a < 2147483648)) : Ct g yX1_isGift (.code yX1_isGift cX1_isGift 1 (some .boolean)) 1 22 0 0 w [.int (iI a)] (fun r_ w1 => r_ = some (.int (bI (decide (1 ≤ a ∧ a ≤ 99)))) ∧ w1 = w) xF := by
  refine Ct.of (lv := [some _]) hG (by decide +kernel) (Nat.le_of_ble_eq_true rfl) rfl ?_
  intro z hg hpo hxp hnm htab
  subst hg
  refine xr_iload_n dX1_isGift_0 rfl ?_
  refine xr_iconst dX1_isGift_1 ?_
  refine xr_bipush dX1_isGift_2 (by decide) ?_
  refine xr_callS (n9 := 3) (rc' := 0) (rs' := 0) (k_isBetween hG (by omega)) q938 q707 q86 q708 (by decide +kernel) rfl ⟨by decide, Nat.le_of_ble_eq_true rfl⟩ ⟨Nat.le_of_ble_eq_true rfl, Nat.le_of_ble_eq_true rfl⟩ (Nat.le_of_ble_eq_true rfl) dX1_isGift_4 rfl (xk_r ?_) (fun _ _ _ h => h.elim)
  refine xr_ireturn rfl (by first | rfl | exact nar_bI _ | decide +kernel) dX1_isGift_7 ?_
  rw [hpo]
  first | exact ⟨rfl, rfl⟩ | exact ⟨ret_bt (by omega), rfl⟩ | exact ⟨ret_bf (by omega), rfl⟩ | exact ⟨ret_i (by omega), rfl⟩
theorem k_isTerm {g : GG} {w : WW} {a : Int} (hG : Base g) (hr : (-2147483648 ≤ a ∧ a < 2147483648)) : Ct g yX1_isTerm (.code yX1_isTerm cX1_isTerm 1 (some .boolean)) 1 22 0 0 w [.int (iI a)] (fun r_ w1 => r_ = some (.int (bI (decide (1 ≤ a ∧ a ≤ 12)))) ∧ w1 = w) xF := by
  refine Ct.of (lv := [some _]) hG (by decide +kernel) (Nat.le_of_ble_eq_true rfl) rfl ?_
  intro z hg hpo hxp hnm htab
  subst hg
  refine xr_iload_n dX1_isTerm_0 rfl ?_
  refine xr_iconst dX1_isTerm_1 ?_
  refine xr_bipush dX1_isTerm_2 (by decide) ?_
  refine xr_callS (n9 := 3) (rc' := 0) (rs' := 0) (k_isBetween hG (by omega)) q938 q707 q86 q708 (by decide +kernel) rfl ⟨by decide, Nat.le_of_ble_eq_true rfl⟩ ⟨Nat.le_of_ble_eq_true rfl, Nat.le_of_ble_eq_true rfl⟩ (Nat.le_of_ble_eq_true rfl) dX1_isTerm_4 rfl (xk_r ?_) (fun _ _ _ h => h.elim)
  refine xr_ireturn rfl (by first | rfl | exact nar_bI _ | decide +kernel) dX1_isTerm_7 ?_
  rw [hpo]
  first | exact ⟨rfl, rfl⟩ | exact ⟨ret_bt (by omega), rfl⟩ | exact ⟨ret_bf (by omega), rfl⟩ | exact ⟨ret_i (by omega), rfl⟩
theorem k_isCell {g : GG} {w : WW} {a b : Int} (hG : Base g) (hr : (-2147483648 ≤ a ∧ a < 2147483648) ∧ (-2147483648 ≤ b ∧ b < 2147483648)) : Ct g yX1_isCell (.code yX1_isCell cX1_isCell 2 (some .boolean)) 1 22 0 0 w [.int (iI a), .int (iI b)] (fun r_ w1 => r_ = some (.int (bI (decide ((0 ≤ a ∧ a ≤ 5) ∧ (0 ≤ b ∧ b ≤ 5))))) ∧ w1 = w) xF := by
  refine Ct.of (lv := [some _, some _]) hG (by decide +kernel) (Nat.le_of_ble_eq_true rfl) rfl ?_
  intro z hg hpo hxp hnm htab
  subst hg
  refine xr_iload_n dX1_isCell_0 rfl ?_
  refine xr_iconst dX1_isCell_1 ?_
  refine xr_iconst dX1_isCell_2 ?_
  refine xr_callS (n9 := 3) (rc' := 0) (rs' := 0) (k_isBetween hG (by omega)) q938 q707 q86 q708 (by decide +kernel) rfl ⟨by decide, Nat.le_of_ble_eq_true rfl⟩ ⟨Nat.le_of_ble_eq_true rfl, Nat.le_of_ble_eq_true rfl⟩ (Nat.le_of_ble_eq_true rfl) dX1_isCell_3 rfl (xk_r ?_) (fun _ _ _ h => h.elim)
  refine xr_ifb_eq (tgt := 22) dX1_isCell_6 (by decide) (fun c6 => ?_) (fun c6 => ?_)
  · skip
    try simp only [decide_eq_true_eq, decide_eq_false_iff_not] at c6
    refine xr_iconst dX1_isCell_22 ?_
    refine xr_ireturn rfl (by first | rfl | exact nar_bI _ | decide +kernel) dX1_isCell_23 ?_
    rw [hpo]
    first | exact ⟨rfl, rfl⟩ | exact ⟨ret_bt (by omega), rfl⟩ | exact ⟨ret_bf (by omega), rfl⟩ | exact ⟨ret_i (by omega), rfl⟩
  · skip
    try simp only [decide_eq_true_eq, decide_eq_false_iff_not] at c6
    refine xr_iload_n dX1_isCell_9 rfl ?_
    refine xr_iconst dX1_isCell_10 ?_
    refine xr_iconst dX1_isCell_11 ?_
    refine xr_callS (n9 := 3) (rc' := 0) (rs' := 0) (k_isBetween hG (by omega)) q938 q707 q86 q708 (by decide +kernel) rfl ⟨by decide, Nat.le_of_ble_eq_true rfl⟩ ⟨Nat.le_of_ble_eq_true rfl, Nat.le_of_ble_eq_true rfl⟩ (Nat.le_of_ble_eq_true rfl) dX1_isCell_12 rfl (xk_r ?_) (fun _ _ _ h => h.elim)
    refine xr_ifb_eq (tgt := 22) dX1_isCell_15 (by decide) (fun c15 => ?_) (fun c15 => ?_)
    · skip
      try simp only [decide_eq_true_eq, decide_eq_false_iff_not] at c15
      refine xr_iconst dX1_isCell_22 ?_
      refine xr_ireturn rfl (by first | rfl | exact nar_bI _ | decide +kernel) dX1_isCell_23 ?_
      rw [hpo]
      first | exact ⟨rfl, rfl⟩ | exact ⟨ret_bt (by omega), rfl⟩ | exact ⟨ret_bf (by omega), rfl⟩ | exact ⟨ret_i (by omega), rfl⟩
    · skip
      try simp only [decide_eq_true_eq, decide_eq_false_iff_not] at c15
      refine xr_iconst dX1_isCell_18 ?_
      refine xr_goto (tgt := 23) dX1_isCell_19 (by decide) ?_
      refine xr_ireturn rfl (by first | rfl | exact nar_bI _ | decide +kernel) dX1_isCell_23 ?_
      rw [hpo]
      first | exact ⟨rfl, rfl⟩ | exact ⟨ret_bt (by omega), rfl⟩ | exact ⟨ret_bf (by omega), rfl⟩ | exact ⟨ret_i (by omega), rfl⟩
theorem k_asInt {g : GG} {w : WW} {b : Bool} (hG : Base g)  : Ct g yX1_asInt (.code yX1_asInt cX1_asInt 1 (some .int)) 0 0 0 0 w [.int (bI b)] (fun r_ w1 => r_ = some (.int (bI b)) ∧ w1 = w) xF := by
  refine Ct.of (lv := [some _]) hG (by decide +kernel) (Nat.le_of_ble_eq_true rfl) rfl ?_
  intro z hg hpo hxp hnm htab
  subst hg
  refine xr_iload_n dX1_asInt_0 rfl ?_
  refine xr_ifb_eq (tgt := 8) dX1_asInt_1 (by decide) (fun c1 => ?_) (fun c1 => ?_)
  · skip
    try simp only [decide_eq_true_eq, decide_eq_false_iff_not] at c1
    subst c1
    refine xr_iconst dX1_asInt_8 ?_
    refine xr_ireturn rfl rfl dX1_asInt_9 ?_
    rw [hpo]
    first | exact ⟨rfl, rfl⟩ | exact ⟨ret_bt (by omega), rfl⟩ | exact ⟨ret_bf (by omega), rfl⟩ | exact ⟨ret_i (by omega), rfl⟩
  · skip
    try simp only [decide_eq_true_eq, decide_eq_false_iff_not] at c1
    subst c1
    refine xr_iconst dX1_asInt_4 ?_
    refine xr_goto (tgt := 9) dX1_asInt_5 (by decide) ?_
    refine xr_ireturn rfl rfl dX1_asInt_9 ?_
    rw [hpo]
    first | exact ⟨rfl, rfl⟩ | exact ⟨ret_bt (by omega), rfl⟩ | exact ⟨ret_bf (by omega), rfl⟩ | exact ⟨ret_i (by omega), rfl⟩
theorem k_requireIndex {g : GG} {w : WW} {b : Bool} (hG : Base g)  : Ct g yX1_requireIndex (.code yX1_requireIndex cX1_requireIndex 1 none) 6 81 1 6 w [.int (bI b)] (fun r w1 => b = true ∧ r = none ∧ w1 = w) (fun E q w1 => b = false ∧ E = "java/lang/IndexOutOfBoundsException" ∧ w1 = w) := by
  refine Ct.of (lv := [some _]) hG (by decide +kernel) (Nat.le_of_ble_eq_true rfl) rfl ?_
  intro z hg hpo hxp hnm htab
  subst hg
  refine xr_iload_n dX1_requireIndex_0 rfl ?_
  refine xr_ifb_ne (tgt := 12) dX1_requireIndex_1 (by decide) (fun c1 => ?_) (fun c1 => ?_)
  · skip
    try simp only [decide_eq_true_eq, decide_eq_false_iff_not] at c1
    refine xr_return rfl dX1_requireIndex_12 ?_
    rw [hpo]
    exact ⟨c1, rfl, rfl⟩
  · skip
    try simp only [decide_eq_true_eq, decide_eq_false_iff_not] at c1
    refine xr_throw0 (cls := "java/lang/IndexOutOfBoundsException") (names := ["java/lang/RuntimeException", "java/lang/Exception"]) (by decide +kernel) (by decide +kernel) q942 q100 (at_words [97, 546, 555, 567, 570, 572, 547, 548, 139, 140, 549, 554, 568, 588, 536, 589, 538, 590, 540, 550, 552, 542, 952, 953, 954, 695, 527, 695, 696, 697, 698, 529, 698, 699, 700, 547, 531, 951, 943, 944, 945, 563, 946, 947, 948, 949, 586, 544, 950] (by decide +kernel) (by decide +kernel)) ⟨rfl, rfl⟩ dX1_requireIndex_4 dX1_requireIndex_7 dX1_requireIndex_8 dX1_requireIndex_11 (fun x hx => (htab x hx).elim) (by decide) (Nat.le_of_ble_eq_true rfl) ⟨Nat.le_of_ble_eq_true rfl, Nat.le_of_ble_eq_true rfl⟩ (fun q9 hq9 => ?_)
    rw [hxp]
    exact ⟨c1, rfl, rfl⟩
theorem k_requireArgument {g : GG} {w : WW} {b : Bool} (hG : Base g)  : Ct g yX1_requireArgument (.code yX1_requireArgument cX1_requireArgument 1 none) 6 81 1 6 w [.int (bI b)] (fun r w1 => b = true ∧ r = none ∧ w1 = w) (fun E q w1 => b = false ∧ E = "java/lang/IllegalArgumentException" ∧ w1 = w) := by
  refine Ct.of (lv := [some _]) hG (by decide +kernel) (Nat.le_of_ble_eq_true rfl) rfl ?_
  intro z hg hpo hxp hnm htab
  subst hg
  refine xr_iload_n dX1_requireArgument_0 rfl ?_
  refine xr_ifb_ne (tgt := 12) dX1_requireArgument_1 (by decide) (fun c1 => ?_) (fun c1 => ?_)
  · skip
    try simp only [decide_eq_true_eq, decide_eq_false_iff_not] at c1
    refine xr_return rfl dX1_requireArgument_12 ?_
    rw [hpo]
    exact ⟨c1, rfl, rfl⟩
  · skip
    try simp only [decide_eq_true_eq, decide_eq_false_iff_not] at c1
    refine xr_throw0 (cls := "java/lang/IllegalArgumentException") (names := ["java/lang/RuntimeException", "java/lang/Exception"]) (by decide +kernel) (by decide +kernel) q963 q102 (at_words [97, 546, 555, 567, 570, 572, 547, 548, 139, 140, 549, 554, 568, 588, 536, 589, 538, 590, 540, 550, 552, 542, 973, 974, 975, 695, 527, 695, 696, 697, 698, 529, 698, 699, 700, 547, 531, 972, 964, 965, 966, 562, 967, 968, 969, 970, 586, 544, 971] (by decide +kernel) (by decide +kernel)) ⟨rfl, rfl⟩ dX1_requireArgument_4 dX1_requireArgument_7 dX1_requireArgument_8 dX1_requireArgument_11 (fun x hx => (htab x hx).elim) (by decide) (Nat.le_of_ble_eq_true rfl) ⟨Nat.le_of_ble_eq_true rfl, Nat.le_of_ble_eq_true rfl⟩ (fun q9 hq9 => ?_)
    rw [hxp]
    exact ⟨c1, rfl, rfl⟩
theorem k_requireState {g : GG} {w : WW} {b : Bool} (hG : Base g)  : Ct g yX1_requireState (.code yX1_requireState cX1_requireState 1 none) 6 81 1 6 w [.int (bI b)] (fun r w1 => b = true ∧ r = none ∧ w1 = w) (fun E q w1 => b = false ∧ E = "java/lang/IllegalStateException" ∧ w1 = w) := by
  refine Ct.of (lv := [some _]) hG (by decide +kernel) (Nat.le_of_ble_eq_true rfl) rfl ?_
  intro z hg hpo hxp hnm htab
  subst hg
  refine xr_iload_n dX1_requireState_0 rfl ?_
  refine xr_ifb_ne (tgt := 12) dX1_requireState_1 (by decide) (fun c1 => ?_) (fun c1 => ?_)
  · skip
    try simp only [decide_eq_true_eq, decide_eq_false_iff_not] at c1
    refine xr_return rfl dX1_requireState_12 ?_
    rw [hpo]
    exact ⟨c1, rfl, rfl⟩
  · skip
    try simp only [decide_eq_true_eq, decide_eq_false_iff_not] at c1
    refine xr_throw0 (cls := "java/lang/IllegalStateException") (names := ["java/lang/RuntimeException", "java/lang/Exception"]) (by decide +kernel) (by decide +kernel) q1874 q123 (at_words [97, 546, 555, 567, 570, 572, 547, 548, 139, 140, 549, 554, 568, 588, 536, 589, 538, 590, 540, 550, 552, 542, 1876, 1877, 1878, 695, 527, 695, 696, 697, 698, 529, 698, 699, 700, 547, 531, 1875, 525, 526, 533, 534, 535, 537, 539, 541, 586, 544, 543] (by decide +kernel) (by decide +kernel)) ⟨rfl, rfl⟩ dX1_requireState_4 dX1_requireState_7 dX1_requireState_8 dX1_requireState_11 (fun x hx => (htab x hx).elim) (by decide) (Nat.le_of_ble_eq_true rfl) ⟨Nat.le_of_ble_eq_true rfl, Nat.le_of_ble_eq_true rfl⟩ (fun q9 hq9 => ?_)
    rw [hxp]
    exact ⟨c1, rfl, rfl⟩
theorem k_requireElement {g : GG} {w : WW} {b : Bool} (hG : Base g)  : Ct g yX1_requireElement (.code yX1_requireElement cX1_requireElement 1 none) 6 81 1 6 w [.int (bI b)] (fun r w1 => b = true ∧ r = none ∧ w1 = w) (fun E q w1 => b = false ∧ E = "java/util/NoSuchElementException" ∧ w1 = w) := by
  refine Ct.of (lv := [some _]) hG (by decide +kernel) (Nat.le_of_ble_eq_true rfl) rfl ?_
  intro z hg hpo hxp hnm htab
  subst hg
  refine xr_iload_n dX1_requireElement_0 rfl ?_
  refine xr_ifb_ne (tgt := 12) dX1_requireElement_1 (by decide) (fun c1 => ?_) (fun c1 => ?_)
  · skip
    try simp only [decide_eq_true_eq, decide_eq_false_iff_not] at c1
    refine xr_return rfl dX1_requireElement_12 ?_
    rw [hpo]
    exact ⟨c1, rfl, rfl⟩
  · skip
    try simp only [decide_eq_true_eq, decide_eq_false_iff_not] at c1
    refine xr_throw0 (cls := "java/util/NoSuchElementException") (names := ["java/lang/RuntimeException", "java/lang/Exception"]) (by decide +kernel) (by decide +kernel) q1381 q124 (at_words [97, 546, 555, 567, 570, 572, 547, 548, 139, 140, 549, 554, 568, 588, 536, 589, 538, 590, 540, 550, 552, 542, 692, 693, 694, 695, 527, 695, 696, 697, 698, 529, 698, 699, 700, 547, 531, 1382, 683, 684, 685, 566, 686, 687, 688, 689, 586, 544, 690] (by decide +kernel) (by decide +kernel)) ⟨rfl, rfl⟩ dX1_requireElement_4 dX1_requireElement_7 dX1_requireElement_8 dX1_requireElement_11 (fun x hx => (htab x hx).elim) (by decide) (Nat.le_of_ble_eq_true rfl) ⟨Nat.le_of_ble_eq_true rfl, Nat.le_of_ble_eq_true rfl⟩ (fun q9 hq9 => ?_)
    rw [hxp]
    exact ⟨c1, rfl, rfl⟩
theorem k_requireCount {g : GG} {w : WW} {b : Bool} (hG : Base g)  : Ct g yX1_requireCount (.code yX1_requireCount cX1_requireCount 1 none) 6 81 1 6 w [.int (bI b)] (fun r w1 => b = true ∧ r = none ∧ w1 = w) (fun E q w1 => b = false ∧ E = "java/lang/ArithmeticException" ∧ w1 = w) := by
  refine Ct.of (lv := [some _]) hG (by decide +kernel) (Nat.le_of_ble_eq_true rfl) rfl ?_
  intro z hg hpo hxp hnm htab
  subst hg
  refine xr_iload_n dX1_requireCount_0 rfl ?_
  refine xr_ifb_ne (tgt := 12) dX1_requireCount_1 (by decide) (fun c1 => ?_) (fun c1 => ?_)
  · skip
    try simp only [decide_eq_true_eq, decide_eq_false_iff_not] at c1
    refine xr_return rfl dX1_requireCount_12 ?_
    rw [hpo]
    exact ⟨c1, rfl, rfl⟩
  · skip
    try simp only [decide_eq_true_eq, decide_eq_false_iff_not] at c1
    refine xr_throw0 (cls := "java/lang/ArithmeticException") (names := ["java/lang/RuntimeException", "java/lang/Exception"]) (by decide +kernel) (by decide +kernel) q1571 q126 (at_words [97, 546, 555, 567, 570, 572, 547, 548, 139, 140, 549, 554, 568, 588, 536, 589, 538, 590, 540, 550, 552, 542, 1573, 1574, 1575, 695, 527, 695, 696, 697, 698, 529, 698, 699, 700, 547, 531, 1572, 1550, 1561, 1562, 560, 1556, 1557, 1559, 1555, 586, 544, 1554] (by decide +kernel) (by decide +kernel)) ⟨rfl, rfl⟩ dX1_requireCount_4 dX1_requireCount_7 dX1_requireCount_8 dX1_requireCount_11 (fun x hx => (htab x hx).elim) (by decide) (Nat.le_of_ble_eq_true rfl) ⟨Nat.le_of_ble_eq_true rfl, Nat.le_of_ble_eq_true rfl⟩ (fun q9 hq9 => ?_)
    rw [hxp]
    exact ⟨c1, rfl, rfl⟩
