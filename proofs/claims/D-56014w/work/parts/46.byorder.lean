/-! 46.byorder.lean.txt (written by tools/walker.py)  -/
set_option maxRecDepth 100000
/-- 1 for a bench that is let -/
def isL (P : Int → Int) (b : Int) : Int := if P (13 + 6 * b) ≠ 0 then 1 else 0
theorem isL_bd {P : Int → Int} {b : Int} : 0 ≤ isL P b ∧ isL P b ≤ 1 := by unfold isL; split <;> omega
theorem bI_let {P : Int → Int} {b : Int} : bI (decide (P (13 + 6 * b) ≠ 0)) = iI (isL P b) := by unfold isL bI; simp only [decide_eq_true_eq]
/-- the orders of the benches, of the tenants -/
def ordB (P : Int → Int) (a b : Int) : Bool := decide (rent P a < rent P b ∨ (rent P a = rent P b ∧ (isL P a < isL P b ∨ (isL P a = isL P b ∧ a < b))))
def ordT (P : Int → Int) (a b : Int) : Bool := decide (P (86 + 2 * b) < P (86 + 2 * a) ∨ (P (86 + 2 * a) = P (86 + 2 * b) ∧ (P (87 + 2 * a) < P (87 + 2 * b) ∨ (P (87 + 2 * a) = P (87 + 2 * b) ∧ a < b))))
theorem k_lam8 {g : GG} {w : WW} {n0 : Nat → Prop} {q : Nat} {L : Int → Nat} {P : Int → Int} {N : Int} {a b : Int} (hG : Base g) (hK : PK g w n0 q L P) (hB : PB P N) (ha : 0 ≤ a ∧ a < P 0) (hb : 0 ≤ b ∧ b < P 0) : Ct g yX2_lambda_benchByRent_7 (.code yX2_lambda_benchByRent_7 cX2_lambda_benchByRent_7 5 (some .boolean)) 14 3144 2 4 w [.ref q, .ref (L (10 + a)), .ref (L (10 + b))] (fun r_ w1 => r_ = some (.int (bI (ordB P a b))) ∧ Mo w.2 w w1) xF := by
  refine Ct.of (lv := [some _, some _, some _, none, none]) hG (by decide +kernel) (Nat.le_of_ble_eq_true rfl) rfl ?_
  intro z hg hpo hxp hnm htab
  subst hg
  have hmo : Mo w.2 w w := Mo.rf
  have hgg := hB.g
  have hra := rent_bd hB ha.1 ha.2
  have hrb := rent_bd hB hb.1 hb.2
  have hla := isL_bd (P := P) (b := a)
  have hlb := isL_bd (P := P) (b := b)
  refine xr_aload_n dX2_lambda_benchByRent_7_0 rfl (by first | rfl | exact isRef_rf _) ?_
  refine xr_aload_n dX2_lambda_benchByRent_7_1 rfl (by first | rfl | exact isRef_rf _) ?_
  refine xr_callV (n9 := 1) (rc' := 1) (rs' := 2) (k_P_rentOf hG hK hB hb) hK.hq rfl q872 q873 q874 q87 q875 (by decide +kernel) rfl ⟨by decide, Nat.le_of_ble_eq_true rfl⟩ ⟨Nat.le_of_ble_eq_true rfl, Nat.le_of_ble_eq_true rfl⟩ (Nat.le_of_ble_eq_true rfl) dX2_lambda_benchByRent_7_2 rfl (xk_e fun w2 hm2 => ?_) (fun _ _ _ h => h.elim)
  have hmo := hmo.tr hm2 hmo.1
  have hK := hK.ext hm2
  refine xr_aload_n dX2_lambda_benchByRent_7_5 rfl (by first | rfl | exact isRef_rf _) ?_
  refine xr_aload_n dX2_lambda_benchByRent_7_6 rfl (by first | rfl | exact isRef_rf _) ?_
  refine xr_callV (n9 := 1) (rc' := 0) (rs' := 0) (k_P_rentOf hG hK hB ha) hK.hq rfl q872 q873 q874 q87 q875 (by decide +kernel) rfl ⟨by decide, Nat.le_of_ble_eq_true rfl⟩ ⟨Nat.le_of_ble_eq_true rfl, Nat.le_of_ble_eq_true rfl⟩ (Nat.le_of_ble_eq_true rfl) dX2_lambda_benchByRent_7_7 rfl (xk_e fun w7 hm7 => ?_) (fun _ _ _ h => h.elim)
  have hmo := hmo.tr hm7 hmo.1
  have hK := hK.ext hm7
  refine xr_isub dX2_lambda_benchByRent_7_10 ?_
  refine xr_istore_n (lv' := [some _, some _, some _, some _, none]) dX2_lambda_benchByRent_7_11 (by decide) rfl rfl ?_
  refine xr_aload_n dX2_lambda_benchByRent_7_12 rfl (by first | rfl | exact isRef_rf _) ?_
  refine xr_callV (n9 := 0) (rc' := 0) (rs' := 0) (k_B_isLet hG (hK.be b hb.1 hb.2)) (hK.be b hb.1 hb.2) rfl q716 q717 q718 q114 q719 (by decide +kernel) rfl ⟨by decide, Nat.le_of_ble_eq_true rfl⟩ ⟨Nat.le_of_ble_eq_true rfl, Nat.le_of_ble_eq_true rfl⟩ (Nat.le_of_ble_eq_true rfl) dX2_lambda_benchByRent_7_13 rfl (xk_r ?_) (fun _ _ _ h => h.elim)
  rw [opt_is]
  refine xr_callSN (n9 := 1) (rc' := 0) (rs' := 0) (k_asInt hG) q385 q386 q86 q387 (by decide +kernel) rfl ⟨by decide, Nat.le_of_ble_eq_true rfl⟩ ⟨Nat.le_of_ble_eq_true rfl, Nat.le_of_ble_eq_true rfl⟩ (Nat.le_of_ble_eq_true rfl) dX2_lambda_benchByRent_7_16 rfl (xk_r ?_) (fun _ _ _ h => h.elim)
  rw [bI_let (P := P) (b := b)]
  refine xr_aload_n dX2_lambda_benchByRent_7_19 rfl (by first | rfl | exact isRef_rf _) ?_
  refine xr_callV (n9 := 0) (rc' := 0) (rs' := 0) (k_B_isLet hG (hK.be a ha.1 ha.2)) (hK.be a ha.1 ha.2) rfl q716 q717 q718 q114 q719 (by decide +kernel) rfl ⟨by decide, Nat.le_of_ble_eq_true rfl⟩ ⟨Nat.le_of_ble_eq_true rfl, Nat.le_of_ble_eq_true rfl⟩ (Nat.le_of_ble_eq_true rfl) dX2_lambda_benchByRent_7_20 rfl (xk_r ?_) (fun _ _ _ h => h.elim)
  rw [opt_is]
  refine xr_callSN (n9 := 1) (rc' := 0) (rs' := 0) (k_asInt hG) q385 q386 q86 q387 (by decide +kernel) rfl ⟨by decide, Nat.le_of_ble_eq_true rfl⟩ ⟨Nat.le_of_ble_eq_true rfl, Nat.le_of_ble_eq_true rfl⟩ (Nat.le_of_ble_eq_true rfl) dX2_lambda_benchByRent_7_23 rfl (xk_r ?_) (fun _ _ _ h => h.elim)
  rw [bI_let (P := P) (b := a)]
  refine xr_isub dX2_lambda_benchByRent_7_26 ?_
  refine xr_istore (lv' := [some _, some _, some _, some _, some _]) dX2_lambda_benchByRent_7_27 (by decide) rfl rfl ?_
  refine xr_iload_n dX2_lambda_benchByRent_7_29 rfl ?_
  refine xr_if_gt (tgt := 58) dX2_lambda_benchByRent_7_30 (by decide) (by omega) (fun c30 => ?_) (fun c30 => ?_)
  · skip
    refine xr_iconst dX2_lambda_benchByRent_7_58 ?_
    refine xr_goto (tgt := 63) dX2_lambda_benchByRent_7_59 (by decide) ?_
    refine xr_ireturn rfl (by first | rfl | exact nar_bI _ | decide +kernel) dX2_lambda_benchByRent_7_63 ?_
    rw [hpo]
    unfold ordB
    first | exact ⟨ret_bt (by omega), hmo⟩ | exact ⟨ret_bf (by omega), hmo⟩
  · skip
    refine xr_iload_n dX2_lambda_benchByRent_7_33 rfl ?_
    refine xr_if_ne (tgt := 62) dX2_lambda_benchByRent_7_34 (by decide) (by omega) (fun c34 => ?_) (fun c34 => ?_)
    · skip
      refine xr_iconst dX2_lambda_benchByRent_7_62 ?_
      refine xr_ireturn rfl (by first | rfl | exact nar_bI _ | decide +kernel) dX2_lambda_benchByRent_7_63 ?_
      rw [hpo]
      unfold ordB
      first | exact ⟨ret_bt (by omega), hmo⟩ | exact ⟨ret_bf (by omega), hmo⟩
    · skip
      refine xr_iload dX2_lambda_benchByRent_7_37 rfl ?_
      refine xr_if_gt (tgt := 58) dX2_lambda_benchByRent_7_39 (by decide) (by omega) (fun c39 => ?_) (fun c39 => ?_)
      · skip
        refine xr_iconst dX2_lambda_benchByRent_7_58 ?_
        refine xr_goto (tgt := 63) dX2_lambda_benchByRent_7_59 (by decide) ?_
        refine xr_ireturn rfl (by first | rfl | exact nar_bI _ | decide +kernel) dX2_lambda_benchByRent_7_63 ?_
        rw [hpo]
        unfold ordB
        first | exact ⟨ret_bt (by omega), hmo⟩ | exact ⟨ret_bf (by omega), hmo⟩
      · skip
        refine xr_iload dX2_lambda_benchByRent_7_42 rfl ?_
        refine xr_if_ne (tgt := 62) dX2_lambda_benchByRent_7_44 (by decide) (by omega) (fun c44 => ?_) (fun c44 => ?_)
        · skip
          refine xr_iconst dX2_lambda_benchByRent_7_62 ?_
          refine xr_ireturn rfl (by first | rfl | exact nar_bI _ | decide +kernel) dX2_lambda_benchByRent_7_63 ?_
          rw [hpo]
          unfold ordB
          first | exact ⟨ret_bt (by omega), hmo⟩ | exact ⟨ret_bf (by omega), hmo⟩
        · skip
          refine xr_aload_n dX2_lambda_benchByRent_7_47 rfl (by first | rfl | exact isRef_rf _) ?_
          refine xr_callVU (n9 := 0) (rc' := 0) (rs' := 0) (k_index_B hG (hK.be a ha.1 ha.2)) (hK.be a ha.1 ha.2) rfl q859 q801 rfl q804 q803 q107 q805 (by decide +kernel) rfl ⟨by decide, Nat.le_of_ble_eq_true rfl⟩ ⟨Nat.le_of_ble_eq_true rfl, Nat.le_of_ble_eq_true rfl⟩ (Nat.le_of_ble_eq_true rfl) dX2_lambda_benchByRent_7_48 rfl (xk_r ?_) (fun _ _ _ h => h.elim)
          refine xr_aload_n dX2_lambda_benchByRent_7_51 rfl (by first | rfl | exact isRef_rf _) ?_
          refine xr_callVU (n9 := 0) (rc' := 0) (rs' := 0) (k_index_B hG (hK.be b hb.1 hb.2)) (hK.be b hb.1 hb.2) rfl q859 q801 rfl q804 q803 q107 q805 (by decide +kernel) rfl ⟨by decide, Nat.le_of_ble_eq_true rfl⟩ ⟨Nat.le_of_ble_eq_true rfl, Nat.le_of_ble_eq_true rfl⟩ (Nat.le_of_ble_eq_true rfl) dX2_lambda_benchByRent_7_52 rfl (xk_r ?_) (fun _ _ _ h => h.elim)
          refine xr_icmp_ge (tgt := 62) dX2_lambda_benchByRent_7_55 (by decide) (by omega) (fun c55 => ?_) (fun c55 => ?_)
          · skip
            refine xr_iconst dX2_lambda_benchByRent_7_62 ?_
            refine xr_ireturn rfl (by first | rfl | exact nar_bI _ | decide +kernel) dX2_lambda_benchByRent_7_63 ?_
            rw [hpo]
            unfold ordB
            first | exact ⟨ret_bt (by omega), hmo⟩ | exact ⟨ret_bf (by omega), hmo⟩
          · skip
            refine xr_iconst dX2_lambda_benchByRent_7_58 ?_
            refine xr_goto (tgt := 63) dX2_lambda_benchByRent_7_59 (by decide) ?_
            refine xr_ireturn rfl (by first | rfl | exact nar_bI _ | decide +kernel) dX2_lambda_benchByRent_7_63 ?_
            rw [hpo]
            unfold ordB
            first | exact ⟨ret_bt (by omega), hmo⟩ | exact ⟨ret_bf (by omega), hmo⟩
theorem k_lam9 {g : GG} {w : WW} {n0 : Nat → Prop} {q : Nat} {L : Int → Nat} {P : Int → Int} {N : Int} {a b : Int} (hG : Base g) (hK : PK g w n0 q L P) (hB : PB P N) (ha : 0 ≤ a ∧ a < P 2) (hb : 0 ≤ b ∧ b < P 2) : Ct g yX2_lambda_tenantByCoins_8 (.code yX2_lambda_tenantByCoins_8 cX2_lambda_tenantByCoins_8 4 (some .boolean)) 1 20 0 0 w [.ref (L (50 + a)), .ref (L (50 + b))] (fun r_ w1 => r_ = some (.int (bI (ordT P a b))) ∧ w1 = w) xF := by
  refine Ct.of (lv := [some _, some _, none, none]) hG (by decide +kernel) (Nat.le_of_ble_eq_true rfl) rfl ?_
  intro z hg hpo hxp hnm htab
  subst hg
  have hgg := hB.g
  have hta := hB.t ha
  have htb := hB.t hb
  refine xr_aload_n dX2_lambda_tenantByCoins_8_0 rfl (by first | rfl | exact isRef_rf _) ?_
  refine xr_getfieldN (ci := 5) (T := TX11) (N := 4) (i := 1) (hK.te a ha.1 ha.2) rfl (by decide) in_X11 q843 (.inl rfl) dX2_lambda_tenantByCoins_8_1 (by rfl) ?_
  refine xr_aload_n dX2_lambda_tenantByCoins_8_4 rfl (by first | rfl | exact isRef_rf _) ?_
  refine xr_getfieldN (ci := 5) (T := TX11) (N := 4) (i := 1) (hK.te b hb.1 hb.2) rfl (by decide) in_X11 q843 (.inl rfl) dX2_lambda_tenantByCoins_8_5 (by rfl) ?_
  refine xr_isub dX2_lambda_tenantByCoins_8_8 ?_
  refine xr_istore_n (lv' := [some _, some _, some _, none]) dX2_lambda_tenantByCoins_8_9 (by decide) rfl rfl ?_
  refine xr_aload_n dX2_lambda_tenantByCoins_8_10 rfl (by first | rfl | exact isRef_rf _) ?_
  refine xr_getfieldN (ci := 5) (T := TX11) (N := 4) (i := 2) (hK.te b hb.1 hb.2) rfl (by decide) in_X11 q846 (.inl rfl) dX2_lambda_tenantByCoins_8_11 (by rfl) ?_
  refine xr_aload_n dX2_lambda_tenantByCoins_8_14 rfl (by first | rfl | exact isRef_rf _) ?_
  refine xr_getfieldN (ci := 5) (T := TX11) (N := 4) (i := 2) (hK.te a ha.1 ha.2) rfl (by decide) in_X11 q846 (.inl rfl) dX2_lambda_tenantByCoins_8_15 (by rfl) ?_
  refine xr_isub dX2_lambda_tenantByCoins_8_18 ?_
  refine xr_istore_n (lv' := [some _, some _, some _, some _]) dX2_lambda_tenantByCoins_8_19 (by decide) rfl rfl ?_
  refine xr_iload_n dX2_lambda_tenantByCoins_8_20 rfl ?_
  refine xr_if_gt (tgt := 47) dX2_lambda_tenantByCoins_8_21 (by decide) (by omega) (fun c21 => ?_) (fun c21 => ?_)
  · skip
    refine xr_iconst dX2_lambda_tenantByCoins_8_47 ?_
    refine xr_goto (tgt := 52) dX2_lambda_tenantByCoins_8_48 (by decide) ?_
    refine xr_ireturn rfl (by first | rfl | exact nar_bI _ | decide +kernel) dX2_lambda_tenantByCoins_8_52 ?_
    rw [hpo]
    unfold ordT
    first | exact ⟨ret_bt (by omega), rfl⟩ | exact ⟨ret_bf (by omega), rfl⟩
  · skip
    refine xr_iload_n dX2_lambda_tenantByCoins_8_24 rfl ?_
    refine xr_if_ne (tgt := 51) dX2_lambda_tenantByCoins_8_25 (by decide) (by omega) (fun c25 => ?_) (fun c25 => ?_)
    · skip
      refine xr_iconst dX2_lambda_tenantByCoins_8_51 ?_
      refine xr_ireturn rfl (by first | rfl | exact nar_bI _ | decide +kernel) dX2_lambda_tenantByCoins_8_52 ?_
      rw [hpo]
      unfold ordT
      first | exact ⟨ret_bt (by omega), rfl⟩ | exact ⟨ret_bf (by omega), rfl⟩
    · skip
      refine xr_iload_n dX2_lambda_tenantByCoins_8_28 rfl ?_
      refine xr_if_gt (tgt := 47) dX2_lambda_tenantByCoins_8_29 (by decide) (by omega) (fun c29 => ?_) (fun c29 => ?_)
      · skip
        refine xr_iconst dX2_lambda_tenantByCoins_8_47 ?_
        refine xr_goto (tgt := 52) dX2_lambda_tenantByCoins_8_48 (by decide) ?_
        refine xr_ireturn rfl (by first | rfl | exact nar_bI _ | decide +kernel) dX2_lambda_tenantByCoins_8_52 ?_
        rw [hpo]
        unfold ordT
        first | exact ⟨ret_bt (by omega), rfl⟩ | exact ⟨ret_bf (by omega), rfl⟩
      · skip
        refine xr_iload_n dX2_lambda_tenantByCoins_8_32 rfl ?_
        refine xr_if_ne (tgt := 51) dX2_lambda_tenantByCoins_8_33 (by decide) (by omega) (fun c33 => ?_) (fun c33 => ?_)
        · skip
          refine xr_iconst dX2_lambda_tenantByCoins_8_51 ?_
          refine xr_ireturn rfl (by first | rfl | exact nar_bI _ | decide +kernel) dX2_lambda_tenantByCoins_8_52 ?_
          rw [hpo]
          unfold ordT
          first | exact ⟨ret_bt (by omega), rfl⟩ | exact ⟨ret_bf (by omega), rfl⟩
        · skip
          refine xr_aload_n dX2_lambda_tenantByCoins_8_36 rfl (by first | rfl | exact isRef_rf _) ?_
          refine xr_callVU (n9 := 0) (rc' := 0) (rs' := 0) (k_index_T hG (hK.te a ha.1 ha.2)) (hK.te a ha.1 ha.2) rfl q1116 q1117 rfl q804 q1118 q107 q805 (by decide +kernel) rfl ⟨by decide, Nat.le_of_ble_eq_true rfl⟩ ⟨Nat.le_of_ble_eq_true rfl, Nat.le_of_ble_eq_true rfl⟩ (Nat.le_of_ble_eq_true rfl) dX2_lambda_tenantByCoins_8_37 rfl (xk_r ?_) (fun _ _ _ h => h.elim)
          refine xr_aload_n dX2_lambda_tenantByCoins_8_40 rfl (by first | rfl | exact isRef_rf _) ?_
          refine xr_callVU (n9 := 0) (rc' := 0) (rs' := 0) (k_index_T hG (hK.te b hb.1 hb.2)) (hK.te b hb.1 hb.2) rfl q1116 q1117 rfl q804 q1118 q107 q805 (by decide +kernel) rfl ⟨by decide, Nat.le_of_ble_eq_true rfl⟩ ⟨Nat.le_of_ble_eq_true rfl, Nat.le_of_ble_eq_true rfl⟩ (Nat.le_of_ble_eq_true rfl) dX2_lambda_tenantByCoins_8_41 rfl (xk_r ?_) (fun _ _ _ h => h.elim)
          refine xr_icmp_ge (tgt := 51) dX2_lambda_tenantByCoins_8_44 (by decide) (by omega) (fun c44 => ?_) (fun c44 => ?_)
          · skip
            refine xr_iconst dX2_lambda_tenantByCoins_8_51 ?_
            refine xr_ireturn rfl (by first | rfl | exact nar_bI _ | decide +kernel) dX2_lambda_tenantByCoins_8_52 ?_
            rw [hpo]
            unfold ordT
            first | exact ⟨ret_bt (by omega), rfl⟩ | exact ⟨ret_bf (by omega), rfl⟩
          · skip
            refine xr_iconst dX2_lambda_tenantByCoins_8_47 ?_
            refine xr_goto (tgt := 52) dX2_lambda_tenantByCoins_8_48 (by decide) ?_
            refine xr_ireturn rfl (by first | rfl | exact nar_bI _ | decide +kernel) dX2_lambda_tenantByCoins_8_52 ?_
            rw [hpo]
            unfold ordT
            first | exact ⟨ret_bt (by omega), rfl⟩ | exact ⟨ret_bf (by omega), rfl⟩
theorem lv8 {g : GG} {w : WW} {v y y2 : Nat} {n0 : Nat → Prop} {q : Nat} {L : Int → Nat} {P : Int → Int} {N a b : Int} (hG : Base g) (hlo : LO g w v ⟨"BenchBroker$Park", "benchByRent", "(I)I"⟩ 1 259 sg8 [.ref q]) (hK : PK g w n0 q L P) (hB : PB P N) (ha : 0 ≤ a ∧ a < P 0) (hb : 0 ≤ b ∧ b < P 0) (hy : y = L (10 + a)) (hy2 : y2 = L (10 + b)) : LV g ⟨"BenchBroker$Order", "isBefore", "(LBenchBroker$Item;LBenchBroker$Item;)Z"⟩ 20 3300 2 4 w v [y, y2] (bI (ordB P a b)) := by
  intro z own cc nL ret fr lo rc rs rc' rs' pc idx cnt lv st rest hg hl hr9 hbud9 hc d hst k
  subst hg
  exact xr_lam8 (rc' := rc') (rs' := rs') hlo (hy ▸ hK.be a ha.1 ha.2) (hy2 ▸ hK.be b hb.1 hb.2) hK.hq (hy ▸ hy2 ▸ k_lam8 hG hK hB ha hb) hl ⟨by omega, by omega⟩ ⟨by omega, by omega⟩ hc d hst (fun v9 w9 h => by obtain ⟨rfl, hm⟩ := h; exact ⟨_, rfl, by first | exact congrArg _ rfl | exact nar_bI _⟩) (fun r9 w9 h => by obtain ⟨rfl, hm⟩ := h; exact k w9 hm)
theorem lv9 {g : GG} {w : WW} {v y y2 : Nat} {n0 : Nat → Prop} {q : Nat} {L : Int → Nat} {P : Int → Int} {N a b : Int} (hG : Base g) (hlo : LO g w v ⟨"BenchBroker$Park", "tenantByCoins", "(I)I"⟩ 0 267 sg9 []) (hK : PK g w n0 q L P) (hB : PB P N) (ha : 0 ≤ a ∧ a < P 2) (hb : 0 ≤ b ∧ b < P 2) (hy : y = L (50 + a)) (hy2 : y2 = L (50 + b)) : LV g ⟨"BenchBroker$Order", "isBefore", "(LBenchBroker$Item;LBenchBroker$Item;)Z"⟩ 10 400 0 0 w v [y, y2] (bI (ordT P a b)) := by
  intro z own cc nL ret fr lo rc rs rc' rs' pc idx cnt lv st rest hg hl hr9 hbud9 hc d hst k
  subst hg
  exact xr_lam9 (rc' := rc') (rs' := rs') hlo (hy ▸ hK.te a ha.1 ha.2) (hy2 ▸ hK.te b hb.1 hb.2) (hy ▸ hy2 ▸ k_lam9 hG hK hB ha hb) hl ⟨by omega, by omega⟩ ⟨by omega, by omega⟩ hc d hst (fun v9 w9 h => by obtain ⟨rfl, rfl⟩ := h; exact ⟨_, rfl, by first | exact congrArg _ rfl | exact nar_bI _⟩) (fun r9 w9 h => by obtain ⟨rfl, rfl⟩ := h; exact k w9 Mo.rf)
theorem k_P_benchByRent {g : GG} {w : WW} {n0 : Nat → Prop} {q : Nat} {L : Int → Nat} {P : Int → Int} {N : Int} {pos : Int} (hG : Base g) (hK : PK g w n0 q L P) (hB : PB P N) (hp : -2147483648 ≤ pos ∧ pos < 2147483648) : Ct g yX2_benchByRent (.code yX2_benchByRent cX2_benchByRent 3 (some .int)) 21 3326 265 529 w [.ref q, .int (iI pos)] (fun r_ w1 => r_ = some (.int (iI (ordR (ordB P) (P 0) pos))) ∧ Mo w.2 w w1) xF := by
  refine Ct.ofN (lv := [some _, some _, none]) hG (by decide +kernel) (Nat.le_of_ble_eq_true rfl) rfl ?_
  intro z hg hpo hxp hnm htab hmn
  subst hg
  have hmo : Mo w.2 w w := Mo.rf
  refine xr_aload_n dX2_benchByRent_0 rfl (by first | rfl | exact isRef_rf _) ?_
  refine xr_lamM (x := ⟨"BenchBroker$Park", "benchByRent", "(I)I"⟩) (σ := sg8) (tys := #[FieldType.object "BenchBroker$Park"]) (vals := [.ref q]) (rest := []) (n9 := 1) (rc' := 264) (rs' := 528) hmn ssite8 (by decide) q2802 slay8 rfl rfl rfl (by intro i v hv; rcases i with _ | _ | i <;> simp at hv <;> subst hv <;> exact ⟨_, rfl, rfl⟩) (Nat.le_of_ble_eq_true rfl) ⟨Nat.le_of_ble_eq_true rfl, Nat.le_of_ble_eq_true rfl⟩ dX2_benchByRent_1 rfl (fun a1 e1 ga1 ba1 hlam1 => ?_)
  have hm1 : Mo _ _ _ := Mo.new ga1 ga1 e1
  have hmo := hmo.tr hm1 hmo.1
  have hK := hK.ext hm1
  refine xr_astore_n (lv' := [some _, some _, some _]) dX2_benchByRent_6 (by decide) rfl (by first | rfl | exact isRef_rf _) rfl ?_
  refine xr_aload_n dX2_benchByRent_7 rfl (by first | rfl | exact isRef_rf _) ?_
  refine xr_getfield (ci := 0) (T := TX2) (N := 10) (i := 0) hK.hq rfl (by decide) in_X2 q186 (.inl rfl) dX2_benchByRent_8 (by rfl) ?_
  refine xr_aload_n dX2_benchByRent_11 rfl (by first | rfl | exact isRef_rf _) ?_
  refine xr_iload_n dX2_benchByRent_12 rfl ?_
  refine xr_callSN (n9 := 3) (rc' := 0) (rs' := 0) (k_inOrder_B hG hK hB hp (fun w' hm i j i0 i1 j0 j1 => lv8 hG (hlam1.ext hm) (hK.ext hm) hB ⟨i0, i1⟩ ⟨j0, j1⟩ rfl rfl)) q1524 q1525 q86 q1526 (by decide +kernel) rfl ⟨by decide, Nat.le_of_ble_eq_true rfl⟩ ⟨Nat.le_of_ble_eq_true rfl, Nat.le_of_ble_eq_true rfl⟩ (Nat.le_of_ble_eq_true rfl) dX2_benchByRent_13 rfl (xk_e fun w13 hm13 => ?_) (fun _ _ _ h => h.elim)
  have hmo := hmo.tr hm13 hmo.1
  have hK := hK.ext hm13
  refine xr_ireturn rfl rfl dX2_benchByRent_16 ?_
  rw [hpo]
  first | exact ⟨rfl, hmo⟩ | exact ⟨ret_bt (by omega), hmo⟩ | exact ⟨ret_bf (by omega), hmo⟩ | exact ⟨ret_i (by omega), hmo⟩
theorem k_P_tenantByCoins {g : GG} {w : WW} {n0 : Nat → Prop} {q : Nat} {L : Int → Nat} {P : Int → Int} {N : Int} {pos : Int} (hG : Base g) (hK : PK g w n0 q L P) (hB : PB P N) (hp : -2147483648 ≤ pos ∧ pos < 2147483648) : Ct g yX2_tenantByCoins (.code yX2_tenantByCoins cX2_tenantByCoins 3 (some .int)) 11 3080 0 0 w [.ref q, .int (iI pos)] (fun r_ w1 => r_ = some (.int (iI (ordR (ordT P) (P 2) pos))) ∧ Mo w.2 w w1) xF := by
  refine Ct.ofN (lv := [some _, some _, none]) hG (by decide +kernel) (Nat.le_of_ble_eq_true rfl) rfl ?_
  intro z hg hpo hxp hnm htab hmn
  subst hg
  have hmo : Mo w.2 w w := Mo.rf
  refine xr_lamC (x := ⟨"BenchBroker$Park", "tenantByCoins", "(I)I"⟩) (σ := sg9) hmn ssite9 rfl (Nat.le_of_ble_eq_true rfl) dX2_tenantByCoins_0 (fun a0 hlam0 => ?_)
  refine xr_astore_n (lv' := [some _, some _, some _]) dX2_tenantByCoins_5 (by decide) rfl (by first | rfl | exact isRef_rf _) rfl ?_
  refine xr_aload_n dX2_tenantByCoins_6 rfl (by first | rfl | exact isRef_rf _) ?_
  refine xr_getfield (ci := 0) (T := TX2) (N := 10) (i := 2) hK.hq rfl (by decide) in_X2 q192 (.inl rfl) dX2_tenantByCoins_7 (by rfl) ?_
  refine xr_aload_n dX2_tenantByCoins_10 rfl (by first | rfl | exact isRef_rf _) ?_
  refine xr_iload_n dX2_tenantByCoins_11 rfl ?_
  refine xr_callSN (n9 := 3) (rc' := 0) (rs' := 0) (k_inOrder_T hG hK hB hp (fun w' hm i j i0 i1 j0 j1 => lv9 hG (hlam0.ext hm) (hK.ext hm) hB ⟨i0, i1⟩ ⟨j0, j1⟩ rfl rfl)) q1524 q1525 q86 q1526 (by decide +kernel) rfl ⟨by decide, Nat.le_of_ble_eq_true rfl⟩ ⟨Nat.le_of_ble_eq_true rfl, Nat.le_of_ble_eq_true rfl⟩ (Nat.le_of_ble_eq_true rfl) dX2_tenantByCoins_12 rfl (xk_e fun w12 hm12 => ?_) (fun _ _ _ h => h.elim)
  have hmo := hmo.tr hm12 hmo.1
  have hK := hK.ext hm12
  refine xr_ireturn rfl rfl dX2_tenantByCoins_15 ?_
  rw [hpo]
  first | exact ⟨rfl, hmo⟩ | exact ⟨ret_bt (by omega), hmo⟩ | exact ⟨ret_bf (by omega), hmo⟩ | exact ⟨ret_i (by omega), hmo⟩
