/-! 37.parkset.lean.txt (written by tools/walker.py)  -/
set_option maxRecDepth 100000
theorem k_P_setRent {g : GG} {w : WW} {n0 : Nat → Prop} {q : Nat} {L : Int → Nat} {P : Int → Int}  {b : Int} {v : Int} (hG : Base g) (hK : PK g w n0 q L P) (hb : 0 ≤ b ∧ b < P 0) : Ct g yX2_setRent (.code yX2_setRent cX2_setRent 5 (some .int)) 4 85 0 0 w [.ref q, .int (iI b), .int (iI v)] (fun r_ w1 => r_ = some (.int (iI (P (12 + 6 * b)))) ∧ PK g w1 n0 q L (oRent P b v) ∧ Fr n0 w w1) xF := by
  refine Ct.of (lv := [some _, some _, some _, none, none]) hG (by decide +kernel) (Nat.le_of_ble_eq_true rfl) rfl ?_
  intro z hg hpo hxp hnm htab
  subst hg
  refine xr_aload_n dX2_setRent_0 rfl (by first | rfl | exact isRef_rf _) ?_
  refine xr_getfield (ci := 0) (T := TX2) (N := 10) (i := 0) hK.hq rfl (by decide) in_X2 q186 (.inl rfl) dX2_setRent_1 (by rfl) ?_
  refine xr_iload_n dX2_setRent_4 rfl ?_
  refine xr_callV (n9 := 1) (rc' := 0) (rs' := 0) (k_Reg_get hG hK.r0 hK.l0 ⟨by omega, by omega⟩ rfl (hK.be (b) (by omega) (by omega)) rfl q2757) hK.r0 rfl q473 q474 q475 q88 q476 (by decide +kernel) rfl ⟨by decide, Nat.le_of_ble_eq_true rfl⟩ ⟨Nat.le_of_ble_eq_true rfl, Nat.le_of_ble_eq_true rfl⟩ (Nat.le_of_ble_eq_true rfl) dX2_setRent_5 rfl (xk_r ?_) (fun _ _ _ h => h.elim)
  refine xr_castS (hK.be b hb.1 hb.2) rfl q794 dX2_setRent_8 ?_
  refine xr_astore_n (lv' := [some _, some _, some _, some _, none]) dX2_setRent_11 (by decide) rfl (by first | rfl | exact isRef_rf _) rfl ?_
  refine xr_aload_n dX2_setRent_12 rfl (by first | rfl | exact isRef_rf _) ?_
  refine xr_getfieldN (ci := 3) (T := TX10) (N := 7) (i := 3) (hK.be b hb.1 hb.2) rfl (by decide) in_X10 q812 (.inl rfl) dX2_setRent_13 (by rfl) ?_
  refine xr_istore (lv' := [some _, some _, some _, some _, some _]) dX2_setRent_16 (by decide) rfl rfl ?_
  refine xr_aload_n dX2_setRent_18 rfl (by first | rfl | exact isRef_rf _) ?_
  refine xr_iload_n dX2_setRent_19 rfl ?_
  refine xr_putfieldN (ci := 3) (T := TX10) (N := 7) (i := 3) (fs' := [_, _, _, _, _, _, _]) (hK.be b hb.1 hb.2) rfl (by decide) in_X10 tyX10 tyX10_ok nmX10 q812 (.inl rfl) rfl dX2_setRent_20 (by first | rfl | exact nar_bI _ | exact nar_rf _) (by first | rfl | exact fit_bI _ | exact fit_rf _ _) (by simp) (by rfl) (.inl rfl) (fun hob20 => ?_)
  refine xr_iload dX2_setRent_23 rfl ?_
  refine xr_ireturn rfl rfl dX2_setRent_25 ?_
  rw [hpo]
  exact ⟨rfl, hK.setB' hb (by simp only [bF, oRent, ↓reduceIte, updI]; repeat first | rfl | rw [if_pos (by omega)] | rw [if_neg (by omega)]) (by intro k hk; simp only [oRent, ↓reduceIte, updI]; repeat first | rfl | rw [if_pos (by omega)] | rw [if_neg (by omega)]) (by simp only [oRent, ↓reduceIte, updI]; (repeat first | rw [if_pos (by omega)] | rw [if_neg (by omega)]); first | exact hK.bt b hb.1 hb.2 | omega), Fr.put (hK.ab hb.1 hb.2) _⟩
theorem k_P_setLoudness {g : GG} {w : WW} {n0 : Nat → Prop} {q : Nat} {L : Int → Nat} {P : Int → Int}  {b : Int} {v : Int} (hG : Base g) (hK : PK g w n0 q L P) (hb : 0 ≤ b ∧ b < P 1) : Ct g yX2_setLoudness (.code yX2_setLoudness cX2_setLoudness 5 (some .int)) 4 85 0 0 w [.ref q, .int (iI b), .int (iI v)] (fun r_ w1 => r_ = some (.int (iI (P (72 + 4 * b)))) ∧ PK g w1 n0 q L (oLoud P b v) ∧ Fr n0 w w1) xF := by
  refine Ct.of (lv := [some _, some _, some _, none, none]) hG (by decide +kernel) (Nat.le_of_ble_eq_true rfl) rfl ?_
  intro z hg hpo hxp hnm htab
  subst hg
  refine xr_aload_n dX2_setLoudness_0 rfl (by first | rfl | exact isRef_rf _) ?_
  refine xr_getfield (ci := 0) (T := TX2) (N := 10) (i := 1) hK.hq rfl (by decide) in_X2 q189 (.inl rfl) dX2_setLoudness_1 (by rfl) ?_
  refine xr_iload_n dX2_setLoudness_4 rfl ?_
  refine xr_callV (n9 := 1) (rc' := 0) (rs' := 0) (k_Reg_get hG hK.r1 hK.l1 ⟨by omega, by omega⟩ rfl (hK.fo (b) (by omega) (by omega)) rfl q2758) hK.r1 rfl q473 q474 q475 q88 q476 (by decide +kernel) rfl ⟨by decide, Nat.le_of_ble_eq_true rfl⟩ ⟨Nat.le_of_ble_eq_true rfl, Nat.le_of_ble_eq_true rfl⟩ (Nat.le_of_ble_eq_true rfl) dX2_setLoudness_5 rfl (xk_r ?_) (fun _ _ _ h => h.elim)
  refine xr_castS (hK.fo b hb.1 hb.2) rfl q477 dX2_setLoudness_8 ?_
  refine xr_astore_n (lv' := [some _, some _, some _, some _, none]) dX2_setLoudness_11 (by decide) rfl (by first | rfl | exact isRef_rf _) rfl ?_
  refine xr_aload_n dX2_setLoudness_12 rfl (by first | rfl | exact isRef_rf _) ?_
  refine xr_getfieldN (ci := 4) (T := TX9) (N := 5) (i := 3) (hK.fo b hb.1 hb.2) rfl (by decide) in_X9 q744 (.inl rfl) dX2_setLoudness_13 (by rfl) ?_
  refine xr_istore (lv' := [some _, some _, some _, some _, some _]) dX2_setLoudness_16 (by decide) rfl rfl ?_
  refine xr_aload_n dX2_setLoudness_18 rfl (by first | rfl | exact isRef_rf _) ?_
  refine xr_iload_n dX2_setLoudness_19 rfl ?_
  refine xr_putfieldN (ci := 4) (T := TX9) (N := 5) (i := 3) (fs' := [_, _, _, _, _]) (hK.fo b hb.1 hb.2) rfl (by decide) in_X9 tyX9 tyX9_ok nmX9 q744 (.inl rfl) rfl dX2_setLoudness_20 (by first | rfl | exact nar_bI _ | exact nar_rf _) (by first | rfl | exact fit_bI _ | exact fit_rf _ _) (by simp) (by rfl) (.inl rfl) (fun hob20 => ?_)
  refine xr_iload dX2_setLoudness_23 rfl ?_
  refine xr_ireturn rfl rfl dX2_setLoudness_25 ?_
  rw [hpo]
  exact ⟨rfl, hK.setF' hb (by simp only [fF]; rw [show oLoud P b v (73 + 4 * b) = P (73 + 4 * b) from by simp only [oLoud, updI]; rw [if_neg (by omega)]]; simp only [oLoud, updI, ↓reduceIte]; repeat first | rfl | rw [if_pos (by omega)] | rw [if_neg (by omega)]) (by intro k hk; simp only [oLoud, ↓reduceIte, updI]; repeat first | rfl | rw [if_pos (by omega)] | rw [if_neg (by omega)]), Fr.put (hK.af hb.1 hb.2) _⟩
theorem k_P_switchFountain {g : GG} {w : WW} {n0 : Nat → Prop} {q : Nat} {L : Int → Nat} {P : Int → Int}  {b : Int} (hG : Base g) (hK : PK g w n0 q L P) (hb : 0 ≤ b ∧ b < P 1) (hr : 0 ≤ P (73 + 4 * b) ∧ P (73 + 4 * b) ≤ 1) : Ct g yX2_switchFountain (.code yX2_switchFountain cX2_switchFountain 3 (some .boolean)) 4 85 0 0 w [.ref q, .int (iI b)] (fun r_ w1 => r_ = some (.int (iI (1 - P (73 + 4 * b)))) ∧ PK g w1 n0 q L (oSwitch P b) ∧ Fr n0 w w1) xF := by
  refine Ct.of (lv := [some _, some _, none]) hG (by decide +kernel) (Nat.le_of_ble_eq_true rfl) rfl ?_
  intro z hg hpo hxp hnm htab
  subst hg
  refine xr_aload_n dX2_switchFountain_0 rfl (by first | rfl | exact isRef_rf _) ?_
  refine xr_getfield (ci := 0) (T := TX2) (N := 10) (i := 1) hK.hq rfl (by decide) in_X2 q189 (.inl rfl) dX2_switchFountain_1 (by rfl) ?_
  refine xr_iload_n dX2_switchFountain_4 rfl ?_
  refine xr_callV (n9 := 1) (rc' := 0) (rs' := 0) (k_Reg_get hG hK.r1 hK.l1 ⟨by omega, by omega⟩ rfl (hK.fo (b) (by omega) (by omega)) rfl q2758) hK.r1 rfl q473 q474 q475 q88 q476 (by decide +kernel) rfl ⟨by decide, Nat.le_of_ble_eq_true rfl⟩ ⟨Nat.le_of_ble_eq_true rfl, Nat.le_of_ble_eq_true rfl⟩ (Nat.le_of_ble_eq_true rfl) dX2_switchFountain_5 rfl (xk_r ?_) (fun _ _ _ h => h.elim)
  refine xr_castS (hK.fo b hb.1 hb.2) rfl q477 dX2_switchFountain_8 ?_
  refine xr_astore_n (lv' := [some _, some _, some _]) dX2_switchFountain_11 (by decide) rfl (by first | rfl | exact isRef_rf _) rfl ?_
  refine xr_aload_n dX2_switchFountain_12 rfl (by first | rfl | exact isRef_rf _) ?_
  refine xr_aload_n dX2_switchFountain_13 rfl (by first | rfl | exact isRef_rf _) ?_
  refine xr_getfieldN (ci := 4) (T := TX9) (N := 5) (i := 4) (hK.fo b hb.1 hb.2) rfl (by decide) in_X9 q747 (.inl rfl) dX2_switchFountain_14 (by rfl) ?_
  refine xr_ifb_ne (tgt := 24) dX2_switchFountain_17 (by decide) (fun c17 => ?_) (fun c17 => ?_)
  · skip
    try simp only [decide_eq_true_eq, decide_eq_false_iff_not] at c17
    have e73 : P (73 + 4 * b) = 1 := c17
    refine xr_iconst dX2_switchFountain_24 ?_
    refine xr_putfieldN (ci := 4) (T := TX9) (N := 5) (i := 4) (fs' := [_, _, _, _, _]) (hK.fo b hb.1 hb.2) rfl (by decide) in_X9 tyX9 tyX9_ok nmX9 q747 (.inl rfl) rfl dX2_switchFountain_25 (by decide +kernel) (by decide +kernel) (by simp) (by rfl) (.inl rfl) (fun hob25 => ?_)
    refine xr_aload_n dX2_switchFountain_28 rfl (by first | rfl | exact isRef_rf _) ?_
    refine xr_getfieldN (ci := 4) (T := TX9) (N := 5) (i := 4) hob25 rfl (by decide) in_X9 q747 (.inl rfl) dX2_switchFountain_29 (by rfl) ?_
    refine xr_ireturn rfl (by decide +kernel) dX2_switchFountain_32 ?_
    rw [hpo]
    have e1 : oSwitch P b (73 + 4 * b) = 1 - P (73 + 4 * b) := by simp only [oSwitch, updI, ↓reduceIte]
    refine ⟨by rw [e73]; rfl, hK.setF' hb (by simp only [fF]; rw [e1, e73]; simp only [oSwitch, updI]; repeat first | rfl | rw [if_pos (by omega)] | rw [if_neg (by omega)]) (by intro k hk; simp only [oSwitch, ↓reduceIte, updI]; repeat first | rfl | rw [if_pos (by omega)] | rw [if_neg (by omega)]), Fr.put (hK.af hb.1 hb.2) _⟩
  · skip
    try simp only [decide_eq_true_eq, decide_eq_false_iff_not] at c17
    have e73 : P (73 + 4 * b) = 0 := by omega
    refine xr_iconst dX2_switchFountain_20 ?_
    refine xr_goto (tgt := 25) dX2_switchFountain_21 (by decide) ?_
    refine xr_putfieldN (ci := 4) (T := TX9) (N := 5) (i := 4) (fs' := [_, _, _, _, _]) (hK.fo b hb.1 hb.2) rfl (by decide) in_X9 tyX9 tyX9_ok nmX9 q747 (.inl rfl) rfl dX2_switchFountain_25 (by decide +kernel) (by decide +kernel) (by simp) (by rfl) (.inl rfl) (fun hob25 => ?_)
    refine xr_aload_n dX2_switchFountain_28 rfl (by first | rfl | exact isRef_rf _) ?_
    refine xr_getfieldN (ci := 4) (T := TX9) (N := 5) (i := 4) hob25 rfl (by decide) in_X9 q747 (.inl rfl) dX2_switchFountain_29 (by rfl) ?_
    refine xr_ireturn rfl (by decide +kernel) dX2_switchFountain_32 ?_
    rw [hpo]
    have e1 : oSwitch P b (73 + 4 * b) = 1 - P (73 + 4 * b) := by simp only [oSwitch, updI, ↓reduceIte]
    refine ⟨by rw [e73]; rfl, hK.setF' hb (by simp only [fF]; rw [e1, e73]; simp only [oSwitch, updI]; repeat first | rfl | rw [if_pos (by omega)] | rw [if_neg (by omega)]) (by intro k hk; simp only [oSwitch, ↓reduceIte, updI]; repeat first | rfl | rw [if_pos (by omega)] | rw [if_neg (by omega)]), Fr.put (hK.af hb.1 hb.2) _⟩
theorem k_P_setNoiseLimit {g : GG} {w : WW} {n0 : Nat → Prop} {q : Nat} {L : Int → Nat} {P : Int → Int}  {v : Int} (hG : Base g) (hK : PK g w n0 q L P) : Ct g yX2_setNoiseLimit (.code yX2_setNoiseLimit cX2_setNoiseLimit 3 (some .int)) 0 0 0 0 w [.ref q, .int (iI v)] (fun r_ w1 => r_ = some (.int (iI (P 3))) ∧ PK g w1 n0 q L (oLimit P v) ∧ Fr n0 w w1) xF := by
  refine Ct.of (lv := [some _, some _, none]) hG (by decide +kernel) (Nat.le_of_ble_eq_true rfl) rfl ?_
  intro z hg hpo hxp hnm htab
  subst hg
  refine xr_aload_n dX2_setNoiseLimit_0 rfl (by first | rfl | exact isRef_rf _) ?_
  refine xr_getfield (ci := 0) (T := TX2) (N := 10) (i := 3) hK.hq rfl (by decide) in_X2 q196 (.inl rfl) dX2_setNoiseLimit_1 (by rfl) ?_
  refine xr_istore_n (lv' := [some _, some _, some _]) dX2_setNoiseLimit_4 (by decide) rfl rfl ?_
  refine xr_aload_n dX2_setNoiseLimit_5 rfl (by first | rfl | exact isRef_rf _) ?_
  refine xr_iload_n dX2_setNoiseLimit_6 rfl ?_
  refine xr_putfield (ci := 0) (T := TX2) (N := 10) (i := 3) (fs' := [_, _, _, _, _, _, _, _, _, _]) hK.hq rfl (by decide) in_X2 tyX2 tyX2_ok nmX2 q196 (.inl rfl) rfl dX2_setNoiseLimit_7 (by first | rfl | exact nar_bI _ | exact nar_rf _) (by first | rfl | exact fit_bI _ | exact fit_rf _ _) (by simp) (by rfl) (.inl rfl) (fun hob7 => ?_)
  refine xr_iload_n dX2_setNoiseLimit_10 rfl ?_
  refine xr_ireturn rfl rfl dX2_setNoiseLimit_11 ?_
  rw [hpo]
  exact ⟨rfl, hK.setQ' (by simp only [qF, oLimit, ↓reduceIte, updI]; repeat first | rfl | rw [if_pos (by omega)] | rw [if_neg (by omega)]) (by intro k hk; simp only [oLimit, ↓reduceIte, updI]; repeat first | rfl | rw [if_pos (by omega)] | rw [if_neg (by omega)]), Fr.put hK.n0lt.1 _⟩
theorem k_P_giveCoins {g : GG} {w : WW} {n0 : Nat → Prop} {q : Nat} {L : Int → Nat} {P : Int → Int}  {t v : Int} (hG : Base g) (hK : PK g w n0 q L P) (ht : 0 ≤ t ∧ t < P 2) : Ct g yX2_giveCoins (.code yX2_giveCoins cX2_giveCoins 4 (some .int)) 4 85 0 0 w [.ref q, .int (iI t), .int (iI v)] (fun r_ w1 => r_ = some (.int (iI (P (86 + 2 * t) + v))) ∧ PK g w1 n0 q L (oGive P t v) ∧ Fr n0 w w1) xF := by
  refine Ct.of (lv := [some _, some _, some _, none]) hG (by decide +kernel) (Nat.le_of_ble_eq_true rfl) rfl ?_
  intro z hg hpo hxp hnm htab
  subst hg
  have hc0 := hK.c0
  refine xr_aload_n dX2_giveCoins_0 rfl (by first | rfl | exact isRef_rf _) ?_
  refine xr_getfield (ci := 0) (T := TX2) (N := 10) (i := 2) hK.hq rfl (by decide) in_X2 q192 (.inl rfl) dX2_giveCoins_1 (by rfl) ?_
  refine xr_iload_n dX2_giveCoins_4 rfl ?_
  refine xr_callV (n9 := 1) (rc' := 0) (rs' := 0) (k_Reg_get hG hK.r2 hK.l2 ⟨by omega, by omega⟩ rfl (hK.te (t) (by omega) (by omega)) rfl q2759) hK.r2 rfl q473 q474 q475 q88 q476 (by decide +kernel) rfl ⟨by decide, Nat.le_of_ble_eq_true rfl⟩ ⟨Nat.le_of_ble_eq_true rfl, Nat.le_of_ble_eq_true rfl⟩ (Nat.le_of_ble_eq_true rfl) dX2_giveCoins_5 rfl (xk_r ?_) (fun _ _ _ h => h.elim)
  refine xr_castS (hK.te t ht.1 ht.2) rfl q836 dX2_giveCoins_8 ?_
  refine xr_astore_n (lv' := [some _, some _, some _, some _]) dX2_giveCoins_11 (by decide) rfl (by first | rfl | exact isRef_rf _) rfl ?_
  refine xr_aload_n dX2_giveCoins_12 rfl (by first | rfl | exact isRef_rf _) ?_
  refine xr_dup dX2_giveCoins_13 (by first | rfl | exact cat_rf _) ?_
  refine xr_getfieldN (ci := 5) (T := TX11) (N := 4) (i := 1) (hK.te t ht.1 ht.2) rfl (by decide) in_X11 q843 (.inl rfl) dX2_giveCoins_14 (by rfl) ?_
  refine xr_iload_n dX2_giveCoins_17 rfl ?_
  refine xr_iadd dX2_giveCoins_18 ?_
  refine xr_putfieldN (ci := 5) (T := TX11) (N := 4) (i := 1) (fs' := [_, _, _, _]) (hK.te t ht.1 ht.2) rfl (by decide) in_X11 tyX11 tyX11_ok nmX11 q843 (.inl rfl) rfl dX2_giveCoins_19 (by first | rfl | exact nar_bI _ | exact nar_rf _) (by first | rfl | exact fit_bI _ | exact fit_rf _ _) (by simp) (by rfl) (.inl rfl) (fun hob19 => ?_)
  have hK2 := hK.setT' (P' := updI P (86 + 2 * t) (P (86 + 2 * t) + v)) ht (fs := [.int (iI t), .int (iI (P (86 + 2 * t) + v)), .int (iI (P (87 + 2 * t))), va_rf (opt L 10 (P (102 + t)))]) (by simp only [tF, ↓reduceIte, updI]; repeat first | rfl | rw [if_pos (by omega)] | rw [if_neg (by omega)]) (by intro k hk; simp only [↓reduceIte, updI]; repeat first | rfl | rw [if_pos (by omega)] | rw [if_neg (by omega)]) (by simp only [↓reduceIte, updI]; (repeat first | rw [if_pos (by omega)] | rw [if_neg (by omega)]); first | exact hK.tb t ht.1 ht.2 | omega)
  refine xr_aload_n dX2_giveCoins_22 rfl (by first | rfl | exact isRef_rf _) ?_
  refine xr_dup dX2_giveCoins_23 (by first | rfl | exact cat_rf _) ?_
  refine xr_getfield (ci := 0) (T := TX2) (N := 10) (i := 6) hK2.hq rfl (by decide) in_X2 q202 (.inl rfl) dX2_giveCoins_24 (by rfl) ?_
  refine xr_iload_n dX2_giveCoins_27 rfl ?_
  refine xr_iadd dX2_giveCoins_28 ?_
  refine xr_putfield (ci := 0) (T := TX2) (N := 10) (i := 6) (fs' := [_, _, _, _, _, _, _, _, _, _]) hK2.hq rfl (by decide) in_X2 tyX2 tyX2_ok nmX2 q202 (.inl rfl) rfl dX2_giveCoins_29 (by first | rfl | exact nar_bI _ | exact nar_rf _) (by first | rfl | exact fit_bI _ | exact fit_rf _ _) (by simp) (by rfl) (.inl rfl) (fun hob29 => ?_)
  refine xr_aload_n dX2_giveCoins_32 rfl (by first | rfl | exact isRef_rf _) ?_
  refine xr_getfieldN (ci := 5) (T := TX11) (N := 4) (i := 1) (hob19.put_k hK2.hq (by decide)) rfl (by decide) in_X11 q843 (.inl rfl) dX2_giveCoins_33 (by rfl) ?_
  refine xr_ireturn rfl rfl dX2_giveCoins_36 ?_
  rw [hpo]
  refine ⟨rfl, ?_, (Fr.put (hK.at ht.1 ht.2) _).tq (Fr.put hK.n0lt.1 _)⟩
  exact hK2.setQ' (P' := oGive P t v) (by simp only [qF, oGive, ↓reduceIte, updI]; repeat first | rfl | rw [if_pos (by omega)] | rw [if_neg (by omega)]) (by intro k hk; simp only [oGive, updI]; repeat rw [if_neg (by omega)])
