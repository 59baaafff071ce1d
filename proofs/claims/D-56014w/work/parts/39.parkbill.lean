/-! 39.parkbill.lean.txt (written by tools/walker.py)  -/
set_option maxRecDepth 100000
theorem k_P_end {g : GG} {w : WW} {n0 : Nat → Prop} {q : Nat} {L : Int → Nat} {P : Int → Int}  {b : Int} (hG : Base g) (hK : PK g w n0 q L P) (hb : 0 ≤ b ∧ b < P 0) (hl : P (13 + 6 * b) ≠ 0) : Ct g yX10_end (.code yX10_end cX10_end 2 (some .int)) 0 0 0 0 w [.ref (L (10 + b))] (fun r_ w1 => r_ = some (.int (iI (P (14 + 6 * b)))) ∧ PK g w1 n0 q L (oEnd P b) ∧ Fr n0 w w1) xF := by
  refine Ct.of (lv := [some _, none]) hG (by decide +kernel) (Nat.le_of_ble_eq_true rfl) rfl ?_
  intro z hg hpo hxp hnm htab
  subst hg
  have hc0 := hK.c0
  have hbt := hK.bt b hb.1 hb.2
  have hx0 : 0 ≤ (P (13 + 6 * b) - 1) ∧ (P (13 + 6 * b) - 1) < P 2 := by omega
  have hbe : Ob w (L (10 + b)) 3 [.int (iI (P (10 + 6 * b))), .int (iI (P (11 + 6 * b))), .int (iI b), .int (iI (P (12 + 6 * b))), .ref (L (50 + (P (13 + 6 * b) - 1))), .int (iI (P (14 + 6 * b))), .int (iI (P (15 + 6 * b)))] := by have h := hK.be b hb.1 hb.2; rw [bF, opt_ne hl] at h; exact h
  refine xr_aload_n dX10_end_0 rfl (by first | rfl | exact isRef_rf _) ?_
  refine xr_getfield (ci := 3) (T := TX10) (N := 7) (i := 5) hbe rfl (by decide) in_X10 q817 (.inl rfl) dX10_end_1 (by rfl) ?_
  refine xr_istore_n (lv' := [some _, some _]) dX10_end_4 (by decide) rfl rfl ?_
  refine xr_aload_n dX10_end_5 rfl (by first | rfl | exact isRef_rf _) ?_
  refine xr_getfield (ci := 3) (T := TX10) (N := 7) (i := 4) hbe rfl (by decide) in_X10 q814 (.inl rfl) dX10_end_6 (by rfl) ?_
  refine xr_null dX10_end_9 ?_
  refine xr_putfieldN (ci := 5) (T := TX11) (N := 4) (i := 3) (fs' := [_, _, _, _]) (hK.te (P (13 + 6 * b) - 1) hx0.1 hx0.2) rfl (by decide) in_X11 tyX11 tyX11_ok nmX11 q849 (.inl rfl) rfl dX10_end_10 (by first | rfl | exact nar_bI _ | exact nar_rf _) (by first | rfl | exact fit_bI _ | exact fit_rf _ _) (by simp) (by rfl) (.inl rfl) (fun hob10 => ?_)
  have hK1 := hK.setT' (P' := (updI P (102 + (P (13 + 6 * b) - 1)) 0)) hx0 (fs := [.int (iI (P (13 + 6 * b) - 1)), .int (iI (P (86 + 2 * (P (13 + 6 * b) - 1)))), .int (iI (P (87 + 2 * (P (13 + 6 * b) - 1)))), .null]) (by simp only [tF, updI, ↓reduceIte]; repeat first | rfl | rw [if_pos (by omega)] | rw [if_neg (by omega)]) (by intro k hk; simp only [updI]; repeat rw [if_neg (by omega)]) (by simp only [updI, ↓reduceIte]; (repeat first | rw [if_pos (by omega)] | rw [if_neg (by omega)]); omega)
  have hbe1 := hbe.put_k (f' := [.int (iI (P (13 + 6 * b) - 1)), .int (iI (P (86 + 2 * (P (13 + 6 * b) - 1)))), .int (iI (P (87 + 2 * (P (13 + 6 * b) - 1)))), .null]) (hK.te (P (13 + 6 * b) - 1) hx0.1 hx0.2) (by decide)
  refine xr_aload_n dX10_end_13 rfl (by first | rfl | exact isRef_rf _) ?_
  refine xr_null dX10_end_14 ?_
  refine xr_putfield (ci := 3) (T := TX10) (N := 7) (i := 4) (fs' := [_, _, _, _, _, _, _]) hbe1 rfl (by decide) in_X10 tyX10 tyX10_ok nmX10 q814 (.inl rfl) rfl dX10_end_15 (by first | rfl | exact nar_bI _ | exact nar_rf _) (by first | rfl | exact fit_bI _ | exact fit_rf _ _) (by simp) (by rfl) (.inl rfl) (fun hob15 => ?_)
  have hK2 := hK1.setB' (P' := (updI (updI P (102 + (P (13 + 6 * b) - 1)) 0) (13 + 6 * b) 0)) (i := b) (by rw [show (updI P (102 + (P (13 + 6 * b) - 1)) 0) 0 = P 0 from (by simp only [updI, ↓reduceIte]; repeat first | rfl | rw [if_pos (by omega)] | rw [if_neg (by omega)])]; exact hb) (fs := [.int (iI (P (10 + 6 * b))), .int (iI (P (11 + 6 * b))), .int (iI b), .int (iI (P (12 + 6 * b))), .null, .int (iI (P (14 + 6 * b))), .int (iI (P (15 + 6 * b)))]) (by simp only [bF, updI, ↓reduceIte]; repeat first | rfl | rw [if_pos (by omega)] | rw [if_neg (by omega)]) (by intro k hk; rw [updI, if_neg (by omega)]) (by simp only [updI, ↓reduceIte]; (repeat first | rw [if_pos (by omega)] | rw [if_neg (by omega)]); omega)
  refine xr_aload_n dX10_end_18 rfl (by first | rfl | exact isRef_rf _) ?_
  refine xr_iconst dX10_end_19 ?_
  refine xr_putfield (ci := 3) (T := TX10) (N := 7) (i := 5) (fs' := [_, _, _, _, _, _, _]) hob15 rfl (by decide) in_X10 tyX10 tyX10_ok nmX10 q817 (.inl rfl) rfl dX10_end_20 (by first | rfl | exact nar_bI _ | exact nar_rf _) (by first | rfl | exact fit_bI _ | exact fit_rf _ _) (by simp) (by rfl) (.inl rfl) (fun hob20 => ?_)
  have hK3 := hK2.setB' (P' := (updI (updI (updI P (102 + (P (13 + 6 * b) - 1)) 0) (13 + 6 * b) 0) (14 + 6 * b) 0)) (i := b) (by rw [show (updI (updI P (102 + (P (13 + 6 * b) - 1)) 0) (13 + 6 * b) 0) 0 = P 0 from (by simp only [updI, ↓reduceIte]; repeat first | rfl | rw [if_pos (by omega)] | rw [if_neg (by omega)])]; exact hb) (fs := [.int (iI (P (10 + 6 * b))), .int (iI (P (11 + 6 * b))), .int (iI b), .int (iI (P (12 + 6 * b))), .null, .int (iI 0), .int (iI (P (15 + 6 * b)))]) (by simp only [bF, updI, ↓reduceIte]; repeat first | rfl | rw [if_pos (by omega)] | rw [if_neg (by omega)]) (by intro k hk; rw [updI, if_neg (by omega)]) (by simp only [updI, ↓reduceIte]; (repeat first | rw [if_pos (by omega)] | rw [if_neg (by omega)]); omega)
  refine xr_aload_n dX10_end_23 rfl (by first | rfl | exact isRef_rf _) ?_
  refine xr_iconst dX10_end_24 ?_
  refine xr_putfield (ci := 3) (T := TX10) (N := 7) (i := 6) (fs' := [_, _, _, _, _, _, _]) hob20 rfl (by decide) in_X10 tyX10 tyX10_ok nmX10 q820 (.inl rfl) rfl dX10_end_25 (by first | rfl | exact nar_bI _ | exact nar_rf _) (by first | rfl | exact fit_bI _ | exact fit_rf _ _) (by simp) (by rfl) (.inl rfl) (fun hob25 => ?_)
  have hK4 := hK3.setB' (P' := (updI (updI (updI (updI P (102 + (P (13 + 6 * b) - 1)) 0) (13 + 6 * b) 0) (14 + 6 * b) 0) (15 + 6 * b) 0)) (i := b) (by rw [show (updI (updI (updI P (102 + (P (13 + 6 * b) - 1)) 0) (13 + 6 * b) 0) (14 + 6 * b) 0) 0 = P 0 from (by simp only [updI, ↓reduceIte]; repeat first | rfl | rw [if_pos (by omega)] | rw [if_neg (by omega)])]; exact hb) (fs := [.int (iI (P (10 + 6 * b))), .int (iI (P (11 + 6 * b))), .int (iI b), .int (iI (P (12 + 6 * b))), .null, .int (iI 0), .int (iI 0)]) (by simp only [bF, updI, ↓reduceIte]; repeat first | rfl | rw [if_pos (by omega)] | rw [if_neg (by omega)]) (by intro k hk; rw [updI, if_neg (by omega)]) (by simp only [updI, ↓reduceIte]; (repeat first | rw [if_pos (by omega)] | rw [if_neg (by omega)]); omega)
  refine xr_iload_n dX10_end_28 rfl ?_
  refine xr_ireturn rfl rfl dX10_end_29 ?_
  rw [hpo]
  exact ⟨rfl, hK4, (((Fr.put (hK.at hx0.1 hx0.2) _).tq (Fr.put (hK.ab hb.1 hb.2) _)).tq (Fr.put (hK.ab hb.1 hb.2) _)).tq (Fr.put (hK.ab hb.1 hb.2) _)⟩
theorem oEnd_eq {Q : Int → Int} {b x : Int} (h : Q (13 + 6 * b) = x) : oEnd Q b = updI (updI (updI (updI Q (102 + (x - 1)) 0) (13 + 6 * b) 0) (14 + 6 * b) 0) (15 + 6 * b) 0 := by rw [← h]; rfl
/-- why a lease can't be ended, renewed: the reason (0: it can), and the detail -/
def rjEnd (P : Int → Int) (b : Int) : Int × Int := if P (13 + 6 * b) = 0 then (10, b) else (0, 0)
def rjRenew (P : Int → Int) (b m : Int) : Int × Int := if P (13 + 6 * b) = 0 then (10, b) else if 12 < P (15 + 6 * b) + m then (11, P (15 + 6 * b)) else (0, 0)
theorem k_P_requireLet {g : GG} {w : WW} {n0 : Nat → Prop} {q : Nat} {L : Int → Nat} {P : Int → Int}  {b : Int} (hG : Base g) (hK : PK g w n0 q L P) (hb : 0 ≤ b ∧ b < P 0) : Ct g yX2_requireLet (.code yX2_requireLet cX2_requireLet 3 (some ((.object "BenchBroker$Bench")))) 7 121 1 9 w [.ref q, .int (iI b)] (fun r_ w1 => P (13 + 6 * b) ≠ 0 ∧ r_ = some (.ref (L (10 + b))) ∧ w1 = w) (fun E a9 w1 => E = "BenchBroker$Rejection" ∧ ((rjEnd P b).1 ≠ 0 ∧ Ob w1 a9 6 [.int (iI (rjEnd P b).1), .int (iI (rjEnd P b).2), .int (iI 0)]) ∧ Mo w.2 w w1 ∧ w.2 ≤ a9) := by
  refine Ct.of (lv := [some _, some _, none]) hG (by decide +kernel) (Nat.le_of_ble_eq_true rfl) rfl ?_
  intro z hg hpo hxp hnm htab
  subst hg
  refine xr_aload_n dX2_requireLet_0 rfl (by first | rfl | exact isRef_rf _) ?_
  refine xr_getfield (ci := 0) (T := TX2) (N := 10) (i := 0) hK.hq rfl (by decide) in_X2 q186 (.inl rfl) dX2_requireLet_1 (by rfl) ?_
  refine xr_iload_n dX2_requireLet_4 rfl ?_
  refine xr_callV (n9 := 1) (rc' := 1) (rs' := 9) (k_Reg_get hG hK.r0 hK.l0 ⟨by omega, by omega⟩ rfl (hK.be (b) (by omega) (by omega)) rfl q2757) hK.r0 rfl q473 q474 q475 q88 q476 (by decide +kernel) rfl ⟨by decide, Nat.le_of_ble_eq_true rfl⟩ ⟨Nat.le_of_ble_eq_true rfl, Nat.le_of_ble_eq_true rfl⟩ (Nat.le_of_ble_eq_true rfl) dX2_requireLet_5 rfl (xk_r ?_) (fun _ _ _ h => h.elim)
  refine xr_castS (hK.be b hb.1 hb.2) rfl q794 dX2_requireLet_8 ?_
  refine xr_astore_n (lv' := [some _, some _, some _]) dX2_requireLet_11 (by decide) rfl (by first | rfl | exact isRef_rf _) rfl ?_
  refine xr_aload_n dX2_requireLet_12 rfl (by first | rfl | exact isRef_rf _) ?_
  refine xr_callV (n9 := 0) (rc' := 1) (rs' := 9) (k_B_isLet hG (hK.be b hb.1 hb.2)) (hK.be b hb.1 hb.2) rfl q716 q717 q718 q114 q719 (by decide +kernel) rfl ⟨by decide, Nat.le_of_ble_eq_true rfl⟩ ⟨Nat.le_of_ble_eq_true rfl, Nat.le_of_ble_eq_true rfl⟩ (Nat.le_of_ble_eq_true rfl) dX2_requireLet_13 rfl (xk_r ?_) (fun _ _ _ h => h.elim)
  rw [opt_is]
  refine xr_ifb_ne (tgt := 23) dX2_requireLet_16 (by decide) (fun c16 => ?_) (fun c16 => ?_)
  · skip
    try simp only [decide_eq_true_eq, decide_eq_false_iff_not] at c16
    refine xr_iconst dX2_requireLet_23 ?_
    refine xr_bipush dX2_requireLet_24 (by decide) ?_
    refine xr_iload_n dX2_requireLet_26 rfl ?_
    refine xr_callSN (n9 := 3) (rc' := 0) (rs' := 0) (k_rejectIf (b := false) hG) q1033 q1034 q86 q1035 (by decide +kernel) rfl ⟨by decide, Nat.le_of_ble_eq_true rfl⟩ ⟨Nat.le_of_ble_eq_true rfl, Nat.le_of_ble_eq_true rfl⟩ (Nat.le_of_ble_eq_true rfl) dX2_requireLet_27 rfl (xk_req2 (fun _ => ?_)) (fun _ _ _ h9 => nomatch h9.1)
    refine xr_aload_n dX2_requireLet_30 rfl (by first | rfl | exact isRef_rf _) ?_
    first | refine xr_areturn rfl rfl dX2_requireLet_31 ?_ | refine xr_areturnN rfl rfl dX2_requireLet_31 ?_
    rw [hpo]
    exact ⟨by omega, rfl, rfl⟩
  · skip
    try simp only [decide_eq_true_eq, decide_eq_false_iff_not] at c16
    refine xr_iconst dX2_requireLet_19 ?_
    refine xr_goto (tgt := 24) dX2_requireLet_20 (by decide) ?_
    refine xr_bipush dX2_requireLet_24 (by decide) ?_
    refine xr_iload_n dX2_requireLet_26 rfl ?_
    refine xr_callSN (n9 := 3) (rc' := 0) (rs' := 0) (k_rejectIf (b := true) hG) q1033 q1034 q86 q1035 (by decide +kernel) rfl ⟨by decide, Nat.le_of_ble_eq_true rfl⟩ ⟨Nat.le_of_ble_eq_true rfl, Nat.le_of_ble_eq_true rfl⟩ (Nat.le_of_ble_eq_true rfl) dX2_requireLet_27 rfl (xk_req2 (fun h9 => nomatch h9)) ?_
    rintro E q9 w9 ⟨-, rfl, ho9, hm9, hq9⟩
    have e9 : rjEnd P b = (10, b) := by unfold rjEnd; rw [if_pos (by omega)]
    exact xt_out (fun x hx => (htab x hx).elim) (by rw [hxp]; exact ⟨rfl, ⟨by rw [e9]; show (10 : Int) ≠ 0; decide, by rw [e9]; exact ho9⟩, hm9, hq9⟩)
theorem k_P_endLease {g : GG} {w : WW} {n0 : Nat → Prop} {q : Nat} {L : Int → Nat} {P : Int → Int} {N : Int} {b : Int} (hG : Base g) (hK : PK g w n0 q L P) (hB : PB P N) (hb : 0 ≤ b ∧ b < P 0) : Ct g yX2_endLease (.code yX2_endLease cX2_endLease 6 (some .int)) 8 143 1 9 w [.ref q, .int (iI b)] (fun r_ w1 => (rjEnd P b).1 = 0 ∧ r_ = some (.int (iI ((P (14 + 6 * b)).tdiv 2))) ∧ PK g w1 n0 q L (oFree P b ((P (14 + 6 * b)).tdiv 2)) ∧ Fr n0 w w1) (fun E a9 w1 => E = "BenchBroker$Rejection" ∧ ((rjEnd P b).1 ≠ 0 ∧ Ob w1 a9 6 [.int (iI (rjEnd P b).1), .int (iI (rjEnd P b).2), .int (iI 0)]) ∧ Mo w.2 w w1 ∧ w.2 ≤ a9) := by
  refine Ct.of (lv := [some _, some _, none, none, none, none]) hG (by decide +kernel) (Nat.le_of_ble_eq_true rfl) rfl ?_
  intro z hg hpo hxp hnm htab
  subst hg
  have hc0 := hK.c0
  have hbt := hK.bt b hb.1 hb.2
  have hbb := hB.b hb
  have hgg := hB.g
  refine xr_aload_n dX2_endLease_0 rfl (by first | rfl | exact isRef_rf _) ?_
  refine xr_iload_n dX2_endLease_1 rfl ?_
  refine xr_callV (n9 := 1) (rc' := 0) (rs' := 0) (k_P_requireLet hG hK hb) hK.hq rfl q1124 q1126 qs16 q87 q1127 (by decide +kernel) rfl ⟨by decide, Nat.le_of_ble_eq_true rfl⟩ ⟨Nat.le_of_ble_eq_true rfl, Nat.le_of_ble_eq_true rfl⟩ (Nat.le_of_ble_eq_true rfl) dX2_endLease_2 rfl (fun r w2 hw => ?_) ?_
  rotate_left
  · skip
    rintro E q9 w9 ⟨rfl, h1, hm9, hq9⟩
    exact xt_out (fun x hx => (htab x hx).elim) (by rw [hxp]; exact ⟨rfl, h1, hm9, hq9⟩)
  obtain ⟨hl, rfl, rfl⟩ := hw
  have hx0 : 0 ≤ (P (13 + 6 * b) - 1) ∧ (P (13 + 6 * b) - 1) < P 2 := by omega
  show XJ _ _ _ _ _ _ _ _ _ _ _ _ [.ref (L (10 + b))]
  refine xr_astore_n (lv' := [some _, some _, some _, none, none, none]) dX2_endLease_5 (by decide) rfl (by first | rfl | exact isRef_rf _) rfl ?_
  refine xr_aload_n dX2_endLease_6 rfl (by first | rfl | exact isRef_rf _) ?_
  refine xr_getfieldN (ci := 3) (T := TX10) (N := 7) (i := 4) (hK.be b hb.1 hb.2) rfl (by decide) in_X10 q815 (.inl rfl) dX2_endLease_7 (by rfl) ?_
  rw [opt_ne hl]
  show XJ _ _ _ _ _ _ _ _ _ _ _ _ [.ref (L (50 + (P (13 + 6 * b) - 1)))]
  refine xr_astore_n (lv' := [some _, some _, some _, some _, none, none]) dX2_endLease_10 (by decide) rfl (by first | rfl | exact isRef_rf _) rfl ?_
  refine xr_aload_n dX2_endLease_11 rfl (by first | rfl | exact isRef_rf _) ?_
  refine xr_callV (n9 := 0) (rc' := 0) (rs' := 0) (k_P_end hG hK hb hl) (hK.be b hb.1 hb.2) rfl q877 q878 q879 q114 q880 (by decide +kernel) rfl ⟨by decide, Nat.le_of_ble_eq_true rfl⟩ ⟨Nat.le_of_ble_eq_true rfl, Nat.le_of_ble_eq_true rfl⟩ (Nat.le_of_ble_eq_true rfl) dX2_endLease_12 rfl (fun r w12 hw => ?_) (fun _ _ _ h => h.elim)
  obtain ⟨rfl, hK1, hm1⟩ := hw
  show XJ _ _ _ _ _ _ _ _ _ _ _ _ [.int (iI (P (14 + 6 * b)))]
  refine xr_istore (lv' := [some _, some _, some _, some _, some _, none]) dX2_endLease_15 (by decide) rfl rfl ?_
  refine xr_iload dX2_endLease_17 rfl ?_
  refine xr_iconst dX2_endLease_19 ?_
  refine xr_idiv dX2_endLease_20 (by omega) (by omega) ?_
  refine xr_istore (lv' := [some _, some _, some _, some _, some _, some _]) dX2_endLease_21 (by decide) rfl rfl ?_
  refine xr_aload_n dX2_endLease_23 rfl (by first | rfl | exact isRef_rf _) ?_
  refine xr_dup dX2_endLease_24 (by first | rfl | exact cat_rf _) ?_
  refine xr_getfieldN (ci := 5) (T := TX11) (N := 4) (i := 1) (hK1.te (P (13 + 6 * b) - 1) hx0.1 (by rw [show (oEnd P b) 2 = P 2 from (by simp only [oEnd, oPaid, updI, ↓reduceIte]; repeat first | rfl | rw [if_pos (by omega)] | rw [if_neg (by omega)])]; exact hx0.2)) rfl (by decide) in_X11 q843 (.inl rfl) dX2_endLease_25 (by rfl) ?_
  rw [show (oEnd P b) (86 + 2 * (P (13 + 6 * b) - 1)) = P (86 + 2 * (P (13 + 6 * b) - 1)) from (by simp only [oEnd, oPaid, updI, ↓reduceIte]; repeat first | rfl | rw [if_pos (by omega)] | rw [if_neg (by omega)])]
  refine xr_iload dX2_endLease_28 rfl ?_
  refine xr_iadd dX2_endLease_30 ?_
  refine xr_putfieldN (ci := 5) (T := TX11) (N := 4) (i := 1) (fs' := [_, _, _, _]) (hK1.te (P (13 + 6 * b) - 1) hx0.1 (by rw [show (oEnd P b) 2 = P 2 from (by simp only [oEnd, oPaid, updI, ↓reduceIte]; repeat first | rfl | rw [if_pos (by omega)] | rw [if_neg (by omega)])]; exact hx0.2)) rfl (by decide) in_X11 tyX11 tyX11_ok nmX11 q843 (.inl rfl) rfl dX2_endLease_31 (by first | rfl | exact nar_bI _ | exact nar_rf _) (by first | rfl | exact fit_bI _ | exact fit_rf _ _) (by simp) (by rfl) (.inl rfl) (fun hob31 => ?_)
  have hK2 := hK1.setT' (P' := (updI (oEnd P b) (86 + 2 * (P (13 + 6 * b) - 1)) (P (86 + 2 * (P (13 + 6 * b) - 1)) + ((P (14 + 6 * b)).tdiv 2)))) (i := (P (13 + 6 * b) - 1)) (by rw [show (oEnd P b) 2 = P 2 from (by simp only [oEnd, oPaid, updI, ↓reduceIte]; repeat first | rfl | rw [if_pos (by omega)] | rw [if_neg (by omega)])]; exact hx0) (fs := [.int (iI (P (13 + 6 * b) - 1)), .int (iI (P (86 + 2 * (P (13 + 6 * b) - 1)) + ((P (14 + 6 * b)).tdiv 2))), .int (iI ((oEnd P b) (87 + 2 * (P (13 + 6 * b) - 1)))), va_rf (opt L 10 ((oEnd P b) (102 + (P (13 + 6 * b) - 1))))]) (by simp only [tF, updI, ↓reduceIte]; repeat first | rfl | rw [if_pos (by omega)] | rw [if_neg (by omega)]) (by intro k hk; rw [updI, if_neg (by omega)]) (by rw [updI, if_neg (by omega), show (oEnd P b) 0 = P 0 from (by simp only [oEnd, oPaid, updI, ↓reduceIte]; repeat first | rfl | rw [if_pos (by omega)] | rw [if_neg (by omega)])]; first | (rw [show (oEnd P b) (102 + (P (13 + 6 * b) - 1)) = 0 from (by simp only [oEnd, oPaid, updI, ↓reduceIte]; repeat first | rfl | rw [if_pos (by omega)] | rw [if_neg (by omega)])]; omega) | (rw [show (oEnd P b) (102 + (P (13 + 6 * b) - 1)) = P (102 + (P (13 + 6 * b) - 1)) from (by simp only [oEnd, oPaid, updI, ↓reduceIte]; repeat first | rfl | rw [if_pos (by omega)] | rw [if_neg (by omega)])]; exact hK.tb (P (13 + 6 * b) - 1) hx0.1 hx0.2))
  refine xr_aload_n dX2_endLease_34 rfl (by first | rfl | exact isRef_rf _) ?_
  refine xr_dup dX2_endLease_35 (by first | rfl | exact cat_rf _) ?_
  refine xr_getfield (ci := 0) (T := TX2) (N := 10) (i := 5) hK2.hq rfl (by decide) in_X2 q200 (.inl rfl) dX2_endLease_36 (by rfl) ?_
  rw [show (updI (oEnd P b) (86 + 2 * (P (13 + 6 * b) - 1)) (P (86 + 2 * (P (13 + 6 * b) - 1)) + ((P (14 + 6 * b)).tdiv 2))) 5 = P 5 from (by simp only [oEnd, oPaid, updI, ↓reduceIte]; repeat first | rfl | rw [if_pos (by omega)] | rw [if_neg (by omega)])]
  refine xr_iload dX2_endLease_39 rfl ?_
  refine xr_iload dX2_endLease_41 rfl ?_
  refine xr_isub dX2_endLease_43 ?_
  refine xr_iadd dX2_endLease_44 ?_
  refine xr_putfield (ci := 0) (T := TX2) (N := 10) (i := 5) (fs' := [_, _, _, _, _, _, _, _, _, _]) hK2.hq rfl (by decide) in_X2 tyX2 tyX2_ok nmX2 q200 (.inl rfl) rfl dX2_endLease_45 (by first | rfl | exact nar_bI _ | exact nar_rf _) (by first | rfl | exact fit_bI _ | exact fit_rf _ _) (by simp) (by rfl) (.inl rfl) (fun hob45 => ?_)
  have hK3 := hK2.setQ' (P' := (updI (updI (oEnd P b) (86 + 2 * (P (13 + 6 * b) - 1)) (P (86 + 2 * (P (13 + 6 * b) - 1)) + ((P (14 + 6 * b)).tdiv 2))) 5 (P 5 + (P (14 + 6 * b) - ((P (14 + 6 * b)).tdiv 2))))) (fs := [.ref (L 0), .ref (L 1), .ref (L 2), .int (iI ((updI (oEnd P b) (86 + 2 * (P (13 + 6 * b) - 1)) (P (86 + 2 * (P (13 + 6 * b) - 1)) + ((P (14 + 6 * b)).tdiv 2))) 3)), .int (iI ((updI (oEnd P b) (86 + 2 * (P (13 + 6 * b) - 1)) (P (86 + 2 * (P (13 + 6 * b) - 1)) + ((P (14 + 6 * b)).tdiv 2))) 4)), .int (iI (P 5 + (P (14 + 6 * b) - ((P (14 + 6 * b)).tdiv 2)))), .int (iI ((updI (oEnd P b) (86 + 2 * (P (13 + 6 * b) - 1)) (P (86 + 2 * (P (13 + 6 * b) - 1)) + ((P (14 + 6 * b)).tdiv 2))) 6)), .int (iI ((updI (oEnd P b) (86 + 2 * (P (13 + 6 * b) - 1)) (P (86 + 2 * (P (13 + 6 * b) - 1)) + ((P (14 + 6 * b)).tdiv 2))) 7)), .int (iI ((updI (oEnd P b) (86 + 2 * (P (13 + 6 * b) - 1)) (P (86 + 2 * (P (13 + 6 * b) - 1)) + ((P (14 + 6 * b)).tdiv 2))) 8)), .int (iI ((updI (oEnd P b) (86 + 2 * (P (13 + 6 * b) - 1)) (P (86 + 2 * (P (13 + 6 * b) - 1)) + ((P (14 + 6 * b)).tdiv 2))) 9))]) (by simp only [qF, updI, ↓reduceIte]; repeat first | rfl | rw [if_pos (by omega)] | rw [if_neg (by omega)]) (by intro k hk; rw [updI, if_neg (by omega)])
  refine xr_iload dX2_endLease_48 rfl ?_
  refine xr_ireturn rfl rfl dX2_endLease_50 ?_
  rw [hpo]
  exact ⟨by unfold rjEnd; rw [if_neg hl], rfl, hK3, (hm1.tq (Fr.put (hK.at hx0.1 hx0.2) _)).tq (Fr.put hK.n0lt.1 _)⟩
theorem k_P_renew {g : GG} {w : WW} {n0 : Nat → Prop} {q : Nat} {L : Int → Nat} {P : Int → Int} {N : Int} {b : Int} {m : Int} (hG : Base g) (hK : PK g w n0 q L P) (hB : PB P N) (hb : 0 ≤ b ∧ b < P 0) (hm : 1 ≤ m ∧ m ≤ 12) : Ct g yX2_renew (.code yX2_renew cX2_renew 4 (some .int)) 8 143 2 18 w [.ref q, .int (iI b), .int (iI m)] (fun r_ w1 => (rjRenew P b m).1 = 0 ∧ r_ = some (.int (iI (P (15 + 6 * b) + m))) ∧ PK g w1 n0 q L (oRenew P b m) ∧ Fr n0 w w1) (fun E a9 w1 => E = "BenchBroker$Rejection" ∧ ((rjRenew P b m).1 ≠ 0 ∧ Ob w1 a9 6 [.int (iI (rjRenew P b m).1), .int (iI (rjRenew P b m).2), .int (iI 0)]) ∧ Mo w.2 w w1 ∧ w.2 ≤ a9) := by
  refine Ct.of (lv := [some _, some _, some _, none]) hG (by decide +kernel) (Nat.le_of_ble_eq_true rfl) rfl ?_
  intro z hg hpo hxp hnm htab
  subst hg
  have hc0 := hK.c0
  have hbt := hK.bt b hb.1 hb.2
  have hbb := hB.b hb
  have hgg := hB.g
  refine xr_aload_n dX2_renew_0 rfl (by first | rfl | exact isRef_rf _) ?_
  refine xr_iload_n dX2_renew_1 rfl ?_
  refine xr_callV (n9 := 1) (rc' := 1) (rs' := 9) (k_P_requireLet hG hK hb) hK.hq rfl q1124 q1126 qs16 q87 q1127 (by decide +kernel) rfl ⟨by decide, Nat.le_of_ble_eq_true rfl⟩ ⟨Nat.le_of_ble_eq_true rfl, Nat.le_of_ble_eq_true rfl⟩ (Nat.le_of_ble_eq_true rfl) dX2_renew_2 rfl (fun r w2 hw => ?_) ?_
  rotate_left
  · skip
    rintro E q9 w9 ⟨rfl, ⟨h1, ho9⟩, hm9, hq9⟩
    have e8 : P (13 + 6 * b) = 0 := by
      by_cases h9 : P (13 + 6 * b) = 0
      · exact h9
      · exact absurd (show (rjEnd P b).1 = 0 by unfold rjEnd; rw [if_neg h9]) h1
    have e7 : rjEnd P b = (10, b) := by unfold rjEnd; rw [if_pos e8]
    have e9 : rjRenew P b m = (10, b) := by unfold rjRenew; rw [if_pos e8]
    rw [e7] at ho9
    exact xt_out (fun x hx => (htab x hx).elim) (by rw [hxp]; exact ⟨rfl, ⟨by rw [e9]; show (10 : Int) ≠ 0; decide, by rw [e9]; exact ho9⟩, hm9, hq9⟩)
  obtain ⟨hl, rfl, rfl⟩ := hw
  show XJ _ _ _ _ _ _ _ _ _ _ _ _ [.ref (L (10 + b))]
  refine xr_astore_n (lv' := [some _, some _, some _, some _]) dX2_renew_5 (by decide) rfl (by first | rfl | exact isRef_rf _) rfl ?_
  refine xr_aload_n dX2_renew_6 rfl (by first | rfl | exact isRef_rf _) ?_
  refine xr_getfieldN (ci := 3) (T := TX10) (N := 7) (i := 6) (hK.be b hb.1 hb.2) rfl (by decide) in_X10 q822 (.inl rfl) dX2_renew_7 (by rfl) ?_
  refine xr_iload_n dX2_renew_10 rfl ?_
  refine xr_iadd dX2_renew_11 ?_
  refine xr_bipush dX2_renew_12 (by decide) ?_
  refine xr_icmp_le (tgt := 21) dX2_renew_14 (by decide) (by omega) (fun c14 => ?_) (fun c14 => ?_)
  · skip
    refine xr_iconst dX2_renew_21 ?_
    refine xr_bipush dX2_renew_22 (by decide) ?_
    refine xr_aload_n dX2_renew_24 rfl (by first | rfl | exact isRef_rf _) ?_
    refine xr_getfieldN (ci := 3) (T := TX10) (N := 7) (i := 6) (hK.be b hb.1 hb.2) rfl (by decide) in_X10 q822 (.inl rfl) dX2_renew_25 (by rfl) ?_
    refine xr_callSN (n9 := 3) (rc' := 0) (rs' := 0) (k_rejectIf (b := false) hG) q1033 q1034 q86 q1035 (by decide +kernel) rfl ⟨by decide, Nat.le_of_ble_eq_true rfl⟩ ⟨Nat.le_of_ble_eq_true rfl, Nat.le_of_ble_eq_true rfl⟩ (Nat.le_of_ble_eq_true rfl) dX2_renew_28 rfl (xk_req2 (fun _ => ?_)) (fun _ _ _ h9 => nomatch h9.1)
    refine xr_aload_n dX2_renew_31 rfl (by first | rfl | exact isRef_rf _) ?_
    refine xr_dup dX2_renew_32 (by first | rfl | exact cat_rf _) ?_
    refine xr_getfieldN (ci := 3) (T := TX10) (N := 7) (i := 6) (hK.be b hb.1 hb.2) rfl (by decide) in_X10 q822 (.inl rfl) dX2_renew_33 (by rfl) ?_
    refine xr_iload_n dX2_renew_36 rfl ?_
    refine xr_iadd dX2_renew_37 ?_
    refine xr_putfieldN (ci := 3) (T := TX10) (N := 7) (i := 6) (fs' := [_, _, _, _, _, _, _]) (hK.be b hb.1 hb.2) rfl (by decide) in_X10 tyX10 tyX10_ok nmX10 q822 (.inl rfl) rfl dX2_renew_38 (by first | rfl | exact nar_bI _ | exact nar_rf _) (by first | rfl | exact fit_bI _ | exact fit_rf _ _) (by simp) (by rfl) (.inl rfl) (fun hob38 => ?_)
    have hK3 := hK.setB' (P' := (oRenew P b m)) (i := b) (by rw [show P 0 = P 0 from (by simp only [oEnd, oPaid, updI, ↓reduceIte]; repeat first | rfl | rw [if_pos (by omega)] | rw [if_neg (by omega)])]; exact hb) (fs := [.int (iI (P (10 + 6 * b))), .int (iI (P (11 + 6 * b))), .int (iI b), .int (iI (P (12 + 6 * b))), va_rf (opt L 50 (P (13 + 6 * b))), .int (iI (P (14 + 6 * b))), .int (iI (P (15 + 6 * b) + m))]) (by simp only [bF, oRenew, updI, ↓reduceIte]; repeat first | rfl | rw [if_pos (by omega)] | rw [if_neg (by omega)]) (by intro k hk; rw [oRenew, updI, if_neg (by omega)]) (by rw [oRenew, updI, if_neg (by omega), show P (13 + 6 * b) = P (13 + 6 * b) from (by simp only [oEnd, oPaid, updI, ↓reduceIte]; repeat first | rfl | rw [if_pos (by omega)] | rw [if_neg (by omega)]), show P 2 = P 2 from (by simp only [oEnd, oPaid, updI, ↓reduceIte]; repeat first | rfl | rw [if_pos (by omega)] | rw [if_neg (by omega)])]; exact hbt)
    refine xr_aload_n dX2_renew_41 rfl (by first | rfl | exact isRef_rf _) ?_
    refine xr_getfieldN (ci := 3) (T := TX10) (N := 7) (i := 6) hob38 rfl (by decide) in_X10 q822 (.inl rfl) dX2_renew_42 (by rfl) ?_
    refine xr_ireturn rfl rfl dX2_renew_45 ?_
    rw [hpo]
    exact ⟨by unfold rjRenew; rw [if_neg hl, if_neg (by omega)], rfl, hK3, Fr.put (hK.ab hb.1 hb.2) _⟩
  · skip
    refine xr_iconst dX2_renew_17 ?_
    refine xr_goto (tgt := 22) dX2_renew_18 (by decide) ?_
    refine xr_bipush dX2_renew_22 (by decide) ?_
    refine xr_aload_n dX2_renew_24 rfl (by first | rfl | exact isRef_rf _) ?_
    refine xr_getfieldN (ci := 3) (T := TX10) (N := 7) (i := 6) (hK.be b hb.1 hb.2) rfl (by decide) in_X10 q822 (.inl rfl) dX2_renew_25 (by rfl) ?_
    refine xr_callSN (n9 := 3) (rc' := 0) (rs' := 0) (k_rejectIf (b := true) hG) q1033 q1034 q86 q1035 (by decide +kernel) rfl ⟨by decide, Nat.le_of_ble_eq_true rfl⟩ ⟨Nat.le_of_ble_eq_true rfl, Nat.le_of_ble_eq_true rfl⟩ (Nat.le_of_ble_eq_true rfl) dX2_renew_28 rfl (xk_req2 (fun h9 => nomatch h9)) ?_
    rintro E q9 w9 ⟨-, rfl, ho9, hm9, hq9⟩
    have e9 : rjRenew P b m = (11, P (15 + 6 * b)) := by unfold rjRenew; rw [if_neg hl, if_pos (by omega)]
    exact xt_out (fun x hx => (htab x hx).elim) (by rw [hxp]; exact ⟨rfl, ⟨by rw [e9]; show (11 : Int) ≠ 0; decide, by rw [e9]; exact ho9⟩, hm9, hq9⟩)
theorem k_P_bill {g : GG} {w : WW} {n0 : Nat → Prop} {q : Nat} {L : Int → Nat} {P : Int → Int} {N : Int} {b : Int} (hG : Base g) (hK : PK g w n0 q L P) (hB : PB P N) (hb : 0 ≤ b ∧ b < P 0) (hl : P (13 + 6 * b) ≠ 0) : Ct g yX2_bill (.code yX2_bill cX2_bill 4 (some .boolean)) 14 3144 2 4 w [.ref q, .ref (L (10 + b))] (fun r_ w1 => r_ = some (.int (iI (oBill P b).2)) ∧ PK g w1 n0 q L (oBill P b).1 ∧ Fr n0 w w1) xF := by
  refine Ct.of (lv := [some _, some _, none, none]) hG (by decide +kernel) (Nat.le_of_ble_eq_true rfl) rfl ?_
  intro z hg hpo hxp hnm htab
  subst hg
  have hc0 := hK.c0
  have hbt := hK.bt b hb.1 hb.2
  have hbb := hB.b hb
  have hgg := hB.g
  have hx0 : 0 ≤ (P (13 + 6 * b) - 1) ∧ (P (13 + 6 * b) - 1) < P 2 := by omega
  have htt := hB.t hx0
  have hrr := rent_bd hB hb.1 hb.2
  have hmN : Fr n0 w w := Fr.rf
  refine xr_aload_n dX2_bill_0 rfl (by first | rfl | exact isRef_rf _) ?_
  refine xr_getfieldN (ci := 3) (T := TX10) (N := 7) (i := 4) (hK.be b hb.1 hb.2) rfl (by decide) in_X10 q815 (.inl rfl) dX2_bill_1 (by rfl) ?_
  rw [opt_ne hl]
  show XJ _ _ _ _ _ _ _ _ _ _ _ _ [.ref (L (50 + (P (13 + 6 * b) - 1)))]
  refine xr_astore_n (lv' := [some _, some _, some _, none]) dX2_bill_4 (by decide) rfl (by first | rfl | exact isRef_rf _) rfl ?_
  refine xr_aload_n dX2_bill_5 rfl (by first | rfl | exact isRef_rf _) ?_
  refine xr_aload_n dX2_bill_6 rfl (by first | rfl | exact isRef_rf _) ?_
  refine xr_callV (n9 := 1) (rc' := 1) (rs' := 2) (k_P_rentOf hG hK hB hb) hK.hq rfl q872 q873 q874 q87 q875 (by decide +kernel) rfl ⟨by decide, Nat.le_of_ble_eq_true rfl⟩ ⟨Nat.le_of_ble_eq_true rfl, Nat.le_of_ble_eq_true rfl⟩ (Nat.le_of_ble_eq_true rfl) dX2_bill_7 rfl (xk_e fun w7 hm7 => ?_) (fun _ _ _ h => h.elim)
  have hmN := hmN.trm hm7
  have hK := hK.ext hm7
  refine xr_istore_n (lv' := [some _, some _, some _, some _]) dX2_bill_10 (by decide) rfl rfl ?_
  refine xr_aload_n dX2_bill_11 rfl (by first | rfl | exact isRef_rf _) ?_
  refine xr_aload_n dX2_bill_12 rfl (by first | rfl | exact isRef_rf _) ?_
  refine xr_callV (n9 := 1) (rc' := 0) (rs' := 0) (k_P_isQuiet hG hK hB hb) hK.hq rfl q320 q321 q322 q87 q323 (by decide +kernel) rfl ⟨by decide, Nat.le_of_ble_eq_true rfl⟩ ⟨Nat.le_of_ble_eq_true rfl, Nat.le_of_ble_eq_true rfl⟩ (Nat.le_of_ble_eq_true rfl) dX2_bill_13 rfl (xk_e fun w13 hm13 => ?_) (fun _ _ _ h => h.elim)
  have hmN := hmN.trm hm13
  have hK := hK.ext hm13
  refine xr_ifb_ne (tgt := 44) dX2_bill_16 (by decide) (fun c16 => ?_) (fun c16 => ?_)
  · skip
    try simp only [decide_eq_true_eq, decide_eq_false_iff_not] at c16
    refine xr_aload_n dX2_bill_44 rfl (by first | rfl | exact isRef_rf _) ?_
    refine xr_getfieldN (ci := 5) (T := TX11) (N := 4) (i := 1) (hK.te (P (13 + 6 * b) - 1) hx0.1 hx0.2) rfl (by decide) in_X11 q843 (.inl rfl) dX2_bill_45 (by rfl) ?_
    refine xr_iload_n dX2_bill_48 rfl ?_
    refine xr_icmp_ge (tgt := 87) dX2_bill_49 (by decide) (by omega) (fun c49 => ?_) (fun c49 => ?_)
    · skip
      refine xr_aload_n dX2_bill_87 rfl (by first | rfl | exact isRef_rf _) ?_
      refine xr_dup dX2_bill_88 (by first | rfl | exact cat_rf _) ?_
      refine xr_getfieldN (ci := 5) (T := TX11) (N := 4) (i := 1) (hK.te (P (13 + 6 * b) - 1) hx0.1 hx0.2) rfl (by decide) in_X11 q843 (.inl rfl) dX2_bill_89 (by rfl) ?_
      refine xr_iload_n dX2_bill_92 rfl ?_
      refine xr_isub dX2_bill_93 ?_
      refine xr_putfieldN (ci := 5) (T := TX11) (N := 4) (i := 1) (fs' := [_, _, _, _]) (hK.te (P (13 + 6 * b) - 1) hx0.1 hx0.2) rfl (by decide) in_X11 tyX11 tyX11_ok nmX11 q843 (.inl rfl) rfl dX2_bill_94 (by first | rfl | exact nar_bI _ | exact nar_rf _) (by first | rfl | exact fit_bI _ | exact fit_rf _ _) (by simp) (by rfl) (.inl rfl) (fun hob94 => ?_)
      have hK1 := hK.setT' (P' := (updI P (86 + 2 * (P (13 + 6 * b) - 1)) (P (86 + 2 * (P (13 + 6 * b) - 1)) - (rent P b)))) hx0 (fs := [.int (iI (P (13 + 6 * b) - 1)), .int (iI (P (86 + 2 * (P (13 + 6 * b) - 1)) - (rent P b))), .int (iI (P (87 + 2 * (P (13 + 6 * b) - 1)))), va_rf (opt L 10 (P (102 + (P (13 + 6 * b) - 1))))]) (by simp only [tF, updI, ↓reduceIte]; repeat first | rfl | rw [if_pos (by omega)] | rw [if_neg (by omega)]) (by intro k hk; rw [updI, if_neg (by omega)]) (by rw [updI, if_neg (by omega)]; exact hK.tb _ hx0.1 hx0.2)
      refine xr_aload_n dX2_bill_97 rfl (by first | rfl | exact isRef_rf _) ?_
      refine xr_dup dX2_bill_98 (by first | rfl | exact cat_rf _) ?_
      refine xr_getfield (ci := 0) (T := TX2) (N := 10) (i := 5) hK1.hq rfl (by decide) in_X2 q200 (.inl rfl) dX2_bill_99 (by rfl) ?_
      rw [show (updI P (86 + 2 * (P (13 + 6 * b) - 1)) (P (86 + 2 * (P (13 + 6 * b) - 1)) - (rent P b))) 5 = P 5 from (by simp only [oEnd, oPaid, updI, ↓reduceIte]; repeat first | rfl | rw [if_pos (by omega)] | rw [if_neg (by omega)])]
      refine xr_iload_n dX2_bill_102 rfl ?_
      refine xr_iadd dX2_bill_103 ?_
      refine xr_putfield (ci := 0) (T := TX2) (N := 10) (i := 5) (fs' := [_, _, _, _, _, _, _, _, _, _]) hK1.hq rfl (by decide) in_X2 tyX2 tyX2_ok nmX2 q200 (.inl rfl) rfl dX2_bill_104 (by first | rfl | exact nar_bI _ | exact nar_rf _) (by first | rfl | exact fit_bI _ | exact fit_rf _ _) (by simp) (by rfl) (.inl rfl) (fun hob104 => ?_)
      have hK2 := hK1.setQ' (P' := (updI (updI P (86 + 2 * (P (13 + 6 * b) - 1)) (P (86 + 2 * (P (13 + 6 * b) - 1)) - (rent P b))) 5 (P 5 + (rent P b)))) (fs := [.ref (L 0), .ref (L 1), .ref (L 2), .int (iI ((updI P (86 + 2 * (P (13 + 6 * b) - 1)) (P (86 + 2 * (P (13 + 6 * b) - 1)) - (rent P b))) 3)), .int (iI ((updI P (86 + 2 * (P (13 + 6 * b) - 1)) (P (86 + 2 * (P (13 + 6 * b) - 1)) - (rent P b))) 4)), .int (iI (P 5 + (rent P b))), .int (iI ((updI P (86 + 2 * (P (13 + 6 * b) - 1)) (P (86 + 2 * (P (13 + 6 * b) - 1)) - (rent P b))) 6)), .int (iI ((updI P (86 + 2 * (P (13 + 6 * b) - 1)) (P (86 + 2 * (P (13 + 6 * b) - 1)) - (rent P b))) 7)), .int (iI ((updI P (86 + 2 * (P (13 + 6 * b) - 1)) (P (86 + 2 * (P (13 + 6 * b) - 1)) - (rent P b))) 8)), .int (iI ((updI P (86 + 2 * (P (13 + 6 * b) - 1)) (P (86 + 2 * (P (13 + 6 * b) - 1)) - (rent P b))) 9))]) (by simp only [qF, updI, ↓reduceIte]; repeat first | rfl | rw [if_pos (by omega)] | rw [if_neg (by omega)]) (by intro k hk; rw [updI, if_neg (by omega)])
      refine xr_aload_n dX2_bill_107 rfl (by first | rfl | exact isRef_rf _) ?_
      refine xr_dup dX2_bill_108 (by first | rfl | exact cat_rf _) ?_
      refine xr_getfieldN (ci := 3) (T := TX10) (N := 7) (i := 6) (hK2.be b hb.1 (by rw [show (updI (updI P (86 + 2 * (P (13 + 6 * b) - 1)) (P (86 + 2 * (P (13 + 6 * b) - 1)) - (rent P b))) 5 (P 5 + (rent P b))) 0 = P 0 from (by simp only [oEnd, oPaid, updI, ↓reduceIte]; repeat first | rfl | rw [if_pos (by omega)] | rw [if_neg (by omega)])]; exact hb.2)) rfl (by decide) in_X10 q822 (.inl rfl) dX2_bill_109 (by rfl) ?_
      rw [show (updI (updI P (86 + 2 * (P (13 + 6 * b) - 1)) (P (86 + 2 * (P (13 + 6 * b) - 1)) - (rent P b))) 5 (P 5 + (rent P b))) (15 + 6 * b) = P (15 + 6 * b) from (by simp only [oEnd, oPaid, updI, ↓reduceIte]; repeat first | rfl | rw [if_pos (by omega)] | rw [if_neg (by omega)])]
      refine xr_iconst dX2_bill_112 ?_
      refine xr_isub dX2_bill_113 ?_
      refine xr_putfieldN (ci := 3) (T := TX10) (N := 7) (i := 6) (fs' := [_, _, _, _, _, _, _]) (hK2.be b hb.1 (by rw [show (updI (updI P (86 + 2 * (P (13 + 6 * b) - 1)) (P (86 + 2 * (P (13 + 6 * b) - 1)) - (rent P b))) 5 (P 5 + (rent P b))) 0 = P 0 from (by simp only [oEnd, oPaid, updI, ↓reduceIte]; repeat first | rfl | rw [if_pos (by omega)] | rw [if_neg (by omega)])]; exact hb.2)) rfl (by decide) in_X10 tyX10 tyX10_ok nmX10 q822 (.inl rfl) rfl dX2_bill_114 (by first | rfl | exact nar_bI _ | exact nar_rf _) (by first | rfl | exact fit_bI _ | exact fit_rf _ _) (by simp) (by rfl) (.inl rfl) (fun hob114 => ?_)
      have hK3 := hK2.setB' (P' := (oPaid P b)) (i := b) (by rw [show (updI (updI P (86 + 2 * (P (13 + 6 * b) - 1)) (P (86 + 2 * (P (13 + 6 * b) - 1)) - (rent P b))) 5 (P 5 + (rent P b))) 0 = P 0 from (by simp only [oEnd, oPaid, updI, ↓reduceIte]; repeat first | rfl | rw [if_pos (by omega)] | rw [if_neg (by omega)])]; exact hb) (fs := [.int (iI ((updI (updI P (86 + 2 * (P (13 + 6 * b) - 1)) (P (86 + 2 * (P (13 + 6 * b) - 1)) - (rent P b))) 5 (P 5 + (rent P b))) (10 + 6 * b))), .int (iI ((updI (updI P (86 + 2 * (P (13 + 6 * b) - 1)) (P (86 + 2 * (P (13 + 6 * b) - 1)) - (rent P b))) 5 (P 5 + (rent P b))) (11 + 6 * b))), .int (iI b), .int (iI ((updI (updI P (86 + 2 * (P (13 + 6 * b) - 1)) (P (86 + 2 * (P (13 + 6 * b) - 1)) - (rent P b))) 5 (P 5 + (rent P b))) (12 + 6 * b))), va_rf (opt L 50 ((updI (updI P (86 + 2 * (P (13 + 6 * b) - 1)) (P (86 + 2 * (P (13 + 6 * b) - 1)) - (rent P b))) 5 (P 5 + (rent P b))) (13 + 6 * b))), .int (iI ((updI (updI P (86 + 2 * (P (13 + 6 * b) - 1)) (P (86 + 2 * (P (13 + 6 * b) - 1)) - (rent P b))) 5 (P 5 + (rent P b))) (14 + 6 * b))), .int (iI (P (15 + 6 * b) - 1))]) (by simp only [bF, oPaid, updI, ↓reduceIte]; repeat first | rfl | rw [if_pos (by omega)] | rw [if_neg (by omega)]) (by intro k hk; rw [oPaid, updI, if_neg (by omega)]) (by rw [oPaid, updI, if_neg (by omega), show (updI (updI P (86 + 2 * (P (13 + 6 * b) - 1)) (P (86 + 2 * (P (13 + 6 * b) - 1)) - (rent P b))) 5 (P 5 + (rent P b))) (13 + 6 * b) = P (13 + 6 * b) from (by simp only [oEnd, oPaid, updI, ↓reduceIte]; repeat first | rfl | rw [if_pos (by omega)] | rw [if_neg (by omega)]), show (updI (updI P (86 + 2 * (P (13 + 6 * b) - 1)) (P (86 + 2 * (P (13 + 6 * b) - 1)) - (rent P b))) 5 (P 5 + (rent P b))) 2 = P 2 from (by simp only [oEnd, oPaid, updI, ↓reduceIte]; repeat first | rfl | rw [if_pos (by omega)] | rw [if_neg (by omega)])]; exact hbt)
      refine xr_aload_n dX2_bill_117 rfl (by first | rfl | exact isRef_rf _) ?_
      refine xr_getfieldN (ci := 3) (T := TX10) (N := 7) (i := 6) hob114 rfl (by decide) in_X10 q822 (.inl rfl) dX2_bill_118 (by rfl) ?_
      refine xr_if_le (tgt := 126) dX2_bill_121 (by decide) (by omega) (fun c121 => ?_) (fun c121 => ?_)
      · skip
        refine xr_aload_n dX2_bill_126 rfl (by first | rfl | exact isRef_rf _) ?_
        refine xr_dup dX2_bill_127 (by first | rfl | exact cat_rf _) ?_
        refine xr_getfieldN (ci := 5) (T := TX11) (N := 4) (i := 1) (hK3.te (P (13 + 6 * b) - 1) hx0.1 (by rw [show (oPaid P b) 2 = P 2 from (by simp only [oEnd, oPaid, updI, ↓reduceIte]; repeat first | rfl | rw [if_pos (by omega)] | rw [if_neg (by omega)])]; exact hx0.2)) rfl (by decide) in_X11 q843 (.inl rfl) dX2_bill_128 (by rfl) ?_
        rw [show (oPaid P b) (86 + 2 * (P (13 + 6 * b) - 1)) = P (86 + 2 * (P (13 + 6 * b) - 1)) - (rent P b) from (by simp only [oEnd, oPaid, updI, ↓reduceIte]; repeat first | rfl | rw [if_pos (by omega)] | rw [if_neg (by omega)])]
        refine xr_aload_n dX2_bill_131 rfl (by first | rfl | exact isRef_rf _) ?_
        refine xr_callV (n9 := 0) (rc' := 0) (rs' := 0) (k_P_end hG hK3 (b := b) (by rw [show (oPaid P b) 0 = P 0 from (by simp only [oEnd, oPaid, updI, ↓reduceIte]; repeat first | rfl | rw [if_pos (by omega)] | rw [if_neg (by omega)])]; exact hb) (by rw [show (oPaid P b) (13 + 6 * b) = P (13 + 6 * b) from (by simp only [oEnd, oPaid, updI, ↓reduceIte]; repeat first | rfl | rw [if_pos (by omega)] | rw [if_neg (by omega)])]; exact hl)) (hK3.be b hb.1 (by rw [show (oPaid P b) 0 = P 0 from (by simp only [oEnd, oPaid, updI, ↓reduceIte]; repeat first | rfl | rw [if_pos (by omega)] | rw [if_neg (by omega)])]; exact hb.2)) rfl q877 q878 q879 q114 q880 (by decide +kernel) rfl ⟨by decide, Nat.le_of_ble_eq_true rfl⟩ ⟨Nat.le_of_ble_eq_true rfl, Nat.le_of_ble_eq_true rfl⟩ (Nat.le_of_ble_eq_true rfl) dX2_bill_132 rfl (fun r w132 hw => ?_) (fun _ _ _ h => h.elim)
        obtain ⟨rfl, hK4, hm4⟩ := hw
        show XJ _ _ _ _ _ _ _ _ _ _ _ _ [.int (iI ((oPaid P b) (14 + 6 * b))), _, _]
        rw [show (oPaid P b) (14 + 6 * b) = P (14 + 6 * b) from (by simp only [oEnd, oPaid, updI, ↓reduceIte]; repeat first | rfl | rw [if_pos (by omega)] | rw [if_neg (by omega)])]
        refine xr_iadd dX2_bill_135 ?_
        refine xr_putfieldN (ci := 5) (T := TX11) (N := 4) (i := 1) (fs' := [_, _, _, _]) (hK4.te (P (13 + 6 * b) - 1) hx0.1 (by rw [show (oEnd (oPaid P b) b) 2 = P 2 from (by rw [show oEnd (oPaid P b) b = updI (updI (updI (updI (oPaid P b) (102 + (P (13 + 6 * b) - 1)) 0) (13 + 6 * b) 0) (14 + 6 * b) 0) (15 + 6 * b) 0 from oEnd_eq (by simp only [oPaid, updI]; repeat first | rfl | rw [if_pos (by omega)] | rw [if_neg (by omega)])]; simp only [oEnd, oPaid, updI, ↓reduceIte]; repeat first | rfl | rw [if_pos (by omega)] | rw [if_neg (by omega)])]; exact hx0.2)) rfl (by decide) in_X11 tyX11 tyX11_ok nmX11 q843 (.inl rfl) rfl dX2_bill_136 (by first | rfl | exact nar_bI _ | exact nar_rf _) (by first | rfl | exact fit_bI _ | exact fit_rf _ _) (by simp) (by rfl) (.inl rfl) (fun hob136 => ?_)
        have hK5 := hK4.setT' (P' := (updI (oEnd (oPaid P b) b) (86 + 2 * (P (13 + 6 * b) - 1)) (P (86 + 2 * (P (13 + 6 * b) - 1)) - (rent P b) + P (14 + 6 * b)))) (i := (P (13 + 6 * b) - 1)) (by rw [show (oEnd (oPaid P b) b) 2 = P 2 from (by rw [show oEnd (oPaid P b) b = updI (updI (updI (updI (oPaid P b) (102 + (P (13 + 6 * b) - 1)) 0) (13 + 6 * b) 0) (14 + 6 * b) 0) (15 + 6 * b) 0 from oEnd_eq (by simp only [oPaid, updI]; repeat first | rfl | rw [if_pos (by omega)] | rw [if_neg (by omega)])]; simp only [oEnd, oPaid, updI, ↓reduceIte]; repeat first | rfl | rw [if_pos (by omega)] | rw [if_neg (by omega)])]; exact hx0) (fs := [.int (iI (P (13 + 6 * b) - 1)), .int (iI (P (86 + 2 * (P (13 + 6 * b) - 1)) - (rent P b) + P (14 + 6 * b))), .int (iI ((oEnd (oPaid P b) b) (87 + 2 * (P (13 + 6 * b) - 1)))), va_rf (opt L 10 ((oEnd (oPaid P b) b) (102 + (P (13 + 6 * b) - 1))))]) (by simp only [tF, updI, ↓reduceIte]; repeat first | rfl | rw [if_pos (by omega)] | rw [if_neg (by omega)]) (by intro k hk; rw [updI, if_neg (by omega)]) (by rw [updI, if_neg (by omega), show (oEnd (oPaid P b) b) 0 = P 0 from (by rw [show oEnd (oPaid P b) b = updI (updI (updI (updI (oPaid P b) (102 + (P (13 + 6 * b) - 1)) 0) (13 + 6 * b) 0) (14 + 6 * b) 0) (15 + 6 * b) 0 from oEnd_eq (by simp only [oPaid, updI]; repeat first | rfl | rw [if_pos (by omega)] | rw [if_neg (by omega)])]; simp only [oEnd, oPaid, updI, ↓reduceIte]; repeat first | rfl | rw [if_pos (by omega)] | rw [if_neg (by omega)])]; first | (rw [show (oEnd (oPaid P b) b) (102 + (P (13 + 6 * b) - 1)) = 0 from (by rw [show oEnd (oPaid P b) b = updI (updI (updI (updI (oPaid P b) (102 + (P (13 + 6 * b) - 1)) 0) (13 + 6 * b) 0) (14 + 6 * b) 0) (15 + 6 * b) 0 from oEnd_eq (by simp only [oPaid, updI]; repeat first | rfl | rw [if_pos (by omega)] | rw [if_neg (by omega)])]; simp only [oEnd, oPaid, updI, ↓reduceIte]; repeat first | rfl | rw [if_pos (by omega)] | rw [if_neg (by omega)])]; omega) | (rw [show (oEnd (oPaid P b) b) (102 + (P (13 + 6 * b) - 1)) = P (102 + (P (13 + 6 * b) - 1)) from (by rw [show oEnd (oPaid P b) b = updI (updI (updI (updI (oPaid P b) (102 + (P (13 + 6 * b) - 1)) 0) (13 + 6 * b) 0) (14 + 6 * b) 0) (15 + 6 * b) 0 from oEnd_eq (by simp only [oPaid, updI]; repeat first | rfl | rw [if_pos (by omega)] | rw [if_neg (by omega)])]; simp only [oEnd, oPaid, updI, ↓reduceIte]; repeat first | rfl | rw [if_pos (by omega)] | rw [if_neg (by omega)])]; exact hK.tb (P (13 + 6 * b) - 1) hx0.1 hx0.2))
        refine xr_aload_n dX2_bill_139 rfl (by first | rfl | exact isRef_rf _) ?_
        refine xr_dup dX2_bill_140 (by first | rfl | exact cat_rf _) ?_
        refine xr_getfield (ci := 0) (T := TX2) (N := 10) (i := 9) hK5.hq rfl (by decide) in_X2 q208 (.inl rfl) dX2_bill_141 (by rfl) ?_
        rw [show (updI (oEnd (oPaid P b) b) (86 + 2 * (P (13 + 6 * b) - 1)) (P (86 + 2 * (P (13 + 6 * b) - 1)) - (rent P b) + P (14 + 6 * b))) 9 = P 9 from (by rw [show oEnd (oPaid P b) b = updI (updI (updI (updI (oPaid P b) (102 + (P (13 + 6 * b) - 1)) 0) (13 + 6 * b) 0) (14 + 6 * b) 0) (15 + 6 * b) 0 from oEnd_eq (by simp only [oPaid, updI]; repeat first | rfl | rw [if_pos (by omega)] | rw [if_neg (by omega)])]; simp only [oEnd, oPaid, updI, ↓reduceIte]; repeat first | rfl | rw [if_pos (by omega)] | rw [if_neg (by omega)])]
        refine xr_iconst dX2_bill_144 ?_
        refine xr_iadd dX2_bill_145 ?_
        refine xr_putfield (ci := 0) (T := TX2) (N := 10) (i := 9) (fs' := [_, _, _, _, _, _, _, _, _, _]) hK5.hq rfl (by decide) in_X2 tyX2 tyX2_ok nmX2 q208 (.inl rfl) rfl dX2_bill_146 (by first | rfl | exact nar_bI _ | exact nar_rf _) (by first | rfl | exact fit_bI _ | exact fit_rf _ _) (by simp) (by rfl) (.inl rfl) (fun hob146 => ?_)
        have hK6 := hK5.setQ' (P' := (oDone P b)) (fs := [.ref (L 0), .ref (L 1), .ref (L 2), .int (iI ((updI (oEnd (oPaid P b) b) (86 + 2 * (P (13 + 6 * b) - 1)) (P (86 + 2 * (P (13 + 6 * b) - 1)) - (rent P b) + P (14 + 6 * b))) 3)), .int (iI ((updI (oEnd (oPaid P b) b) (86 + 2 * (P (13 + 6 * b) - 1)) (P (86 + 2 * (P (13 + 6 * b) - 1)) - (rent P b) + P (14 + 6 * b))) 4)), .int (iI ((updI (oEnd (oPaid P b) b) (86 + 2 * (P (13 + 6 * b) - 1)) (P (86 + 2 * (P (13 + 6 * b) - 1)) - (rent P b) + P (14 + 6 * b))) 5)), .int (iI ((updI (oEnd (oPaid P b) b) (86 + 2 * (P (13 + 6 * b) - 1)) (P (86 + 2 * (P (13 + 6 * b) - 1)) - (rent P b) + P (14 + 6 * b))) 6)), .int (iI ((updI (oEnd (oPaid P b) b) (86 + 2 * (P (13 + 6 * b) - 1)) (P (86 + 2 * (P (13 + 6 * b) - 1)) - (rent P b) + P (14 + 6 * b))) 7)), .int (iI ((updI (oEnd (oPaid P b) b) (86 + 2 * (P (13 + 6 * b) - 1)) (P (86 + 2 * (P (13 + 6 * b) - 1)) - (rent P b) + P (14 + 6 * b))) 8)), .int (iI (P 9 + 1))]) (by simp only [qF, oDone, updI, ↓reduceIte]; repeat first | rfl | rw [if_pos (by omega)] | rw [if_neg (by omega)]) (by intro k hk; rw [oDone, updI, if_neg (by omega)])
        refine xr_iconst dX2_bill_149 ?_
        refine xr_ireturn rfl (by decide +kernel) dX2_bill_150 ?_
        rw [hpo]
        have e9 : oBill P b = (oDone P b, 1) := by unfold oBill; rw [if_neg (by omega), if_neg (by omega), if_neg (by omega)]
        rw [e9]
        exact ⟨rfl, hK6, (((((hmN.tq (Fr.put (hK.at hx0.1 hx0.2) _)).tq (Fr.put hK.n0lt.1 _)).tq (Fr.put (hK.ab hb.1 hb.2) _)).tq hm4).tq (Fr.put (hK.at hx0.1 hx0.2) _)).tq (Fr.put hK.n0lt.1 _)⟩
      · skip
        refine xr_iconst dX2_bill_124 ?_
        refine xr_ireturn rfl (by decide +kernel) dX2_bill_125 ?_
        rw [hpo]
        have e9 : oBill P b = (oPaid P b, 0) := by unfold oBill; rw [if_neg (by omega), if_neg (by omega), if_pos (by omega)]
        rw [e9]
        exact ⟨rfl, hK3, ((hmN.tq (Fr.put (hK.at hx0.1 hx0.2) _)).tq (Fr.put hK.n0lt.1 _)).tq (Fr.put (hK.ab hb.1 hb.2) _)⟩
    · skip
      refine xr_aload_n dX2_bill_52 rfl (by first | rfl | exact isRef_rf _) ?_
      refine xr_dup dX2_bill_53 (by first | rfl | exact cat_rf _) ?_
      refine xr_getfieldN (ci := 5) (T := TX11) (N := 4) (i := 2) (hK.te (P (13 + 6 * b) - 1) hx0.1 hx0.2) rfl (by decide) in_X11 q846 (.inl rfl) dX2_bill_54 (by rfl) ?_
      refine xr_iconst dX2_bill_57 ?_
      refine xr_iadd dX2_bill_58 ?_
      refine xr_putfieldN (ci := 5) (T := TX11) (N := 4) (i := 2) (fs' := [_, _, _, _]) (hK.te (P (13 + 6 * b) - 1) hx0.1 hx0.2) rfl (by decide) in_X11 tyX11 tyX11_ok nmX11 q846 (.inl rfl) rfl dX2_bill_59 (by first | rfl | exact nar_bI _ | exact nar_rf _) (by first | rfl | exact fit_bI _ | exact fit_rf _ _) (by simp) (by rfl) (.inl rfl) (fun hob59 => ?_)
      have hK1 := hK.setT' (P' := (updI P (87 + 2 * (P (13 + 6 * b) - 1)) (P (87 + 2 * (P (13 + 6 * b) - 1)) + 1))) hx0 (fs := [.int (iI (P (13 + 6 * b) - 1)), .int (iI (P (86 + 2 * (P (13 + 6 * b) - 1)))), .int (iI (P (87 + 2 * (P (13 + 6 * b) - 1)) + 1)), va_rf (opt L 10 (P (102 + (P (13 + 6 * b) - 1))))]) (by simp only [tF, updI, ↓reduceIte]; repeat first | rfl | rw [if_pos (by omega)] | rw [if_neg (by omega)]) (by intro k hk; rw [updI, if_neg (by omega)]) (by rw [updI, if_neg (by omega)]; exact hK.tb _ hx0.1 hx0.2)
      refine xr_aload_n dX2_bill_62 rfl (by first | rfl | exact isRef_rf _) ?_
      refine xr_dup dX2_bill_63 (by first | rfl | exact cat_rf _) ?_
      refine xr_getfield (ci := 0) (T := TX2) (N := 10) (i := 5) hK1.hq rfl (by decide) in_X2 q200 (.inl rfl) dX2_bill_64 (by rfl) ?_
      rw [show (updI P (87 + 2 * (P (13 + 6 * b) - 1)) (P (87 + 2 * (P (13 + 6 * b) - 1)) + 1)) 5 = P 5 from (by simp only [oEnd, oPaid, updI, ↓reduceIte]; repeat first | rfl | rw [if_pos (by omega)] | rw [if_neg (by omega)])]
      refine xr_aload_n dX2_bill_67 rfl (by first | rfl | exact isRef_rf _) ?_
      refine xr_callV (n9 := 0) (rc' := 0) (rs' := 0) (k_P_end hG hK1 (b := b) (by rw [show (updI P (87 + 2 * (P (13 + 6 * b) - 1)) (P (87 + 2 * (P (13 + 6 * b) - 1)) + 1)) 0 = P 0 from (by simp only [oEnd, oPaid, updI, ↓reduceIte]; repeat first | rfl | rw [if_pos (by omega)] | rw [if_neg (by omega)])]; exact hb) (by rw [show (updI P (87 + 2 * (P (13 + 6 * b) - 1)) (P (87 + 2 * (P (13 + 6 * b) - 1)) + 1)) (13 + 6 * b) = P (13 + 6 * b) from (by simp only [oEnd, oPaid, updI, ↓reduceIte]; repeat first | rfl | rw [if_pos (by omega)] | rw [if_neg (by omega)])]; exact hl)) (hK1.be b hb.1 (by rw [show (updI P (87 + 2 * (P (13 + 6 * b) - 1)) (P (87 + 2 * (P (13 + 6 * b) - 1)) + 1)) 0 = P 0 from (by simp only [oEnd, oPaid, updI, ↓reduceIte]; repeat first | rfl | rw [if_pos (by omega)] | rw [if_neg (by omega)])]; exact hb.2)) rfl q877 q878 q879 q114 q880 (by decide +kernel) rfl ⟨by decide, Nat.le_of_ble_eq_true rfl⟩ ⟨Nat.le_of_ble_eq_true rfl, Nat.le_of_ble_eq_true rfl⟩ (Nat.le_of_ble_eq_true rfl) dX2_bill_68 rfl (fun r w68 hw => ?_) (fun _ _ _ h => h.elim)
      obtain ⟨rfl, hK2, hm2⟩ := hw
      show XJ _ _ _ _ _ _ _ _ _ _ _ _ [.int (iI ((updI P (87 + 2 * (P (13 + 6 * b) - 1)) (P (87 + 2 * (P (13 + 6 * b) - 1)) + 1)) (14 + 6 * b))), _, _]
      rw [show (updI P (87 + 2 * (P (13 + 6 * b) - 1)) (P (87 + 2 * (P (13 + 6 * b) - 1)) + 1)) (14 + 6 * b) = P (14 + 6 * b) from (by simp only [oEnd, oPaid, updI, ↓reduceIte]; repeat first | rfl | rw [if_pos (by omega)] | rw [if_neg (by omega)])]
      refine xr_iadd dX2_bill_71 ?_
      refine xr_putfield (ci := 0) (T := TX2) (N := 10) (i := 5) (fs' := [_, _, _, _, _, _, _, _, _, _]) hK2.hq rfl (by decide) in_X2 tyX2 tyX2_ok nmX2 q200 (.inl rfl) rfl dX2_bill_72 (by first | rfl | exact nar_bI _ | exact nar_rf _) (by first | rfl | exact fit_bI _ | exact fit_rf _ _) (by simp) (by rfl) (.inl rfl) (fun hob72 => ?_)
      have hK3 := hK2.setQ' (P' := (updI (oEnd (updI P (87 + 2 * (P (13 + 6 * b) - 1)) (P (87 + 2 * (P (13 + 6 * b) - 1)) + 1)) b) 5 (P 5 + P (14 + 6 * b)))) (fs := [.ref (L 0), .ref (L 1), .ref (L 2), .int (iI ((oEnd (updI P (87 + 2 * (P (13 + 6 * b) - 1)) (P (87 + 2 * (P (13 + 6 * b) - 1)) + 1)) b) 3)), .int (iI ((oEnd (updI P (87 + 2 * (P (13 + 6 * b) - 1)) (P (87 + 2 * (P (13 + 6 * b) - 1)) + 1)) b) 4)), .int (iI (P 5 + P (14 + 6 * b))), .int (iI ((oEnd (updI P (87 + 2 * (P (13 + 6 * b) - 1)) (P (87 + 2 * (P (13 + 6 * b) - 1)) + 1)) b) 6)), .int (iI ((oEnd (updI P (87 + 2 * (P (13 + 6 * b) - 1)) (P (87 + 2 * (P (13 + 6 * b) - 1)) + 1)) b) 7)), .int (iI ((oEnd (updI P (87 + 2 * (P (13 + 6 * b) - 1)) (P (87 + 2 * (P (13 + 6 * b) - 1)) + 1)) b) 8)), .int (iI ((oEnd (updI P (87 + 2 * (P (13 + 6 * b) - 1)) (P (87 + 2 * (P (13 + 6 * b) - 1)) + 1)) b) 9))]) (by simp only [qF, updI, ↓reduceIte]; repeat first | rfl | rw [if_pos (by omega)] | rw [if_neg (by omega)]) (by intro k hk; rw [updI, if_neg (by omega)])
      refine xr_aload_n dX2_bill_75 rfl (by first | rfl | exact isRef_rf _) ?_
      refine xr_dup dX2_bill_76 (by first | rfl | exact cat_rf _) ?_
      refine xr_getfield (ci := 0) (T := TX2) (N := 10) (i := 7) hK3.hq rfl (by decide) in_X2 q204 (.inl rfl) dX2_bill_77 (by rfl) ?_
      rw [show (updI (oEnd (updI P (87 + 2 * (P (13 + 6 * b) - 1)) (P (87 + 2 * (P (13 + 6 * b) - 1)) + 1)) b) 5 (P 5 + P (14 + 6 * b))) 7 = P 7 from (by rw [show oEnd (updI P (87 + 2 * (P (13 + 6 * b) - 1)) (P (87 + 2 * (P (13 + 6 * b) - 1)) + 1)) b = updI (updI (updI (updI (updI P (87 + 2 * (P (13 + 6 * b) - 1)) (P (87 + 2 * (P (13 + 6 * b) - 1)) + 1)) (102 + (P (13 + 6 * b) - 1)) 0) (13 + 6 * b) 0) (14 + 6 * b) 0) (15 + 6 * b) 0 from oEnd_eq (by simp only [oPaid, updI]; repeat first | rfl | rw [if_pos (by omega)] | rw [if_neg (by omega)])]; simp only [oEnd, oPaid, updI, ↓reduceIte]; repeat first | rfl | rw [if_pos (by omega)] | rw [if_neg (by omega)])]
      refine xr_iconst dX2_bill_80 ?_
      refine xr_iadd dX2_bill_81 ?_
      refine xr_putfield (ci := 0) (T := TX2) (N := 10) (i := 7) (fs' := [_, _, _, _, _, _, _, _, _, _]) hK3.hq rfl (by decide) in_X2 tyX2 tyX2_ok nmX2 q204 (.inl rfl) rfl dX2_bill_82 (by first | rfl | exact nar_bI _ | exact nar_rf _) (by first | rfl | exact fit_bI _ | exact fit_rf _ _) (by simp) (by rfl) (.inl rfl) (fun hob82 => ?_)
      have hK4 := hK3.setQ' (P' := (oDefault P b)) (fs := [.ref (L 0), .ref (L 1), .ref (L 2), .int (iI ((updI (oEnd (updI P (87 + 2 * (P (13 + 6 * b) - 1)) (P (87 + 2 * (P (13 + 6 * b) - 1)) + 1)) b) 5 (P 5 + P (14 + 6 * b))) 3)), .int (iI ((updI (oEnd (updI P (87 + 2 * (P (13 + 6 * b) - 1)) (P (87 + 2 * (P (13 + 6 * b) - 1)) + 1)) b) 5 (P 5 + P (14 + 6 * b))) 4)), .int (iI ((updI (oEnd (updI P (87 + 2 * (P (13 + 6 * b) - 1)) (P (87 + 2 * (P (13 + 6 * b) - 1)) + 1)) b) 5 (P 5 + P (14 + 6 * b))) 5)), .int (iI ((updI (oEnd (updI P (87 + 2 * (P (13 + 6 * b) - 1)) (P (87 + 2 * (P (13 + 6 * b) - 1)) + 1)) b) 5 (P 5 + P (14 + 6 * b))) 6)), .int (iI (P 7 + 1)), .int (iI ((updI (oEnd (updI P (87 + 2 * (P (13 + 6 * b) - 1)) (P (87 + 2 * (P (13 + 6 * b) - 1)) + 1)) b) 5 (P 5 + P (14 + 6 * b))) 8)), .int (iI ((updI (oEnd (updI P (87 + 2 * (P (13 + 6 * b) - 1)) (P (87 + 2 * (P (13 + 6 * b) - 1)) + 1)) b) 5 (P 5 + P (14 + 6 * b))) 9))]) (by simp only [qF, oDefault, updI, ↓reduceIte]; repeat first | rfl | rw [if_pos (by omega)] | rw [if_neg (by omega)]) (by intro k hk; rw [oDefault, updI, if_neg (by omega)])
      refine xr_iconst dX2_bill_85 ?_
      refine xr_ireturn rfl (by decide +kernel) dX2_bill_86 ?_
      rw [hpo]
      have e9 : oBill P b = (oDefault P b, 1) := by unfold oBill; rw [if_neg (by omega), if_pos (by omega)]
      rw [e9]
      exact ⟨rfl, hK4, (((hmN.tq (Fr.put (hK.at hx0.1 hx0.2) _)).tq hm2).tq (Fr.put hK.n0lt.1 _)).tq (Fr.put hK.n0lt.1 _)⟩
  · skip
    try simp only [decide_eq_true_eq, decide_eq_false_iff_not] at c16
    refine xr_aload_n dX2_bill_19 rfl (by first | rfl | exact isRef_rf _) ?_
    refine xr_dup dX2_bill_20 (by first | rfl | exact cat_rf _) ?_
    refine xr_getfieldN (ci := 5) (T := TX11) (N := 4) (i := 1) (hK.te (P (13 + 6 * b) - 1) hx0.1 hx0.2) rfl (by decide) in_X11 q843 (.inl rfl) dX2_bill_21 (by rfl) ?_
    refine xr_aload_n dX2_bill_24 rfl (by first | rfl | exact isRef_rf _) ?_
    refine xr_callV (n9 := 0) (rc' := 0) (rs' := 0) (k_P_end hG hK hb hl) (hK.be b hb.1 hb.2) rfl q877 q878 q879 q114 q880 (by decide +kernel) rfl ⟨by decide, Nat.le_of_ble_eq_true rfl⟩ ⟨Nat.le_of_ble_eq_true rfl, Nat.le_of_ble_eq_true rfl⟩ (Nat.le_of_ble_eq_true rfl) dX2_bill_25 rfl (fun r w25 hw => ?_) (fun _ _ _ h => h.elim)
    obtain ⟨rfl, hK1, hm1⟩ := hw
    show XJ _ _ _ _ _ _ _ _ _ _ _ _ [.int (iI (P (14 + 6 * b))), _, _]
    refine xr_iadd dX2_bill_28 ?_
    refine xr_putfieldN (ci := 5) (T := TX11) (N := 4) (i := 1) (fs' := [_, _, _, _]) (hK1.te (P (13 + 6 * b) - 1) hx0.1 (by rw [show (oEnd P b) 2 = P 2 from (by simp only [oEnd, oPaid, updI, ↓reduceIte]; repeat first | rfl | rw [if_pos (by omega)] | rw [if_neg (by omega)])]; exact hx0.2)) rfl (by decide) in_X11 tyX11 tyX11_ok nmX11 q843 (.inl rfl) rfl dX2_bill_29 (by first | rfl | exact nar_bI _ | exact nar_rf _) (by first | rfl | exact fit_bI _ | exact fit_rf _ _) (by simp) (by rfl) (.inl rfl) (fun hob29 => ?_)
    have hK2 := hK1.setT' (P' := (updI (oEnd P b) (86 + 2 * (P (13 + 6 * b) - 1)) (P (86 + 2 * (P (13 + 6 * b) - 1)) + P (14 + 6 * b)))) (i := (P (13 + 6 * b) - 1)) (by rw [show (oEnd P b) 2 = P 2 from (by simp only [oEnd, oPaid, updI, ↓reduceIte]; repeat first | rfl | rw [if_pos (by omega)] | rw [if_neg (by omega)])]; exact hx0) (fs := [.int (iI (P (13 + 6 * b) - 1)), .int (iI (P (86 + 2 * (P (13 + 6 * b) - 1)) + P (14 + 6 * b))), .int (iI ((oEnd P b) (87 + 2 * (P (13 + 6 * b) - 1)))), va_rf (opt L 10 ((oEnd P b) (102 + (P (13 + 6 * b) - 1))))]) (by simp only [tF, updI, ↓reduceIte]; repeat first | rfl | rw [if_pos (by omega)] | rw [if_neg (by omega)]) (by intro k hk; rw [updI, if_neg (by omega)]) (by rw [updI, if_neg (by omega), show (oEnd P b) 0 = P 0 from (by simp only [oEnd, oPaid, updI, ↓reduceIte]; repeat first | rfl | rw [if_pos (by omega)] | rw [if_neg (by omega)])]; first | (rw [show (oEnd P b) (102 + (P (13 + 6 * b) - 1)) = 0 from (by simp only [oEnd, oPaid, updI, ↓reduceIte]; repeat first | rfl | rw [if_pos (by omega)] | rw [if_neg (by omega)])]; omega) | (rw [show (oEnd P b) (102 + (P (13 + 6 * b) - 1)) = P (102 + (P (13 + 6 * b) - 1)) from (by simp only [oEnd, oPaid, updI, ↓reduceIte]; repeat first | rfl | rw [if_pos (by omega)] | rw [if_neg (by omega)])]; exact hK.tb (P (13 + 6 * b) - 1) hx0.1 hx0.2))
    refine xr_aload_n dX2_bill_32 rfl (by first | rfl | exact isRef_rf _) ?_
    refine xr_dup dX2_bill_33 (by first | rfl | exact cat_rf _) ?_
    refine xr_getfield (ci := 0) (T := TX2) (N := 10) (i := 8) hK2.hq rfl (by decide) in_X2 q206 (.inl rfl) dX2_bill_34 (by rfl) ?_
    rw [show (updI (oEnd P b) (86 + 2 * (P (13 + 6 * b) - 1)) (P (86 + 2 * (P (13 + 6 * b) - 1)) + P (14 + 6 * b))) 8 = P 8 from (by simp only [oEnd, oPaid, updI, ↓reduceIte]; repeat first | rfl | rw [if_pos (by omega)] | rw [if_neg (by omega)])]
    refine xr_iconst dX2_bill_37 ?_
    refine xr_iadd dX2_bill_38 ?_
    refine xr_putfield (ci := 0) (T := TX2) (N := 10) (i := 8) (fs' := [_, _, _, _, _, _, _, _, _, _]) hK2.hq rfl (by decide) in_X2 tyX2 tyX2_ok nmX2 q206 (.inl rfl) rfl dX2_bill_39 (by first | rfl | exact nar_bI _ | exact nar_rf _) (by first | rfl | exact fit_bI _ | exact fit_rf _ _) (by simp) (by rfl) (.inl rfl) (fun hob39 => ?_)
    have hK3 := hK2.setQ' (P' := (oLoudEnd P b)) (fs := [.ref (L 0), .ref (L 1), .ref (L 2), .int (iI ((updI (oEnd P b) (86 + 2 * (P (13 + 6 * b) - 1)) (P (86 + 2 * (P (13 + 6 * b) - 1)) + P (14 + 6 * b))) 3)), .int (iI ((updI (oEnd P b) (86 + 2 * (P (13 + 6 * b) - 1)) (P (86 + 2 * (P (13 + 6 * b) - 1)) + P (14 + 6 * b))) 4)), .int (iI ((updI (oEnd P b) (86 + 2 * (P (13 + 6 * b) - 1)) (P (86 + 2 * (P (13 + 6 * b) - 1)) + P (14 + 6 * b))) 5)), .int (iI ((updI (oEnd P b) (86 + 2 * (P (13 + 6 * b) - 1)) (P (86 + 2 * (P (13 + 6 * b) - 1)) + P (14 + 6 * b))) 6)), .int (iI ((updI (oEnd P b) (86 + 2 * (P (13 + 6 * b) - 1)) (P (86 + 2 * (P (13 + 6 * b) - 1)) + P (14 + 6 * b))) 7)), .int (iI (P 8 + 1)), .int (iI ((updI (oEnd P b) (86 + 2 * (P (13 + 6 * b) - 1)) (P (86 + 2 * (P (13 + 6 * b) - 1)) + P (14 + 6 * b))) 9))]) (by simp only [qF, oLoudEnd, updI, ↓reduceIte]; repeat first | rfl | rw [if_pos (by omega)] | rw [if_neg (by omega)]) (by intro k hk; rw [oLoudEnd, updI, if_neg (by omega)])
    refine xr_iconst dX2_bill_42 ?_
    refine xr_ireturn rfl (by decide +kernel) dX2_bill_43 ?_
    rw [hpo]
    have e9 : oBill P b = (oLoudEnd P b, 1) := by unfold oBill; rw [if_pos (by omega)]
    rw [e9]
    exact ⟨rfl, hK3, ((hmN.tq hm1).tq (Fr.put (hK.at hx0.1 hx0.2) _)).tq (Fr.put hK.n0lt.1 _)⟩
