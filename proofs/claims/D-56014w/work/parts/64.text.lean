/-! 64.text.lean.txt (written by tools/walker.py)  -/
set_option maxRecDepth 100000
theorem vf_all : ∀ a : Nat, a < 201 → ∀ b : Nat, b < 11 → b = 0 ∨ (FP.ddiv (FP.i2d (iI a)) (FP.i2d (iI b)) &&& 0x7fffffffffffffff ≤ 0x7ff0000000000000) := by decide +kernel
theorem vf_allF : ∀ a : Nat, a < 11 → ∀ b : Nat, b < 11 → b = 0 ∨ ((FP.fdiv (FP.i2f (iI a)) (FP.i2f (iI b)) &&& 0x7fffffff ≤ 0x7f800000) ∧ (FP.f2d (FP.fdiv (FP.i2f (iI a)) (FP.i2f (iI b))) &&& 0x7fffffffffffffff ≤ 0x7ff0000000000000)) := by decide +kernel
theorem vf_d {a b : Int} (ha : 0 ≤ a ∧ a ≤ 200) (hb : 1 ≤ b ∧ b ≤ 10) : vf_n64 (FP.ddiv (FP.i2d (iI a)) (FP.i2d (iI b))) := by
  rcases vf_all a.toNat (by omega) b.toNat (by omega) with h | h
  · omega
  · rw [Int.toNat_of_nonneg ha.1, Int.toNat_of_nonneg (by omega)] at h
    exact h
theorem vf_f {a b : Int} (ha : 0 ≤ a ∧ a ≤ 10) (hb : 1 ≤ b ∧ b ≤ 10) : vf_n32 (FP.fdiv (FP.i2f (iI a)) (FP.i2f (iI b))) ∧ vf_n64 (FP.f2d (FP.fdiv (FP.i2f (iI a)) (FP.i2f (iI b)))) := by
  rcases vf_allF a.toNat (by omega) b.toNat (by omega) with h | h
  · omega
  · rw [Int.toNat_of_nonneg ha.1, Int.toNat_of_nonneg (by omega)] at h
    exact h
theorem k_X_meanRent {g : GG} {w : WW} {x : Nat} {n0 : Nat → Prop} {q : Nat} {L : Int → Nat} {P : Int → Int} {N : Int} {v1 v2 v3 v4 v5 v6 : Value} (hG : Base g) (hx : Ob w x 13 [.ref q, v1, v2, v3, v4, v5, v6]) (hK : PK g w n0 q L P) (hB : PB P N) : Ct g yX1_meanRent (.code yX1_meanRent cX1_meanRent 1 (some .double)) 22 3343 35 73 w [.ref x] (fun r_ w1 => 0 < P 0 ∧ r_ = some (.double (FP.ddiv (FP.i2d (iI (sumR (fun b => rent P b) 0 (P 0)))) (FP.i2d (iI (P 0))))) ∧ Mo w.2 w w1) (fun E a9 w1 => E = "java/lang/ArithmeticException" ∧ ¬ 0 < P 0 ∧ Mo w.2 w w1) := by
  refine Ct.of (lv := [some _]) hG (by decide +kernel) (Nat.le_of_ble_eq_true rfl) rfl ?_
  intro z hg hpo hxp hnm htab
  subst hg
  have hgg := hB.g
  have hs1 := sumR_bd (f := fun b => rent P b) (B := 20) (k := 0) (n := P 0) (by decide) hgg.1.1 (fun j a b => by have := rent_bd hB a b; (try dsimp only); omega)
  refine xr_aload_n dX1_meanRent_0 rfl (by first | rfl | exact isRef_rf _) ?_
  refine xr_callV (n9 := 0) (rc' := 35) (rs' := 73) (k_X_benchCount hG hx hK hB) hx rfl q1567 q290 q291 q86 q292 (by decide +kernel) rfl ⟨by decide, Nat.le_of_ble_eq_true rfl⟩ ⟨Nat.le_of_ble_eq_true rfl, Nat.le_of_ble_eq_true rfl⟩ (Nat.le_of_ble_eq_true rfl) dX1_meanRent_1 rfl (xk_r ?_) (fun _ _ _ h => h.elim)
  refine xr_if_le (tgt := 11) dX1_meanRent_4 (by decide) (by omega) (fun c4 => ?_) (fun c4 => ?_)
  · skip
    refine xr_iconst dX1_meanRent_11 ?_
    refine xr_callS (n9 := 1) (rc' := 34) (rs' := 67) (k_requireCount (b := false) hG) q1568 q1569 q86 q1570 (by decide +kernel) rfl ⟨by decide, Nat.le_of_ble_eq_true rfl⟩ ⟨Nat.le_of_ble_eq_true rfl, Nat.le_of_ble_eq_true rfl⟩ (Nat.le_of_ble_eq_true rfl) dX1_meanRent_12 rfl (xk_req (fun h9 => nomatch h9)) (xt_req ?_)
    intro q9 _
    exact xt_out (fun x hx => (htab x hx).elim) (by rw [hxp]; exact ⟨rfl, by omega, Mo.rf⟩)
  · skip
    refine xr_iconst dX1_meanRent_7 ?_
    refine xr_goto (tgt := 12) dX1_meanRent_8 (by decide) ?_
    refine xr_callS (n9 := 1) (rc' := 34) (rs' := 67) (k_requireCount (b := true) hG) q1568 q1569 q86 q1570 (by decide +kernel) rfl ⟨by decide, Nat.le_of_ble_eq_true rfl⟩ ⟨Nat.le_of_ble_eq_true rfl, Nat.le_of_ble_eq_true rfl⟩ (Nat.le_of_ble_eq_true rfl) dX1_meanRent_12 rfl (xk_req (fun _ => ?_)) (xt_req (fun _ h9 => nomatch h9))
    refine xr_aload_n dX1_meanRent_15 rfl (by first | rfl | exact isRef_rf _) ?_
    refine xr_getfield (ci := 13) (T := TX1) (N := 7) (i := 0) hx rfl (by decide) in_X1 q267 (.inl rfl) dX1_meanRent_16 (by rfl) ?_
    refine xr_callV (n9 := 0) (rc' := 0) (rs' := 0) (k_P_rentTotal hG hK hB) hK.hq rfl q1576 q1577 q1578 q87 q1579 (by decide +kernel) rfl ⟨by decide, Nat.le_of_ble_eq_true rfl⟩ ⟨Nat.le_of_ble_eq_true rfl, Nat.le_of_ble_eq_true rfl⟩ (Nat.le_of_ble_eq_true rfl) dX1_meanRent_19 rfl (xk_e fun w19 hm19 => ?_) (fun _ _ _ h => h.elim)
    have hx1 := hx.ext hm19
    have hK1 := hK.ext hm19
    refine xr_i2d dX1_meanRent_22 ?_
    refine xr_aload_n dX1_meanRent_23 rfl (by first | rfl | exact isRef_rf _) ?_
    refine xr_callV (n9 := 0) (rc' := 0) (rs' := 0) (k_X_benchCount hG hx1 hK1 hB) hx1 rfl q1567 q290 q291 q86 q292 (by decide +kernel) rfl ⟨by decide, Nat.le_of_ble_eq_true rfl⟩ ⟨Nat.le_of_ble_eq_true rfl, Nat.le_of_ble_eq_true rfl⟩ (Nat.le_of_ble_eq_true rfl) dX1_meanRent_24 rfl (xk_r ?_) (fun _ _ _ h => h.elim)
    refine xr_i2d dX1_meanRent_27 ?_
    refine xr_ddiv dX1_meanRent_28 (vf_d (by omega) (by omega)) ?_
    refine xr_dreturn rfl dX1_meanRent_29 ?_
    rw [hpo]
    exact ⟨by omega, rfl, hm19⟩
theorem k_X_letShare {g : GG} {w : WW} {x : Nat} {n0 : Nat → Prop} {q : Nat} {L : Int → Nat} {P : Int → Int} {N : Int} {v1 v2 v3 v4 v5 v6 : Value} (hG : Base g) (hx : Ob w x 13 [.ref q, v1, v2, v3, v4, v5, v6]) (hK : PK g w n0 q L P) (hB : PB P N) : Ct g yX1_letShare (.code yX1_letShare cX1_letShare 1 (some .float)) 12 3100 1 6 w [.ref x] (fun r_ w1 => 0 < P 0 ∧ r_ = some (.float (FP.fdiv (FP.i2f (iI (sumR (fun b => if P (13 + 6 * b) ≠ 0 then 1 else 0) 0 (P 0)))) (FP.i2f (iI (P 0))))) ∧ Mo w.2 w w1) (fun E a9 w1 => E = "java/lang/ArithmeticException" ∧ ¬ 0 < P 0 ∧ Mo w.2 w w1) := by
  refine Ct.of (lv := [some _]) hG (by decide +kernel) (Nat.le_of_ble_eq_true rfl) rfl ?_
  intro z hg hpo hxp hnm htab
  subst hg
  have hgg := hB.g
  have hs1 := sumR_bd (f := fun b => if P (13 + 6 * b) ≠ 0 then 1 else 0) (B := 1) (k := 0) (n := P 0) (by decide) hgg.1.1 (fun j _ _ => by (try dsimp only); split <;> omega)
  refine xr_aload_n dX1_letShare_0 rfl (by first | rfl | exact isRef_rf _) ?_
  refine xr_callV (n9 := 0) (rc' := 1) (rs' := 6) (k_X_benchCount hG hx hK hB) hx rfl q1567 q290 q291 q86 q292 (by decide +kernel) rfl ⟨by decide, Nat.le_of_ble_eq_true rfl⟩ ⟨Nat.le_of_ble_eq_true rfl, Nat.le_of_ble_eq_true rfl⟩ (Nat.le_of_ble_eq_true rfl) dX1_letShare_1 rfl (xk_r ?_) (fun _ _ _ h => h.elim)
  refine xr_if_le (tgt := 11) dX1_letShare_4 (by decide) (by omega) (fun c4 => ?_) (fun c4 => ?_)
  · skip
    refine xr_iconst dX1_letShare_11 ?_
    refine xr_callS (n9 := 1) (rc' := 0) (rs' := 0) (k_requireCount (b := false) hG) q1568 q1569 q86 q1570 (by decide +kernel) rfl ⟨by decide, Nat.le_of_ble_eq_true rfl⟩ ⟨Nat.le_of_ble_eq_true rfl, Nat.le_of_ble_eq_true rfl⟩ (Nat.le_of_ble_eq_true rfl) dX1_letShare_12 rfl (xk_req (fun h9 => nomatch h9)) (xt_req ?_)
    intro q9 _
    exact xt_out (fun x hx => (htab x hx).elim) (by rw [hxp]; exact ⟨rfl, by omega, Mo.rf⟩)
  · skip
    refine xr_iconst dX1_letShare_7 ?_
    refine xr_goto (tgt := 12) dX1_letShare_8 (by decide) ?_
    refine xr_callS (n9 := 1) (rc' := 0) (rs' := 0) (k_requireCount (b := true) hG) q1568 q1569 q86 q1570 (by decide +kernel) rfl ⟨by decide, Nat.le_of_ble_eq_true rfl⟩ ⟨Nat.le_of_ble_eq_true rfl, Nat.le_of_ble_eq_true rfl⟩ (Nat.le_of_ble_eq_true rfl) dX1_letShare_12 rfl (xk_req (fun _ => ?_)) (xt_req (fun _ h9 => nomatch h9))
    refine xr_aload_n dX1_letShare_15 rfl (by first | rfl | exact isRef_rf _) ?_
    refine xr_getfield (ci := 13) (T := TX1) (N := 7) (i := 0) hx rfl (by decide) in_X1 q267 (.inl rfl) dX1_letShare_16 (by rfl) ?_
    refine xr_callV (n9 := 0) (rc' := 0) (rs' := 0) (k_P_letCount hG hK hB) hK.hq rfl q1590 q711 q712 q87 q713 (by decide +kernel) rfl ⟨by decide, Nat.le_of_ble_eq_true rfl⟩ ⟨Nat.le_of_ble_eq_true rfl, Nat.le_of_ble_eq_true rfl⟩ (Nat.le_of_ble_eq_true rfl) dX1_letShare_19 rfl (xk_e fun w19 hm19 => ?_) (fun _ _ _ h => h.elim)
    have hx1 := hx.ext hm19
    have hK1 := hK.ext hm19
    refine xr_i2f dX1_letShare_22 ?_
    refine xr_aload_n dX1_letShare_23 rfl (by first | rfl | exact isRef_rf _) ?_
    refine xr_callV (n9 := 0) (rc' := 0) (rs' := 0) (k_X_benchCount hG hx1 hK1 hB) hx1 rfl q1567 q290 q291 q86 q292 (by decide +kernel) rfl ⟨by decide, Nat.le_of_ble_eq_true rfl⟩ ⟨Nat.le_of_ble_eq_true rfl, Nat.le_of_ble_eq_true rfl⟩ (Nat.le_of_ble_eq_true rfl) dX1_letShare_24 rfl (xk_r ?_) (fun _ _ _ h => h.elim)
    refine xr_i2f dX1_letShare_27 ?_
    refine xr_fdiv dX1_letShare_28 (vf_f (by omega) (by omega)).1 ?_
    refine xr_freturn rfl dX1_letShare_29 ?_
    rw [hpo]
    exact ⟨by omega, rfl, hm19⟩
theorem k_X_isConsistent {g : GG} {w : WW} {x : Nat} {n0 : Nat → Prop} {q : Nat} {L : Int → Nat} {P : Int → Int} {N : Int} {v1 v2 v3 v4 v5 v6 : Value} (hG : Base g) (hKI : KI g) (hL : KL g) (hx : Ob w x 13 [.ref q, v1, v2, v3, v4, v5, v6]) (hK : PK g w n0 q L P) (hB : PB P N) (hC : PCon P) (hN : N + 13000 ≤ 10000000) (hco : sumR (fun t => P (86 + 2 * t)) 0 (P 2) + sumR (fun b => P (14 + 6 * b)) 0 (P 0) + P 5 = P 6) (hle : sumR (fun b => if P (13 + 6 * b) ≠ 0 then 1 else 0) 0 (P 0) = sumR (fun t => if P (102 + t) ≠ 0 then 1 else 0) 0 (P 2)) (hin : ∀ m : Int, 1 ≤ m ∧ m ≤ 12 → (oMonths m.toNat P).1 5 - P 5 = sumR (fun b => income1 P b m) 0 (P 0)) : Ct g yX1_isConsistent (.code yX1_isConsistent cX1_isConsistent 1 (some .boolean)) 23 3366 1549 4366 w [.ref x] (fun r_ w1 => r_ = some (.int (iI 1)) ∧ Mo w.2 w w1) xF := by
  refine Ct.of (lv := [some _]) hG (by decide +kernel) (Nat.le_of_ble_eq_true rfl) rfl ?_
  intro z hg hpo hxp hnm htab
  subst hg
  have hmo : Mo w.2 w w := Mo.rf
  refine xr_aload_n dX1_isConsistent_0 rfl (by first | rfl | exact isRef_rf _) ?_
  refine xr_getfield (ci := 13) (T := TX1) (N := 7) (i := 0) hx rfl (by decide) in_X1 q267 (.inl rfl) dX1_isConsistent_1 (by rfl) ?_
  refine xr_callV (n9 := 0) (rc' := 0) (rs' := 0) (k_P_isConsistent hG hKI hL hK hB hC hN hco hle hin) hK.hq rfl q441 q442 q443 q87 q444 (by decide +kernel) rfl ⟨by decide, Nat.le_of_ble_eq_true rfl⟩ ⟨Nat.le_of_ble_eq_true rfl, Nat.le_of_ble_eq_true rfl⟩ (Nat.le_of_ble_eq_true rfl) dX1_isConsistent_4 rfl (xk_e fun w4 hm4 => ?_) (fun _ _ _ h => h.elim)
  have hmo := hmo.tr hm4 hmo.1
  refine xr_ireturn rfl (by first | rfl | exact nar_bI _ | decide +kernel) dX1_isConsistent_7 ?_
  rw [hpo]
  first | exact ⟨rfl, hmo⟩ | exact ⟨ret_bt (by omega), hmo⟩ | exact ⟨ret_bf (by omega), hmo⟩ | exact ⟨ret_i (by omega), hmo⟩
/-- the sign of a cell -/
def signOf (P : Int → Int) (r c : Int) : Int := if benchIn P r c ≠ -1 then 48 + benchIn P r c else if fountIn P r c = -1 then 46 else if P (73 + 4 * fountIn P r c) = 1 then 70 else 102
abbrev Tx : Type := Nat × (Int → Int)
def tN (s : Tx) (v : Int) : Tx := (s.1 + lenI v, appI s.2 s.1 v)
def tC (s : Tx) (c : Int) : Tx := (s.1 + 1, updI s.2 s.1 c)
def wBench0 (P : Int → Int) (b : Int) (s : Tx) : Tx := tN (tC (tN (tC (tN (tC (tN (tC (tN s b) 64) (P (10 + 6 * b))) 44) (P (11 + 6 * b))) 36) (rent P b)) 126) (noiseOf P b)
def wBench (P : Int → Int) (b : Int) (s : Tx) : Tx := if P (13 + 6 * b) = 0 then wBench0 P b s else tN (tC (tN (tC (wBench0 P b s) 61) (P (13 + 6 * b) - 1)) 47) (P (15 + 6 * b))
theorem lenI_bd {v : Int} : 1 ≤ lenI v ∧ lenI v ≤ 2 := by unfold lenI; split <;> omega
theorem tN_len {s : Tx} {v : Int} : s.1 + 1 ≤ (tN s v).1 ∧ (tN s v).1 ≤ s.1 + 2 := by
  have := lenI_bd (v := v)
  show s.1 + 1 ≤ s.1 + lenI v ∧ s.1 + lenI v ≤ s.1 + 2
  omega
theorem tC_len {s : Tx} {c : Int} : (tC s c).1 = s.1 + 1 := rfl
theorem k_X_signAt {g : GG} {w : WW} {x : Nat} {n0 : Nat → Prop} {q : Nat} {L : Int → Nat} {P : Int → Int} {N : Int} {v1 v2 v3 v4 v5 v6 : Value} {r c : Int} (hG : Base g) (hx : Ob w x 13 [.ref q, v1, v2, v3, v4, v5, v6]) (hK : PK g w n0 q L P) (hB : PB P N) (hr : sm r ∧ sm c) : Ct g yX1_signAt (.code yX1_signAt cX1_signAt 5 (some .char)) 5 109 0 0 w [.ref x, .int (iI r), .int (iI c)] (fun r_ w1 => r_ = some (.int (iI (signOf P r c))) ∧ w1 = w) xF := by
  refine Ct.of (lv := [some _, some _, some _, none, none]) hG (by decide +kernel) (Nat.le_of_ble_eq_true rfl) rfl ?_
  intro z hg hpo hxp hnm htab
  subst hg
  have b1 := benchIn_bd (P := P) (r := r) (c := c)
  have b2 := fountIn_bd (P := P) (r := r) (c := c)
  have hgg := hB.g
  refine xr_aload_n dX1_signAt_0 rfl (by first | rfl | exact isRef_rf _) ?_
  refine xr_getfield (ci := 13) (T := TX1) (N := 7) (i := 0) hx rfl (by decide) in_X1 q267 (.inl rfl) dX1_signAt_1 (by rfl) ?_
  refine xr_getfieldN (ci := 0) (T := TX2) (N := 10) (i := 0) hK.hq rfl (by decide) in_X2 q188 (.inl rfl) dX1_signAt_4 (by rfl) ?_
  refine xr_iload_n dX1_signAt_7 rfl ?_
  refine xr_iload_n dX1_signAt_8 rfl ?_
  refine xr_callS (n9 := 3) (rc' := 0) (rs' := 0) (k_indexAt_B hG hK hB hr) q1830 q1070 q86 q1071 (by decide +kernel) rfl ⟨by decide, Nat.le_of_ble_eq_true rfl⟩ ⟨Nat.le_of_ble_eq_true rfl, Nat.le_of_ble_eq_true rfl⟩ (Nat.le_of_ble_eq_true rfl) dX1_signAt_9 rfl (xk_r ?_) (fun _ _ _ h => h.elim)
  refine xr_istore_n (lv' := [some _, some _, some _, some _, none]) dX1_signAt_12 (by decide) rfl rfl ?_
  refine xr_aload_n dX1_signAt_13 rfl (by first | rfl | exact isRef_rf _) ?_
  refine xr_getfield (ci := 13) (T := TX1) (N := 7) (i := 0) hx rfl (by decide) in_X1 q267 (.inl rfl) dX1_signAt_14 (by rfl) ?_
  refine xr_getfieldN (ci := 0) (T := TX2) (N := 10) (i := 1) hK.hq rfl (by decide) in_X2 q191 (.inl rfl) dX1_signAt_17 (by rfl) ?_
  refine xr_iload_n dX1_signAt_20 rfl ?_
  refine xr_iload_n dX1_signAt_21 rfl ?_
  refine xr_callS (n9 := 3) (rc' := 0) (rs' := 0) (k_indexAt_F hG hK hB hr) q1830 q1070 q86 q1071 (by decide +kernel) rfl ⟨by decide, Nat.le_of_ble_eq_true rfl⟩ ⟨Nat.le_of_ble_eq_true rfl, Nat.le_of_ble_eq_true rfl⟩ (Nat.le_of_ble_eq_true rfl) dX1_signAt_22 rfl (xk_r ?_) (fun _ _ _ h => h.elim)
  refine xr_istore (lv' := [some _, some _, some _, some _, some _]) dX1_signAt_25 (by decide) rfl rfl ?_
  refine xr_iload_n dX1_signAt_27 rfl ?_
  refine xr_iconst dX1_signAt_28 ?_
  refine xr_icmp_eq (tgt := 50) dX1_signAt_29 (by decide) (by omega) (fun c29 => ?_) (fun c29 => ?_)
  · skip
    refine xr_iload dX1_signAt_50 rfl ?_
    refine xr_iconst dX1_signAt_52 ?_
    refine xr_icmp_ne (tgt := 61) dX1_signAt_53 (by decide) (by omega) (fun c53 => ?_) (fun c53 => ?_)
    · skip
      refine xr_aload_n dX1_signAt_61 rfl (by first | rfl | exact isRef_rf _) ?_
      refine xr_getfield (ci := 13) (T := TX1) (N := 7) (i := 0) hx rfl (by decide) in_X1 q267 (.inl rfl) dX1_signAt_62 (by rfl) ?_
      refine xr_getfieldN (ci := 0) (T := TX2) (N := 10) (i := 1) hK.hq rfl (by decide) in_X2 q191 (.inl rfl) dX1_signAt_65 (by rfl) ?_
      refine xr_iload dX1_signAt_68 rfl ?_
      refine xr_callV (n9 := 1) (rc' := 0) (rs' := 0) (k_Reg_get hG hK.r1 hK.l1 ⟨by omega, by omega⟩ rfl (hK.fo (fountIn P r c) (by omega) (by omega)) rfl q2758) hK.r1 rfl q1072 q474 q475 q88 q476 (by decide +kernel) rfl ⟨by decide, Nat.le_of_ble_eq_true rfl⟩ ⟨Nat.le_of_ble_eq_true rfl, Nat.le_of_ble_eq_true rfl⟩ (Nat.le_of_ble_eq_true rfl) dX1_signAt_70 rfl (xk_r ?_) (fun _ _ _ h => h.elim)
      refine xr_castS (hK.fo (fountIn P r c) (by omega) (by omega)) rfl q1296 dX1_signAt_73 ?_
      refine xr_callV (n9 := 0) (rc' := 0) (rs' := 0) (k_F_sign hG (hK.fo (fountIn P r c) (by omega) (by omega))) (hK.fo (fountIn P r c) (by omega) (by omega)) rfl q1836 q1837 q1838 q109 q1839 (by decide +kernel) rfl ⟨by decide, Nat.le_of_ble_eq_true rfl⟩ ⟨Nat.le_of_ble_eq_true rfl, Nat.le_of_ble_eq_true rfl⟩ (Nat.le_of_ble_eq_true rfl) dX1_signAt_76 rfl (xk_r ?_) (fun _ _ _ h => h.elim)
      simp only [decide_eq_true_eq]
      have hsg : signOf P r c = if P (73 + 4 * fountIn P r c) = 1 then 70 else 102 := by rw [signOf, if_neg (by omega), if_neg (by omega)]
      rw [← hsg]
      have hsb : 0 ≤ signOf P r c ∧ signOf P r c ≤ 127 := by rw [hsg]; split <;> omega
      refine xr_ireturn rfl (by first | exact nar_ch (by omega) | decide +kernel) dX1_signAt_79 ?_
      rw [hpo]
      first | exact ⟨rfl, rfl⟩ | exact ⟨by rw [signOf, if_neg (by omega), if_pos (by omega)], rfl⟩
    · skip
      refine xr_bipush dX1_signAt_56 (by decide) ?_
      refine xr_goto (tgt := 79) dX1_signAt_58 (by decide) ?_
      refine xr_ireturn rfl (by first | exact nar_ch (by omega) | decide +kernel) dX1_signAt_79 ?_
      rw [hpo]
      first | exact ⟨rfl, rfl⟩ | exact ⟨by rw [signOf, if_neg (by omega), if_pos (by omega)], rfl⟩
  · skip
    refine xr_aload_n dX1_signAt_32 rfl (by first | rfl | exact isRef_rf _) ?_
    refine xr_getfield (ci := 13) (T := TX1) (N := 7) (i := 0) hx rfl (by decide) in_X1 q267 (.inl rfl) dX1_signAt_33 (by rfl) ?_
    refine xr_getfieldN (ci := 0) (T := TX2) (N := 10) (i := 0) hK.hq rfl (by decide) in_X2 q188 (.inl rfl) dX1_signAt_36 (by rfl) ?_
    refine xr_iload_n dX1_signAt_39 rfl ?_
    refine xr_callV (n9 := 1) (rc' := 0) (rs' := 0) (k_Reg_get hG hK.r0 hK.l0 ⟨by omega, by omega⟩ rfl (hK.be (benchIn P r c) (by omega) (by omega)) rfl q2757) hK.r0 rfl q1072 q474 q475 q88 q476 (by decide +kernel) rfl ⟨by decide, Nat.le_of_ble_eq_true rfl⟩ ⟨Nat.le_of_ble_eq_true rfl, Nat.le_of_ble_eq_true rfl⟩ (Nat.le_of_ble_eq_true rfl) dX1_signAt_40 rfl (xk_r ?_) (fun _ _ _ h => h.elim)
    refine xr_castS (hK.be (benchIn P r c) (by omega) (by omega)) rfl q798 dX1_signAt_43 ?_
    refine xr_callV (n9 := 0) (rc' := 0) (rs' := 0) (k_B_sign hG (hK.be (benchIn P r c) (by omega) (by omega)) (by omega)) (hK.be (benchIn P r c) (by omega) (by omega)) rfl q1831 q1832 q1833 q114 q1834 (by decide +kernel) rfl ⟨by decide, Nat.le_of_ble_eq_true rfl⟩ ⟨Nat.le_of_ble_eq_true rfl, Nat.le_of_ble_eq_true rfl⟩ (Nat.le_of_ble_eq_true rfl) dX1_signAt_46 rfl (xk_r ?_) (fun _ _ _ h => h.elim)
    refine xr_ireturn rfl (nar_ch (by omega)) dX1_signAt_49 ?_
    rw [hpo]
    exact ⟨by rw [signOf, if_pos (by omega)], rfl⟩
theorem k_X_write {g : GG} {w : WW} {x a b n : Nat} {f : Int → Int} {v0 v1 v2 v3 v4 v5 v6 : Value} (hG : Base g) (hJ : KJ g) (hx : Ob w x 13 [v0, v1, v2, v3, v4, v5, v6]) (hA : SB g w a b n f) : Ct g yX1_write (.code yX1_write cX1_write 2 (some .int)) 6 159 2 74 w [.ref x, .ref a] (fun r_ w1 => r_ = some (.int (iI n)) ∧ ∃ t b1 : Nat, Ob w1 x 13 [v0, v1, v2, v3, .ref t, v5, v6] ∧ SO g w1 t b1 n f ∧ w.2 ≤ t ∧ w.2 ≤ b1 ∧ gb g ≤ b1 ∧ Fr (fun y => y = x) w w1) xF := by
  refine Ct.of (lv := [some _, some _]) hG (by decide +kernel) (Nat.le_of_ble_eq_true rfl) rfl ?_
  intro z hg hpo hxp hnm htab
  subst hg
  obtain ⟨_, hoA⟩ := hA.ob
  refine xr_aload_n dX1_write_0 rfl (by first | rfl | exact isRef_rf _) ?_
  refine xr_aload_n dX1_write_1 rfl (by first | rfl | exact isRef_rf _) ?_
  refine xr_callV (n9 := 0) (rc' := 0) (rs' := 0) (k_SB_toString hG hJ hA) hoA rfl q1715 q1716 q1717 q93 q1718 (by decide +kernel) rfl ⟨by decide, Nat.le_of_ble_eq_true rfl⟩ ⟨Nat.le_of_ble_eq_true rfl, Nat.le_of_ble_eq_true rfl⟩ (Nat.le_of_ble_eq_true rfl) dX1_write_2 rfl (fun r w2 hw => ?_) (fun _ _ _ h => h.elim)
  obtain ⟨t, b1, rfl, hs, ht, hb1, hgt, hgb, hm2⟩ := hw
  show XJ _ _ _ _ _ _ _ _ _ _ _ _ [.ref t, _]
  have hx1 := hx.ext hm2
  have hxw := hx.2
  refine xr_putfield (ci := 13) (T := TX1) (N := 7) (i := 4) (fs' := [_, _, _, _, _, _, _]) hx1 rfl (by decide) in_X1 tyX1 tyX1_ok nmX1 q271 (.inl rfl) rfl dX1_write_5 (by first | rfl | exact nar_bI _ | exact nar_rf _) (by first | rfl | exact fit_bI _ | exact fit_rf _ _) (by simp) (by rfl) (.inl rfl) (fun hob5 => ?_)
  have hs2 := hs.fr (Fr.put1 (.inl (.inr (13, [v0, v1, v2, v3, .ref t, v5, v6])))) (fun (q9 : t = x) => by omega) (fun (q9 : b1 = x) => by omega)
  refine xr_aload_n dX1_write_8 rfl (by first | rfl | exact isRef_rf _) ?_
  refine xr_getfield (ci := 13) (T := TX1) (N := 7) (i := 4) hob5 rfl (by decide) in_X1 q271 (.inl rfl) dX1_write_9 (by rfl) ?_
  refine xr_callV (n9 := 0) (rc' := 0) (rs' := 0) (k_S_length hG hJ hs2) (hs2.ob.choose_spec) rfl q1818 q1770 q1771 q94 q1772 (by decide +kernel) rfl ⟨by decide, Nat.le_of_ble_eq_true rfl⟩ ⟨Nat.le_of_ble_eq_true rfl, Nat.le_of_ble_eq_true rfl⟩ (Nat.le_of_ble_eq_true rfl) dX1_write_12 rfl (xk_r ?_) (fun _ _ _ h => h.elim)
  refine xr_ireturn rfl rfl dX1_write_15 ?_
  rw [hpo]
  exact ⟨rfl, t, b1, hob5, hs2, ht, hb1, hgb, (hm2.fr.to (S' := fun y => y = x) (fun y hy (q9 : w.2 ≤ y) => by omega)).tr (Fr.put1 _) (fun _ _ q9 => q9)⟩
