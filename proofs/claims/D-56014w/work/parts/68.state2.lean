/-! 68.state2.lean.txt (written by tools/walker.py)  -/
set_option maxRecDepth 100000
theorem gA_02 {g : GG} (hG : Base g) : gA g 0 ≠ gA g 2 := fun e => by
  obtain ⟨-, k0, hk0, c0, h0⟩ := (hG.1.2 0 _ rfl).1 0 (fun _ => .null)
  obtain ⟨-, k2, hk2, c2, h2⟩ := (hG.1.2 2 _ rfl).1 0 (fun _ => .null)
  have hk0 : (gU g).vm.classes[gA g 0]? = some k0 := hk0
  have hk2 : (gU g).vm.classes[gA g 2]? = some k2 := hk2
  rw [e, hk2] at hk0
  injection hk0 with hk
  rw [hk, h0] at h2
  injection h2 with _ h2
  cases h2
theorem PK.nba {g : GG} {w : WW} {n0 : Nat → Prop} {q : Nat} {L : Int → Nat} {P : Int → Int} (h : PK g w n0 q L P) {b n : Nat} {f : Int → Int} (ho : BA g w b n f) : ¬ PA g q L P b := by
  have ha : ∀ {l arr : Nat} {n : Int} {f : Int → Option Nat}, AL g w l arr n f → b ≠ l ∧ b ≠ arr := fun hl => by
    obtain ⟨mm, cap, x, g1, g2, -⟩ := hl
    exact ⟨ho.ob_ne g1, ho.ra_ne g2⟩
  rintro (rfl | ⟨i, h0, h1, rfl⟩ | ⟨i, h0, h1, rfl, -⟩ | ⟨i, h0, h1, rfl⟩ | ⟨i, h0, h1, rfl⟩ | ⟨i, h0, h1, rfl⟩)
  · exact (ho.ob_ne h.hq) rfl
  · rcases (show i = 0 ∨ i = 1 ∨ i = 2 ∨ i = 3 ∨ i = 4 ∨ i = 5 by omega) with rfl | rfl | rfl | rfl | rfl | rfl
    · exact (ho.ob_ne h.r0) rfl
    · exact (ho.ob_ne h.r1) rfl
    · exact (ho.ob_ne h.r2) rfl
    · exact (ha h.l0).1 rfl
    · exact (ha h.l1).1 rfl
    · exact (ha h.l2).1 rfl
  · rcases (show i = 6 ∨ i = 7 ∨ i = 8 by omega) with rfl | rfl | rfl
    · exact (ha h.l0).2 rfl
    · exact (ha h.l1).2 rfl
    · exact (ha h.l2).2 rfl
  · exact (ho.ob_ne (h.be i h0 h1)) rfl
  · exact (ho.ob_ne (h.fo i h0 h1)) rfl
  · exact (ho.ob_ne (h.te i h0 h1)) rfl
section
variable {g : GG} {w w' : WW} {x hl harr ib bb os ob n : Nat} {f : Int → Int} {S : Nat → Prop}
theorem FP.inp {q : Nat} {L : Int → Nat} {P : Int → Int} (h : FP g w hl harr q L P) (hf : Fr S w w') (hS : ∀ b, S b → b = ib ∨ b = bb) (hI : SB g w ib bb n f) (hge : gb g ≤ ib) : FP g w' hl harr q L P := by
  obtain ⟨n0, hK⟩ := h.1
  obtain ⟨c, m9, y, k1, k2, k3, -⟩ := hI
  refine h.fr hf (fun b hb => ?_) (fun b hb => ?_)
  · rcases hS b hb with rfl | rfl
    · exact hge
    · exact k3
  · rcases hS b hb with rfl | rfl
    · exact hK.na k1 (by decide)
    · exact hK.nba k2
theorem HPs.inp {H : List (Int → Int)} {fH : Int → Option Nat} (h : HPs g w hl harr H fH) (hf : Fr S w w') (hS : ∀ b, S b → b = ib ∨ b = bb) (hI : SB g w ib bb n f) (hge : gb g ≤ ib) : HPs g w' hl harr H fH := by
  have hI' := hI
  obtain ⟨c, m9, y, k1, k2, k3, -⟩ := hI
  obtain ⟨h1, h2⟩ := h
  refine ⟨?_, fun i Ph hi => ?_⟩
  · obtain ⟨mm, cap, z, g1, g2, g3⟩ := h1
    refine ⟨mm, cap, z, g1.fr hf (fun q => ?_), g2.fr hf (fun q => ?_), g3⟩
    · rcases hS _ q with q | q
      · exact g1.apart k1 (by decide) q
      · exact k2.ob_ne g1 q.symm
    · rcases hS _ q with q | q
      · exact g2.ob_ne k1 q
      · exact k2.ra_ne g2 q.symm
  · obtain ⟨qh, Lh, h3, h4⟩ := h2 i Ph hi
    exact ⟨qh, Lh, h3, h4.inp hf hS hI' hge⟩
theorem inp_ob (hI : SB g w ib bb n f) (hS : ∀ b, S b → b = ib ∨ b = bb) {b k : Nat} {fs : List Value} (ho : Ob w b k fs) (hk : k ≠ 15) : ¬ S b := fun q => by
  obtain ⟨c, m9, y, k1, k2, k3, -⟩ := hI
  rcases hS _ q with q | q
  · exact ho.apart k1 hk q
  · exact k2.ob_ne ho q.symm
theorem BO.inp {S0 : Option (Int → Int)} {I O : Tx} {se : Option Int} {rj : Option (Int × Int × Int)} {oS oE oR : Option Nat} {bb' n' : Nat} {f' : Int → Int} (h : BO g w hl harr ib bb os ob S0 I O se rj oS oE oR) (hf : Fr S w w') (hS : ∀ b, S b → b = ib ∨ b = bb) (hge : gb g ≤ ib) (hI : SB g w' ib bb' n' f') (hbb : bb' = bb ∨ w.2 ≤ bb') : BO g w' hl harr ib bb' os ob S0 (n', f') O se rj oS oE oR := by
  obtain ⟨h1, h2, ⟨u1, u2, k4, k5, k6⟩, h4, h5, h6⟩ := h
  have hob := k5.lt
  refine ⟨?_, hI, ⟨u1, u2, k4.fr hf (inp_ob h2 hS k4 (by decide)), k5.fr hf (fun q => ?_), k6⟩, by omega, h5.fr hf (fun b fs hb => inp_ob h2 hS hb (by decide)), h6.fr hf (fun b fs hb => inp_ob h2 hS hb (by decide))⟩
  · rcases h1 with h1 | ⟨e, a, l, q1, q2, q3⟩
    · exact Or.inl h1
    · exact Or.inr ⟨e, a, l, q1, q2, q3.inp hf hS h2 hge⟩
  · obtain ⟨c, m9, y, k1, k2, k3, -⟩ := h2
    rcases hS _ q with q | q
    · exact k5.ob_ne k1 q
    · exact h4 q
theorem FX.inp (hG : Base g) (hf : Fr S w w') (hS : ∀ b, S b → b = ib ∨ b = bb) (hI : SB g w ib bb n f) : FX g w w' := FX.fr hf (fun b e q he ho => by
  obtain ⟨c, m9, y, k1, k2, k3, -⟩ := hI
  rcases hS b q with rfl | rfl
  · exact out_ob k1 he ho (by decide)
  · obtain ⟨z, h1, -⟩ := k2
    have h := h1.1.symm.trans he
    rcases ho with ⟨fs, rfl⟩ | ⟨n, h9, rfl⟩ | ⟨c, n, h9, rfl⟩ | ⟨c, n, h9, rfl⟩
    · injection h with h; injection h with h; cases h
    · injection h with h; injection h with h; injection h with h; injection h with h _
      exact gA_02 hG h.symm
    all_goals (injection h with h; injection h with h; injection h with h; injection h with _ h; injection h with _ h; cases h))
end
theorem k_Z_setRent {g : GG} {w : WW} {x : Nat} {P : Int → Int} {S : Option (Int → Int)} {H : List (Int → Int)} {I O : Tx} {se : Option Int} {rj : Option (Int × Int × Int)} {N : Int} {b v : Int} (hG : Base g) (hL : KL g) (hX : BR g w x P S H I O se rj) (hB : PB P N) (hN : N + 13000 ≤ 10000000) (hC : PCon P) (hrb : (-2147483648 ≤ b ∧ b < 2147483648)) (hrv : (-2147483648 ≤ v ∧ v < 2147483648)) : Ct g yX1_setRent (.code yX1_setRent cX1_setRent 5 (some .int)) 8 175 60 432 w [.ref x, .int (iI b), .int (iI v)] (fun r_ w1 => (0 ≤ b ∧ b < P 0) ∧ (1 ≤ v ∧ v ≤ 20) ∧ r_ = some (.int (iI (P (12 + 6 * b)))) ∧ BR g w1 x (oRent P b v) S (pushH H P) I O se rj ∧ FX g w w1) (fun E a9 w1 => (E = "java/lang/IndexOutOfBoundsException" ∧ ¬ (0 ≤ b ∧ b < P 0) ∧ w1 = w) ∨ (E = "java/lang/IllegalArgumentException" ∧ (0 ≤ b ∧ b < P 0) ∧ ¬ (1 ≤ v ∧ v ≤ 20) ∧ w1 = w)) := by
  refine Ct.of (lv := [some _, some _, some _, none, none]) hG (by decide +kernel) (Nat.le_of_ble_eq_true rfl) rfl ?_
  intro z hg hpo hxp hnm htab
  subst hg
  obtain ⟨q, hl, harr, ib, bb, os, ob, L, oS, oE, oR, fH, hx, hF, hH, h8, hO⟩ := hX
  obtain ⟨n0, hK⟩ := hF.1
  have hAl := hH.1.lt
  refine xr_ge hx rfl (fun hgx => ?_)
  obtain ⟨mm0, hol0⟩ := hH.1.ob
  refine xr_ge hol0 rfl (fun hgl => ?_)
  have hgb := hB.g
  have hc0 := hK.c0
  refine xr_aload_n dX1_setRent_0 rfl (by first | rfl | exact isRef_rf _) ?_
  refine xr_getfield (ci := 13) (T := TX1) (N := 7) (i := 0) hx rfl (by decide) in_X1 q267 (.inl rfl) dX1_setRent_1 (by rfl) ?_
  refine xr_getfieldN (ci := 0) (T := TX2) (N := 10) (i := 0) hK.hq rfl (by decide) in_X2 q188 (.inl rfl) dX1_setRent_4 (by rfl) ?_
  refine xr_iload_n dX1_setRent_7 rfl ?_
  refine xr_callV (n9 := 1) (rc' := 60) (rs' := 432) (k_Reg_has hG hK.r0 hK.l0 (by omega)) hK.r0 rfl q1192 q1193 q1194 q88 q1195 (by decide +kernel) rfl ⟨by decide, Nat.le_of_ble_eq_true rfl⟩ ⟨Nat.le_of_ble_eq_true rfl, Nat.le_of_ble_eq_true rfl⟩ (Nat.le_of_ble_eq_true rfl) dX1_setRent_8 rfl (xk_r ?_) (fun _ _ _ h => h.elim)
  refine xr_callS (n9 := 1) (rc' := 59) (rs' := 426) (k_requireIndex (b := decide (0 ≤ b ∧ b < P 0)) hG) q939 q940 q86 q941 (by decide +kernel) rfl ⟨by decide, Nat.le_of_ble_eq_true rfl⟩ ⟨Nat.le_of_ble_eq_true rfl, Nat.le_of_ble_eq_true rfl⟩ (Nat.le_of_ble_eq_true rfl) dX1_setRent_11 rfl (xk_req ?_) (xt_req ?_)
  rotate_left
  · skip
    intro q9 hq9
    have hq9 := of_decide_eq_false hq9
    exact xt_out (fun x hx => (htab x hx).elim) (by rw [hxp]; exact Or.inl ⟨rfl, hq9, rfl⟩)
  intro hb9
  have hc1 := of_decide_eq_true hb9
  refine xr_iload_n dX1_setRent_14 rfl ?_
  refine xr_callS (n9 := 1) (rc' := 59) (rs' := 426) (k_isRent hG (by omega)) q957 q958 q86 q959 (by decide +kernel) rfl ⟨by decide, Nat.le_of_ble_eq_true rfl⟩ ⟨Nat.le_of_ble_eq_true rfl, Nat.le_of_ble_eq_true rfl⟩ (Nat.le_of_ble_eq_true rfl) dX1_setRent_15 rfl (xk_r ?_) (fun _ _ _ h => h.elim)
  refine xr_callS (n9 := 1) (rc' := 58) (rs' := 420) (k_requireArgument (b := decide (1 ≤ v ∧ v ≤ 20)) hG) q960 q961 q86 q962 (by decide +kernel) rfl ⟨by decide, Nat.le_of_ble_eq_true rfl⟩ ⟨Nat.le_of_ble_eq_true rfl, Nat.le_of_ble_eq_true rfl⟩ (Nat.le_of_ble_eq_true rfl) dX1_setRent_18 rfl (xk_req ?_) (xt_req ?_)
  rotate_left
  · skip
    intro q9 hq9
    have hq9 := of_decide_eq_false hq9
    exact xt_out (fun x hx => (htab x hx).elim) (by rw [hxp]; exact Or.inr ⟨rfl, hc1, hq9, rfl⟩)
  intro hb9
  have hc2 := of_decide_eq_true hb9
  refine xr_aload_n dX1_setRent_21 rfl (by first | rfl | exact isRef_rf _) ?_
  refine xr_getfield (ci := 13) (T := TX1) (N := 7) (i := 0) hx rfl (by decide) in_X1 q267 (.inl rfl) dX1_setRent_22 (by rfl) ?_
  refine xr_callV (n9 := 0) (rc' := 1) (rs' := 10) (k_P_copy hG hL hK hC) hK.hq rfl q901 q727 q728 q87 q729 (by decide +kernel) rfl ⟨by decide, Nat.le_of_ble_eq_true rfl⟩ ⟨Nat.le_of_ble_eq_true rfl, Nat.le_of_ble_eq_true rfl⟩ (Nat.le_of_ble_eq_true rfl) dX1_setRent_25 rfl (fun r w25 hw => ?_) (fun _ _ _ h => h.elim)
  obtain ⟨q2, L2, rfl, hK2, hg2, hm4⟩ := hw
  show XJ _ _ _ _ _ _ _ _ _ _ _ _ [.ref q2]
  refine xr_astore_n (lv' := [some _, some _, some _, some _, none]) dX1_setRent_28 (by decide) rfl (by first | rfl | exact isRef_rf _) rfl ?_
  refine xr_aload_n dX1_setRent_29 rfl (by first | rfl | exact isRef_rf _) ?_
  refine xr_iload_n dX1_setRent_30 rfl ?_
  refine xr_iload_n dX1_setRent_31 rfl ?_
  refine xr_callV (n9 := 2) (rc' := 1) (rs' := 10) (k_P_setRent hG hK2 hc1) hK2.hq rfl q1197 q1198 q1199 q87 q1200 (by decide +kernel) rfl ⟨by decide, Nat.le_of_ble_eq_true rfl⟩ ⟨Nat.le_of_ble_eq_true rfl, Nat.le_of_ble_eq_true rfl⟩ (Nat.le_of_ble_eq_true rfl) dX1_setRent_32 rfl (fun r w32 hw => ?_) (fun _ _ _ h => h.elim)
  obtain ⟨rfl, hK10, hf10⟩ := hw
  show XJ _ _ _ _ _ _ _ _ _ _ _ _ [.int (iI (P (12 + 6 * b)))]
  have hm10 : Mo w.2 w w32 := hm4.tr (hf10.mo (n := w.2) (fun y _ (q9 : q2 ≤ y) => by omega)) (Nat.le_refl _)
  have hF10 : FP (zg z) w32 hl harr q2 L2 (oRent P b v) := ⟨⟨_, hK10⟩, fun h9 => by have h8 : q2 ≤ hl := hK10.lo _ h9; omega, fun h9 => by have h8 : q2 ≤ harr := hK10.lo _ h9; omega⟩
  have hx10 := hx.ext hm10
  refine xr_istore (lv' := [some _, some _, some _, some _, some _]) dX1_setRent_35 (by decide) rfl rfl ?_
  refine xr_aload_n dX1_setRent_37 rfl (by first | rfl | exact isRef_rf _) ?_
  refine xr_aload_n dX1_setRent_38 rfl (by first | rfl | exact isRef_rf _) ?_
  refine xr_iload dX1_setRent_39 rfl ?_
  refine xr_callV (n9 := 2) (rc' := 0) (rs' := 0) (k_X_commit hG hL hx10 (hF.ext hm10) (hH.ext hm10) h8 hF10) hx10 rfl q1155 q1157 qs17 q86 q1158 (by decide +kernel) rfl ⟨by decide, Nat.le_of_ble_eq_true rfl⟩ ⟨Nat.le_of_ble_eq_true rfl, Nat.le_of_ble_eq_true rfl⟩ (Nat.le_of_ble_eq_true rfl) dX1_setRent_41 rfl (fun r w41 hw => ?_) (fun _ _ _ h => h.elim)
  obtain ⟨rfl, arr9, f9, h1, h2, h3, h4, h5⟩ := hw
  show XJ _ _ _ _ _ _ _ _ _ _ _ _ [.int (iI (P (12 + 6 * b)))]
  refine xr_ireturn rfl rfl dX1_setRent_44 ?_
  rw [hpo]
  exact ⟨hc1, hc2, rfl, ⟨q2, hl, arr9, ib, bb, os, ob, L2, oS, oE, oR, f9, h1, h4, h2, pushH_len h8, (hO.ext hm10).xs2 h5 (fun b hb => hb) hx10 (hH.ext hm10).1 ⟨hgx, hgl⟩ h3⟩, (FX.mo hm10).tr (FX.xs h5 (fun b hb => hb) hx10 (hH.ext hm10).1)⟩
theorem k_Z_setLoudness {g : GG} {w : WW} {x : Nat} {P : Int → Int} {S : Option (Int → Int)} {H : List (Int → Int)} {I O : Tx} {se : Option Int} {rj : Option (Int × Int × Int)} {N : Int} {f v : Int} (hG : Base g) (hL : KL g) (hX : BR g w x P S H I O se rj) (hB : PB P N) (hN : N + 13000 ≤ 10000000) (hC : PCon P) (hrf : (-2147483648 ≤ f ∧ f < 2147483648)) (hrv : (-2147483648 ≤ v ∧ v < 2147483648)) : Ct g yX1_setLoudness (.code yX1_setLoudness cX1_setLoudness 5 (some .int)) 8 175 60 432 w [.ref x, .int (iI f), .int (iI v)] (fun r_ w1 => (0 ≤ f ∧ f < P 1) ∧ (1 ≤ v ∧ v ≤ 9) ∧ r_ = some (.int (iI (P (72 + 4 * f)))) ∧ BR g w1 x (oLoud P f v) S (pushH H P) I O se rj ∧ FX g w w1) (fun E a9 w1 => (E = "java/lang/IndexOutOfBoundsException" ∧ ¬ (0 ≤ f ∧ f < P 1) ∧ w1 = w) ∨ (E = "java/lang/IllegalArgumentException" ∧ (0 ≤ f ∧ f < P 1) ∧ ¬ (1 ≤ v ∧ v ≤ 9) ∧ w1 = w)) := by
  refine Ct.of (lv := [some _, some _, some _, none, none]) hG (by decide +kernel) (Nat.le_of_ble_eq_true rfl) rfl ?_
  intro z hg hpo hxp hnm htab
  subst hg
  obtain ⟨q, hl, harr, ib, bb, os, ob, L, oS, oE, oR, fH, hx, hF, hH, h8, hO⟩ := hX
  obtain ⟨n0, hK⟩ := hF.1
  have hAl := hH.1.lt
  refine xr_ge hx rfl (fun hgx => ?_)
  obtain ⟨mm0, hol0⟩ := hH.1.ob
  refine xr_ge hol0 rfl (fun hgl => ?_)
  have hgb := hB.g
  have hc0 := hK.c0
  refine xr_aload_n dX1_setLoudness_0 rfl (by first | rfl | exact isRef_rf _) ?_
  refine xr_getfield (ci := 13) (T := TX1) (N := 7) (i := 0) hx rfl (by decide) in_X1 q267 (.inl rfl) dX1_setLoudness_1 (by rfl) ?_
  refine xr_getfieldN (ci := 0) (T := TX2) (N := 10) (i := 1) hK.hq rfl (by decide) in_X2 q191 (.inl rfl) dX1_setLoudness_4 (by rfl) ?_
  refine xr_iload_n dX1_setLoudness_7 rfl ?_
  refine xr_callV (n9 := 1) (rc' := 60) (rs' := 432) (k_Reg_has hG hK.r1 hK.l1 (by omega)) hK.r1 rfl q1192 q1193 q1194 q88 q1195 (by decide +kernel) rfl ⟨by decide, Nat.le_of_ble_eq_true rfl⟩ ⟨Nat.le_of_ble_eq_true rfl, Nat.le_of_ble_eq_true rfl⟩ (Nat.le_of_ble_eq_true rfl) dX1_setLoudness_8 rfl (xk_r ?_) (fun _ _ _ h => h.elim)
  refine xr_callS (n9 := 1) (rc' := 59) (rs' := 426) (k_requireIndex (b := decide (0 ≤ f ∧ f < P 1)) hG) q939 q940 q86 q941 (by decide +kernel) rfl ⟨by decide, Nat.le_of_ble_eq_true rfl⟩ ⟨Nat.le_of_ble_eq_true rfl, Nat.le_of_ble_eq_true rfl⟩ (Nat.le_of_ble_eq_true rfl) dX1_setLoudness_11 rfl (xk_req ?_) (xt_req ?_)
  rotate_left
  · skip
    intro q9 hq9
    have hq9 := of_decide_eq_false hq9
    exact xt_out (fun x hx => (htab x hx).elim) (by rw [hxp]; exact Or.inl ⟨rfl, hq9, rfl⟩)
  intro hb9
  have hc1 := of_decide_eq_true hb9
  refine xr_iload_n dX1_setLoudness_14 rfl ?_
  refine xr_callS (n9 := 1) (rc' := 59) (rs' := 426) (k_isLoudness hG (by omega)) q1208 q1209 q86 q1210 (by decide +kernel) rfl ⟨by decide, Nat.le_of_ble_eq_true rfl⟩ ⟨Nat.le_of_ble_eq_true rfl, Nat.le_of_ble_eq_true rfl⟩ (Nat.le_of_ble_eq_true rfl) dX1_setLoudness_15 rfl (xk_r ?_) (fun _ _ _ h => h.elim)
  refine xr_callS (n9 := 1) (rc' := 58) (rs' := 420) (k_requireArgument (b := decide (1 ≤ v ∧ v ≤ 9)) hG) q960 q961 q86 q962 (by decide +kernel) rfl ⟨by decide, Nat.le_of_ble_eq_true rfl⟩ ⟨Nat.le_of_ble_eq_true rfl, Nat.le_of_ble_eq_true rfl⟩ (Nat.le_of_ble_eq_true rfl) dX1_setLoudness_18 rfl (xk_req ?_) (xt_req ?_)
  rotate_left
  · skip
    intro q9 hq9
    have hq9 := of_decide_eq_false hq9
    exact xt_out (fun x hx => (htab x hx).elim) (by rw [hxp]; exact Or.inr ⟨rfl, hc1, hq9, rfl⟩)
  intro hb9
  have hc2 := of_decide_eq_true hb9
  refine xr_aload_n dX1_setLoudness_21 rfl (by first | rfl | exact isRef_rf _) ?_
  refine xr_getfield (ci := 13) (T := TX1) (N := 7) (i := 0) hx rfl (by decide) in_X1 q267 (.inl rfl) dX1_setLoudness_22 (by rfl) ?_
  refine xr_callV (n9 := 0) (rc' := 1) (rs' := 10) (k_P_copy hG hL hK hC) hK.hq rfl q901 q727 q728 q87 q729 (by decide +kernel) rfl ⟨by decide, Nat.le_of_ble_eq_true rfl⟩ ⟨Nat.le_of_ble_eq_true rfl, Nat.le_of_ble_eq_true rfl⟩ (Nat.le_of_ble_eq_true rfl) dX1_setLoudness_25 rfl (fun r w25 hw => ?_) (fun _ _ _ h => h.elim)
  obtain ⟨q2, L2, rfl, hK2, hg2, hm4⟩ := hw
  show XJ _ _ _ _ _ _ _ _ _ _ _ _ [.ref q2]
  refine xr_astore_n (lv' := [some _, some _, some _, some _, none]) dX1_setLoudness_28 (by decide) rfl (by first | rfl | exact isRef_rf _) rfl ?_
  refine xr_aload_n dX1_setLoudness_29 rfl (by first | rfl | exact isRef_rf _) ?_
  refine xr_iload_n dX1_setLoudness_30 rfl ?_
  refine xr_iload_n dX1_setLoudness_31 rfl ?_
  refine xr_callV (n9 := 2) (rc' := 1) (rs' := 10) (k_P_setLoudness hG hK2 hc1) hK2.hq rfl q1218 q1219 q1220 q87 q1221 (by decide +kernel) rfl ⟨by decide, Nat.le_of_ble_eq_true rfl⟩ ⟨Nat.le_of_ble_eq_true rfl, Nat.le_of_ble_eq_true rfl⟩ (Nat.le_of_ble_eq_true rfl) dX1_setLoudness_32 rfl (fun r w32 hw => ?_) (fun _ _ _ h => h.elim)
  obtain ⟨rfl, hK10, hf10⟩ := hw
  show XJ _ _ _ _ _ _ _ _ _ _ _ _ [.int (iI (P (72 + 4 * f)))]
  have hm10 : Mo w.2 w w32 := hm4.tr (hf10.mo (n := w.2) (fun y _ (q9 : q2 ≤ y) => by omega)) (Nat.le_refl _)
  have hF10 : FP (zg z) w32 hl harr q2 L2 (oLoud P f v) := ⟨⟨_, hK10⟩, fun h9 => by have h8 : q2 ≤ hl := hK10.lo _ h9; omega, fun h9 => by have h8 : q2 ≤ harr := hK10.lo _ h9; omega⟩
  have hx10 := hx.ext hm10
  refine xr_istore (lv' := [some _, some _, some _, some _, some _]) dX1_setLoudness_35 (by decide) rfl rfl ?_
  refine xr_aload_n dX1_setLoudness_37 rfl (by first | rfl | exact isRef_rf _) ?_
  refine xr_aload_n dX1_setLoudness_38 rfl (by first | rfl | exact isRef_rf _) ?_
  refine xr_iload dX1_setLoudness_39 rfl ?_
  refine xr_callV (n9 := 2) (rc' := 0) (rs' := 0) (k_X_commit hG hL hx10 (hF.ext hm10) (hH.ext hm10) h8 hF10) hx10 rfl q1155 q1157 qs17 q86 q1158 (by decide +kernel) rfl ⟨by decide, Nat.le_of_ble_eq_true rfl⟩ ⟨Nat.le_of_ble_eq_true rfl, Nat.le_of_ble_eq_true rfl⟩ (Nat.le_of_ble_eq_true rfl) dX1_setLoudness_41 rfl (fun r w41 hw => ?_) (fun _ _ _ h => h.elim)
  obtain ⟨rfl, arr9, f9, h1, h2, h3, h4, h5⟩ := hw
  show XJ _ _ _ _ _ _ _ _ _ _ _ _ [.int (iI (P (72 + 4 * f)))]
  refine xr_ireturn rfl rfl dX1_setLoudness_44 ?_
  rw [hpo]
  exact ⟨hc1, hc2, rfl, ⟨q2, hl, arr9, ib, bb, os, ob, L2, oS, oE, oR, f9, h1, h4, h2, pushH_len h8, (hO.ext hm10).xs2 h5 (fun b hb => hb) hx10 (hH.ext hm10).1 ⟨hgx, hgl⟩ h3⟩, (FX.mo hm10).tr (FX.xs h5 (fun b hb => hb) hx10 (hH.ext hm10).1)⟩
theorem k_Z_undo {g : GG} {w : WW} {x : Nat} {P : Int → Int} {S : Option (Int → Int)} {H : List (Int → Int)} {I O : Tx} {se : Option Int} {rj : Option (Int × Int × Int)} {N : Int} (hG : Base g) (hX : BR g w x P S H I O se rj) (hB : PB P N) : Ct g yX1_undo (.code yX1_undo cX1_undo 1 (some .int)) 7 101 1 6 w [.ref x] (fun r_ w1 => ∃ (H9 : List (Int → Int)) (Ph : Int → Int), H = H9 ++ [Ph] ∧ r_ = some (.int (iI H9.length)) ∧ BR g w1 x Ph S H9 I O se rj ∧ FX g w w1) (fun E a9 w1 => E = "java/lang/IllegalStateException" ∧ H = [] ∧ w1 = w) := by
  refine Ct.of (lv := [some _]) hG (by decide +kernel) (Nat.le_of_ble_eq_true rfl) rfl ?_
  intro z hg hpo hxp hnm htab
  subst hg
  obtain ⟨q, hl, harr, ib, bb, os, ob, L, oS, oE, oR, fH, hx, hF, hH, h8, hO⟩ := hX
  obtain ⟨n0, hK⟩ := hF.1
  have hAl := hH.1.lt
  refine xr_ge hx rfl (fun hgx => ?_)
  obtain ⟨mm0, hol0⟩ := hH.1.ob
  refine xr_ge hol0 rfl (fun hgl => ?_)
  have hgb := hB.g
  have hc0 := hK.c0
  have hxl : x ≠ hl := hx.apart hol0 (by decide)
  have hxa : x ≠ harr := by
    obtain ⟨mq, cq, xq, -, g2, -⟩ := hH.1
    exact Ne.symm (g2.ob_ne hx)
  refine xr_aload_n dX1_undo_0 rfl (by first | rfl | exact isRef_rf _) ?_
  refine xr_getfield (ci := 13) (T := TX1) (N := 7) (i := 2) hx rfl (by decide) in_X1 q269 (.inl rfl) dX1_undo_1 (by rfl) ?_
  refine xr_callV (n9 := 0) (rc' := 1) (rs' := 6) (k_AL_size hG hH.1) hol0 rfl q1159 q298 q299 q91 q300 (by decide +kernel) rfl ⟨by decide, Nat.le_of_ble_eq_true rfl⟩ ⟨Nat.le_of_ble_eq_true rfl, Nat.le_of_ble_eq_true rfl⟩ (Nat.le_of_ble_eq_true rfl) dX1_undo_4 rfl (xk_r ?_) (fun _ _ _ h => h.elim)
  refine xr_if_le (tgt := 14) dX1_undo_7 (by decide) (by omega) (fun c7 => ?_) (fun c7 => ?_)
  · skip
    refine xr_iconst dX1_undo_14 ?_
    refine xr_callS (n9 := 1) (rc' := 0) (rs' := 0) (k_requireState (b := false) hG) q1871 q1872 q86 q1873 (by decide +kernel) rfl ⟨by decide, Nat.le_of_ble_eq_true rfl⟩ ⟨Nat.le_of_ble_eq_true rfl, Nat.le_of_ble_eq_true rfl⟩ (Nat.le_of_ble_eq_true rfl) dX1_undo_15 rfl (xk_req (fun h9 => nomatch h9)) (xt_req ?_)
    intro q9 _
    exact xt_out (fun x hx => (htab x hx).elim) (by rw [hxp]; exact ⟨rfl, List.length_eq_zero_iff.mp (by omega), rfl⟩)
  · skip
    refine xr_iconst dX1_undo_10 ?_
    refine xr_goto (tgt := 15) dX1_undo_11 (by decide) ?_
    refine xr_callS (n9 := 1) (rc' := 0) (rs' := 0) (k_requireState (b := true) hG) q1871 q1872 q86 q1873 (by decide +kernel) rfl ⟨by decide, Nat.le_of_ble_eq_true rfl⟩ ⟨Nat.le_of_ble_eq_true rfl, Nat.le_of_ble_eq_true rfl⟩ (Nat.le_of_ble_eq_true rfl) dX1_undo_15 rfl (xk_req (fun _ => ?_)) (xt_req (fun _ h9 => nomatch h9))
    obtain ⟨H9, Ph, hHe⟩ : ∃ (H9 : List (Int → Int)) (Ph : Int → Int), H = H9 ++ [Ph] := by
      have hne : H ≠ [] := fun q9 => by rw [q9] at c7; simp at c7
      exact ⟨H.dropLast, H.getLast hne, (List.dropLast_concat_getLast hne).symm⟩
    have hlen : H.length = H9.length + 1 := by rw [hHe, List.length_append]; rfl
    obtain ⟨qh, Lh, hqh, hFh⟩ := hH.2 H9.length Ph (by rw [hHe, List.getElem?_append_right (Nat.le_refl _), Nat.sub_self]; rfl)
    refine xr_aload_n dX1_undo_18 rfl (by first | rfl | exact isRef_rf _) ?_
    refine xr_aload_n dX1_undo_19 rfl (by first | rfl | exact isRef_rf _) ?_
    refine xr_getfield (ci := 13) (T := TX1) (N := 7) (i := 2) hx rfl (by decide) in_X1 q269 (.inl rfl) dX1_undo_20 (by rfl) ?_
    refine xr_aload_n dX1_undo_23 rfl (by first | rfl | exact isRef_rf _) ?_
    refine xr_getfield (ci := 13) (T := TX1) (N := 7) (i := 2) hx rfl (by decide) in_X1 q269 (.inl rfl) dX1_undo_24 (by rfl) ?_
    refine xr_callV (n9 := 0) (rc' := 0) (rs' := 0) (k_AL_size hG hH.1) hol0 rfl q1159 q298 q299 q91 q300 (by decide +kernel) rfl ⟨by decide, Nat.le_of_ble_eq_true rfl⟩ ⟨Nat.le_of_ble_eq_true rfl, Nat.le_of_ble_eq_true rfl⟩ (Nat.le_of_ble_eq_true rfl) dX1_undo_27 rfl (xk_r ?_) (fun _ _ _ h => h.elim)
    rw [show (H.length : Int) = H9.length + 1 by omega]
    refine xr_iconst dX1_undo_30 ?_
    refine xr_isub dX1_undo_31 ?_
    rw [show (H9.length : Int) + 1 - 1 = H9.length by omega]
    refine xr_callV (n9 := 1) (rc' := 0) (rs' := 0) (k_AL_remove hG hH.1 ⟨by omega, by omega⟩ hH.pks hqh) hol0 rfl q1160 q1161 q1162 q91 q1163 (by decide +kernel) rfl ⟨by decide, Nat.le_of_ble_eq_true rfl⟩ ⟨Nat.le_of_ble_eq_true rfl, Nat.le_of_ble_eq_true rfl⟩ (Nat.le_of_ble_eq_true rfl) dX1_undo_32 rfl (fun r w32 hw => ?_) (fun _ _ _ h => h.elim)
    obtain ⟨rfl, hA32, hf32⟩ := hw
    show XJ _ _ _ _ _ _ _ _ _ _ _ _ [.ref qh, _]
    have hx32 : Ob w32 x 13 [.ref q, va_rf oS, .ref hl, .ref ib, .ref os, va_rf oE, va_rf oR] := hx.fr hf32 (fun q9 => by rcases q9 with q9 | ⟨q9, -⟩; exact hxl q9; exact hxa q9)
    have hFh32 := hFh.xs (x := x) hf32 (fun y hy => by rcases hy with h9 | ⟨h9, h8⟩; exact Or.inr (Or.inl h9); exact Or.inr (Or.inr ⟨h9, h8⟩)) hx (by decide) ⟨hgx, hgl⟩
    have hO32 := hO.xs (x := x) hf32 (fun y hy => by rcases hy with h9 | ⟨h9, h8⟩; exact Or.inr (Or.inl h9); exact Or.inr (Or.inr ⟨h9, h8⟩)) hx hH.1 ⟨hgx, hgl⟩
    have hA32 : AL (zg z) w32 hl harr H9.length (rmI fH H9.length) := by rw [show (H9.length : Int) = H.length - 1 by omega] at *; exact hA32
    refine xr_castS hFh32.ob rfl q141 dX1_undo_35 ?_
    refine xr_putfield (ci := 13) (T := TX1) (N := 7) (i := 0) (fs' := [_, _, _, _, _, _, _]) hx32 rfl (by decide) in_X1 tyX1 tyX1_ok nmX1 q267 (.inl rfl) rfl dX1_undo_38 (by first | rfl | exact nar_bI _ | exact nar_rf _) (by first | rfl | exact fit_bI _ | exact fit_rf _ _) (by simp) (by rfl) (.inl rfl) (fun hob38 => ?_)
    have hfx : Fr (fun b => b = x) w32 (wput w32 x (.inl (.inr (13, [.ref qh, va_rf oS, .ref hl, .ref ib, .ref os, va_rf oE, va_rf oR])))) := Fr.put1 _
    have hH32 : HPs (zg z) w32 hl harr H9 (rmI fH H9.length) := by
      refine ⟨hA32, fun i Pi hi => ?_⟩
      have hil := (List.getElem?_eq_some_iff.mp hi).1
      obtain ⟨q1, L1, h2, h3⟩ := hH.2 i Pi (by rw [hHe, List.getElem?_append_left hil]; exact hi)
      exact ⟨q1, L1, by unfold rmI; rw [if_pos (by omega)]; exact h2, h3.xs (x := x) hf32 (fun y hy => by rcases hy with h9 | ⟨h9, h8⟩; exact Or.inr (Or.inl h9); exact Or.inr (Or.inr ⟨h9, h8⟩)) hx (by decide) ⟨hgx, hgl⟩⟩
    have hH38 := hH32.fx hfx hx32 (by decide) ⟨hgx, hgl⟩
    obtain ⟨mm8, hol8⟩ := hH38.1.ob
    refine xr_aload_n dX1_undo_41 rfl (by first | rfl | exact isRef_rf _) ?_
    refine xr_getfield (ci := 13) (T := TX1) (N := 7) (i := 2) hob38 rfl (by decide) in_X1 q269 (.inl rfl) dX1_undo_42 (by rfl) ?_
    refine xr_callV (n9 := 0) (rc' := 0) (rs' := 0) (k_AL_size hG hH38.1) hol8 rfl q1159 q298 q299 q91 q300 (by decide +kernel) rfl ⟨by decide, Nat.le_of_ble_eq_true rfl⟩ ⟨Nat.le_of_ble_eq_true rfl, Nat.le_of_ble_eq_true rfl⟩ (Nat.le_of_ble_eq_true rfl) dX1_undo_45 rfl (xk_r ?_) (fun _ _ _ h => h.elim)
    refine xr_ireturn rfl rfl dX1_undo_48 ?_
    rw [hpo]
    exact ⟨H9, Ph, hHe, rfl, ⟨qh, hl, harr, ib, bb, os, ob, Lh, oS, oE, oR, _, hob38, hFh32.xs (x := x) hfx (fun b hb => Or.inl hb) hx32 (by decide) ⟨hgx, hgl⟩, hH38, by omega, hO32.xs (x := x) hfx (fun b hb => Or.inl hb) hx32 hA32 ⟨hgx, hgl⟩⟩, (FX.xs (x := x) hf32 (fun y hy => by rcases hy with h9 | ⟨h9, h8⟩; exact Or.inr (Or.inl h9); exact Or.inr (Or.inr ⟨h9, h8⟩)) hx hH.1).tr (FX.xs (x := x) hfx (fun b hb => Or.inl hb) hx32 hA32)⟩
theorem k_Z_saveSnapshot {g : GG} {w : WW} {x : Nat} {P : Int → Int} {S : Option (Int → Int)} {H : List (Int → Int)} {I O : Tx} {se : Option Int} {rj : Option (Int × Int × Int)} {N : Int} (hG : Base g) (hL : KL g) (hX : BR g w x P S H I O se rj) (hB : PB P N) (hC : PCon P) : Ct g yX1_saveSnapshot (.code yX1_saveSnapshot cX1_saveSnapshot 1 (some .int)) 8 175 57 410 w [.ref x] (fun r_ w1 => r_ = some (.int (iI (P 0))) ∧ BR g w1 x P (some P) H I O se rj ∧ FX g w w1) xF := by
  refine Ct.of (lv := [some _]) hG (by decide +kernel) (Nat.le_of_ble_eq_true rfl) rfl ?_
  intro z hg hpo hxp hnm htab
  subst hg
  obtain ⟨q, hl, harr, ib, bb, os, ob, L, oS, oE, oR, fH, hx, hF, hH, h8, hO⟩ := hX
  obtain ⟨n0, hK⟩ := hF.1
  have hAl := hH.1.lt
  refine xr_ge hx rfl (fun hgx => ?_)
  obtain ⟨mm0, hol0⟩ := hH.1.ob
  refine xr_ge hol0 rfl (fun hgl => ?_)
  have hgb := hB.g
  have hc0 := hK.c0
  refine xr_aload_n dX1_saveSnapshot_0 rfl (by first | rfl | exact isRef_rf _) ?_
  refine xr_aload_n dX1_saveSnapshot_1 rfl (by first | rfl | exact isRef_rf _) ?_
  refine xr_getfield (ci := 13) (T := TX1) (N := 7) (i := 0) hx rfl (by decide) in_X1 q267 (.inl rfl) dX1_saveSnapshot_2 (by rfl) ?_
  refine xr_callV (n9 := 0) (rc' := 0) (rs' := 0) (k_P_copy hG hL hK hC) hK.hq rfl q901 q727 q728 q87 q729 (by decide +kernel) rfl ⟨by decide, Nat.le_of_ble_eq_true rfl⟩ ⟨Nat.le_of_ble_eq_true rfl, Nat.le_of_ble_eq_true rfl⟩ (Nat.le_of_ble_eq_true rfl) dX1_saveSnapshot_5 rfl (fun r w5 hw => ?_) (fun _ _ _ h => h.elim)
  obtain ⟨q2, L2, rfl, hK2, hg2, hm4⟩ := hw
  show XJ _ _ _ _ _ _ _ _ _ _ _ _ [.ref q2, _]
  have hx4 := hx.ext hm4
  have hF2 : FP (zg z) w5 hl harr q2 L2 P := ⟨⟨_, hK2⟩, fun h9 => by have h8 : q2 ≤ hl := hK2.lo _ h9; omega, fun h9 => by have h8 : q2 ≤ harr := hK2.lo _ h9; omega⟩
  refine xr_putfield (ci := 13) (T := TX1) (N := 7) (i := 1) (fs' := [_, _, _, _, _, _, _]) hx4 rfl (by decide) in_X1 tyX1 tyX1_ok nmX1 q268 (.inl rfl) rfl dX1_saveSnapshot_8 (by first | rfl | exact nar_bI _ | exact nar_rf _) (by first | rfl | exact fit_bI _ | exact fit_rf _ _) (by simp) (by rfl) (.inl rfl) (fun hob8 => ?_)
  have hfx : Fr (fun b => b = x) w5 (wput w5 x (.inl (.inr (13, [.ref q, .ref q2, .ref hl, .ref ib, .ref os, va_rf oE, va_rf oR])))) := Fr.put1 _
  have hF28 := hF2.xs (x := x) hfx (fun b hb => Or.inl hb) hx4 (by decide) ⟨hgx, hgl⟩
  obtain ⟨n2, hK28⟩ := hF28.1
  refine xr_aload_n dX1_saveSnapshot_11 rfl (by first | rfl | exact isRef_rf _) ?_
  refine xr_getfield (ci := 13) (T := TX1) (N := 7) (i := 1) hob8 rfl (by decide) in_X1 q268 (.inl rfl) dX1_saveSnapshot_12 (by rfl) ?_
  refine xr_getfieldN (ci := 0) (T := TX2) (N := 10) (i := 0) hK28.hq rfl (by decide) in_X2 q188 (.inl rfl) dX1_saveSnapshot_15 (by rfl) ?_
  refine xr_callV (n9 := 0) (rc' := 0) (rs' := 0) (k_Reg_size hG hK28.r0 hK28.l0) hK28.r0 rfl q293 q294 q295 q88 q296 (by decide +kernel) rfl ⟨by decide, Nat.le_of_ble_eq_true rfl⟩ ⟨Nat.le_of_ble_eq_true rfl, Nat.le_of_ble_eq_true rfl⟩ (Nat.le_of_ble_eq_true rfl) dX1_saveSnapshot_18 rfl (xk_r ?_) (fun _ _ _ h => h.elim)
  refine xr_ireturn rfl rfl dX1_saveSnapshot_21 ?_
  rw [hpo]
  have hO8 := (hO.ext hm4).xs (x := x) hfx (fun b hb => Or.inl hb) hx4 (hH.ext hm4).1 ⟨hgx, hgl⟩
  exact ⟨rfl, ⟨q, hl, harr, ib, bb, os, ob, L, some q2, oE, oR, fH, hob8, (hF.ext hm4).xs (x := x) hfx (fun b hb => Or.inl hb) hx4 (by decide) ⟨hgx, hgl⟩, (hH.ext hm4).fx hfx hx4 (by decide) ⟨hgx, hgl⟩, h8, Or.inr ⟨P, q2, L2, rfl, rfl, hF28⟩, hO8.2⟩, (FX.mo hm4).tr (FX.xs (x := x) hfx (fun b hb => Or.inl hb) hx4 (hH.ext hm4).1)⟩
theorem k_Z_restoreSnapshot {g : GG} {w : WW} {x : Nat} {P : Int → Int} {S : Option (Int → Int)} {H : List (Int → Int)} {I O : Tx} {se : Option Int} {rj : Option (Int × Int × Int)} {N : Int} (hG : Base g) (hL : KL g) (hX : BR g w x P S H I O se rj) (hB : PB P N) (hCS : ∀ Ps, S = some Ps → PCon Ps) : Ct g yX1_restoreSnapshot (.code yX1_restoreSnapshot cX1_restoreSnapshot 1 (some .int)) 8 175 58 416 w [.ref x] (fun r_ w1 => ∃ Ps, S = some Ps ∧ r_ = some (.int (iI (Ps 0))) ∧ BR g w1 x Ps S [] I O se rj ∧ FX g w w1) (fun E a9 w1 => E = "java/lang/IllegalStateException" ∧ S = none ∧ w1 = w) := by
  refine Ct.of (lv := [some _]) hG (by decide +kernel) (Nat.le_of_ble_eq_true rfl) rfl ?_
  intro z hg hpo hxp hnm htab
  subst hg
  obtain ⟨q, hl, harr, ib, bb, os, ob, L, oS, oE, oR, fH, hx, hF, hH, h8, hO⟩ := hX
  have hAl := hH.1.lt
  refine xr_ge hx rfl (fun hgx => ?_)
  obtain ⟨mm0, hol0⟩ := hH.1.ob
  refine xr_ge hol0 rfl (fun hgl => ?_)
  have hgb := hB.g
  refine xr_aload_n dX1_restoreSnapshot_0 rfl (by first | rfl | exact isRef_rf _) ?_
  refine xr_getfield (ci := 13) (T := TX1) (N := 7) (i := 1) hx rfl (by decide) in_X1 q268 (.inl rfl) dX1_restoreSnapshot_1 (by rfl) ?_
  refine xr_ifnull (tgt := 11) dX1_restoreSnapshot_4 (by decide) (fun c4 => ?_) (fun c4 => ?_)
  · skip
    have hSn : S = none := by
      rcases hO.1 with h9 | ⟨e, a, l, h9, h7, -⟩
      · exact h9.1
      · rw [h7] at c4; cases c4
    refine xr_iconst dX1_restoreSnapshot_11 ?_
    refine xr_callS (n9 := 1) (rc' := 57) (rs' := 410) (k_requireState (b := false) hG) q1871 q1872 q86 q1873 (by decide +kernel) rfl ⟨by decide, Nat.le_of_ble_eq_true rfl⟩ ⟨Nat.le_of_ble_eq_true rfl, Nat.le_of_ble_eq_true rfl⟩ (Nat.le_of_ble_eq_true rfl) dX1_restoreSnapshot_12 rfl (xk_req (fun h9 => nomatch h9)) (xt_req ?_)
    intro q9 _
    exact xt_out (fun x hx => (htab x hx).elim) (by rw [hxp]; exact ⟨rfl, hSn, rfl⟩)
  · skip
    obtain ⟨Ps, qs, Ls, hS1, hS2, hFs⟩ : ∃ (Ps : Int → Int) (qs : Nat) (Ls : Int → Nat), S = some Ps ∧ oS = some qs ∧ FP (zg z) w hl harr qs Ls Ps := by
      rcases hO.1 with h9 | h9
      · exact absurd h9.2 c4
      · exact h9
    obtain ⟨n0, hK⟩ := hFs.1
    have hC := hCS Ps hS1
    refine xr_iconst dX1_restoreSnapshot_7 ?_
    refine xr_goto (tgt := 12) dX1_restoreSnapshot_8 (by decide) ?_
    refine xr_callS (n9 := 1) (rc' := 57) (rs' := 410) (k_requireState (b := true) hG) q1871 q1872 q86 q1873 (by decide +kernel) rfl ⟨by decide, Nat.le_of_ble_eq_true rfl⟩ ⟨Nat.le_of_ble_eq_true rfl, Nat.le_of_ble_eq_true rfl⟩ (Nat.le_of_ble_eq_true rfl) dX1_restoreSnapshot_12 rfl (xk_req (fun _ => ?_)) (xt_req (fun _ h9 => nomatch h9))
    refine xr_aload_n dX1_restoreSnapshot_15 rfl (by first | rfl | exact isRef_rf _) ?_
    refine xr_aload_n dX1_restoreSnapshot_16 rfl (by first | rfl | exact isRef_rf _) ?_
    refine xr_getfield (ci := 13) (T := TX1) (N := 7) (i := 1) hx rfl (by decide) in_X1 q268 (.inl rfl) dX1_restoreSnapshot_17 (by rfl) ?_
    rw [hS2]
    show XJ _ _ _ _ _ _ _ _ _ _ _ _ [.ref qs, _]
    refine xr_callV (n9 := 0) (rc' := 0) (rs' := 0) (k_P_copy hG hL hK hC) hK.hq rfl q901 q727 q728 q87 q729 (by decide +kernel) rfl ⟨by decide, Nat.le_of_ble_eq_true rfl⟩ ⟨Nat.le_of_ble_eq_true rfl, Nat.le_of_ble_eq_true rfl⟩ (Nat.le_of_ble_eq_true rfl) dX1_restoreSnapshot_20 rfl (fun r w20 hw => ?_) (fun _ _ _ h => h.elim)
    obtain ⟨q2, L2, rfl, hK2, hg2, hm4⟩ := hw
    show XJ _ _ _ _ _ _ _ _ _ _ _ _ [.ref q2, _]
    have hx4 := hx.ext hm4
    have hF2 : FP (zg z) w20 hl harr q2 L2 Ps := ⟨⟨_, hK2⟩, fun h9 => by have h8 : q2 ≤ hl := hK2.lo _ h9; omega, fun h9 => by have h8 : q2 ≤ harr := hK2.lo _ h9; omega⟩
    refine xr_putfield (ci := 13) (T := TX1) (N := 7) (i := 0) (fs' := [_, _, _, _, _, _, _]) hx4 rfl (by decide) in_X1 tyX1 tyX1_ok nmX1 q267 (.inl rfl) rfl dX1_restoreSnapshot_23 (by first | rfl | exact nar_bI _ | exact nar_rf _) (by first | rfl | exact fit_bI _ | exact fit_rf _ _) (by simp) (by rfl) (.inl rfl) (fun hob23 => ?_)
    have hfx : Fr (fun b => b = x) w20 (wput w20 x (.inl (.inr (13, [.ref q2, va_rf oS, .ref hl, .ref ib, .ref os, va_rf oE, va_rf oR])))) := Fr.put1 _
    have hF23 := hF2.xs (x := x) hfx (fun b hb => Or.inl hb) hx4 (by decide) ⟨hgx, hgl⟩
    have hH23 := (hH.ext hm4).fx hfx hx4 (by decide) ⟨hgx, hgl⟩
    have hO23 := (hO.ext hm4).xs (x := x) hfx (fun b hb => Or.inl hb) hx4 (hH.ext hm4).1 ⟨hgx, hgl⟩
    obtain ⟨mm8, hol8⟩ := hH23.1.ob
    have hxl : x ≠ hl := hx.apart hol0 (by decide)
    have hxa : x ≠ harr := by
      obtain ⟨mq, cq, xq, -, g2, -⟩ := hH.1
      exact Ne.symm (g2.ob_ne hx)
    refine xr_aload_n dX1_restoreSnapshot_26 rfl (by first | rfl | exact isRef_rf _) ?_
    refine xr_getfield (ci := 13) (T := TX1) (N := 7) (i := 2) hob23 rfl (by decide) in_X1 q269 (.inl rfl) dX1_restoreSnapshot_27 (by rfl) ?_
    refine xr_callV (n9 := 0) (rc' := 0) (rs' := 0) (k_AL_clear (fun _ => none) hG hH23.1) hol8 rfl q2181 q2182 q2183 q91 q2184 (by decide +kernel) rfl ⟨by decide, Nat.le_of_ble_eq_true rfl⟩ ⟨Nat.le_of_ble_eq_true rfl, Nat.le_of_ble_eq_true rfl⟩ (Nat.le_of_ble_eq_true rfl) dX1_restoreSnapshot_30 rfl (fun r w30 hw => ?_) (fun _ _ _ h => h.elim)
    obtain ⟨rfl, hA30, hf30⟩ := hw
    have hx30 := hob23.fr hf30 (fun q9 => by rcases q9 with q9 | ⟨q9, -⟩; exact hxl q9; exact hxa q9)
    have hF30 := hF23.xs (x := x) hf30 (fun y hy => by rcases hy with h9 | ⟨h9, h8⟩; exact Or.inr (Or.inl h9); exact Or.inr (Or.inr ⟨h9, h8⟩)) hob23 (by decide) ⟨hgx, hgl⟩
    have hO30 := hO23.xs (x := x) hf30 (fun y hy => by rcases hy with h9 | ⟨h9, h8⟩; exact Or.inr (Or.inl h9); exact Or.inr (Or.inr ⟨h9, h8⟩)) hob23 hH23.1 ⟨hgx, hgl⟩
    obtain ⟨n3, hK30⟩ := hF30.1
    refine xr_aload_n dX1_restoreSnapshot_33 rfl (by first | rfl | exact isRef_rf _) ?_
    refine xr_getfield (ci := 13) (T := TX1) (N := 7) (i := 0) hx30 rfl (by decide) in_X1 q267 (.inl rfl) dX1_restoreSnapshot_34 (by rfl) ?_
    refine xr_getfieldN (ci := 0) (T := TX2) (N := 10) (i := 0) hK30.hq rfl (by decide) in_X2 q188 (.inl rfl) dX1_restoreSnapshot_37 (by rfl) ?_
    refine xr_callV (n9 := 0) (rc' := 0) (rs' := 0) (k_Reg_size hG hK30.r0 hK30.l0) hK30.r0 rfl q293 q294 q295 q88 q296 (by decide +kernel) rfl ⟨by decide, Nat.le_of_ble_eq_true rfl⟩ ⟨Nat.le_of_ble_eq_true rfl, Nat.le_of_ble_eq_true rfl⟩ (Nat.le_of_ble_eq_true rfl) dX1_restoreSnapshot_40 rfl (xk_r ?_) (fun _ _ _ h => h.elim)
    refine xr_ireturn rfl rfl dX1_restoreSnapshot_43 ?_
    rw [hpo]
    exact ⟨Ps, hS1, rfl, ⟨q2, hl, harr, ib, bb, os, ob, L2, oS, oE, oR, _, hx30, hF30, ⟨hA30, fun i Ph hi => by simp at hi⟩, by simp, hO30⟩, ((FX.mo hm4).tr (FX.xs (x := x) hfx (fun b hb => Or.inl hb) hx4 (hH.ext hm4).1)).tr (FX.xs (x := x) hf30 (fun y hy => by rcases hy with h9 | ⟨h9, h8⟩; exact Or.inr (Or.inl h9); exact Or.inr (Or.inr ⟨h9, h8⟩)) hob23 hH23.1)⟩
