/-! 39.parkbill.lean.txt (written by tools/walker.py)  -/
set_option maxRecDepth 100000
theorem k_P_end {g : GG} {w : WW} {n0 q : Nat} {L : Int → Nat} {P : Int → Int} {N : Int} {b : Int} (hG : Base g) (hK : PK g w n0 q L P) (hb : 0 ≤ b ∧ b < P 0) (hl : P (13 + 6 * b) ≠ 0) : Ct g yX10_end (.code yX10_end cX10_end 2 (some .int)) 0 0 0 0 w [.ref (L (10 + b))] (fun r_ w1 => r_ = some (.int (iI (P (14 + 6 * b)))) ∧ PK g w1 n0 q L (oEnd P b) ∧ Mo n0 w w1) xF := by
  refine Ct.of (lv := [some _, none]) hG (by decide +kernel) (Nat.le_of_ble_eq_true rfl) rfl ?_
  intro z hg hpo hxp hnm htab
  subst hg
  have hc0 := hK.c0
  have hbt := hK.bt b hb.1 hb.2
  have hx0 : 0 ≤ (P (13 + 6 * b) - 1) ∧ (P (13 + 6 * b) - 1) < P 2 := by omega
  have hbe : Ob w (L (10 + b)) 3 [.int (iI (P (10 + 6 * b))), .int (iI (P (11 + 6 * b))), .int (iI b), .int (iI (P (12 + 6 * b))), .ref (L (50 + (P (13 + 6 * b) - 1))), .int (iI (P (14 + 6 * b))), .int (iI (P (15 + 6 * b)))] := by have h := hK.be b hb.1 hb.2; rw [bF, opt_ne hl] at h; exact h
  refine xr_aload_n dX10_end_0 rfl (by first | rfl | exact isRef_rf _) ?_
  refine xr_getfield (ci := 3) (T := TX10) (N := 7) (i := 5) hbe rfl (by decide) in_X10 q817 (.inl rfl) dX10_end_1 (by rfl) ?_
  refine xr_istore_n (lv' := [some _, some _]) dX10_end_4 (by decide) rfl rfl ?_
  refine xr_aload_n dX10_end_5 rfl (by first | rfl | exact isRef_rf _) ?_
  refine xr_getfield (ci := 3) (T := TX10) (N := 7) (i := 4) hbe rfl (by decide) in_X10 q814 (.inl rfl) dX10_end_6 (by rfl) ?_
  refine xr_null dX10_end_9 ?_
  refine xr_putfieldN (ci := 5) (T := TX11) (N := 4) (i := 3) (fs' := [_, _, _, _]) (hK.te (P (13 + 6 * b) - 1) hx0.1 hx0.2) rfl (by decide) in_X11 tyX11 tyX11_ok nmX11 q849 (.inl rfl) rfl dX10_end_10 (by first | rfl | exact nar_bI _ | exact nar_rf _) (by first | rfl | exact fit_bI _ | exact fit_rf _ _) (by simp) (by rfl) (.inl rfl) (fun hob10 => ?_)
  have hK1 := hK.setT' (P' := (updI P (102 + (P (13 + 6 * b) - 1)) 0)) hx0 (fs := [.int (iI (P (13 + 6 * b) - 1)), .int (iI (P (86 + 2 * (P (13 + 6 * b) - 1)))), .int (iI (P (87 + 2 * (P (13 + 6 * b) - 1)))), .null]) (by simp only [tF, updI, ↓reduceIte]; repeat first | rfl | rw [if_pos (by omega)] | rw [if_neg (by omega)]) (by intro k hk; simp only [updI]; repeat rw [if_neg (by omega)]) (by simp only [updI, ↓reduceIte]; (repeat first | rw [if_pos (by omega)] | rw [if_neg (by omega)]); omega)
  have hbe1 := hbe.put_k (f' := [.int (iI (P (13 + 6 * b) - 1)), .int (iI (P (86 + 2 * (P (13 + 6 * b) - 1)))), .int (iI (P (87 + 2 * (P (13 + 6 * b) - 1)))), .null]) (hK.te (P (13 + 6 * b) - 1) hx0.1 hx0.2) (by decide)
  refine xr_aload_n dX10_end_13 rfl (by first | rfl | exact isRef_rf _) ?_
  refine xr_null dX10_end_14 ?_
  refine xr_putfield (ci := 3) (T := TX10) (N := 7) (i := 4) (fs' := [_, _, _, _, _, _, _]) hbe1 rfl (by decide) in_X10 tyX10 tyX10_ok nmX10 q814 (.inl rfl) rfl dX10_end_15 (by first | rfl | exact nar_bI _ | exact nar_rf _) (by first | rfl | exact fit_bI _ | exact fit_rf _ _) (by simp) (by rfl) (.inl rfl) (fun hob15 => ?_)
  have hK2 := hK1.setB' (P' := (updI (updI P (102 + (P (13 + 6 * b) - 1)) 0) (13 + 6 * b) 0)) (i := b) (by rw [show (updI P (102 + (P (13 + 6 * b) - 1)) 0) 0 = P 0 from (by simp only [updI, ↓reduceIte]; repeat first | rfl | rw [if_pos (by omega)] | rw [if_neg (by omega)])]; exact hb) (fs := [.int (iI (P (10 + 6 * b))), .int (iI (P (11 + 6 * b))), .int (iI b), .int (iI (P (12 + 6 * b))), .null, .int (iI (P (14 + 6 * b))), .int (iI (P (15 + 6 * b)))]) (by simp only [bF, updI, ↓reduceIte]; repeat first | rfl | rw [if_pos (by omega)] | rw [if_neg (by omega)]) (by intro k hk; rw [updI, if_neg (by omega)]) (by simp only [updI, ↓reduceIte]; (repeat first | rw [if_pos (by omega)] | rw [if_neg (by omega)]); omega)
  refine xr_aload_n dX10_end_18 rfl (by first | rfl | exact isRef_rf _) ?_
  refine xr_iconst dX10_end_19 ?_
  refine xr_putfield (ci := 3) (T := TX10) (N := 7) (i := 5) (fs' := [_, _, _, _, _, _, _]) hob15 rfl (by decide) in_X10 tyX10 tyX10_ok nmX10 q817 (.inl rfl) rfl dX10_end_20 (by first | rfl | exact nar_bI _ | exact nar_rf _) (by first | rfl | exact fit_bI _ | exact fit_rf _ _) (by simp) (by rfl) (.inl rfl) (fun hob20 => ?_)
  have hK3 := hK2.setB' (P' := (updI (updI (updI P (102 + (P (13 + 6 * b) - 1)) 0) (13 + 6 * b) 0) (14 + 6 * b) 0)) (i := b) (by rw [show (updI (updI P (102 + (P (13 + 6 * b) - 1)) 0) (13 + 6 * b) 0) 0 = P 0 from (by simp only [updI, ↓reduceIte]; repeat first | rfl | rw [if_pos (by omega)] | rw [if_neg (by omega)])]; exact hb) (fs := [.int (iI (P (10 + 6 * b))), .int (iI (P (11 + 6 * b))), .int (iI b), .int (iI (P (12 + 6 * b))), .null, .int (iI 0), .int (iI (P (15 + 6 * b)))]) (by simp only [bF, updI, ↓reduceIte]; repeat first | rfl | rw [if_pos (by omega)] | rw [if_neg (by omega)]) (by intro k hk; rw [updI, if_neg (by omega)]) (by simp only [updI, ↓reduceIte]; (repeat first | rw [if_pos (by omega)] | rw [if_neg (by omega)]); omega)
  refine xr_aload_n dX10_end_23 rfl (by first | rfl | exact isRef_rf _) ?_
  refine xr_iconst dX10_end_24 ?_
  refine xr_putfield (ci := 3) (T := TX10) (N := 7) (i := 6) (fs' := [_, _, _, _, _, _, _]) hob20 rfl (by decide) in_X10 tyX10 tyX10_ok nmX10 q820 (.inl rfl) rfl dX10_end_25 (by first | rfl | exact nar_bI _ | exact nar_rf _) (by first | rfl | exact fit_bI _ | exact fit_rf _ _) (by simp) (by rfl) (.inl rfl) (fun hob25 => ?_)
  have hK4 := hK3.setB' (P' := (updI (updI (updI (updI P (102 + (P (13 + 6 * b) - 1)) 0) (13 + 6 * b) 0) (14 + 6 * b) 0) (15 + 6 * b) 0)) (i := b) (by rw [show (updI (updI (updI P (102 + (P (13 + 6 * b) - 1)) 0) (13 + 6 * b) 0) (14 + 6 * b) 0) 0 = P 0 from (by simp only [updI, ↓reduceIte]; repeat first | rfl | rw [if_pos (by omega)] | rw [if_neg (by omega)])]; exact hb) (fs := [.int (iI (P (10 + 6 * b))), .int (iI (P (11 + 6 * b))), .int (iI b), .int (iI (P (12 + 6 * b))), .null, .int (iI 0), .int (iI 0)]) (by simp only [bF, updI, ↓reduceIte]; repeat first | rfl | rw [if_pos (by omega)] | rw [if_neg (by omega)]) (by intro k hk; rw [updI, if_neg (by omega)]) (by simp only [updI, ↓reduceIte]; (repeat first | rw [if_pos (by omega)] | rw [if_neg (by omega)]); omega)
  refine xr_iload_n dX10_end_28 rfl ?_
  refine xr_ireturn rfl rfl dX10_end_29 ?_
  rw [hpo]
  exact ⟨rfl, hK4, (((Mo.put (hK.at hx0.1 hx0.2) _).tr (Mo.put (hK.ab hb.1 hb.2) _) (Nat.le_refl _)).tr (Mo.put (hK.ab hb.1 hb.2) _) (Nat.le_refl _)).tr (Mo.put (hK.ab hb.1 hb.2) _) (Nat.le_refl _)⟩
