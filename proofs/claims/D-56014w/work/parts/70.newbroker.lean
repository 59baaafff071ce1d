/-! 70.newbroker.lean.txt (written by tools/walker.py)  -/
set_option maxRecDepth 100000
/-! the broker behind a write, behind a char more; a new broker -/
theorem wr_all {g : GG} {w w' : WW} {x hl harr ib bb os ob q t b1 n : Nat} {f : Int → Int} {L : Int → Nat} {P : Int → Int} {H : List (Int → Int)} {fH : Int → Option Nat} {S0 : Option (Int → Int)} {I O : Tx} {se : Option Int} {rj : Option (Int × Int × Int)} {oS oE oR : Option Nat} (hx : Ob w x 13 [.ref q, va_rf oS, .ref hl, .ref ib, .ref os, va_rf oE, va_rf oR]) (hF : FP g w hl harr q L P) (hH : HPs g w hl harr H fH) (h8 : H.length ≤ 8) (hO : BO g w hl harr ib bb os ob S0 I O se rj oS oE oR) (hg : gb g ≤ x ∧ gb g ≤ hl) (hf : Fr (fun b => b = x) w w') (hx' : Ob w' x 13 [.ref q, va_rf oS, .ref hl, .ref ib, .ref t, va_rf oE, va_rf oR]) (hT : SO g w' t b1 n f) (hb : w.2 ≤ b1) : BR g w' x P S0 H I (n, f) se rj ∧ FX g w w' := by
  have hO' := hO.xs (x := x) hf (fun b hb => Or.inl hb) hx hH.1 hg
  have hil := hO.2.1.lt
  exact ⟨⟨q, hl, harr, ib, bb, t, b1, L, oS, oE, oR, fH, hx', hF.xs (x := x) hf (fun b hb => Or.inl hb) hx (by decide) hg, hH.fx hf hx (by decide) hg, h8, hO'.1, hO'.2.1, hT, by omega, hO'.2.2.2.2⟩, FX.xs (x := x) hf (fun b hb => Or.inl hb) hx hH.1⟩
theorem in_all {g : GG} {w w' : WW} {x hl harr ib bb os ob q b' n : Nat} {f : Int → Int} {L : Int → Nat} {P : Int → Int} {H : List (Int → Int)} {fH : Int → Option Nat} {S0 : Option (Int → Int)} {I O : Tx} {se : Option Int} {rj : Option (Int × Int × Int)} {oS oE oR : Option Nat} (hG : Base g) (hx : Ob w x 13 [.ref q, va_rf oS, .ref hl, .ref ib, .ref os, va_rf oE, va_rf oR]) (hF : FP g w hl harr q L P) (hH : HPs g w hl harr H fH) (h8 : H.length ≤ 8) (hO : BO g w hl harr ib bb os ob S0 I O se rj oS oE oR) (hg : gb g ≤ ib) (hf : Fr (fun b => b = ib ∨ b = bb) w w') (hS : SB g w' ib b' n f) (hb : b' = bb ∨ w.2 ≤ b') : BR g w' x P S0 H (n, f) O se rj ∧ FX g w w' :=
  ⟨⟨q, hl, harr, ib, b', os, ob, L, oS, oE, oR, fH, hx.fr hf (inp_ob hO.2.1 (fun _ hb => hb) hx (by decide)), hF.inp hf (fun _ hb => hb) hO.2.1 hg, hH.inp hf (fun _ hb => hb) hO.2.1 hg, h8, hO.inp hf (fun _ hb => hb) hg hS hb⟩, FX.inp hG hf (fun _ hb => hb) hO.2.1⟩
theorem k_Z_init {g : GG} {w : WW} {x : Nat} (hG : Base g) (hL : KL g) (hJ : KJ g) (hS : KS g) (ho : Ob w x 13 [.null, .null, .null, .null, .null, .null, .null]) : Ct g yX1_init (.code yX1_init cX1_init 1 none) 6 112 10 45 w [.ref x] (fun r_ w1 => r_ = none ∧ BR g w1 x P00 none [] (0, fun _ => 0) (0, txI "") none none ∧ Fr (fun b => b = x) w w1) xF := by
  refine Ct.of (lv := [some _]) hG (by decide +kernel) (Nat.le_of_ble_eq_true rfl) rfl ?_
  intro z hg hpo hxp hnm htab
  subst hg
  refine xr_ge ho rfl (fun hgx => ?_)
  have hxw := ho.2
  refine xr_aload_n dX1_init_0 rfl (by first | rfl | exact isRef_rf _) ?_
  refine xr_objInit q138 q139 q140 (by decide) (Nat.le_of_ble_eq_true rfl) dX1_init_1 ?_
  refine xr_aload_n dX1_init_4 rfl (by first | rfl | exact isRef_rf _) ?_
  refine xr_new (ci := 0) (T := TX2) (N := 10) (n9 := 10) (fs := [.null, .null, .null, .int (iI 0), .int (iI 0), .int (iI 0), .int (iI 0), .int (iI 0), .int (iI 0), .int (iI 0)]) (rc' := 9) (rs' := 35) rfl in_X2 tyX2 tyX2_ok q141 q142 q87 (by intro j hj; rcases (show j = 0 ∨ j = 1 ∨ j = 2 ∨ j = 3 ∨ j = 4 ∨ j = 5 ∨ j = 6 ∨ j = 7 ∨ j = 8 ∨ j = 9 by omega) with rfl | rfl | rfl | rfl | rfl | rfl | rfl | rfl | rfl | rfl <;> rfl) ⟨Nat.le_of_ble_eq_true rfl, Nat.le_of_ble_eq_true rfl⟩ dX1_init_5 (fun a5 ga5 hob5 => ?_)
  have hmn5 := Mo.new ga5 ga5 (.inl (.inr (0, [.null, .null, .null, .int (iI 0), .int (iI 0), .int (iI 0), .int (iI 0), .int (iI 0), .int (iI 0), .int (iI 0)])))
  have ho5 := ho.ext hmn5
  refine xr_dup dX1_init_8 (by first | rfl | exact cat_rf _) ?_
  refine xr_callIN (n9 := 0) (rc' := 3) (rs' := 23) (k_P_init hG hL hob5) q143 q144 q87 q145 rfl (by decide +kernel) rfl ⟨by decide, Nat.le_of_ble_eq_true rfl⟩ ⟨Nat.le_of_ble_eq_true rfl, Nat.le_of_ble_eq_true rfl⟩ (Nat.le_of_ble_eq_true rfl) dX1_init_9 rfl (fun r w9 hw => ?_) (fun _ _ _ h => h.elim)
  obtain ⟨rfl, L, hK9, hf9⟩ := hw
  have ho9 := ho5.fr hf9 (fun q => Ob.apart ho5 hob5 (by decide) q)
  have ha5 := hob5.2
  have hf91 := hf9.1
  refine xr_putfield (ci := 13) (T := TX1) (N := 7) (i := 0) (fs' := [_, _, _, _, _, _, _]) ho9 rfl (by decide) in_X1 tyX1 tyX1_ok nmX1 q267 (.inl rfl) rfl dX1_init_12 (by first | rfl | exact nar_bI _ | exact nar_rf _) (by first | rfl | exact fit_bI _ | exact fit_rf _ _) (by simp) (by rfl) (.inl rfl) (fun hob12 => ?_)
  have hfx12 : Fr (fun b => b = x) w9 (wput w9 x (.inl (.inr (13, [.ref a5, .null, .null, .null, .null, .null, .null])))) := Fr.put1 _
  have hK12 := hK9.fr hfx12 (fun b hb (q9 : b = x) => by have h8 : a5 ≤ b := hK9.lo _ hb; omega) (fun b (q9 : b = x) => by omega)
  refine xr_aload_n dX1_init_15 rfl (by first | rfl | exact isRef_rf _) ?_
  refine xr_new (ci := 2) (T := TJ2) (N := 3) (n9 := 3) (fs := [.int (iI 0), .null, .int (iI 0)]) (rc' := 2) (rs' := 20) rfl in_J2 tyJ2 tyJ2_ok q231 q154 q91 (by intro j hj; rcases (show j = 0 ∨ j = 1 ∨ j = 2 by omega) with rfl | rfl | rfl <;> rfl) ⟨Nat.le_of_ble_eq_true rfl, Nat.le_of_ble_eq_true rfl⟩ dX1_init_16 (fun a16 ga16 hob16 => ?_)
  have hmn16 := Mo.new ga16 ga16 (.inl (.inr (2, [.int (iI 0), .null, .int (iI 0)])))
  have ho16 := hob12.ext hmn16
  have hK16 := hK12.ext hmn16
  have ga16w : w9.2 ≤ a16 := ga16
  refine xr_dup dX1_init_19 (by first | rfl | exact cat_rf _) ?_
  refine xr_callI (n9 := 0) (rc' := 2) (rs' := 20) (k_AL_init (fun _ => none) hG hL hob16) q232 q156 q91 q157 rfl (by decide +kernel) rfl ⟨by decide, Nat.le_of_ble_eq_true rfl⟩ ⟨Nat.le_of_ble_eq_true rfl, Nat.le_of_ble_eq_true rfl⟩ (Nat.le_of_ble_eq_true rfl) dX1_init_20 rfl (fun r w20 hw => ?_) (fun _ _ _ h => h.elim)
  obtain ⟨rfl, hA20, hf20⟩ := hw
  have ho20 := ho16.fr hf20 (fun q => Ob.apart ho16 hob16 (by decide) q)
  have hge16 := hmn16.1
  have hK20 := hK16.fr hf20 (fun b hb (q9 : b = a16) => by have h8 := hK12.hi hb; have h8 : b < w9.2 := h8; omega) (fun b (q9 : b = a16) => by have := hK12.n0lt.2.2; have h8 : gb (zg z) ≤ w9.2 := this; omega)
  have ha16 := hob16.2
  have hf201 := hf20.1
  refine xr_putfieldF (ci := 13) (T := TX1) (N := 7) (i := 2) (fs' := [_, _, _, _, _, _, _]) ho20 rfl (by decide) in_X1 tyX1 tyX1_ok nmX1 q269 (.inl rfl) rfl rfl hnm dX1_init_23 (by first | rfl | exact nar_bI _ | exact nar_rf _) (by first | rfl | exact fit_bI _ | exact fit_rf _ _) (by simp) (by rfl) (.inl rfl) (fun hob23 => ?_)
  have hfx23 : Fr (fun b => b = x) w20 (wput w20 x (.inl (.inr (13, [.ref a5, .null, .ref a16, .null, .null, .null, .null])))) := Fr.put1 _
  have hK23 := hK20.fr hfx23 (fun b hb (q9 : b = x) => by have h8 : a5 ≤ b := hK9.lo _ hb; omega) (fun b (q9 : b = x) => by omega)
  have hA23 := hA20.put_k ho20 (by decide) (.inl (.inr (13, [.ref a5, .null, .ref a16, .null, .null, .null, .null])))
  refine xr_aload_n dX1_init_26 rfl (by first | rfl | exact isRef_rf _) ?_
  refine xr_new (ci := 15) (T := TJ4) (N := 4) (n9 := 4) (fs := [.null, .int (iI 0), .int (iI 0), .int (iI 0)]) (rc' := 1) (rs' := 16) rfl in_J4 tyJ4 tyJ4_ok q233 q234 q93 (by intro j hj; rcases (show j = 0 ∨ j = 1 ∨ j = 2 ∨ j = 3 by omega) with rfl | rfl | rfl | rfl <;> rfl) ⟨Nat.le_of_ble_eq_true rfl, Nat.le_of_ble_eq_true rfl⟩ dX1_init_27 (fun a27 ga27 hob27 => ?_)
  have hmn27 := Mo.new ga27 ga27 (.inl (.inr (15, [.null, .int (iI 0), .int (iI 0), .int (iI 0)])))
  have ho27 := hob23.ext hmn27
  have hK27 := hK23.ext hmn27
  have hA27 := hA23.ext hmn27
  have ga27w : w20.2 ≤ a27 := ga27
  refine xr_dup dX1_init_30 (by first | rfl | exact cat_rf _) ?_
  refine xr_callI (n9 := 0) (rc' := 0) (rs' := 0) (k_SB_init (fun _ => 0) hG hJ hob27) q235 q236 q93 q237 rfl (by decide +kernel) rfl ⟨by decide, Nat.le_of_ble_eq_true rfl⟩ ⟨Nat.le_of_ble_eq_true rfl, Nat.le_of_ble_eq_true rfl⟩ (Nat.le_of_ble_eq_true rfl) dX1_init_31 rfl (fun r w31 hw => ?_) (fun _ _ _ h => h.elim)
  obtain ⟨rfl, b31, hS31, hb31, hf31⟩ := hw
  have ha27 := hob27.2
  have hbl31 : (wnew (wput w20 x (.inl (.inr (13, [.ref a5, .null, .ref a16, .null, .null, .null, .null])))) a27 (.inl (.inr (15, [.null, .int (iI 0), .int (iI 0), .int (iI 0)])))).2 ≤ b31 := hb31
  have ho31 := ho27.fr hf31 (fun q => Ob.apart ho27 hob27 (by decide) q)
  have hK31 := hK27.fr hf31 (fun b hb (q9 : b = a27) => by have h8 : b < w20.2 := hK23.hi hb; omega) (fun b (q9 : b = a27) => by have h8 : gb (zg z) ≤ w20.2 := hK23.n0lt.2.2; omega)
  have hgL := hL.2.1
  have hgw : gb (zg z) ≤ w20.2 := hK23.n0lt.2.2
  have hA31 := hA27.fr hf31 (fun (q9 : a16 = a27) => by omega) (fun (q9 : gC (zg z) 0 = a27) => by omega)
  have hf311 := hf31.1
  refine xr_putfieldF (ci := 13) (T := TX1) (N := 7) (i := 3) (fs' := [_, _, _, _, _, _, _]) ho31 rfl (by decide) in_X1 tyX1 tyX1_ok nmX1 q270 (.inl rfl) rfl rfl hnm dX1_init_34 (by first | rfl | exact nar_bI _ | exact nar_rf _) (by first | rfl | exact fit_bI _ | exact fit_rf _ _) (by simp) (by rfl) (.inl rfl) (fun hob34 => ?_)
  have hfx34 : Fr (fun b => b = x) w31 (wput w31 x (.inl (.inr (13, [.ref a5, .null, .ref a16, .ref a27, .null, .null, .null])))) := Fr.put1 _
  have hK34 := hK31.fr hfx34 (fun b hb (q9 : b = x) => by have h8 : a5 ≤ b := hK9.lo _ hb; omega) (fun b (q9 : b = x) => by omega)
  have hA34 := hA31.put_k ho31 (by decide) (.inl (.inr (13, [.ref a5, .null, .ref a16, .ref a27, .null, .null, .null])))
  have hbx : b31 ≠ x := by have := hb31; omega
  have hS34 := hS31.fr hfx34 (fun (q9 : a27 = x) => by omega) hbx
  refine xr_base (fun hG9 hk9 => ?_)
  refine xr_aload_n dX1_init_37 rfl (by first | rfl | exact isRef_rf _) ?_
  obtain ⟨tS38, bS38, hR38, hSO38⟩ := hS ("BenchBroker", 136, "") (by decide)
  refine xr_ldcS hR38 dX1_init_38 ?_
  have hT34 := hSO38.ext hk9
  refine xr_putfield (ci := 13) (T := TX1) (N := 7) (i := 4) (fs' := [_, _, _, _, _, _, _]) hob34 rfl (by decide) in_X1 tyX1 tyX1_ok nmX1 q271 (.inl rfl) rfl dX1_init_40 (by first | rfl | exact nar_bI _ | exact nar_rf _) (by first | rfl | exact fit_bI _ | exact fit_rf _ _) (by simp) (by rfl) (.inl rfl) (fun hob40 => ?_)
  have hfx40 : Fr (fun b => b = x) (wput w31 x (.inl (.inr (13, [.ref a5, .null, .ref a16, .ref a27, .null, .null, .null])))) (wput (wput w31 x (.inl (.inr (13, [.ref a5, .null, .ref a16, .ref a27, .null, .null, .null])))) x (.inl (.inr (13, [.ref a5, .null, .ref a16, .ref a27, .ref tS38, .null, .null])))) := Fr.put1 _
  have hK40 := hK34.fr hfx40 (fun b hb (q9 : b = x) => by have h8 : a5 ≤ b := hK9.lo _ hb; omega) (fun b (q9 : b = x) => by omega)
  have hA40 := hA34.put_k hob34 (by decide) (.inl (.inr (13, [.ref a5, .null, .ref a16, .ref a27, .ref tS38, .null, .null])))
  have hS40 := hS34.fr hfx40 (fun (q9 : a27 = x) => by omega) hbx
  have hTnx : tS38 ≠ x ∧ bS38 ≠ x := by
    obtain ⟨v1, v2, g1, g2, -⟩ := hT34
    exact ⟨g1.apart hob34 (by decide), g2.ob_ne hob34⟩
  have hT40 := hT34.fr hfx40 hTnx.1 hTnx.2
  have hSBlt : bS38 < gb (zg z) := by
    obtain ⟨v1, v2, g1, g2, -⟩ := hSO38
    exact g2.lt
  refine xr_return rfl dX1_init_43 ?_
  rw [hpo]
  refine ⟨rfl, ⟨a5, a16, gC (zg z) 0, a27, b31, tS38, bS38, L, none, none, none, fun _ => none, hob40, ⟨⟨_, hK40⟩, fun h9 => ?_, fun h9 => ?_⟩, ⟨hA40, fun i Ph hi => by simp at hi⟩, by simp, Or.inl ⟨rfl, rfl⟩, hS40, hT40, by have := hS40.lt; omega, Or.inl ⟨rfl, rfl⟩, Or.inl ⟨rfl, rfl⟩⟩, ?_⟩
  · have h8 : a16 < w9.2 := hK12.hi h9
    omega
  · have h8 : a5 ≤ gC (zg z) 0 := hK9.lo _ h9
    omega
  · have s1 : Fr (fun b => b = x) w (wput w9 x (.inl (.inr (13, [.ref a5, .null, .null, .null, .null, .null, .null])))) := (hmn5.trq (hf9.to (S' := fun b => b = a5) (fun _ _ q => q)) |>.to (S' := fun b => b = x) (fun b hb (q : b = a5) => by omega)).tq hfx12
    have s2 := ((s1.trm hmn16).tr hf20 (fun b hb (q : b = a16) => by have := s1.1; have h8 : w9.2 ≤ a16 := ga16w; have h7 : w.2 ≤ w9.2 := s1.1; omega)).tq hfx23
    have s3 := ((s2.trm hmn27).tr hf31 (fun b hb (q : b = a27) => by have h7 : w.2 ≤ w20.2 := s2.1; omega)).tq hfx34
    exact s3.tq hfx40
