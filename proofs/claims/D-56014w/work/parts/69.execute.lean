/-! 69.execute.lean.txt (written by tools/walker.py)  -/
set_option maxRecDepth 100000
theorem inp_all {g : GG} {w w' : WW} {x hl harr ib bb os ob q b' : Nat} {L : Int → Nat} {P : Int → Int} {H : List (Int → Int)} {fH : Int → Option Nat} {S0 : Option (Int → Int)} {I O : Tx} {se : Option Int} {rj : Option (Int × Int × Int)} {oS oE oR : Option Nat} {fs : List Value} (hG : Base g) (hx : Ob w x 13 fs) (hF : FP g w hl harr q L P) (hH : HPs g w hl harr H fH) (hO : BO g w hl harr ib bb os ob S0 I O se rj oS oE oR) (hg : gb g ≤ ib) (hf : Fr (fun b => b = ib ∨ b = bb) w w') (hS : SB g w' ib b' 0 I.2) (hb : b' = bb ∨ w.2 ≤ b') :
    Ob w' x 13 fs ∧ FP g w' hl harr q L P ∧ HPs g w' hl harr H fH ∧ BO g w' hl harr ib b' os ob S0 (0, I.2) O se rj oS oE oR ∧ FX g w w' :=
  ⟨hx.fr hf (inp_ob hO.2.1 (fun _ hb => hb) hx (by decide)), hF.inp hf (fun _ hb => hb) hO.2.1 hg, hH.inp hf (fun _ hb => hb) hO.2.1 hg, hO.inp hf (fun _ hb => hb) hg hS hb, FX.inp hG hf (fun _ hb => hb) hO.2.1⟩
theorem k_Pa_init {g : GG} {w : WW} {p t : Nat} (hG : Base g) (hL : KL g) (ho : Ob w p 12 [.null, .null, .int (iI 0)]) : Ct g yX15_init (.code yX15_init cX15_init 2 none) 4 72 1 3 w [.ref p, .ref t] (fun r_ w1 => r_ = none ∧ ∃ al : Nat, AL g w1 al (gC g 0) 0 (fun _ => none) ∧ w.2 ≤ al ∧ Ob w1 p 12 [.ref t, .ref al, .int (iI 0)] ∧ Fr (fun b => b = p) w w1) xF := by
  refine Ct.of (lv := [some _, some _]) hG (by decide +kernel) (Nat.le_of_ble_eq_true rfl) rfl ?_
  intro z hg hpo hxp hnm htab
  subst hg
  refine xr_aload_n dX15_init_0 rfl (by first | rfl | exact isRef_rf _) ?_
  refine xr_objInit q1893 q139 q140 (by decide) (Nat.le_of_ble_eq_true rfl) dX15_init_1 ?_
  refine xr_aload_n dX15_init_4 rfl (by first | rfl | exact isRef_rf _) ?_
  refine xr_new (ci := 2) (T := TJ2) (N := 3) (n9 := 3) (fs := [.int (iI 0), .null, .int (iI 0)]) (rc' := 0) (rs' := 0) rfl in_J2 tyJ2 tyJ2_ok q1894 q154 q91 (by intro j hj; rcases (show j = 0 ∨ j = 1 ∨ j = 2 by omega) with rfl | rfl | rfl <;> rfl) ⟨Nat.le_of_ble_eq_true rfl, Nat.le_of_ble_eq_true rfl⟩ dX15_init_5 (fun a5 ga5 hob5 => ?_)
  have hmn5 := Mo.new ga5 ga5 (.inl (.inr (2, [.int (iI 0), .null, .int (iI 0)])))
  have ho5 := ho.ext hmn5
  refine xr_dup dX15_init_8 (by first | rfl | exact cat_rf _) ?_
  refine xr_callI (n9 := 0) (rc' := 0) (rs' := 0) (k_AL_init (fun _ => none) hG hL hob5) q1895 q156 q91 q157 rfl (by decide +kernel) rfl ⟨by decide, Nat.le_of_ble_eq_true rfl⟩ ⟨Nat.le_of_ble_eq_true rfl, Nat.le_of_ble_eq_true rfl⟩ (Nat.le_of_ble_eq_true rfl) dX15_init_9 rfl (fun r w9 hw => ?_) (fun _ _ _ h => h.elim)
  obtain ⟨rfl, hA, hfr⟩ := hw
  have ho9 := ho5.fr hfr (fun q => Ob.apart ho5 hob5 (by decide) q)
  refine xr_putfieldF (ci := 12) (T := TX15) (N := 3) (i := 1) (fs' := [_, _, _]) ho9 rfl (by decide) in_X15 tyX15 tyX15_ok nmX15 q1897 (.inl rfl) rfl rfl hnm dX15_init_12 (by first | rfl | exact nar_bI _ | exact nar_rf _) (by first | rfl | exact fit_bI _ | exact fit_rf _ _) (by simp) (by rfl) (.inl rfl) (fun hob12 => ?_)
  have hA2 := hA.put_k ho9 (by decide) (.inl (.inr (12, [.null, .ref a5, .int (iI 0)])))
  refine xr_aload_n dX15_init_15 rfl (by first | rfl | exact isRef_rf _) ?_
  refine xr_aload_n dX15_init_16 rfl (by first | rfl | exact isRef_rf _) ?_
  refine xr_putfieldF (ci := 12) (T := TX15) (N := 3) (i := 0) (fs' := [_, _, _]) hob12 rfl (by decide) in_X15 tyX15 tyX15_ok nmX15 q1896 (.inl rfl) rfl rfl hnm dX15_init_17 (by first | rfl | exact nar_bI _ | exact nar_rf _) (by first | rfl | exact fit_bI _ | exact fit_rf _ _) (by simp) (by rfl) (.inl rfl) (fun hob17 => ?_)
  have hA3 := hA2.put_k hob12 (by decide) (.inl (.inr (12, [.ref t, .ref a5, .int (iI 0)])))
  refine xr_return rfl dX15_init_20 ?_
  rw [hpo]
  exact ⟨rfl, a5, hA3, ga5, hob17, (((Fr.new ga5 _).tr (hfr.to (S' := fun b => b = p ∨ b = a5) (fun b _ q => Or.inr q)) (fun b hb q => by rcases q with q | q; exact q; omega)).tr (Fr.put1 _) (fun b _ q => q)).tr (Fr.put1 _) (fun b _ q => q)⟩
theorem k_Z_execute {g : GG} {w : WW} {x : Nat} {P : Int → Int} {S : Option (Int → Int)} {H : List (Int → Int)} {I O : Tx} {se : Option Int} {rj : Option (Int × Int × Int)} {N : Int} (hG : Base g) (hL : KL g) (hJ : KJ g) (hS : KS g) (hX : BR g w x P S H I O se rj) (hI60 : I.1 ≤ 60) (hB : PB P N) (hN : N + 13000 * 11 ≤ 10000000) (hC : PCon P) : Ct g yX1_execute (.codeWith yX1_execute cX1_execute 4 (some .int) [(23, 46, 47, 427), (23, 46, 61, 433), (23, 46, 70, 25)]) 19 3259 3736 9120 w [.ref x] (fun r_ w1 => ∃ (cs : List Cm) (P3 : Int → Int), pAll I.2 I.1 = .inr cs ∧ rAll cs 0 P = .inr P3 ∧ r_ = some (.int (iI cs.length)) ∧ BR g w1 x P3 S (pushH H P) (0, I.2) O se rj ∧ PB P3 (N + 13000 * 10) ∧ FX g w w1) (fun E a9 w1 => (E = "java/lang/IllegalArgumentException" ∧ ∃ e : Int, pAll I.2 I.1 = .inl e ∧ (0 ≤ e ∧ e ≤ I.1) ∧ BR g w1 x P S H (0, I.2) O (some e) rj ∧ FX g w w1) ∨ (E = "java/lang/IllegalStateException" ∧ ∃ (cs : List Cm) (k rr : Int), pAll I.2 I.1 = .inr cs ∧ rAll cs 0 P = .inl (2, k, rr) ∧ BR g w1 x P S H (0, I.2) O se rj ∧ FX g w w1) ∨ (E = "java/lang/UnsupportedOperationException" ∧ ∃ (cs : List Cm) (k rr : Int), pAll I.2 I.1 = .inr cs ∧ rAll cs 0 P = .inl (3, k, rr) ∧ BR g w1 x P S H (0, I.2) O se (some (12, k, rr)) ∧ FX g w w1)) := by
  refine Ct.ofH (lv := [some _, none, none, none]) hG (by decide +kernel) (Nat.le_of_ble_eq_true rfl) rfl ?_
  intro z hg hpo hxp hnm htab
  subst hg
  obtain ⟨q, hl, harr, ib, bb, os, ob, L, oS, oE, oR, fH, hx, hF, hH, h8, hO⟩ := hX
  obtain ⟨n0, hK⟩ := hF.1
  have hAl := hH.1.lt
  refine xr_ge hx rfl (fun hgx => ?_)
  obtain ⟨mm0, hol0⟩ := hH.1.ob
  refine xr_ge hol0 rfl (fun hgl => ?_)
  have hgb := hB.g
  have hc0 := hK.c0
  refine xr_ge (hO.2.1.ob.choose_spec) rfl (fun hgI => ?_)
  refine xr_new (ci := 12) (T := TX15) (N := 3) (n9 := 3) (fs := [.null, .null, .int (iI 0)]) (rc' := 3735) (rs' := 9117) rfl in_X15 tyX15 tyX15_ok q1888 q1889 q128 (by intro j hj; rcases (show j = 0 ∨ j = 1 ∨ j = 2 by omega) with rfl | rfl | rfl <;> rfl) ⟨Nat.le_of_ble_eq_true rfl, Nat.le_of_ble_eq_true rfl⟩ dX1_execute_0 (fun a0 ga0 hob0 => ?_)
  have hmn0 := Mo.new ga0 ga0 (.inl (.inr (12, [.null, .null, .int (iI 0)])))
  have hx0 := hx.ext hmn0
  refine xr_dup dX1_execute_3 (by first | rfl | exact cat_rf _) ?_
  refine xr_aload_n dX1_execute_4 rfl (by first | rfl | exact isRef_rf _) ?_
  refine xr_getfield (ci := 13) (T := TX1) (N := 7) (i := 3) hx0 rfl (by decide) in_X1 q270 (.inl rfl) dX1_execute_5 (by rfl) ?_
  refine xr_callV (n9 := 0) (rc' := 3733) (rs' := 9043) (k_SB_toString hG hJ (hO.2.1.ext hmn0)) ((hO.2.1.ext hmn0).ob.choose_spec) rfl q1715 q1716 q1717 q93 q1718 (by decide +kernel) rfl ⟨by decide, Nat.le_of_ble_eq_true rfl⟩ ⟨Nat.le_of_ble_eq_true rfl, Nat.le_of_ble_eq_true rfl⟩ (Nat.le_of_ble_eq_true rfl) dX1_execute_8 rfl (fun r w8 hw => ?_) (fun _ _ _ h => h.elim)
  obtain ⟨t, b8, rfl, hT8, ht8, hb8, hgt8, hgb8, hm8⟩ := hw
  show XJ _ _ _ _ _ _ _ _ _ _ _ _ [.ref t, .ref a0, .ref a0]
  have ha0 := hob0.2
  have hp8 := hob0.ext hm8
  have hmo8 := hmn0.tr hm8 hmn0.1
  refine xr_callI (n9 := 1) (rc' := 3732) (rs' := 9040) (k_Pa_init hG hL hp8) q1890 q1891 q128 q1892 rfl (by decide +kernel) rfl ⟨by decide, Nat.le_of_ble_eq_true rfl⟩ ⟨Nat.le_of_ble_eq_true rfl, Nat.le_of_ble_eq_true rfl⟩ (Nat.le_of_ble_eq_true rfl) dX1_execute_11 rfl (fun r w11 hw => ?_) (fun _ _ _ h => h.elim)
  obtain ⟨rfl, al, hA11, hal, hp11, hf11⟩ := hw
  have hmo11 : Mo w.2 w w11 := hmo8.tr (hf11.mo (n := w.2) (fun y _ (q9 : y = a0) => by omega)) (Nat.le_refl _)
  have hT11 := hT8.fr hf11 (fun q9 => by omega) (fun q9 => by omega)
  have hx11 := hx.ext hmo11
  have hSI := hO.2.1.ext hmo11
  have hm81 := hmo8.1
  have hmo111 := hmo11.1
  refine xr_astore_n (lv' := [some _, some _, none, none]) dX1_execute_14 (by decide) rfl (by first | rfl | exact isRef_rf _) rfl ?_
  refine xr_aload_n dX1_execute_15 rfl (by first | rfl | exact isRef_rf _) ?_
  refine xr_getfield (ci := 13) (T := TX1) (N := 7) (i := 3) hx11 rfl (by decide) in_X1 q270 (.inl rfl) dX1_execute_16 (by rfl) ?_
  refine xr_iconst dX1_execute_19 ?_
  refine xr_callV (n9 := 1) (rc' := 3731) (rs' := 8970) (k_SB_setLength hG hSI) (hSI.ob.choose_spec) rfl q1906 q1907 q1908 q93 q1909 (by decide +kernel) rfl ⟨by decide, Nat.le_of_ble_eq_true rfl⟩ ⟨Nat.le_of_ble_eq_true rfl, Nat.le_of_ble_eq_true rfl⟩ (Nat.le_of_ble_eq_true rfl) dX1_execute_20 rfl (fun r w20 hw => ?_) (fun _ _ _ h => h.elim)
  obtain ⟨rfl, b20, hS20, hb20, hf20⟩ := hw
  have hfr20 : Fr (fun b => b = ib ∨ b = bb) w w20 := (hmo11.fr.to (S' := fun b => b = ib ∨ b = bb) (fun y hy (q9 : w.2 ≤ y) => by omega)).tr hf20 (fun _ _ q9 => Or.inl q9)
  have hb20' : b20 = bb ∨ w.2 ≤ b20 := by omega
  have hil := hO.2.1.lt
  obtain ⟨hxQ, hFQ, hHQ, hOQ, hXQ⟩ := inp_all hG hx hF hH hO hgI hfr20 hS20 hb20'
  obtain ⟨n2, hKQ⟩ := hFQ.1
  have hp20 := hp11.fr hf20 (fun (q9 : a0 = ib) => by omega)
  have hgL := hL.2.1
  have hA20 := hA11.fr hf20 (fun (q9 : al = ib) => by omega) (fun (q9 : gC (zg z) 0 = ib) => by omega)
  have hT20 := hT11.fr hf20 (fun (q9 : t = ib) => by omega) (fun (q9 : b8 = ib) => by omega)
  have hf201 := hf20.1
  have hA20l := hA11.lt
  have hT20l := hT11.lt
  have hp20l := hp11.2
  refine xr_aload_n dX1_execute_23 rfl (by first | rfl | exact isRef_rf _) ?_
  refine xr_getfield (ci := 13) (T := TX1) (N := 7) (i := 0) hxQ rfl (by decide) in_X1 q267 (.inl rfl) dX1_execute_24 (by rfl) ?_
  refine xr_callV (n9 := 0) (rc' := 3674) (rs' := 8560) (k_P_copy hG hL hKQ hC) hKQ.hq rfl q901 q727 q728 q87 q729 (by decide +kernel) rfl ⟨by decide, Nat.le_of_ble_eq_true rfl⟩ ⟨Nat.le_of_ble_eq_true rfl, Nat.le_of_ble_eq_true rfl⟩ (Nat.le_of_ble_eq_true rfl) dX1_execute_27 rfl (fun r w27 hw => ?_) (fun _ _ _ h => h.elim)
  obtain ⟨q2, L2, rfl, hK2, hg2, hm27⟩ := hw
  show XJ _ _ _ _ _ _ _ _ _ _ _ _ [.ref q2]
  have hfr27 := hfr20.trm hm27
  have hS27 := hS20.ext hm27
  have hS20l := hS20.lt
  have hp27 := hp20.ext hm27
  have hA27 := hA20.ext hm27
  have hT27 := hT20.ext hm27
  have hm271 := hm27.1
  obtain ⟨mmA, halA⟩ := hA27.ob
  have hpal : a0 ≠ al := hp27.apart halA (by decide)
  refine xr_astore_n (lv' := [some _, some _, some _, none]) dX1_execute_30 (by decide) rfl (by first | rfl | exact isRef_rf _) rfl ?_
  refine xr_aload_n dX1_execute_31 rfl (by first | rfl | exact isRef_rf _) ?_
  refine xr_callV (n9 := 0) (rc' := 3435) (rs' := 6887) (k_Pa_parse hG hL hJ hS hp27 hT27 hA27 hI60 hpal) hp27 rfl q1958 q1959 q1960 q128 q1961 (by decide +kernel) rfl ⟨by decide, Nat.le_of_ble_eq_true rfl⟩ ⟨Nat.le_of_ble_eq_true rfl, Nat.le_of_ble_eq_true rfl⟩ (Nat.le_of_ble_eq_true rfl) dX1_execute_32 rfl (fun r w32 hw => ?_) ?_
  rotate_left
  · skip
    rintro E qE w9 ⟨rfl, e9, he9, hb9, hob9, hq9, hf9⟩
    have hfr9 : Fr (fun b => b = ib ∨ b = bb) w w9 := hfr27.tr hf9 (fun b hb q8 => by rcases q8 with q8 | q8 | ⟨q8, q7⟩ <;> omega)
    have hS9 := hS27.fr hf9 (fun q8 => by rcases q8 with q8 | q8 | ⟨q8, q7⟩ <;> omega) (fun q8 => by rcases q8 with q8 | q8 | ⟨q8, q7⟩ <;> omega)
    obtain ⟨hxQ, hFQ, hHQ, hOQ, hXQ⟩ := inp_all hG hx hF hH hO hgI hfr9 hS9 hb20'
    refine xt_catch (name := "BenchBroker$SyntaxError") [] ⟨23, 46, 47, 427⟩ [⟨23, 46, 61, 433⟩, ⟨23, 46, 70, 25⟩] (by rw [htab]; rfl) (fun y hy => by cases hy) (by decide) (by decide) q1886 q1988 ?_
    refine xr_astore_n (lv' := [some _, some _, some _, none]) dX1_execute_47 (by decide) rfl (by first | rfl | exact isRef_rf _) rfl ?_
    refine xr_aload_n dX1_execute_48 rfl (by first | rfl | exact isRef_rf _) ?_
    refine xr_aload_n dX1_execute_49 rfl (by first | rfl | exact isRef_rf _) ?_
    refine xr_putfield (ci := 13) (T := TX1) (N := 7) (i := 5) (fs' := [_, _, _, _, _, _, _]) hxQ rfl (by decide) in_X1 tyX1 tyX1_ok nmX1 q272 (.inl rfl) rfl dX1_execute_50 (by first | rfl | exact nar_bI _ | exact nar_rf _) (by first | rfl | exact fit_bI _ | exact fit_rf _ _) (by simp) (by rfl) (.inl rfl) (fun hob50 => ?_)
    have hfx : Fr (fun b => b = x) w9 (wput w9 x (.inl (.inr (13, [.ref q, va_rf oS, .ref hl, .ref ib, .ref os, .ref qE, va_rf oR])))) := Fr.put1 _
    have hFZ := hFQ.xs (x := x) hfx (fun b hb => Or.inl hb) hxQ (by decide) ⟨hgx, hgl⟩
    have hHZ := hHQ.fx hfx hxQ (by decide) ⟨hgx, hgl⟩
    have hOZ := hOQ.xs (x := x) hfx (fun b hb => Or.inl hb) hxQ hHQ.1 ⟨hgx, hgl⟩
    have hXZ := hXQ.tr (FX.xs (x := x) hfx (fun b hb => Or.inl hb) hxQ hHQ.1)
    have hob9 := hob9.fr hfx (fun q8 => (hob9.apart hxQ (by decide)) q8)
    refine xr_throw0 (cls := "java/lang/IllegalArgumentException") (names := ["java/lang/RuntimeException", "java/lang/Exception"]) (by decide +kernel) (by decide +kernel) q963 q102 (at_words [97, 546, 555, 567, 570, 572, 547, 548, 139, 140, 549, 554, 568, 588, 536, 589, 538, 590, 540, 550, 552, 542, 973, 974, 975, 695, 527, 695, 696, 697, 698, 529, 698, 699, 700, 547, 531, 972, 964, 965, 966, 562, 967, 968, 969, 970, 586, 544, 971] (by decide +kernel) (by decide +kernel)) ⟨rfl, rfl⟩ dX1_execute_53 dX1_execute_56 dX1_execute_57 dX1_execute_60 (by rw [htab]; decide) (by decide) (Nat.le_of_ble_eq_true rfl) ⟨Nat.le_of_ble_eq_true rfl, Nat.le_of_ble_eq_true rfl⟩ (fun q9 hq9 => ?_)
    rw [hxp]
    exact Or.inl ⟨rfl, e9, he9, hb9, ⟨q, hl, harr, ib, b20, os, ob, L, oS, some qE, oR, fH, hob50, hFZ, hHZ, h8, hOZ.1, hOZ.2.1, hOZ.2.2.1, hOZ.2.2.2.1, Or.inr ⟨_, qE, rfl, rfl, hob9⟩, hOZ.2.2.2.2.2⟩, hXZ⟩
  obtain ⟨cs, arr9, f9, he9, rfl, hA32, hcs, hcl, har9, hf32⟩ := hw
  show XJ _ _ _ _ _ _ _ _ _ _ _ _ [.ref al]
  have hfr32 : Fr (fun b => b = ib ∨ b = bb) w w32 := hfr27.tr hf32 (fun b hb q8 => by rcases q8 with q8 | q8 | ⟨q8, q7⟩ <;> omega)
  have hS32 := hS27.fr hf32 (fun q8 => by rcases q8 with q8 | q8 | ⟨q8, q7⟩ <;> omega) (fun q8 => by rcases q8 with q8 | q8 | ⟨q8, q7⟩ <;> omega)
  have hK32 := hK2.fr hf32 (fun b hb q8 => by have := hK2.lo b hb; rcases q8 with q8 | q8 | ⟨q8, q7⟩ <;> omega) (fun b q8 => by rcases q8 with q8 | q8 | ⟨q8, q7⟩ <;> omega)
  have hna : ¬ PA (zg z) q2 L2 P al ∧ ¬ PA (zg z) q2 L2 P arr9 := ⟨fun q8 => by have h8 : q2 ≤ al := hK2.lo _ q8; omega, fun q8 => by have h8 : q2 ≤ arr9 := hK2.lo _ q8; have := hK2.hi q8; omega⟩
  refine xr_aload_n dX1_execute_35 rfl (by first | rfl | exact isRef_rf _) ?_
  refine xr_callSX (n9 := 2) (rc' := 1) (rs' := 10) (k_B_run hG hL hK32 hB hA32 hna hcs rfl (by omega)) q2041 q2042 q86 q2043 (by decide +kernel) rfl ⟨by decide, Nat.le_of_ble_eq_true rfl⟩ ⟨Nat.le_of_ble_eq_true rfl, Nat.le_of_ble_eq_true rfl⟩ (Nat.le_of_ble_eq_true rfl) dX1_execute_36 rfl (fun r w36 hw => ?_) ?_
  rotate_left
  · skip
    rintro E qE w9 ⟨cd, k, rr, hr9, h9, hf9⟩
    have hf32w := hf32.1
    have hfr9 : Fr (fun b => b = ib ∨ b = bb) w w9 := hfr32.tr hf9 (fun b hb q8 => by rcases q8 with q8 | q8; have h8 : q2 ≤ b := hK2.lo _ q8; omega; omega)
    have hS9 := hS32.fr hf9 (fun q8 => by rcases q8 with q8 | q8; have h8 : q2 ≤ ib := hK2.lo _ q8; omega; omega) (fun q8 => by rcases q8 with q8 | q8; have h8 : q2 ≤ b20 := hK2.lo _ q8; omega; omega)
    obtain ⟨hxQ, hFQ, hHQ, hOQ, hXQ⟩ := inp_all hG hx hF hH hO hgI hfr9 hS9 hb20'
    rcases h9 with ⟨rfl, rfl⟩ | ⟨rfl, rfl, hob9, hq9⟩
    · skip
      refine xt_catch (name := "BenchBroker$BadCommand") [⟨23, 46, 47, 427⟩] ⟨23, 46, 61, 433⟩ [⟨23, 46, 70, 25⟩] (by rw [htab]; rfl) (fun y hy => by
        simp only [List.mem_cons, List.not_mem_nil, or_false] at hy
        subst hy
        exact Or.inr ⟨by decide, "BenchBroker$SyntaxError", q1886, xn_of (by decide +kernel)⟩) (by decide) (by decide) q1887 q2124 ?_
      refine xr_astore_n (lv' := [some _, some _, some _, none]) dX1_execute_61 (by decide) rfl (by first | rfl | exact isRef_rf _) rfl ?_
      refine xr_throw0 (cls := "java/lang/IllegalStateException") (names := ["java/lang/RuntimeException", "java/lang/Exception"]) (by decide +kernel) (by decide +kernel) q1874 q123 (at_words [97, 546, 555, 567, 570, 572, 547, 548, 139, 140, 549, 554, 568, 588, 536, 589, 538, 590, 540, 550, 552, 542, 1876, 1877, 1878, 695, 527, 695, 696, 697, 698, 529, 698, 699, 700, 547, 531, 1875, 525, 526, 533, 534, 535, 537, 539, 541, 586, 544, 543] (by decide +kernel) (by decide +kernel)) ⟨rfl, rfl⟩ dX1_execute_62 dX1_execute_65 dX1_execute_66 dX1_execute_69 (by rw [htab]; decide) (by decide) (Nat.le_of_ble_eq_true rfl) ⟨Nat.le_of_ble_eq_true rfl, Nat.le_of_ble_eq_true rfl⟩ (fun q9 hq9 => ?_)
      rw [hxp]
      exact Or.inr (Or.inl ⟨rfl, cs, k, rr, he9, hr9, ⟨q, hl, harr, ib, b20, os, ob, L, oS, oE, oR, fH, hxQ, hFQ, hHQ, h8, hOQ⟩, hXQ⟩)
    · skip
      refine xt_catch (name := "BenchBroker$Rejection") [⟨23, 46, 47, 427⟩, ⟨23, 46, 61, 433⟩] ⟨23, 46, 70, 25⟩ [] (by rw [htab]; rfl) (fun y hy => by
        simp only [List.mem_cons, List.not_mem_nil, or_false] at hy
        rcases hy with rfl | rfl
        · exact Or.inr ⟨by decide, "BenchBroker$SyntaxError", q1886, xn_of (by decide +kernel)⟩
        · exact Or.inr ⟨by decide, "BenchBroker$BadCommand", q1887, xn_of (by decide +kernel)⟩) (by decide) (by decide) q1004 q1037 ?_
      refine xr_astore_n (lv' := [some _, some _, some _, none]) dX1_execute_70 (by decide) rfl (by first | rfl | exact isRef_rf _) rfl ?_
      refine xr_aload_n dX1_execute_71 rfl (by first | rfl | exact isRef_rf _) ?_
      refine xr_aload_n dX1_execute_72 rfl (by first | rfl | exact isRef_rf _) ?_
      refine xr_putfield (ci := 13) (T := TX1) (N := 7) (i := 6) (fs' := [_, _, _, _, _, _, _]) hxQ rfl (by decide) in_X1 tyX1 tyX1_ok nmX1 q273 (.inl rfl) rfl dX1_execute_73 (by first | rfl | exact nar_bI _ | exact nar_rf _) (by first | rfl | exact fit_bI _ | exact fit_rf _ _) (by simp) (by rfl) (.inl rfl) (fun hob73 => ?_)
      have hfx : Fr (fun b => b = x) w9 (wput w9 x (.inl (.inr (13, [.ref q, va_rf oS, .ref hl, .ref ib, .ref os, va_rf oE, .ref qE])))) := Fr.put1 _
      have hFZ := hFQ.xs (x := x) hfx (fun b hb => Or.inl hb) hxQ (by decide) ⟨hgx, hgl⟩
      have hHZ := hHQ.fx hfx hxQ (by decide) ⟨hgx, hgl⟩
      have hOZ := hOQ.xs (x := x) hfx (fun b hb => Or.inl hb) hxQ hHQ.1 ⟨hgx, hgl⟩
      have hXZ := hXQ.tr (FX.xs (x := x) hfx (fun b hb => Or.inl hb) hxQ hHQ.1)
      have hob9 := hob9.fr hfx (fun q8 => (hob9.apart hxQ (by decide)) q8)
      refine xr_throw0 (cls := "java/lang/UnsupportedOperationException") (names := ["java/lang/RuntimeException", "java/lang/Exception"]) (by decide +kernel) (by decide +kernel) q1170 q117 (at_words [97, 546, 555, 567, 570, 572, 547, 548, 139, 140, 549, 554, 568, 588, 536, 589, 538, 590, 540, 550, 552, 542, 1180, 1181, 1182, 695, 527, 695, 696, 697, 698, 529, 698, 699, 700, 547, 531, 1179, 1171, 1172, 1173, 565, 1174, 1175, 1176, 1177, 586, 544, 1178] (by decide +kernel) (by decide +kernel)) ⟨rfl, rfl⟩ dX1_execute_76 dX1_execute_79 dX1_execute_80 dX1_execute_83 (by rw [htab]; decide) (by decide) (Nat.le_of_ble_eq_true rfl) ⟨Nat.le_of_ble_eq_true rfl, Nat.le_of_ble_eq_true rfl⟩ (fun q9 hq9 => ?_)
      rw [hxp]
      exact Or.inr (Or.inr ⟨rfl, cs, k, rr, he9, hr9, ⟨q, hl, harr, ib, b20, os, ob, L, oS, oE, some qE, fH, hob73, hFZ, hHZ, h8, hOZ.1, hOZ.2.1, hOZ.2.2.1, hOZ.2.2.2.1, hOZ.2.2.2.2.1, Or.inr ⟨_, qE, rfl, rfl, hob9⟩⟩, hXZ⟩)
  obtain ⟨rfl, L3, P3, hr9, hK36, hB36, hf36⟩ := hw
  show XJ _ _ _ _ _ _ _ _ _ _ _ _ [.int (iI cs.length)]
  have hf32w := hf32.1
  have hfr36 : Fr (fun b => b = ib ∨ b = bb) w w36 := hfr32.tr hf36 (fun b hb q8 => by rcases q8 with q8 | q8; have h8 : q2 ≤ b := hK2.lo _ q8; omega; omega)
  have hS36 := hS32.fr hf36 (fun q8 => by rcases q8 with q8 | q8; have h8 : q2 ≤ ib := hK2.lo _ q8; omega; omega) (fun q8 => by rcases q8 with q8 | q8; have h8 : q2 ≤ b20 := hK2.lo _ q8; omega; omega)
  obtain ⟨hxQ, hFQ, hHQ, hOQ, hXQ⟩ := inp_all hG hx hF hH hO hgI hfr36 hS36 hb20'
  have hlo36 : ∀ b, PA (zg z) q2 L3 P3 b → q2 ≤ b := fun b hb => by
    rcases hK36.lo b hb with h9 | h9
    · exact hK2.lo _ h9
    · have := hK2.hi (Or.inl rfl : PA (zg z) q2 L2 P q2); omega
  have hF36 : FP (zg z) w36 hl harr q2 L3 P3 := ⟨⟨_, hK36⟩, fun h9 => by have h8 : q2 ≤ hl := hlo36 _ h9; omega, fun h9 => by have h8 : q2 ≤ harr := hlo36 _ h9; omega⟩
  refine xr_istore_n (lv' := [some _, some _, some _, some _]) dX1_execute_39 (by decide) rfl rfl ?_
  refine xr_aload_n dX1_execute_40 rfl (by first | rfl | exact isRef_rf _) ?_
  refine xr_aload_n dX1_execute_41 rfl (by first | rfl | exact isRef_rf _) ?_
  refine xr_iload_n dX1_execute_42 rfl ?_
  refine xr_callV (n9 := 2) (rc' := 0) (rs' := 0) (k_X_commit hG hL hxQ hFQ hHQ h8 hF36) hxQ rfl q1155 q1157 qs17 q86 q1158 (by decide +kernel) rfl ⟨by decide, Nat.le_of_ble_eq_true rfl⟩ ⟨Nat.le_of_ble_eq_true rfl, Nat.le_of_ble_eq_true rfl⟩ (Nat.le_of_ble_eq_true rfl) dX1_execute_43 rfl (fun r w43 hw => ?_) (fun _ _ _ h => h.elim)
  obtain ⟨rfl, arrZ, fZ, h1, h2, h3, h4, h5⟩ := hw
  show XJ _ _ _ _ _ _ _ _ _ _ _ _ [.int (iI cs.length)]
  have hOZ := hOQ.xs2 h5 (fun b hb => hb) hxQ hHQ.1 ⟨hgx, hgl⟩ h3
  have hXZ := hXQ.tr (FX.xs h5 (fun b hb => hb) hxQ hHQ.1)
  refine xr_ireturn rfl rfl dX1_execute_46 ?_
  rw [hpo]
  exact ⟨cs, P3, he9, hr9, rfl, ⟨q2, hl, arrZ, ib, b20, os, ob, L3, oS, oE, oR, fZ, h1, h4, h2, pushH_len h8, hOZ⟩, hB36.mono (by omega), hXZ⟩
