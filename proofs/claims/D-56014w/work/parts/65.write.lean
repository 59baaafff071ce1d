/-! 65.write.lean.txt (written by tools/walker.py)  -/
set_option maxRecDepth 100000
theorem k_X_writeBench {g : GG} {w : WW} {x : Nat} {n0 : Nat → Prop} {q : Nat} {L : Int → Nat} {P : Int → Int} {N : Int} {v1 v2 v3 v4 v5 v6 : Value} {b : Int} (hG : Base g) (hJ : KJ g) (hx : Ob w x 13 [.ref q, v1, v2, v3, v4, v5, v6]) (hK : PK g w n0 q L P) (hB : PB P N) (hb : (-2147483648 ≤ b ∧ b < 2147483648)) : Ct g yX1_writeBench (.code yX1_writeBench cX1_writeBench 4 (some .int)) 14 3144 20 1014 w [.ref x, .int (iI b)] (fun r_ w1 => (0 ≤ b ∧ b < P 0) ∧ ∃ t b1 : Nat, r_ = some (.int (iI (wBench P b (0, fun _ => 0)).1)) ∧ Ob w1 x 13 [.ref q, v1, v2, v3, .ref t, v5, v6] ∧ SO g w1 t b1 (wBench P b (0, fun _ => 0)).1 (wBench P b (0, fun _ => 0)).2 ∧ w.2 ≤ t ∧ w.2 ≤ b1 ∧ gb g ≤ b1 ∧ Fr (fun y => y = x) w w1) (fun E a9 w1 => E = "java/lang/IndexOutOfBoundsException" ∧ ¬ (0 ≤ b ∧ b < P 0) ∧ w1 = w) := by
  refine Ct.of (lv := [some _, some _, none, none]) hG (by decide +kernel) (Nat.le_of_ble_eq_true rfl) rfl ?_
  intro z hg hpo hxp hnm htab
  subst hg
  refine xr_aload_n dX1_writeBench_0 rfl (by first | rfl | exact isRef_rf _) ?_
  refine xr_iload_n dX1_writeBench_1 rfl ?_
  refine xr_callV (n9 := 1) (rc' := 19) (rs' := 1008) (k_X_requireBench hG hx hK hB hb) hx rfl q1259 q1261 qs19 q86 q1262 (by decide +kernel) rfl ⟨by decide, Nat.le_of_ble_eq_true rfl⟩ ⟨Nat.le_of_ble_eq_true rfl, Nat.le_of_ble_eq_true rfl⟩ (Nat.le_of_ble_eq_true rfl) dX1_writeBench_2 rfl (fun r w2 hw => ?_) ?_
  rotate_left
  · skip
    rintro E q9 w9 ⟨rfl, hn9, rfl⟩
    exact xt_out (fun x hx => (htab x hx).elim) (by rw [hxp]; exact ⟨rfl, hn9, rfl⟩)
  obtain ⟨hb1, rfl, hwe⟩ := hw
  subst w2
  show XJ _ _ _ _ _ _ _ _ _ _ _ _ [.ref (L (10 + b))]
  refine xr_astore_n (lv' := [some _, some _, some _, none]) dX1_writeBench_5 (by decide) rfl (by first | rfl | exact isRef_rf _) rfl ?_
  refine xr_new (ci := 15) (T := TJ4) (N := 4) (n9 := 4) (fs := [.null, .int (iI 0), .int (iI 0), .int (iI 0)]) (rc' := 18) (rs' := 1004) rfl in_J4 tyJ4 tyJ4_ok q233 q234 q93 (by intro j hj; rcases (show j = 0 ∨ j = 1 ∨ j = 2 ∨ j = 3 by omega) with rfl | rfl | rfl | rfl <;> rfl) ⟨Nat.le_of_ble_eq_true rfl, Nat.le_of_ble_eq_true rfl⟩ dX1_writeBench_6 (fun a6 ga6 hob6 => ?_)
  have hmn6 := Mo.new ga6 ga6 (.inl (.inr (15, [.null, .int (iI 0), .int (iI 0), .int (iI 0)])))
  refine xr_dup dX1_writeBench_9 (by first | rfl | exact cat_rf _) ?_
  refine xr_callI (n9 := 0) (rc' := 17) (rs' := 988) (k_SB_init (fun _ => 0) hG hJ hob6) q235 q236 q93 q237 rfl (by decide +kernel) rfl ⟨by decide, Nat.le_of_ble_eq_true rfl⟩ ⟨Nat.le_of_ble_eq_true rfl, Nat.le_of_ble_eq_true rfl⟩ (Nat.le_of_ble_eq_true rfl) dX1_writeBench_10 rfl (fun r w10 hw => ?_) (fun _ _ _ h => h.elim)
  obtain ⟨rfl, b10, hS10, hbb10, hf10⟩ := hw
  have hmo10 : Mo w.2 w w10 := hmn6.tr (hf10.mo (n := w.2) (fun y _ (q9 : y = a6) => by omega)) (Nat.le_refl _)
  have hbg10 : w.2 ≤ b10 := by have := hmn6.1; omega
  obtain ⟨s10, hs10⟩ : ∃ s : Tx, s = (0, fun _ => 0) := ⟨_, rfl⟩
  have hS10 : SB (zg z) w10 a6 b10 s10.1 s10.2 := by rw [hs10]; exact hS10
  have hn10 : s10.1 ≤ 0 := by rw [hs10]; exact Nat.le_refl _
  have hbb := hB.b hb1
  have hrr := rent_bd hB hb1.1 hb1.2
  have hnn := noise_bd (r := P (10 + 6 * b)) (c := P (11 + 6 * b)) hB
  have hgg := hB.g
  refine xr_astore_n (lv' := [some _, some _, some _, some _]) dX1_writeBench_13 (by decide) rfl (by first | rfl | exact isRef_rf _) rfl ?_
  refine xr_aload_n dX1_writeBench_14 rfl (by first | rfl | exact isRef_rf _) ?_
  refine xr_iload_n dX1_writeBench_15 rfl ?_
  refine xr_callV (n9 := 1) (rc' := 16) (rs' := 918) (k_SB_appendI hG hJ hS10 (by omega) (by omega)) (hS10.ob.choose_spec) rfl q1598 q1599 q1600 q93 q1601 (by decide +kernel) rfl ⟨by decide, Nat.le_of_ble_eq_true rfl⟩ ⟨Nat.le_of_ble_eq_true rfl, Nat.le_of_ble_eq_true rfl⟩ (Nat.le_of_ble_eq_true rfl) dX1_writeBench_16 rfl (fun r w16 hw => ?_) (fun _ _ _ h => h.elim)
  obtain ⟨rfl, b16, hS16, hbb16, hf16⟩ := hw
  show XJ _ _ _ _ _ _ _ _ _ _ _ _ [.ref a6]
  have hmo16 : Mo w.2 w w16 := hmo10.tr (hf16.mo (n := w.2) (fun y _ q9 => by rcases q9 with q9 | q9 <;> omega)) (Nat.le_refl _)
  have hbg16 : w.2 ≤ b16 := by have := hmo10.1; omega
  obtain ⟨s16, hs16⟩ : ∃ s, s = tN s10 (b) := ⟨_, rfl⟩
  have hS16 : SB (zg z) w16 a6 b16 s16.1 s16.2 := by rw [hs16]; exact hS16
  have hn16 : s16.1 ≤ 2 := by rw [hs16]; have := tN_len (s := s10) (v := b); omega
  have hK16 := hK.ext hmo16
  refine xr_bipush dX1_writeBench_19 (by decide) ?_
  refine xr_callV (n9 := 1) (rc' := 15) (rs' := 848) (k_SB_appendC hG hJ hS16 (by omega) (by omega)) (hS16.ob.choose_spec) rfl q1671 q1672 q1673 q93 q1674 (by decide +kernel) rfl ⟨by decide, Nat.le_of_ble_eq_true rfl⟩ ⟨Nat.le_of_ble_eq_true rfl, Nat.le_of_ble_eq_true rfl⟩ (Nat.le_of_ble_eq_true rfl) dX1_writeBench_21 rfl (fun r w21 hw => ?_) (fun _ _ _ h => h.elim)
  obtain ⟨rfl, b21, hS21, hbb21, hf21⟩ := hw
  show XJ _ _ _ _ _ _ _ _ _ _ _ _ [.ref a6]
  have hmo21 : Mo w.2 w w21 := hmo16.tr (hf21.mo (n := w.2) (fun y _ q9 => by rcases q9 with q9 | q9 <;> omega)) (Nat.le_refl _)
  have hbg21 : w.2 ≤ b21 := by have := hmo16.1; omega
  obtain ⟨s21, hs21⟩ : ∃ s, s = tC s16 (64) := ⟨_, rfl⟩
  have hS21 : SB (zg z) w21 a6 b21 s21.1 s21.2 := by rw [hs21]; exact hS21
  have hn21 : s21.1 ≤ 3 := by rw [hs21]; have := tC_len (s := s16) (c := 64); omega
  have hK21 := hK.ext hmo21
  refine xr_aload_n dX1_writeBench_24 rfl (by first | rfl | exact isRef_rf _) ?_
  refine xr_callVU (n9 := 0) (rc' := 15) (rs' := 848) (k_row_B hG (hK21.be b hb1.1 hb1.2)) (hK21.be b hb1.1 hb1.2) rfl q806 q329 rfl q332 q331 q108 q333 (by decide +kernel) rfl ⟨by decide, Nat.le_of_ble_eq_true rfl⟩ ⟨Nat.le_of_ble_eq_true rfl, Nat.le_of_ble_eq_true rfl⟩ (Nat.le_of_ble_eq_true rfl) dX1_writeBench_25 rfl (xk_r ?_) (fun _ _ _ h => h.elim)
  refine xr_callV (n9 := 1) (rc' := 14) (rs' := 778) (k_SB_appendI hG hJ hS21 (by omega) (by omega)) (hS21.ob.choose_spec) rfl q1598 q1599 q1600 q93 q1601 (by decide +kernel) rfl ⟨by decide, Nat.le_of_ble_eq_true rfl⟩ ⟨Nat.le_of_ble_eq_true rfl, Nat.le_of_ble_eq_true rfl⟩ (Nat.le_of_ble_eq_true rfl) dX1_writeBench_28 rfl (fun r w28 hw => ?_) (fun _ _ _ h => h.elim)
  obtain ⟨rfl, b28, hS28, hbb28, hf28⟩ := hw
  show XJ _ _ _ _ _ _ _ _ _ _ _ _ [.ref a6]
  have hmo28 : Mo w.2 w w28 := hmo21.tr (hf28.mo (n := w.2) (fun y _ q9 => by rcases q9 with q9 | q9 <;> omega)) (Nat.le_refl _)
  have hbg28 : w.2 ≤ b28 := by have := hmo21.1; omega
  obtain ⟨s28, hs28⟩ : ∃ s, s = tN s21 (P (10 + 6 * b)) := ⟨_, rfl⟩
  have hS28 : SB (zg z) w28 a6 b28 s28.1 s28.2 := by rw [hs28]; exact hS28
  have hn28 : s28.1 ≤ 5 := by rw [hs28]; have := tN_len (s := s21) (v := P (10 + 6 * b)); omega
  have hK28 := hK.ext hmo28
  refine xr_bipush dX1_writeBench_31 (by decide) ?_
  refine xr_callV (n9 := 1) (rc' := 13) (rs' := 708) (k_SB_appendC hG hJ hS28 (by omega) (by omega)) (hS28.ob.choose_spec) rfl q1671 q1672 q1673 q93 q1674 (by decide +kernel) rfl ⟨by decide, Nat.le_of_ble_eq_true rfl⟩ ⟨Nat.le_of_ble_eq_true rfl, Nat.le_of_ble_eq_true rfl⟩ (Nat.le_of_ble_eq_true rfl) dX1_writeBench_33 rfl (fun r w33 hw => ?_) (fun _ _ _ h => h.elim)
  obtain ⟨rfl, b33, hS33, hbb33, hf33⟩ := hw
  show XJ _ _ _ _ _ _ _ _ _ _ _ _ [.ref a6]
  have hmo33 : Mo w.2 w w33 := hmo28.tr (hf33.mo (n := w.2) (fun y _ q9 => by rcases q9 with q9 | q9 <;> omega)) (Nat.le_refl _)
  have hbg33 : w.2 ≤ b33 := by have := hmo28.1; omega
  obtain ⟨s33, hs33⟩ : ∃ s, s = tC s28 (44) := ⟨_, rfl⟩
  have hS33 : SB (zg z) w33 a6 b33 s33.1 s33.2 := by rw [hs33]; exact hS33
  have hn33 : s33.1 ≤ 6 := by rw [hs33]; have := tC_len (s := s28) (c := 44); omega
  have hK33 := hK.ext hmo33
  refine xr_aload_n dX1_writeBench_36 rfl (by first | rfl | exact isRef_rf _) ?_
  refine xr_callVU (n9 := 0) (rc' := 13) (rs' := 708) (k_column_B hG (hK33.be b hb1.1 hb1.2)) (hK33.be b hb1.1 hb1.2) rfl q807 q335 rfl q338 q337 q108 q339 (by decide +kernel) rfl ⟨by decide, Nat.le_of_ble_eq_true rfl⟩ ⟨Nat.le_of_ble_eq_true rfl, Nat.le_of_ble_eq_true rfl⟩ (Nat.le_of_ble_eq_true rfl) dX1_writeBench_37 rfl (xk_r ?_) (fun _ _ _ h => h.elim)
  refine xr_callV (n9 := 1) (rc' := 12) (rs' := 638) (k_SB_appendI hG hJ hS33 (by omega) (by omega)) (hS33.ob.choose_spec) rfl q1598 q1599 q1600 q93 q1601 (by decide +kernel) rfl ⟨by decide, Nat.le_of_ble_eq_true rfl⟩ ⟨Nat.le_of_ble_eq_true rfl, Nat.le_of_ble_eq_true rfl⟩ (Nat.le_of_ble_eq_true rfl) dX1_writeBench_40 rfl (fun r w40 hw => ?_) (fun _ _ _ h => h.elim)
  obtain ⟨rfl, b40, hS40, hbb40, hf40⟩ := hw
  show XJ _ _ _ _ _ _ _ _ _ _ _ _ [.ref a6]
  have hmo40 : Mo w.2 w w40 := hmo33.tr (hf40.mo (n := w.2) (fun y _ q9 => by rcases q9 with q9 | q9 <;> omega)) (Nat.le_refl _)
  have hbg40 : w.2 ≤ b40 := by have := hmo33.1; omega
  obtain ⟨s40, hs40⟩ : ∃ s, s = tN s33 (P (11 + 6 * b)) := ⟨_, rfl⟩
  have hS40 : SB (zg z) w40 a6 b40 s40.1 s40.2 := by rw [hs40]; exact hS40
  have hn40 : s40.1 ≤ 8 := by rw [hs40]; have := tN_len (s := s33) (v := P (11 + 6 * b)); omega
  have hK40 := hK.ext hmo40
  refine xr_bipush dX1_writeBench_43 (by decide) ?_
  refine xr_callV (n9 := 1) (rc' := 11) (rs' := 568) (k_SB_appendC hG hJ hS40 (by omega) (by omega)) (hS40.ob.choose_spec) rfl q1671 q1672 q1673 q93 q1674 (by decide +kernel) rfl ⟨by decide, Nat.le_of_ble_eq_true rfl⟩ ⟨Nat.le_of_ble_eq_true rfl, Nat.le_of_ble_eq_true rfl⟩ (Nat.le_of_ble_eq_true rfl) dX1_writeBench_45 rfl (fun r w45 hw => ?_) (fun _ _ _ h => h.elim)
  obtain ⟨rfl, b45, hS45, hbb45, hf45⟩ := hw
  show XJ _ _ _ _ _ _ _ _ _ _ _ _ [.ref a6]
  have hmo45 : Mo w.2 w w45 := hmo40.tr (hf45.mo (n := w.2) (fun y _ q9 => by rcases q9 with q9 | q9 <;> omega)) (Nat.le_refl _)
  have hbg45 : w.2 ≤ b45 := by have := hmo40.1; omega
  obtain ⟨s45, hs45⟩ : ∃ s, s = tC s40 (36) := ⟨_, rfl⟩
  have hS45 : SB (zg z) w45 a6 b45 s45.1 s45.2 := by rw [hs45]; exact hS45
  have hn45 : s45.1 ≤ 9 := by rw [hs45]; have := tC_len (s := s40) (c := 36); omega
  have hK45 := hK.ext hmo45
  refine xr_aload_n dX1_writeBench_48 rfl (by first | rfl | exact isRef_rf _) ?_
  refine xr_getfield (ci := 13) (T := TX1) (N := 7) (i := 0) (hx.ext hmo45) rfl (by decide) in_X1 q267 (.inl rfl) dX1_writeBench_49 (by rfl) ?_
  refine xr_aload_n dX1_writeBench_52 rfl (by first | rfl | exact isRef_rf _) ?_
  refine xr_callV (n9 := 1) (rc' := 10) (rs' := 566) (k_P_rentOf hG hK45 hB hb1) hK45.hq rfl q1284 q873 q874 q87 q875 (by decide +kernel) rfl ⟨by decide, Nat.le_of_ble_eq_true rfl⟩ ⟨Nat.le_of_ble_eq_true rfl, Nat.le_of_ble_eq_true rfl⟩ (Nat.le_of_ble_eq_true rfl) dX1_writeBench_53 rfl (xk_e fun w53 hm53 => ?_) (fun _ _ _ h => h.elim)
  have hS53 := hS45.ext hm53
  have hmo53 := hmo45.tr hm53 hmo45.1
  have hK53 := hK.ext hmo53
  refine xr_callV (n9 := 1) (rc' := 9) (rs' := 496) (k_SB_appendI hG hJ hS53 (by omega) (by omega)) (hS53.ob.choose_spec) rfl q1598 q1599 q1600 q93 q1601 (by decide +kernel) rfl ⟨by decide, Nat.le_of_ble_eq_true rfl⟩ ⟨Nat.le_of_ble_eq_true rfl, Nat.le_of_ble_eq_true rfl⟩ (Nat.le_of_ble_eq_true rfl) dX1_writeBench_56 rfl (fun r w56 hw => ?_) (fun _ _ _ h => h.elim)
  obtain ⟨rfl, b56, hS56, hbb56, hf56⟩ := hw
  show XJ _ _ _ _ _ _ _ _ _ _ _ _ [.ref a6]
  have hmo56 : Mo w.2 w w56 := hmo53.tr (hf56.mo (n := w.2) (fun y _ q9 => by rcases q9 with q9 | q9 <;> omega)) (Nat.le_refl _)
  have hbg56 : w.2 ≤ b56 := by have := hmo53.1; omega
  obtain ⟨s56, hs56⟩ : ∃ s, s = tN s45 (rent P b) := ⟨_, rfl⟩
  have hS56 : SB (zg z) w56 a6 b56 s56.1 s56.2 := by rw [hs56]; exact hS56
  have hn56 : s56.1 ≤ 11 := by rw [hs56]; have := tN_len (s := s45) (v := rent P b); omega
  have hK56 := hK.ext hmo56
  refine xr_bipush dX1_writeBench_59 (by decide) ?_
  refine xr_callV (n9 := 1) (rc' := 8) (rs' := 426) (k_SB_appendC hG hJ hS56 (by omega) (by omega)) (hS56.ob.choose_spec) rfl q1671 q1672 q1673 q93 q1674 (by decide +kernel) rfl ⟨by decide, Nat.le_of_ble_eq_true rfl⟩ ⟨Nat.le_of_ble_eq_true rfl, Nat.le_of_ble_eq_true rfl⟩ (Nat.le_of_ble_eq_true rfl) dX1_writeBench_61 rfl (fun r w61 hw => ?_) (fun _ _ _ h => h.elim)
  obtain ⟨rfl, b61, hS61, hbb61, hf61⟩ := hw
  show XJ _ _ _ _ _ _ _ _ _ _ _ _ [.ref a6]
  have hmo61 : Mo w.2 w w61 := hmo56.tr (hf61.mo (n := w.2) (fun y _ q9 => by rcases q9 with q9 | q9 <;> omega)) (Nat.le_refl _)
  have hbg61 : w.2 ≤ b61 := by have := hmo56.1; omega
  obtain ⟨s61, hs61⟩ : ∃ s, s = tC s56 (126) := ⟨_, rfl⟩
  have hS61 : SB (zg z) w61 a6 b61 s61.1 s61.2 := by rw [hs61]; exact hS61
  have hn61 : s61.1 ≤ 12 := by rw [hs61]; have := tC_len (s := s56) (c := 126); omega
  have hK61 := hK.ext hmo61
  refine xr_aload_n dX1_writeBench_64 rfl (by first | rfl | exact isRef_rf _) ?_
  refine xr_getfield (ci := 13) (T := TX1) (N := 7) (i := 0) (hx.ext hmo61) rfl (by decide) in_X1 q267 (.inl rfl) dX1_writeBench_65 (by rfl) ?_
  refine xr_aload_n dX1_writeBench_68 rfl (by first | rfl | exact isRef_rf _) ?_
  refine xr_callV (n9 := 1) (rc' := 7) (rs' := 424) (k_P_noiseOf hG hK61 hB hb1) hK61.hq rfl q1710 q325 q326 q87 q327 (by decide +kernel) rfl ⟨by decide, Nat.le_of_ble_eq_true rfl⟩ ⟨Nat.le_of_ble_eq_true rfl, Nat.le_of_ble_eq_true rfl⟩ (Nat.le_of_ble_eq_true rfl) dX1_writeBench_69 rfl (xk_e fun w69 hm69 => ?_) (fun _ _ _ h => h.elim)
  have hS69 := hS61.ext hm69
  have hmo69 := hmo61.tr hm69 hmo61.1
  have hK69 := hK.ext hmo69
  refine xr_callV (n9 := 1) (rc' := 6) (rs' := 354) (k_SB_appendI hG hJ hS69 (by omega) (by unfold noiseOf; omega)) (hS69.ob.choose_spec) rfl q1598 q1599 q1600 q93 q1601 (by decide +kernel) rfl ⟨by decide, Nat.le_of_ble_eq_true rfl⟩ ⟨Nat.le_of_ble_eq_true rfl, Nat.le_of_ble_eq_true rfl⟩ (Nat.le_of_ble_eq_true rfl) dX1_writeBench_72 rfl (fun r w72 hw => ?_) (fun _ _ _ h => h.elim)
  obtain ⟨rfl, b72, hS72, hbb72, hf72⟩ := hw
  show XJ _ _ _ _ _ _ _ _ _ _ _ _ [.ref a6]
  have hmo72 : Mo w.2 w w72 := hmo69.tr (hf72.mo (n := w.2) (fun y _ q9 => by rcases q9 with q9 | q9 <;> omega)) (Nat.le_refl _)
  have hbg72 : w.2 ≤ b72 := by have := hmo69.1; omega
  obtain ⟨s72, hs72⟩ : ∃ s, s = tN s61 (noiseOf P b) := ⟨_, rfl⟩
  have hS72 : SB (zg z) w72 a6 b72 s72.1 s72.2 := by rw [hs72]; exact hS72
  have hn72 : s72.1 ≤ 14 := by rw [hs72]; have := tN_len (s := s61) (v := noiseOf P b); omega
  have hK72 := hK.ext hmo72
  refine xr_pop dX1_writeBench_75 (by first | rfl | exact cat_rf _) ?_
  refine xr_aload_n dX1_writeBench_76 rfl (by first | rfl | exact isRef_rf _) ?_
  refine xr_callV (n9 := 0) (rc' := 6) (rs' := 354) (k_B_isLet hG (hK72.be b hb1.1 hb1.2)) (hK72.be b hb1.1 hb1.2) rfl q1449 q717 q718 q114 q719 (by decide +kernel) rfl ⟨by decide, Nat.le_of_ble_eq_true rfl⟩ ⟨Nat.le_of_ble_eq_true rfl, Nat.le_of_ble_eq_true rfl⟩ (Nat.le_of_ble_eq_true rfl) dX1_writeBench_77 rfl (xk_r ?_) (fun _ _ _ h => h.elim)
  rw [opt_is]
  have hw0 : s72 = wBench0 P b (0, fun _ => 0) := by rw [hs72, hs61, hs56, hs45, hs40, hs33, hs28, hs21, hs16, hs10]; rfl
  refine xr_ifb_eq (tgt := 112) dX1_writeBench_80 (by decide) (fun c80 => ?_) (fun c80 => ?_)
  · skip
    try simp only [decide_eq_true_eq, decide_eq_false_iff_not] at c80
    have c80 : P (13 + 6 * b) = 0 := by omega
    have hSF := hS72
    have hmoF := hmo72
    have hnF : s72.1 ≤ 40 := by omega
    have hwF : s72 = wBench P b (0, fun _ => 0) := by rw [hw0, wBench, if_pos c80]
    obtain ⟨sF, hsF⟩ : ∃ s, s = s72 := ⟨_, rfl⟩
    rw [← hsF] at hSF hwF
    refine xr_aload_n dX1_writeBench_112 rfl (by first | rfl | exact isRef_rf _) ?_
    refine xr_aload_n dX1_writeBench_113 rfl (by first | rfl | exact isRef_rf _) ?_
    refine xr_callV (n9 := 1) (rc' := 4) (rs' := 280) (k_X_write hG hJ (hx.ext hmoF) hSF) (hx.ext hmoF) rfl q1711 q1713 qs25 q86 q1714 (by decide +kernel) rfl ⟨by decide, Nat.le_of_ble_eq_true rfl⟩ ⟨Nat.le_of_ble_eq_true rfl, Nat.le_of_ble_eq_true rfl⟩ (Nat.le_of_ble_eq_true rfl) dX1_writeBench_114 rfl (fun r w114 hw => ?_) (fun _ _ _ h => h.elim)
    obtain ⟨rfl, t, b1, hx9, hs9, ht9, hb9, hgb9, hf9⟩ := hw
    have hmoF1 := hmoF.1
    show XJ _ _ _ _ _ _ _ _ _ _ _ _ [.int (iI sF.1)]
    refine xr_ireturn rfl rfl dX1_writeBench_117 ?_
    rw [hpo]
    rw [← hwF]
    exact ⟨hb1, t, b1, rfl, hx9, hs9, by omega, by omega, hgb9, (hmoF.fr.to (S' := fun y => y = x) (fun y hy (q9 : w.2 ≤ y) => by omega)).tr hf9 (fun _ _ q9 => q9)⟩
  · skip
    try simp only [decide_eq_true_eq, decide_eq_false_iff_not] at c80
    have hbt := hK.bt b hb1.1 hb1.2
    refine xr_aload_n dX1_writeBench_83 rfl (by first | rfl | exact isRef_rf _) ?_
    refine xr_bipush dX1_writeBench_84 (by decide) ?_
    refine xr_callV (n9 := 1) (rc' := 5) (rs' := 284) (k_SB_appendC hG hJ hS72 (by omega) (by omega)) (hS72.ob.choose_spec) rfl q1671 q1672 q1673 q93 q1674 (by decide +kernel) rfl ⟨by decide, Nat.le_of_ble_eq_true rfl⟩ ⟨Nat.le_of_ble_eq_true rfl, Nat.le_of_ble_eq_true rfl⟩ (Nat.le_of_ble_eq_true rfl) dX1_writeBench_86 rfl (fun r w86 hw => ?_) (fun _ _ _ h => h.elim)
    obtain ⟨rfl, b86, hS86, hbb86, hf86⟩ := hw
    show XJ _ _ _ _ _ _ _ _ _ _ _ _ [.ref a6]
    have hmo86 : Mo w.2 w w86 := hmo72.tr (hf86.mo (n := w.2) (fun y _ q9 => by rcases q9 with q9 | q9 <;> omega)) (Nat.le_refl _)
    have hbg86 : w.2 ≤ b86 := by have := hmo72.1; omega
    obtain ⟨s86, hs86⟩ : ∃ s, s = tC s72 (61) := ⟨_, rfl⟩
    have hS86 : SB (zg z) w86 a6 b86 s86.1 s86.2 := by rw [hs86]; exact hS86
    have hn86 : s86.1 ≤ 15 := by rw [hs86]; have := tC_len (s := s72) (c := 61); omega
    have hK86 := hK.ext hmo86
    refine xr_aload_n dX1_writeBench_89 rfl (by first | rfl | exact isRef_rf _) ?_
    refine xr_getfieldN (ci := 3) (T := TX10) (N := 7) (i := 4) (hK86.be b hb1.1 hb1.2) rfl (by decide) in_X10 q816 (.inl rfl) dX1_writeBench_90 (by rfl) ?_
    rw [opt_ne c80]
    show XJ _ _ _ _ _ _ _ _ _ _ _ _ [.ref (L (50 + (P (13 + 6 * b) - 1))), _]
    refine xr_callVU (n9 := 0) (rc' := 5) (rs' := 284) (k_index_T hG (hK86.te (P (13 + 6 * b) - 1) (by omega) (by omega))) (hK86.te (P (13 + 6 * b) - 1) (by omega) (by omega)) rfl q1461 q1117 rfl q804 q1118 q107 q805 (by decide +kernel) rfl ⟨by decide, Nat.le_of_ble_eq_true rfl⟩ ⟨Nat.le_of_ble_eq_true rfl, Nat.le_of_ble_eq_true rfl⟩ (Nat.le_of_ble_eq_true rfl) dX1_writeBench_93 rfl (xk_r ?_) (fun _ _ _ h => h.elim)
    refine xr_callV (n9 := 1) (rc' := 4) (rs' := 214) (k_SB_appendI hG hJ hS86 (by omega) (by omega)) (hS86.ob.choose_spec) rfl q1598 q1599 q1600 q93 q1601 (by decide +kernel) rfl ⟨by decide, Nat.le_of_ble_eq_true rfl⟩ ⟨Nat.le_of_ble_eq_true rfl, Nat.le_of_ble_eq_true rfl⟩ (Nat.le_of_ble_eq_true rfl) dX1_writeBench_96 rfl (fun r w96 hw => ?_) (fun _ _ _ h => h.elim)
    obtain ⟨rfl, b96, hS96, hbb96, hf96⟩ := hw
    show XJ _ _ _ _ _ _ _ _ _ _ _ _ [.ref a6]
    have hmo96 : Mo w.2 w w96 := hmo86.tr (hf96.mo (n := w.2) (fun y _ q9 => by rcases q9 with q9 | q9 <;> omega)) (Nat.le_refl _)
    have hbg96 : w.2 ≤ b96 := by have := hmo86.1; omega
    obtain ⟨s96, hs96⟩ : ∃ s, s = tN s86 (P (13 + 6 * b) - 1) := ⟨_, rfl⟩
    have hS96 : SB (zg z) w96 a6 b96 s96.1 s96.2 := by rw [hs96]; exact hS96
    have hn96 : s96.1 ≤ 17 := by rw [hs96]; have := tN_len (s := s86) (v := P (13 + 6 * b) - 1); omega
    have hK96 := hK.ext hmo96
    refine xr_bipush dX1_writeBench_99 (by decide) ?_
    refine xr_callV (n9 := 1) (rc' := 3) (rs' := 144) (k_SB_appendC hG hJ hS96 (by omega) (by omega)) (hS96.ob.choose_spec) rfl q1671 q1672 q1673 q93 q1674 (by decide +kernel) rfl ⟨by decide, Nat.le_of_ble_eq_true rfl⟩ ⟨Nat.le_of_ble_eq_true rfl, Nat.le_of_ble_eq_true rfl⟩ (Nat.le_of_ble_eq_true rfl) dX1_writeBench_101 rfl (fun r w101 hw => ?_) (fun _ _ _ h => h.elim)
    obtain ⟨rfl, b101, hS101, hbb101, hf101⟩ := hw
    show XJ _ _ _ _ _ _ _ _ _ _ _ _ [.ref a6]
    have hmo101 : Mo w.2 w w101 := hmo96.tr (hf101.mo (n := w.2) (fun y _ q9 => by rcases q9 with q9 | q9 <;> omega)) (Nat.le_refl _)
    have hbg101 : w.2 ≤ b101 := by have := hmo96.1; omega
    obtain ⟨s101, hs101⟩ : ∃ s, s = tC s96 (47) := ⟨_, rfl⟩
    have hS101 : SB (zg z) w101 a6 b101 s101.1 s101.2 := by rw [hs101]; exact hS101
    have hn101 : s101.1 ≤ 18 := by rw [hs101]; have := tC_len (s := s96) (c := 47); omega
    have hK101 := hK.ext hmo101
    refine xr_aload_n dX1_writeBench_104 rfl (by first | rfl | exact isRef_rf _) ?_
    refine xr_getfieldN (ci := 3) (T := TX10) (N := 7) (i := 6) (hK101.be b hb1.1 hb1.2) rfl (by decide) in_X10 q821 (.inl rfl) dX1_writeBench_105 (by rfl) ?_
    refine xr_callV (n9 := 1) (rc' := 2) (rs' := 74) (k_SB_appendI hG hJ hS101 (by omega) (by omega)) (hS101.ob.choose_spec) rfl q1598 q1599 q1600 q93 q1601 (by decide +kernel) rfl ⟨by decide, Nat.le_of_ble_eq_true rfl⟩ ⟨Nat.le_of_ble_eq_true rfl, Nat.le_of_ble_eq_true rfl⟩ (Nat.le_of_ble_eq_true rfl) dX1_writeBench_108 rfl (fun r w108 hw => ?_) (fun _ _ _ h => h.elim)
    obtain ⟨rfl, b108, hS108, hbb108, hf108⟩ := hw
    show XJ _ _ _ _ _ _ _ _ _ _ _ _ [.ref a6]
    have hmo108 : Mo w.2 w w108 := hmo101.tr (hf108.mo (n := w.2) (fun y _ q9 => by rcases q9 with q9 | q9 <;> omega)) (Nat.le_refl _)
    have hbg108 : w.2 ≤ b108 := by have := hmo101.1; omega
    obtain ⟨s108, hs108⟩ : ∃ s, s = tN s101 (P (15 + 6 * b)) := ⟨_, rfl⟩
    have hS108 : SB (zg z) w108 a6 b108 s108.1 s108.2 := by rw [hs108]; exact hS108
    have hn108 : s108.1 ≤ 20 := by rw [hs108]; have := tN_len (s := s101) (v := P (15 + 6 * b)); omega
    have hK108 := hK.ext hmo108
    have hSF := hS108
    have hmoF := hmo108
    have hnF : s108.1 ≤ 40 := by omega
    have hwF : s108 = wBench P b (0, fun _ => 0) := by rw [hs108, hs101, hs96, hs86, hw0, wBench, if_neg c80]
    obtain ⟨sF, hsF⟩ : ∃ s, s = s108 := ⟨_, rfl⟩
    rw [← hsF] at hSF hwF
    refine xr_pop dX1_writeBench_111 (by first | rfl | exact cat_rf _) ?_
    refine xr_aload_n dX1_writeBench_112 rfl (by first | rfl | exact isRef_rf _) ?_
    refine xr_aload_n dX1_writeBench_113 rfl (by first | rfl | exact isRef_rf _) ?_
    refine xr_callV (n9 := 1) (rc' := 0) (rs' := 0) (k_X_write hG hJ (hx.ext hmoF) hSF) (hx.ext hmoF) rfl q1711 q1713 qs25 q86 q1714 (by decide +kernel) rfl ⟨by decide, Nat.le_of_ble_eq_true rfl⟩ ⟨Nat.le_of_ble_eq_true rfl, Nat.le_of_ble_eq_true rfl⟩ (Nat.le_of_ble_eq_true rfl) dX1_writeBench_114 rfl (fun r w114 hw => ?_) (fun _ _ _ h => h.elim)
    obtain ⟨rfl, t, b1, hx9, hs9, ht9, hb9, hgb9, hf9⟩ := hw
    have hmoF1 := hmoF.1
    show XJ _ _ _ _ _ _ _ _ _ _ _ _ [.int (iI sF.1)]
    refine xr_ireturn rfl rfl dX1_writeBench_117 ?_
    rw [hpo]
    rw [← hwF]
    exact ⟨hb1, t, b1, rfl, hx9, hs9, by omega, by omega, hgb9, (hmoF.fr.to (S' := fun y => y = x) (fun y hy (q9 : w.2 ≤ y) => by omega)).tr hf9 (fun _ _ q9 => q9)⟩
def wRowF (P : Int → Int) (r : Int) : Nat → Int → Tx → Tx
  | 0, _, s => s
  | m + 1, c, s => wRowF P r m (c + 1) (tC s (signOf P r c))
def wRow (P : Int → Int) (r : Int) : Tx := wRowF P r 6 0 (0, fun _ => 0)
theorem signOf_bd {P : Int → Int} {N r c : Int} (hB : PB P N) : 0 ≤ signOf P r c ∧ signOf P r c ≤ 127 := by
  have b1 := benchIn_bd (P := P) (r := r) (c := c)
  have hgg := hB.g
  unfold signOf
  split
  · omega
  · split
    · omega
    · split <;> omega
theorem k_X_writeRow {g : GG} {w : WW} {x : Nat} {n0 : Nat → Prop} {q : Nat} {L : Int → Nat} {P : Int → Int} {N : Int} {v1 v2 v3 v4 v5 v6 : Value} {r : Int} (hG : Base g) (hJ : KJ g) (hx : Ob w x 13 [.ref q, v1, v2, v3, v4, v5, v6]) (hK : PK g w n0 q L P) (hB : PB P N) (hr : (-2147483648 ≤ r ∧ r < 2147483648)) : Ct g yX1_writeRow (.code yX1_writeRow cX1_writeRow 4 (some .int)) 7 180 12 590 w [.ref x, .int (iI r)] (fun r_ w1 => (0 ≤ r ∧ r ≤ 5) ∧ ∃ t b1 : Nat, r_ = some (.int (iI (wRow P r).1)) ∧ Ob w1 x 13 [.ref q, v1, v2, v3, .ref t, v5, v6] ∧ SO g w1 t b1 (wRow P r).1 (wRow P r).2 ∧ w.2 ≤ t ∧ w.2 ≤ b1 ∧ gb g ≤ b1 ∧ Fr (fun y => y = x) w w1) (fun E a9 w1 => E = "java/lang/IndexOutOfBoundsException" ∧ ¬ (0 ≤ r ∧ r ≤ 5) ∧ w1 = w) := by
  refine Ct.of (lv := [some _, some _, none, none]) hG (by decide +kernel) (Nat.le_of_ble_eq_true rfl) rfl ?_
  intro z hg hpo hxp hnm htab
  subst hg
  refine xr_iload_n dX1_writeRow_0 rfl ?_
  refine xr_iconst dX1_writeRow_1 ?_
  refine xr_iconst dX1_writeRow_2 ?_
  refine xr_callS (n9 := 3) (rc' := 12) (rs' := 590) (k_isBetween hG (by omega)) q938 q707 q86 q708 (by decide +kernel) rfl ⟨by decide, Nat.le_of_ble_eq_true rfl⟩ ⟨Nat.le_of_ble_eq_true rfl, Nat.le_of_ble_eq_true rfl⟩ (Nat.le_of_ble_eq_true rfl) dX1_writeRow_3 rfl (xk_r ?_) (fun _ _ _ h => h.elim)
  refine xr_callS (n9 := 1) (rc' := 11) (rs' := 584) (k_requireIndex (b := decide (0 ≤ r ∧ r ≤ 5)) hG) q939 q940 q86 q941 (by decide +kernel) rfl ⟨by decide, Nat.le_of_ble_eq_true rfl⟩ ⟨Nat.le_of_ble_eq_true rfl, Nat.le_of_ble_eq_true rfl⟩ (Nat.le_of_ble_eq_true rfl) dX1_writeRow_6 rfl (xk_req ?_) (xt_req ?_)
  rotate_left
  · skip
    intro q9 hq9
    have hq9 := of_decide_eq_false hq9
    exact xt_out (fun x hx => (htab x hx).elim) (by rw [hxp]; exact ⟨rfl, hq9, rfl⟩)
  intro hb9
  have hc1 := of_decide_eq_true hb9
  refine xr_new (ci := 15) (T := TJ4) (N := 4) (n9 := 4) (fs := [.null, .int (iI 0), .int (iI 0), .int (iI 0)]) (rc' := 10) (rs' := 580) rfl in_J4 tyJ4 tyJ4_ok q233 q234 q93 (by intro j hj; rcases (show j = 0 ∨ j = 1 ∨ j = 2 ∨ j = 3 by omega) with rfl | rfl | rfl | rfl <;> rfl) ⟨Nat.le_of_ble_eq_true rfl, Nat.le_of_ble_eq_true rfl⟩ dX1_writeRow_9 (fun a9 ga9 hob9 => ?_)
  have hmn9 := Mo.new ga9 ga9 (.inl (.inr (15, [.null, .int (iI 0), .int (iI 0), .int (iI 0)])))
  refine xr_dup dX1_writeRow_12 (by first | rfl | exact cat_rf _) ?_
  refine xr_callI (n9 := 0) (rc' := 9) (rs' := 564) (k_SB_init (fun _ => 0) hG hJ hob9) q235 q236 q93 q237 rfl (by decide +kernel) rfl ⟨by decide, Nat.le_of_ble_eq_true rfl⟩ ⟨Nat.le_of_ble_eq_true rfl, Nat.le_of_ble_eq_true rfl⟩ (Nat.le_of_ble_eq_true rfl) dX1_writeRow_13 rfl (fun r w13 hw => ?_) (fun _ _ _ h => h.elim)
  obtain ⟨rfl, b13, hS13, hbb13, hf13⟩ := hw
  have hmo13 : Mo w.2 w w13 := hmn9.tr (hf13.mo (n := w.2) (fun y _ (q9 : y = a9) => by omega)) (Nat.le_refl _)
  have hbg13 : w.2 ≤ b13 := by have := hmn9.1; omega
  obtain ⟨s13, hs13⟩ : ∃ s : Tx, s = (0, fun _ => 0) := ⟨_, rfl⟩
  have hS13 : SB (zg z) w13 a9 b13 s13.1 s13.2 := by rw [hs13]; exact hS13
  have hn13 : s13.1 ≤ 0 := by rw [hs13]; exact Nat.le_refl _
  have hgg := hB.g
  refine xr_astore_n (lv' := [some _, some _, some _, none]) dX1_writeRow_16 (by decide) rfl (by first | rfl | exact isRef_rf _) rfl ?_
  refine xr_iconst dX1_writeRow_17 ?_
  refine xr_istore_n (lv' := [some _, some _, some _, some _]) dX1_writeRow_18 (by decide) rfl rfl ?_
  have lp19 : ∀ (fu19 : Nat) (w9 : WW) (b9 : Nat) (s9 : Tx) (c : Int), 0 ≤ c → c ≤ 6 → 6 - c < fu19 → s9.1 ≤ c.toNat → SB (zg z) w9 a9 b9 s9.1 s9.2 → w.2 ≤ b9 → Mo w.2 w w9 → wRowF P r (6 - c).toNat c s9 = wRow P r → XJ z yX1_writeRow.cls cX1_writeRow 4 (some .int) 7 180 w9 (1 * fu19 + 2) (70 * fu19 + 74) 19 [some (.ref x), some (.int (iI r)), some (.ref a9), some (.int (iI c))] [] := by
    intro fu19
    induction fu19 with
    | zero =>
      intro w9 b9 s9 c hc0 hc6 hfu hn9 hS9 hbg9 hmo9 hr9
      omega
    | succ fu19 ih19 =>
      intro w9 b9 s9 c hc0 hc6 hfu hn9 hS9 hbg9 hmo9 hr9
      have hx9 := hx.ext hmo9
      have hK9 := hK.ext hmo9
      refine xr_iload_n dX1_writeRow_19 rfl ?_
      refine xr_bipush dX1_writeRow_20 (by decide) ?_
      refine xr_icmp_ge (tgt := 42) dX1_writeRow_22 (by decide) (by omega) (fun c22 => ?_) (fun c22 => ?_)
      · skip
        refine xr_aload_n dX1_writeRow_42 rfl (by first | rfl | exact isRef_rf _) ?_
        refine xr_aload_n dX1_writeRow_43 rfl (by first | rfl | exact isRef_rf _) ?_
        refine xr_callV (n9 := 1) (rc' := 1 * fu19 + 1) (rs' := 70 * fu19 + 70) (k_X_write hG hJ hx9 hS9) hx9 rfl q1711 q1713 qs25 q86 q1714 (by decide +kernel) rfl ⟨by decide, Nat.le_of_ble_eq_true rfl⟩ ⟨by omega, by omega⟩ (Nat.le_of_ble_eq_true rfl) dX1_writeRow_44 rfl (fun r w44 hw => ?_) (fun _ _ _ h => h.elim)
        obtain ⟨rfl, t, b1, hxF, hsF, htF, hbF, hgbF, hfF⟩ := hw
        have hmoF1 := hmo9.1
        show XJ _ _ _ _ _ _ _ _ _ _ _ _ [.int (iI s9.1)]
        refine xr_ireturn rfl rfl dX1_writeRow_47 ?_
        rw [hpo]
        rw [show (6 - c).toNat = 0 by omega] at hr9
        have hr9 : s9 = wRow P r := hr9
        rw [← hr9]
        exact ⟨hc1, t, b1, rfl, hxF, hsF, by omega, by omega, hgbF, (hmo9.fr.to (S' := fun y => y = x) (fun y hy (q9 : w.2 ≤ y) => by omega)).tr hfF (fun _ _ q9 => q9)⟩
      · skip
        have hsb := signOf_bd (r := r) (c := c) hB
        refine xr_aload_n dX1_writeRow_25 rfl (by first | rfl | exact isRef_rf _) ?_
        refine xr_aload_n dX1_writeRow_26 rfl (by first | rfl | exact isRef_rf _) ?_
        refine xr_iload_n dX1_writeRow_27 rfl ?_
        refine xr_iload_n dX1_writeRow_28 rfl ?_
        refine xr_callV (n9 := 2) (rc' := 1 * fu19 + 3) (rs' := 70 * fu19 + 144) (k_X_signAt hG hx9 hK9 hB ⟨⟨by omega, by omega⟩, by omega, by omega⟩) hx9 rfl q1826 q1828 qs26 q86 q1829 (by decide +kernel) rfl ⟨by decide, Nat.le_of_ble_eq_true rfl⟩ ⟨by omega, by omega⟩ (Nat.le_of_ble_eq_true rfl) dX1_writeRow_29 rfl (xk_r ?_) (fun _ _ _ h => h.elim)
        refine xr_callV (n9 := 1) (rc' := 1 * fu19 + 2) (rs' := 70 * fu19 + 74) (k_SB_appendC hG hJ hS9 (by omega) (by omega)) (hS9.ob.choose_spec) rfl q1671 q1672 q1673 q93 q1674 (by decide +kernel) rfl ⟨by decide, Nat.le_of_ble_eq_true rfl⟩ ⟨by omega, by omega⟩ (Nat.le_of_ble_eq_true rfl) dX1_writeRow_32 rfl (fun r w32 hw => ?_) (fun _ _ _ h => h.elim)
        obtain ⟨rfl, b32, hS32, hbb32, hf32⟩ := hw
        show XJ _ _ _ _ _ _ _ _ _ _ _ _ [.ref a9]
        have hmo32 : Mo w.2 w w32 := hmo9.tr (hf32.mo (n := w.2) (fun y _ q9 => by rcases q9 with q9 | q9 <;> omega)) (Nat.le_refl _)
        have hbg32 : w.2 ≤ b32 := by have := hmo9.1; omega
        refine xr_pop dX1_writeRow_35 (by first | rfl | exact cat_rf _) ?_
        refine xr_iinc (lv' := [some _, some _, some _, some _]) dX1_writeRow_36 rfl (by decide) rfl rfl ?_
        refine xr_goto (tgt := 19) dX1_writeRow_39 (by decide) ?_
        refine xr_wk (rc' := 1 * fu19 + 2) (rs' := 70 * fu19 + 74) ⟨by omega, by omega⟩ (ih19 w32 b32 (tC s9 (signOf P r c)) (c + 1) (by omega) (by omega) (by omega) (by show s9.1 + 1 ≤ _; omega) hS32 hbg32 hmo32 (by rw [← hr9, show (6 - c).toNat = (6 - (c + 1)).toNat + 1 by omega]; rfl))
  refine xr_wk (rc' := 1 * 7 + 2) (rs' := 70 * 7 + 74) ⟨by omega, by omega⟩ (lp19 7 w13 b13 s13 0 (by omega) (by omega) (by omega) hn13 hS13 hbg13 hmo13 (by rw [hs13]; rfl))
theorem k_X_outputAt {g : GG} {w : WW} {x t b n : Nat} {f : Int → Int} {v0 v1 v2 v3 v5 v6 : Value} {i : Int} (hG : Base g) (hJ : KJ g) (hx : Ob w x 13 [v0, v1, v2, v3, .ref t, v5, v6]) (hT : SO g w t b n f) (hi : (-2147483648 ≤ i ∧ i < 2147483648)) : Ct g yX1_outputAt (.code yX1_outputAt cX1_outputAt 2 (some .char)) 7 101 1 6 w [.ref x, .int (iI i)] (fun r_ w1 => (0 ≤ i ∧ i ≤ (n : Int) - 1) ∧ r_ = some (.int (iI (f i))) ∧ w1 = w) (fun E a9 w1 => E = "java/lang/IndexOutOfBoundsException" ∧ ¬ (0 ≤ i ∧ i ≤ (n : Int) - 1) ∧ w1 = w) := by
  refine Ct.of (lv := [some _, some _]) hG (by decide +kernel) (Nat.le_of_ble_eq_true rfl) rfl ?_
  intro z hg hpo hxp hnm htab
  subst hg
  have hle := hT.le
  refine xr_iload_n dX1_outputAt_0 rfl ?_
  refine xr_iconst dX1_outputAt_1 ?_
  refine xr_aload_n dX1_outputAt_2 rfl (by first | rfl | exact isRef_rf _) ?_
  refine xr_getfield (ci := 13) (T := TX1) (N := 7) (i := 4) hx rfl (by decide) in_X1 q271 (.inl rfl) dX1_outputAt_3 (by rfl) ?_
  refine xr_callV (n9 := 0) (rc' := 1) (rs' := 6) (k_S_length hG hJ hT) (hT.ob.choose_spec) rfl q1818 q1770 q1771 q94 q1772 (by decide +kernel) rfl ⟨by decide, Nat.le_of_ble_eq_true rfl⟩ ⟨Nat.le_of_ble_eq_true rfl, Nat.le_of_ble_eq_true rfl⟩ (Nat.le_of_ble_eq_true rfl) dX1_outputAt_6 rfl (xk_r ?_) (fun _ _ _ h => h.elim)
  refine xr_iconst dX1_outputAt_9 ?_
  refine xr_isub dX1_outputAt_10 ?_
  refine xr_callS (n9 := 3) (rc' := 1) (rs' := 6) (k_isBetween hG (by omega)) q938 q707 q86 q708 (by decide +kernel) rfl ⟨by decide, Nat.le_of_ble_eq_true rfl⟩ ⟨Nat.le_of_ble_eq_true rfl, Nat.le_of_ble_eq_true rfl⟩ (Nat.le_of_ble_eq_true rfl) dX1_outputAt_11 rfl (xk_r ?_) (fun _ _ _ h => h.elim)
  refine xr_callS (n9 := 1) (rc' := 0) (rs' := 0) (k_requireIndex (b := decide (0 ≤ i ∧ i ≤ (n : Int) - 1)) hG) q939 q940 q86 q941 (by decide +kernel) rfl ⟨by decide, Nat.le_of_ble_eq_true rfl⟩ ⟨Nat.le_of_ble_eq_true rfl, Nat.le_of_ble_eq_true rfl⟩ (Nat.le_of_ble_eq_true rfl) dX1_outputAt_14 rfl (xk_req ?_) (xt_req ?_)
  rotate_left
  · skip
    intro q9 hq9
    have hq9 := of_decide_eq_false hq9
    exact xt_out (fun x hx => (htab x hx).elim) (by rw [hxp]; exact ⟨rfl, hq9, rfl⟩)
  intro hb9
  have hc1 := of_decide_eq_true hb9
  refine xr_aload_n dX1_outputAt_17 rfl (by first | rfl | exact isRef_rf _) ?_
  refine xr_getfield (ci := 13) (T := TX1) (N := 7) (i := 4) hx rfl (by decide) in_X1 q271 (.inl rfl) dX1_outputAt_18 (by rfl) ?_
  refine xr_iload_n dX1_outputAt_21 rfl ?_
  refine xr_callV (n9 := 1) (rc' := 0) (rs' := 0) (k_S_charAt hG hJ hT (by omega)) (hT.ob.choose_spec) rfl q1847 q1848 q1849 q94 q1850 (by decide +kernel) rfl ⟨by decide, Nat.le_of_ble_eq_true rfl⟩ ⟨Nat.le_of_ble_eq_true rfl, Nat.le_of_ble_eq_true rfl⟩ (Nat.le_of_ble_eq_true rfl) dX1_outputAt_22 rfl (xk_r ?_) (fun _ _ _ h => h.elim)
  have hch := hT.ch i (by omega) (by omega)
  refine xr_ireturn rfl (nar_ch (by omega)) dX1_outputAt_25 ?_
  rw [hpo]
  exact ⟨hc1, rfl, rfl⟩
theorem k_X_appendInput {g : GG} {w : WW} {x a b n : Nat} {f : Int → Int} {v0 v1 v2 v4 v5 v6 : Value} {c : Int} (hG : Base g) (hJ : KJ g) (hx : Ob w x 13 [v0, v1, v2, .ref a, v4, v5, v6]) (hA : SB g w a b n f) (hn : n ≤ 60) (hc : 0 ≤ c ∧ c < 65536) : Ct g yX1_appendInput (.code yX1_appendInput cX1_appendInput 2 (some .int)) 7 134 3 82 w [.ref x, .int (iI c)] (fun r_ w1 => (32 ≤ c ∧ c ≤ 126) ∧ n < 60 ∧ r_ = some (.int (iI (n + 1 : Nat))) ∧ ∃ b' : Nat, SB g w1 a b' (n + 1) (updI f n c) ∧ (b' = b ∨ w.2 ≤ b') ∧ Fr (fun y => y = a ∨ y = b) w w1) (fun E a9 w1 => (E = "java/lang/IllegalArgumentException" ∧ ¬ (32 ≤ c ∧ c ≤ 126) ∧ w1 = w) ∨ (E = "java/lang/IllegalStateException" ∧ (32 ≤ c ∧ c ≤ 126) ∧ ¬ n < 60 ∧ w1 = w)) := by
  refine Ct.of (lv := [some _, some _]) hG (by decide +kernel) (Nat.le_of_ble_eq_true rfl) rfl ?_
  intro z hg hpo hxp hnm htab
  subst hg
  refine xr_iload_n dX1_appendInput_0 rfl ?_
  refine xr_bipush dX1_appendInput_1 (by decide) ?_
  refine xr_bipush dX1_appendInput_3 (by decide) ?_
  refine xr_callS (n9 := 3) (rc' := 3) (rs' := 82) (k_isBetween hG (by omega)) q938 q707 q86 q708 (by decide +kernel) rfl ⟨by decide, Nat.le_of_ble_eq_true rfl⟩ ⟨Nat.le_of_ble_eq_true rfl, Nat.le_of_ble_eq_true rfl⟩ (Nat.le_of_ble_eq_true rfl) dX1_appendInput_5 rfl (xk_r ?_) (fun _ _ _ h => h.elim)
  refine xr_callS (n9 := 1) (rc' := 2) (rs' := 76) (k_requireArgument (b := decide (32 ≤ c ∧ c ≤ 126)) hG) q960 q961 q86 q962 (by decide +kernel) rfl ⟨by decide, Nat.le_of_ble_eq_true rfl⟩ ⟨Nat.le_of_ble_eq_true rfl, Nat.le_of_ble_eq_true rfl⟩ (Nat.le_of_ble_eq_true rfl) dX1_appendInput_8 rfl (xk_req ?_) (xt_req ?_)
  rotate_left
  · skip
    intro q9 hq9
    have hq9 := of_decide_eq_false hq9
    exact xt_out (fun x hx => (htab x hx).elim) (by rw [hxp]; exact Or.inl ⟨rfl, hq9, rfl⟩)
  intro hb9
  have hc1 := of_decide_eq_true hb9
  refine xr_aload_n dX1_appendInput_11 rfl (by first | rfl | exact isRef_rf _) ?_
  refine xr_getfield (ci := 13) (T := TX1) (N := 7) (i := 3) hx rfl (by decide) in_X1 q270 (.inl rfl) dX1_appendInput_12 (by rfl) ?_
  refine xr_callV (n9 := 0) (rc' := 2) (rs' := 76) (k_SB_length hG hA) (hA.ob.choose_spec) rfl q1870 q1736 q2752 q93 q1737 (by decide +kernel) rfl ⟨by decide, Nat.le_of_ble_eq_true rfl⟩ ⟨Nat.le_of_ble_eq_true rfl, Nat.le_of_ble_eq_true rfl⟩ (Nat.le_of_ble_eq_true rfl) dX1_appendInput_15 rfl (xk_r ?_) (fun _ _ _ h => h.elim)
  refine xr_bipush dX1_appendInput_18 (by decide) ?_
  refine xr_icmp_ge (tgt := 27) dX1_appendInput_20 (by decide) (by omega) (fun c20 => ?_) (fun c20 => ?_)
  · skip
    refine xr_iconst dX1_appendInput_27 ?_
    refine xr_callS (n9 := 1) (rc' := 1) (rs' := 70) (k_requireState (b := false) hG) q1871 q1872 q86 q1873 (by decide +kernel) rfl ⟨by decide, Nat.le_of_ble_eq_true rfl⟩ ⟨Nat.le_of_ble_eq_true rfl, Nat.le_of_ble_eq_true rfl⟩ (Nat.le_of_ble_eq_true rfl) dX1_appendInput_28 rfl (xk_req (fun h9 => nomatch h9)) (xt_req ?_)
    intro q9 _
    exact xt_out (fun x hx => (htab x hx).elim) (by rw [hxp]; exact Or.inr ⟨rfl, hc1, by omega, rfl⟩)
  · skip
    refine xr_iconst dX1_appendInput_23 ?_
    refine xr_goto (tgt := 28) dX1_appendInput_24 (by decide) ?_
    refine xr_callS (n9 := 1) (rc' := 1) (rs' := 70) (k_requireState (b := true) hG) q1871 q1872 q86 q1873 (by decide +kernel) rfl ⟨by decide, Nat.le_of_ble_eq_true rfl⟩ ⟨Nat.le_of_ble_eq_true rfl, Nat.le_of_ble_eq_true rfl⟩ (Nat.le_of_ble_eq_true rfl) dX1_appendInput_28 rfl (xk_req (fun _ => ?_)) (xt_req (fun _ h9 => nomatch h9))
    refine xr_aload_n dX1_appendInput_31 rfl (by first | rfl | exact isRef_rf _) ?_
    refine xr_getfield (ci := 13) (T := TX1) (N := 7) (i := 3) hx rfl (by decide) in_X1 q270 (.inl rfl) dX1_appendInput_32 (by rfl) ?_
    refine xr_iload_n dX1_appendInput_35 rfl ?_
    refine xr_callV (n9 := 1) (rc' := 0) (rs' := 0) (k_SB_appendC hG hJ hA (by omega) (by omega)) (hA.ob.choose_spec) rfl q1671 q1672 q1673 q93 q1674 (by decide +kernel) rfl ⟨by decide, Nat.le_of_ble_eq_true rfl⟩ ⟨Nat.le_of_ble_eq_true rfl, Nat.le_of_ble_eq_true rfl⟩ (Nat.le_of_ble_eq_true rfl) dX1_appendInput_36 rfl (fun r w36 hw => ?_) (fun _ _ _ h => h.elim)
    obtain ⟨rfl, b36, hS36, hbb36, hf36⟩ := hw
    show XJ _ _ _ _ _ _ _ _ _ _ _ _ [.ref a]
    have hx36 := hx.fr hf36 (fun q9 => by
      rcases q9 with q9 | q9
      · obtain ⟨_, hq9⟩ := hA.ob
        exact (hx.apart hq9 (by decide)) q9
      · obtain ⟨c9, m9, h9, -, hba9, -⟩ := hA
        exact (hba9.ob_ne hx) q9.symm)
    refine xr_pop dX1_appendInput_39 (by first | rfl | exact cat_rf _) ?_
    refine xr_aload_n dX1_appendInput_40 rfl (by first | rfl | exact isRef_rf _) ?_
    refine xr_getfield (ci := 13) (T := TX1) (N := 7) (i := 3) hx36 rfl (by decide) in_X1 q270 (.inl rfl) dX1_appendInput_41 (by rfl) ?_
    refine xr_callV (n9 := 0) (rc' := 0) (rs' := 0) (k_SB_length hG hS36) (hS36.ob.choose_spec) rfl q1870 q1736 q2752 q93 q1737 (by decide +kernel) rfl ⟨by decide, Nat.le_of_ble_eq_true rfl⟩ ⟨Nat.le_of_ble_eq_true rfl, Nat.le_of_ble_eq_true rfl⟩ (Nat.le_of_ble_eq_true rfl) dX1_appendInput_44 rfl (xk_r ?_) (fun _ _ _ h => h.elim)
    refine xr_ireturn rfl rfl dX1_appendInput_47 ?_
    rw [hpo]
    exact ⟨hc1, by omega, rfl, b36, hS36, hbb36, hf36⟩
