/-! 48.copybench.lean.txt (written by tools/walker.py)  -/
set_option maxRecDepth 100000
theorem k_copyBench {g : GG} {w : WW} {n0 : Nat → Prop} {q : Nat} {L : Int → Nat} {P : Int → Int}  {s : Nat} {r c v d m : Int} {t : Value} (hG : Base g) (hL : KL g) (hK : PK g w n0 q L P) (hn10 : P 0 < 10) (hs : Ob w s 3 [.int (iI r), .int (iI c), .int (iI (P 0)), .int (iI v), t, .int (iI d), .int (iI m)]) : Ct g yX1_copyBench (.code yX1_copyBench cX1_copyBench 3 none) 6 129 2 17 w [.ref s, .ref (L 0)] (fun r_ w1 => ∃ L' : Int → Nat, r_ = none ∧ PK g w1 n0 q L' (cBench P r c v d m) ∧ Fr n0 w w1) xF := by
  refine Ct.of (lv := [some _, some _, none]) hG (by decide +kernel) (Nat.le_of_ble_eq_true rfl) rfl ?_
  intro z hg hpo hxp hnm htab
  subst hg
  have hg8 := hK.n0lt
  have hc0 := hK.c0
  refine xr_new (ci := 3) (T := TX10) (N := 7) (n9 := 7) (fs := [.int (iI 0), .int (iI 0), .int (iI 0), .int (iI 0), .null, .int (iI 0), .int (iI 0)]) (rc' := 1) (rs' := 10) rfl in_X10 tyX10 tyX10_ok q798 q799 q114 (by intro j hj; rcases (show j = 0 ∨ j = 1 ∨ j = 2 ∨ j = 3 ∨ j = 4 ∨ j = 5 ∨ j = 6 by omega) with rfl | rfl | rfl | rfl | rfl | rfl | rfl <;> rfl) ⟨Nat.le_of_ble_eq_true rfl, Nat.le_of_ble_eq_true rfl⟩ dX1_copyBench_0 (fun a0 ga0 hob0 => ?_)
  have hmn0 := Mo.new ga0 ga0 (.inl (.inr (3, [.int (iI 0), .int (iI 0), .int (iI 0), .int (iI 0), .null, .int (iI 0), .int (iI 0)])))
  have hs1 := hs.ext hmn0
  have hK1 := hK.ext hmn0
  refine xr_dup dX1_copyBench_3 (by first | rfl | exact cat_rf _) ?_
  refine xr_aload_n dX1_copyBench_4 rfl (by first | rfl | exact isRef_rf _) ?_
  refine xr_callVU (n9 := 0) (rc' := 1) (rs' := 10) (k_index_B hG hs1) hs1 rfl q800 q801 rfl q804 q803 q107 q805 (by decide +kernel) rfl ⟨by decide, Nat.le_of_ble_eq_true rfl⟩ ⟨Nat.le_of_ble_eq_true rfl, Nat.le_of_ble_eq_true rfl⟩ (Nat.le_of_ble_eq_true rfl) dX1_copyBench_5 rfl (xk_r ?_) (fun _ _ _ h => h.elim)
  refine xr_aload_n dX1_copyBench_8 rfl (by first | rfl | exact isRef_rf _) ?_
  refine xr_callVU (n9 := 0) (rc' := 1) (rs' := 10) (k_row_B hG hs1) hs1 rfl q806 q329 rfl q332 q331 q108 q333 (by decide +kernel) rfl ⟨by decide, Nat.le_of_ble_eq_true rfl⟩ ⟨Nat.le_of_ble_eq_true rfl, Nat.le_of_ble_eq_true rfl⟩ (Nat.le_of_ble_eq_true rfl) dX1_copyBench_9 rfl (xk_r ?_) (fun _ _ _ h => h.elim)
  refine xr_aload_n dX1_copyBench_12 rfl (by first | rfl | exact isRef_rf _) ?_
  refine xr_callVU (n9 := 0) (rc' := 1) (rs' := 10) (k_column_B hG hs1) hs1 rfl q807 q335 rfl q338 q337 q108 q339 (by decide +kernel) rfl ⟨by decide, Nat.le_of_ble_eq_true rfl⟩ ⟨Nat.le_of_ble_eq_true rfl, Nat.le_of_ble_eq_true rfl⟩ (Nat.le_of_ble_eq_true rfl) dX1_copyBench_13 rfl (xk_r ?_) (fun _ _ _ h => h.elim)
  refine xr_callI (n9 := 3) (rc' := 1) (rs' := 10) (k_Bench_init hG hob0) q808 q809 q114 q810 rfl (by decide +kernel) rfl ⟨by decide, Nat.le_of_ble_eq_true rfl⟩ ⟨Nat.le_of_ble_eq_true rfl, Nat.le_of_ble_eq_true rfl⟩ (Nat.le_of_ble_eq_true rfl) dX1_copyBench_16 rfl (fun r w16 hw => ?_) (fun _ _ _ h => h.elim)
  obtain ⟨rfl, ho8, hf16⟩ := hw
  have hs2 := hs1.fr hf16 (fun q9 => by have := hs.2; omega)
  have hK2 := hK1.fr hf16 (fun b hb q9 => by have := hK.hi hb; omega) (fun b q9 => by have := hK.n0lt; omega)
  refine xr_astore_n (lv' := [some _, some _, some _]) dX1_copyBench_19 (by decide) rfl (by first | rfl | exact isRef_rf _) rfl ?_
  refine xr_aload_n dX1_copyBench_20 rfl (by first | rfl | exact isRef_rf _) ?_
  refine xr_aload_n dX1_copyBench_21 rfl (by first | rfl | exact isRef_rf _) ?_
  refine xr_getfieldN (ci := 3) (T := TX10) (N := 7) (i := 3) hs2 rfl (by decide) in_X10 q813 (.inl rfl) dX1_copyBench_22 (by rfl) ?_
  refine xr_putfieldN (ci := 3) (T := TX10) (N := 7) (i := 3) (fs' := [_, _, _, _, _, _, _]) ho8 rfl (by decide) in_X10 tyX10 tyX10_ok nmX10 q813 (.inl rfl) rfl dX1_copyBench_25 (by first | rfl | exact nar_bI _ | exact nar_rf _) (by first | rfl | exact fit_bI _ | exact fit_rf _ _) (by simp) (by rfl) (.inl rfl) (fun hob25 => ?_)
  have hs3 := hs2.put_ne (a := a0) (by have := hs.2; omega) (.inl (.inr (3, [.int (iI r), .int (iI c), .int (iI (P 0)), .int (iI v), .null, .int (iI 0), .int (iI 0)])))
  have hK3 := hK2.fr (Fr.put1 (a := a0) (.inl (.inr (3, [.int (iI r), .int (iI c), .int (iI (P 0)), .int (iI v), .null, .int (iI 0), .int (iI 0)])))) (fun b hb q9 => by have := hK.hi hb; omega) (fun b q9 => by have := hK.n0lt; omega)
  refine xr_aload_n dX1_copyBench_28 rfl (by first | rfl | exact isRef_rf _) ?_
  refine xr_aload_n dX1_copyBench_29 rfl (by first | rfl | exact isRef_rf _) ?_
  refine xr_getfieldN (ci := 3) (T := TX10) (N := 7) (i := 5) hs3 rfl (by decide) in_X10 q818 (.inl rfl) dX1_copyBench_30 (by rfl) ?_
  refine xr_putfieldN (ci := 3) (T := TX10) (N := 7) (i := 5) (fs' := [_, _, _, _, _, _, _]) hob25 rfl (by decide) in_X10 tyX10 tyX10_ok nmX10 q818 (.inl rfl) rfl dX1_copyBench_33 (by first | rfl | exact nar_bI _ | exact nar_rf _) (by first | rfl | exact fit_bI _ | exact fit_rf _ _) (by simp) (by rfl) (.inl rfl) (fun hob33 => ?_)
  have hs4 := hs3.put_ne (a := a0) (by have := hs.2; omega) (.inl (.inr (3, [.int (iI r), .int (iI c), .int (iI (P 0)), .int (iI v), .null, .int (iI d), .int (iI 0)])))
  have hK4 := hK3.fr (Fr.put1 (a := a0) (.inl (.inr (3, [.int (iI r), .int (iI c), .int (iI (P 0)), .int (iI v), .null, .int (iI d), .int (iI 0)])))) (fun b hb q9 => by have := hK.hi hb; omega) (fun b q9 => by have := hK.n0lt; omega)
  refine xr_aload_n dX1_copyBench_36 rfl (by first | rfl | exact isRef_rf _) ?_
  refine xr_aload_n dX1_copyBench_37 rfl (by first | rfl | exact isRef_rf _) ?_
  refine xr_getfieldN (ci := 3) (T := TX10) (N := 7) (i := 6) hs4 rfl (by decide) in_X10 q821 (.inl rfl) dX1_copyBench_38 (by rfl) ?_
  refine xr_putfieldN (ci := 3) (T := TX10) (N := 7) (i := 6) (fs' := [_, _, _, _, _, _, _]) hob33 rfl (by decide) in_X10 tyX10 tyX10_ok nmX10 q821 (.inl rfl) rfl dX1_copyBench_41 (by first | rfl | exact nar_bI _ | exact nar_rf _) (by first | rfl | exact fit_bI _ | exact fit_rf _ _) (by simp) (by rfl) (.inl rfl) (fun hob41 => ?_)
  have hob33 := hob41
  have hK5 := hK4.fr (Fr.put1 (a := a0) (.inl (.inr (3, [.int (iI r), .int (iI c), .int (iI (P 0)), .int (iI v), .null, .int (iI d), .int (iI m)])))) (fun b hb q9 => by have := hK.hi hb; omega) (fun b q9 => by have := hK.n0lt; omega)
  refine xr_aload_n dX1_copyBench_44 rfl (by first | rfl | exact isRef_rf _) ?_
  refine xr_aload_n dX1_copyBench_45 rfl (by first | rfl | exact isRef_rf _) ?_
  refine xr_callV (n9 := 1) (rc' := 0) (rs' := 0) (k_Reg_add hG hL hK5.r0 hK5.l0 (by omega) hob33 rfl q2776 (by decide)) hK5.r0 rfl q835 q764 q765 q88 q766 (by decide +kernel) rfl ⟨by decide, Nat.le_of_ble_eq_true rfl⟩ ⟨Nat.le_of_ble_eq_true rfl, Nat.le_of_ble_eq_true rfl⟩ (Nat.le_of_ble_eq_true rfl) dX1_copyBench_46 rfl (fun r w46 hw => ?_) (fun _ _ _ h => h.elim)
  obtain ⟨rfl, arr2, hA9, hf9, har9⟩ := hw
  have hlt := hK.hi (b := L 3) (Or.inr (Or.inl ⟨3, by decide, by decide, rfl⟩))
  have hlt2 := hK.l0.lt
  have ho9 := hob33.fr hf9 (fun q9 => by rcases q9 with q9 | ⟨q9, -⟩ <;> omega)
  have hg9 := hK.n0lt
  refine xr_return rfl dX1_copyBench_49 ?_
  rw [hpo]
  refine ⟨putL L (10 + P 0) a0 6 arr2, rfl, hK5.addB' (P' := cBench P r c v d m) hf9 hA9 (hK.up _ ga0) har9 hn10 ho9 (by simp only [bF, cBench, updI, ↓reduceIte]; repeat first | rfl | rw [if_pos (by omega)] | rw [if_neg (by omega)]) (by intro k h1 h2; simp only [cBench, updI]; repeat rw [if_neg (by omega)]) (by simp only [cBench, updI, ↓reduceIte]) (by simp only [cBench, updI, ↓reduceIte]; repeat first | rfl | rw [if_pos (by omega)] | rw [if_neg (by omega)]) putL_n putL_i (putL_j (by omega)), ?_⟩
  exact (((((Fr.new (S := n0) ga0 _).tr hf16 (fun b _ (q9 : b = a0) => by rw [q9]; exact hK.up _ ga0)).tq (Fr.put (S := n0) (hK.up _ ga0) _)).tq (Fr.put (S := n0) (hK.up _ ga0) _)).tq (Fr.put (S := n0) (hK.up _ ga0) _)).tr hf9 (fun b _ q9 => by
      rcases q9 with q9 | ⟨q9, q8⟩
      · rw [q9]; exact hK.ar (by decide) (by decide)
      · rw [q9]; exact hK.aa (by decide) (by decide) (by omega))
