/-! 80.mincome.lean.txt (written by tools/walker.py)  -/
set_option maxRecDepth 100000
section Rz
variable {z : ZZ} {own : String} {cc : ByteArray} {nL fr lo rc rs pc : Nat} {ret : Option FieldType} {w : WW} {lv : List (Option Value)} {st : List Value}
theorem xr_dconst (d : decode cc pc = .ok (.dconst 0, 1)) (k : XJ z own cc nL ret fr lo w rc rs (pc + 1) lv (.double FP.dconst0 :: st)) : XJ z own cc nL ret fr lo w rc rs pc lv st := by
  intro C H L n1 n2 ls hH hl hc hs hv
  exact lv_dconst0 C.hx C.hb d (k C H L n1 n2 ls hH hl hc hs hv)
theorem xr_fconst (d : decode cc pc = .ok (.fconst 0, 1)) (k : XJ z own cc nL ret fr lo w rc rs (pc + 1) lv (.float FP.fconst0 :: st)) : XJ z own cc nL ret fr lo w rc rs pc lv st := by
  intro C H L n1 n2 ls hH hl hc hs hv
  exact lv_fconst0 C.hx C.hb d (k C H L n1 n2 ls hH hl hc hs hv)
end Rz
theorem k_N_meanRent {g : GG} {w : WW} {m : Nat} {A : Int → Nat} {th : Int} {P : Int → Int} {S : Option (Int → Int)} {H : List (Int → Int)} {I O : Tx} {se : Option Int} {rj : Option (Int × Int × Int)} {N : Int} (hG : Base g) (hX : MR g w m A th P S H I O se rj) (hB : PB P N) : Ct g yX4_meanRent (.code yX4_meanRent cX4_meanRent 3 (some .double)) 4 91 0 0 w [.ref m] (fun r_ w1 => ∃ th : Int, Fr (MS m A) w w1 ∧ MR g w1 m A th P S H I O se rj ∧ ((0 < P 0 ∧ th = 0 ∧ r_ = some (.double (FP.ddiv (FP.i2d (iI (sumR (fun b => rent P b) 0 (P 0)))) (FP.i2d (iI (P 0)))))) ∨ (¬ 0 < P 0 ∧ th = 1 ∧ ∃ d, r_ = some (.double d)))) xF := by
  refine Ct.of (lv := [some _, none, none]) hG (by decide +kernel) (Nat.le_of_ble_eq_true rfl) rfl ?_
  intro z hg hpo hxp hnm htab
  subst hg
  obtain ⟨F, C, hM, -, hS⟩ := hX
  have hM : MDF (zg z) w w m A F P C := ⟨hM, Fr.rf⟩
  have h68 : 0 ≤ F 6 ∧ F 6 ≤ 8 := by have := hS.1.1; have := hS.1.2.1; omega
  have hgg := hB.g
  have hs1 := sumR_bd (f := fun b => rent P b) (B := 20) (k := 0) (n := P 0) (by decide) hgg.1.1 (fun j a b => by have := rent_bd hB a b; (try dsimp only); omega)
  refine xr_aload_n dX4_meanRent_0 rfl (by first | rfl | exact isRef_rf _) ?_
  refine xr_aload_n dX4_meanRent_1 rfl (by first | rfl | exact isRef_rf _) ?_
  refine xr_getfield (ci := 14) (T := TX4) (N := 23) (i := 1) hM.1.1 rfl (by decide) in_X4 q2192 (.inl rfl) dX4_meanRent_2 (by rfl) ?_
  refine xr_iconst dX4_meanRent_5 ?_
  refine xr_iaload hM.1.2.1 (by omega) (by decide) dX4_meanRent_6 ?_
  refine xr_if_ne (tgt := 14) dX4_meanRent_7 (by decide) (by omega) (fun c7 => ?_) (fun c7 => ?_)
  · skip
    refine xr_iconst dX4_meanRent_14 ?_
    refine xr_putfield (ci := 14) (T := TX4) (N := 23) (i := 0) (fs' := [_, _, _, _, _, _, _, _, _, _, _, _, _, _, _, _, _, _, _, _, _, _, _]) hM.1.1 rfl (by decide) in_X4 tyX4 tyX4_ok nmX4 q2191 (.inl rfl) rfl dX4_meanRent_15 (by rfl) (by rfl) (by simp) (by rfl) (.inl rfl) (fun _ => ?_)
    refine xr_mput (i := 0) hM (by rfl) (fun w15 hM => ?_)
    refine xr_aload_n dX4_meanRent_18 rfl (by first | rfl | exact isRef_rf _) ?_
    refine xr_getfield (ci := 14) (T := TX4) (N := 23) (i := 0) hM.1.1 rfl (by decide) in_X4 q2191 (.inl rfl) dX4_meanRent_19 (by rfl) ?_
    rw [updI_eq]
    refine xr_if_le (tgt := 27) dX4_meanRent_22 (by decide) (by decide) (fun c22 => ?_) (fun c22 => absurd c22 (by decide))
    refine xr_iconst dX4_meanRent_27 ?_
    refine xr_istore_n (lv' := [some _, some _, none]) dX4_meanRent_28 (by decide) rfl rfl ?_
    refine xr_iconst dX4_meanRent_29 ?_
    refine xr_istore_n (lv' := [some _, some _, some _]) dX4_meanRent_30 (by decide) rfl rfl ?_
    have lp31 : ∀ (fu31 : Nat) (s9 k : Int), 0 ≤ k → k ≤ P 0 → P 0 - k < fu31 → s9 + sumR (fun b => rent P b) k (P 0) = sumR (fun b => rent P b) 0 (P 0) → XJ z yX4_meanRent.cls cX4_meanRent 3 (some .double) 4 91 w15 (0 * fu31 + 0) (0 * fu31 + 0) 31 [some (.ref m), some (.int (iI s9)), some (.int (iI k))] [] := by
      intro fu31
      induction fu31 with
      | zero =>
        intro s9 k hk0 hk1 hfu hr9
        omega
      | succ fu31 ih31 =>
        intro s9 k hk0 hk1 hfu hr9
        refine xr_iload_n dX4_meanRent_31 rfl ?_
        refine xr_aload_n dX4_meanRent_32 rfl (by first | rfl | exact isRef_rf _) ?_
        refine xr_getfield (ci := 14) (T := TX4) (N := 23) (i := 1) hM.1.1 rfl (by decide) in_X4 q2192 (.inl rfl) dX4_meanRent_33 (by rfl) ?_
        refine xr_iconst dX4_meanRent_36 ?_
        refine xr_iaload hM.1.2.1 (by omega) (by decide) dX4_meanRent_37 ?_
        refine xr_icmp_ge (tgt := 55) dX4_meanRent_38 (by decide) (by omega) (fun c38 => ?_) (fun c38 => ?_)
        · skip
          rw [sumR_ge (by omega), Int.add_zero] at hr9
          have hr9 : s9 = sumR (fun b => rent P b) 0 (P 0) := hr9
          rw [hr9]
          refine xr_iload_n dX4_meanRent_55 rfl ?_
          refine xr_i2d dX4_meanRent_56 ?_
          refine xr_aload_n dX4_meanRent_57 rfl (by first | rfl | exact isRef_rf _) ?_
          refine xr_getfield (ci := 14) (T := TX4) (N := 23) (i := 1) hM.1.1 rfl (by decide) in_X4 q2192 (.inl rfl) dX4_meanRent_58 (by rfl) ?_
          refine xr_iconst dX4_meanRent_61 ?_
          refine xr_iaload hM.1.2.1 (by omega) (by decide) dX4_meanRent_62 ?_
          refine xr_i2d dX4_meanRent_63 ?_
          refine xr_ddiv dX4_meanRent_64 (vf_d (by omega) (by omega)) ?_
          refine xr_dreturn rfl dX4_meanRent_65 ?_
          rw [hpo]
          exact ⟨0, hM.2, ⟨_, _, hM.1, updI_eq, hS.to (fun k hk => updI_ne (by omega)) (fun j hj => rfl)⟩, Or.inl ⟨by omega, rfl, rfl⟩⟩
        · skip
          have hbb := hB.b (b := k) (by omega)
          rw [sumR_lt (show k < P 0 by omega)] at hr9
          refine xr_iload_n dX4_meanRent_41 rfl ?_
          refine xr_aload_n dX4_meanRent_42 rfl (by first | rfl | exact isRef_rf _) ?_
          refine xr_iload_n dX4_meanRent_43 rfl ?_
          refine xr_callV (n9 := 1) (rc' := 0 * fu31 + 0) (rs' := 0 * fu31 + 0) (k_M_rent hG hM.1 hB (by omega)) hM.1.1 rfl q2387 q2389 qs55 q96 q2390 (by decide +kernel) rfl ⟨by decide, Nat.le_of_ble_eq_true rfl⟩ ⟨by omega, by omega⟩ (Nat.le_of_ble_eq_true rfl) dX4_meanRent_44 rfl (xk_r ?_) (fun _ _ _ h => h.elim)
          refine xr_iadd dX4_meanRent_47 ?_
          refine xr_istore_n (lv' := [some _, some _, some _]) dX4_meanRent_48 (by decide) rfl rfl ?_
          refine xr_iinc (lv' := [some _, some _, some _]) dX4_meanRent_49 rfl (by decide) rfl rfl ?_
          refine xr_goto (tgt := 31) dX4_meanRent_52 (by decide) ?_
          refine xr_wk (rc' := 0 * fu31 + 0) (rs' := 0 * fu31 + 0) ⟨by omega, by omega⟩ (ih31 _ (k + 1) (by omega) (by omega) (by omega) (by rw [← hr9, Int.add_assoc]))
    refine xr_wk (rc' := 0 * 11 + 0) (rs' := 0 * 11 + 0) ⟨by omega, by omega⟩ (lp31 11 0 0 (by omega) (by omega) (by omega) (by rw [Int.zero_add]))
  · skip
    refine xr_iconst dX4_meanRent_10 ?_
    refine xr_goto (tgt := 15) dX4_meanRent_11 (by decide) ?_
    refine xr_putfield (ci := 14) (T := TX4) (N := 23) (i := 0) (fs' := [_, _, _, _, _, _, _, _, _, _, _, _, _, _, _, _, _, _, _, _, _, _, _]) hM.1.1 rfl (by decide) in_X4 tyX4 tyX4_ok nmX4 q2191 (.inl rfl) rfl dX4_meanRent_15 (by rfl) (by rfl) (by simp) (by rfl) (.inl rfl) (fun _ => ?_)
    refine xr_mput (i := 0) hM (by rfl) (fun w15 hM => ?_)
    refine xr_aload_n dX4_meanRent_18 rfl (by first | rfl | exact isRef_rf _) ?_
    refine xr_getfield (ci := 14) (T := TX4) (N := 23) (i := 0) hM.1.1 rfl (by decide) in_X4 q2191 (.inl rfl) dX4_meanRent_19 (by rfl) ?_
    rw [updI_eq]
    refine xr_if_le (tgt := 27) dX4_meanRent_22 (by decide) (by decide) (fun c22 => absurd c22 (by decide)) (fun c22 => ?_)
    refine xr_dconst dX4_meanRent_25 ?_
    refine xr_dreturn rfl dX4_meanRent_26 ?_
    rw [hpo]
    exact ⟨1, hM.2, ⟨_, _, hM.1, updI_eq, hS.to (fun k hk => updI_ne (by omega)) (fun j hj => rfl)⟩, Or.inr ⟨by omega, rfl, _, rfl⟩⟩
theorem k_N_letShare {g : GG} {w : WW} {m : Nat} {A : Int → Nat} {th : Int} {P : Int → Int} {S : Option (Int → Int)} {H : List (Int → Int)} {I O : Tx} {se : Option Int} {rj : Option (Int × Int × Int)} {N : Int} (hG : Base g) (hX : MR g w m A th P S H I O se rj) (hB : PB P N) : Ct g yX4_letShare (.code yX4_letShare cX4_letShare 3 (some .float)) 2 43 0 0 w [.ref m] (fun r_ w1 => ∃ th : Int, Fr (MS m A) w w1 ∧ MR g w1 m A th P S H I O se rj ∧ ((0 < P 0 ∧ th = 0 ∧ r_ = some (.float (FP.fdiv (FP.i2f (iI (sumR (fun b => if P (13 + 6 * b) ≠ 0 then 1 else 0) 0 (P 0)))) (FP.i2f (iI (P 0)))))) ∨ (¬ 0 < P 0 ∧ th = 1 ∧ ∃ d, r_ = some (.float d)))) xF := by
  refine Ct.of (lv := [some _, none, none]) hG (by decide +kernel) (Nat.le_of_ble_eq_true rfl) rfl ?_
  intro z hg hpo hxp hnm htab
  subst hg
  obtain ⟨F, C, hM, -, hS⟩ := hX
  have hM : MDF (zg z) w w m A F P C := ⟨hM, Fr.rf⟩
  have h68 : 0 ≤ F 6 ∧ F 6 ≤ 8 := by have := hS.1.1; have := hS.1.2.1; omega
  have hgg := hB.g
  have hs1 := sumR_bd (f := fun b => if P (13 + 6 * b) ≠ 0 then 1 else 0) (B := 1) (k := 0) (n := P 0) (by decide) hgg.1.1 (fun j _ _ => by (try dsimp only); split <;> omega)
  refine xr_aload_n dX4_letShare_0 rfl (by first | rfl | exact isRef_rf _) ?_
  refine xr_aload_n dX4_letShare_1 rfl (by first | rfl | exact isRef_rf _) ?_
  refine xr_getfield (ci := 14) (T := TX4) (N := 23) (i := 1) hM.1.1 rfl (by decide) in_X4 q2192 (.inl rfl) dX4_letShare_2 (by rfl) ?_
  refine xr_iconst dX4_letShare_5 ?_
  refine xr_iaload hM.1.2.1 (by omega) (by decide) dX4_letShare_6 ?_
  refine xr_if_ne (tgt := 14) dX4_letShare_7 (by decide) (by omega) (fun c7 => ?_) (fun c7 => ?_)
  · skip
    refine xr_iconst dX4_letShare_14 ?_
    refine xr_putfield (ci := 14) (T := TX4) (N := 23) (i := 0) (fs' := [_, _, _, _, _, _, _, _, _, _, _, _, _, _, _, _, _, _, _, _, _, _, _]) hM.1.1 rfl (by decide) in_X4 tyX4 tyX4_ok nmX4 q2191 (.inl rfl) rfl dX4_letShare_15 (by rfl) (by rfl) (by simp) (by rfl) (.inl rfl) (fun _ => ?_)
    refine xr_mput (i := 0) hM (by rfl) (fun w15 hM => ?_)
    refine xr_aload_n dX4_letShare_18 rfl (by first | rfl | exact isRef_rf _) ?_
    refine xr_getfield (ci := 14) (T := TX4) (N := 23) (i := 0) hM.1.1 rfl (by decide) in_X4 q2191 (.inl rfl) dX4_letShare_19 (by rfl) ?_
    rw [updI_eq]
    refine xr_if_le (tgt := 27) dX4_letShare_22 (by decide) (by decide) (fun c22 => ?_) (fun c22 => absurd c22 (by decide))
    refine xr_iconst dX4_letShare_27 ?_
    refine xr_istore_n (lv' := [some _, some _, none]) dX4_letShare_28 (by decide) rfl rfl ?_
    refine xr_iconst dX4_letShare_29 ?_
    refine xr_istore_n (lv' := [some _, some _, some _]) dX4_letShare_30 (by decide) rfl rfl ?_
    have lp31 : ∀ (fu31 : Nat) (s9 k : Int), 0 ≤ k → k ≤ P 0 → P 0 - k < fu31 → s9 + sumR (fun b => if P (13 + 6 * b) ≠ 0 then 1 else 0) k (P 0) = sumR (fun b => if P (13 + 6 * b) ≠ 0 then 1 else 0) 0 (P 0) → XJ z yX4_letShare.cls cX4_letShare 3 (some .float) 2 43 w15 (0 * fu31 + 0) (0 * fu31 + 0) 31 [some (.ref m), some (.int (iI s9)), some (.int (iI k))] [] := by
      intro fu31
      induction fu31 with
      | zero =>
        intro s9 k hk0 hk1 hfu hr9
        omega
      | succ fu31 ih31 =>
        intro s9 k hk0 hk1 hfu hr9
        refine xr_iload_n dX4_letShare_31 rfl ?_
        refine xr_aload_n dX4_letShare_32 rfl (by first | rfl | exact isRef_rf _) ?_
        refine xr_getfield (ci := 14) (T := TX4) (N := 23) (i := 1) hM.1.1 rfl (by decide) in_X4 q2192 (.inl rfl) dX4_letShare_33 (by rfl) ?_
        refine xr_iconst dX4_letShare_36 ?_
        refine xr_iaload hM.1.2.1 (by omega) (by decide) dX4_letShare_37 ?_
        refine xr_icmp_ge (tgt := 64) dX4_letShare_38 (by decide) (by omega) (fun c38 => ?_) (fun c38 => ?_)
        · skip
          rw [sumR_ge (by omega), Int.add_zero] at hr9
          have hr9 : s9 = sumR (fun b => if P (13 + 6 * b) ≠ 0 then 1 else 0) 0 (P 0) := hr9
          rw [hr9]
          refine xr_iload_n dX4_letShare_64 rfl ?_
          refine xr_i2f dX4_letShare_65 ?_
          refine xr_aload_n dX4_letShare_66 rfl (by first | rfl | exact isRef_rf _) ?_
          refine xr_getfield (ci := 14) (T := TX4) (N := 23) (i := 1) hM.1.1 rfl (by decide) in_X4 q2192 (.inl rfl) dX4_letShare_67 (by rfl) ?_
          refine xr_iconst dX4_letShare_70 ?_
          refine xr_iaload hM.1.2.1 (by omega) (by decide) dX4_letShare_71 ?_
          refine xr_i2f dX4_letShare_72 ?_
          refine xr_fdiv dX4_letShare_73 (vf_f (by omega) (by omega)).1 ?_
          refine xr_freturn rfl dX4_letShare_74 ?_
          rw [hpo]
          exact ⟨0, hM.2, ⟨_, _, hM.1, updI_eq, hS.to (fun k hk => updI_ne (by omega)) (fun j hj => rfl)⟩, Or.inl ⟨by omega, rfl, rfl⟩⟩
        · skip
          have hbb := hB.b (b := k) (by omega)
          rw [sumR_lt (show k < P 0 by omega)] at hr9
          refine xr_iload_n dX4_letShare_41 rfl ?_
          refine xr_aload_n dX4_letShare_42 rfl (by first | rfl | exact isRef_rf _) ?_
          refine xr_iload_n dX4_letShare_43 rfl ?_
          refine xr_callV (n9 := 1) (rc' := 0 * fu31 + 0) (rs' := 0 * fu31 + 0) (k_M_by hG hM.1 (by omega)) hM.1.1 rfl q2487 q2489 qs65 q96 q2490 (by decide +kernel) rfl ⟨by decide, Nat.le_of_ble_eq_true rfl⟩ ⟨by omega, by omega⟩ (Nat.le_of_ble_eq_true rfl) dX4_letShare_44 rfl (xk_r ?_) (fun _ _ _ h => h.elim)
          refine xr_iconst dX4_letShare_47 ?_
          refine xr_icmp_ne (tgt := 55) dX4_letShare_48 (by decide) (by omega) (fun c48 => ?_) (fun c48 => ?_)
          · skip
            rw [if_pos (by omega)] at hr9
            refine xr_iconst dX4_letShare_55 ?_
            refine xr_iadd dX4_letShare_56 ?_
            refine xr_istore_n (lv' := [some _, some _, some _]) dX4_letShare_57 (by decide) rfl rfl ?_
            refine xr_iinc (lv' := [some _, some _, some _]) dX4_letShare_58 rfl (by decide) rfl rfl ?_
            refine xr_goto (tgt := 31) dX4_letShare_61 (by decide) ?_
            refine xr_wk (rc' := 0 * fu31 + 0) (rs' := 0 * fu31 + 0) ⟨by omega, by omega⟩ (ih31 _ (k + 1) (by omega) (by omega) (by omega) (by rw [← hr9, Int.add_assoc]))
          · skip
            rw [if_neg (by omega)] at hr9
            refine xr_iconst dX4_letShare_51 ?_
            refine xr_goto (tgt := 56) dX4_letShare_52 (by decide) ?_
            refine xr_iadd dX4_letShare_56 ?_
            refine xr_istore_n (lv' := [some _, some _, some _]) dX4_letShare_57 (by decide) rfl rfl ?_
            refine xr_iinc (lv' := [some _, some _, some _]) dX4_letShare_58 rfl (by decide) rfl rfl ?_
            refine xr_goto (tgt := 31) dX4_letShare_61 (by decide) ?_
            refine xr_wk (rc' := 0 * fu31 + 0) (rs' := 0 * fu31 + 0) ⟨by omega, by omega⟩ (ih31 _ (k + 1) (by omega) (by omega) (by omega) (by rw [← hr9, Int.add_assoc]))
    refine xr_wk (rc' := 0 * 11 + 0) (rs' := 0 * 11 + 0) ⟨by omega, by omega⟩ (lp31 11 0 0 (by omega) (by omega) (by omega) (by rw [Int.zero_add]))
  · skip
    refine xr_iconst dX4_letShare_10 ?_
    refine xr_goto (tgt := 15) dX4_letShare_11 (by decide) ?_
    refine xr_putfield (ci := 14) (T := TX4) (N := 23) (i := 0) (fs' := [_, _, _, _, _, _, _, _, _, _, _, _, _, _, _, _, _, _, _, _, _, _, _]) hM.1.1 rfl (by decide) in_X4 tyX4 tyX4_ok nmX4 q2191 (.inl rfl) rfl dX4_letShare_15 (by rfl) (by rfl) (by simp) (by rfl) (.inl rfl) (fun _ => ?_)
    refine xr_mput (i := 0) hM (by rfl) (fun w15 hM => ?_)
    refine xr_aload_n dX4_letShare_18 rfl (by first | rfl | exact isRef_rf _) ?_
    refine xr_getfield (ci := 14) (T := TX4) (N := 23) (i := 0) hM.1.1 rfl (by decide) in_X4 q2191 (.inl rfl) dX4_letShare_19 (by rfl) ?_
    rw [updI_eq]
    refine xr_if_le (tgt := 27) dX4_letShare_22 (by decide) (by decide) (fun c22 => absurd c22 (by decide)) (fun c22 => ?_)
    refine xr_fconst dX4_letShare_25 ?_
    refine xr_freturn rfl dX4_letShare_26 ?_
    rw [hpo]
    exact ⟨1, hM.2, ⟨_, _, hM.1, updI_eq, hS.to (fun k hk => updI_ne (by omega)) (fun j hj => rfl)⟩, Or.inr ⟨by omega, rfl, _, rfl⟩⟩
theorem k_N_incomeWithin {g : GG} {w : WW} {m : Nat} {A : Int → Nat} {th : Int} {P : Int → Int} {S : Option (Int → Int)} {H : List (Int → Int)} {I O : Tx} {se : Option Int} {rj : Option (Int × Int × Int)} {b N : Int} (hG : Base g) (hX : MR g w m A th P S H I O se rj) (hB : PB P N) (hN : N + 13000 ≤ 10000000) (hr : (-2147483648 ≤ b ∧ b < 2147483648)) : Ct g yX4_incomeWithin (.code yX4_incomeWithin cX4_incomeWithin 5 (some .int)) 6 137 0 0 w [.ref m, .int (iI b)] (fun r_ w1 => ∃ y th : Int, r_ = some (.int (iI y)) ∧ Fr (MS m A) w w1 ∧ MR g w1 m A th P S H I O se rj ∧ (((1 ≤ b ∧ b ≤ 12) ∧ th = 0 ∧ y = (oMonths b.toNat P).1 5 - P 5) ∨ (¬ (1 ≤ b ∧ b ≤ 12) ∧ th = 1))) xF := by
  refine Ct.of (lv := [some _, some _, none, none, none]) hG (by decide +kernel) (Nat.le_of_ble_eq_true rfl) rfl ?_
  intro z hg hpo hxp hnm htab
  subst hg
  obtain ⟨F, C, hM, -, hS⟩ := hX
  have hM : MDF (zg z) w w m A F P C := ⟨hM, Fr.rf⟩
  have h68 : 0 ≤ F 6 ∧ F 6 ≤ 8 := by have := hS.1.1; have := hS.1.2.1; omega
  have hgg := hB.g
  refine xr_aload_n dX4_incomeWithin_0 rfl (by first | rfl | exact isRef_rf _) ?_
  refine xr_iload_n dX4_incomeWithin_1 rfl ?_
  refine xr_iconst dX4_incomeWithin_2 ?_
  refine xr_bipush dX4_incomeWithin_3 (by decide) ?_
  refine xr_callS (n9 := 3) (rc' := 0) (rs' := 0) (k_M_in hG (by omega)) q2280 q2281 q96 q2282 (by decide +kernel) rfl ⟨by decide, Nat.le_of_ble_eq_true rfl⟩ ⟨Nat.le_of_ble_eq_true rfl, Nat.le_of_ble_eq_true rfl⟩ (Nat.le_of_ble_eq_true rfl) dX4_incomeWithin_5 rfl (xk_r ?_) (fun _ _ _ h => h.elim)
  refine xr_ifb_eq (tgt := 15) dX4_incomeWithin_8 (by decide) (fun c8 => ?_) (fun c8 => ?_)
  · skip
    try simp only [decide_eq_true_eq, decide_eq_false_iff_not] at c8
    refine xr_iconst dX4_incomeWithin_15 ?_
    refine xr_putfield (ci := 14) (T := TX4) (N := 23) (i := 0) (fs' := [_, _, _, _, _, _, _, _, _, _, _, _, _, _, _, _, _, _, _, _, _, _, _]) hM.1.1 rfl (by decide) in_X4 tyX4 tyX4_ok nmX4 q2191 (.inl rfl) rfl dX4_incomeWithin_16 (by rfl) (by rfl) (by simp) (by rfl) (.inl rfl) (fun _ => ?_)
    refine xr_mput (i := 0) hM (by rfl) (fun w16 hM => ?_)
    refine xr_aload_n dX4_incomeWithin_19 rfl (by first | rfl | exact isRef_rf _) ?_
    refine xr_getfield (ci := 14) (T := TX4) (N := 23) (i := 0) hM.1.1 rfl (by decide) in_X4 q2191 (.inl rfl) dX4_incomeWithin_20 (by rfl) ?_
    rw [updI_eq]
    refine xr_if_le (tgt := 28) dX4_incomeWithin_23 (by decide) (by decide) (fun c23 => absurd c23 (by decide)) (fun c23 => ?_)
    refine xr_iconst dX4_incomeWithin_26 ?_
    refine xr_ireturn rfl rfl dX4_incomeWithin_27 ?_
    rw [hpo]
    exact ⟨0, 1, rfl, hM.2, ⟨_, _, hM.1, updI_eq, hS.to (fun k hk => updI_ne (by omega)) (fun j hj => rfl)⟩, Or.inr ⟨by omega, rfl⟩⟩
  · skip
    try simp only [decide_eq_true_eq, decide_eq_false_iff_not] at c8
    refine xr_iconst dX4_incomeWithin_11 ?_
    refine xr_goto (tgt := 16) dX4_incomeWithin_12 (by decide) ?_
    refine xr_putfield (ci := 14) (T := TX4) (N := 23) (i := 0) (fs' := [_, _, _, _, _, _, _, _, _, _, _, _, _, _, _, _, _, _, _, _, _, _, _]) hM.1.1 rfl (by decide) in_X4 tyX4 tyX4_ok nmX4 q2191 (.inl rfl) rfl dX4_incomeWithin_16 (by rfl) (by rfl) (by simp) (by rfl) (.inl rfl) (fun _ => ?_)
    refine xr_mput (i := 0) hM (by rfl) (fun w16 hM => ?_)
    refine xr_aload_n dX4_incomeWithin_19 rfl (by first | rfl | exact isRef_rf _) ?_
    refine xr_getfield (ci := 14) (T := TX4) (N := 23) (i := 0) hM.1.1 rfl (by decide) in_X4 q2191 (.inl rfl) dX4_incomeWithin_20 (by rfl) ?_
    rw [updI_eq]
    refine xr_if_le (tgt := 28) dX4_incomeWithin_23 (by decide) (by decide) (fun c23 => ?_) (fun c23 => absurd c23 (by decide))
    refine xr_iconst dX4_incomeWithin_28 ?_
    refine xr_istore_n (lv' := [some _, some _, some _, none, none]) dX4_incomeWithin_29 (by decide) rfl rfl ?_
    have lp30 : ∀ (fu30 : Nat) (w9 : WW) (k : Int), 0 ≤ k → k ≤ 102 → 102 - k < fu30 → MDF (zg z) w w9 m A (updI F 0 0) P (updC C 5 (cpK P (C 5) k)) → XJ z yX4_incomeWithin.cls cX4_incomeWithin 5 (some .int) 6 137 w9 (0 * fu30 + 0) (0 * fu30 + 0) 30 [some (.ref m), some (.int (iI b)), some (.int (iI k)), none, none] [] := by
      intro fu30
      induction fu30 with
      | zero =>
        intro w9 k hk0 hk1 hfu hM
        omega
      | succ fu30 ih30 =>
        intro w9 k hk0 hk1 hfu hM
        refine xr_iload_n dX4_incomeWithin_30 rfl ?_
        refine xr_bipush dX4_incomeWithin_31 (by decide) ?_
        refine xr_icmp_ge (tgt := 54) dX4_incomeWithin_33 (by decide) (by omega) (fun c33 => ?_) (fun c33 => ?_)
        · skip
          have hk7 : k = 102 := by omega
          rw [hk7] at hM
          have hM := hM.toC (C' := updC C 5 P) (fun j i h0 h1 => by
            by_cases hj : j = 5
            · subst hj; rw [updC_at, updC_at]; unfold cpK; rw [if_pos ⟨h0, by have h9 : (i : Int) < ((102 : Nat) : Int) := h1; omega⟩]
            · rw [updC_ne hj, updC_ne hj])
          refine xr_aload_n dX4_incomeWithin_54 rfl (by first | rfl | exact isRef_rf _) ?_
          refine xr_iload_n dX4_incomeWithin_55 rfl ?_
          refine xr_callV (n9 := 1) (rc' := 0 * fu30 + 0) (rs' := 0 * fu30 + 0) (k_M_passes hG hM.1 hB hN hr) hM.1.1 rfl q2559 q2561 qs72 q96 q2562 (by decide +kernel) rfl ⟨by decide, Nat.le_of_ble_eq_true rfl⟩ ⟨by omega, by omega⟩ (Nat.le_of_ble_eq_true rfl) dX4_incomeWithin_56 rfl (fun r w56 hw => ?_) (fun _ _ _ h => h.elim)
          obtain ⟨r, F1, P1, rfl, hw, hA⟩ := hw
          have hM := hM.tr hw
          show XJ _ _ _ _ _ _ _ _ _ _ _ _ [.int (iI r)]
          have hF1 : ∀ i : Int, i ≠ 17 → i ≠ 18 → F1 i = updI F 0 0 i := fun i h1 h2 => hA.fk h1 h2
          have hP1 : P1 = (oMonths b.toNat P).1 := by
            rcases hA with ⟨h, -⟩ | ⟨-, h, -⟩ | ⟨-, -, h, -⟩ | ⟨-, -, -, -, -, h⟩
            · omega
            · exact absurd trivial h
            · exact absurd rfl h
            · exact h
          subst hP1
          refine xr_istore_n (lv' := [some _, some _, some _, none, none]) dX4_incomeWithin_59 (by decide) rfl rfl ?_
          refine xr_aload_n dX4_incomeWithin_60 rfl (by first | rfl | exact isRef_rf _) ?_
          refine xr_getfield (ci := 14) (T := TX4) (N := 23) (i := 1) hM.1.1 rfl (by decide) in_X4 q2192 (.inl rfl) dX4_incomeWithin_61 (by rfl) ?_
          refine xr_iconst dX4_incomeWithin_64 ?_
          refine xr_iaload hM.1.2.1 (by omega) (by decide) dX4_incomeWithin_65 ?_
          refine xr_aload_n dX4_incomeWithin_66 rfl (by first | rfl | exact isRef_rf _) ?_
          refine xr_getfield (ci := 14) (T := TX4) (N := 23) (i := 5) hM.1.1 rfl (by decide) in_X4 q2196 (.inl rfl) dX4_incomeWithin_67 (by rfl) ?_
          refine xr_iconst dX4_incomeWithin_70 ?_
          refine xr_iaload (hM.1.2.2.1 5 (by decide)) (show (0 : Int) ≤ _ ∧ _ < ((102 : Nat) : Int) from by omega) (by decide) dX4_incomeWithin_71 ?_
          rw [updC_at]
          refine xr_isub dX4_incomeWithin_72 ?_
          refine xr_istore_n (lv' := [some _, some _, some _, some _, none]) dX4_incomeWithin_73 (by decide) rfl rfl ?_
          refine xr_iconst dX4_incomeWithin_74 ?_
          refine xr_istore (lv' := [some _, some _, some _, some _, some _]) dX4_incomeWithin_75 (by decide) rfl rfl ?_
          have lp77 : ∀ (fu77 : Nat) (w9 : WW) (k : Int), 0 ≤ k → k ≤ 102 → 102 - k < fu77 → MDF (zg z) w w9 m A F1 (cpK P ((oMonths b.toNat P).1) k) (updC C 5 P) → XJ z yX4_incomeWithin.cls cX4_incomeWithin 5 (some .int) 6 137 w9 (0 * fu30 + 0 * fu77 + 0) (0 * fu30 + 0 * fu77 + 0) 77 [some (.ref m), some (.int (iI b)), some (.int (iI r)), some (.int (iI ((oMonths b.toNat P).1 5 - P 5))), some (.int (iI k))] [] := by
            intro fu77
            induction fu77 with
            | zero =>
              intro w9 k hk0 hk1 hfu hM
              omega
            | succ fu77 ih77 =>
              intro w9 k hk0 hk1 hfu hM
              refine xr_iload dX4_incomeWithin_77 rfl ?_
              refine xr_bipush dX4_incomeWithin_79 (by decide) ?_
              refine xr_icmp_ge (tgt := 104) dX4_incomeWithin_81 (by decide) (by omega) (fun c81 => ?_) (fun c81 => ?_)
              · skip
                refine xr_iload_n dX4_incomeWithin_104 rfl ?_
                refine xr_ireturn rfl rfl dX4_incomeWithin_105 ?_
                rw [hpo]
                have hk7 : k = 102 := by omega
                have hM := hM.toP (P' := P) (fun j h0 h1 => by unfold cpK; rw [if_pos (by omega)])
                exact ⟨_, 0, rfl, hM.2, ⟨_, _, hM.1, (hF1 0 (by decide) (by decide)).trans updI_eq, hS.to (fun k hk => (hF1 k (by omega) (by omega)).trans (updI_ne (by omega))) (fun j hj => updC_ne (by omega))⟩, Or.inl ⟨by omega, rfl, rfl⟩⟩
              · skip
                refine xr_aload_n dX4_incomeWithin_84 rfl (by first | rfl | exact isRef_rf _) ?_
                refine xr_getfield (ci := 14) (T := TX4) (N := 23) (i := 1) hM.1.1 rfl (by decide) in_X4 q2192 (.inl rfl) dX4_incomeWithin_85 (by rfl) ?_
                refine xr_iload dX4_incomeWithin_88 rfl ?_
                refine xr_aload_n dX4_incomeWithin_90 rfl (by first | rfl | exact isRef_rf _) ?_
                refine xr_getfield (ci := 14) (T := TX4) (N := 23) (i := 5) hM.1.1 rfl (by decide) in_X4 q2196 (.inl rfl) dX4_incomeWithin_91 (by rfl) ?_
                refine xr_iload dX4_incomeWithin_94 rfl ?_
                refine xr_iaload (hM.1.2.2.1 5 (by decide)) (show (0 : Int) ≤ _ ∧ _ < ((102 : Nat) : Int) from by omega) (by decide) dX4_incomeWithin_96 ?_
                refine xr_mstS hM (by omega) dX4_incomeWithin_97 (fun w97 hM => ?_)
                refine xr_iinc (lv' := [some _, some _, some _, some _, some _]) dX4_incomeWithin_98 rfl (by decide) rfl rfl ?_
                refine xr_goto (tgt := 77) dX4_incomeWithin_101 (by decide) ?_
                refine xr_wk (rc' := 0 * fu30 + 0 * fu77 + 0) (rs' := 0 * fu30 + 0 * fu77 + 0) ⟨by omega, by omega⟩ (ih77 _ (k + 1) (by omega) (by omega) (by omega) (hM.toP (fun j h0 h1 => by
    rw [updC_at]
    simp only [updI, cpK]
    by_cases e9 : j = k
    · rw [if_pos e9, if_pos (by omega), e9]
    · rw [if_neg e9]
      by_cases e8 : j < k
      · rw [if_pos (by omega), if_pos (by omega)]
      · rw [if_neg (by omega), if_neg (by omega)])))
          refine xr_wk (rc' := 0 * fu30 + 0 * 103 + 0) (rs' := 0 * fu30 + 0 * 103 + 0) ⟨by omega, by omega⟩ (lp77 103 _ 0 (by omega) (by omega) (by omega) (hM.toP (fun j h0 h1 => by unfold cpK; rw [if_neg (by omega)])))
        · skip
          refine xr_aload_n dX4_incomeWithin_36 rfl (by first | rfl | exact isRef_rf _) ?_
          refine xr_getfield (ci := 14) (T := TX4) (N := 23) (i := 5) hM.1.1 rfl (by decide) in_X4 q2196 (.inl rfl) dX4_incomeWithin_37 (by rfl) ?_
          refine xr_iload_n dX4_incomeWithin_40 rfl ?_
          refine xr_aload_n dX4_incomeWithin_41 rfl (by first | rfl | exact isRef_rf _) ?_
          refine xr_getfield (ci := 14) (T := TX4) (N := 23) (i := 1) hM.1.1 rfl (by decide) in_X4 q2192 (.inl rfl) dX4_incomeWithin_42 (by rfl) ?_
          refine xr_iload_n dX4_incomeWithin_45 rfl ?_
          refine xr_iaload hM.1.2.1 (by omega) (by decide) dX4_incomeWithin_46 ?_
          refine xr_mstC (j := 5) hM (by decide) (show (0 : Int) ≤ _ ∧ _ < ((102 : Nat) : Int) from by omega) dX4_incomeWithin_47 (fun w47 hM => ?_)
          refine xr_iinc (lv' := [some _, some _, some _, none, none]) dX4_incomeWithin_48 rfl (by decide) rfl rfl ?_
          refine xr_goto (tgt := 30) dX4_incomeWithin_51 (by decide) ?_
          refine xr_wk (rc' := 0 * fu30 + 0) (rs' := 0 * fu30 + 0) ⟨by omega, by omega⟩ (ih30 _ (k + 1) (by omega) (by omega) (by omega) (hM.toC (fun j i h0 h1 => by
    by_cases hj : j = 5
    · subst hj; simp only [updC_at, updI, cpK]
      by_cases e9 : i = k
      · rw [if_pos e9, if_pos (by omega), e9]
      · rw [if_neg e9]
        by_cases e8 : i < k
        · rw [if_pos (by omega), if_pos (by omega)]
        · rw [if_neg (by omega), if_neg (by omega)]
    · rw [updC_ne hj, updC_ne hj, updC_ne hj])))
    refine xr_wk (rc' := 0 * 103 + 0) (rs' := 0 * 103 + 0) ⟨by omega, by omega⟩ (lp30 103 _ 0 (by omega) (by omega) (by omega) (hM.toC (fun j i h0 h1 => by
    by_cases hj : j = 5
    · subst hj; rw [updC_at]; unfold cpK; rw [if_neg (by omega)]
    · rw [updC_ne hj])))
theorem k_N_incomeByLeases {g : GG} {w : WW} {m : Nat} {A : Int → Nat} {th : Int} {P : Int → Int} {S : Option (Int → Int)} {H : List (Int → Int)} {I O : Tx} {se : Option Int} {rj : Option (Int × Int × Int)} {b N : Int} (hG : Base g) (hX : MR g w m A th P S H I O se rj) (hB : PB P N) (hN : N + 13000 ≤ 10000000) (hr : (-2147483648 ≤ b ∧ b < 2147483648)) : Ct g yX4_incomeByLeases (.code yX4_incomeByLeases cX4_incomeByLeases 2 (some .int)) 7 161 0 0 w [.ref m, .int (iI b)] (fun r_ w1 => ∃ y th : Int, r_ = some (.int (iI y)) ∧ Fr (MS m A) w w1 ∧ MR g w1 m A th P S H I O se rj ∧ (((1 ≤ b ∧ b ≤ 12) ∧ th = 0 ∧ y = (oMonths b.toNat P).1 5 - P 5) ∨ (¬ (1 ≤ b ∧ b ≤ 12) ∧ th = 1))) xF := by
  refine Ct.of (lv := [some _, some _]) hG (by decide +kernel) (Nat.le_of_ble_eq_true rfl) rfl ?_
  intro z hg hpo hxp hnm htab
  subst hg
  obtain ⟨F, C, hM, -, hS⟩ := hX
  have hM : MDF (zg z) w w m A F P C := ⟨hM, Fr.rf⟩
  have h68 : 0 ≤ F 6 ∧ F 6 ≤ 8 := by have := hS.1.1; have := hS.1.2.1; omega
  refine xr_aload_n dX4_incomeByLeases_0 rfl (by first | rfl | exact isRef_rf _) ?_
  refine xr_iload_n dX4_incomeByLeases_1 rfl ?_
  refine xr_callV (n9 := 1) (rc' := 0) (rs' := 0) (k_N_incomeWithin hG ⟨F, C, hM.1, rfl, hS⟩ hB hN hr) hM.1.1 rfl q2579 q2572 q2573 q96 q2574 (by decide +kernel) rfl ⟨by decide, Nat.le_of_ble_eq_true rfl⟩ ⟨Nat.le_of_ble_eq_true rfl, Nat.le_of_ble_eq_true rfl⟩ (Nat.le_of_ble_eq_true rfl) dX4_incomeByLeases_2 rfl (fun r w2 hw => ?_) (fun _ _ _ h => h.elim)
  obtain ⟨y, th, rfl, hf, hX, hD⟩ := hw
  show XJ _ _ _ _ _ _ _ _ _ _ _ _ [.int (iI y)]
  refine xr_ireturn rfl rfl dX4_incomeByLeases_5 ?_
  rw [hpo]
  exact ⟨y, th, rfl, hM.2.tq hf, hX, hD⟩
