/-! 34.noise.lean.txt (written by tools/walker.py)  -/
set_option maxRecDepth 100000
theorem k_sumA {g : GG} {w : WW} {r l arr v : Nat} {n : Int} {f : Int → Option Nat} {F : Int → Int} (hG : Base g) (hr : Ob w r 1 [.ref l]) (hA : AL g w l arr n f) (hit : ∀ k : Int, 0 ≤ k → k < n → ∃ (y ci : Nat) (fs : List Value) (qc : vw_C), f k = some y ∧ Ob w y ci fs ∧ vwCl[ci]? = some qc ∧ Cond.castable qc.1 "BenchBroker$Item" ∈ lw_tbl) (hV : ∀ w' : WW, Mo w.2 w w' → ∀ (k : Int) (y : Nat), 0 ≤ k → k < n → f k = some y → LV g ⟨"BenchBroker$Value", "of", "(LBenchBroker$Item;)I"⟩ 10 400 0 0 w' v [y] (iI (F k))) : Ct g yX3_sum (.code yX3_sum cX3_sum 4 (some .int)) 10 400 0 0 w [.ref r, .ref v] (fun r_ w1 => r_ = some (.int (iI (sumR F 0 n))) ∧ Mo w.2 w w1) xF := by
  refine Ct.of (lv := [some _, some _, none, none]) hG (by decide +kernel) (Nat.le_of_ble_eq_true rfl) rfl ?_
  intro z hg hpo hxp hnm htab
  subst hg
  have hmo : Mo w.2 w w := Mo.rf
  have hn := hA.lt
  refine xr_iconst dX3_sum_0 ?_
  refine xr_istore_n (lv' := [some _, some _, some _, none]) dX3_sum_1 (by decide) rfl rfl ?_
  refine xr_iconst dX3_sum_2 ?_
  refine xr_istore_n (lv' := [some _, some _, some _, some _]) dX3_sum_3 (by decide) rfl rfl ?_
  have lp4 : ∀ (fu4 : Nat) (w9 : WW) (acc k : Int), 0 ≤ k → k ≤ n → n - k < fu4 → Mo w.2 w w9 → acc + sumR F k n = sumR F 0 n → XJ z yX3_sum.cls cX3_sum 4 (some .int) 10 400 w9 (0 * fu4 + 0) (0 * fu4 + 0) 4 [some (.ref r), some (.ref v), some (.int (iI acc)), some (.int (iI k))] [] := by
    intro fu4
    induction fu4 with
    | zero =>
      intro w9 acc k hk0 hkn hfu hmo hac
      omega
    | succ fu4 ih4 =>
      intro w9 acc k hk0 hkn hfu hmo hac
      have hr9 := hr.ext hmo
      have hA9 := hA.ext hmo
      obtain ⟨mm, hol⟩ := hA9.ob
      refine xr_iload_n dX3_sum_4 rfl ?_
      refine xr_aload_n dX3_sum_5 rfl (by first | rfl | exact isRef_rf _) ?_
      refine xr_getfield (ci := 1) (T := TX3) (N := 1) (i := 0) (by assumption) rfl (by decide) in_X3 q182 (.inl rfl) dX3_sum_6 (by rfl) ?_
      refine xr_callV (n9 := 0) (rc' := 0 * fu4 + 0) (rs' := 0 * fu4 + 0) (k_AL_size hG hA9) hol rfl q297 q298 q299 q91 q300 (by decide +kernel) rfl ⟨by decide, Nat.le_of_ble_eq_true rfl⟩ ⟨by omega, by omega⟩ (Nat.le_of_ble_eq_true rfl) dX3_sum_9 rfl (xk_r ?_) (fun _ _ _ h => h.elim)
      refine xr_icmp_ge (tgt := 41) dX3_sum_12 (by decide) (by omega) (fun c12 => ?_) (fun c12 => ?_)
      · skip
        refine xr_iload_n dX3_sum_41 rfl ?_
        refine xr_ireturn rfl rfl dX3_sum_42 ?_
        rw [hpo]
        exact ⟨by rw [← hac, sumR_ge (by omega), Int.add_zero], hmo⟩
      · skip
        obtain ⟨y, ci, fs, qc, hfy, hoy, hqc, hcast⟩ := hit k hk0 (by omega)
        have hoy9 := hoy.ext hmo
        refine xr_iload_n dX3_sum_15 rfl ?_
        refine xr_aload_n dX3_sum_16 rfl (by first | rfl | exact isRef_rf _) ?_
        refine xr_aload_n dX3_sum_17 rfl (by first | rfl | exact isRef_rf _) ?_
        refine xr_getfield (ci := 1) (T := TX3) (N := 1) (i := 0) (by assumption) rfl (by decide) in_X3 q182 (.inl rfl) dX3_sum_18 (by rfl) ?_
        refine xr_iload_n dX3_sum_21 rfl ?_
        refine xr_callV (n9 := 1) (rc' := 0 * fu4 + 0) (rs' := 0 * fu4 + 0) (k_AL_get hG hA9 ⟨hk0, by omega⟩ hfy) hol rfl q366 q367 q368 q91 q369 (by decide +kernel) rfl ⟨by decide, Nat.le_of_ble_eq_true rfl⟩ ⟨by omega, by omega⟩ (Nat.le_of_ble_eq_true rfl) dX3_sum_22 rfl (xk_r ?_) (fun _ _ _ h => h.elim)
        refine xr_castY hoy9 hqc q380 hcast dX3_sum_25 ?_
        refine hV w9 hmo k y hk0 (by omega) hfy z _ _ _ _ _ _ _ _ (0 * fu4 + 0) (0 * fu4 + 0) _ _ _ _ _ _ rfl q382 ⟨Nat.le_of_ble_eq_true rfl, Nat.le_of_ble_eq_true rfl⟩ ⟨by omega, by omega⟩ (Nat.le_of_ble_eq_true rfl) dX3_sum_28 rfl (fun w28 hm28 => ?_)
        have hmo := hmo.tr hm28 hmo.1
        refine xr_iadd dX3_sum_33 ?_
        refine xr_istore_n (lv' := [some _, some _, some _, some _]) dX3_sum_34 (by decide) rfl rfl ?_
        refine xr_iinc (lv' := [some _, some _, some _, some _]) dX3_sum_35 rfl (by decide) rfl rfl ?_
        refine xr_goto (tgt := 4) dX3_sum_38 (by decide) ?_
        refine xr_wk (rc' := 0 * fu4 + 0) (rs' := 0 * fu4 + 0) ⟨by omega, by omega⟩ (ih4 _ _ _ (by omega) (by omega) (by omega) hmo (by rw [← hac, sumR_lt (show k < n by omega)]; omega))
  refine xr_wk (rc' := 0 * 11 + 0) (rs' := 0 * 11 + 0) ⟨by omega, by omega⟩ (lp4 11 _ _ _ (by omega) (by omega) (by omega) Mo.rf (by omega))
theorem k_lam2 {g : GG} {w : WW} {a : Nat} {r c i l x y : Int} {o : Bool} (hG : Base g) (ho : Ob w a 4 [.int (iI r), .int (iI c), .int (iI i), .int (iI l), .int (bI o)]) (hr : (sm r ∧ sm c ∧ sm l) ∧ (sm x ∧ sm y)) : Ct g yX2_lambda_noiseAt_0 (.code yX2_lambda_noiseAt_0 cX2_lambda_noiseAt_0 3 (some .int)) 3 65 0 0 w [.int (iI x), .int (iI y), .ref a] (fun r_ w1 => r_ = some (.int (iI (if o = true then max 0 (l - 2 * dist r c x y) else 0))) ∧ w1 = w) xF := by
  refine Ct.of (lv := [some _, some _, some _]) hG (by decide +kernel) (Nat.le_of_ble_eq_true rfl) rfl ?_
  intro z hg hpo hxp hnm htab
  subst hg
  refine xr_aload_n dX2_lambda_noiseAt_0_0 rfl (by first | rfl | exact isRef_rf _) ?_
  refine xr_iload_n dX2_lambda_noiseAt_0_1 rfl ?_
  refine xr_iload_n dX2_lambda_noiseAt_0_2 rfl ?_
  refine xr_callV (n9 := 2) (rc' := 0) (rs' := 0) (k_F_noiseAt hG ho hr) ho rfl q346 q347 q348 q109 q349 (by decide +kernel) rfl ⟨by decide, Nat.le_of_ble_eq_true rfl⟩ ⟨Nat.le_of_ble_eq_true rfl, Nat.le_of_ble_eq_true rfl⟩ (Nat.le_of_ble_eq_true rfl) dX2_lambda_noiseAt_0_3 rfl (xk_r ?_) (fun _ _ _ h => h.elim)
  refine xr_ireturn rfl rfl dX2_lambda_noiseAt_0_6 ?_
  rw [hpo]
  first | exact ⟨rfl, rfl⟩ | exact ⟨ret_bt (by omega), rfl⟩ | exact ⟨ret_bf (by omega), rfl⟩ | exact ⟨ret_i (by omega), rfl⟩
theorem lv2 {g : GG} {w : WW} {v y : Nat} {r c i l x1 y1 : Int} {o : Bool} (hG : Base g) (hlo : LO g w v ⟨"BenchBroker$Park", "noiseAt", "(II)I"⟩ 6 109 sg2 [.int (iI x1), .int (iI y1)]) (ho : Ob w y 4 [.int (iI r), .int (iI c), .int (iI i), .int (iI l), .int (bI o)]) (hr : (sm r ∧ sm c ∧ sm l) ∧ (sm x1 ∧ sm y1)) : LV g ⟨"BenchBroker$Value", "of", "(LBenchBroker$Item;)I"⟩ 10 400 0 0 w v [y] (iI (if o = true then max 0 (l - 2 * dist r c x1 y1) else 0)) := by
  intro z own cc nL ret fr lo rc rs rc' rs' pc idx cnt lv st rest hg hl hr9 hbud9 hc d hst k
  subst hg
  exact xr_lam2 (rc' := rc') (rs' := rs') hlo ho (k_lam2 hG ho hr) hl ⟨by omega, by omega⟩ ⟨by omega, by omega⟩ hc d hst (fun v9 w9 h => by obtain ⟨rfl, rfl⟩ := h; exact ⟨_, rfl, rfl⟩) (fun r9 w9 h => by obtain ⟨rfl, rfl⟩ := h; exact k w9 Mo.rf)
theorem k_P_noiseAt {g : GG} {w : WW} {n0 : Nat → Prop} {q : Nat} {L : Int → Nat} {P : Int → Int} {N : Int} {x y : Int} (hG : Base g) (hK : PK g w n0 q L P) (hB : PB P N) (hr : sm x ∧ sm y) : Ct g yX2_noiseAt (.code yX2_noiseAt cX2_noiseAt 3 (some .int)) 11 3080 1 2 w [.ref q, .int (iI x), .int (iI y)] (fun r_ w1 => r_ = some (.int (iI (noise P x y))) ∧ Mo w.2 w w1) xF := by
  refine Ct.ofN (lv := [some _, some _, some _]) hG (by decide +kernel) (Nat.le_of_ble_eq_true rfl) rfl ?_
  intro z hg hpo hxp hnm htab hmn
  subst hg
  have hmo : Mo w.2 w w := Mo.rf
  refine xr_aload_n dX2_noiseAt_0 rfl (by first | rfl | exact isRef_rf _) ?_
  refine xr_getfield (ci := 0) (T := TX2) (N := 10) (i := 1) hK.hq rfl (by decide) in_X2 q189 (.inl rfl) dX2_noiseAt_1 (by rfl) ?_
  refine xr_iload_n dX2_noiseAt_4 rfl ?_
  refine xr_iload_n dX2_noiseAt_5 rfl ?_
  refine xr_lamM (x := ⟨"BenchBroker$Park", "noiseAt", "(II)I"⟩) (σ := sg2) (tys := #[FieldType.int, FieldType.int]) (vals := [.int (iI x), .int (iI y)]) (rest := [.ref (L 1)]) (n9 := 2) (rc' := 0) (rs' := 0) hmn ssite2 (by decide) q2802 slay2 rfl rfl rfl (by intro i v hv; rcases i with _ | _ | i <;> simp at hv <;> subst hv <;> exact ⟨_, rfl, rfl⟩) (Nat.le_of_ble_eq_true rfl) ⟨Nat.le_of_ble_eq_true rfl, Nat.le_of_ble_eq_true rfl⟩ dX2_noiseAt_6 rfl (fun a6 e6 ga6 ba6 hlam6 => ?_)
  have hm6 : Mo _ _ _ := Mo.new ga6 ga6 e6
  have hmo := hmo.tr hm6 hmo.1
  have hK := hK.ext hm6
  refine xr_callV (n9 := 1) (rc' := 0) (rs' := 0) (k_sumA (F := fun f => nz1 P f x y) hG hK.r1 hK.l1 (fun k h0 h1 => ⟨_, 4, _, _, rfl, hK.fo k h0 h1, rfl, q2758⟩) (fun w' hm k y9 h0 h1 hy => by
    obtain rfl : L (30 + k) = y9 := Option.some.inj hy
    have hf := hB.2.2.2.2.2.2.2.1 k h0 h1
    have h9 := lv2 hG (hlam6.ext hm) ((hK.ext hm).fo k h0 h1) (x1 := x) (y1 := y) ⟨⟨by omega, by omega, by omega⟩, hr⟩
    simp only [decide_eq_true_eq] at h9
    exact h9)) hK.r1 rfl q362 q363 q364 q88 q365 (by decide +kernel) rfl ⟨by decide, Nat.le_of_ble_eq_true rfl⟩ ⟨Nat.le_of_ble_eq_true rfl, Nat.le_of_ble_eq_true rfl⟩ (Nat.le_of_ble_eq_true rfl) dX2_noiseAt_11 rfl (xk_e fun w11 hm11 => ?_) (fun _ _ _ h => h.elim)
  have hmo := hmo.tr hm11 hmo.1
  have hK := hK.ext hm11
  refine xr_ireturn rfl rfl dX2_noiseAt_14 ?_
  rw [hpo]
  first | exact ⟨rfl, hmo⟩ | exact ⟨ret_bt (by omega), hmo⟩ | exact ⟨ret_bf (by omega), hmo⟩ | exact ⟨ret_i (by omega), hmo⟩
