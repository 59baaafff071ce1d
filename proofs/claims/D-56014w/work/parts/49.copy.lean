/-! 49.copy.lean.txt (written by tools/walker.py)  -/
set_option maxRecDepth 100000
/-- leases and tenants name each other -/
def PCon (P : Int → Int) : Prop := (∀ b : Int, 0 ≤ b → b < P 0 → P (13 + 6 * b) ≠ 0 → P (102 + (P (13 + 6 * b) - 1)) = b + 1) ∧ ∀ t : Int, 0 ≤ t → t < P 2 → P (102 + t) ≠ 0 → P (13 + 6 * (P (102 + t) - 1)) = t + 1
/-- the fountains are copied -/
def cF (P P9 : Int → Int) (k : Int) : Prop := ∀ j : Int, 70 ≤ j → j < 70 + 4 * k → P9 j = P j
/-- the benches are copied, those with a tenant above k as if they had none -/
def cB (P P9 : Int → Int) (n k : Int) : Prop := ∀ i : Int, 0 ≤ i → i < n → P9 (10 + 6 * i) = P (10 + 6 * i) ∧ P9 (11 + 6 * i) = P (11 + 6 * i) ∧ P9 (12 + 6 * i) = P (12 + 6 * i) ∧ P9 (13 + 6 * i) = (if P (13 + 6 * i) ≤ k then P (13 + 6 * i) else 0) ∧ P9 (14 + 6 * i) = P (14 + 6 * i) ∧ P9 (15 + 6 * i) = P (15 + 6 * i)
def cT (P P9 : Int → Int) (k : Int) : Prop := ∀ i : Int, 0 ≤ i → i < k → P9 (86 + 2 * i) = P (86 + 2 * i) ∧ P9 (87 + 2 * i) = P (87 + 2 * i) ∧ P9 (102 + i) = P (102 + i)
theorem k_P_copy {g : GG} {w : WW} {n0 : Nat → Prop} {q : Nat} {L : Int → Nat} {P : Int → Int}  (hG : Base g) (hL : KL g) (hK : PK g w n0 q L P) (hC : PCon P) : Ct g yX2_copy (.code yX2_copy cX2_copy 5 (some ((.object "BenchBroker$Park")))) 7 151 57 410 w [.ref q] (fun r_ w1 => ∃ (q' : Nat) (L' : Int → Nat), r_ = some (.ref q') ∧ PK g w1 (fun x => q' ≤ x) q' L' P ∧ w.2 ≤ q' ∧ Mo w.2 w w1) xF := by
  refine Ct.of (lv := [some _, none, none, none, none]) hG (by decide +kernel) (Nat.le_of_ble_eq_true rfl) rfl ?_
  intro z hg hpo hxp hnm htab
  subst hg
  have hc0 := hK.c0
  refine xr_new (ci := 0) (T := TX2) (N := 10) (n9 := 10) (fs := [.null, .null, .null, .int (iI 0), .int (iI 0), .int (iI 0), .int (iI 0), .int (iI 0), .int (iI 0), .int (iI 0)]) (rc' := 56) (rs' := 400) rfl in_X2 tyX2 tyX2_ok q730 q142 q87 (by intro j hj; rcases (show j = 0 ∨ j = 1 ∨ j = 2 ∨ j = 3 ∨ j = 4 ∨ j = 5 ∨ j = 6 ∨ j = 7 ∨ j = 8 ∨ j = 9 by omega) with rfl | rfl | rfl | rfl | rfl | rfl | rfl | rfl | rfl | rfl <;> rfl) ⟨Nat.le_of_ble_eq_true rfl, Nat.le_of_ble_eq_true rfl⟩ dX2_copy_0 (fun a0 ga0 hob0 => ?_)
  have hmn0 := Mo.new ga0 ga0 (.inl (.inr (0, [.null, .null, .null, .int (iI 0), .int (iI 0), .int (iI 0), .int (iI 0), .int (iI 0), .int (iI 0), .int (iI 0)])))
  refine xr_dup dX2_copy_3 (by first | rfl | exact cat_rf _) ?_
  refine xr_callI (n9 := 0) (rc' := 50) (rs' := 388) (k_P_init hG hL hob0) q731 q144 q87 q145 rfl (by decide +kernel) rfl ⟨by decide, Nat.le_of_ble_eq_true rfl⟩ ⟨Nat.le_of_ble_eq_true rfl, Nat.le_of_ble_eq_true rfl⟩ (Nat.le_of_ble_eq_true rfl) dX2_copy_4 rfl (fun r w4 hw => ?_) (fun _ _ _ h => h.elim)
  obtain ⟨rfl, L1, hK1, hf1⟩ := hw
  have hm4 : Mo w.2 w w4 := hmn0.tr (hf1.mo (n := w.2) (fun b _ q9 => by omega)) (Nat.le_refl _)
  have hw0 := hK.n0lt
  refine xr_astore_n (lv' := [some _, some _, none, none, none]) dX2_copy_7 (by decide) rfl (by first | rfl | exact isRef_rf _) rfl ?_
  refine xr_iconst dX2_copy_8 ?_
  refine xr_istore_n (lv' := [some _, some _, some _, none, none]) dX2_copy_9 (by decide) rfl rfl ?_
  refine xr_lv (lvw_s (lvw_s (lvw_s (lvw_n (lvw_n (lvw_nil)))))) ?_
  have lp10 : ∀ (fu10 : Nat) (w9 : WW) (L9 : Int → Nat) (P9 : Int → Int) (k : Int), 0 ≤ k → k ≤ P 1 → P 1 - k < fu10 → Mo w.2 w w9 → PK (zg z) w9 (fun x => a0 ≤ x) a0 L9 P9 → P9 0 = 0 → k = P9 1 → P9 2 = 0 → cF P P9 k → XJ z yX2_copy.cls cX2_copy 5 (some ((.object "BenchBroker$Park"))) 7 151 w9 (2 * fu10 + 40) (15 * fu10 + 313) 10 [some (.ref q), some (.ref a0), some (.int (iI k)), none, none] [] := by
    intro fu10
    induction fu10 with
    | zero =>
      intro w9 L9 P9 k hk0 hkn hfu hmo hT e0 e1 e2 hF
      omega
    | succ fu10 ih10 =>
      intro w9 L9 P9 k hk0 hkn hfu hmo hT e0 e1 e2 hF
      subst e1
      have hS := hK.ext hmo
      have hmo1 := hmo.1
      refine xr_iload_n dX2_copy_10 rfl ?_
      refine xr_aload_n dX2_copy_11 rfl (by first | rfl | exact isRef_rf _) ?_
      refine xr_getfield (ci := 0) (T := TX2) (N := 10) (i := 1) hS.hq rfl (by decide) in_X2 q189 (.inl rfl) dX2_copy_12 (by rfl) ?_
      refine xr_callV (n9 := 0) (rc' := 2 * fu10 + 42) (rs' := 15 * fu10 + 328) (k_Reg_size hG hS.r1 hS.l1) hS.r1 rfl q472 q294 q295 q88 q296 (by decide +kernel) rfl ⟨by decide, Nat.le_of_ble_eq_true rfl⟩ ⟨by omega, by omega⟩ (Nat.le_of_ble_eq_true rfl) dX2_copy_15 rfl (xk_r ?_) (fun _ _ _ h => h.elim)
      refine xr_icmp_ge (tgt := 84) dX2_copy_18 (by decide) (by omega) (fun c18 => ?_) (fun c18 => ?_)
      · skip
        refine xr_iconst dX2_copy_84 ?_
        refine xr_istore_n (lv' := [some _, some _, some _, none, none]) dX2_copy_85 (by decide) rfl rfl ?_
        refine xr_lv (lvw_s (lvw_s (lvw_s (lvw_n (lvw_n (lvw_nil)))))) ?_
        have e19 : P9 1 = P 1 := by omega
        have lp86 : ∀ (fu86 : Nat) (w9 : WW) (L9 : Int → Nat) (P9 : Int → Int) (k : Int), 0 ≤ k → k ≤ P 0 → P 0 - k < fu86 → Mo w.2 w w9 → PK (zg z) w9 (fun x => a0 ≤ x) a0 L9 P9 → k = P9 0 → P9 1 = P 1 → P9 2 = 0 → cF P P9 (P 1) → cB P P9 k 0 → XJ z yX2_copy.cls cX2_copy 5 (some ((.object "BenchBroker$Park"))) 7 151 w9 (2 * fu10 + 2 * fu86 + 20) (15 * fu10 + 17 * fu86 + 141) 86 [some (.ref q), some (.ref a0), some (.int (iI k)), none, none] [] := by
          intro fu86
          induction fu86 with
          | zero =>
            intro w9 L9 P9 k hk0 hkn hfu hmo hT e0 e1 e2 hF hBn
            omega
          | succ fu86 ih86 =>
            intro w9 L9 P9 k hk0 hkn hfu hmo hT e0 e1 e2 hF hBn
            subst e0
            have hS := hK.ext hmo
            have hmo1 := hmo.1
            refine xr_iload_n dX2_copy_86 rfl ?_
            refine xr_aload_n dX2_copy_87 rfl (by first | rfl | exact isRef_rf _) ?_
            refine xr_getfield (ci := 0) (T := TX2) (N := 10) (i := 0) hS.hq rfl (by decide) in_X2 q186 (.inl rfl) dX2_copy_88 (by rfl) ?_
            refine xr_callV (n9 := 0) (rc' := 2 * fu10 + 2 * fu86 + 22) (rs' := 15 * fu10 + 17 * fu86 + 158) (k_Reg_size hG hS.r0 hS.l0) hS.r0 rfl q472 q294 q295 q88 q296 (by decide +kernel) rfl ⟨by decide, Nat.le_of_ble_eq_true rfl⟩ ⟨by omega, by omega⟩ (Nat.le_of_ble_eq_true rfl) dX2_copy_91 rfl (xk_r ?_) (fun _ _ _ h => h.elim)
            refine xr_icmp_ge (tgt := 121) dX2_copy_94 (by decide) (by omega) (fun c94 => ?_) (fun c94 => ?_)
            · skip
              refine xr_iconst dX2_copy_121 ?_
              refine xr_istore_n (lv' := [some _, some _, some _, none, none]) dX2_copy_122 (by decide) rfl rfl ?_
              refine xr_lv (lvw_s (lvw_s (lvw_s (lvw_n (lvw_n (lvw_nil)))))) ?_
              have e09 : P9 0 = P 0 := by omega
              have lp123 : ∀ (fu123 : Nat) (w9 : WW) (L9 : Int → Nat) (P9 : Int → Int) (k : Int), 0 ≤ k → k ≤ P 2 → P 2 - k < fu123 → Mo w.2 w w9 → PK (zg z) w9 (fun x => a0 ≤ x) a0 L9 P9 → P9 0 = P 0 → P9 1 = P 1 → k = P9 2 → cF P P9 (P 1) → cB P P9 (P 0) k → cT P P9 k → XJ z yX2_copy.cls cX2_copy 5 (some ((.object "BenchBroker$Park"))) 7 151 w9 (2 * fu10 + 2 * fu86 + 2 * fu123 + 4) (15 * fu10 + 17 * fu86 + 14 * fu123 + 32) 123 [some (.ref q), some (.ref a0), some (.int (iI k)), none, none] [] := by
                intro fu123
                induction fu123 with
                | zero =>
                  intro w9 L9 P9 k hk0 hkn hfu hmo hT e0 e1 e2 hF hBn hTn
                  omega
                | succ fu123 ih123 =>
                  intro w9 L9 P9 k hk0 hkn hfu hmo hT e0 e1 e2 hF hBn hTn
                  subst e2
                  have hS := hK.ext hmo
                  have hmo1 := hmo.1
                  refine xr_iload_n dX2_copy_123 rfl ?_
                  refine xr_aload_n dX2_copy_124 rfl (by first | rfl | exact isRef_rf _) ?_
                  refine xr_getfield (ci := 0) (T := TX2) (N := 10) (i := 2) hS.hq rfl (by decide) in_X2 q192 (.inl rfl) dX2_copy_125 (by rfl) ?_
                  refine xr_callV (n9 := 0) (rc' := 2 * fu10 + 2 * fu86 + 2 * fu123 + 6) (rs' := 15 * fu10 + 17 * fu86 + 14 * fu123 + 46) (k_Reg_size hG hS.r2 hS.l2) hS.r2 rfl q472 q294 q295 q88 q296 (by decide +kernel) rfl ⟨by decide, Nat.le_of_ble_eq_true rfl⟩ ⟨by omega, by omega⟩ (Nat.le_of_ble_eq_true rfl) dX2_copy_128 rfl (xk_r ?_) (fun _ _ _ h => h.elim)
                  refine xr_icmp_ge (tgt := 214) dX2_copy_131 (by decide) (by omega) (fun c131 => ?_) (fun c131 => ?_)
                  · skip
                    have hsq := hS.hq
                    refine xr_aload_n dX2_copy_214 rfl (by first | rfl | exact isRef_rf _) ?_
                    refine xr_aload_n dX2_copy_215 rfl (by first | rfl | exact isRef_rf _) ?_
                    refine xr_getfield (ci := 0) (T := TX2) (N := 10) (i := 3) hsq rfl (by decide) in_X2 q196 (.inl rfl) dX2_copy_216 (by rfl) ?_
                    refine xr_putfield (ci := 0) (T := TX2) (N := 10) (i := 3) (fs' := [_, _, _, _, _, _, _, _, _, _]) hT.hq rfl (by decide) in_X2 tyX2 tyX2_ok nmX2 q196 (.inl rfl) rfl dX2_copy_219 (by first | rfl | exact nar_bI _ | exact nar_rf _) (by first | rfl | exact fit_bI _ | exact fit_rf _ _) (by simp) (by rfl) (.inl rfl) (fun hob219 => ?_)
                    have hsq := hsq.put_ne (a := a0) (by omega) (.inl (.inr (0, [.ref (L9 0), .ref (L9 1), .ref (L9 2), .int (iI (P 3)), .int (iI (P9 4)), .int (iI (P9 5)), .int (iI (P9 6)), .int (iI (P9 7)), .int (iI (P9 8)), .int (iI (P9 9))])))
                    have hT3 := hT.setQ' (P' := (updI P9 3 (P 3))) (fs := [.ref (L9 0), .ref (L9 1), .ref (L9 2), .int (iI (P 3)), .int (iI (P9 4)), .int (iI (P9 5)), .int (iI (P9 6)), .int (iI (P9 7)), .int (iI (P9 8)), .int (iI (P9 9))]) (by simp only [qF, updI, ↓reduceIte]; repeat first | rfl | rw [if_pos (by omega)] | rw [if_neg (by omega)]) (by intro k hk; rw [updI, if_neg (by omega)])
                    refine xr_aload_n dX2_copy_222 rfl (by first | rfl | exact isRef_rf _) ?_
                    refine xr_aload_n dX2_copy_223 rfl (by first | rfl | exact isRef_rf _) ?_
                    refine xr_getfield (ci := 0) (T := TX2) (N := 10) (i := 4) hsq rfl (by decide) in_X2 q198 (.inl rfl) dX2_copy_224 (by rfl) ?_
                    refine xr_putfield (ci := 0) (T := TX2) (N := 10) (i := 4) (fs' := [_, _, _, _, _, _, _, _, _, _]) hob219 rfl (by decide) in_X2 tyX2 tyX2_ok nmX2 q198 (.inl rfl) rfl dX2_copy_227 (by first | rfl | exact nar_bI _ | exact nar_rf _) (by first | rfl | exact fit_bI _ | exact fit_rf _ _) (by simp) (by rfl) (.inl rfl) (fun hob227 => ?_)
                    have hsq := hsq.put_ne (a := a0) (by omega) (.inl (.inr (0, [.ref (L9 0), .ref (L9 1), .ref (L9 2), .int (iI (P 3)), .int (iI (P 4)), .int (iI (P9 5)), .int (iI (P9 6)), .int (iI (P9 7)), .int (iI (P9 8)), .int (iI (P9 9))])))
                    have hT4 := hT3.setQ' (P' := (updI (updI P9 3 (P 3)) 4 (P 4))) (fs := [.ref (L9 0), .ref (L9 1), .ref (L9 2), .int (iI (P 3)), .int (iI (P 4)), .int (iI (P9 5)), .int (iI (P9 6)), .int (iI (P9 7)), .int (iI (P9 8)), .int (iI (P9 9))]) (by simp only [qF, updI, ↓reduceIte]; repeat first | rfl | rw [if_pos (by omega)] | rw [if_neg (by omega)]) (by intro k hk; rw [updI, if_neg (by omega)])
                    refine xr_aload_n dX2_copy_230 rfl (by first | rfl | exact isRef_rf _) ?_
                    refine xr_aload_n dX2_copy_231 rfl (by first | rfl | exact isRef_rf _) ?_
                    refine xr_getfield (ci := 0) (T := TX2) (N := 10) (i := 5) hsq rfl (by decide) in_X2 q200 (.inl rfl) dX2_copy_232 (by rfl) ?_
                    refine xr_putfield (ci := 0) (T := TX2) (N := 10) (i := 5) (fs' := [_, _, _, _, _, _, _, _, _, _]) hob227 rfl (by decide) in_X2 tyX2 tyX2_ok nmX2 q200 (.inl rfl) rfl dX2_copy_235 (by first | rfl | exact nar_bI _ | exact nar_rf _) (by first | rfl | exact fit_bI _ | exact fit_rf _ _) (by simp) (by rfl) (.inl rfl) (fun hob235 => ?_)
                    have hsq := hsq.put_ne (a := a0) (by omega) (.inl (.inr (0, [.ref (L9 0), .ref (L9 1), .ref (L9 2), .int (iI (P 3)), .int (iI (P 4)), .int (iI (P 5)), .int (iI (P9 6)), .int (iI (P9 7)), .int (iI (P9 8)), .int (iI (P9 9))])))
                    have hT5 := hT4.setQ' (P' := (updI (updI (updI P9 3 (P 3)) 4 (P 4)) 5 (P 5))) (fs := [.ref (L9 0), .ref (L9 1), .ref (L9 2), .int (iI (P 3)), .int (iI (P 4)), .int (iI (P 5)), .int (iI (P9 6)), .int (iI (P9 7)), .int (iI (P9 8)), .int (iI (P9 9))]) (by simp only [qF, updI, ↓reduceIte]; repeat first | rfl | rw [if_pos (by omega)] | rw [if_neg (by omega)]) (by intro k hk; rw [updI, if_neg (by omega)])
                    refine xr_aload_n dX2_copy_238 rfl (by first | rfl | exact isRef_rf _) ?_
                    refine xr_aload_n dX2_copy_239 rfl (by first | rfl | exact isRef_rf _) ?_
                    refine xr_getfield (ci := 0) (T := TX2) (N := 10) (i := 6) hsq rfl (by decide) in_X2 q202 (.inl rfl) dX2_copy_240 (by rfl) ?_
                    refine xr_putfield (ci := 0) (T := TX2) (N := 10) (i := 6) (fs' := [_, _, _, _, _, _, _, _, _, _]) hob235 rfl (by decide) in_X2 tyX2 tyX2_ok nmX2 q202 (.inl rfl) rfl dX2_copy_243 (by first | rfl | exact nar_bI _ | exact nar_rf _) (by first | rfl | exact fit_bI _ | exact fit_rf _ _) (by simp) (by rfl) (.inl rfl) (fun hob243 => ?_)
                    have hsq := hsq.put_ne (a := a0) (by omega) (.inl (.inr (0, [.ref (L9 0), .ref (L9 1), .ref (L9 2), .int (iI (P 3)), .int (iI (P 4)), .int (iI (P 5)), .int (iI (P 6)), .int (iI (P9 7)), .int (iI (P9 8)), .int (iI (P9 9))])))
                    have hT6 := hT5.setQ' (P' := (updI (updI (updI (updI P9 3 (P 3)) 4 (P 4)) 5 (P 5)) 6 (P 6))) (fs := [.ref (L9 0), .ref (L9 1), .ref (L9 2), .int (iI (P 3)), .int (iI (P 4)), .int (iI (P 5)), .int (iI (P 6)), .int (iI (P9 7)), .int (iI (P9 8)), .int (iI (P9 9))]) (by simp only [qF, updI, ↓reduceIte]; repeat first | rfl | rw [if_pos (by omega)] | rw [if_neg (by omega)]) (by intro k hk; rw [updI, if_neg (by omega)])
                    refine xr_aload_n dX2_copy_246 rfl (by first | rfl | exact isRef_rf _) ?_
                    refine xr_aload_n dX2_copy_247 rfl (by first | rfl | exact isRef_rf _) ?_
                    refine xr_getfield (ci := 0) (T := TX2) (N := 10) (i := 7) hsq rfl (by decide) in_X2 q204 (.inl rfl) dX2_copy_248 (by rfl) ?_
                    refine xr_putfield (ci := 0) (T := TX2) (N := 10) (i := 7) (fs' := [_, _, _, _, _, _, _, _, _, _]) hob243 rfl (by decide) in_X2 tyX2 tyX2_ok nmX2 q204 (.inl rfl) rfl dX2_copy_251 (by first | rfl | exact nar_bI _ | exact nar_rf _) (by first | rfl | exact fit_bI _ | exact fit_rf _ _) (by simp) (by rfl) (.inl rfl) (fun hob251 => ?_)
                    have hsq := hsq.put_ne (a := a0) (by omega) (.inl (.inr (0, [.ref (L9 0), .ref (L9 1), .ref (L9 2), .int (iI (P 3)), .int (iI (P 4)), .int (iI (P 5)), .int (iI (P 6)), .int (iI (P 7)), .int (iI (P9 8)), .int (iI (P9 9))])))
                    have hT7 := hT6.setQ' (P' := (updI (updI (updI (updI (updI P9 3 (P 3)) 4 (P 4)) 5 (P 5)) 6 (P 6)) 7 (P 7))) (fs := [.ref (L9 0), .ref (L9 1), .ref (L9 2), .int (iI (P 3)), .int (iI (P 4)), .int (iI (P 5)), .int (iI (P 6)), .int (iI (P 7)), .int (iI (P9 8)), .int (iI (P9 9))]) (by simp only [qF, updI, ↓reduceIte]; repeat first | rfl | rw [if_pos (by omega)] | rw [if_neg (by omega)]) (by intro k hk; rw [updI, if_neg (by omega)])
                    refine xr_aload_n dX2_copy_254 rfl (by first | rfl | exact isRef_rf _) ?_
                    refine xr_aload_n dX2_copy_255 rfl (by first | rfl | exact isRef_rf _) ?_
                    refine xr_getfield (ci := 0) (T := TX2) (N := 10) (i := 8) hsq rfl (by decide) in_X2 q206 (.inl rfl) dX2_copy_256 (by rfl) ?_
                    refine xr_putfield (ci := 0) (T := TX2) (N := 10) (i := 8) (fs' := [_, _, _, _, _, _, _, _, _, _]) hob251 rfl (by decide) in_X2 tyX2 tyX2_ok nmX2 q206 (.inl rfl) rfl dX2_copy_259 (by first | rfl | exact nar_bI _ | exact nar_rf _) (by first | rfl | exact fit_bI _ | exact fit_rf _ _) (by simp) (by rfl) (.inl rfl) (fun hob259 => ?_)
                    have hsq := hsq.put_ne (a := a0) (by omega) (.inl (.inr (0, [.ref (L9 0), .ref (L9 1), .ref (L9 2), .int (iI (P 3)), .int (iI (P 4)), .int (iI (P 5)), .int (iI (P 6)), .int (iI (P 7)), .int (iI (P 8)), .int (iI (P9 9))])))
                    have hT8 := hT7.setQ' (P' := (updI (updI (updI (updI (updI (updI P9 3 (P 3)) 4 (P 4)) 5 (P 5)) 6 (P 6)) 7 (P 7)) 8 (P 8))) (fs := [.ref (L9 0), .ref (L9 1), .ref (L9 2), .int (iI (P 3)), .int (iI (P 4)), .int (iI (P 5)), .int (iI (P 6)), .int (iI (P 7)), .int (iI (P 8)), .int (iI (P9 9))]) (by simp only [qF, updI, ↓reduceIte]; repeat first | rfl | rw [if_pos (by omega)] | rw [if_neg (by omega)]) (by intro k hk; rw [updI, if_neg (by omega)])
                    refine xr_aload_n dX2_copy_262 rfl (by first | rfl | exact isRef_rf _) ?_
                    refine xr_aload_n dX2_copy_263 rfl (by first | rfl | exact isRef_rf _) ?_
                    refine xr_getfield (ci := 0) (T := TX2) (N := 10) (i := 9) hsq rfl (by decide) in_X2 q208 (.inl rfl) dX2_copy_264 (by rfl) ?_
                    refine xr_putfield (ci := 0) (T := TX2) (N := 10) (i := 9) (fs' := [_, _, _, _, _, _, _, _, _, _]) hob259 rfl (by decide) in_X2 tyX2 tyX2_ok nmX2 q208 (.inl rfl) rfl dX2_copy_267 (by first | rfl | exact nar_bI _ | exact nar_rf _) (by first | rfl | exact fit_bI _ | exact fit_rf _ _) (by simp) (by rfl) (.inl rfl) (fun hob267 => ?_)
                    have hsq := hsq.put_ne (a := a0) (by omega) (.inl (.inr (0, [.ref (L9 0), .ref (L9 1), .ref (L9 2), .int (iI (P 3)), .int (iI (P 4)), .int (iI (P 5)), .int (iI (P 6)), .int (iI (P 7)), .int (iI (P 8)), .int (iI (P 9))])))
                    have hT9 := hT8.setQ' (P' := (updI (updI (updI (updI (updI (updI (updI P9 3 (P 3)) 4 (P 4)) 5 (P 5)) 6 (P 6)) 7 (P 7)) 8 (P 8)) 9 (P 9))) (fs := [.ref (L9 0), .ref (L9 1), .ref (L9 2), .int (iI (P 3)), .int (iI (P 4)), .int (iI (P 5)), .int (iI (P 6)), .int (iI (P 7)), .int (iI (P 8)), .int (iI (P 9))]) (by simp only [qF, updI, ↓reduceIte]; repeat first | rfl | rw [if_pos (by omega)] | rw [if_neg (by omega)]) (by intro k hk; rw [updI, if_neg (by omega)])
                    refine xr_aload_n dX2_copy_270 rfl (by first | rfl | exact isRef_rf _) ?_
                    first | refine xr_areturn rfl rfl dX2_copy_271 ?_ | refine xr_areturnN rfl rfl dX2_copy_271 ?_
                    rw [hpo]
                    have e9 : P9 2 = P 2 := by omega
                    have eL : ∀ j : Int, (j < 3 ∨ 9 < j) → (updI (updI (updI (updI (updI (updI (updI P9 3 (P 3)) 4 (P 4)) 5 (P 5)) 6 (P 6)) 7 (P 7)) 8 (P 8)) 9 (P 9)) j = P9 j := by
                      intro j hj
                      simp only [updI]
                      repeat rw [if_neg (by omega)]
                    have hE : PEq (updI (updI (updI (updI (updI (updI (updI P9 3 (P 3)) 4 (P 4)) 5 (P 5)) 6 (P 6)) 7 (P 7)) 8 (P 8)) 9 (P 9)) P := by
                      have e0' : (updI (updI (updI (updI (updI (updI (updI P9 3 (P 3)) 4 (P 4)) 5 (P 5)) 6 (P 6)) 7 (P 7)) 8 (P 8)) 9 (P 9)) 0 = P 0 := (eL 0 (by omega)).trans e0
                      have e1' : (updI (updI (updI (updI (updI (updI (updI P9 3 (P 3)) 4 (P 4)) 5 (P 5)) 6 (P 6)) 7 (P 7)) 8 (P 8)) 9 (P 9)) 1 = P 1 := (eL 1 (by omega)).trans e1
                      have e2' : (updI (updI (updI (updI (updI (updI (updI P9 3 (P 3)) 4 (P 4)) 5 (P 5)) 6 (P 6)) 7 (P 7)) 8 (P 8)) 9 (P 9)) 2 = P 2 := (eL 2 (by omega)).trans e9
                      refine ⟨fun j h1 h2 => ?_, fun i j h1 h2 h3 h4 => ?_, fun i j h1 h2 h3 h4 => ?_, fun i h1 h2 => ?_⟩
                      · rcases (show j = 0 ∨ j = 1 ∨ j = 2 ∨ j = 3 ∨ j = 4 ∨ j = 5 ∨ j = 6 ∨ j = 7 ∨ j = 8 ∨ j = 9 by omega) with rfl | rfl | rfl | rfl | rfl | rfl | rfl | rfl | rfl | rfl
                        · exact e0'.symm
                        · exact e1'.symm
                        · exact e2'.symm
                        all_goals (simp only [updI, ↓reduceIte]; repeat first | rfl | rw [if_pos (by omega)] | rw [if_neg (by omega)])
                      · rw [e0'] at h2
                        rw [eL j (by omega)]
                        obtain ⟨q1, q2, q3, q4, q5, q6⟩ := hBn i h1 h2
                        have hb9 := hK.bt i h1 h2
                        rw [if_pos (by omega)] at q4
                        rcases (show j = 10 + 6 * i ∨ j = 11 + 6 * i ∨ j = 12 + 6 * i ∨ j = 13 + 6 * i ∨ j = 14 + 6 * i ∨ j = 15 + 6 * i by omega) with rfl | rfl | rfl | rfl | rfl | rfl
                        · exact q1.symm
                        · exact q2.symm
                        · exact q3.symm
                        · exact q4.symm
                        · exact q5.symm
                        · exact q6.symm
                      · rw [e1'] at h2
                        rw [eL j (by omega)]
                        exact (hF j (by omega) (by omega)).symm
                      · rw [e2'] at h2
                        obtain ⟨q1, q2, q3⟩ := hTn i h1 (by omega)
                        rw [eL _ (by omega), eL _ (by omega), eL _ (by omega)]
                        exact ⟨q1.symm, q2.symm, q3.symm⟩
                    exact ⟨a0, L9, rfl, hT9.congr hE, ga0, ((((((hmo.tr (Mo.put ga0 _) (Nat.le_refl _)).tr (Mo.put ga0 _) (Nat.le_refl _)).tr (Mo.put ga0 _) (Nat.le_refl _)).tr (Mo.put ga0 _) (Nat.le_refl _)).tr (Mo.put ga0 _) (Nat.le_refl _)).tr (Mo.put ga0 _) (Nat.le_refl _)).tr (Mo.put ga0 _) (Nat.le_refl _)⟩
                  · skip
                    refine xr_aload_n dX2_copy_134 rfl (by first | rfl | exact isRef_rf _) ?_
                    refine xr_getfield (ci := 0) (T := TX2) (N := 10) (i := 2) hS.hq rfl (by decide) in_X2 q192 (.inl rfl) dX2_copy_135 (by rfl) ?_
                    refine xr_iload_n dX2_copy_138 rfl ?_
                    refine xr_callV (n9 := 1) (rc' := 2 * fu10 + 2 * fu86 + 2 * fu123 + 6) (rs' := 15 * fu10 + 17 * fu86 + 14 * fu123 + 46) (k_Reg_get hG hS.r2 hS.l2 ⟨by omega, by omega⟩ rfl (hS.te (P9 2) (by omega) (by omega)) rfl q2759) hS.r2 rfl q473 q474 q475 q88 q476 (by decide +kernel) rfl ⟨by decide, Nat.le_of_ble_eq_true rfl⟩ ⟨by omega, by omega⟩ (Nat.le_of_ble_eq_true rfl) dX2_copy_139 rfl (xk_r ?_) (fun _ _ _ h => h.elim)
                    refine xr_castS (hS.te (P9 2) (by omega) (by omega)) rfl q836 dX2_copy_142 ?_
                    refine xr_astore_n (lv' := [some _, some _, some _, some _, none]) dX2_copy_145 (by decide) rfl (by first | rfl | exact isRef_rf _) rfl ?_
                    refine xr_new (ci := 5) (T := TX11) (N := 4) (n9 := 4) (fs := [.int (iI 0), .int (iI 0), .int (iI 0), .null]) (rc' := 2 * fu10 + 2 * fu86 + 2 * fu123 + 5) (rs' := 15 * fu10 + 17 * fu86 + 14 * fu123 + 42) rfl in_X11 tyX11 tyX11_ok q836 q837 q115 (by intro j hj; rcases (show j = 0 ∨ j = 1 ∨ j = 2 ∨ j = 3 by omega) with rfl | rfl | rfl | rfl <;> rfl) ⟨by omega, by omega⟩ dX2_copy_146 (fun a146 ga146 hob146 => ?_)
                    have hmn146 := Mo.new ga146 ga146 (.inl (.inr (5, [.int (iI 0), .int (iI 0), .int (iI 0), .null])))
                    have hS1 := hS.ext hmn146
                    have hT1 := hT.ext hmn146
                    refine xr_dup dX2_copy_149 (by first | rfl | exact cat_rf _) ?_
                    refine xr_iload_n dX2_copy_150 rfl ?_
                    refine xr_aload_n dX2_copy_151 rfl (by first | rfl | exact isRef_rf _) ?_
                    refine xr_getfieldN (ci := 5) (T := TX11) (N := 4) (i := 1) (hS1.te (P9 2) (by omega) (by omega)) rfl (by decide) in_X11 q843 (.inl rfl) dX2_copy_152 (by rfl) ?_
                    refine xr_callI (n9 := 2) (rc' := 2 * fu10 + 2 * fu86 + 2 * fu123 + 5) (rs' := 15 * fu10 + 17 * fu86 + 14 * fu123 + 42) (k_Tenant_init hG hob146) q838 q839 q115 q840 rfl (by decide +kernel) rfl ⟨by decide, Nat.le_of_ble_eq_true rfl⟩ ⟨by omega, by omega⟩ (Nat.le_of_ble_eq_true rfl) dX2_copy_155 rfl (fun r w155 hw => ?_) (fun _ _ _ h => h.elim)
                    obtain ⟨rfl, ho46, hf46⟩ := hw
                    have hS2 := hS1.fr hf46 (fun b hb q9 => by have := hS.hi hb; omega) (fun b q9 => by have := hT.n0lt; omega)
                    have hT2 := hT1.fr hf46 (fun b hb q9 => by have := hT.hi hb; omega) (fun b q9 => by have := hT.n0lt; omega)
                    refine xr_astore (lv' := [some _, some _, some _, some _, some _]) dX2_copy_158 (by decide) rfl (by first | rfl | exact isRef_rf _) rfl ?_
                    refine xr_aload dX2_copy_160 rfl (by first | rfl | exact isRef_rf _) ?_
                    refine xr_aload_n dX2_copy_162 rfl (by first | rfl | exact isRef_rf _) ?_
                    refine xr_getfieldN (ci := 5) (T := TX11) (N := 4) (i := 2) (hS2.te (P9 2) (by omega) (by omega)) rfl (by decide) in_X11 q846 (.inl rfl) dX2_copy_163 (by rfl) ?_
                    refine xr_putfieldN (ci := 5) (T := TX11) (N := 4) (i := 2) (fs' := [_, _, _, _]) ho46 rfl (by decide) in_X11 tyX11 tyX11_ok nmX11 q846 (.inl rfl) rfl dX2_copy_166 (by first | rfl | exact nar_bI _ | exact nar_rf _) (by first | rfl | exact fit_bI _ | exact fit_rf _ _) (by simp) (by rfl) (.inl rfl) (fun hob166 => ?_)
                    have hS3 := hS2.fr (Fr.put1 (a := a146) (.inl (.inr (5, [.int (iI (P9 2)), .int (iI (P (86 + 2 * P9 2))), .int (iI (P (87 + 2 * P9 2))), .null])))) (fun b hb q9 => by have := hS.hi hb; omega) (fun b q9 => by have := hT.n0lt; omega)
                    have hT3 := hT2.fr (Fr.put1 (a := a146) (.inl (.inr (5, [.int (iI (P9 2)), .int (iI (P (86 + 2 * P9 2))), .int (iI (P (87 + 2 * P9 2))), .null])))) (fun b hb q9 => by have := hT.hi hb; omega) (fun b q9 => by have := hT.n0lt; omega)
                    refine xr_aload_n dX2_copy_169 rfl (by first | rfl | exact isRef_rf _) ?_
                    refine xr_getfield (ci := 0) (T := TX2) (N := 10) (i := 2) hT3.hq rfl (by decide) in_X2 q192 (.inl rfl) dX2_copy_170 (by rfl) ?_
                    refine xr_aload dX2_copy_173 rfl (by first | rfl | exact isRef_rf _) ?_
                    refine xr_callV (n9 := 1) (rc' := 2 * fu10 + 2 * fu86 + 2 * fu123 + 4) (rs' := 15 * fu10 + 17 * fu86 + 14 * fu123 + 32) (k_Reg_add hG hL hT3.r2 hT3.l2 (by omega) hob166 rfl q2777 (by decide)) hT3.r2 rfl q763 q764 q765 q88 q766 (by decide +kernel) rfl ⟨by decide, Nat.le_of_ble_eq_true rfl⟩ ⟨by omega, by omega⟩ (Nat.le_of_ble_eq_true rfl) dX2_copy_175 rfl (fun r w175 hw => ?_) (fun _ _ _ h => h.elim)
                    obtain ⟨rfl, arr2, hA9, hf9, har9⟩ := hw
                    have hlt := hT.hi (b := L9 5) (Or.inr (Or.inl ⟨5, by decide, by decide, rfl⟩))
                    have hlt2 := hT.l2.lt
                    have ho9 := hob166.fr hf9 (fun q9 => by rcases q9 with q9 | ⟨q9, -⟩ <;> omega)
                    have hg9 := hT.n0lt
                    have hT5 := hT3.addT' (P' := (updI (updI (updI (updI P9 (86 + 2 * P9 2) (P (86 + 2 * P9 2))) (87 + 2 * P9 2) (P (87 + 2 * P9 2))) (102 + P9 2) 0) 2 (P9 2 + 1))) (L' := putL L9 (50 + P9 2) a146 8 arr2) hf9 hA9 (show a0 ≤ a146 by omega) har9 (by omega) ho9 (by simp only [tF, updI, ↓reduceIte]; repeat first | rfl | rw [if_pos (by omega)] | rw [if_neg (by omega)]) (by intro k h1 h2; simp only [updI]; repeat rw [if_neg (by omega)]) (by simp only [updI, ↓reduceIte]; repeat first | rfl | rw [if_pos (by omega)] | rw [if_neg (by omega)]) (by simp only [updI, ↓reduceIte]; repeat first | rfl | rw [if_pos (by omega)] | rw [if_neg (by omega)]) putL_n putL_i (putL_j (by omega))
                    have hm5 : Mo w.2 w9 w175 := (((Mo.new (n := w.2) (by omega) ga146 _).tr (hf46.mo (n := w.2) (fun b _ q9 => by omega)) (Nat.le_refl _)).tr (Mo.put (n := w.2) (by omega) _) (Nat.le_refl _)).tr (hf9.mo (n := w.2) (fun b _ q9 => by
                        rcases q9 with q9 | ⟨q9, q8⟩
                        · have : a0 ≤ L9 5 := hT.ar (k := 5) (by decide) (by decide); omega
                        · have : a0 ≤ L9 8 := hT.aa (k := 8) (by decide) (by decide) (by omega); omega)) (Nat.le_refl _)
                    have hS5 := hK.ext (hmo.tr hm5 (Nat.le_refl _))
                    have hbd := hK.tb (P9 2) (by omega) (by omega)
                    have el : putL L9 (50 + P9 2) a146 8 arr2 (50 + P9 2) = a146 := putL_i
                    refine xr_aload_n dX2_copy_178 rfl (by first | rfl | exact isRef_rf _) ?_
                    refine xr_getfieldN (ci := 5) (T := TX11) (N := 4) (i := 3) (hS5.te (P9 2) (by omega) (by omega)) rfl (by decide) in_X11 q848 (.inl rfl) dX2_copy_179 (by rfl) ?_
                    refine xr_ifnull (tgt := 208) dX2_copy_182 (by decide) (fun c182 => ?_) (fun c182 => ?_)
                    · skip
                      have c0 : P (102 + P9 2) = 0 := by
                        by_cases h9 : P (102 + P9 2) = 0
                        · exact h9
                        · rw [opt_ne h9] at c182; cases c182
                      have hX : ∃ P7 : Int → Int, PK (zg z) w175 (fun x => a0 ≤ x) a0 (putL L9 (50 + P9 2) a146 8 arr2) P7 ∧ P7 0 = P 0 ∧ P7 1 = P 1 ∧ P9 2 + 1 = P7 2 ∧ cF P P7 (P 1) ∧ cB P P7 (P 0) (P9 2 + 1) ∧ cT P P7 (P9 2 + 1) := by
                        refine ⟨(updI (updI (updI (updI P9 (86 + 2 * P9 2) (P (86 + 2 * P9 2))) (87 + 2 * P9 2) (P (87 + 2 * P9 2))) (102 + P9 2) 0) 2 (P9 2 + 1)), hT5, ?_, ?_, ?_, fun j h1 h2 => ?_, fun i h1 h2 => ?_, fun i h1 h2 => ?_⟩
                        · exact Eq.trans ((by simp only [updI, ↓reduceIte]; repeat first | rfl | rw [if_pos (by omega)] | rw [if_neg (by omega)])) e0
                        · exact Eq.trans ((by simp only [updI, ↓reduceIte]; repeat first | rfl | rw [if_pos (by omega)] | rw [if_neg (by omega)])) e1
                        · exact Eq.symm ((by simp only [updI, ↓reduceIte]; repeat first | rfl | rw [if_pos (by omega)] | rw [if_neg (by omega)]))
                        · rw [← hF j h1 h2]
                          simp only [updI]
                          repeat rw [if_neg (by omega)]
                        · have h9 := hBn i h1 h2
                          have hb9 := hK.bt i h1 h2
                          have hc9 := hC.1 i h1 h2
                          have e9 : ∀ j : Int, 10 + 6 * i ≤ j → j ≤ 15 + 6 * i → (updI (updI (updI (updI P9 (86 + 2 * P9 2) (P (86 + 2 * P9 2))) (87 + 2 * P9 2) (P (87 + 2 * P9 2))) (102 + P9 2) 0) 2 (P9 2 + 1)) j = P9 j := by
                            intro j h3 h4
                            simp only [updI]
                            repeat rw [if_neg (by omega)]
                          rw [e9 _ (by omega) (by omega), e9 _ (by omega) (by omega), e9 _ (by omega) (by omega), e9 _ (by omega) (by omega), e9 _ (by omega) (by omega), e9 _ (by omega) (by omega)]
                          refine ⟨h9.1, h9.2.1, h9.2.2.1, ?_, h9.2.2.2.2⟩
                          rw [h9.2.2.2.1]
                          by_cases h8 : P (13 + 6 * i) = P9 2 + 1
                          · exfalso
                            have h7 := hc9 (by omega)
                            rw [h8, show P9 2 + 1 - 1 = P9 2 by omega] at h7
                            omega
                          · split <;> split <;> omega
                        · by_cases hi : i = P9 2
                          · subst hi
                            refine ⟨(by simp only [updI, ↓reduceIte]; repeat first | rfl | rw [if_pos (by omega)] | rw [if_neg (by omega)]), (by simp only [updI, ↓reduceIte]; repeat first | rfl | rw [if_pos (by omega)] | rw [if_neg (by omega)]), ?_⟩
                            rw [c0]; exact (by simp only [updI, ↓reduceIte]; repeat first | rfl | rw [if_pos (by omega)] | rw [if_neg (by omega)])
                          · have h9 := hTn i h1 (by omega)
                            have e9 : ∀ j : Int, j = 86 + 2 * i ∨ j = 87 + 2 * i ∨ j = 102 + i → (updI (updI (updI (updI P9 (86 + 2 * P9 2) (P (86 + 2 * P9 2))) (87 + 2 * P9 2) (P (87 + 2 * P9 2))) (102 + P9 2) 0) 2 (P9 2 + 1)) j = P9 j := by
                              intro j h3
                              simp only [updI]
                              repeat rw [if_neg (by omega)]
                            rw [e9 _ (Or.inl rfl), e9 _ (Or.inr (Or.inl rfl)), e9 _ (Or.inr (Or.inr rfl))]
                            exact h9
                      have hmX : Mo w.2 w9 w175 := hm5
                      refine xr_iinc (lv' := [some _, some _, some _, some _, some _]) dX2_copy_208 rfl (by decide) rfl rfl ?_
                      refine xr_goto (tgt := 123) dX2_copy_211 (by decide) ?_
                      refine xr_lv (lvw_s (lvw_s (lvw_s (lvw_n (lvw_n (lvw_nil)))))) ?_
                      obtain ⟨P7, hT7, g0, g1, g2, gF, gB, gT⟩ := hX
                      refine xr_wk (rc' := 2 * fu10 + 2 * fu86 + 2 * fu123 + 4) (rs' := 15 * fu10 + 17 * fu86 + 14 * fu123 + 32) ⟨by omega, by omega⟩ (ih123 _ _ P7 (P9 2 + 1) (by omega) (by omega) (by omega) (hmo.tr hmX (Nat.le_refl _)) hT7 g0 g1 g2 gF gB gT)
                    · skip
                      have c182 : P (102 + P9 2) ≠ 0 := fun h9 => c182 (opt_eq h9)
                      refine xr_aload_n dX2_copy_185 rfl (by first | rfl | exact isRef_rf _) ?_
                      refine xr_aload dX2_copy_186 rfl (by first | rfl | exact isRef_rf _) ?_
                      refine xr_aload_n dX2_copy_188 rfl (by first | rfl | exact isRef_rf _) ?_
                      refine xr_getfield (ci := 0) (T := TX2) (N := 10) (i := 0) hT5.hq rfl (by decide) in_X2 q186 (.inl rfl) dX2_copy_189 (by rfl) ?_
                      refine xr_aload_n dX2_copy_192 rfl (by first | rfl | exact isRef_rf _) ?_
                      refine xr_getfieldN (ci := 5) (T := TX11) (N := 4) (i := 3) (hS5.te (P9 2) (by omega) (by omega)) rfl (by decide) in_X11 q848 (.inl rfl) dX2_copy_193 (by rfl) ?_
                      rw [opt_ne c182]
                      show XJ _ _ _ _ _ _ _ _ _ _ _ _ [.ref (L (10 + (P (102 + P9 2) - 1))), _, _, _]
                      refine xr_callVU (n9 := 0) (rc' := 2 * fu10 + 2 * fu86 + 2 * fu123 + 4) (rs' := 15 * fu10 + 17 * fu86 + 14 * fu123 + 32) (k_index_B hG (hS5.be (P (102 + P9 2) - 1) (by omega) (by omega))) (hS5.be (P (102 + P9 2) - 1) (by omega) (by omega)) rfl q859 q801 rfl q804 q803 q107 q805 (by decide +kernel) rfl ⟨by decide, Nat.le_of_ble_eq_true rfl⟩ ⟨by omega, by omega⟩ (Nat.le_of_ble_eq_true rfl) dX2_copy_196 rfl (xk_r ?_) (fun _ _ _ h => h.elim)
                      refine xr_callV (n9 := 1) (rc' := 2 * fu10 + 2 * fu86 + 2 * fu123 + 4) (rs' := 15 * fu10 + 17 * fu86 + 14 * fu123 + 32) (k_Reg_get hG hT5.r0 hT5.l0 ⟨by omega, by rw [show (updI (updI (updI (updI P9 (86 + 2 * P9 2) (P (86 + 2 * P9 2))) (87 + 2 * P9 2) (P (87 + 2 * P9 2))) (102 + P9 2) 0) 2 (P9 2 + 1)) 0 = P9 0 from (by simp only [updI, ↓reduceIte]; repeat first | rfl | rw [if_pos (by omega)] | rw [if_neg (by omega)])]; omega⟩ rfl (hT5.be (P (102 + P9 2) - 1) (by omega) (by rw [show (updI (updI (updI (updI P9 (86 + 2 * P9 2) (P (86 + 2 * P9 2))) (87 + 2 * P9 2) (P (87 + 2 * P9 2))) (102 + P9 2) 0) 2 (P9 2 + 1)) 0 = P9 0 from (by simp only [updI, ↓reduceIte]; repeat first | rfl | rw [if_pos (by omega)] | rw [if_neg (by omega)])]; omega)) rfl q2757) hT5.r0 rfl q473 q474 q475 q88 q476 (by decide +kernel) rfl ⟨by decide, Nat.le_of_ble_eq_true rfl⟩ ⟨by omega, by omega⟩ (Nat.le_of_ble_eq_true rfl) dX2_copy_199 rfl (xk_r ?_) (fun _ _ _ h => h.elim)
                      refine xr_castS (hT5.be (P (102 + P9 2) - 1) (by omega) (by rw [show (updI (updI (updI (updI P9 (86 + 2 * P9 2) (P (86 + 2 * P9 2))) (87 + 2 * P9 2) (P (87 + 2 * P9 2))) (102 + P9 2) 0) 2 (P9 2 + 1)) 0 = P9 0 from (by simp only [updI, ↓reduceIte]; repeat first | rfl | rw [if_pos (by omega)] | rw [if_neg (by omega)])]; omega)) rfl q794 dX2_copy_202 ?_
                      rw [show Value.ref a146 = Value.ref ((putL L9 (50 + P9 2) a146 8 arr2) (50 + P9 2)) from by rw [el]]
                      refine xr_callV (n9 := 2) (rc' := 2 * fu10 + 2 * fu86 + 2 * fu123 + 4) (rs' := 15 * fu10 + 17 * fu86 + 14 * fu123 + 32) (k_P_join hG hT5 (b := (P (102 + P9 2) - 1)) (t := P9 2) ⟨by omega, by rw [show (updI (updI (updI (updI P9 (86 + 2 * P9 2) (P (86 + 2 * P9 2))) (87 + 2 * P9 2) (P (87 + 2 * P9 2))) (102 + P9 2) 0) 2 (P9 2 + 1)) 0 = P9 0 from (by simp only [updI, ↓reduceIte]; repeat first | rfl | rw [if_pos (by omega)] | rw [if_neg (by omega)])]; omega⟩ ⟨by omega, by rw [show (updI (updI (updI (updI P9 (86 + 2 * P9 2) (P (86 + 2 * P9 2))) (87 + 2 * P9 2) (P (87 + 2 * P9 2))) (102 + P9 2) 0) 2 (P9 2 + 1)) 2 = P9 2 + 1 from (by simp only [updI, ↓reduceIte]; repeat first | rfl | rw [if_pos (by omega)] | rw [if_neg (by omega)])]; omega⟩) hT5.hq rfl q860 q862 qs9 q87 q863 (by decide +kernel) rfl ⟨by decide, Nat.le_of_ble_eq_true rfl⟩ ⟨by omega, by omega⟩ (Nat.le_of_ble_eq_true rfl) dX2_copy_205 rfl (fun r w205 hw => ?_) (fun _ _ _ h => h.elim)
                      obtain ⟨rfl, hT6, hm6⟩ := hw
                      have hcc := hC.2 (P9 2) (by omega) (by omega) c182
                      have hX : ∃ P7 : Int → Int, PK (zg z) w205 (fun x => a0 ≤ x) a0 (putL L9 (50 + P9 2) a146 8 arr2) P7 ∧ P7 0 = P 0 ∧ P7 1 = P 1 ∧ P9 2 + 1 = P7 2 ∧ cF P P7 (P 1) ∧ cB P P7 (P 0) (P9 2 + 1) ∧ cT P P7 (P9 2 + 1) := by
                        refine ⟨(updI (updI (updI (updI (updI (updI P9 (86 + 2 * P9 2) (P (86 + 2 * P9 2))) (87 + 2 * P9 2) (P (87 + 2 * P9 2))) (102 + P9 2) 0) 2 (P9 2 + 1)) (102 + P9 2) ((P (102 + P9 2) - 1) + 1)) (13 + 6 * (P (102 + P9 2) - 1)) (P9 2 + 1)), hT6, ?_, ?_, ?_, fun j h1 h2 => ?_, fun i h1 h2 => ?_, fun i h1 h2 => ?_⟩
                        · exact Eq.trans ((by simp only [updI, ↓reduceIte]; repeat first | rfl | rw [if_pos (by omega)] | rw [if_neg (by omega)])) e0
                        · exact Eq.trans ((by simp only [updI, ↓reduceIte]; repeat first | rfl | rw [if_pos (by omega)] | rw [if_neg (by omega)])) e1
                        · exact Eq.symm ((by simp only [updI, ↓reduceIte]; repeat first | rfl | rw [if_pos (by omega)] | rw [if_neg (by omega)]))
                        · rw [← hF j h1 h2]
                          simp only [updI]
                          repeat rw [if_neg (by omega)]
                        · have h9 := hBn i h1 h2
                          have hb9 := hK.bt i h1 h2
                          have hc9 := hC.1 i h1 h2
                          by_cases hi : i = (P (102 + P9 2) - 1)
                          · have e9 : ∀ j : Int, 10 + 6 * i ≤ j → j ≤ 15 + 6 * i → j ≠ 13 + 6 * i → (updI (updI (updI (updI (updI (updI P9 (86 + 2 * P9 2) (P (86 + 2 * P9 2))) (87 + 2 * P9 2) (P (87 + 2 * P9 2))) (102 + P9 2) 0) 2 (P9 2 + 1)) (102 + P9 2) ((P (102 + P9 2) - 1) + 1)) (13 + 6 * (P (102 + P9 2) - 1)) (P9 2 + 1)) j = P9 j := by
                              intro j h3 h4 h5
                              simp only [updI]
                              repeat rw [if_neg (by omega)]
                            refine ⟨Eq.trans (e9 _ (by omega) (by omega) (by omega)) h9.1, Eq.trans (e9 _ (by omega) (by omega) (by omega)) h9.2.1, Eq.trans (e9 _ (by omega) (by omega) (by omega)) h9.2.2.1, ?_, Eq.trans (e9 _ (by omega) (by omega) (by omega)) h9.2.2.2.2.1, Eq.trans (e9 _ (by omega) (by omega) (by omega)) h9.2.2.2.2.2⟩
                            rw [hi, hcc, show (updI (updI (updI (updI (updI (updI P9 (86 + 2 * P9 2) (P (86 + 2 * P9 2))) (87 + 2 * P9 2) (P (87 + 2 * P9 2))) (102 + P9 2) 0) 2 (P9 2 + 1)) (102 + P9 2) ((P (102 + P9 2) - 1) + 1)) (13 + 6 * (P (102 + P9 2) - 1)) (P9 2 + 1)) (13 + 6 * (P (102 + P9 2) - 1)) = P9 2 + 1 from updI_eq, if_pos (by omega)]
                          · have e9 : ∀ j : Int, 10 + 6 * i ≤ j → j ≤ 15 + 6 * i → (updI (updI (updI (updI (updI (updI P9 (86 + 2 * P9 2) (P (86 + 2 * P9 2))) (87 + 2 * P9 2) (P (87 + 2 * P9 2))) (102 + P9 2) 0) 2 (P9 2 + 1)) (102 + P9 2) ((P (102 + P9 2) - 1) + 1)) (13 + 6 * (P (102 + P9 2) - 1)) (P9 2 + 1)) j = P9 j := by
                              intro j h3 h4
                              simp only [updI]
                              repeat rw [if_neg (by omega)]
                            rw [e9 _ (by omega) (by omega), e9 _ (by omega) (by omega), e9 _ (by omega) (by omega), e9 _ (by omega) (by omega), e9 _ (by omega) (by omega), e9 _ (by omega) (by omega)]
                            refine ⟨h9.1, h9.2.1, h9.2.2.1, ?_, h9.2.2.2.2⟩
                            rw [h9.2.2.2.1]
                            by_cases h8 : P (13 + 6 * i) = P9 2 + 1
                            · exfalso
                              have h7 := hc9 (by omega)
                              rw [h8, show P9 2 + 1 - 1 = P9 2 by omega] at h7
                              omega
                            · split <;> split <;> omega
                        · by_cases hi : i = P9 2
                          · subst hi
                            refine ⟨(by simp only [updI, ↓reduceIte]; repeat first | rfl | rw [if_pos (by omega)] | rw [if_neg (by omega)]), (by simp only [updI, ↓reduceIte]; repeat first | rfl | rw [if_pos (by omega)] | rw [if_neg (by omega)]), ?_⟩
                            rw [show (updI (updI (updI (updI (updI (updI P9 (86 + 2 * P9 2) (P (86 + 2 * P9 2))) (87 + 2 * P9 2) (P (87 + 2 * P9 2))) (102 + P9 2) 0) 2 (P9 2 + 1)) (102 + P9 2) ((P (102 + P9 2) - 1) + 1)) (13 + 6 * (P (102 + P9 2) - 1)) (P9 2 + 1)) (102 + P9 2) = (P (102 + P9 2) - 1) + 1 from by rw [updI_ne (by omega), updI_eq]]; omega
                          · have h9 := hTn i h1 (by omega)
                            have e9 : ∀ j : Int, j = 86 + 2 * i ∨ j = 87 + 2 * i ∨ j = 102 + i → (updI (updI (updI (updI (updI (updI P9 (86 + 2 * P9 2) (P (86 + 2 * P9 2))) (87 + 2 * P9 2) (P (87 + 2 * P9 2))) (102 + P9 2) 0) 2 (P9 2 + 1)) (102 + P9 2) ((P (102 + P9 2) - 1) + 1)) (13 + 6 * (P (102 + P9 2) - 1)) (P9 2 + 1)) j = P9 j := by
                              intro j h3
                              simp only [updI]
                              repeat rw [if_neg (by omega)]
                            rw [e9 _ (Or.inl rfl), e9 _ (Or.inr (Or.inl rfl)), e9 _ (Or.inr (Or.inr rfl))]
                            exact h9
                      have hmX : Mo w.2 w9 w205 := hm5.tr (hm6.mo (n := w.2) (fun b _ (q9 : a0 ≤ b) => by omega)) (Nat.le_refl _)
                      refine xr_iinc (lv' := [some _, some _, some _, some _, some _]) dX2_copy_208 rfl (by decide) rfl rfl ?_
                      refine xr_goto (tgt := 123) dX2_copy_211 (by decide) ?_
                      refine xr_lv (lvw_s (lvw_s (lvw_s (lvw_n (lvw_n (lvw_nil)))))) ?_
                      obtain ⟨P7, hT7, g0, g1, g2, gF, gB, gT⟩ := hX
                      refine xr_wk (rc' := 2 * fu10 + 2 * fu86 + 2 * fu123 + 4) (rs' := 15 * fu10 + 17 * fu86 + 14 * fu123 + 32) ⟨by omega, by omega⟩ (ih123 _ _ P7 (P9 2 + 1) (by omega) (by omega) (by omega) (hmo.tr hmX (Nat.le_refl _)) hT7 g0 g1 g2 gF gB gT)
              refine xr_wk (rc' := 2 * fu10 + 2 * fu86 + 2 * 9 + 4) (rs' := 15 * fu10 + 17 * fu86 + 14 * 9 + 32) ⟨by omega, by omega⟩ (lp123 9 _ L9 P9 _ (by omega) (by omega) (by omega) hmo hT e09 e1 e2.symm hF (by rw [← e09]; exact hBn) (fun i h1 h2 => by omega))
            · skip
              refine xr_aload_n dX2_copy_97 rfl (by first | rfl | exact isRef_rf _) ?_
              refine xr_getfield (ci := 0) (T := TX2) (N := 10) (i := 0) hS.hq rfl (by decide) in_X2 q186 (.inl rfl) dX2_copy_98 (by rfl) ?_
              refine xr_iload_n dX2_copy_101 rfl ?_
              refine xr_callV (n9 := 1) (rc' := 2 * fu10 + 2 * fu86 + 22) (rs' := 15 * fu10 + 17 * fu86 + 158) (k_Reg_get hG hS.r0 hS.l0 ⟨by omega, by omega⟩ rfl (hS.be (P9 0) (by omega) (by omega)) rfl q2757) hS.r0 rfl q473 q474 q475 q88 q476 (by decide +kernel) rfl ⟨by decide, Nat.le_of_ble_eq_true rfl⟩ ⟨by omega, by omega⟩ (Nat.le_of_ble_eq_true rfl) dX2_copy_102 rfl (xk_r ?_) (fun _ _ _ h => h.elim)
              refine xr_castS (hS.be (P9 0) (by omega) (by omega)) rfl q794 dX2_copy_105 ?_
              refine xr_aload_n dX2_copy_108 rfl (by first | rfl | exact isRef_rf _) ?_
              refine xr_getfield (ci := 0) (T := TX2) (N := 10) (i := 0) hT.hq rfl (by decide) in_X2 q186 (.inl rfl) dX2_copy_109 (by rfl) ?_
              refine xr_callSN (n9 := 2) (rc' := 2 * fu10 + 2 * fu86 + 20) (rs' := 15 * fu10 + 17 * fu86 + 141) (k_copyBench hG hL hT (by omega) (hS.be (P9 0) (by omega) (by omega))) q795 q796 q86 q797 (by decide +kernel) rfl ⟨by decide, Nat.le_of_ble_eq_true rfl⟩ ⟨by omega, by omega⟩ (Nat.le_of_ble_eq_true rfl) dX2_copy_112 rfl (fun r w112 hw => ?_) (fun _ _ _ h => h.elim)
              obtain ⟨L8, rfl, hT5, hm5f⟩ := hw
              have hm5 : Mo w.2 w9 w112 := hm5f.mo (fun b _ (q9 : a0 ≤ b) => by omega)
              refine xr_iinc (lv' := [some _, some _, some _, none, none]) dX2_copy_115 rfl (by decide) rfl rfl ?_
              refine xr_goto (tgt := 86) dX2_copy_118 (by decide) ?_
              refine xr_lv (lvw_s (lvw_s (lvw_s (lvw_n (lvw_n (lvw_nil)))))) ?_
              have hsb := hK.bt (P9 0) (by omega) (by omega)
              have f0 : (cBench P9 (P (10 + 6 * P9 0)) (P (11 + 6 * P9 0)) (P (12 + 6 * P9 0)) (P (14 + 6 * P9 0)) (P (15 + 6 * P9 0))) 0 = P9 0 + 1 := by simp only [cBench, updI, ↓reduceIte]
              have f1 : (cBench P9 (P (10 + 6 * P9 0)) (P (11 + 6 * P9 0)) (P (12 + 6 * P9 0)) (P (14 + 6 * P9 0)) (P (15 + 6 * P9 0))) 1 = P9 1 := (by simp only [cBench, updI, ↓reduceIte]; repeat first | rfl | rw [if_pos (by omega)] | rw [if_neg (by omega)])
              have f2 : (cBench P9 (P (10 + 6 * P9 0)) (P (11 + 6 * P9 0)) (P (12 + 6 * P9 0)) (P (14 + 6 * P9 0)) (P (15 + 6 * P9 0))) 2 = P9 2 := (by simp only [cBench, updI, ↓reduceIte]; repeat first | rfl | rw [if_pos (by omega)] | rw [if_neg (by omega)])
              have fF : cF P (cBench P9 (P (10 + 6 * P9 0)) (P (11 + 6 * P9 0)) (P (12 + 6 * P9 0)) (P (14 + 6 * P9 0)) (P (15 + 6 * P9 0))) (P 1) := by
                intro j h1 h2
                rw [← hF j h1 h2]
                simp only [cBench, updI]
                repeat rw [if_neg (by omega)]
              have fB : cB P (cBench P9 (P (10 + 6 * P9 0)) (P (11 + 6 * P9 0)) (P (12 + 6 * P9 0)) (P (14 + 6 * P9 0)) (P (15 + 6 * P9 0))) (P9 0 + 1) 0 := by
                intro i h1 h2
                by_cases hi : i = P9 0
                · subst hi
                  refine ⟨(by simp only [cBench, updI, ↓reduceIte]; repeat first | rfl | rw [if_pos (by omega)] | rw [if_neg (by omega)]), (by simp only [cBench, updI, ↓reduceIte]; repeat first | rfl | rw [if_pos (by omega)] | rw [if_neg (by omega)]), (by simp only [cBench, updI, ↓reduceIte]; repeat first | rfl | rw [if_pos (by omega)] | rw [if_neg (by omega)]), ?_, (by simp only [cBench, updI, ↓reduceIte]; repeat first | rfl | rw [if_pos (by omega)] | rw [if_neg (by omega)]), (by simp only [cBench, updI, ↓reduceIte]; repeat first | rfl | rw [if_pos (by omega)] | rw [if_neg (by omega)])⟩
                  rw [show (cBench P9 (P (10 + 6 * P9 0)) (P (11 + 6 * P9 0)) (P (12 + 6 * P9 0)) (P (14 + 6 * P9 0)) (P (15 + 6 * P9 0))) (13 + 6 * P9 0) = 0 from (by simp only [cBench, updI, ↓reduceIte]; repeat first | rfl | rw [if_pos (by omega)] | rw [if_neg (by omega)])]
                  split <;> omega
                · have h9 := hBn i h1 (by omega)
                  have e9 : ∀ j : Int, 10 + 6 * i ≤ j → j ≤ 15 + 6 * i → (cBench P9 (P (10 + 6 * P9 0)) (P (11 + 6 * P9 0)) (P (12 + 6 * P9 0)) (P (14 + 6 * P9 0)) (P (15 + 6 * P9 0))) j = P9 j := by
                    intro j h3 h4
                    simp only [cBench, updI]
                    repeat rw [if_neg (by omega)]
                  rw [e9 _ (by omega) (by omega), e9 _ (by omega) (by omega), e9 _ (by omega) (by omega), e9 _ (by omega) (by omega), e9 _ (by omega) (by omega), e9 _ (by omega) (by omega)]
                  exact h9
              refine xr_wk (rc' := 2 * fu10 + 2 * fu86 + 20) (rs' := 15 * fu10 + 17 * fu86 + 141) ⟨by omega, by omega⟩ (ih86 _ _ (cBench P9 (P (10 + 6 * P9 0)) (P (11 + 6 * P9 0)) (P (12 + 6 * P9 0)) (P (14 + 6 * P9 0)) (P (15 + 6 * P9 0))) (P9 0 + 1) (by omega) (by omega) (by omega) (hmo.tr (hm5.to (by omega)) (Nat.le_refl _)) hT5 f0.symm (f1.trans e1) (f2.trans e2) fF fB)
        refine xr_wk (rc' := 2 * fu10 + 2 * 11 + 20) (rs' := 15 * fu10 + 17 * 11 + 141) ⟨by omega, by omega⟩ (lp86 11 _ L9 P9 _ (by omega) (by omega) (by omega) hmo hT e0.symm e19 e2 (by rw [← e19]; exact hF) (fun i h1 h2 => by omega))
      · skip
        refine xr_aload_n dX2_copy_21 rfl (by first | rfl | exact isRef_rf _) ?_
        refine xr_getfield (ci := 0) (T := TX2) (N := 10) (i := 1) hS.hq rfl (by decide) in_X2 q189 (.inl rfl) dX2_copy_22 (by rfl) ?_
        refine xr_iload_n dX2_copy_25 rfl ?_
        refine xr_callV (n9 := 1) (rc' := 2 * fu10 + 42) (rs' := 15 * fu10 + 328) (k_Reg_get hG hS.r1 hS.l1 ⟨by omega, by omega⟩ rfl (hS.fo (P9 1) (by omega) (by omega)) rfl q2758) hS.r1 rfl q473 q474 q475 q88 q476 (by decide +kernel) rfl ⟨by decide, Nat.le_of_ble_eq_true rfl⟩ ⟨by omega, by omega⟩ (Nat.le_of_ble_eq_true rfl) dX2_copy_26 rfl (xk_r ?_) (fun _ _ _ h => h.elim)
        refine xr_castS (hS.fo (P9 1) (by omega) (by omega)) rfl q477 dX2_copy_29 ?_
        refine xr_astore_n (lv' := [some _, some _, some _, some _, none]) dX2_copy_32 (by decide) rfl (by first | rfl | exact isRef_rf _) rfl ?_
        refine xr_new (ci := 4) (T := TX9) (N := 5) (n9 := 5) (fs := [.int (iI 0), .int (iI 0), .int (iI 0), .int (iI 0), .int (iI 0)]) (rc' := 2 * fu10 + 41) (rs' := 15 * fu10 + 323) rfl in_X9 tyX9 tyX9_ok q477 q732 q109 (by intro j hj; rcases (show j = 0 ∨ j = 1 ∨ j = 2 ∨ j = 3 ∨ j = 4 by omega) with rfl | rfl | rfl | rfl | rfl <;> rfl) ⟨by omega, by omega⟩ dX2_copy_33 (fun a33 ga33 hob33 => ?_)
        have hmn33 := Mo.new ga33 ga33 (.inl (.inr (4, [.int (iI 0), .int (iI 0), .int (iI 0), .int (iI 0), .int (iI 0)])))
        have hS1 := hS.ext hmn33
        have hT1 := hT.ext hmn33
        refine xr_dup dX2_copy_36 (by first | rfl | exact cat_rf _) ?_
        refine xr_iload_n dX2_copy_37 rfl ?_
        refine xr_aload_n dX2_copy_38 rfl (by first | rfl | exact isRef_rf _) ?_
        refine xr_callVU (n9 := 0) (rc' := 2 * fu10 + 41) (rs' := 15 * fu10 + 323) (k_row_F hG (hS1.fo (P9 1) (by omega) (by omega))) (hS1.fo (P9 1) (by omega) (by omega)) rfl q478 q479 rfl q332 q480 q108 q333 (by decide +kernel) rfl ⟨by decide, Nat.le_of_ble_eq_true rfl⟩ ⟨by omega, by omega⟩ (Nat.le_of_ble_eq_true rfl) dX2_copy_39 rfl (xk_r ?_) (fun _ _ _ h => h.elim)
        refine xr_aload_n dX2_copy_42 rfl (by first | rfl | exact isRef_rf _) ?_
        refine xr_callVU (n9 := 0) (rc' := 2 * fu10 + 41) (rs' := 15 * fu10 + 323) (k_column_F hG (hS1.fo (P9 1) (by omega) (by omega))) (hS1.fo (P9 1) (by omega) (by omega)) rfl q481 q482 rfl q338 q483 q108 q339 (by decide +kernel) rfl ⟨by decide, Nat.le_of_ble_eq_true rfl⟩ ⟨by omega, by omega⟩ (Nat.le_of_ble_eq_true rfl) dX2_copy_43 rfl (xk_r ?_) (fun _ _ _ h => h.elim)
        refine xr_callI (n9 := 3) (rc' := 2 * fu10 + 41) (rs' := 15 * fu10 + 323) (k_Fountain_init (o := false) hG hob33) q733 q734 q109 q735 rfl (by decide +kernel) rfl ⟨by decide, Nat.le_of_ble_eq_true rfl⟩ ⟨by omega, by omega⟩ (Nat.le_of_ble_eq_true rfl) dX2_copy_46 rfl (fun r w46 hw => ?_) (fun _ _ _ h => h.elim)
        obtain ⟨rfl, ho46, hf46⟩ := hw
        have hS2 := hS1.fr hf46 (fun b hb q9 => by have := hS.hi hb; omega) (fun b q9 => by have := hT.n0lt; omega)
        have hT2 := hT1.fr hf46 (fun b hb q9 => by have := hT.hi hb; omega) (fun b q9 => by have := hT.n0lt; omega)
        refine xr_astore (lv' := [some _, some _, some _, some _, some _]) dX2_copy_49 (by decide) rfl (by first | rfl | exact isRef_rf _) rfl ?_
        refine xr_aload dX2_copy_51 rfl (by first | rfl | exact isRef_rf _) ?_
        refine xr_aload_n dX2_copy_53 rfl (by first | rfl | exact isRef_rf _) ?_
        refine xr_getfieldN (ci := 4) (T := TX9) (N := 5) (i := 3) (hS2.fo (P9 1) (by omega) (by omega)) rfl (by decide) in_X9 q744 (.inl rfl) dX2_copy_54 (by rfl) ?_
        refine xr_putfieldN (ci := 4) (T := TX9) (N := 5) (i := 3) (fs' := [_, _, _, _, _]) ho46 rfl (by decide) in_X9 tyX9 tyX9_ok nmX9 q744 (.inl rfl) rfl dX2_copy_57 (by first | rfl | exact nar_bI _ | exact nar_rf _) (by first | rfl | exact fit_bI _ | exact fit_rf _ _) (by simp) (by rfl) (.inl rfl) (fun hob57 => ?_)
        have hS3 := hS2.fr (Fr.put1 (a := a33) (.inl (.inr (4, [.int (iI (P (70 + 4 * P9 1))), .int (iI (P (71 + 4 * P9 1))), .int (iI (P9 1)), .int (iI (P (72 + 4 * P9 1))), .int (bI true)])))) (fun b hb q9 => by have := hS.hi hb; omega) (fun b q9 => by have := hT.n0lt; omega)
        have hT3 := hT2.fr (Fr.put1 (a := a33) (.inl (.inr (4, [.int (iI (P (70 + 4 * P9 1))), .int (iI (P (71 + 4 * P9 1))), .int (iI (P9 1)), .int (iI (P (72 + 4 * P9 1))), .int (bI true)])))) (fun b hb q9 => by have := hT.hi hb; omega) (fun b q9 => by have := hT.n0lt; omega)
        refine xr_aload dX2_copy_60 rfl (by first | rfl | exact isRef_rf _) ?_
        refine xr_aload_n dX2_copy_62 rfl (by first | rfl | exact isRef_rf _) ?_
        refine xr_getfieldN (ci := 4) (T := TX9) (N := 5) (i := 4) (hS3.fo (P9 1) (by omega) (by omega)) rfl (by decide) in_X9 q747 (.inl rfl) dX2_copy_63 (by rfl) ?_
        refine xr_putfieldN (ci := 4) (T := TX9) (N := 5) (i := 4) (fs' := [_, _, _, _, _]) hob57 rfl (by decide) in_X9 tyX9 tyX9_ok nmX9 q747 (.inl rfl) rfl dX2_copy_66 (by first | rfl | exact nar_bI _ | exact nar_rf _) (by first | rfl | exact fit_bI _ | exact fit_rf _ _) (by simp) (by rfl) (.inl rfl) (fun hob66 => ?_)
        have hS4 := hS3.fr (Fr.put1 (a := a33) (.inl (.inr (4, [.int (iI (P (70 + 4 * P9 1))), .int (iI (P (71 + 4 * P9 1))), .int (iI (P9 1)), .int (iI (P (72 + 4 * P9 1))), .int (bI (decide (P (73 + 4 * P9 1) = 1)))])))) (fun b hb q9 => by have := hS.hi hb; omega) (fun b q9 => by have := hT.n0lt; omega)
        have hT4 := hT3.fr (Fr.put1 (a := a33) (.inl (.inr (4, [.int (iI (P (70 + 4 * P9 1))), .int (iI (P (71 + 4 * P9 1))), .int (iI (P9 1)), .int (iI (P (72 + 4 * P9 1))), .int (bI (decide (P (73 + 4 * P9 1) = 1)))])))) (fun b hb q9 => by have := hT.hi hb; omega) (fun b q9 => by have := hT.n0lt; omega)
        refine xr_aload_n dX2_copy_69 rfl (by first | rfl | exact isRef_rf _) ?_
        refine xr_getfield (ci := 0) (T := TX2) (N := 10) (i := 1) hT4.hq rfl (by decide) in_X2 q189 (.inl rfl) dX2_copy_70 (by rfl) ?_
        refine xr_aload dX2_copy_73 rfl (by first | rfl | exact isRef_rf _) ?_
        refine xr_callV (n9 := 1) (rc' := 2 * fu10 + 40) (rs' := 15 * fu10 + 313) (k_Reg_add hG hL hT4.r1 hT4.l1 (by omega) hob66 rfl q2775 (by decide)) hT4.r1 rfl q763 q764 q765 q88 q766 (by decide +kernel) rfl ⟨by decide, Nat.le_of_ble_eq_true rfl⟩ ⟨by omega, by omega⟩ (Nat.le_of_ble_eq_true rfl) dX2_copy_75 rfl (fun r w75 hw => ?_) (fun _ _ _ h => h.elim)
        obtain ⟨rfl, arr2, hA9, hf9, har9⟩ := hw
        have hlt := hT.hi (b := L9 4) (Or.inr (Or.inl ⟨4, by decide, by decide, rfl⟩))
        have hlt2 := hT.l1.lt
        have ho9 := hob66.fr hf9 (fun q9 => by rcases q9 with q9 | ⟨q9, -⟩ <;> omega)
        have hg9 := hT.n0lt
        have hT5 := hT4.addF' (P' := (updI (updI (updI (updI (updI P9 (70 + 4 * P9 1) (P (70 + 4 * P9 1))) (71 + 4 * P9 1) (P (71 + 4 * P9 1))) (72 + 4 * P9 1) (P (72 + 4 * P9 1))) (73 + 4 * P9 1) (P (73 + 4 * P9 1))) 1 (P9 1 + 1))) (L' := putL L9 (30 + P9 1) a33 7 arr2) hf9 hA9 (show a0 ≤ a33 by omega) har9 (by omega) ho9 (by simp only [fF]; rw [show (updI (updI (updI (updI (updI P9 (70 + 4 * P9 1) (P (70 + 4 * P9 1))) (71 + 4 * P9 1) (P (71 + 4 * P9 1))) (72 + 4 * P9 1) (P (72 + 4 * P9 1))) (73 + 4 * P9 1) (P (73 + 4 * P9 1))) 1 (P9 1 + 1)) (73 + 4 * P9 1) = P (73 + 4 * P9 1) from (by simp only [updI, ↓reduceIte]; repeat first | rfl | rw [if_pos (by omega)] | rw [if_neg (by omega)])]; simp only [updI, ↓reduceIte]; repeat first | rfl | rw [if_pos (by omega)] | rw [if_neg (by omega)]) (by intro k h1 h2; simp only [updI]; repeat rw [if_neg (by omega)]) (by simp only [updI, ↓reduceIte]; repeat first | rfl | rw [if_pos (by omega)] | rw [if_neg (by omega)]) putL_n putL_i (putL_j (by omega))
        have hm5 : Mo w.2 w9 w75 := ((((Mo.new (n := w.2) (by omega) ga33 _).tr (hf46.mo (n := w.2) (fun b _ q9 => by omega)) (Nat.le_refl _)).tr (Mo.put (n := w.2) (by omega) _) (Nat.le_refl _)).tr (Mo.put (n := w.2) (by omega) _) (Nat.le_refl _)).tr (hf9.mo (n := w.2) (fun b _ q9 => by
            rcases q9 with q9 | ⟨q9, q8⟩
            · have : a0 ≤ L9 4 := hT.ar (k := 4) (by decide) (by decide); omega
            · have : a0 ≤ L9 7 := hT.aa (k := 7) (by decide) (by decide) (by omega); omega)) (Nat.le_refl _)
        refine xr_iinc (lv' := [some _, some _, some _, some _, some _]) dX2_copy_78 rfl (by decide) rfl rfl ?_
        refine xr_goto (tgt := 10) dX2_copy_81 (by decide) ?_
        refine xr_lv (lvw_s (lvw_s (lvw_s (lvw_n (lvw_n (lvw_nil)))))) ?_
        have f0 : (updI (updI (updI (updI (updI P9 (70 + 4 * P9 1) (P (70 + 4 * P9 1))) (71 + 4 * P9 1) (P (71 + 4 * P9 1))) (72 + 4 * P9 1) (P (72 + 4 * P9 1))) (73 + 4 * P9 1) (P (73 + 4 * P9 1))) 1 (P9 1 + 1)) 0 = P9 0 := (by simp only [updI, ↓reduceIte]; repeat first | rfl | rw [if_pos (by omega)] | rw [if_neg (by omega)])
        have f1 : (updI (updI (updI (updI (updI P9 (70 + 4 * P9 1) (P (70 + 4 * P9 1))) (71 + 4 * P9 1) (P (71 + 4 * P9 1))) (72 + 4 * P9 1) (P (72 + 4 * P9 1))) (73 + 4 * P9 1) (P (73 + 4 * P9 1))) 1 (P9 1 + 1)) 1 = P9 1 + 1 := (by simp only [updI, ↓reduceIte]; repeat first | rfl | rw [if_pos (by omega)] | rw [if_neg (by omega)])
        have f2 : (updI (updI (updI (updI (updI P9 (70 + 4 * P9 1) (P (70 + 4 * P9 1))) (71 + 4 * P9 1) (P (71 + 4 * P9 1))) (72 + 4 * P9 1) (P (72 + 4 * P9 1))) (73 + 4 * P9 1) (P (73 + 4 * P9 1))) 1 (P9 1 + 1)) 2 = P9 2 := (by simp only [updI, ↓reduceIte]; repeat first | rfl | rw [if_pos (by omega)] | rw [if_neg (by omega)])
        have fF : cF P (updI (updI (updI (updI (updI P9 (70 + 4 * P9 1) (P (70 + 4 * P9 1))) (71 + 4 * P9 1) (P (71 + 4 * P9 1))) (72 + 4 * P9 1) (P (72 + 4 * P9 1))) (73 + 4 * P9 1) (P (73 + 4 * P9 1))) 1 (P9 1 + 1)) (P9 1 + 1) := by
          intro j h1 h2
          have h9 := hF j h1
          simp only [updI]
          (repeat' split) <;> first | omega | (rename_i h8; rw [h8])
        refine xr_wk (rc' := 2 * fu10 + 40) (rs' := 15 * fu10 + 313) ⟨by omega, by omega⟩ (ih10 _ _ (updI (updI (updI (updI (updI P9 (70 + 4 * P9 1) (P (70 + 4 * P9 1))) (71 + 4 * P9 1) (P (71 + 4 * P9 1))) (72 + 4 * P9 1) (P (72 + 4 * P9 1))) (73 + 4 * P9 1) (P (73 + 4 * P9 1))) 1 (P9 1 + 1)) (P9 1 + 1) (by omega) (by omega) (by omega) (hmo.tr hm5 (Nat.le_refl _)) hT5 (f0.trans e0) f1.symm (f2.trans e2) fF)
  refine xr_wk (rc' := 2 * 5 + 40) (rs' := 15 * 5 + 313) ⟨by omega, by omega⟩ (lp10 5 _ L1 P00 _ (by omega) (by omega) (by omega) hm4 hK1 rfl rfl rfl (fun j h1 h2 => by omega))
