/-! 61.parse3.lean.txt (written by tools/walker.py)  -/
set_option maxRecDepth 100000
theorem k_Pa_action {g : GG} {w : WW} {p t b al n : Nat} {T : Int → Int} {o : Int} (hG : Base g) (hJ : KJ g) (hS : KS g) (hp : Ob w p 12 [.ref t, .ref al, .int (iI o)]) (hT : SO g w t b n T) (ho : 0 ≤ o ∧ o ≤ n) : Ct g yX15_action (.code yX15_action cX15_action 2 (some ((.object "BenchBroker$Action")))) 9 190 18 123 w [.ref p] (fun r_ w1 => ∃ (cm : Cm) (o1 : Int) (x : Nat), pAct T n o = .inr (cm, o1) ∧ r_ = some (.ref x) ∧ CmO w1 x cm ∧ cmS cm ∧ w.2 ≤ x ∧ (o + 5 ≤ o1 ∧ o1 ≤ n) ∧ Ob w1 p 12 [.ref t, .ref al, .int (iI o1)] ∧ Fr (fun x => x = p) w w1) (fun E a9 w1 => E = "BenchBroker$SyntaxError" ∧ ∃ e : Int, pAct T n o = .inl e ∧ (0 ≤ e ∧ e ≤ n) ∧ Ob w1 a9 7 [.int (iI e)] ∧ w.2 ≤ a9 ∧ Fr (fun x => x = p) w w1) := by
  refine Ct.of (lv := [some _, none]) hG (by decide +kernel) (Nat.le_of_ble_eq_true rfl) rfl ?_
  intro z hg hpo hxp hnm htab
  subst hg
  refine xr_base (fun hB9 hk9 => ?_)
  have hnp := hT.np hp
  refine xr_aload_n dX15_action_0 rfl (by first | rfl | exact isRef_rf _) ?_
  refine xr_callV (n9 := 0) (rc' := 18) (rs' := 123) (k_Pa_current hG hJ hp hT ho) hp rfl q1966 q1968 qs28 q128 q1969 (by decide +kernel) rfl ⟨by decide, Nat.le_of_ble_eq_true rfl⟩ ⟨Nat.le_of_ble_eq_true rfl, Nat.le_of_ble_eq_true rfl⟩ (Nat.le_of_ble_eq_true rfl) dX15_action_1 rfl (xk_r ?_) (fun _ _ _ h => h.elim)
  have hcu := hT.cur ho.1
  by_cases s4_98 : curT T n o = 98
  · skip
    have eA : pAct T n o = pAdd T n 98 o := by
      unfold pAct
      repeat rw [if_neg (by assumption)]
      exact if_pos (by assumption)
    refine xr_tableIn (off := 92) (tgt := 96) dX15_action_4 (by omega) (by omega) (by rw [s4_98]; first | rfl | decide) (by decide) ?_
    refine xr_aload_n dX15_action_96 rfl (by first | rfl | exact isRef_rf _) ?_
    refine xr_aload_n dX15_action_97 rfl (by first | rfl | exact isRef_rf _) ?_
    refine xr_callV (n9 := 0) (rc' := 18) (rs' := 123) (k_Pa_current hG hJ hp hT ho) hp rfl q1966 q1968 qs28 q128 q1969 (by decide +kernel) rfl ⟨by decide, Nat.le_of_ble_eq_true rfl⟩ ⟨Nat.le_of_ble_eq_true rfl, Nat.le_of_ble_eq_true rfl⟩ (Nat.le_of_ble_eq_true rfl) dX15_action_98 rfl (xk_r ?_) (fun _ _ _ h => h.elim)
    obtain ⟨c9, hc9, hcc⟩ : ∃ c9, curT T n o = c9 ∧ (c9 = 98 ∨ c9 = 102) := ⟨_, rfl, by omega⟩
    rw [hc9]
    have eA : pAct T n o = pAdd T n c9 o := by rw [eA]; congr 1; omega
    refine xr_callV (n9 := 1) (rc' := 1) (rs' := 7) (k_Pa_addition (c9 := c9) hG hJ hS hp hT ho hcc) hp rfl q1972 q1974 qs29 q128 q1975 (by decide +kernel) rfl ⟨by decide, Nat.le_of_ble_eq_true rfl⟩ ⟨Nat.le_of_ble_eq_true rfl, Nat.le_of_ble_eq_true rfl⟩ (Nat.le_of_ble_eq_true rfl) dX15_action_101 rfl (fun r w101 hw => ?_) ?_
    rotate_left
    · skip
      rintro E q9 w9 ⟨rfl, e9, he9, hb9, hob9, hq9, hf9⟩
      exact xt_out (fun x hx => (htab x hx).elim) (by rw [hxp]; exact ⟨rfl, e9, eA.trans he9, hb9, hob9, hq9, hf9⟩)
    obtain ⟨cm, o9, x9, he9, rfl, hx9, hs9, hw9, hb9, hp9, hf9⟩ := hw
    show XJ _ _ _ _ _ _ _ _ _ _ _ _ [.ref x9]
    first | refine xr_areturn rfl rfl dX15_action_104 ?_ | refine xr_areturnN rfl rfl dX15_action_104 ?_
    rw [hpo]
    exact ⟨cm, o9, x9, eA.trans he9, rfl, hx9, hs9, hw9, hb9, hp9, hf9⟩
  by_cases s4_101 : curT T n o = 101
  · skip
    have eA : pAct T n o = pB (pWord T n (chs "end") o) fun o1 => pB (pSD T n o1) fun a => .inr ((101, a.1, 0, 0), a.2) := by
      unfold pAct
      repeat rw [if_neg (by assumption)]
      exact if_pos (by assumption)
    refine xr_tableIn (off := 154) (tgt := 158) dX15_action_4 (by omega) (by omega) (by rw [s4_101]; first | rfl | decide) (by decide) ?_
    refine xr_aload_n dX15_action_158 rfl (by first | rfl | exact isRef_rf _) ?_
    obtain ⟨tS159, bS159, hR159, hSO159⟩ := hS ("BenchBroker$Parser", 102, "end") (by decide)
    refine xr_ldcS hR159 dX15_action_159 ?_
    have hT2 := (hSO159.ext hk9)
    refine xr_callV (n9 := 1) (rc' := 9) (rs' := 60) (k_Pa_word hG hJ hp hT ho hT2 (by decide +kernel) (by decide +kernel)) hp rfl q1978 q1980 qs30 q128 q1981 (by decide +kernel) rfl ⟨by decide, Nat.le_of_ble_eq_true rfl⟩ ⟨Nat.le_of_ble_eq_true rfl, Nat.le_of_ble_eq_true rfl⟩ (Nat.le_of_ble_eq_true rfl) dX15_action_161 rfl (fun r w161 hw => ?_) ?_
    rotate_left
    · skip
      rintro E q9 w9 ⟨rfl, e9, he9, hb9, hob9, hq9, hf9⟩
      exact xt_out (fun x hx => (htab x hx).elim) (by rw [hxp]; exact ⟨rfl, e9, by refine eA.trans ?_; simp only [he9, pB], hb9, hob9, hq9, hf9⟩)
    obtain ⟨rfl, o161, he161, hb161, hp161, hf161⟩ := hw
    have hT161 := hT.fr hf161 hnp.1 hnp.2
    have hfr161 := hf161
    have hb161 : o + 3 ≤ o161 ∧ o161 ≤ n := hb161
    refine xr_new (ci := 10) (T := TX14) (N := 4) (n9 := 4) (fs := [.int (iI 0), .int (iI 0), .int (iI 0), .int (iI 0)]) (rc' := 8) (rs' := 56) rfl in_X14 tyX14 tyX14_ok q2034 q1416 q125 (by intro j hj; rcases (show j = 0 ∨ j = 1 ∨ j = 2 ∨ j = 3 by omega) with rfl | rfl | rfl | rfl <;> rfl) ⟨Nat.le_of_ble_eq_true rfl, Nat.le_of_ble_eq_true rfl⟩ dX15_action_164 (fun a164 ga164 hob164 => ?_)
    have hmn164 := Mo.new ga164 ga164 (.inl (.inr (10, [.int (iI 0), .int (iI 0), .int (iI 0), .int (iI 0)])))
    have hp164 := hp161.ext hmn164
    have hT164 := hT161.ext hmn164
    have hfr164 := hfr161.trm hmn164
    have hnp164 : p < a164 := Nat.lt_of_lt_of_le hp161.2 ga164
    have hfw164 := hfr161.1
    refine xr_dup dX15_action_167 (by first | rfl | exact cat_rf _) ?_
    refine xr_bipush dX15_action_168 (by decide) ?_
    refine xr_iconst dX15_action_170 ?_
    refine xr_aload_n dX15_action_171 rfl (by first | rfl | exact isRef_rf _) ?_
    refine xr_callV (n9 := 0) (rc' := 6) (rs' := 42) (k_Pa_sD hG hJ hp164 hT164 (by omega)) hp164 rfl q2005 q2007 qs32 q128 q2008 (by decide +kernel) rfl ⟨by decide, Nat.le_of_ble_eq_true rfl⟩ ⟨Nat.le_of_ble_eq_true rfl, Nat.le_of_ble_eq_true rfl⟩ (Nat.le_of_ble_eq_true rfl) dX15_action_172 rfl (fun r w172 hw => ?_) ?_
    rotate_left
    · skip
      rintro E q9 w9 ⟨rfl, e9, he9, hb9, hob9, hq9, hf9⟩
      exact xt_out (fun x hx => (htab x hx).elim) (by rw [hxp]; exact ⟨rfl, e9, by refine eA.trans ?_; simp only [he161, he9, pB], hb9, hob9, by have := hfr164.1; omega, hfr164.tq hf9⟩)
    obtain ⟨v172, o172, he172, rfl, hv172, hb172, hp172, hf172⟩ := hw
    show XJ _ _ _ _ _ _ _ _ _ _ _ _ (.int (iI v172) :: _)
    have hT172 := hT164.fr hf172 hnp.1 hnp.2
    have hfr172 := hfr164.tq hf172
    have hobn := hob164.fr hf172 (fun (q9 : a164 = p) => by omega)
    refine xr_iconst dX15_action_175 ?_
    refine xr_callI (n9 := 4) (rc' := 6) (rs' := 42) (k_LeaseAction_init hG hobn (by omega)) q2035 q1418 q125 q1419 rfl (by decide +kernel) rfl ⟨by decide, Nat.le_of_ble_eq_true rfl⟩ ⟨Nat.le_of_ble_eq_true rfl, Nat.le_of_ble_eq_true rfl⟩ (Nat.le_of_ble_eq_true rfl) dX15_action_176 rfl (fun r w176 hw => ?_) (fun _ _ _ h => h.elim)
    obtain ⟨rfl, hobF, hfF⟩ := hw
    have hpF := hp172.fr hfF (fun (q9 : p = a164) => by omega)
    have hfrF := hfr172.tr hfF (fun b9 hb9 (q9 : b9 = a164) => by have := ga164; omega)
    first | refine xr_areturn rfl rfl dX15_action_179 ?_ | refine xr_areturnN rfl rfl dX15_action_179 ?_
    rw [hpo]
    refine ⟨(101, v172, 0, 0), o172, a164, by refine eA.trans ?_; simp only [he161, he172, pB], rfl, hobF, ⟨Or.inr (Or.inr (Or.inr (Or.inr (Or.inr (Or.inl rfl))))), ?_, ?_, ?_⟩, by have := ga164; omega, by omega, hpF, hfrF⟩ <;> (dsimp only; omega)
  by_cases s4_102 : curT T n o = 102
  · skip
    have eA : pAct T n o = pAdd T n 102 o := by
      unfold pAct
      repeat rw [if_neg (by assumption)]
      exact if_pos (by assumption)
    refine xr_tableIn (off := 92) (tgt := 96) dX15_action_4 (by omega) (by omega) (by rw [s4_102]; first | rfl | decide) (by decide) ?_
    refine xr_aload_n dX15_action_96 rfl (by first | rfl | exact isRef_rf _) ?_
    refine xr_aload_n dX15_action_97 rfl (by first | rfl | exact isRef_rf _) ?_
    refine xr_callV (n9 := 0) (rc' := 18) (rs' := 123) (k_Pa_current hG hJ hp hT ho) hp rfl q1966 q1968 qs28 q128 q1969 (by decide +kernel) rfl ⟨by decide, Nat.le_of_ble_eq_true rfl⟩ ⟨Nat.le_of_ble_eq_true rfl, Nat.le_of_ble_eq_true rfl⟩ (Nat.le_of_ble_eq_true rfl) dX15_action_98 rfl (xk_r ?_) (fun _ _ _ h => h.elim)
    obtain ⟨c9, hc9, hcc⟩ : ∃ c9, curT T n o = c9 ∧ (c9 = 98 ∨ c9 = 102) := ⟨_, rfl, by omega⟩
    rw [hc9]
    have eA : pAct T n o = pAdd T n c9 o := by rw [eA]; congr 1; omega
    refine xr_callV (n9 := 1) (rc' := 1) (rs' := 7) (k_Pa_addition (c9 := c9) hG hJ hS hp hT ho hcc) hp rfl q1972 q1974 qs29 q128 q1975 (by decide +kernel) rfl ⟨by decide, Nat.le_of_ble_eq_true rfl⟩ ⟨Nat.le_of_ble_eq_true rfl, Nat.le_of_ble_eq_true rfl⟩ (Nat.le_of_ble_eq_true rfl) dX15_action_101 rfl (fun r w101 hw => ?_) ?_
    rotate_left
    · skip
      rintro E q9 w9 ⟨rfl, e9, he9, hb9, hob9, hq9, hf9⟩
      exact xt_out (fun x hx => (htab x hx).elim) (by rw [hxp]; exact ⟨rfl, e9, eA.trans he9, hb9, hob9, hq9, hf9⟩)
    obtain ⟨cm, o9, x9, he9, rfl, hx9, hs9, hw9, hb9, hp9, hf9⟩ := hw
    show XJ _ _ _ _ _ _ _ _ _ _ _ _ [.ref x9]
    first | refine xr_areturn rfl rfl dX15_action_104 ?_ | refine xr_areturnN rfl rfl dX15_action_104 ?_
    rw [hpo]
    exact ⟨cm, o9, x9, eA.trans he9, rfl, hx9, hs9, hw9, hb9, hp9, hf9⟩
  by_cases s4_103 : curT T n o = 103
  · skip
    have eA : pAct T n o = pB (pWord T n (chs "give") o) fun o1 => pB (pSD T n o1) fun a => pB (pSN T n a.2) fun v => .inr ((103, a.1, v.1, 0), v.2) := by
      unfold pAct
      repeat rw [if_neg (by assumption)]
      exact if_pos (by assumption)
    refine xr_tableIn (off := 123) (tgt := 127) dX15_action_4 (by omega) (by omega) (by rw [s4_103]; first | rfl | decide) (by decide) ?_
    refine xr_aload_n dX15_action_127 rfl (by first | rfl | exact isRef_rf _) ?_
    obtain ⟨tS128, bS128, hR128, hSO128⟩ := hS ("BenchBroker$Parser", 96, "give") (by decide)
    refine xr_ldcS hR128 dX15_action_128 ?_
    have hT2 := (hSO128.ext hk9)
    refine xr_callV (n9 := 1) (rc' := 9) (rs' := 60) (k_Pa_word hG hJ hp hT ho hT2 (by decide +kernel) (by decide +kernel)) hp rfl q1978 q1980 qs30 q128 q1981 (by decide +kernel) rfl ⟨by decide, Nat.le_of_ble_eq_true rfl⟩ ⟨Nat.le_of_ble_eq_true rfl, Nat.le_of_ble_eq_true rfl⟩ (Nat.le_of_ble_eq_true rfl) dX15_action_130 rfl (fun r w130 hw => ?_) ?_
    rotate_left
    · skip
      rintro E q9 w9 ⟨rfl, e9, he9, hb9, hob9, hq9, hf9⟩
      exact xt_out (fun x hx => (htab x hx).elim) (by rw [hxp]; exact ⟨rfl, e9, by refine eA.trans ?_; simp only [he9, pB], hb9, hob9, hq9, hf9⟩)
    obtain ⟨rfl, o130, he130, hb130, hp130, hf130⟩ := hw
    have hT130 := hT.fr hf130 hnp.1 hnp.2
    have hfr130 := hf130
    have hb130 : o + 4 ≤ o130 ∧ o130 ≤ n := hb130
    refine xr_aload_n dX15_action_133 rfl (by first | rfl | exact isRef_rf _) ?_
    refine xr_callV (n9 := 0) (rc' := 7) (rs' := 46) (k_Pa_sD hG hJ hp130 hT130 (by omega)) hp130 rfl q2005 q2007 qs32 q128 q2008 (by decide +kernel) rfl ⟨by decide, Nat.le_of_ble_eq_true rfl⟩ ⟨Nat.le_of_ble_eq_true rfl, Nat.le_of_ble_eq_true rfl⟩ (Nat.le_of_ble_eq_true rfl) dX15_action_134 rfl (fun r w134 hw => ?_) ?_
    rotate_left
    · skip
      rintro E q9 w9 ⟨rfl, e9, he9, hb9, hob9, hq9, hf9⟩
      exact xt_out (fun x hx => (htab x hx).elim) (by rw [hxp]; exact ⟨rfl, e9, by refine eA.trans ?_; simp only [he130, he9, pB], hb9, hob9, by have := hfr130.1; omega, hfr130.tq hf9⟩)
    obtain ⟨v134, o134, he134, rfl, hv134, hb134, hp134, hf134⟩ := hw
    show XJ _ _ _ _ _ _ _ _ _ _ _ _ [.int (iI v134)]
    have hT134 := hT130.fr hf134 hnp.1 hnp.2
    have hfr134 := hfr130.tq hf134
    refine xr_istore_n (lv' := [some _, some _]) dX15_action_137 (by decide) rfl rfl ?_
    refine xr_new (ci := 11) (T := TX13) (N := 4) (n9 := 4) (fs := [.int (iI 0), .int (iI 0), .int (iI 0), .int (iI 0)]) (rc' := 6) (rs' := 42) rfl in_X13 tyX13 tyX13_ok q2026 q1230 q118 (by intro j hj; rcases (show j = 0 ∨ j = 1 ∨ j = 2 ∨ j = 3 by omega) with rfl | rfl | rfl | rfl <;> rfl) ⟨Nat.le_of_ble_eq_true rfl, Nat.le_of_ble_eq_true rfl⟩ dX15_action_138 (fun a138 ga138 hob138 => ?_)
    have hmn138 := Mo.new ga138 ga138 (.inl (.inr (11, [.int (iI 0), .int (iI 0), .int (iI 0), .int (iI 0)])))
    have hp138 := hp134.ext hmn138
    have hT138 := hT134.ext hmn138
    have hfr138 := hfr134.trm hmn138
    have hnp138 : p < a138 := Nat.lt_of_lt_of_le hp134.2 ga138
    have hfw138 := hfr134.1
    refine xr_dup dX15_action_141 (by first | rfl | exact cat_rf _) ?_
    refine xr_bipush dX15_action_142 (by decide) ?_
    refine xr_iload_n dX15_action_144 rfl ?_
    refine xr_aload_n dX15_action_145 rfl (by first | rfl | exact isRef_rf _) ?_
    refine xr_callV (n9 := 0) (rc' := 3) (rs' := 21) (k_Pa_sN hG hJ hp138 hT138 (by omega)) hp138 rfl q2015 q2017 qs34 q128 q2018 (by decide +kernel) rfl ⟨by decide, Nat.le_of_ble_eq_true rfl⟩ ⟨Nat.le_of_ble_eq_true rfl, Nat.le_of_ble_eq_true rfl⟩ (Nat.le_of_ble_eq_true rfl) dX15_action_146 rfl (fun r w146 hw => ?_) ?_
    rotate_left
    · skip
      rintro E q9 w9 ⟨rfl, e9, he9, hb9, hob9, hq9, hf9⟩
      exact xt_out (fun x hx => (htab x hx).elim) (by rw [hxp]; exact ⟨rfl, e9, by refine eA.trans ?_; simp only [he130, he134, he9, pB], hb9, hob9, by have := hfr138.1; omega, hfr138.tq hf9⟩)
    obtain ⟨v146, o146, he146, rfl, hv146, hb146, hp146, hf146⟩ := hw
    show XJ _ _ _ _ _ _ _ _ _ _ _ _ (.int (iI v146) :: _)
    have hT146 := hT138.fr hf146 hnp.1 hnp.2
    have hfr146 := hfr138.tq hf146
    have hobn := hob138.fr hf146 (fun (q9 : a138 = p) => by omega)
    refine xr_callI (n9 := 3) (rc' := 3) (rs' := 21) (k_PlainAction_init hG hobn (by omega)) q2027 q1232 q118 q1233 rfl (by decide +kernel) rfl ⟨by decide, Nat.le_of_ble_eq_true rfl⟩ ⟨Nat.le_of_ble_eq_true rfl, Nat.le_of_ble_eq_true rfl⟩ (Nat.le_of_ble_eq_true rfl) dX15_action_149 rfl (fun r w149 hw => ?_) (fun _ _ _ h => h.elim)
    obtain ⟨rfl, hobF, hfF⟩ := hw
    have hpF := hp146.fr hfF (fun (q9 : p = a138) => by omega)
    have hfrF := hfr146.tr hfF (fun b9 hb9 (q9 : b9 = a138) => by have := ga138; omega)
    first | refine xr_areturn rfl rfl dX15_action_152 ?_ | refine xr_areturnN rfl rfl dX15_action_152 ?_
    rw [hpo]
    refine ⟨(103, v134, v146, 0), o146, a138, by refine eA.trans ?_; simp only [he130, he134, he146, pB], rfl, hobF, ⟨Or.inr (Or.inr (Or.inr (Or.inr (Or.inr (Or.inr (Or.inl rfl)))))), ?_, ?_, ?_⟩, by have := ga138; omega, by omega, hpF, hfrF⟩ <;> (dsimp only; omega)
  by_cases s4_108 : curT T n o = 108
  · skip
    have eA : pAct T n o = pLim T n o := by
      unfold pAct
      repeat rw [if_neg (by assumption)]
      exact if_pos (by assumption)
    refine xr_tableIn (off := 149) (tgt := 153) dX15_action_4 (by omega) (by omega) (by rw [s4_108]; first | rfl | decide) (by decide) ?_
    refine xr_aload_n dX15_action_153 rfl (by first | rfl | exact isRef_rf _) ?_
    refine xr_callV (n9 := 0) (rc' := 0) (rs' := 0) (k_Pa_lim hG hJ hS hp hT ho) hp rfl q2028 q2030 qs36 q128 q2031 (by decide +kernel) rfl ⟨by decide, Nat.le_of_ble_eq_true rfl⟩ ⟨Nat.le_of_ble_eq_true rfl, Nat.le_of_ble_eq_true rfl⟩ (Nat.le_of_ble_eq_true rfl) dX15_action_154 rfl (fun r w154 hw => ?_) ?_
    rotate_left
    · skip
      rintro E q9 w9 ⟨rfl, e9, he9, hb9, hob9, hq9, hf9⟩
      exact xt_out (fun x hx => (htab x hx).elim) (by rw [hxp]; exact ⟨rfl, e9, eA.trans he9, hb9, hob9, hq9, hf9⟩)
    obtain ⟨cm, o9, x9, he9, rfl, hx9, hs9, hw9, hb9, hp9, hf9⟩ := hw
    show XJ _ _ _ _ _ _ _ _ _ _ _ _ [.ref x9]
    first | refine xr_areturn rfl rfl dX15_action_157 ?_ | refine xr_areturnN rfl rfl dX15_action_157 ?_
    rw [hpo]
    exact ⟨cm, o9, x9, eA.trans he9, rfl, hx9, hs9, hw9, hb9, hp9, hf9⟩
  by_cases s4_112 : curT T n o = 112
  · skip
    have eA : pAct T n o = pB (pWord T n (chs "pass") o) fun o1 => pB (pSN T n o1) fun v => .inr ((112, v.1, 0, 0), v.2) := by
      unfold pAct
      repeat rw [if_neg (by assumption)]
      exact if_pos (by assumption)
    refine xr_tableIn (off := 224) (tgt := 228) dX15_action_4 (by omega) (by omega) (by rw [s4_112]; first | rfl | decide) (by decide) ?_
    refine xr_aload_n dX15_action_228 rfl (by first | rfl | exact isRef_rf _) ?_
    obtain ⟨tS229, bS229, hR229, hSO229⟩ := hS ("BenchBroker$Parser", 108, "pass") (by decide)
    refine xr_ldcS hR229 dX15_action_229 ?_
    have hT2 := (hSO229.ext hk9)
    refine xr_callV (n9 := 1) (rc' := 9) (rs' := 60) (k_Pa_word hG hJ hp hT ho hT2 (by decide +kernel) (by decide +kernel)) hp rfl q1978 q1980 qs30 q128 q1981 (by decide +kernel) rfl ⟨by decide, Nat.le_of_ble_eq_true rfl⟩ ⟨Nat.le_of_ble_eq_true rfl, Nat.le_of_ble_eq_true rfl⟩ (Nat.le_of_ble_eq_true rfl) dX15_action_231 rfl (fun r w231 hw => ?_) ?_
    rotate_left
    · skip
      rintro E q9 w9 ⟨rfl, e9, he9, hb9, hob9, hq9, hf9⟩
      exact xt_out (fun x hx => (htab x hx).elim) (by rw [hxp]; exact ⟨rfl, e9, by refine eA.trans ?_; simp only [he9, pB], hb9, hob9, hq9, hf9⟩)
    obtain ⟨rfl, o231, he231, hb231, hp231, hf231⟩ := hw
    have hT231 := hT.fr hf231 hnp.1 hnp.2
    have hfr231 := hf231
    have hb231 : o + 4 ≤ o231 ∧ o231 ≤ n := hb231
    refine xr_new (ci := 11) (T := TX13) (N := 4) (n9 := 4) (fs := [.int (iI 0), .int (iI 0), .int (iI 0), .int (iI 0)]) (rc' := 8) (rs' := 56) rfl in_X13 tyX13 tyX13_ok q2026 q1230 q118 (by intro j hj; rcases (show j = 0 ∨ j = 1 ∨ j = 2 ∨ j = 3 by omega) with rfl | rfl | rfl | rfl <;> rfl) ⟨Nat.le_of_ble_eq_true rfl, Nat.le_of_ble_eq_true rfl⟩ dX15_action_234 (fun a234 ga234 hob234 => ?_)
    have hmn234 := Mo.new ga234 ga234 (.inl (.inr (11, [.int (iI 0), .int (iI 0), .int (iI 0), .int (iI 0)])))
    have hp234 := hp231.ext hmn234
    have hT234 := hT231.ext hmn234
    have hfr234 := hfr231.trm hmn234
    have hnp234 : p < a234 := Nat.lt_of_lt_of_le hp231.2 ga234
    have hfw234 := hfr231.1
    refine xr_dup dX15_action_237 (by first | rfl | exact cat_rf _) ?_
    refine xr_bipush dX15_action_238 (by decide) ?_
    refine xr_iconst dX15_action_240 ?_
    refine xr_aload_n dX15_action_241 rfl (by first | rfl | exact isRef_rf _) ?_
    refine xr_callV (n9 := 0) (rc' := 5) (rs' := 35) (k_Pa_sN hG hJ hp234 hT234 (by omega)) hp234 rfl q2015 q2017 qs34 q128 q2018 (by decide +kernel) rfl ⟨by decide, Nat.le_of_ble_eq_true rfl⟩ ⟨Nat.le_of_ble_eq_true rfl, Nat.le_of_ble_eq_true rfl⟩ (Nat.le_of_ble_eq_true rfl) dX15_action_242 rfl (fun r w242 hw => ?_) ?_
    rotate_left
    · skip
      rintro E q9 w9 ⟨rfl, e9, he9, hb9, hob9, hq9, hf9⟩
      exact xt_out (fun x hx => (htab x hx).elim) (by rw [hxp]; exact ⟨rfl, e9, by refine eA.trans ?_; simp only [he231, he9, pB], hb9, hob9, by have := hfr234.1; omega, hfr234.tq hf9⟩)
    obtain ⟨v242, o242, he242, rfl, hv242, hb242, hp242, hf242⟩ := hw
    show XJ _ _ _ _ _ _ _ _ _ _ _ _ (.int (iI v242) :: _)
    have hT242 := hT234.fr hf242 hnp.1 hnp.2
    have hfr242 := hfr234.tq hf242
    have hobn := hob234.fr hf242 (fun (q9 : a234 = p) => by omega)
    refine xr_callI (n9 := 3) (rc' := 5) (rs' := 35) (k_PlainAction_init hG hobn (by omega)) q2027 q1232 q118 q1233 rfl (by decide +kernel) rfl ⟨by decide, Nat.le_of_ble_eq_true rfl⟩ ⟨Nat.le_of_ble_eq_true rfl, Nat.le_of_ble_eq_true rfl⟩ (Nat.le_of_ble_eq_true rfl) dX15_action_245 rfl (fun r w245 hw => ?_) (fun _ _ _ h => h.elim)
    obtain ⟨rfl, hobF, hfF⟩ := hw
    have hpF := hp242.fr hfF (fun (q9 : p = a234) => by omega)
    have hfrF := hfr242.tr hfF (fun b9 hb9 (q9 : b9 = a234) => by have := ga234; omega)
    first | refine xr_areturn rfl rfl dX15_action_248 ?_ | refine xr_areturnN rfl rfl dX15_action_248 ?_
    rw [hpo]
    refine ⟨(112, v242, 0, 0), o242, a234, by refine eA.trans ?_; simp only [he231, he242, pB], rfl, hobF, ⟨Or.inr (Or.inr (Or.inr (Or.inr (Or.inr (Or.inr (Or.inr (Or.inr (Or.inr (rfl))))))))), ?_, ?_, ?_⟩, by have := ga234; omega, by omega, hpF, hfrF⟩ <;> (dsimp only; omega)
  by_cases s4_114 : curT T n o = 114
  · skip
    have eA : pAct T n o = pB (pWord T n (chs "renew") o) fun o1 => pB (pSD T n o1) fun a => pB (pSN T n a.2) fun v => .inr ((114, a.1, v.1, 0), v.2) := by
      unfold pAct
      repeat rw [if_neg (by assumption)]
      exact if_pos (by assumption)
    refine xr_tableIn (off := 176) (tgt := 180) dX15_action_4 (by omega) (by omega) (by rw [s4_114]; first | rfl | decide) (by decide) ?_
    refine xr_aload_n dX15_action_180 rfl (by first | rfl | exact isRef_rf _) ?_
    obtain ⟨tS181, bS181, hR181, hSO181⟩ := hS ("BenchBroker$Parser", 104, "renew") (by decide)
    refine xr_ldcS hR181 dX15_action_181 ?_
    have hT2 := (hSO181.ext hk9)
    refine xr_callV (n9 := 1) (rc' := 9) (rs' := 60) (k_Pa_word hG hJ hp hT ho hT2 (by decide +kernel) (by decide +kernel)) hp rfl q1978 q1980 qs30 q128 q1981 (by decide +kernel) rfl ⟨by decide, Nat.le_of_ble_eq_true rfl⟩ ⟨Nat.le_of_ble_eq_true rfl, Nat.le_of_ble_eq_true rfl⟩ (Nat.le_of_ble_eq_true rfl) dX15_action_183 rfl (fun r w183 hw => ?_) ?_
    rotate_left
    · skip
      rintro E q9 w9 ⟨rfl, e9, he9, hb9, hob9, hq9, hf9⟩
      exact xt_out (fun x hx => (htab x hx).elim) (by rw [hxp]; exact ⟨rfl, e9, by refine eA.trans ?_; simp only [he9, pB], hb9, hob9, hq9, hf9⟩)
    obtain ⟨rfl, o183, he183, hb183, hp183, hf183⟩ := hw
    have hT183 := hT.fr hf183 hnp.1 hnp.2
    have hfr183 := hf183
    have hb183 : o + 5 ≤ o183 ∧ o183 ≤ n := hb183
    refine xr_aload_n dX15_action_186 rfl (by first | rfl | exact isRef_rf _) ?_
    refine xr_callV (n9 := 0) (rc' := 7) (rs' := 46) (k_Pa_sD hG hJ hp183 hT183 (by omega)) hp183 rfl q2005 q2007 qs32 q128 q2008 (by decide +kernel) rfl ⟨by decide, Nat.le_of_ble_eq_true rfl⟩ ⟨Nat.le_of_ble_eq_true rfl, Nat.le_of_ble_eq_true rfl⟩ (Nat.le_of_ble_eq_true rfl) dX15_action_187 rfl (fun r w187 hw => ?_) ?_
    rotate_left
    · skip
      rintro E q9 w9 ⟨rfl, e9, he9, hb9, hob9, hq9, hf9⟩
      exact xt_out (fun x hx => (htab x hx).elim) (by rw [hxp]; exact ⟨rfl, e9, by refine eA.trans ?_; simp only [he183, he9, pB], hb9, hob9, by have := hfr183.1; omega, hfr183.tq hf9⟩)
    obtain ⟨v187, o187, he187, rfl, hv187, hb187, hp187, hf187⟩ := hw
    show XJ _ _ _ _ _ _ _ _ _ _ _ _ [.int (iI v187)]
    have hT187 := hT183.fr hf187 hnp.1 hnp.2
    have hfr187 := hfr183.tq hf187
    refine xr_istore_n (lv' := [some _, some _]) dX15_action_190 (by decide) rfl rfl ?_
    refine xr_new (ci := 10) (T := TX14) (N := 4) (n9 := 4) (fs := [.int (iI 0), .int (iI 0), .int (iI 0), .int (iI 0)]) (rc' := 6) (rs' := 42) rfl in_X14 tyX14 tyX14_ok q2034 q1416 q125 (by intro j hj; rcases (show j = 0 ∨ j = 1 ∨ j = 2 ∨ j = 3 by omega) with rfl | rfl | rfl | rfl <;> rfl) ⟨Nat.le_of_ble_eq_true rfl, Nat.le_of_ble_eq_true rfl⟩ dX15_action_191 (fun a191 ga191 hob191 => ?_)
    have hmn191 := Mo.new ga191 ga191 (.inl (.inr (10, [.int (iI 0), .int (iI 0), .int (iI 0), .int (iI 0)])))
    have hp191 := hp187.ext hmn191
    have hT191 := hT187.ext hmn191
    have hfr191 := hfr187.trm hmn191
    have hnp191 : p < a191 := Nat.lt_of_lt_of_le hp187.2 ga191
    have hfw191 := hfr187.1
    refine xr_dup dX15_action_194 (by first | rfl | exact cat_rf _) ?_
    refine xr_bipush dX15_action_195 (by decide) ?_
    refine xr_iconst dX15_action_197 ?_
    refine xr_iload_n dX15_action_198 rfl ?_
    refine xr_aload_n dX15_action_199 rfl (by first | rfl | exact isRef_rf _) ?_
    refine xr_callV (n9 := 0) (rc' := 3) (rs' := 21) (k_Pa_sN hG hJ hp191 hT191 (by omega)) hp191 rfl q2015 q2017 qs34 q128 q2018 (by decide +kernel) rfl ⟨by decide, Nat.le_of_ble_eq_true rfl⟩ ⟨Nat.le_of_ble_eq_true rfl, Nat.le_of_ble_eq_true rfl⟩ (Nat.le_of_ble_eq_true rfl) dX15_action_200 rfl (fun r w200 hw => ?_) ?_
    rotate_left
    · skip
      rintro E q9 w9 ⟨rfl, e9, he9, hb9, hob9, hq9, hf9⟩
      exact xt_out (fun x hx => (htab x hx).elim) (by rw [hxp]; exact ⟨rfl, e9, by refine eA.trans ?_; simp only [he183, he187, he9, pB], hb9, hob9, by have := hfr191.1; omega, hfr191.tq hf9⟩)
    obtain ⟨v200, o200, he200, rfl, hv200, hb200, hp200, hf200⟩ := hw
    show XJ _ _ _ _ _ _ _ _ _ _ _ _ (.int (iI v200) :: _)
    have hT200 := hT191.fr hf200 hnp.1 hnp.2
    have hfr200 := hfr191.tq hf200
    have hobn := hob191.fr hf200 (fun (q9 : a191 = p) => by omega)
    refine xr_callI (n9 := 4) (rc' := 3) (rs' := 21) (k_LeaseAction_init hG hobn (by omega)) q2035 q1418 q125 q1419 rfl (by decide +kernel) rfl ⟨by decide, Nat.le_of_ble_eq_true rfl⟩ ⟨Nat.le_of_ble_eq_true rfl, Nat.le_of_ble_eq_true rfl⟩ (Nat.le_of_ble_eq_true rfl) dX15_action_203 rfl (fun r w203 hw => ?_) (fun _ _ _ h => h.elim)
    obtain ⟨rfl, hobF, hfF⟩ := hw
    have hpF := hp200.fr hfF (fun (q9 : p = a191) => by omega)
    have hfrF := hfr200.tr hfF (fun b9 hb9 (q9 : b9 = a191) => by have := ga191; omega)
    first | refine xr_areturn rfl rfl dX15_action_206 ?_ | refine xr_areturnN rfl rfl dX15_action_206 ?_
    rw [hpo]
    refine ⟨(114, v187, v200, 0), o200, a191, by refine eA.trans ?_; simp only [he183, he187, he200, pB], rfl, hobF, ⟨Or.inr (Or.inr (Or.inr (Or.inr (Or.inl rfl)))), ?_, ?_, ?_⟩, by have := ga191; omega, by omega, hpF, hfrF⟩ <;> (dsimp only; omega)
  by_cases s4_115 : curT T n o = 115
  · skip
    have eA : pAct T n o = pB (pWord T n (chs "switch") o) fun o1 => pB (pSD T n o1) fun a => .inr ((115, a.1, 0, 0), a.2) := by
      unfold pAct
      repeat rw [if_neg (by assumption)]
      exact if_pos (by assumption)
    refine xr_tableIn (off := 203) (tgt := 207) dX15_action_4 (by omega) (by omega) (by rw [s4_115]; first | rfl | decide) (by decide) ?_
    refine xr_aload_n dX15_action_207 rfl (by first | rfl | exact isRef_rf _) ?_
    obtain ⟨tS208, bS208, hR208, hSO208⟩ := hS ("BenchBroker$Parser", 106, "switch") (by decide)
    refine xr_ldcS hR208 dX15_action_208 ?_
    have hT2 := (hSO208.ext hk9)
    refine xr_callV (n9 := 1) (rc' := 9) (rs' := 60) (k_Pa_word hG hJ hp hT ho hT2 (by decide +kernel) (by decide +kernel)) hp rfl q1978 q1980 qs30 q128 q1981 (by decide +kernel) rfl ⟨by decide, Nat.le_of_ble_eq_true rfl⟩ ⟨Nat.le_of_ble_eq_true rfl, Nat.le_of_ble_eq_true rfl⟩ (Nat.le_of_ble_eq_true rfl) dX15_action_210 rfl (fun r w210 hw => ?_) ?_
    rotate_left
    · skip
      rintro E q9 w9 ⟨rfl, e9, he9, hb9, hob9, hq9, hf9⟩
      exact xt_out (fun x hx => (htab x hx).elim) (by rw [hxp]; exact ⟨rfl, e9, by refine eA.trans ?_; simp only [he9, pB], hb9, hob9, hq9, hf9⟩)
    obtain ⟨rfl, o210, he210, hb210, hp210, hf210⟩ := hw
    have hT210 := hT.fr hf210 hnp.1 hnp.2
    have hfr210 := hf210
    have hb210 : o + 6 ≤ o210 ∧ o210 ≤ n := hb210
    refine xr_new (ci := 11) (T := TX13) (N := 4) (n9 := 4) (fs := [.int (iI 0), .int (iI 0), .int (iI 0), .int (iI 0)]) (rc' := 8) (rs' := 56) rfl in_X13 tyX13 tyX13_ok q2026 q1230 q118 (by intro j hj; rcases (show j = 0 ∨ j = 1 ∨ j = 2 ∨ j = 3 by omega) with rfl | rfl | rfl | rfl <;> rfl) ⟨Nat.le_of_ble_eq_true rfl, Nat.le_of_ble_eq_true rfl⟩ dX15_action_213 (fun a213 ga213 hob213 => ?_)
    have hmn213 := Mo.new ga213 ga213 (.inl (.inr (11, [.int (iI 0), .int (iI 0), .int (iI 0), .int (iI 0)])))
    have hp213 := hp210.ext hmn213
    have hT213 := hT210.ext hmn213
    have hfr213 := hfr210.trm hmn213
    have hnp213 : p < a213 := Nat.lt_of_lt_of_le hp210.2 ga213
    have hfw213 := hfr210.1
    refine xr_dup dX15_action_216 (by first | rfl | exact cat_rf _) ?_
    refine xr_bipush dX15_action_217 (by decide) ?_
    refine xr_aload_n dX15_action_219 rfl (by first | rfl | exact isRef_rf _) ?_
    refine xr_callV (n9 := 0) (rc' := 6) (rs' := 42) (k_Pa_sD hG hJ hp213 hT213 (by omega)) hp213 rfl q2005 q2007 qs32 q128 q2008 (by decide +kernel) rfl ⟨by decide, Nat.le_of_ble_eq_true rfl⟩ ⟨Nat.le_of_ble_eq_true rfl, Nat.le_of_ble_eq_true rfl⟩ (Nat.le_of_ble_eq_true rfl) dX15_action_220 rfl (fun r w220 hw => ?_) ?_
    rotate_left
    · skip
      rintro E q9 w9 ⟨rfl, e9, he9, hb9, hob9, hq9, hf9⟩
      exact xt_out (fun x hx => (htab x hx).elim) (by rw [hxp]; exact ⟨rfl, e9, by refine eA.trans ?_; simp only [he210, he9, pB], hb9, hob9, by have := hfr213.1; omega, hfr213.tq hf9⟩)
    obtain ⟨v220, o220, he220, rfl, hv220, hb220, hp220, hf220⟩ := hw
    show XJ _ _ _ _ _ _ _ _ _ _ _ _ (.int (iI v220) :: _)
    have hT220 := hT213.fr hf220 hnp.1 hnp.2
    have hfr220 := hfr213.tq hf220
    have hobn := hob213.fr hf220 (fun (q9 : a213 = p) => by omega)
    refine xr_iconst dX15_action_223 ?_
    refine xr_callI (n9 := 3) (rc' := 6) (rs' := 42) (k_PlainAction_init hG hobn (by omega)) q2027 q1232 q118 q1233 rfl (by decide +kernel) rfl ⟨by decide, Nat.le_of_ble_eq_true rfl⟩ ⟨Nat.le_of_ble_eq_true rfl, Nat.le_of_ble_eq_true rfl⟩ (Nat.le_of_ble_eq_true rfl) dX15_action_224 rfl (fun r w224 hw => ?_) (fun _ _ _ h => h.elim)
    obtain ⟨rfl, hobF, hfF⟩ := hw
    have hpF := hp220.fr hfF (fun (q9 : p = a213) => by omega)
    have hfrF := hfr220.tr hfF (fun b9 hb9 (q9 : b9 = a213) => by have := ga213; omega)
    first | refine xr_areturn rfl rfl dX15_action_227 ?_ | refine xr_areturnN rfl rfl dX15_action_227 ?_
    rw [hpo]
    refine ⟨(115, v220, 0, 0), o220, a213, by refine eA.trans ?_; simp only [he210, he220, pB], rfl, hobF, ⟨Or.inr (Or.inr (Or.inr (Or.inr (Or.inr (Or.inr (Or.inr (Or.inl rfl))))))), ?_, ?_, ?_⟩, by have := ga213; omega, by omega, hpF, hfrF⟩ <;> (dsimp only; omega)
  by_cases s4_116 : curT T n o = 116
  · skip
    have eA : pAct T n o = pB (pWord T n (chs "tenant") o) fun o1 => pB (pSN T n o1) fun v => .inr ((116, v.1, 0, 0), v.2) := by
      unfold pAct
      repeat rw [if_neg (by assumption)]
      exact if_pos (by assumption)
    refine xr_tableIn (off := 101) (tgt := 105) dX15_action_4 (by omega) (by omega) (by rw [s4_116]; first | rfl | decide) (by decide) ?_
    refine xr_aload_n dX15_action_105 rfl (by first | rfl | exact isRef_rf _) ?_
    obtain ⟨tS106, bS106, hR106, hSO106⟩ := hS ("BenchBroker$Parser", 94, "tenant") (by decide)
    refine xr_ldcS hR106 dX15_action_106 ?_
    have hT2 := (hSO106.ext hk9)
    refine xr_callV (n9 := 1) (rc' := 9) (rs' := 60) (k_Pa_word hG hJ hp hT ho hT2 (by decide +kernel) (by decide +kernel)) hp rfl q1978 q1980 qs30 q128 q1981 (by decide +kernel) rfl ⟨by decide, Nat.le_of_ble_eq_true rfl⟩ ⟨Nat.le_of_ble_eq_true rfl, Nat.le_of_ble_eq_true rfl⟩ (Nat.le_of_ble_eq_true rfl) dX15_action_108 rfl (fun r w108 hw => ?_) ?_
    rotate_left
    · skip
      rintro E q9 w9 ⟨rfl, e9, he9, hb9, hob9, hq9, hf9⟩
      exact xt_out (fun x hx => (htab x hx).elim) (by rw [hxp]; exact ⟨rfl, e9, by refine eA.trans ?_; simp only [he9, pB], hb9, hob9, hq9, hf9⟩)
    obtain ⟨rfl, o108, he108, hb108, hp108, hf108⟩ := hw
    have hT108 := hT.fr hf108 hnp.1 hnp.2
    have hfr108 := hf108
    have hb108 : o + 6 ≤ o108 ∧ o108 ≤ n := hb108
    refine xr_new (ci := 9) (T := TX6) (N := 4) (n9 := 4) (fs := [.int (iI 0), .int (iI 0), .int (iI 0), .int (iI 0)]) (rc' := 8) (rs' := 56) rfl in_X6 tyX6 tyX6_ok q2014 q979 q104 (by intro j hj; rcases (show j = 0 ∨ j = 1 ∨ j = 2 ∨ j = 3 by omega) with rfl | rfl | rfl | rfl <;> rfl) ⟨Nat.le_of_ble_eq_true rfl, Nat.le_of_ble_eq_true rfl⟩ dX15_action_111 (fun a111 ga111 hob111 => ?_)
    have hmn111 := Mo.new ga111 ga111 (.inl (.inr (9, [.int (iI 0), .int (iI 0), .int (iI 0), .int (iI 0)])))
    have hp111 := hp108.ext hmn111
    have hT111 := hT108.ext hmn111
    have hfr111 := hfr108.trm hmn111
    have hnp111 : p < a111 := Nat.lt_of_lt_of_le hp108.2 ga111
    have hfw111 := hfr108.1
    refine xr_dup dX15_action_114 (by first | rfl | exact cat_rf _) ?_
    refine xr_bipush dX15_action_115 (by decide) ?_
    refine xr_iconst dX15_action_117 ?_
    refine xr_iconst dX15_action_118 ?_
    refine xr_aload_n dX15_action_119 rfl (by first | rfl | exact isRef_rf _) ?_
    refine xr_callV (n9 := 0) (rc' := 5) (rs' := 35) (k_Pa_sN hG hJ hp111 hT111 (by omega)) hp111 rfl q2015 q2017 qs34 q128 q2018 (by decide +kernel) rfl ⟨by decide, Nat.le_of_ble_eq_true rfl⟩ ⟨Nat.le_of_ble_eq_true rfl, Nat.le_of_ble_eq_true rfl⟩ (Nat.le_of_ble_eq_true rfl) dX15_action_120 rfl (fun r w120 hw => ?_) ?_
    rotate_left
    · skip
      rintro E q9 w9 ⟨rfl, e9, he9, hb9, hob9, hq9, hf9⟩
      exact xt_out (fun x hx => (htab x hx).elim) (by rw [hxp]; exact ⟨rfl, e9, by refine eA.trans ?_; simp only [he108, he9, pB], hb9, hob9, by have := hfr111.1; omega, hfr111.tq hf9⟩)
    obtain ⟨v120, o120, he120, rfl, hv120, hb120, hp120, hf120⟩ := hw
    show XJ _ _ _ _ _ _ _ _ _ _ _ _ (.int (iI v120) :: _)
    have hT120 := hT111.fr hf120 hnp.1 hnp.2
    have hfr120 := hfr111.tq hf120
    have hobn := hob111.fr hf120 (fun (q9 : a111 = p) => by omega)
    refine xr_callI (n9 := 4) (rc' := 5) (rs' := 35) (k_Addition_init hG hobn (by omega)) q2023 q981 q104 q982 rfl (by decide +kernel) rfl ⟨by decide, Nat.le_of_ble_eq_true rfl⟩ ⟨Nat.le_of_ble_eq_true rfl, Nat.le_of_ble_eq_true rfl⟩ (Nat.le_of_ble_eq_true rfl) dX15_action_123 rfl (fun r w123 hw => ?_) (fun _ _ _ h => h.elim)
    obtain ⟨rfl, hobF, hfF⟩ := hw
    have hpF := hp120.fr hfF (fun (q9 : p = a111) => by omega)
    have hfrF := hfr120.tr hfF (fun b9 hb9 (q9 : b9 = a111) => by have := ga111; omega)
    first | refine xr_areturn rfl rfl dX15_action_126 ?_ | refine xr_areturnN rfl rfl dX15_action_126 ?_
    rw [hpo]
    refine ⟨(116, v120, 0, 0), o120, a111, by refine eA.trans ?_; simp only [he108, he120, pB], rfl, hobF, ⟨Or.inr (Or.inr (Or.inl rfl)), ?_, ?_, ?_⟩, by have := ga111; omega, by omega, hpF, hfrF⟩ <;> (dsimp only; omega)
  have eA : pAct T n o = .inl o := by
    unfold pAct
    repeat rw [if_neg (by assumption)]
  have hd4 : (curT T n o < 98 ∨ 116 < curT T n o) ∨ (curT T n o = 99 ∨ curT T n o = 100 ∨ curT T n o = 104 ∨ curT T n o = 105 ∨ curT T n o = 106 ∨ curT T n o = 107 ∨ curT T n o = 109 ∨ curT T n o = 110 ∨ curT T n o = 111 ∨ curT T n o = 113) := by omega
  refine xr_tableD (tgt := 249) dX15_action_4 (by omega) (by rcases hd4 with h8 | h8; exact Or.inl h8; refine Or.inr ⟨by omega, by omega, ?_⟩; rcases h8 with h8 | h8 | h8 | h8 | h8 | h8 | h8 | h8 | h8 | h8 <;> (rw [h8]; rfl)) (by decide) ?_
  refine xr_newZ (rc' := 17) (rs' := 116) q1986 q1987 q130 ⟨Nat.le_of_ble_eq_true rfl, Nat.le_of_ble_eq_true rfl⟩ dX15_action_249 (fun a249 e249 ga249 ba249 hz249 => ?_)
  have hp249 := hp.ext (Mo.new (n := w.2) ga249 ga249 e249)
  refine xr_dup dX15_action_252 (by first | rfl | exact cat_rf _) ?_
  refine xr_aload_n dX15_action_253 rfl (by first | rfl | exact isRef_rf _) ?_
  refine xr_getfield (ci := 12) (T := TX15) (N := 3) (i := 2) hp249 rfl (by decide) in_X15 q1898 (.inl rfl) dX15_action_254 (by rfl) ?_
  refine xr_callI (n9 := 1) (rc' := 17) (rs' := 116) (k_SE_init hG hz249 ba249) q1995 q1996 q130 q1997 rfl (by decide +kernel) rfl ⟨by decide, Nat.le_of_ble_eq_true rfl⟩ ⟨Nat.le_of_ble_eq_true rfl, Nat.le_of_ble_eq_true rfl⟩ (Nat.le_of_ble_eq_true rfl) dX15_action_257 rfl (fun r w257 hw => ?_) (fun _ _ _ h => h.elim)
  obtain ⟨rfl, hr9, hf9⟩ := hw
  refine xr_athrow hr9 rfl dX15_action_260 ?_
  exact xt_out (fun x hx => (htab x hx).elim) (by rw [hxp]; exact ⟨rfl, o, eA, ho, hr9, ga249, (Fr.new (S := (fun x => x = p)) ga249 e249).tr hf9 (fun b9 hb9 (q9 : b9 = a249) => by omega)⟩)
theorem k_Pa_parse {g : GG} {w : WW} {p t b al n : Nat} {T : Int → Int} {arr : Nat} {f : Int → Option Nat} (hG : Base g) (hL : KL g) (hJ : KJ g) (hS : KS g) (hp : Ob w p 12 [.ref t, .ref al, .int (iI 0)]) (hT : SO g w t b n T) (hA : AL g w al arr 0 f) (hn60 : n ≤ 60) (hpal : p ≠ al) : Ct g yX15_parse (.code yX15_parse cX15_parse 1 (some ((.object "java/util/ArrayList")))) 10 211 239 1673 w [.ref p] (fun r_ w1 => ∃ (cs : List Cm) (arr' : Nat) (f' : Int → Option Nat), pAll T n = .inr cs ∧ r_ = some (.ref al) ∧ AL g w1 al arr' cs.length f' ∧ (∀ (i : Nat) (c : Cm), cs[i]? = some c → ∃ x : Nat, f' i = some x ∧ CmO w1 x c ∧ cmS c) ∧ cs.length ≤ 10 ∧ (arr' = arr ∨ w.2 ≤ arr') ∧ Fr (fun b => b = p ∨ b = al ∨ (b = arr ∧ gb g ≤ b)) w w1) (fun E a9 w1 => E = "BenchBroker$SyntaxError" ∧ ∃ e : Int, pAll T n = .inl e ∧ (0 ≤ e ∧ e ≤ n) ∧ Ob w1 a9 7 [.int (iI e)] ∧ w.2 ≤ a9 ∧ Fr (fun b => b = p ∨ b = al ∨ (b = arr ∧ gb g ≤ b)) w w1) := by
  refine Ct.of (lv := [some _]) hG (by decide +kernel) (Nat.le_of_ble_eq_true rfl) rfl ?_
  intro z hg hpo hxp hnm htab
  subst hg
  have hnp := hT.np hp
  have hAl0 := hA.lt
  obtain ⟨mm0, hal0⟩ := hA.ob
  have hparr : p ≠ arr := by
    obtain ⟨mq, cq, xq, g1, g2, -⟩ := hA
    exact Ne.symm (g2.ob_ne hp)
  have hnal : t ≠ al ∧ b ≠ al := by
    obtain ⟨v1, v2, g1, g2, -⟩ := hT
    exact ⟨g1.apart hal0 (by decide), g2.ob_ne hal0⟩
  have hnarr : t ≠ arr ∧ b ≠ arr := by
    obtain ⟨v1, v2, g1, g2, -⟩ := hT
    obtain ⟨mq, cq, xq, -, g4, -⟩ := hA
    exact ⟨Ne.symm (g4.ob_ne g1), g2.ra_ne g4⟩
  have hfr0 : Fr (fun b => b = p ∨ b = al ∨ (b = arr ∧ gb (zg z) ≤ b)) w w := Fr.rf
  refine xr_aload_n dX15_parse_0 rfl (by first | rfl | exact isRef_rf _) ?_
  refine xr_getfield (ci := 12) (T := TX15) (N := 3) (i := 1) hp rfl (by decide) in_X15 q1897 (.inl rfl) dX15_parse_1 (by rfl) ?_
  refine xr_aload_n dX15_parse_4 rfl (by first | rfl | exact isRef_rf _) ?_
  refine xr_callV (n9 := 0) (rc' := 221) (rs' := 1550) (k_Pa_action hG hJ hS hp hT (by omega)) hp rfl q1962 q1964 qs27 q128 q1965 (by decide +kernel) rfl ⟨by decide, Nat.le_of_ble_eq_true rfl⟩ ⟨Nat.le_of_ble_eq_true rfl, Nat.le_of_ble_eq_true rfl⟩ (Nat.le_of_ble_eq_true rfl) dX15_parse_5 rfl (fun r w5 hw => ?_) ?_
  rotate_left
  · skip
    rintro E q9 w8 ⟨rfl, e9, he9, hb9, hob9, hq9, hf9⟩
    exact xt_out (fun x hx => (htab x hx).elim) (by rw [hxp]; exact ⟨rfl, e9, by unfold pAll; rw [he9]; rfl, hb9, hob9, by have := hfr0.1; omega, hfr0.tr hf9 (fun b9 _ (q9 : b9 = p) => Or.inl q9)⟩)
  obtain ⟨cm, o5, x5, he5, rfl, hx5, hs5, hw5, hb5, hp5, hf5⟩ := hw
  show XJ _ _ _ _ _ _ _ _ _ _ _ _ [.ref x5, .ref al]
  obtain ⟨qc, hqc, hqo, hqa, hc8, hc12⟩ := cm_cls cm
  have hA5 := hA.fr hf5 (fun (q9 : al = p) => hpal q9.symm) (fun (q9 : arr = p) => hparr q9.symm)
  have hT5 := hT.fr hf5 hnp.1 hnp.2
  have hf51 := hf5.1
  obtain ⟨mm5, hal5⟩ := hA5.ob
  refine xr_callV (n9 := 1) (rc' := 220) (rs' := 1540) (k_AL_add hG hL hA5 (by omega) hx5 hqc hqo (by omega)) hal5 rfl q2040 q768 q769 q91 q770 (by decide +kernel) rfl ⟨by decide, Nat.le_of_ble_eq_true rfl⟩ ⟨Nat.le_of_ble_eq_true rfl, Nat.le_of_ble_eq_true rfl⟩ (Nat.le_of_ble_eq_true rfl) dX15_parse_8 rfl (fun r w8 hw => ?_) (fun _ _ _ h => h.elim)
  obtain ⟨rfl, arr2, hA8, hf8, har8⟩ := hw
  have hpa : p < w.2 := hp.2
  have hp8 := hp5.fr hf8 (fun q9 => by rcases q9 with q9 | ⟨q9, -⟩; exact hpal q9; exact hparr q9)
  have hx8 : Ob w8 x5 (cmF cm).1 (cmF cm).2 := Ob.fr hx5 hf8 (fun q9 => by rcases q9 with q9 | ⟨q9, -⟩ <;> omega)
  have hT8 := hT5.fr hf8 (fun q9 => by rcases q9 with q9 | ⟨q9, -⟩; exact hnal.1 q9; exact hnarr.1 q9) (fun q9 => by rcases q9 with q9 | ⟨q9, -⟩; exact hnal.2 q9; exact hnarr.2 q9)
  have hfr8 : Fr (fun b => b = p ∨ b = al ∨ (b = arr ∧ gb (zg z) ≤ b)) w w8 := (hf5.to (S' := (fun b => b = p ∨ b = al ∨ (b = arr ∧ gb (zg z) ≤ b))) (fun b9 _ (q9 : b9 = p) => Or.inl q9)).tr hf8 (fun b9 _ q9 => Or.inr q9)
  have hfw8 := hfr8.1
  have hal8 : arr2 = arr ∨ w.2 ≤ arr2 := by omega
  refine xr_pop dX15_parse_11 (by first | rfl | exact cat_rf _) ?_
  have lp12 : ∀ (fu12 : Nat) (w9 : WW) (o9 : Int) (cs : List Cm) (arr9 : Nat) (f9 : Int → Option Nat), cs.length + fu12 = 12 → (6 * (cs.length : Int) ≤ o9 + 1 ∧ o9 ≤ n) → 1 ≤ cs.length → Ob w9 p 12 [.ref t, .ref al, .int (iI o9)] → SO (zg z) w9 t b n T → AL (zg z) w9 al arr9 cs.length f9 → (∀ (i : Nat) (c : Cm), cs[i]? = some c → ∃ x : Nat, f9 i = some x ∧ CmO w9 x c ∧ cmS c) → (arr9 = arr ∨ w.2 ≤ arr9) → Fr (fun b => b = p ∨ b = al ∨ (b = arr ∧ gb (zg z) ≤ b)) w w9 → pRest T n fu12 o9 cs = pAll T n → XJ z yX15_parse.cls cX15_parse 1 (some ((.object "java/util/ArrayList"))) 10 211 w9 (20 * fu12 + 0) (140 * fu12 + 0) 12 [some (.ref p)] [] := by
    intro fu12
    induction fu12 with
    | zero =>
      intro w9 o9 cs arr9 f9 hcl ho9 hc1 hp9 hT9 hA9 hcs9 har9 hfr9 hr9
      omega
    | succ fu12 ih12 =>
      intro w9 o9 cs arr9 f9 hcl ho9 hc1 hp9 hT9 hA9 hcs9 har9 hfr9 hr9
      have hp9arr : p ≠ arr9 := by
        obtain ⟨mq, cq, xq, g1, g2, -⟩ := hA9
        exact Ne.symm (g2.ob_ne hp9)
      have hn9arr : t ≠ arr9 ∧ b ≠ arr9 := by
        obtain ⟨v1, v2, g1, g2, -⟩ := hT9
        obtain ⟨mq, cq, xq, -, g4, -⟩ := hA9
        exact ⟨Ne.symm (g4.ob_ne g1), g2.ra_ne g4⟩
      have hfw9 := hfr9.1
      refine xr_aload_n dX15_parse_12 rfl (by first | rfl | exact isRef_rf _) ?_
      refine xr_getfield (ci := 12) (T := TX15) (N := 3) (i := 2) hp9 rfl (by decide) in_X15 q1898 (.inl rfl) dX15_parse_13 (by rfl) ?_
      refine xr_aload_n dX15_parse_16 rfl (by first | rfl | exact isRef_rf _) ?_
      refine xr_getfield (ci := 12) (T := TX15) (N := 3) (i := 0) hp9 rfl (by decide) in_X15 q1896 (.inl rfl) dX15_parse_17 (by rfl) ?_
      refine xr_callV (n9 := 0) (rc' := 20 * fu12 + 20) (rs' := 140 * fu12 + 140) (k_S_length hG hJ hT9) (hT9.ob.choose_spec) rfl q1970 q1770 q1771 q94 q1772 (by decide +kernel) rfl ⟨by decide, Nat.le_of_ble_eq_true rfl⟩ ⟨by omega, by omega⟩ (Nat.le_of_ble_eq_true rfl) dX15_parse_20 rfl (xk_r ?_) (fun _ _ _ h => h.elim)
      refine xr_icmp_ge (tgt := 47) dX15_parse_23 (by decide) (by omega) (fun c23 => ?_) (fun c23 => ?_)
      · skip
        refine xr_aload_n dX15_parse_47 rfl (by first | rfl | exact isRef_rf _) ?_
        refine xr_getfield (ci := 12) (T := TX15) (N := 3) (i := 1) hp9 rfl (by decide) in_X15 q1897 (.inl rfl) dX15_parse_48 (by rfl) ?_
        first | refine xr_areturn rfl rfl dX15_parse_51 ?_ | refine xr_areturnN rfl rfl dX15_parse_51 ?_
        rw [hpo]
        rw [pRest, if_neg (by omega)] at hr9
        exact ⟨cs, arr9, f9, hr9.symm, rfl, hA9, hcs9, by omega, har9, hfr9⟩
      · skip
        have hon : o9 < n := by omega
        refine xr_aload_n dX15_parse_26 rfl (by first | rfl | exact isRef_rf _) ?_
        refine xr_bipush dX15_parse_27 (by decide) ?_
        refine xr_callV (n9 := 1) (rc' := 20 * fu12 + 19) (rs' := 140 * fu12 + 133) (k_Pa_expect hG hJ hp9 hT9 (by omega) (by omega)) hp9 rfl q1982 q1984 qs31 q128 q1985 (by decide +kernel) rfl ⟨by decide, Nat.le_of_ble_eq_true rfl⟩ ⟨by omega, by omega⟩ (Nat.le_of_ble_eq_true rfl) dX15_parse_29 rfl (fun r w29 hw => ?_) ?_
        rotate_left
        · skip
          rintro E q9 w8 ⟨rfl, e9, he9, hb9, hob9, hq9, hf9⟩
          exact xt_out (fun x hx => (htab x hx).elim) (by rw [hxp]; exact ⟨rfl, e9, by rw [← hr9, pRest, if_pos hon, he9]; rfl, hb9, hob9, by have := hfr9.1; omega, hfr9.tr hf9 (fun b9 _ (q9 : b9 = p) => Or.inl q9)⟩)
        obtain ⟨rfl, o29, he29, hb29, hp29, hf29⟩ := hw
        have hT29 := hT9.fr hf29 hnp.1 hnp.2
        have hA29 := hA9.fr hf29 (fun (q9 : al = p) => hpal q9.symm) (fun (q9 : arr9 = p) => hp9arr q9.symm)
        have hfr29 := hfr9.tr hf29 (fun b9 _ (q9 : b9 = p) => Or.inl q9)
        have hf291 := hf29.1
        refine xr_aload_n dX15_parse_32 rfl (by first | rfl | exact isRef_rf _) ?_
        refine xr_getfield (ci := 12) (T := TX15) (N := 3) (i := 1) hp29 rfl (by decide) in_X15 q1897 (.inl rfl) dX15_parse_33 (by rfl) ?_
        refine xr_aload_n dX15_parse_36 rfl (by first | rfl | exact isRef_rf _) ?_
        refine xr_callV (n9 := 0) (rc' := 20 * fu12 + 1) (rs' := 140 * fu12 + 10) (k_Pa_action hG hJ hS hp29 hT29 (by omega)) hp29 rfl q1962 q1964 qs27 q128 q1965 (by decide +kernel) rfl ⟨by decide, Nat.le_of_ble_eq_true rfl⟩ ⟨by omega, by omega⟩ (Nat.le_of_ble_eq_true rfl) dX15_parse_37 rfl (fun r w37 hw => ?_) ?_
        rotate_left
        · skip
          rintro E q9 w8 ⟨rfl, e9, he9, hb9, hob9, hq9, hf9⟩
          exact xt_out (fun x hx => (htab x hx).elim) (by rw [hxp]; exact ⟨rfl, e9, by rw [← hr9, pRest, if_pos hon, he29]; show pB (pAct T n o29) _ = _; rw [he9]; rfl, hb9, hob9, by have := hfr29.1; omega, hfr29.tr hf9 (fun b9 _ (q9 : b9 = p) => Or.inl q9)⟩)
        obtain ⟨cm, o37, x37, he37, rfl, hx37, hs37, hw37, hb37, hp37, hf37⟩ := hw
        show XJ _ _ _ _ _ _ _ _ _ _ _ _ [.ref x37, .ref al]
        obtain ⟨qc, hqc, hqo, hqa, hc8, hc12⟩ := cm_cls cm
        have hA37 := hA29.fr hf37 (fun (q9 : al = p) => hpal q9.symm) (fun (q9 : arr9 = p) => hp9arr q9.symm)
        have hT37 := hT29.fr hf37 hnp.1 hnp.2
        have hf371 := hf37.1
        obtain ⟨mm37, hal37⟩ := hA37.ob
        refine xr_callV (n9 := 1) (rc' := 20 * fu12 + 0) (rs' := 140 * fu12 + 0) (k_AL_add hG hL hA37 (by omega) hx37 hqc hqo (by omega)) hal37 rfl q2040 q768 q769 q91 q770 (by decide +kernel) rfl ⟨by decide, Nat.le_of_ble_eq_true rfl⟩ ⟨by omega, by omega⟩ (Nat.le_of_ble_eq_true rfl) dX15_parse_40 rfl (fun r w40 hw => ?_) (fun _ _ _ h => h.elim)
        obtain ⟨rfl, arr2, hA40, hf40, har40⟩ := hw
        have hAl := hA37.lt
        have hp40 := hp37.fr hf40 (fun q9 => by rcases q9 with q9 | ⟨q9, -⟩; exact hpal q9; exact hp9arr q9)
        have hx40 : Ob w40 x37 (cmF cm).1 (cmF cm).2 := Ob.fr hx37 hf40 (fun q9 => by have := hA29.lt; rcases q9 with q9 | ⟨q9, -⟩ <;> omega)
        have hT40 := hT37.fr hf40 (fun q9 => by rcases q9 with q9 | ⟨q9, -⟩; exact hnal.1 q9; exact hn9arr.1 q9) (fun q9 => by rcases q9 with q9 | ⟨q9, -⟩; exact hnal.2 q9; exact hn9arr.2 q9)
        have hfr40 : Fr (fun b => b = p ∨ b = al ∨ (b = arr ∧ gb (zg z) ≤ b)) w w40 := (hfr29.tr hf37 (fun b9 _ (q9 : b9 = p) => Or.inl q9)).tr hf40 (fun b9 hb9 q9 => by
          rcases q9 with q9 | ⟨q9, q8⟩
          · exact Or.inr (Or.inl q9)
          · rcases har9 with h9 | h9
            · exact Or.inr (Or.inr ⟨q9.trans h9, q8⟩)
            · omega)
        have hal40 : arr2 = arr ∨ w.2 ≤ arr2 := by have := hfr29.1; omega
        have hc40 : ∀ (i : Nat) (c : Cm), (cs ++ [cm])[i]? = some c → ∃ x : Nat, updR f9 cs.length (some x37) i = some x ∧ CmO w40 x c ∧ cmS c := by
          intro i c hi
          rw [List.getElem?_append] at hi
          by_cases h1 : i < cs.length
          · rw [if_pos h1] at hi
            obtain ⟨x, q1, q2, q3⟩ := hcs9 i c hi
            have hq2 : Ob w9 x (cmF c).1 (cmF c).2 := q2
            obtain ⟨qc2, -, -, -, hd8, hd12⟩ := cm_cls c
            have hxp9 : x ≠ p := hq2.apart hp9 (by omega)
            have hxl : x ≠ al ∧ x ≠ arr9 := by
              obtain ⟨mq, cq, xq, g1, g2, -⟩ := hA9
              exact ⟨hq2.apart g1 (by omega), Ne.symm (g2.ob_ne hq2)⟩
            refine ⟨x, by unfold updR; rw [if_neg (by omega)]; exact q1, ?_, q3⟩
            exact ((hq2.fr hf29 hxp9).fr hf37 hxp9).fr hf40 (fun q9 => by rcases q9 with q9 | ⟨q9, -⟩; exact hxl.1 q9; exact hxl.2 q9)
          · rw [if_neg h1] at hi
            have hi2 : i = cs.length := by
              by_cases h2 : i - cs.length = 0
              · omega
              · rw [List.getElem?_eq_none (by simp; omega)] at hi; cases hi
            subst hi2
            rw [Nat.sub_self] at hi
            have hc : cm = c := by simpa using hi
            subst hc
            exact ⟨x37, by unfold updR; rw [if_pos rfl], hx40, hs37⟩
        refine xr_pop dX15_parse_43 (by first | rfl | exact cat_rf _) ?_
        refine xr_goto (tgt := 12) dX15_parse_44 (by decide) ?_
        refine xr_wk (rc' := 20 * fu12 + 0) (rs' := 140 * fu12 + 0) ⟨by omega, by omega⟩ (ih12 w40 o37 (cs ++ [cm]) arr2 _ (by simp; omega) (by simp; omega) (by simp) hp40 hT40 (by rw [List.length_append]; exact hA40) hc40 hal40 hfr40 (by rw [← hr9, pRest, if_pos hon, he29]; show _ = pB (pAct T n o29) _; rw [he37]; rfl))
  refine xr_wk (rc' := 20 * 11 + 0) (rs' := 140 * 11 + 0) ⟨by omega, by omega⟩ (lp12 11 w8 o5 [cm] arr2 _ (by simp) (by simp; omega) (by simp) hp8 hT8 hA8 (fun i c hi => by
    have hi0 : i = 0 := by
      have := (List.getElem?_eq_some_iff.mp hi).1; simp at this; omega
    subst hi0
    have hc : cm = c := by simpa using hi
    subst hc
    exact ⟨x5, by unfold updR; rw [if_pos (by omega)], hx8, hs5⟩) hal8 hfr8 (by unfold pAll; rw [he5]; rfl))
