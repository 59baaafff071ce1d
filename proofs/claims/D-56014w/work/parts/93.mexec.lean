/-! 93.mexec.lean.txt (written by tools/walker.py)  -/
set_option maxRecDepth 100000
/-! the other model carries out a list of commands -/
def RI (T : Int → Int) (n : Int) (f : Nat) (x : Int ⊕ Int) (cs : List Cm) (k : Nat) (t9 : Int → Int) : Prop := (∃ o, x = .inl o ∧ pAll T n = .inl o) ∨ (∃ o, x = .inr o ∧ pRest T n f o cs = pAll T n ∧ (∀ (i : Nat) (c : Cm), cs[i]? = some c → TL t9 i c ∧ cmS c) ∧ 6 * (cs.length : Int) ≤ o + 1 ∧ cs.length = k)
theorem RI_next {T : Int → Int} {n o : Int} {f k : Nat} {cs : List Cm} {t8 t9 : Int → Int} {x : Int ⊕ Int} (hR : RI T n (f + 1) (.inr o) cs k t8) (hc : curT T n o = 59) (hon : o < n)
    (hx : (∃ o' : Int, x = .inl o' ∧ pAct T n (o + 1) = .inl o') ∨ (∃ (o' : Int) (cm : Cm), x = .inr o' ∧ pAct T n (o + 1) = .inr (cm, o') ∧ TL t9 k cm)) (ht : ∀ i : Int, i < 4 * k → t9 i = t8 i) : ∃ cs', RI T n f x cs' (k + 1) t9 := by
  have he : pExp T n 59 o = .inr (o + 1) := if_pos hc
  rcases hR with ⟨o2, h1, -⟩ | ⟨o2, h1, h2, h3, h4, h5⟩
  · cases h1
  · injection h1 with h1
    subst h1
    rw [pRest, if_pos hon, he] at h2
    rcases hx with ⟨o', rfl, ha⟩ | ⟨o', cm, rfl, ha, hT⟩
    · refine ⟨cs, Or.inl ⟨o', rfl, ?_⟩⟩
      rw [← h2]
      show pB (pAct T n (o + 1)) _ = _
      rw [ha]; rfl
    · obtain ⟨⟨r1, r2⟩, r3⟩ := pAct_r (by omega) ha
      refine ⟨cs ++ [cm], Or.inr ⟨o', rfl, ?_, fun i c hi => ?_, by rw [List.length_append]; show 6 * ((cs.length + 1 : Nat) : Int) ≤ _; omega, by rw [List.length_append, h5]; rfl⟩⟩
      · rw [← h2]
        show _ = pB (pAct T n (o + 1)) _
        rw [ha]; rfl
      · rw [List.getElem?_append] at hi
        by_cases h9 : i < cs.length
        · rw [if_pos h9] at hi
          obtain ⟨⟨g1, g2, g3, g4⟩, g5⟩ := h3 i c hi
          refine ⟨⟨?_, ?_, fun q => ?_, fun q => ?_⟩, g5⟩
          · rw [ht _ (by omega)]; exact g1
          · rw [ht _ (by omega)]; exact g2
          · rw [ht _ (by omega)]; exact g3 q
          · rw [ht _ (by omega)]; exact g4 q
        · rw [if_neg h9] at hi
          have hi2 : i = cs.length := by
            by_cases h8 : i - cs.length = 0
            · omega
            · rw [List.getElem?_eq_none (by simp; omega)] at hi; cases hi
          subst hi2
          rw [Nat.sub_self] at hi
          have hcm : cm = c := by simpa using hi
          subst hcm
          rw [h5]
          exact ⟨hT, r3⟩
theorem RI_first {T : Int → Int} {n : Int} {t9 : Int → Int} {x : Int ⊕ Int} (hn : 0 ≤ n) (hx : (∃ o' : Int, x = .inl o' ∧ pAct T n 0 = .inl o') ∨ (∃ (o' : Int) (cm : Cm), x = .inr o' ∧ pAct T n 0 = .inr (cm, o') ∧ TL t9 0 cm)) : ∃ cs, RI T n 11 x cs 1 t9 := by
  rcases hx with ⟨o', rfl, ha⟩ | ⟨o', cm, rfl, ha, hT⟩
  · exact ⟨[], Or.inl ⟨o', rfl, by unfold pAll; rw [ha]; rfl⟩⟩
  · obtain ⟨⟨r1, r2⟩, r3⟩ := pAct_r hn ha
    refine ⟨[cm], Or.inr ⟨o', rfl, by unfold pAll; rw [ha]; rfl, fun i c hi => ?_, by show 6 * ((1 : Nat) : Int) ≤ _; omega, rfl⟩⟩
    have h0 : i = 0 := by
      have := (List.getElem?_eq_some_iff.mp hi).1; simp at this; omega
    subst h0
    have hcm : cm = c := by simpa using hi
    subst hcm
    exact ⟨hT, r3⟩
theorem k_N_execute {g : GG} {w : WW} {m : Nat} {A : Int → Nat} {th : Int} {P : Int → Int} {S : Option (Int → Int)} {H : List (Int → Int)} {I O : Tx} {se : Option Int} {rj : Option (Int × Int × Int)} {N : Int} (hG : Base g) (hX : MR g w m A th P S H I O se rj) (hJ : KJ g) (hKS : KS g) (hB : PB P N) (hC : PCon P) (hN : N + 13000 * 11 ≤ 10000000) (hI : ∀ i : Int, 0 ≤ i → i < I.1 → 32 ≤ I.2 i ∧ I.2 i ≤ 126) : Ct g yX4_execute (.code yX4_execute cX4_execute 4 (some .int)) 8 176 0 0 w [.ref m] (fun r_ w1 => ∃ y : Int, r_ = some (.int (iI y)) ∧ Fr (MS m A) w w1 ∧ ((∃ e : Int, pAll I.2 I.1 = .inl e ∧ (0 ≤ e ∧ e ≤ I.1) ∧ MR g w1 m A 1 P S H (0, I.2) O (some e) rj) ∨ (∃ (cs : List Cm) (k rr : Int), pAll I.2 I.1 = .inr cs ∧ rAll cs 0 P = .inl (2, k, rr) ∧ MR g w1 m A 2 P S H (0, I.2) O se rj) ∨ (∃ (cs : List Cm) (k rr : Int), pAll I.2 I.1 = .inr cs ∧ rAll cs 0 P = .inl (3, k, rr) ∧ MR g w1 m A 3 P S H (0, I.2) O se (some (12, k, rr))) ∨ (∃ (cs : List Cm) (P3 : Int → Int), pAll I.2 I.1 = .inr cs ∧ rAll cs 0 P = .inr P3 ∧ y = cs.length ∧ MR g w1 m A 0 P3 S (pushH H P) (0, I.2) O se rj))) xF := by
  refine Ct.of (lv := [some _, none, none, none]) hG (by decide +kernel) (Nat.le_of_ble_eq_true rfl) rfl ?_
  intro z hg hpo hxp hnm htab
  subst hg
  obtain ⟨F, C, hM, -, hS⟩ := hX
  have hM : MDF (zg z) w w m A F P C := ⟨hM, Fr.rf⟩
  have h68 : 0 ≤ F 6 ∧ F 6 ≤ 8 := by have := hS.1.1; have := hS.1.2.1; omega
  obtain ⟨i1, i2, i3⟩ := hS.2.2.1
  have i2 : I.1 ≤ 60 := i2
  have hgg := hB.g
  refine xr_aload_n dX4_execute_0 rfl (by first | rfl | exact isRef_rf _) ?_
  refine xr_callV (n9 := 0) (rc' := 0) (rs' := 0) (k_M_remembers hG hM.1) hM.1.1 rfl q2269 q2271 qs37 q96 q2272 (by decide +kernel) rfl ⟨by decide, Nat.le_of_ble_eq_true rfl⟩ ⟨Nat.le_of_ble_eq_true rfl, Nat.le_of_ble_eq_true rfl⟩ (Nat.le_of_ble_eq_true rfl) dX4_execute_1 rfl (fun r w1 hw => ?_) (fun _ _ _ h => h.elim)
  obtain ⟨rfl, hw⟩ := hw
  have hM := hM.tr hw
  obtain ⟨Ca, hCa⟩ : ∃ Ca, Ca = updC C 2 P := ⟨_, rfl⟩
  have hC2 : Ca 2 = P := by rw [hCa, updC_at]
  have hCn : ∀ j : Int, j ≠ 2 → Ca j = C j := fun j hj => by rw [hCa]; exact updC_ne hj
  rw [← hCa] at hM
  refine xr_aload_n dX4_execute_4 rfl (by first | rfl | exact isRef_rf _) ?_
  refine xr_iconst dX4_execute_5 ?_
  refine xr_putfield (ci := 14) (T := TX4) (N := 23) (i := 19) (fs' := [_, _, _, _, _, _, _, _, _, _, _, _, _, _, _, _, _, _, _, _, _, _, _]) hM.1.1 rfl (by decide) in_X4 tyX4 tyX4_ok nmX4 q2210 (.inl rfl) rfl dX4_execute_6 (by rfl) (by rfl) (by simp) (by rfl) (.inl rfl) (fun _ => ?_)
  refine xr_mput (i := 19) hM (by rfl) (fun w6 hM => ?_)
  refine xr_aload_n dX4_execute_9 rfl (by first | rfl | exact isRef_rf _) ?_
  refine xr_aload_n dX4_execute_10 rfl (by first | rfl | exact isRef_rf _) ?_
  refine xr_getfield (ci := 14) (T := TX4) (N := 23) (i := 11) hM.1.1 rfl (by decide) in_X4 q2202 (.inl rfl) dX4_execute_11 (by rfl) ?_
  rw [show updI (updI F 0 0) 19 0 11 = I.1 from (updI_ne (by decide)).trans ((updI_ne (by decide)).trans i1)]
  refine xr_putfield (ci := 14) (T := TX4) (N := 23) (i := 20) (fs' := [_, _, _, _, _, _, _, _, _, _, _, _, _, _, _, _, _, _, _, _, _, _, _]) hM.1.1 rfl (by decide) in_X4 tyX4 tyX4_ok nmX4 q2211 (.inl rfl) rfl dX4_execute_14 (by rfl) (by rfl) (by simp) (by rfl) (.inl rfl) (fun _ => ?_)
  refine xr_mput (i := 20) hM (by rfl) (fun w14 hM => ?_)
  refine xr_aload_n dX4_execute_17 rfl (by first | rfl | exact isRef_rf _) ?_
  refine xr_iconst dX4_execute_18 ?_
  refine xr_putfield (ci := 14) (T := TX4) (N := 23) (i := 11) (fs' := [_, _, _, _, _, _, _, _, _, _, _, _, _, _, _, _, _, _, _, _, _, _, _]) hM.1.1 rfl (by decide) in_X4 tyX4 tyX4_ok nmX4 q2202 (.inl rfl) rfl dX4_execute_19 (by rfl) (by rfl) (by simp) (by rfl) (.inl rfl) (fun _ => ?_)
  refine xr_mput (i := 11) hM (by rfl) (fun w19 hM => ?_)
  refine xr_aload_n dX4_execute_22 rfl (by first | rfl | exact isRef_rf _) ?_
  refine xr_iconst dX4_execute_23 ?_
  refine xr_putfield (ci := 14) (T := TX4) (N := 23) (i := 21) (fs' := [_, _, _, _, _, _, _, _, _, _, _, _, _, _, _, _, _, _, _, _, _, _, _]) hM.1.1 rfl (by decide) in_X4 tyX4 tyX4_ok nmX4 q2212 (.inl rfl) rfl dX4_execute_24 (by rfl) (by rfl) (by simp) (by rfl) (.inl rfl) (fun _ => ?_)
  refine xr_mput (i := 21) hM (by rfl) (fun w24 hM => ?_)
  refine xr_aload_n dX4_execute_27 rfl (by first | rfl | exact isRef_rf _) ?_
  refine xr_iconst dX4_execute_28 ?_
  refine xr_putfield (ci := 14) (T := TX4) (N := 23) (i := 22) (fs' := [_, _, _, _, _, _, _, _, _, _, _, _, _, _, _, _, _, _, _, _, _, _, _]) hM.1.1 rfl (by decide) in_X4 tyX4 tyX4_ok nmX4 q2213 (.inl rfl) rfl dX4_execute_29 (by decide +kernel) (by decide +kernel) (by simp) (by rfl) (.inl rfl) (fun _ => ?_)
  refine xr_mput (i := 22) hM (by rfl) (fun w29 hM => ?_)
  obtain ⟨F5, hF5⟩ : ∃ F5, F5 = updI (updI (updI (updI (updI (updI F 0 0) 19 0) 20 I.1) 11 0) 21 0) 22 0 := ⟨_, rfl⟩
  have h5 : ∀ i : Int, i ≠ 0 → i ≠ 11 → i ≠ 19 → i ≠ 20 → i ≠ 21 → i ≠ 22 → F5 i = F i := fun i a1 a2 a3 a4 a5 a6 => by rw [hF5, updI_ne a6, updI_ne a5, updI_ne a2, updI_ne a4, updI_ne a3, updI_ne a1]
  have h50 : F5 0 = 0 := by rw [hF5, updI_ne (by decide), updI_ne (by decide), updI_ne (by decide), updI_ne (by decide), updI_ne (by decide), updI_eq]
  have h511 : F5 11 = 0 := by rw [hF5, updI_ne (by decide), updI_ne (by decide), updI_eq]
  have h519 : F5 19 = 0 := by rw [hF5, updI_ne (by decide), updI_ne (by decide), updI_ne (by decide), updI_ne (by decide), updI_eq]
  have h520 : F5 20 = I.1 := by rw [hF5, updI_ne (by decide), updI_ne (by decide), updI_ne (by decide), updI_eq]
  have h521 : F5 21 = 0 := by rw [hF5, updI_ne (by decide), updI_eq]
  have h522 : F5 22 = 0 := by rw [hF5, updI_eq]
  have hR5 : RS F5 Ca I.2 I.1 (.inr 0) 0 := ⟨h520, h519, h522, h521, by omega, by omega, fun i i0 i1' => ⟨by rw [hCn 8 (by decide)]; exact i3 i i0 i1', hI i i0 i1'⟩⟩
  rw [← hF5] at hM
  refine xr_aload_n dX4_execute_32 rfl (by first | rfl | exact isRef_rf _) ?_
  refine xr_callV (n9 := 0) (rc' := 0) (rs' := 0) (k_M_readsOne hG hM.1 hJ hKS hR5 (by omega)) hM.1.1 rfl q2668 q2670 qs79 q96 q2671 (by decide +kernel) rfl ⟨by decide, Nat.le_of_ble_eq_true rfl⟩ ⟨Nat.le_of_ble_eq_true rfl, Nat.le_of_ble_eq_true rfl⟩ (Nat.le_of_ble_eq_true rfl) dX4_execute_33 rfl (fun r w33 hw => ?_) (fun _ _ _ h => h.elim)
  obtain ⟨F1, C1, x1, rfl, hw, hR1, htd, hf3, hrl⟩ := hw
  have hM := hM.tr hw
  obtain ⟨cs1, hri1⟩ := RI_first (by omega) hrl
  refine xr_lv (lvw_s (lvw_n (lvw_n (lvw_n (lvw_nil))))) ?_
  have lp36 : ∀ (fu36 : Nat) (w9 : WW) (F9 : Int → Int) (C9 : Int → Int → Int) (x9 : Int ⊕ Int) (cs : List Cm) (k9 f : Nat), f < fu36 → k9 + f = 12 → 1 ≤ k9 → MDF (zg z) w w9 m A F9 P C9 → RS F9 C9 I.2 I.1 x9 k9 → (∀ i : Int, i ≠ 19 → i ≠ 21 → i ≠ 22 → F9 i = F5 i) → (∀ j : Int, j ≠ 9 → C9 j = Ca j) → RI I.2 I.1 f x9 cs k9 (C9 9) → XJ z yX4_execute.cls cX4_execute 4 (some .int) 8 176 w9 (0 * fu36 + 0) (0 * fu36 + 0) 36 [some (.ref m), none, none, none] [] := by
    intro fu36
    induction fu36 with
    | zero =>
      intro w9 F9 C9 x9 cs k9 f hfu hkf hk1 hM hR9 hk9f hk9c hri
      omega
    | succ fu36 ih36 =>
      intro w9 F9 C9 x9 cs k9 f hfu hkf hk1 hM hR9 hk9f hk9c hri
      refine xr_aload_n dX4_execute_36 rfl (by first | rfl | exact isRef_rf _) ?_
      refine xr_getfield (ci := 14) (T := TX4) (N := 23) (i := 22) hM.1.1 rfl (by decide) in_X4 q2213 (.inl rfl) dX4_execute_37 (by rfl) ?_
      obtain ⟨o9, e9, hD, hoe⟩ := hR9.d
      have hDD := hD
      obtain ⟨r1, r2, r3, r4, r5, r6, r7⟩ := hDD
      rw [r3]
      refine xr_if_ne (tgt := 70) dX4_execute_40 (by decide) (by omega) (fun c40 => ?_) (fun c40 => ?_)
      · skip
        have hx9 : x9 = .inl o9 := by
          rcases hoe with ⟨q1, q2⟩ | ⟨q1, q2⟩
          · exact q2
          · omega
        refine xr_aload_n dX4_execute_70 rfl (by first | rfl | exact isRef_rf _) ?_
        refine xr_getfield (ci := 14) (T := TX4) (N := 23) (i := 22) hM.1.1 rfl (by decide) in_X4 q2213 (.inl rfl) dX4_execute_71 (by rfl) ?_
        rw [r3]
        refine xr_if_ne (tgt := 88) dX4_execute_74 (by decide) (by omega) (fun c74 => ?_) (fun c74 => ?_)
        · skip
          refine xr_aload_n dX4_execute_88 rfl (by first | rfl | exact isRef_rf _) ?_
          refine xr_aload_n dX4_execute_89 rfl (by first | rfl | exact isRef_rf _) ?_
          refine xr_getfield (ci := 14) (T := TX4) (N := 23) (i := 19) hM.1.1 rfl (by decide) in_X4 q2210 (.inl rfl) dX4_execute_90 (by rfl) ?_
          rw [r2]
          refine xr_putfield (ci := 14) (T := TX4) (N := 23) (i := 13) (fs' := [_, _, _, _, _, _, _, _, _, _, _, _, _, _, _, _, _, _, _, _, _, _, _]) hM.1.1 rfl (by decide) in_X4 tyX4 tyX4_ok nmX4 q2204 (.inl rfl) rfl dX4_execute_93 (by rfl) (by rfl) (by simp) (by rfl) (.inl rfl) (fun _ => ?_)
          refine xr_mput (i := 13) hM (by rfl) (fun w93 hM => ?_)
          refine xr_aload_n dX4_execute_96 rfl (by first | rfl | exact isRef_rf _) ?_
          refine xr_iconst dX4_execute_97 ?_
          refine xr_callV (n9 := 1) (rc' := 0 * fu36 + 0) (rs' := 0 * fu36 + 0) (k_M_fails hG hM.1) hM.1.1 rfl q2311 q2313 qs46 q96 q2314 (by decide +kernel) rfl ⟨by decide, Nat.le_of_ble_eq_true rfl⟩ ⟨by omega, by omega⟩ (Nat.le_of_ble_eq_true rfl) dX4_execute_98 rfl (fun r w98 hw => ?_) (fun _ _ _ h => h.elim)
          obtain ⟨rfl, hw⟩ := hw
          have hM := hM.tr hw
          refine xr_ireturn rfl rfl dX4_execute_101 ?_
          rw [hpo]
          have q0 : ∀ i : Int, i ≠ 0 → i ≠ 11 → i ≠ 19 → i ≠ 20 → i ≠ 21 → i ≠ 22 → F9 i = F i := fun i a1 a2 a3 a4 a5 a6 => (hk9f i a3 a5 a6).trans (h5 i a1 a2 a3 a4 a5 a6)
          have q11 : F9 11 = 0 := (hk9f 11 (by decide) (by decide) (by decide)).trans h511
          have q9C : ∀ j : Int, j ≠ 2 → j ≠ 9 → C9 j = C j := fun j a1 a2 => (hk9c j a2).trans (hCn j a1)
          have q2C : C9 2 = P := (hk9c 2 (by decide)).trans hC2
          have hpa : pAll I.2 I.1 = .inl o9 := by
            rcases hri with ⟨o2, q1, q2⟩ | ⟨o2, q1, q2, -, q4, q5⟩
            · rw [hx9] at q1
              first
                | (cases q1; exact q2)
                | cases q1
            · rw [hx9] at q1
              first
                | (cases q1
                   rw [← q2]
                   obtain ⟨f', hf'⟩ : ∃ f', f = f' + 1 := ⟨f - 1, by omega⟩
                   rw [hf', pRest, if_pos (by omega), show pExp I.2 I.1 59 o9 = .inl o9 from if_neg hcu]
                   rfl)
                | cases q1
          obtain ⟨a1, a2, a3, a4, a5, a6⟩ := hS
          refine ⟨_, rfl, hM.2, Or.inl ⟨o9, hpa, by omega, _, _, hM.1, updI_eq, ?_⟩⟩
          have q0' : ∀ i : Int, i ≠ 0 → i ≠ 11 → i ≠ 13 → i ≠ 19 → i ≠ 20 → i ≠ 21 → i ≠ 22 → updI (updI F9 13 o9) 0 1 i = F i := fun i b1 b2 b3 b4 b5 b6 b7 => (updI_ne b1).trans ((updI_ne b3).trans (q0 i b1 b2 b4 b5 b6 b7))
          refine ⟨?_, ?_, ⟨?_, Nat.zero_le _, fun i i0 i1' => ?_⟩, ?_, ?_, ?_⟩
          · unfold HC at *; rw [q0' 6 (by decide) (by decide) (by decide) (by decide) (by decide) (by decide) (by decide), q9C 4 (by decide) (by decide)]; exact a1
          · unfold SC at *; rw [q0' 7 (by decide) (by decide) (by decide) (by decide) (by decide) (by decide) (by decide), q9C 3 (by decide) (by decide)]; exact a2
          · rw [updI_ne (by decide), updI_ne (by decide), q11]; rfl
          · have i1' : i < ((0 : Nat) : Int) := i1'; omega
          · rw [q0' 12 (by decide) (by decide) (by decide) (by decide) (by decide) (by decide) (by decide), q9C 10 (by decide) (by decide)]; exact a4
          · exact Or.inr ⟨o9, rfl, r6.1, by omega, by rw [updI_ne (by decide), updI_eq]⟩
          · unfold RC at *; rw [q0' 14 (by decide) (by decide) (by decide) (by decide) (by decide) (by decide) (by decide), q0' 15 (by decide) (by decide) (by decide) (by decide) (by decide) (by decide) (by decide), q0' 16 (by decide) (by decide) (by decide) (by decide) (by decide) (by decide) (by decide)]; exact a6
        · skip
          refine xr_aload_n dX4_execute_77 rfl (by first | rfl | exact isRef_rf _) ?_
          refine xr_getfield (ci := 14) (T := TX4) (N := 23) (i := 19) hM.1.1 rfl (by decide) in_X4 q2210 (.inl rfl) dX4_execute_78 (by rfl) ?_
          rw [r2]
          refine xr_aload_n dX4_execute_81 rfl (by first | rfl | exact isRef_rf _) ?_
          refine xr_getfield (ci := 14) (T := TX4) (N := 23) (i := 20) hM.1.1 rfl (by decide) in_X4 q2211 (.inl rfl) dX4_execute_82 (by rfl) ?_
          rw [r1]
          refine xr_icmp_ge (tgt := 102) dX4_execute_85 (by decide) (by omega) (fun c85 => ?_) (fun c85 => ?_)
          · skip
            have hpc : pAll I.2 I.1 = .inr cs ∧ (∀ (i : Nat) (c : Cm), cs[i]? = some c → TL (C9 9) i c ∧ cmS c) ∧ cs.length = k9 ∧ 6 * (cs.length : Int) ≤ o9 + 1 := by
              rcases hri with ⟨o2, q1, q2⟩ | ⟨o2, q1, q2, q3, q4, q5⟩
              · first
                  | (exfalso; omega)
                  | (rw [hx9] at q1; cases q1)
              · first
                  | (exfalso; omega)
                  | (rw [hx9] at q1
                     cases q1
                     obtain ⟨f', hf'⟩ : ∃ f', f = f' + 1 := ⟨f - 1, by omega⟩
                     rw [hf', pRest, if_neg (by omega)] at q2
                     exact ⟨q2.symm, q3, q5, q4⟩)
            obtain ⟨hpa, hcs, hck, hcb⟩ := hpc
            refine xr_iconst dX4_execute_102 ?_
            refine xr_istore_n (lv' := [some _, some _, none, none]) dX4_execute_103 (by decide) rfl rfl ?_
            refine xr_lv (lvw_s (lvw_s (lvw_n (lvw_n (lvw_nil))))) ?_
            have lp104 : ∀ (fu104 : Nat) (w7 : WW) (F7 P7 : Int → Int) (i : Nat), i ≤ cs.length → cs.length < fu104 + i → MDF (zg z) w w7 m A F7 P7 C9 → (∀ a : Int, a ≠ 17 → a ≠ 18 → F7 a = F9 a) → PB P7 (N + 13000 * i) → PCon P7 → rAll (cs.drop i) i P7 = rAll cs 0 P → XJ z yX4_execute.cls cX4_execute 4 (some .int) 8 176 w7 (0 * fu36 + 0 * fu104 + 0) (0 * fu36 + 0 * fu104 + 0) 104 [some (.ref m), some (.int (iI i)), none, none] [] := by
              intro fu104
              induction fu104 with
              | zero =>
                intro w7 F7 P7 i hil hfu7 hM hf7 hB7 hC7 hr7
                omega
              | succ fu104 ih104 =>
                intro w7 F7 P7 i hil hfu7 hM hf7 hB7 hC7 hr7
                refine xr_iload_n dX4_execute_104 rfl ?_
                refine xr_aload_n dX4_execute_105 rfl (by first | rfl | exact isRef_rf _) ?_
                refine xr_getfield (ci := 14) (T := TX4) (N := 23) (i := 21) hM.1.1 rfl (by decide) in_X4 q2212 (.inl rfl) dX4_execute_106 (by rfl) ?_
                rw [hf7 21 (by decide) (by decide), r4]
                refine xr_icmp_ge (tgt := 189) dX4_execute_109 (by decide) (by omega) (fun c109 => ?_) (fun c109 => ?_)
                · skip
                  refine xr_aload_n dX4_execute_189 rfl (by first | rfl | exact isRef_rf _) ?_
                  refine xr_aload_n dX4_execute_190 rfl (by first | rfl | exact isRef_rf _) ?_
                  refine xr_getfield (ci := 14) (T := TX4) (N := 23) (i := 21) hM.1.1 rfl (by decide) in_X4 q2212 (.inl rfl) dX4_execute_191 (by rfl) ?_
                  rw [hf7 21 (by decide) (by decide), r4, ← hck]
                  refine xr_callV (n9 := 1) (rc' := 0 * fu36 + 0 * fu104 + 0) (rs' := 0 * fu36 + 0 * fu104 + 0) (k_M_changed hG hM.1 (by rw [hf7 6 (by decide) (by decide), hk9f 6 (by decide) (by decide) (by decide), h5 6 (by decide) (by decide) (by decide) (by decide) (by decide) (by decide)]; exact h68)) hM.1.1 rfl q2307 q2309 qs45 q96 q2310 (by decide +kernel) rfl ⟨by decide, Nat.le_of_ble_eq_true rfl⟩ ⟨by omega, by omega⟩ (Nat.le_of_ble_eq_true rfl) dX4_execute_194 rfl (fun r w194 hw => ?_) (fun _ _ _ h => h.elim)
                  obtain ⟨F2, C2, rfl, hw, hch⟩ := hw
                  have hM := hM.tr hw
                  show XJ _ _ _ _ _ _ _ _ _ _ _ _ [.int (iI cs.length)]
                  refine xr_ireturn rfl rfl dX4_execute_197 ?_
                  rw [hpo]
                  have q0 : ∀ i : Int, i ≠ 0 → i ≠ 11 → i ≠ 19 → i ≠ 20 → i ≠ 21 → i ≠ 22 → F9 i = F i := fun i a1 a2 a3 a4 a5 a6 => (hk9f i a3 a5 a6).trans (h5 i a1 a2 a3 a4 a5 a6)
                  have q11 : F9 11 = 0 := (hk9f 11 (by decide) (by decide) (by decide)).trans h511
                  have q9C : ∀ j : Int, j ≠ 2 → j ≠ 9 → C9 j = C j := fun j a1 a2 => (hk9c j a2).trans (hCn j a1)
                  have q2C : C9 2 = P := (hk9c 2 (by decide)).trans hC2
                  have hil : i = cs.length := by omega
                  have hra : rAll cs 0 P = .inr P7 := by rw [← hr7, hil, List.drop_length]; rfl
                  have q7 : ∀ i : Int, i ≠ 0 → i ≠ 11 → i ≠ 17 → i ≠ 18 → i ≠ 19 → i ≠ 20 → i ≠ 21 → i ≠ 22 → F7 i = F i := fun i b1 b2 b3 b4 b5 b6 b7 b8 => (hf7 i b3 b4).trans (q0 i b1 b2 b5 b6 b7 b8)
                  obtain ⟨a1, a2, a3, a4, a5, a6⟩ := hS
                  have hH7 : HC F7 C9 H := by unfold HC at *; rw [q7 6 (by decide) (by decide) (by decide) (by decide) (by decide) (by decide) (by decide) (by decide), q9C 4 (by decide) (by decide)]; exact a1
                  have hpush := HC_push hH7 hch q2C
                  obtain ⟨hh, K5, hDD, hF2, hC2'⟩ := hch
                  have q2F : ∀ i : Int, i ≠ 6 → F2 i = F7 i := fun i hi => by rw [hF2]; exact updI_ne hi
                  have q2D : ∀ j : Int, j ≠ 4 → C2 j = C9 j := fun j hj => by rw [hC2']; exact updC_ne hj
                  refine ⟨_, rfl, hM.2, Or.inr (Or.inr (Or.inr ⟨cs, P7, hpa, hra, rfl, F2, C2, hM.1, ?_, hpush, ?_, ⟨?_, Nat.zero_le _, fun i i0 i1' => ?_⟩, ?_, ?_, ?_⟩))⟩
                  · rw [q2F 0 (by decide), hf7 0 (by decide) (by decide), hk9f 0 (by decide) (by decide) (by decide), h50]
                  · unfold SC at *; rw [q2F 7 (by decide), q7 7 (by decide) (by decide) (by decide) (by decide) (by decide) (by decide) (by decide) (by decide), q2D 3 (by decide), q9C 3 (by decide) (by decide)]; exact a2
                  · rw [q2F 11 (by decide), hf7 11 (by decide) (by decide), q11]; rfl
                  · have i1' : i < ((0 : Nat) : Int) := i1'; omega
                  · rw [q2F 12 (by decide), q7 12 (by decide) (by decide) (by decide) (by decide) (by decide) (by decide) (by decide) (by decide), q2D 10 (by decide), q9C 10 (by decide) (by decide)]; exact a4
                  · rw [q2F 13 (by decide), q7 13 (by decide) (by decide) (by decide) (by decide) (by decide) (by decide) (by decide) (by decide)]; exact a5
                  · unfold RC at *; rw [q2F 14 (by decide), q2F 15 (by decide), q2F 16 (by decide), q7 14 (by decide) (by decide) (by decide) (by decide) (by decide) (by decide) (by decide) (by decide), q7 15 (by decide) (by decide) (by decide) (by decide) (by decide) (by decide) (by decide) (by decide), q7 16 (by decide) (by decide) (by decide) (by decide) (by decide) (by decide) (by decide) (by decide)]; exact a6
                · skip
                  obtain ⟨c, hc⟩ : ∃ c, cs[i]? = some c := ⟨cs[i]'(by omega), List.getElem?_eq_getElem (by omega)⟩
                  obtain ⟨hTL, hcm⟩ := hcs i c hc
                  have hdr : cs.drop i = c :: cs.drop (i + 1) := by
                    obtain ⟨q1, q2⟩ := List.getElem?_eq_some_iff.mp hc
                    rw [← q2]; exact List.drop_eq_getElem_cons q1
                  refine xr_aload_n dX4_execute_112 rfl (by first | rfl | exact isRef_rf _) ?_
                  refine xr_iload_n dX4_execute_113 rfl ?_
                  refine xr_callV (n9 := 1) (rc' := 0 * fu36 + 0 * fu104 + 0) (rs' := 0 * fu36 + 0 * fu104 + 0) (k_M_does hG hM.1 hB7 hC7 (by omega) hTL hcm (by omega)) hM.1.1 rfl q2701 q2703 qs84 q96 q2704 (by decide +kernel) rfl ⟨by decide, Nat.le_of_ble_eq_true rfl⟩ ⟨by omega, by omega⟩ (Nat.le_of_ble_eq_true rfl) dX4_execute_114 rfl (fun r w114 hw => ?_) (fun _ _ _ h => h.elim)
                  obtain ⟨r, F1', P1', rfl, hw, hDC⟩ := hw
                  have hM := hM.tr hw
                  obtain ⟨hdc, hrb, hfk⟩ := hDC
                  show XJ _ _ _ _ _ _ _ _ _ _ _ _ [.int (iI r)]
                  refine xr_istore_n (lv' := [some _, some _, some _, none]) dX4_execute_117 (by decide) rfl rfl ?_
                  refine xr_iload_n dX4_execute_118 rfl ?_
                  refine xr_if_ne (tgt := 125) dX4_execute_119 (by decide) (by omega) (fun c119 => ?_) (fun c119 => ?_)
                  · skip
                    refine xr_iconst dX4_execute_125 ?_
                    refine xr_istore_n (lv' := [some _, some _, some _, some _]) dX4_execute_126 (by decide) rfl rfl ?_
                    have lp127 : ∀ (fu127 : Nat) (w8 : WW) (j : Int), 0 ≤ j → j ≤ 102 → 102 - j < fu127 → MDF (zg z) w w8 m A F1' (cpK (C9 2) P1' j) C9 → XJ z yX4_execute.cls cX4_execute 4 (some .int) 8 176 w8 (0 * fu36 + 0 * fu104 + 0 * fu127 + 0) (0 * fu36 + 0 * fu104 + 0 * fu127 + 0) 127 [some (.ref m), some (.int (iI i)), some (.int (iI r)), some (.int (iI j))] [] := by
                      intro fu127
                      induction fu127 with
                      | zero =>
                        intro w8 j hj0 hj1 hfu8 hM
                        omega
                      | succ fu127 ih127 =>
                        intro w8 j hj0 hj1 hfu8 hM
                        refine xr_iload_n dX4_execute_127 rfl ?_
                        refine xr_bipush dX4_execute_128 (by decide) ?_
                        refine xr_icmp_ge (tgt := 151) dX4_execute_130 (by decide) (by omega) (fun c130 => ?_) (fun c130 => ?_)
                        · skip
                          refine xr_iload_n dX4_execute_151 rfl ?_
                          refine xr_if_ge (tgt := 161) dX4_execute_152 (by decide) (by omega) (fun c152 => ?_) (fun c152 => ?_)
                          · skip
                            refine xr_aload_n dX4_execute_161 rfl (by first | rfl | exact isRef_rf _) ?_
                            refine xr_bipush dX4_execute_162 (by decide) ?_
                            refine xr_putfield (ci := 14) (T := TX4) (N := 23) (i := 14) (fs' := [_, _, _, _, _, _, _, _, _, _, _, _, _, _, _, _, _, _, _, _, _, _, _]) hM.1.1 rfl (by decide) in_X4 tyX4 tyX4_ok nmX4 q2205 (.inl rfl) rfl dX4_execute_164 (by rfl) (by rfl) (by simp) (by rfl) (.inl rfl) (fun _ => ?_)
                            refine xr_mput (i := 14) hM (by rfl) (fun w164 hM => ?_)
                            refine xr_aload_n dX4_execute_167 rfl (by first | rfl | exact isRef_rf _) ?_
                            refine xr_iload_n dX4_execute_168 rfl ?_
                            refine xr_putfield (ci := 14) (T := TX4) (N := 23) (i := 15) (fs' := [_, _, _, _, _, _, _, _, _, _, _, _, _, _, _, _, _, _, _, _, _, _, _]) hM.1.1 rfl (by decide) in_X4 tyX4 tyX4_ok nmX4 q2206 (.inl rfl) rfl dX4_execute_169 (by rfl) (by rfl) (by simp) (by rfl) (.inl rfl) (fun _ => ?_)
                            refine xr_mput (i := 15) hM (by rfl) (fun w169 hM => ?_)
                            refine xr_aload_n dX4_execute_172 rfl (by first | rfl | exact isRef_rf _) ?_
                            refine xr_iload_n dX4_execute_173 rfl ?_
                            refine xr_putfield (ci := 14) (T := TX4) (N := 23) (i := 16) (fs' := [_, _, _, _, _, _, _, _, _, _, _, _, _, _, _, _, _, _, _, _, _, _, _]) hM.1.1 rfl (by decide) in_X4 tyX4 tyX4_ok nmX4 q2207 (.inl rfl) rfl dX4_execute_174 (by rfl) (by rfl) (by simp) (by rfl) (.inl rfl) (fun _ => ?_)
                            refine xr_mput (i := 16) hM (by rfl) (fun w174 hM => ?_)
                            refine xr_aload_n dX4_execute_177 rfl (by first | rfl | exact isRef_rf _) ?_
                            refine xr_iconst dX4_execute_178 ?_
                            refine xr_callV (n9 := 1) (rc' := 0 * fu36 + 0 * fu104 + 0 * fu127 + 0) (rs' := 0 * fu36 + 0 * fu104 + 0 * fu127 + 0) (k_M_fails hG hM.1) hM.1.1 rfl q2311 q2313 qs46 q96 q2314 (by decide +kernel) rfl ⟨by decide, Nat.le_of_ble_eq_true rfl⟩ ⟨by omega, by omega⟩ (Nat.le_of_ble_eq_true rfl) dX4_execute_179 rfl (fun r w179 hw => ?_) (fun _ _ _ h => h.elim)
                            obtain ⟨rfl, hw⟩ := hw
                            have hM := hM.tr hw
                            refine xr_ireturn rfl rfl dX4_execute_182 ?_
                            rw [hpo]
                            have q0 : ∀ i : Int, i ≠ 0 → i ≠ 11 → i ≠ 19 → i ≠ 20 → i ≠ 21 → i ≠ 22 → F9 i = F i := fun i a1 a2 a3 a4 a5 a6 => (hk9f i a3 a5 a6).trans (h5 i a1 a2 a3 a4 a5 a6)
                            have q11 : F9 11 = 0 := (hk9f 11 (by decide) (by decide) (by decide)).trans h511
                            have q9C : ∀ j : Int, j ≠ 2 → j ≠ 9 → C9 j = C j := fun j a1 a2 => (hk9c j a2).trans (hCn j a1)
                            have q2C : C9 2 = P := (hk9c 2 (by decide)).trans hC2
                            have hj : j = 102 := by omega
                            have hM := hM.toP (P' := P) (fun i i0 i1' => by unfold cpK; rw [if_pos (by omega), q2C])
                            have hcA : cA c P7 = true ∧ 0 < (cR c P7).1 ∧ r = (cR c P7).1 := by
                              rcases hdc with ⟨-, q1, -⟩ | ⟨q0, q1, q2, -⟩ | ⟨-, -, q2, -⟩
                              · omega
                              · exact ⟨q0, q1, q2⟩
                              · omega
                            have hra : rAll cs 0 P = .inl (3, i, r) := by rw [← hr7, hdr, rAll, if_neg (by rw [hcA.1]; decide), if_pos (by omega), hcA.2.2]
                            have q7 : ∀ i' : Int, i' ≠ 0 → i' ≠ 11 → i' ≠ 14 → i' ≠ 15 → i' ≠ 16 → i' ≠ 17 → i' ≠ 18 → i' ≠ 19 → i' ≠ 20 → i' ≠ 21 → i' ≠ 22 → updI (updI (updI (updI F1' 14 12) 15 i) 16 r) 0 3 i' = F i' := fun i' b1 b2 b9 b10 b11 b3 b4 b5 b6 b7 b8 => (updI_ne b1).trans ((updI_ne b11).trans ((updI_ne b10).trans ((updI_ne b9).trans ((hfk i' b3 b4).trans ((hf7 i' b3 b4).trans (q0 i' b1 b2 b5 b6 b7 b8))))))
                            obtain ⟨a1, a2, a3, a4, a5, a6⟩ := hS
                            refine ⟨_, rfl, hM.2, Or.inr (Or.inr (Or.inl ⟨cs, i, r, hpa, hra, _, _, hM.1, updI_eq, ?_⟩))⟩
                            refine ⟨?_, ?_, ⟨?_, Nat.zero_le _, fun i' i0 i1' => ?_⟩, ?_, ?_, Or.inr ⟨_, rfl, by dsimp only; omega, ?_, ?_, ?_⟩⟩
                            · unfold HC at *; rw [q7 6 (by decide) (by decide) (by decide) (by decide) (by decide) (by decide) (by decide) (by decide) (by decide) (by decide) (by decide), q9C 4 (by decide) (by decide)]; exact a1
                            · unfold SC at *; rw [q7 7 (by decide) (by decide) (by decide) (by decide) (by decide) (by decide) (by decide) (by decide) (by decide) (by decide) (by decide), q9C 3 (by decide) (by decide)]; exact a2
                            · rw [updI_ne (by decide), updI_ne (by decide), updI_ne (by decide), updI_ne (by decide), hfk 11 (by decide) (by decide), hf7 11 (by decide) (by decide), q11]; rfl
                            · have i1' : i' < ((0 : Nat) : Int) := i1'; omega
                            · rw [q7 12 (by decide) (by decide) (by decide) (by decide) (by decide) (by decide) (by decide) (by decide) (by decide) (by decide) (by decide), q9C 10 (by decide) (by decide)]; exact a4
                            · rw [q7 13 (by decide) (by decide) (by decide) (by decide) (by decide) (by decide) (by decide) (by decide) (by decide) (by decide) (by decide)]; exact a5
                            · rw [updI_ne (by decide), updI_ne (by decide), updI_ne (by decide), updI_eq]
                            · rw [updI_ne (by decide), updI_ne (by decide), updI_eq]
                            · rw [updI_ne (by decide), updI_eq]
                          · skip
                            refine xr_aload_n dX4_execute_155 rfl (by first | rfl | exact isRef_rf _) ?_
                            refine xr_iconst dX4_execute_156 ?_
                            refine xr_callV (n9 := 1) (rc' := 0 * fu36 + 0 * fu104 + 0 * fu127 + 0) (rs' := 0 * fu36 + 0 * fu104 + 0 * fu127 + 0) (k_M_fails hG hM.1) hM.1.1 rfl q2311 q2313 qs46 q96 q2314 (by decide +kernel) rfl ⟨by decide, Nat.le_of_ble_eq_true rfl⟩ ⟨by omega, by omega⟩ (Nat.le_of_ble_eq_true rfl) dX4_execute_157 rfl (fun r w157 hw => ?_) (fun _ _ _ h => h.elim)
                            obtain ⟨rfl, hw⟩ := hw
                            have hM := hM.tr hw
                            refine xr_ireturn rfl rfl dX4_execute_160 ?_
                            rw [hpo]
                            have q0 : ∀ i : Int, i ≠ 0 → i ≠ 11 → i ≠ 19 → i ≠ 20 → i ≠ 21 → i ≠ 22 → F9 i = F i := fun i a1 a2 a3 a4 a5 a6 => (hk9f i a3 a5 a6).trans (h5 i a1 a2 a3 a4 a5 a6)
                            have q11 : F9 11 = 0 := (hk9f 11 (by decide) (by decide) (by decide)).trans h511
                            have q9C : ∀ j : Int, j ≠ 2 → j ≠ 9 → C9 j = C j := fun j a1 a2 => (hk9c j a2).trans (hCn j a1)
                            have q2C : C9 2 = P := (hk9c 2 (by decide)).trans hC2
                            have hj : j = 102 := by omega
                            have hM := hM.toP (P' := P) (fun i i0 i1' => by unfold cpK; rw [if_pos (by omega), q2C])
                            have hcA : cA c P7 = false := by
                              rcases hdc with ⟨q1, -⟩ | ⟨-, q1, q2, -⟩ | ⟨-, -, q2, -⟩
                              · exact q1
                              · omega
                              · omega
                            have hra : rAll cs 0 P = .inl (2, 0, 0) := by rw [← hr7, hdr, rAll, if_pos hcA]
                            have q7 : ∀ i : Int, i ≠ 0 → i ≠ 11 → i ≠ 17 → i ≠ 18 → i ≠ 19 → i ≠ 20 → i ≠ 21 → i ≠ 22 → updI F1' 0 2 i = F i := fun i b1 b2 b3 b4 b5 b6 b7 b8 => (updI_ne b1).trans ((hfk i b3 b4).trans ((hf7 i b3 b4).trans (q0 i b1 b2 b5 b6 b7 b8)))
                            obtain ⟨a1, a2, a3, a4, a5, a6⟩ := hS
                            refine ⟨_, rfl, hM.2, Or.inr (Or.inl ⟨cs, 0, 0, hpa, hra, _, _, hM.1, updI_eq, ?_⟩)⟩
                            refine ⟨?_, ?_, ⟨?_, Nat.zero_le _, fun i i0 i1' => ?_⟩, ?_, ?_, ?_⟩
                            · unfold HC at *; rw [q7 6 (by decide) (by decide) (by decide) (by decide) (by decide) (by decide) (by decide) (by decide), q9C 4 (by decide) (by decide)]; exact a1
                            · unfold SC at *; rw [q7 7 (by decide) (by decide) (by decide) (by decide) (by decide) (by decide) (by decide) (by decide), q9C 3 (by decide) (by decide)]; exact a2
                            · rw [updI_ne (by decide), hfk 11 (by decide) (by decide), hf7 11 (by decide) (by decide), q11]; rfl
                            · have i1' : i < ((0 : Nat) : Int) := i1'; omega
                            · rw [q7 12 (by decide) (by decide) (by decide) (by decide) (by decide) (by decide) (by decide) (by decide), q9C 10 (by decide) (by decide)]; exact a4
                            · rw [q7 13 (by decide) (by decide) (by decide) (by decide) (by decide) (by decide) (by decide) (by decide)]; exact a5
                            · unfold RC at *; rw [q7 14 (by decide) (by decide) (by decide) (by decide) (by decide) (by decide) (by decide) (by decide), q7 15 (by decide) (by decide) (by decide) (by decide) (by decide) (by decide) (by decide) (by decide), q7 16 (by decide) (by decide) (by decide) (by decide) (by decide) (by decide) (by decide) (by decide)]; exact a6
                        · skip
                          refine xr_aload_n dX4_execute_133 rfl (by first | rfl | exact isRef_rf _) ?_
                          refine xr_getfield (ci := 14) (T := TX4) (N := 23) (i := 1) hM.1.1 rfl (by decide) in_X4 q2192 (.inl rfl) dX4_execute_134 (by rfl) ?_
                          refine xr_iload_n dX4_execute_137 rfl ?_
                          refine xr_aload_n dX4_execute_138 rfl (by first | rfl | exact isRef_rf _) ?_
                          refine xr_getfield (ci := 14) (T := TX4) (N := 23) (i := 2) hM.1.1 rfl (by decide) in_X4 q2193 (.inl rfl) dX4_execute_139 (by rfl) ?_
                          refine xr_iload_n dX4_execute_142 rfl ?_
                          refine xr_iaload (hM.1.2.2.1 2 (by decide)) (show (0 : Int) ≤ _ ∧ _ < ((102 : Nat) : Int) from by omega) (by decide) dX4_execute_143 ?_
                          refine xr_mstS hM (by omega) dX4_execute_144 (fun w144 hM => ?_)
                          refine xr_iinc (lv' := [some _, some _, some _, some _]) dX4_execute_145 rfl (by decide) rfl rfl ?_
                          refine xr_goto (tgt := 127) dX4_execute_148 (by decide) ?_
                          refine xr_wk (rc' := 0 * fu36 + 0 * fu104 + 0 * fu127 + 0) (rs' := 0 * fu36 + 0 * fu104 + 0 * fu127 + 0) ⟨by omega, by omega⟩ (ih127 _ (j + 1) (by omega) (by omega) (by omega) (hM.toP (fun a a0 a1 => by
    simp only [updI, cpK]
    by_cases e7 : a = j
    · rw [if_pos e7, if_pos (by omega), e7]
    · rw [if_neg e7]
      by_cases e8 : a < j
      · rw [if_pos (by omega), if_pos (by omega)]
      · rw [if_neg (by omega), if_neg (by omega)])))
                    refine xr_wk (rc' := 0 * fu36 + 0 * fu104 + 0 * 103 + 0) (rs' := 0 * fu36 + 0 * fu104 + 0 * 103 + 0) ⟨by omega, by omega⟩ (lp127 103 _ 0 (by omega) (by omega) (by omega) (hM.toP (fun a a0 a1 => by unfold cpK; rw [if_neg (by omega)])))
                  · skip
                    refine xr_goto (tgt := 183) dX4_execute_122 (by decide) ?_
                    refine xr_iinc (lv' := [some _, some _, some _, none]) dX4_execute_183 rfl (by decide) rfl rfl ?_
                    refine xr_goto (tgt := 104) dX4_execute_186 (by decide) ?_
                    refine xr_lv (lvw_s (lvw_s (lvw_n (lvw_n (lvw_nil))))) ?_
                    have hok : cA c P7 = true ∧ (cR c P7).1 = 0 ∧ P1' = cO c P7 := by
                      rcases hdc with ⟨-, q1, -⟩ | ⟨-, q1, q2, -⟩ | ⟨q0, q1, -, q3⟩
                      · omega
                      · omega
                      · exact ⟨q0, q1, q3⟩
                    refine xr_wk (rc' := 0 * fu36 + 0 * fu104 + 0) (rs' := 0 * fu36 + 0 * fu104 + 0) ⟨by omega, by omega⟩ (ih104 _ F1' P1' (i + 1) (by omega) (by omega) hM (fun a b1 b2 => (hfk a b1 b2).trans (hf7 a b1 b2)) (by rw [hok.2.2]; exact (PB_act hB7 (by omega) hok.1 hok.2.1).mono (by omega)) (by rw [hok.2.2]; exact PCon_act hB7 (by omega) hC7 hok.1 hok.2.1) (by rw [← hr7, hdr, rAll, if_neg (by rw [hok.1]; decide), if_neg (by rw [hok.2.1]; decide), hok.2.2]; rfl))
            refine xr_wk (rc' := 0 * fu36 + 0 * 12 + 0) (rs' := 0 * fu36 + 0 * 12 + 0) ⟨by omega, by omega⟩ (lp104 12 _ F9 P 0 (by omega) (by omega) hM (fun _ _ _ => rfl) (by rw [show N + 13000 * ((0 : Nat) : Int) = N by omega]; exact hB) hC rfl)
          · skip
            refine xr_aload_n dX4_execute_88 rfl (by first | rfl | exact isRef_rf _) ?_
            refine xr_aload_n dX4_execute_89 rfl (by first | rfl | exact isRef_rf _) ?_
            refine xr_getfield (ci := 14) (T := TX4) (N := 23) (i := 19) hM.1.1 rfl (by decide) in_X4 q2210 (.inl rfl) dX4_execute_90 (by rfl) ?_
            rw [r2]
            refine xr_putfield (ci := 14) (T := TX4) (N := 23) (i := 13) (fs' := [_, _, _, _, _, _, _, _, _, _, _, _, _, _, _, _, _, _, _, _, _, _, _]) hM.1.1 rfl (by decide) in_X4 tyX4 tyX4_ok nmX4 q2204 (.inl rfl) rfl dX4_execute_93 (by rfl) (by rfl) (by simp) (by rfl) (.inl rfl) (fun _ => ?_)
            refine xr_mput (i := 13) hM (by rfl) (fun w93 hM => ?_)
            refine xr_aload_n dX4_execute_96 rfl (by first | rfl | exact isRef_rf _) ?_
            refine xr_iconst dX4_execute_97 ?_
            refine xr_callV (n9 := 1) (rc' := 0 * fu36 + 0) (rs' := 0 * fu36 + 0) (k_M_fails hG hM.1) hM.1.1 rfl q2311 q2313 qs46 q96 q2314 (by decide +kernel) rfl ⟨by decide, Nat.le_of_ble_eq_true rfl⟩ ⟨by omega, by omega⟩ (Nat.le_of_ble_eq_true rfl) dX4_execute_98 rfl (fun r w98 hw => ?_) (fun _ _ _ h => h.elim)
            obtain ⟨rfl, hw⟩ := hw
            have hM := hM.tr hw
            refine xr_ireturn rfl rfl dX4_execute_101 ?_
            rw [hpo]
            have q0 : ∀ i : Int, i ≠ 0 → i ≠ 11 → i ≠ 19 → i ≠ 20 → i ≠ 21 → i ≠ 22 → F9 i = F i := fun i a1 a2 a3 a4 a5 a6 => (hk9f i a3 a5 a6).trans (h5 i a1 a2 a3 a4 a5 a6)
            have q11 : F9 11 = 0 := (hk9f 11 (by decide) (by decide) (by decide)).trans h511
            have q9C : ∀ j : Int, j ≠ 2 → j ≠ 9 → C9 j = C j := fun j a1 a2 => (hk9c j a2).trans (hCn j a1)
            have q2C : C9 2 = P := (hk9c 2 (by decide)).trans hC2
            have hpa : pAll I.2 I.1 = .inl o9 := by
              rcases hri with ⟨o2, q1, q2⟩ | ⟨o2, q1, q2, -, q4, q5⟩
              · rw [hx9] at q1
                first
                  | (cases q1; exact q2)
                  | cases q1
              · rw [hx9] at q1
                first
                  | (cases q1
                     rw [← q2]
                     obtain ⟨f', hf'⟩ : ∃ f', f = f' + 1 := ⟨f - 1, by omega⟩
                     rw [hf', pRest, if_pos (by omega), show pExp I.2 I.1 59 o9 = .inl o9 from if_neg hcu]
                     rfl)
                  | cases q1
            obtain ⟨a1, a2, a3, a4, a5, a6⟩ := hS
            refine ⟨_, rfl, hM.2, Or.inl ⟨o9, hpa, by omega, _, _, hM.1, updI_eq, ?_⟩⟩
            have q0' : ∀ i : Int, i ≠ 0 → i ≠ 11 → i ≠ 13 → i ≠ 19 → i ≠ 20 → i ≠ 21 → i ≠ 22 → updI (updI F9 13 o9) 0 1 i = F i := fun i b1 b2 b3 b4 b5 b6 b7 => (updI_ne b1).trans ((updI_ne b3).trans (q0 i b1 b2 b4 b5 b6 b7))
            refine ⟨?_, ?_, ⟨?_, Nat.zero_le _, fun i i0 i1' => ?_⟩, ?_, ?_, ?_⟩
            · unfold HC at *; rw [q0' 6 (by decide) (by decide) (by decide) (by decide) (by decide) (by decide) (by decide), q9C 4 (by decide) (by decide)]; exact a1
            · unfold SC at *; rw [q0' 7 (by decide) (by decide) (by decide) (by decide) (by decide) (by decide) (by decide), q9C 3 (by decide) (by decide)]; exact a2
            · rw [updI_ne (by decide), updI_ne (by decide), q11]; rfl
            · have i1' : i < ((0 : Nat) : Int) := i1'; omega
            · rw [q0' 12 (by decide) (by decide) (by decide) (by decide) (by decide) (by decide) (by decide), q9C 10 (by decide) (by decide)]; exact a4
            · exact Or.inr ⟨o9, rfl, r6.1, by omega, by rw [updI_ne (by decide), updI_eq]⟩
            · unfold RC at *; rw [q0' 14 (by decide) (by decide) (by decide) (by decide) (by decide) (by decide) (by decide), q0' 15 (by decide) (by decide) (by decide) (by decide) (by decide) (by decide) (by decide), q0' 16 (by decide) (by decide) (by decide) (by decide) (by decide) (by decide) (by decide)]; exact a6
      · skip
        have hx9 : x9 = .inr o9 := by
          rcases hoe with ⟨q1, q2⟩ | ⟨q1, q2⟩
          · omega
          · exact q2
        refine xr_aload_n dX4_execute_43 rfl (by first | rfl | exact isRef_rf _) ?_
        refine xr_iconst dX4_execute_44 ?_
        refine xr_callV (n9 := 1) (rc' := 0 * fu36 + 0) (rs' := 0 * fu36 + 0) (k_M_here hG hM.1 hD (by omega)) hM.1.1 rfl q2672 q2674 qs80 q96 q2675 (by decide +kernel) rfl ⟨by decide, Nat.le_of_ble_eq_true rfl⟩ ⟨by omega, by omega⟩ (Nat.le_of_ble_eq_true rfl) dX4_execute_45 rfl (xk_r ?_) (fun _ _ _ h => h.elim)
        rw [Int.add_zero]
        have hhr : -1 ≤ hereT I.2 I.1 o9 ∧ hereT I.2 I.1 o9 ≤ 126 := by
          unfold hereT
          split
          · have := (r7 o9 (by omega) (by omega)).2; omega
          · omega
        refine xr_bipush dX4_execute_48 (by decide) ?_
        refine xr_icmp_ne (tgt := 70) dX4_execute_50 (by decide) (by omega) (fun c50 => ?_) (fun c50 => ?_)
        · skip
          have hcu : curT I.2 I.1 o9 ≠ 59 := fun q9 => by have := (hereT_cur (T := I.2) (n := I.1) (o := o9) (by decide : (0 : Int) < 59)).mpr q9; omega
          refine xr_aload_n dX4_execute_70 rfl (by first | rfl | exact isRef_rf _) ?_
          refine xr_getfield (ci := 14) (T := TX4) (N := 23) (i := 22) hM.1.1 rfl (by decide) in_X4 q2213 (.inl rfl) dX4_execute_71 (by rfl) ?_
          rw [r3]
          refine xr_if_ne (tgt := 88) dX4_execute_74 (by decide) (by omega) (fun c74 => ?_) (fun c74 => ?_)
          · skip
            refine xr_aload_n dX4_execute_88 rfl (by first | rfl | exact isRef_rf _) ?_
            refine xr_aload_n dX4_execute_89 rfl (by first | rfl | exact isRef_rf _) ?_
            refine xr_getfield (ci := 14) (T := TX4) (N := 23) (i := 19) hM.1.1 rfl (by decide) in_X4 q2210 (.inl rfl) dX4_execute_90 (by rfl) ?_
            rw [r2]
            refine xr_putfield (ci := 14) (T := TX4) (N := 23) (i := 13) (fs' := [_, _, _, _, _, _, _, _, _, _, _, _, _, _, _, _, _, _, _, _, _, _, _]) hM.1.1 rfl (by decide) in_X4 tyX4 tyX4_ok nmX4 q2204 (.inl rfl) rfl dX4_execute_93 (by rfl) (by rfl) (by simp) (by rfl) (.inl rfl) (fun _ => ?_)
            refine xr_mput (i := 13) hM (by rfl) (fun w93 hM => ?_)
            refine xr_aload_n dX4_execute_96 rfl (by first | rfl | exact isRef_rf _) ?_
            refine xr_iconst dX4_execute_97 ?_
            refine xr_callV (n9 := 1) (rc' := 0 * fu36 + 0) (rs' := 0 * fu36 + 0) (k_M_fails hG hM.1) hM.1.1 rfl q2311 q2313 qs46 q96 q2314 (by decide +kernel) rfl ⟨by decide, Nat.le_of_ble_eq_true rfl⟩ ⟨by omega, by omega⟩ (Nat.le_of_ble_eq_true rfl) dX4_execute_98 rfl (fun r w98 hw => ?_) (fun _ _ _ h => h.elim)
            obtain ⟨rfl, hw⟩ := hw
            have hM := hM.tr hw
            refine xr_ireturn rfl rfl dX4_execute_101 ?_
            rw [hpo]
            have q0 : ∀ i : Int, i ≠ 0 → i ≠ 11 → i ≠ 19 → i ≠ 20 → i ≠ 21 → i ≠ 22 → F9 i = F i := fun i a1 a2 a3 a4 a5 a6 => (hk9f i a3 a5 a6).trans (h5 i a1 a2 a3 a4 a5 a6)
            have q11 : F9 11 = 0 := (hk9f 11 (by decide) (by decide) (by decide)).trans h511
            have q9C : ∀ j : Int, j ≠ 2 → j ≠ 9 → C9 j = C j := fun j a1 a2 => (hk9c j a2).trans (hCn j a1)
            have q2C : C9 2 = P := (hk9c 2 (by decide)).trans hC2
            have hpa : pAll I.2 I.1 = .inl o9 := by
              rcases hri with ⟨o2, q1, q2⟩ | ⟨o2, q1, q2, -, q4, q5⟩
              · rw [hx9] at q1
                first
                  | (cases q1; exact q2)
                  | cases q1
              · rw [hx9] at q1
                first
                  | (cases q1
                     rw [← q2]
                     obtain ⟨f', hf'⟩ : ∃ f', f = f' + 1 := ⟨f - 1, by omega⟩
                     rw [hf', pRest, if_pos (by omega), show pExp I.2 I.1 59 o9 = .inl o9 from if_neg hcu]
                     rfl)
                  | cases q1
            obtain ⟨a1, a2, a3, a4, a5, a6⟩ := hS
            refine ⟨_, rfl, hM.2, Or.inl ⟨o9, hpa, by omega, _, _, hM.1, updI_eq, ?_⟩⟩
            have q0' : ∀ i : Int, i ≠ 0 → i ≠ 11 → i ≠ 13 → i ≠ 19 → i ≠ 20 → i ≠ 21 → i ≠ 22 → updI (updI F9 13 o9) 0 1 i = F i := fun i b1 b2 b3 b4 b5 b6 b7 => (updI_ne b1).trans ((updI_ne b3).trans (q0 i b1 b2 b4 b5 b6 b7))
            refine ⟨?_, ?_, ⟨?_, Nat.zero_le _, fun i i0 i1' => ?_⟩, ?_, ?_, ?_⟩
            · unfold HC at *; rw [q0' 6 (by decide) (by decide) (by decide) (by decide) (by decide) (by decide) (by decide), q9C 4 (by decide) (by decide)]; exact a1
            · unfold SC at *; rw [q0' 7 (by decide) (by decide) (by decide) (by decide) (by decide) (by decide) (by decide), q9C 3 (by decide) (by decide)]; exact a2
            · rw [updI_ne (by decide), updI_ne (by decide), q11]; rfl
            · have i1' : i < ((0 : Nat) : Int) := i1'; omega
            · rw [q0' 12 (by decide) (by decide) (by decide) (by decide) (by decide) (by decide) (by decide), q9C 10 (by decide) (by decide)]; exact a4
            · exact Or.inr ⟨o9, rfl, r6.1, by omega, by rw [updI_ne (by decide), updI_eq]⟩
            · unfold RC at *; rw [q0' 14 (by decide) (by decide) (by decide) (by decide) (by decide) (by decide) (by decide), q0' 15 (by decide) (by decide) (by decide) (by decide) (by decide) (by decide) (by decide), q0' 16 (by decide) (by decide) (by decide) (by decide) (by decide) (by decide) (by decide)]; exact a6
          · skip
            refine xr_aload_n dX4_execute_77 rfl (by first | rfl | exact isRef_rf _) ?_
            refine xr_getfield (ci := 14) (T := TX4) (N := 23) (i := 19) hM.1.1 rfl (by decide) in_X4 q2210 (.inl rfl) dX4_execute_78 (by rfl) ?_
            rw [r2]
            refine xr_aload_n dX4_execute_81 rfl (by first | rfl | exact isRef_rf _) ?_
            refine xr_getfield (ci := 14) (T := TX4) (N := 23) (i := 20) hM.1.1 rfl (by decide) in_X4 q2211 (.inl rfl) dX4_execute_82 (by rfl) ?_
            rw [r1]
            refine xr_icmp_ge (tgt := 102) dX4_execute_85 (by decide) (by omega) (fun c85 => ?_) (fun c85 => ?_)
            · skip
              have hpc : pAll I.2 I.1 = .inr cs ∧ (∀ (i : Nat) (c : Cm), cs[i]? = some c → TL (C9 9) i c ∧ cmS c) ∧ cs.length = k9 ∧ 6 * (cs.length : Int) ≤ o9 + 1 := by
                rcases hri with ⟨o2, q1, q2⟩ | ⟨o2, q1, q2, q3, q4, q5⟩
                · first
                    | (exfalso; omega)
                    | (rw [hx9] at q1; cases q1)
                · first
                    | (exfalso; omega)
                    | (rw [hx9] at q1
                       cases q1
                       obtain ⟨f', hf'⟩ : ∃ f', f = f' + 1 := ⟨f - 1, by omega⟩
                       rw [hf', pRest, if_neg (by omega)] at q2
                       exact ⟨q2.symm, q3, q5, q4⟩)
              obtain ⟨hpa, hcs, hck, hcb⟩ := hpc
              refine xr_iconst dX4_execute_102 ?_
              refine xr_istore_n (lv' := [some _, some _, none, none]) dX4_execute_103 (by decide) rfl rfl ?_
              refine xr_lv (lvw_s (lvw_s (lvw_n (lvw_n (lvw_nil))))) ?_
              have lp104 : ∀ (fu104 : Nat) (w7 : WW) (F7 P7 : Int → Int) (i : Nat), i ≤ cs.length → cs.length < fu104 + i → MDF (zg z) w w7 m A F7 P7 C9 → (∀ a : Int, a ≠ 17 → a ≠ 18 → F7 a = F9 a) → PB P7 (N + 13000 * i) → PCon P7 → rAll (cs.drop i) i P7 = rAll cs 0 P → XJ z yX4_execute.cls cX4_execute 4 (some .int) 8 176 w7 (0 * fu36 + 0 * fu104 + 0) (0 * fu36 + 0 * fu104 + 0) 104 [some (.ref m), some (.int (iI i)), none, none] [] := by
                intro fu104
                induction fu104 with
                | zero =>
                  intro w7 F7 P7 i hil hfu7 hM hf7 hB7 hC7 hr7
                  omega
                | succ fu104 ih104 =>
                  intro w7 F7 P7 i hil hfu7 hM hf7 hB7 hC7 hr7
                  refine xr_iload_n dX4_execute_104 rfl ?_
                  refine xr_aload_n dX4_execute_105 rfl (by first | rfl | exact isRef_rf _) ?_
                  refine xr_getfield (ci := 14) (T := TX4) (N := 23) (i := 21) hM.1.1 rfl (by decide) in_X4 q2212 (.inl rfl) dX4_execute_106 (by rfl) ?_
                  rw [hf7 21 (by decide) (by decide), r4]
                  refine xr_icmp_ge (tgt := 189) dX4_execute_109 (by decide) (by omega) (fun c109 => ?_) (fun c109 => ?_)
                  · skip
                    refine xr_aload_n dX4_execute_189 rfl (by first | rfl | exact isRef_rf _) ?_
                    refine xr_aload_n dX4_execute_190 rfl (by first | rfl | exact isRef_rf _) ?_
                    refine xr_getfield (ci := 14) (T := TX4) (N := 23) (i := 21) hM.1.1 rfl (by decide) in_X4 q2212 (.inl rfl) dX4_execute_191 (by rfl) ?_
                    rw [hf7 21 (by decide) (by decide), r4, ← hck]
                    refine xr_callV (n9 := 1) (rc' := 0 * fu36 + 0 * fu104 + 0) (rs' := 0 * fu36 + 0 * fu104 + 0) (k_M_changed hG hM.1 (by rw [hf7 6 (by decide) (by decide), hk9f 6 (by decide) (by decide) (by decide), h5 6 (by decide) (by decide) (by decide) (by decide) (by decide) (by decide)]; exact h68)) hM.1.1 rfl q2307 q2309 qs45 q96 q2310 (by decide +kernel) rfl ⟨by decide, Nat.le_of_ble_eq_true rfl⟩ ⟨by omega, by omega⟩ (Nat.le_of_ble_eq_true rfl) dX4_execute_194 rfl (fun r w194 hw => ?_) (fun _ _ _ h => h.elim)
                    obtain ⟨F2, C2, rfl, hw, hch⟩ := hw
                    have hM := hM.tr hw
                    show XJ _ _ _ _ _ _ _ _ _ _ _ _ [.int (iI cs.length)]
                    refine xr_ireturn rfl rfl dX4_execute_197 ?_
                    rw [hpo]
                    have q0 : ∀ i : Int, i ≠ 0 → i ≠ 11 → i ≠ 19 → i ≠ 20 → i ≠ 21 → i ≠ 22 → F9 i = F i := fun i a1 a2 a3 a4 a5 a6 => (hk9f i a3 a5 a6).trans (h5 i a1 a2 a3 a4 a5 a6)
                    have q11 : F9 11 = 0 := (hk9f 11 (by decide) (by decide) (by decide)).trans h511
                    have q9C : ∀ j : Int, j ≠ 2 → j ≠ 9 → C9 j = C j := fun j a1 a2 => (hk9c j a2).trans (hCn j a1)
                    have q2C : C9 2 = P := (hk9c 2 (by decide)).trans hC2
                    have hil : i = cs.length := by omega
                    have hra : rAll cs 0 P = .inr P7 := by rw [← hr7, hil, List.drop_length]; rfl
                    have q7 : ∀ i : Int, i ≠ 0 → i ≠ 11 → i ≠ 17 → i ≠ 18 → i ≠ 19 → i ≠ 20 → i ≠ 21 → i ≠ 22 → F7 i = F i := fun i b1 b2 b3 b4 b5 b6 b7 b8 => (hf7 i b3 b4).trans (q0 i b1 b2 b5 b6 b7 b8)
                    obtain ⟨a1, a2, a3, a4, a5, a6⟩ := hS
                    have hH7 : HC F7 C9 H := by unfold HC at *; rw [q7 6 (by decide) (by decide) (by decide) (by decide) (by decide) (by decide) (by decide) (by decide), q9C 4 (by decide) (by decide)]; exact a1
                    have hpush := HC_push hH7 hch q2C
                    obtain ⟨hh, K5, hDD, hF2, hC2'⟩ := hch
                    have q2F : ∀ i : Int, i ≠ 6 → F2 i = F7 i := fun i hi => by rw [hF2]; exact updI_ne hi
                    have q2D : ∀ j : Int, j ≠ 4 → C2 j = C9 j := fun j hj => by rw [hC2']; exact updC_ne hj
                    refine ⟨_, rfl, hM.2, Or.inr (Or.inr (Or.inr ⟨cs, P7, hpa, hra, rfl, F2, C2, hM.1, ?_, hpush, ?_, ⟨?_, Nat.zero_le _, fun i i0 i1' => ?_⟩, ?_, ?_, ?_⟩))⟩
                    · rw [q2F 0 (by decide), hf7 0 (by decide) (by decide), hk9f 0 (by decide) (by decide) (by decide), h50]
                    · unfold SC at *; rw [q2F 7 (by decide), q7 7 (by decide) (by decide) (by decide) (by decide) (by decide) (by decide) (by decide) (by decide), q2D 3 (by decide), q9C 3 (by decide) (by decide)]; exact a2
                    · rw [q2F 11 (by decide), hf7 11 (by decide) (by decide), q11]; rfl
                    · have i1' : i < ((0 : Nat) : Int) := i1'; omega
                    · rw [q2F 12 (by decide), q7 12 (by decide) (by decide) (by decide) (by decide) (by decide) (by decide) (by decide) (by decide), q2D 10 (by decide), q9C 10 (by decide) (by decide)]; exact a4
                    · rw [q2F 13 (by decide), q7 13 (by decide) (by decide) (by decide) (by decide) (by decide) (by decide) (by decide) (by decide)]; exact a5
                    · unfold RC at *; rw [q2F 14 (by decide), q2F 15 (by decide), q2F 16 (by decide), q7 14 (by decide) (by decide) (by decide) (by decide) (by decide) (by decide) (by decide) (by decide), q7 15 (by decide) (by decide) (by decide) (by decide) (by decide) (by decide) (by decide) (by decide), q7 16 (by decide) (by decide) (by decide) (by decide) (by decide) (by decide) (by decide) (by decide)]; exact a6
                  · skip
                    obtain ⟨c, hc⟩ : ∃ c, cs[i]? = some c := ⟨cs[i]'(by omega), List.getElem?_eq_getElem (by omega)⟩
                    obtain ⟨hTL, hcm⟩ := hcs i c hc
                    have hdr : cs.drop i = c :: cs.drop (i + 1) := by
                      obtain ⟨q1, q2⟩ := List.getElem?_eq_some_iff.mp hc
                      rw [← q2]; exact List.drop_eq_getElem_cons q1
                    refine xr_aload_n dX4_execute_112 rfl (by first | rfl | exact isRef_rf _) ?_
                    refine xr_iload_n dX4_execute_113 rfl ?_
                    refine xr_callV (n9 := 1) (rc' := 0 * fu36 + 0 * fu104 + 0) (rs' := 0 * fu36 + 0 * fu104 + 0) (k_M_does hG hM.1 hB7 hC7 (by omega) hTL hcm (by omega)) hM.1.1 rfl q2701 q2703 qs84 q96 q2704 (by decide +kernel) rfl ⟨by decide, Nat.le_of_ble_eq_true rfl⟩ ⟨by omega, by omega⟩ (Nat.le_of_ble_eq_true rfl) dX4_execute_114 rfl (fun r w114 hw => ?_) (fun _ _ _ h => h.elim)
                    obtain ⟨r, F1', P1', rfl, hw, hDC⟩ := hw
                    have hM := hM.tr hw
                    obtain ⟨hdc, hrb, hfk⟩ := hDC
                    show XJ _ _ _ _ _ _ _ _ _ _ _ _ [.int (iI r)]
                    refine xr_istore_n (lv' := [some _, some _, some _, none]) dX4_execute_117 (by decide) rfl rfl ?_
                    refine xr_iload_n dX4_execute_118 rfl ?_
                    refine xr_if_ne (tgt := 125) dX4_execute_119 (by decide) (by omega) (fun c119 => ?_) (fun c119 => ?_)
                    · skip
                      refine xr_iconst dX4_execute_125 ?_
                      refine xr_istore_n (lv' := [some _, some _, some _, some _]) dX4_execute_126 (by decide) rfl rfl ?_
                      have lp127 : ∀ (fu127 : Nat) (w8 : WW) (j : Int), 0 ≤ j → j ≤ 102 → 102 - j < fu127 → MDF (zg z) w w8 m A F1' (cpK (C9 2) P1' j) C9 → XJ z yX4_execute.cls cX4_execute 4 (some .int) 8 176 w8 (0 * fu36 + 0 * fu104 + 0 * fu127 + 0) (0 * fu36 + 0 * fu104 + 0 * fu127 + 0) 127 [some (.ref m), some (.int (iI i)), some (.int (iI r)), some (.int (iI j))] [] := by
                        intro fu127
                        induction fu127 with
                        | zero =>
                          intro w8 j hj0 hj1 hfu8 hM
                          omega
                        | succ fu127 ih127 =>
                          intro w8 j hj0 hj1 hfu8 hM
                          refine xr_iload_n dX4_execute_127 rfl ?_
                          refine xr_bipush dX4_execute_128 (by decide) ?_
                          refine xr_icmp_ge (tgt := 151) dX4_execute_130 (by decide) (by omega) (fun c130 => ?_) (fun c130 => ?_)
                          · skip
                            refine xr_iload_n dX4_execute_151 rfl ?_
                            refine xr_if_ge (tgt := 161) dX4_execute_152 (by decide) (by omega) (fun c152 => ?_) (fun c152 => ?_)
                            · skip
                              refine xr_aload_n dX4_execute_161 rfl (by first | rfl | exact isRef_rf _) ?_
                              refine xr_bipush dX4_execute_162 (by decide) ?_
                              refine xr_putfield (ci := 14) (T := TX4) (N := 23) (i := 14) (fs' := [_, _, _, _, _, _, _, _, _, _, _, _, _, _, _, _, _, _, _, _, _, _, _]) hM.1.1 rfl (by decide) in_X4 tyX4 tyX4_ok nmX4 q2205 (.inl rfl) rfl dX4_execute_164 (by rfl) (by rfl) (by simp) (by rfl) (.inl rfl) (fun _ => ?_)
                              refine xr_mput (i := 14) hM (by rfl) (fun w164 hM => ?_)
                              refine xr_aload_n dX4_execute_167 rfl (by first | rfl | exact isRef_rf _) ?_
                              refine xr_iload_n dX4_execute_168 rfl ?_
                              refine xr_putfield (ci := 14) (T := TX4) (N := 23) (i := 15) (fs' := [_, _, _, _, _, _, _, _, _, _, _, _, _, _, _, _, _, _, _, _, _, _, _]) hM.1.1 rfl (by decide) in_X4 tyX4 tyX4_ok nmX4 q2206 (.inl rfl) rfl dX4_execute_169 (by rfl) (by rfl) (by simp) (by rfl) (.inl rfl) (fun _ => ?_)
                              refine xr_mput (i := 15) hM (by rfl) (fun w169 hM => ?_)
                              refine xr_aload_n dX4_execute_172 rfl (by first | rfl | exact isRef_rf _) ?_
                              refine xr_iload_n dX4_execute_173 rfl ?_
                              refine xr_putfield (ci := 14) (T := TX4) (N := 23) (i := 16) (fs' := [_, _, _, _, _, _, _, _, _, _, _, _, _, _, _, _, _, _, _, _, _, _, _]) hM.1.1 rfl (by decide) in_X4 tyX4 tyX4_ok nmX4 q2207 (.inl rfl) rfl dX4_execute_174 (by rfl) (by rfl) (by simp) (by rfl) (.inl rfl) (fun _ => ?_)
                              refine xr_mput (i := 16) hM (by rfl) (fun w174 hM => ?_)
                              refine xr_aload_n dX4_execute_177 rfl (by first | rfl | exact isRef_rf _) ?_
                              refine xr_iconst dX4_execute_178 ?_
                              refine xr_callV (n9 := 1) (rc' := 0 * fu36 + 0 * fu104 + 0 * fu127 + 0) (rs' := 0 * fu36 + 0 * fu104 + 0 * fu127 + 0) (k_M_fails hG hM.1) hM.1.1 rfl q2311 q2313 qs46 q96 q2314 (by decide +kernel) rfl ⟨by decide, Nat.le_of_ble_eq_true rfl⟩ ⟨by omega, by omega⟩ (Nat.le_of_ble_eq_true rfl) dX4_execute_179 rfl (fun r w179 hw => ?_) (fun _ _ _ h => h.elim)
                              obtain ⟨rfl, hw⟩ := hw
                              have hM := hM.tr hw
                              refine xr_ireturn rfl rfl dX4_execute_182 ?_
                              rw [hpo]
                              have q0 : ∀ i : Int, i ≠ 0 → i ≠ 11 → i ≠ 19 → i ≠ 20 → i ≠ 21 → i ≠ 22 → F9 i = F i := fun i a1 a2 a3 a4 a5 a6 => (hk9f i a3 a5 a6).trans (h5 i a1 a2 a3 a4 a5 a6)
                              have q11 : F9 11 = 0 := (hk9f 11 (by decide) (by decide) (by decide)).trans h511
                              have q9C : ∀ j : Int, j ≠ 2 → j ≠ 9 → C9 j = C j := fun j a1 a2 => (hk9c j a2).trans (hCn j a1)
                              have q2C : C9 2 = P := (hk9c 2 (by decide)).trans hC2
                              have hj : j = 102 := by omega
                              have hM := hM.toP (P' := P) (fun i i0 i1' => by unfold cpK; rw [if_pos (by omega), q2C])
                              have hcA : cA c P7 = true ∧ 0 < (cR c P7).1 ∧ r = (cR c P7).1 := by
                                rcases hdc with ⟨-, q1, -⟩ | ⟨q0, q1, q2, -⟩ | ⟨-, -, q2, -⟩
                                · omega
                                · exact ⟨q0, q1, q2⟩
                                · omega
                              have hra : rAll cs 0 P = .inl (3, i, r) := by rw [← hr7, hdr, rAll, if_neg (by rw [hcA.1]; decide), if_pos (by omega), hcA.2.2]
                              have q7 : ∀ i' : Int, i' ≠ 0 → i' ≠ 11 → i' ≠ 14 → i' ≠ 15 → i' ≠ 16 → i' ≠ 17 → i' ≠ 18 → i' ≠ 19 → i' ≠ 20 → i' ≠ 21 → i' ≠ 22 → updI (updI (updI (updI F1' 14 12) 15 i) 16 r) 0 3 i' = F i' := fun i' b1 b2 b9 b10 b11 b3 b4 b5 b6 b7 b8 => (updI_ne b1).trans ((updI_ne b11).trans ((updI_ne b10).trans ((updI_ne b9).trans ((hfk i' b3 b4).trans ((hf7 i' b3 b4).trans (q0 i' b1 b2 b5 b6 b7 b8))))))
                              obtain ⟨a1, a2, a3, a4, a5, a6⟩ := hS
                              refine ⟨_, rfl, hM.2, Or.inr (Or.inr (Or.inl ⟨cs, i, r, hpa, hra, _, _, hM.1, updI_eq, ?_⟩))⟩
                              refine ⟨?_, ?_, ⟨?_, Nat.zero_le _, fun i' i0 i1' => ?_⟩, ?_, ?_, Or.inr ⟨_, rfl, by dsimp only; omega, ?_, ?_, ?_⟩⟩
                              · unfold HC at *; rw [q7 6 (by decide) (by decide) (by decide) (by decide) (by decide) (by decide) (by decide) (by decide) (by decide) (by decide) (by decide), q9C 4 (by decide) (by decide)]; exact a1
                              · unfold SC at *; rw [q7 7 (by decide) (by decide) (by decide) (by decide) (by decide) (by decide) (by decide) (by decide) (by decide) (by decide) (by decide), q9C 3 (by decide) (by decide)]; exact a2
                              · rw [updI_ne (by decide), updI_ne (by decide), updI_ne (by decide), updI_ne (by decide), hfk 11 (by decide) (by decide), hf7 11 (by decide) (by decide), q11]; rfl
                              · have i1' : i' < ((0 : Nat) : Int) := i1'; omega
                              · rw [q7 12 (by decide) (by decide) (by decide) (by decide) (by decide) (by decide) (by decide) (by decide) (by decide) (by decide) (by decide), q9C 10 (by decide) (by decide)]; exact a4
                              · rw [q7 13 (by decide) (by decide) (by decide) (by decide) (by decide) (by decide) (by decide) (by decide) (by decide) (by decide) (by decide)]; exact a5
                              · rw [updI_ne (by decide), updI_ne (by decide), updI_ne (by decide), updI_eq]
                              · rw [updI_ne (by decide), updI_ne (by decide), updI_eq]
                              · rw [updI_ne (by decide), updI_eq]
                            · skip
                              refine xr_aload_n dX4_execute_155 rfl (by first | rfl | exact isRef_rf _) ?_
                              refine xr_iconst dX4_execute_156 ?_
                              refine xr_callV (n9 := 1) (rc' := 0 * fu36 + 0 * fu104 + 0 * fu127 + 0) (rs' := 0 * fu36 + 0 * fu104 + 0 * fu127 + 0) (k_M_fails hG hM.1) hM.1.1 rfl q2311 q2313 qs46 q96 q2314 (by decide +kernel) rfl ⟨by decide, Nat.le_of_ble_eq_true rfl⟩ ⟨by omega, by omega⟩ (Nat.le_of_ble_eq_true rfl) dX4_execute_157 rfl (fun r w157 hw => ?_) (fun _ _ _ h => h.elim)
                              obtain ⟨rfl, hw⟩ := hw
                              have hM := hM.tr hw
                              refine xr_ireturn rfl rfl dX4_execute_160 ?_
                              rw [hpo]
                              have q0 : ∀ i : Int, i ≠ 0 → i ≠ 11 → i ≠ 19 → i ≠ 20 → i ≠ 21 → i ≠ 22 → F9 i = F i := fun i a1 a2 a3 a4 a5 a6 => (hk9f i a3 a5 a6).trans (h5 i a1 a2 a3 a4 a5 a6)
                              have q11 : F9 11 = 0 := (hk9f 11 (by decide) (by decide) (by decide)).trans h511
                              have q9C : ∀ j : Int, j ≠ 2 → j ≠ 9 → C9 j = C j := fun j a1 a2 => (hk9c j a2).trans (hCn j a1)
                              have q2C : C9 2 = P := (hk9c 2 (by decide)).trans hC2
                              have hj : j = 102 := by omega
                              have hM := hM.toP (P' := P) (fun i i0 i1' => by unfold cpK; rw [if_pos (by omega), q2C])
                              have hcA : cA c P7 = false := by
                                rcases hdc with ⟨q1, -⟩ | ⟨-, q1, q2, -⟩ | ⟨-, -, q2, -⟩
                                · exact q1
                                · omega
                                · omega
                              have hra : rAll cs 0 P = .inl (2, 0, 0) := by rw [← hr7, hdr, rAll, if_pos hcA]
                              have q7 : ∀ i : Int, i ≠ 0 → i ≠ 11 → i ≠ 17 → i ≠ 18 → i ≠ 19 → i ≠ 20 → i ≠ 21 → i ≠ 22 → updI F1' 0 2 i = F i := fun i b1 b2 b3 b4 b5 b6 b7 b8 => (updI_ne b1).trans ((hfk i b3 b4).trans ((hf7 i b3 b4).trans (q0 i b1 b2 b5 b6 b7 b8)))
                              obtain ⟨a1, a2, a3, a4, a5, a6⟩ := hS
                              refine ⟨_, rfl, hM.2, Or.inr (Or.inl ⟨cs, 0, 0, hpa, hra, _, _, hM.1, updI_eq, ?_⟩)⟩
                              refine ⟨?_, ?_, ⟨?_, Nat.zero_le _, fun i i0 i1' => ?_⟩, ?_, ?_, ?_⟩
                              · unfold HC at *; rw [q7 6 (by decide) (by decide) (by decide) (by decide) (by decide) (by decide) (by decide) (by decide), q9C 4 (by decide) (by decide)]; exact a1
                              · unfold SC at *; rw [q7 7 (by decide) (by decide) (by decide) (by decide) (by decide) (by decide) (by decide) (by decide), q9C 3 (by decide) (by decide)]; exact a2
                              · rw [updI_ne (by decide), hfk 11 (by decide) (by decide), hf7 11 (by decide) (by decide), q11]; rfl
                              · have i1' : i < ((0 : Nat) : Int) := i1'; omega
                              · rw [q7 12 (by decide) (by decide) (by decide) (by decide) (by decide) (by decide) (by decide) (by decide), q9C 10 (by decide) (by decide)]; exact a4
                              · rw [q7 13 (by decide) (by decide) (by decide) (by decide) (by decide) (by decide) (by decide) (by decide)]; exact a5
                              · unfold RC at *; rw [q7 14 (by decide) (by decide) (by decide) (by decide) (by decide) (by decide) (by decide) (by decide), q7 15 (by decide) (by decide) (by decide) (by decide) (by decide) (by decide) (by decide) (by decide), q7 16 (by decide) (by decide) (by decide) (by decide) (by decide) (by decide) (by decide) (by decide)]; exact a6
                          · skip
                            refine xr_aload_n dX4_execute_133 rfl (by first | rfl | exact isRef_rf _) ?_
                            refine xr_getfield (ci := 14) (T := TX4) (N := 23) (i := 1) hM.1.1 rfl (by decide) in_X4 q2192 (.inl rfl) dX4_execute_134 (by rfl) ?_
                            refine xr_iload_n dX4_execute_137 rfl ?_
                            refine xr_aload_n dX4_execute_138 rfl (by first | rfl | exact isRef_rf _) ?_
                            refine xr_getfield (ci := 14) (T := TX4) (N := 23) (i := 2) hM.1.1 rfl (by decide) in_X4 q2193 (.inl rfl) dX4_execute_139 (by rfl) ?_
                            refine xr_iload_n dX4_execute_142 rfl ?_
                            refine xr_iaload (hM.1.2.2.1 2 (by decide)) (show (0 : Int) ≤ _ ∧ _ < ((102 : Nat) : Int) from by omega) (by decide) dX4_execute_143 ?_
                            refine xr_mstS hM (by omega) dX4_execute_144 (fun w144 hM => ?_)
                            refine xr_iinc (lv' := [some _, some _, some _, some _]) dX4_execute_145 rfl (by decide) rfl rfl ?_
                            refine xr_goto (tgt := 127) dX4_execute_148 (by decide) ?_
                            refine xr_wk (rc' := 0 * fu36 + 0 * fu104 + 0 * fu127 + 0) (rs' := 0 * fu36 + 0 * fu104 + 0 * fu127 + 0) ⟨by omega, by omega⟩ (ih127 _ (j + 1) (by omega) (by omega) (by omega) (hM.toP (fun a a0 a1 => by
    simp only [updI, cpK]
    by_cases e7 : a = j
    · rw [if_pos e7, if_pos (by omega), e7]
    · rw [if_neg e7]
      by_cases e8 : a < j
      · rw [if_pos (by omega), if_pos (by omega)]
      · rw [if_neg (by omega), if_neg (by omega)])))
                      refine xr_wk (rc' := 0 * fu36 + 0 * fu104 + 0 * 103 + 0) (rs' := 0 * fu36 + 0 * fu104 + 0 * 103 + 0) ⟨by omega, by omega⟩ (lp127 103 _ 0 (by omega) (by omega) (by omega) (hM.toP (fun a a0 a1 => by unfold cpK; rw [if_neg (by omega)])))
                    · skip
                      refine xr_goto (tgt := 183) dX4_execute_122 (by decide) ?_
                      refine xr_iinc (lv' := [some _, some _, some _, none]) dX4_execute_183 rfl (by decide) rfl rfl ?_
                      refine xr_goto (tgt := 104) dX4_execute_186 (by decide) ?_
                      refine xr_lv (lvw_s (lvw_s (lvw_n (lvw_n (lvw_nil))))) ?_
                      have hok : cA c P7 = true ∧ (cR c P7).1 = 0 ∧ P1' = cO c P7 := by
                        rcases hdc with ⟨-, q1, -⟩ | ⟨-, q1, q2, -⟩ | ⟨q0, q1, -, q3⟩
                        · omega
                        · omega
                        · exact ⟨q0, q1, q3⟩
                      refine xr_wk (rc' := 0 * fu36 + 0 * fu104 + 0) (rs' := 0 * fu36 + 0 * fu104 + 0) ⟨by omega, by omega⟩ (ih104 _ F1' P1' (i + 1) (by omega) (by omega) hM (fun a b1 b2 => (hfk a b1 b2).trans (hf7 a b1 b2)) (by rw [hok.2.2]; exact (PB_act hB7 (by omega) hok.1 hok.2.1).mono (by omega)) (by rw [hok.2.2]; exact PCon_act hB7 (by omega) hC7 hok.1 hok.2.1) (by rw [← hr7, hdr, rAll, if_neg (by rw [hok.1]; decide), if_neg (by rw [hok.2.1]; decide), hok.2.2]; rfl))
              refine xr_wk (rc' := 0 * fu36 + 0 * 12 + 0) (rs' := 0 * fu36 + 0 * 12 + 0) ⟨by omega, by omega⟩ (lp104 12 _ F9 P 0 (by omega) (by omega) hM (fun _ _ _ => rfl) (by rw [show N + 13000 * ((0 : Nat) : Int) = N by omega]; exact hB) hC rfl)
            · skip
              refine xr_aload_n dX4_execute_88 rfl (by first | rfl | exact isRef_rf _) ?_
              refine xr_aload_n dX4_execute_89 rfl (by first | rfl | exact isRef_rf _) ?_
              refine xr_getfield (ci := 14) (T := TX4) (N := 23) (i := 19) hM.1.1 rfl (by decide) in_X4 q2210 (.inl rfl) dX4_execute_90 (by rfl) ?_
              rw [r2]
              refine xr_putfield (ci := 14) (T := TX4) (N := 23) (i := 13) (fs' := [_, _, _, _, _, _, _, _, _, _, _, _, _, _, _, _, _, _, _, _, _, _, _]) hM.1.1 rfl (by decide) in_X4 tyX4 tyX4_ok nmX4 q2204 (.inl rfl) rfl dX4_execute_93 (by rfl) (by rfl) (by simp) (by rfl) (.inl rfl) (fun _ => ?_)
              refine xr_mput (i := 13) hM (by rfl) (fun w93 hM => ?_)
              refine xr_aload_n dX4_execute_96 rfl (by first | rfl | exact isRef_rf _) ?_
              refine xr_iconst dX4_execute_97 ?_
              refine xr_callV (n9 := 1) (rc' := 0 * fu36 + 0) (rs' := 0 * fu36 + 0) (k_M_fails hG hM.1) hM.1.1 rfl q2311 q2313 qs46 q96 q2314 (by decide +kernel) rfl ⟨by decide, Nat.le_of_ble_eq_true rfl⟩ ⟨by omega, by omega⟩ (Nat.le_of_ble_eq_true rfl) dX4_execute_98 rfl (fun r w98 hw => ?_) (fun _ _ _ h => h.elim)
              obtain ⟨rfl, hw⟩ := hw
              have hM := hM.tr hw
              refine xr_ireturn rfl rfl dX4_execute_101 ?_
              rw [hpo]
              have q0 : ∀ i : Int, i ≠ 0 → i ≠ 11 → i ≠ 19 → i ≠ 20 → i ≠ 21 → i ≠ 22 → F9 i = F i := fun i a1 a2 a3 a4 a5 a6 => (hk9f i a3 a5 a6).trans (h5 i a1 a2 a3 a4 a5 a6)
              have q11 : F9 11 = 0 := (hk9f 11 (by decide) (by decide) (by decide)).trans h511
              have q9C : ∀ j : Int, j ≠ 2 → j ≠ 9 → C9 j = C j := fun j a1 a2 => (hk9c j a2).trans (hCn j a1)
              have q2C : C9 2 = P := (hk9c 2 (by decide)).trans hC2
              have hpa : pAll I.2 I.1 = .inl o9 := by
                rcases hri with ⟨o2, q1, q2⟩ | ⟨o2, q1, q2, -, q4, q5⟩
                · rw [hx9] at q1
                  first
                    | (cases q1; exact q2)
                    | cases q1
                · rw [hx9] at q1
                  first
                    | (cases q1
                       rw [← q2]
                       obtain ⟨f', hf'⟩ : ∃ f', f = f' + 1 := ⟨f - 1, by omega⟩
                       rw [hf', pRest, if_pos (by omega), show pExp I.2 I.1 59 o9 = .inl o9 from if_neg hcu]
                       rfl)
                    | cases q1
              obtain ⟨a1, a2, a3, a4, a5, a6⟩ := hS
              refine ⟨_, rfl, hM.2, Or.inl ⟨o9, hpa, by omega, _, _, hM.1, updI_eq, ?_⟩⟩
              have q0' : ∀ i : Int, i ≠ 0 → i ≠ 11 → i ≠ 13 → i ≠ 19 → i ≠ 20 → i ≠ 21 → i ≠ 22 → updI (updI F9 13 o9) 0 1 i = F i := fun i b1 b2 b3 b4 b5 b6 b7 => (updI_ne b1).trans ((updI_ne b3).trans (q0 i b1 b2 b4 b5 b6 b7))
              refine ⟨?_, ?_, ⟨?_, Nat.zero_le _, fun i i0 i1' => ?_⟩, ?_, ?_, ?_⟩
              · unfold HC at *; rw [q0' 6 (by decide) (by decide) (by decide) (by decide) (by decide) (by decide) (by decide), q9C 4 (by decide) (by decide)]; exact a1
              · unfold SC at *; rw [q0' 7 (by decide) (by decide) (by decide) (by decide) (by decide) (by decide) (by decide), q9C 3 (by decide) (by decide)]; exact a2
              · rw [updI_ne (by decide), updI_ne (by decide), q11]; rfl
              · have i1' : i < ((0 : Nat) : Int) := i1'; omega
              · rw [q0' 12 (by decide) (by decide) (by decide) (by decide) (by decide) (by decide) (by decide), q9C 10 (by decide) (by decide)]; exact a4
              · exact Or.inr ⟨o9, rfl, r6.1, by omega, by rw [updI_ne (by decide), updI_eq]⟩
              · unfold RC at *; rw [q0' 14 (by decide) (by decide) (by decide) (by decide) (by decide) (by decide) (by decide), q0' 15 (by decide) (by decide) (by decide) (by decide) (by decide) (by decide) (by decide), q0' 16 (by decide) (by decide) (by decide) (by decide) (by decide) (by decide) (by decide)]; exact a6
        · skip
          have hcu : curT I.2 I.1 o9 = 59 := (hereT_cur (by decide)).mp (by omega)
          have hon : o9 < I.1 := by
            apply Decidable.byContradiction
            intro q9
            rw [curT, if_neg q9] at hcu
            omega
          rw [hx9] at hri
          obtain ⟨f', hf'⟩ : ∃ f', f = f' + 1 := by
            rcases hri with ⟨o2, q1, -⟩ | ⟨o2, q1, -, -, q4, q5⟩
            · cases q1
            · injection q1 with q1
              exact ⟨f - 1, by omega⟩
          rw [hf'] at hri
          refine xr_aload_n dX4_execute_53 rfl (by first | rfl | exact isRef_rf _) ?_
          refine xr_dup dX4_execute_54 (by first | rfl | exact cat_rf _) ?_
          refine xr_getfield (ci := 14) (T := TX4) (N := 23) (i := 19) hM.1.1 rfl (by decide) in_X4 q2210 (.inl rfl) dX4_execute_55 (by rfl) ?_
          rw [r2]
          refine xr_iconst dX4_execute_58 ?_
          refine xr_iadd dX4_execute_59 ?_
          refine xr_putfield (ci := 14) (T := TX4) (N := 23) (i := 19) (fs' := [_, _, _, _, _, _, _, _, _, _, _, _, _, _, _, _, _, _, _, _, _, _, _]) hM.1.1 rfl (by decide) in_X4 tyX4 tyX4_ok nmX4 q2210 (.inl rfl) rfl dX4_execute_60 (by rfl) (by rfl) (by simp) (by rfl) (.inl rfl) (fun _ => ?_)
          refine xr_mput (i := 19) hM (by rfl) (fun w60 hM => ?_)
          have hR60 : RS (updI F9 19 (o9 + 1)) C9 I.2 I.1 (.inr (o9 + 1)) k9 := hD.at (by omega) updI_eq ((updI_ne (by decide)).trans (r3.trans (by omega))) (updI_ne (by decide)) (updI_ne (by decide))
          refine xr_aload_n dX4_execute_63 rfl (by first | rfl | exact isRef_rf _) ?_
          refine xr_callV (n9 := 0) (rc' := 0 * fu36 + 0) (rs' := 0 * fu36 + 0) (k_M_readsOne hG hM.1 hJ hKS hR60 (by omega)) hM.1.1 rfl q2668 q2670 qs79 q96 q2671 (by decide +kernel) rfl ⟨by decide, Nat.le_of_ble_eq_true rfl⟩ ⟨by omega, by omega⟩ (Nat.le_of_ble_eq_true rfl) dX4_execute_64 rfl (fun r w64 hw => ?_) (fun _ _ _ h => h.elim)
          obtain ⟨F64, C64, x64, rfl, hw, hR64, htd64, hf64, hrl64⟩ := hw
          have hM := hM.tr hw
          obtain ⟨cs', hri'⟩ := RI_next hri hcu hon hrl64 (fun i hi => htd64.2 i (Or.inl hi))
          refine xr_goto (tgt := 36) dX4_execute_67 (by decide) ?_
          refine xr_lv (lvw_s (lvw_n (lvw_n (lvw_n (lvw_nil))))) ?_
          refine xr_wk (rc' := 0 * fu36 + 0) (rs' := 0 * fu36 + 0) ⟨by omega, by omega⟩ (ih36 _ F64 C64 x64 cs' (k9 + 1) f' (by omega) (by omega) (by omega) hM hR64 (fun i a1 a2 a3 => (hf64 i a1 a2 a3).trans ((updI_ne a1).trans (hk9f i a1 a2 a3))) (fun j hj => (htd64.1 j hj).trans (hk9c j hj)) hri')
  refine xr_wk (rc' := 0 * 12 + 0) (rs' := 0 * 12 + 0) ⟨by omega, by omega⟩ (lp36 12 _ F1 C1 x1 cs1 1 11 (by omega) (by omega) (by omega) hM hR1 (fun i a1 a2 a3 => hf3 i a1 a2 a3) (fun j hj => htd.1 j hj) hri1)
