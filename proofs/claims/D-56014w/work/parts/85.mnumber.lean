/-! 85.mnumber.lean.txt (written by tools/walker.py)  -/
set_option maxRecDepth 100000
theorem RD.cc {F : Int → Int} {C C' : Int → Int → Int} {T : Int → Int} {n o e k : Int} (h : RD F C T n o e k) (hC : C' 8 = C 8) : RD F C' T n o e k := by
  unfold RD at *
  rw [hC]; exact h
def dgT (T : Int → Int) (n o : Int) : Prop := 48 ≤ curT T n o ∧ curT T n o ≤ 57
def pNm (q : Int) (T : Int → Int) (n o : Int) : Int ⊕ (Int × Int) := if q = 1 then pSD T n o else pSN T n o
def pN1 (q : Int) (T : Int → Int) (n o : Int) : Int ⊕ (Int × Int) := if q = 1 then pDig T n o else pNum T n o
theorem pNm_1 {q : Int} {T : Int → Int} {n : Int} {x : Int ⊕ Int} : pB x (pNm q T n) = pB (pB x (pWord T n [32])) (pN1 q T n) := by
  cases x with
  | inl o => rfl
  | inr o =>
    show pNm q T n o = pB (pB (pExp T n 32 o) (fun o1 => .inr o1)) (pN1 q T n)
    unfold pNm pN1 pSD pSN
    cases pExp T n 32 o with
    | inl e => by_cases h : q = 1 <;> simp [h, pB]
    | inr e => by_cases h : q = 1 <;> simp [h, pB]
/-- what the digits loop knows -/
def NI (T : Int → Int) (n q o1 e1 d v o : Int) : Prop := (d = 0 ∧ v = 0 ∧ o = o1) ∨ (e1 = 0 ∧ d = 1 ∧ dgT T n o1 ∧ v = curT T n o1 - 48 ∧ o = o1 + 1) ∨ (e1 = 0 ∧ q = 2 ∧ d = 2 ∧ dgT T n o1 ∧ dgT T n (o1 + 1) ∧ v = 10 * (curT T n o1 - 48) + (curT T n (o1 + 1) - 48) ∧ o = o1 + 2)
theorem pN1_0 {T : Int → Int} {n q o : Int} (h : ¬ dgT T n o) : pN1 q T n o = .inl o := by
  unfold dgT at h
  have hd : pDig T n o = .inl o := if_neg h
  unfold pN1 pNum
  rw [hd]
  split <;> rfl
theorem pN1_1 {T : Int → Int} {n q o : Int} (h : dgT T n o) (h2 : q = 1 ∨ ¬ dgT T n (o + 1)) : pN1 q T n o = .inr (curT T n o - 48, o + 1) := by
  unfold dgT at h h2
  have hd : pDig T n o = .inr (curT T n o - 48, o + 1) := if_pos h
  unfold pN1 pNum
  rw [hd]
  split
  · rfl
  · show (if _ then _ else _) = _
    rw [if_neg]
    rcases h2 with h2 | h2
    · contradiction
    · exact h2
theorem pN1_2 {T : Int → Int} {n q o : Int} (h : dgT T n o) (h2 : q ≠ 1) (h3 : dgT T n (o + 1)) : pN1 q T n o = .inr (10 * (curT T n o - 48) + (curT T n (o + 1) - 48), o + 2) := by
  unfold dgT at h h3
  have hd : pDig T n o = .inr (curT T n o - 48, o + 1) := if_pos h
  have hd2 : pDig T n (o + 1) = .inr (curT T n (o + 1) - 48, o + 1 + 1) := if_pos h3
  unfold pN1 pNum
  rw [if_neg h2, hd]
  show (if _ then _ else _) = _
  rw [if_pos h3]
  show pB (pDig T n (o + 1)) _ = _
  rw [hd2]
  show Sum.inr (_, o + 1 + 1) = _
  rw [show o + 1 + 1 = o + 2 by omega]
theorem k_M_number {g : GG} {w : WW} {m : Nat} {A : Int → Nat} {F P : Int → Int} {C : Int → Int → Int} {T : Int → Int} {n k a q : Int} {x : Int ⊕ Int} (hG : Base g) (hM : MD g w m A F P C) (hJ : KJ g) (hS : KS g) (hR : RS F C T n x k) (ha : 1 ≤ a ∧ a ≤ 3) (hq : q = 1 ∨ q = 2) (hk : 0 ≤ k ∧ k ≤ 20) : Ct g yX4_number (.code yX4_number cX4_number 5 none) 5 107 0 0 w [.ref m, .int (iI a), .int (iI q)] (fun r_ w1 => ∃ (F1 : Int → Int) (v : Int) (x1 : Int ⊕ Int), r_ = none ∧ MDF g w w1 m A F1 P (updC C 9 (updI (C 9) (4 * k + a) v)) ∧ RS F1 (updC C 9 (updI (C 9) (4 * k + a) v)) T n x1 k ∧ FR2 F F1 ∧ ((∃ o, x1 = .inl o ∧ pB x (pNm q T n) = .inl o) ∨ (∃ o, x1 = .inr o ∧ pB x (pNm q T n) = .inr (v, o)))) xF := by
  refine Ct.of (lv := [some _, some _, some _, none, none]) hG (by decide +kernel) (Nat.le_of_ble_eq_true rfl) rfl ?_
  intro z hg hpo hxp hnm htab
  subst hg
  have hM : MDF (zg z) w w m A F P C := ⟨hM, Fr.rf⟩
  refine xr_base (fun hG9 hk9 => ?_)
  have hM0 := hM.1
  refine xr_aload_n dX4_number_0 rfl (by first | rfl | exact isRef_rf _) ?_
  obtain ⟨tS1, bS1, hR1, hSO1⟩ := hS ("BenchBrokerModel", 236, " ") (by decide)
  refine xr_ldcS hR1 dX4_number_1 ?_
  refine xr_callV (n9 := 1) (rc' := 0) (rs' := 0) (k_M_says (s := " ") hG hM.1 hJ hR (hSO1.ext hk9) (by decide) (by decide)) hM.1.1 rfl q2681 q2683 qs82 q96 q2684 (by decide +kernel) rfl ⟨by decide, Nat.le_of_ble_eq_true rfl⟩ ⟨Nat.le_of_ble_eq_true rfl, Nat.le_of_ble_eq_true rfl⟩ (Nat.le_of_ble_eq_true rfl) dX4_number_3 rfl (fun r w3 hw => ?_) (fun _ _ _ h => h.elim)
  obtain ⟨F3, rfl, hw, hR3, hf3⟩ := hw
  have hM := hM.tr hw
  obtain ⟨o1, e1, hD1, hoe⟩ := hR3.d
  have hpn : pB x (pNm q T n) = pB (pB x (pWord T n (chs " "))) (pN1 q T n) := pNm_1
  refine xr_iconst dX4_number_6 ?_
  refine xr_istore_n (lv' := [some _, some _, some _, some _, none]) dX4_number_7 (by decide) rfl rfl ?_
  refine xr_iconst dX4_number_8 ?_
  refine xr_istore (lv' := [some _, some _, some _, some _, some _]) dX4_number_9 (by decide) rfl rfl ?_
  have lp11 : ∀ (fu11 : Nat) (w9 : WW) (F9 : Int → Int) (v9 d9 o9 : Int), 2 - d9 < fu11 → MDF (zg z) w w9 m A F9 P C → RD F9 C T n o9 e1 k → FR2 F F9 → NI T n q o1 e1 d9 v9 o9 → XJ z yX4_number.cls cX4_number 5 none 5 107 w9 (0 * fu11 + 0) (0 * fu11 + 0) 11 [some (.ref m), some (.int (iI a)), some (.int (iI q)), some (.int (iI v9)), some (.int (iI d9))] [] := by
    intro fu11
    induction fu11 with
    | zero =>
      intro w9 F9 v9 d9 o9 hfu hM hD9 hf9 hni
      (have hni9 := hni; unfold NI at hni9; omega)
    | succ fu11 ih11 =>
      intro w9 F9 v9 d9 o9 hfu hM hD9 hf9 hni
      have hni9 := hni
      unfold NI at hni9
      have hd9 : 0 ≤ d9 ∧ d9 ≤ 2 := by omega
      refine xr_aload_n dX4_number_11 rfl (by first | rfl | exact isRef_rf _) ?_
      refine xr_getfield (ci := 14) (T := TX4) (N := 23) (i := 22) hM.1.1 rfl (by decide) in_X4 q2213 (.inl rfl) dX4_number_12 (by rfl) ?_
      have hDD := hD9
      obtain ⟨r1, r2, r3, r4, r5, r6, r7⟩ := hDD
      rw [r3]
      refine xr_if_ne (tgt := 69) dX4_number_15 (by decide) (by omega) (fun c15 => ?_) (fun c15 => ?_)
      · skip
        refine xr_aload_n dX4_number_69 rfl (by first | rfl | exact isRef_rf _) ?_
        refine xr_aload_n dX4_number_70 rfl (by first | rfl | exact isRef_rf _) ?_
        refine xr_getfield (ci := 14) (T := TX4) (N := 23) (i := 22) hM.1.1 rfl (by decide) in_X4 q2213 (.inl rfl) dX4_number_71 (by rfl) ?_
        rw [r3]
        refine xr_if_ne (tgt := 82) dX4_number_74 (by decide) (by omega) (fun c74 => ?_) (fun c74 => ?_)
        · skip
          refine xr_iconst dX4_number_82 ?_
          refine xr_goto (tgt := 87) dX4_number_83 (by decide) ?_
          refine xr_putfield (ci := 14) (T := TX4) (N := 23) (i := 22) (fs' := [_, _, _, _, _, _, _, _, _, _, _, _, _, _, _, _, _, _, _, _, _, _, _]) hM.1.1 rfl (by decide) in_X4 tyX4 tyX4_ok nmX4 q2213 (.inl rfl) rfl dX4_number_87 (by decide +kernel) (by decide +kernel) (by simp) (by rfl) (.inl rfl) (fun _ => ?_)
          refine xr_mput (i := 22) hM (by rfl) (fun w87 hM => ?_)
          refine xr_aload_n dX4_number_90 rfl (by first | rfl | exact isRef_rf _) ?_
          refine xr_getfield (ci := 14) (T := TX4) (N := 23) (i := 9) hM.1.1 rfl (by decide) in_X4 q2200 (.inl rfl) dX4_number_91 (by rfl) ?_
          refine xr_iconst dX4_number_94 ?_
          refine xr_aload_n dX4_number_95 rfl (by first | rfl | exact isRef_rf _) ?_
          refine xr_getfield (ci := 14) (T := TX4) (N := 23) (i := 21) hM.1.1 rfl (by decide) in_X4 q2212 (.inl rfl) dX4_number_96 (by rfl) ?_
          rw [updI_ne (by decide), r4]
          refine xr_imul dX4_number_99 ?_
          refine xr_iload_n dX4_number_100 rfl ?_
          refine xr_iadd dX4_number_101 ?_
          refine xr_iload_n dX4_number_102 rfl ?_
          refine xr_mstC (j := 9) hM (by decide) (show (0 : Int) ≤ _ ∧ _ < ((240 : Nat) : Int) from by omega) dX4_number_103 (fun w103 hM => ?_)
          refine xr_return rfl dX4_number_104 ?_
          rw [hpo]
          have hc9 : RD F9 (updC C 9 (updI (C 9) (4 * k + a) v9)) T n o9 e1 k := hD9.cc (updC_ne (by decide))
          have hx3 : e1 = 0 ∨ e1 = 1 := by omega
          have hD8 := hc9
          obtain ⟨r1, r2, r3, r4, r5, r6, r7⟩ := hD8
          have hfr : ∀ u : Int, FR2 F (updI F9 22 u) := fun u j h1 h2 => (updI_ne h2).trans (hf9 j h1 h2)
          first
            | (have ho : o9 = o1 := by omega
               exact ⟨_, v9, .inl o9, rfl, hM, hc9.at r6 ((updI_ne (by decide)).trans r2) updI_eq (updI_ne (by decide)) (updI_ne (by decide)), hfr _, Or.inl ⟨o9, rfl, by
                 rw [hpn]
                 rcases hoe with ⟨h1, h2⟩ | ⟨h1, h2⟩
                 · rw [h2, ho]; rfl
                 · rw [h2]
                   rw [ho]
                   exact pN1_0 (by first | omega | (rw [← ho]; assumption))⟩⟩)
            | exact ⟨_, v9, .inr o9, rfl, hM, hc9.at r6 ((updI_ne (by decide)).trans r2) updI_eq (updI_ne (by decide)) (updI_ne (by decide)), hfr _, Or.inr ⟨o9, rfl, by
                 rw [hpn]
                 rcases hoe with ⟨h1, h2⟩ | ⟨h1, h2⟩
                 · omega
                 · rw [h2]
                   show pN1 q T n o1 = _
                   rcases hni with ⟨h3, -⟩ | ⟨-, h3, h4, h5, h6⟩ | ⟨-, h3, h4, h5, h6, h7, h8⟩
                   · omega
                   · subst h6
                     rw [h5]
                     exact pN1_1 h4 (by first | exact Or.inl (by omega) | exact Or.inr (by assumption))
                   · rw [h7, h8]
                     exact pN1_2 h5 (by omega) h6⟩⟩
            | omega
        · skip
          refine xr_iload dX4_number_77 rfl ?_
          refine xr_if_ne (tgt := 86) dX4_number_79 (by decide) (by omega) (fun c79 => ?_) (fun c79 => ?_)
          · skip
            refine xr_iconst dX4_number_86 ?_
            refine xr_putfield (ci := 14) (T := TX4) (N := 23) (i := 22) (fs' := [_, _, _, _, _, _, _, _, _, _, _, _, _, _, _, _, _, _, _, _, _, _, _]) hM.1.1 rfl (by decide) in_X4 tyX4 tyX4_ok nmX4 q2213 (.inl rfl) rfl dX4_number_87 (by decide +kernel) (by decide +kernel) (by simp) (by rfl) (.inl rfl) (fun _ => ?_)
            refine xr_mput (i := 22) hM (by rfl) (fun w87 hM => ?_)
            refine xr_aload_n dX4_number_90 rfl (by first | rfl | exact isRef_rf _) ?_
            refine xr_getfield (ci := 14) (T := TX4) (N := 23) (i := 9) hM.1.1 rfl (by decide) in_X4 q2200 (.inl rfl) dX4_number_91 (by rfl) ?_
            refine xr_iconst dX4_number_94 ?_
            refine xr_aload_n dX4_number_95 rfl (by first | rfl | exact isRef_rf _) ?_
            refine xr_getfield (ci := 14) (T := TX4) (N := 23) (i := 21) hM.1.1 rfl (by decide) in_X4 q2212 (.inl rfl) dX4_number_96 (by rfl) ?_
            rw [updI_ne (by decide), r4]
            refine xr_imul dX4_number_99 ?_
            refine xr_iload_n dX4_number_100 rfl ?_
            refine xr_iadd dX4_number_101 ?_
            refine xr_iload_n dX4_number_102 rfl ?_
            refine xr_mstC (j := 9) hM (by decide) (show (0 : Int) ≤ _ ∧ _ < ((240 : Nat) : Int) from by omega) dX4_number_103 (fun w103 hM => ?_)
            refine xr_return rfl dX4_number_104 ?_
            rw [hpo]
            have hc9 : RD F9 (updC C 9 (updI (C 9) (4 * k + a) v9)) T n o9 e1 k := hD9.cc (updC_ne (by decide))
            have hx3 : e1 = 0 ∨ e1 = 1 := by omega
            have hD8 := hc9
            obtain ⟨r1, r2, r3, r4, r5, r6, r7⟩ := hD8
            have hfr : ∀ u : Int, FR2 F (updI F9 22 u) := fun u j h1 h2 => (updI_ne h2).trans (hf9 j h1 h2)
            first
              | (have ho : o9 = o1 := by omega
                 exact ⟨_, v9, .inl o9, rfl, hM, hc9.at r6 ((updI_ne (by decide)).trans r2) updI_eq (updI_ne (by decide)) (updI_ne (by decide)), hfr _, Or.inl ⟨o9, rfl, by
                   rw [hpn]
                   rcases hoe with ⟨h1, h2⟩ | ⟨h1, h2⟩
                   · rw [h2, ho]; rfl
                   · rw [h2]
                     rw [ho]
                     exact pN1_0 (by first | omega | (rw [← ho]; assumption))⟩⟩)
              | exact ⟨_, v9, .inr o9, rfl, hM, hc9.at r6 ((updI_ne (by decide)).trans r2) updI_eq (updI_ne (by decide)) (updI_ne (by decide)), hfr _, Or.inr ⟨o9, rfl, by
                   rw [hpn]
                   rcases hoe with ⟨h1, h2⟩ | ⟨h1, h2⟩
                   · omega
                   · rw [h2]
                     show pN1 q T n o1 = _
                     rcases hni with ⟨h3, -⟩ | ⟨-, h3, h4, h5, h6⟩ | ⟨-, h3, h4, h5, h6, h7, h8⟩
                     · omega
                     · subst h6
                       rw [h5]
                       exact pN1_1 h4 (by first | exact Or.inl (by omega) | exact Or.inr (by assumption))
                     · rw [h7, h8]
                       exact pN1_2 h5 (by omega) h6⟩⟩
              | omega
          · skip
            refine xr_iconst dX4_number_82 ?_
            refine xr_goto (tgt := 87) dX4_number_83 (by decide) ?_
            refine xr_putfield (ci := 14) (T := TX4) (N := 23) (i := 22) (fs' := [_, _, _, _, _, _, _, _, _, _, _, _, _, _, _, _, _, _, _, _, _, _, _]) hM.1.1 rfl (by decide) in_X4 tyX4 tyX4_ok nmX4 q2213 (.inl rfl) rfl dX4_number_87 (by decide +kernel) (by decide +kernel) (by simp) (by rfl) (.inl rfl) (fun _ => ?_)
            refine xr_mput (i := 22) hM (by rfl) (fun w87 hM => ?_)
            refine xr_aload_n dX4_number_90 rfl (by first | rfl | exact isRef_rf _) ?_
            refine xr_getfield (ci := 14) (T := TX4) (N := 23) (i := 9) hM.1.1 rfl (by decide) in_X4 q2200 (.inl rfl) dX4_number_91 (by rfl) ?_
            refine xr_iconst dX4_number_94 ?_
            refine xr_aload_n dX4_number_95 rfl (by first | rfl | exact isRef_rf _) ?_
            refine xr_getfield (ci := 14) (T := TX4) (N := 23) (i := 21) hM.1.1 rfl (by decide) in_X4 q2212 (.inl rfl) dX4_number_96 (by rfl) ?_
            rw [updI_ne (by decide), r4]
            refine xr_imul dX4_number_99 ?_
            refine xr_iload_n dX4_number_100 rfl ?_
            refine xr_iadd dX4_number_101 ?_
            refine xr_iload_n dX4_number_102 rfl ?_
            refine xr_mstC (j := 9) hM (by decide) (show (0 : Int) ≤ _ ∧ _ < ((240 : Nat) : Int) from by omega) dX4_number_103 (fun w103 hM => ?_)
            refine xr_return rfl dX4_number_104 ?_
            rw [hpo]
            have hc9 : RD F9 (updC C 9 (updI (C 9) (4 * k + a) v9)) T n o9 e1 k := hD9.cc (updC_ne (by decide))
            have hx3 : e1 = 0 ∨ e1 = 1 := by omega
            have hD8 := hc9
            obtain ⟨r1, r2, r3, r4, r5, r6, r7⟩ := hD8
            have hfr : ∀ u : Int, FR2 F (updI F9 22 u) := fun u j h1 h2 => (updI_ne h2).trans (hf9 j h1 h2)
            first
              | (have ho : o9 = o1 := by omega
                 exact ⟨_, v9, .inl o9, rfl, hM, hc9.at r6 ((updI_ne (by decide)).trans r2) updI_eq (updI_ne (by decide)) (updI_ne (by decide)), hfr _, Or.inl ⟨o9, rfl, by
                   rw [hpn]
                   rcases hoe with ⟨h1, h2⟩ | ⟨h1, h2⟩
                   · rw [h2, ho]; rfl
                   · rw [h2]
                     rw [ho]
                     exact pN1_0 (by first | omega | (rw [← ho]; assumption))⟩⟩)
              | exact ⟨_, v9, .inr o9, rfl, hM, hc9.at r6 ((updI_ne (by decide)).trans r2) updI_eq (updI_ne (by decide)) (updI_ne (by decide)), hfr _, Or.inr ⟨o9, rfl, by
                   rw [hpn]
                   rcases hoe with ⟨h1, h2⟩ | ⟨h1, h2⟩
                   · omega
                   · rw [h2]
                     show pN1 q T n o1 = _
                     rcases hni with ⟨h3, -⟩ | ⟨-, h3, h4, h5, h6⟩ | ⟨-, h3, h4, h5, h6, h7, h8⟩
                     · omega
                     · subst h6
                       rw [h5]
                       exact pN1_1 h4 (by first | exact Or.inl (by omega) | exact Or.inr (by assumption))
                     · rw [h7, h8]
                       exact pN1_2 h5 (by omega) h6⟩⟩
              | omega
      · skip
        refine xr_iload dX4_number_18 rfl ?_
        refine xr_iload_n dX4_number_20 rfl ?_
        refine xr_icmp_ge (tgt := 69) dX4_number_21 (by decide) (by omega) (fun c21 => ?_) (fun c21 => ?_)
        · skip
          refine xr_aload_n dX4_number_69 rfl (by first | rfl | exact isRef_rf _) ?_
          refine xr_aload_n dX4_number_70 rfl (by first | rfl | exact isRef_rf _) ?_
          refine xr_getfield (ci := 14) (T := TX4) (N := 23) (i := 22) hM.1.1 rfl (by decide) in_X4 q2213 (.inl rfl) dX4_number_71 (by rfl) ?_
          rw [r3]
          refine xr_if_ne (tgt := 82) dX4_number_74 (by decide) (by omega) (fun c74 => ?_) (fun c74 => ?_)
          · skip
            refine xr_iconst dX4_number_82 ?_
            refine xr_goto (tgt := 87) dX4_number_83 (by decide) ?_
            refine xr_putfield (ci := 14) (T := TX4) (N := 23) (i := 22) (fs' := [_, _, _, _, _, _, _, _, _, _, _, _, _, _, _, _, _, _, _, _, _, _, _]) hM.1.1 rfl (by decide) in_X4 tyX4 tyX4_ok nmX4 q2213 (.inl rfl) rfl dX4_number_87 (by decide +kernel) (by decide +kernel) (by simp) (by rfl) (.inl rfl) (fun _ => ?_)
            refine xr_mput (i := 22) hM (by rfl) (fun w87 hM => ?_)
            refine xr_aload_n dX4_number_90 rfl (by first | rfl | exact isRef_rf _) ?_
            refine xr_getfield (ci := 14) (T := TX4) (N := 23) (i := 9) hM.1.1 rfl (by decide) in_X4 q2200 (.inl rfl) dX4_number_91 (by rfl) ?_
            refine xr_iconst dX4_number_94 ?_
            refine xr_aload_n dX4_number_95 rfl (by first | rfl | exact isRef_rf _) ?_
            refine xr_getfield (ci := 14) (T := TX4) (N := 23) (i := 21) hM.1.1 rfl (by decide) in_X4 q2212 (.inl rfl) dX4_number_96 (by rfl) ?_
            rw [updI_ne (by decide), r4]
            refine xr_imul dX4_number_99 ?_
            refine xr_iload_n dX4_number_100 rfl ?_
            refine xr_iadd dX4_number_101 ?_
            refine xr_iload_n dX4_number_102 rfl ?_
            refine xr_mstC (j := 9) hM (by decide) (show (0 : Int) ≤ _ ∧ _ < ((240 : Nat) : Int) from by omega) dX4_number_103 (fun w103 hM => ?_)
            refine xr_return rfl dX4_number_104 ?_
            rw [hpo]
            have hc9 : RD F9 (updC C 9 (updI (C 9) (4 * k + a) v9)) T n o9 e1 k := hD9.cc (updC_ne (by decide))
            have hx3 : e1 = 0 ∨ e1 = 1 := by omega
            have hD8 := hc9
            obtain ⟨r1, r2, r3, r4, r5, r6, r7⟩ := hD8
            have hfr : ∀ u : Int, FR2 F (updI F9 22 u) := fun u j h1 h2 => (updI_ne h2).trans (hf9 j h1 h2)
            first
              | (have ho : o9 = o1 := by omega
                 exact ⟨_, v9, .inl o9, rfl, hM, hc9.at r6 ((updI_ne (by decide)).trans r2) updI_eq (updI_ne (by decide)) (updI_ne (by decide)), hfr _, Or.inl ⟨o9, rfl, by
                   rw [hpn]
                   rcases hoe with ⟨h1, h2⟩ | ⟨h1, h2⟩
                   · rw [h2, ho]; rfl
                   · rw [h2]
                     rw [ho]
                     exact pN1_0 (by first | omega | (rw [← ho]; assumption))⟩⟩)
              | exact ⟨_, v9, .inr o9, rfl, hM, hc9.at r6 ((updI_ne (by decide)).trans r2) updI_eq (updI_ne (by decide)) (updI_ne (by decide)), hfr _, Or.inr ⟨o9, rfl, by
                   rw [hpn]
                   rcases hoe with ⟨h1, h2⟩ | ⟨h1, h2⟩
                   · omega
                   · rw [h2]
                     show pN1 q T n o1 = _
                     rcases hni with ⟨h3, -⟩ | ⟨-, h3, h4, h5, h6⟩ | ⟨-, h3, h4, h5, h6, h7, h8⟩
                     · omega
                     · subst h6
                       rw [h5]
                       exact pN1_1 h4 (by first | exact Or.inl (by omega) | exact Or.inr (by assumption))
                     · rw [h7, h8]
                       exact pN1_2 h5 (by omega) h6⟩⟩
              | omega
          · skip
            refine xr_iload dX4_number_77 rfl ?_
            refine xr_if_ne (tgt := 86) dX4_number_79 (by decide) (by omega) (fun c79 => ?_) (fun c79 => ?_)
            · skip
              refine xr_iconst dX4_number_86 ?_
              refine xr_putfield (ci := 14) (T := TX4) (N := 23) (i := 22) (fs' := [_, _, _, _, _, _, _, _, _, _, _, _, _, _, _, _, _, _, _, _, _, _, _]) hM.1.1 rfl (by decide) in_X4 tyX4 tyX4_ok nmX4 q2213 (.inl rfl) rfl dX4_number_87 (by decide +kernel) (by decide +kernel) (by simp) (by rfl) (.inl rfl) (fun _ => ?_)
              refine xr_mput (i := 22) hM (by rfl) (fun w87 hM => ?_)
              refine xr_aload_n dX4_number_90 rfl (by first | rfl | exact isRef_rf _) ?_
              refine xr_getfield (ci := 14) (T := TX4) (N := 23) (i := 9) hM.1.1 rfl (by decide) in_X4 q2200 (.inl rfl) dX4_number_91 (by rfl) ?_
              refine xr_iconst dX4_number_94 ?_
              refine xr_aload_n dX4_number_95 rfl (by first | rfl | exact isRef_rf _) ?_
              refine xr_getfield (ci := 14) (T := TX4) (N := 23) (i := 21) hM.1.1 rfl (by decide) in_X4 q2212 (.inl rfl) dX4_number_96 (by rfl) ?_
              rw [updI_ne (by decide), r4]
              refine xr_imul dX4_number_99 ?_
              refine xr_iload_n dX4_number_100 rfl ?_
              refine xr_iadd dX4_number_101 ?_
              refine xr_iload_n dX4_number_102 rfl ?_
              refine xr_mstC (j := 9) hM (by decide) (show (0 : Int) ≤ _ ∧ _ < ((240 : Nat) : Int) from by omega) dX4_number_103 (fun w103 hM => ?_)
              refine xr_return rfl dX4_number_104 ?_
              rw [hpo]
              have hc9 : RD F9 (updC C 9 (updI (C 9) (4 * k + a) v9)) T n o9 e1 k := hD9.cc (updC_ne (by decide))
              have hx3 : e1 = 0 ∨ e1 = 1 := by omega
              have hD8 := hc9
              obtain ⟨r1, r2, r3, r4, r5, r6, r7⟩ := hD8
              have hfr : ∀ u : Int, FR2 F (updI F9 22 u) := fun u j h1 h2 => (updI_ne h2).trans (hf9 j h1 h2)
              first
                | (have ho : o9 = o1 := by omega
                   exact ⟨_, v9, .inl o9, rfl, hM, hc9.at r6 ((updI_ne (by decide)).trans r2) updI_eq (updI_ne (by decide)) (updI_ne (by decide)), hfr _, Or.inl ⟨o9, rfl, by
                     rw [hpn]
                     rcases hoe with ⟨h1, h2⟩ | ⟨h1, h2⟩
                     · rw [h2, ho]; rfl
                     · rw [h2]
                       rw [ho]
                       exact pN1_0 (by first | omega | (rw [← ho]; assumption))⟩⟩)
                | exact ⟨_, v9, .inr o9, rfl, hM, hc9.at r6 ((updI_ne (by decide)).trans r2) updI_eq (updI_ne (by decide)) (updI_ne (by decide)), hfr _, Or.inr ⟨o9, rfl, by
                     rw [hpn]
                     rcases hoe with ⟨h1, h2⟩ | ⟨h1, h2⟩
                     · omega
                     · rw [h2]
                       show pN1 q T n o1 = _
                       rcases hni with ⟨h3, -⟩ | ⟨-, h3, h4, h5, h6⟩ | ⟨-, h3, h4, h5, h6, h7, h8⟩
                       · omega
                       · subst h6
                         rw [h5]
                         exact pN1_1 h4 (by first | exact Or.inl (by omega) | exact Or.inr (by assumption))
                       · rw [h7, h8]
                         exact pN1_2 h5 (by omega) h6⟩⟩
                | omega
            · skip
              refine xr_iconst dX4_number_82 ?_
              refine xr_goto (tgt := 87) dX4_number_83 (by decide) ?_
              refine xr_putfield (ci := 14) (T := TX4) (N := 23) (i := 22) (fs' := [_, _, _, _, _, _, _, _, _, _, _, _, _, _, _, _, _, _, _, _, _, _, _]) hM.1.1 rfl (by decide) in_X4 tyX4 tyX4_ok nmX4 q2213 (.inl rfl) rfl dX4_number_87 (by decide +kernel) (by decide +kernel) (by simp) (by rfl) (.inl rfl) (fun _ => ?_)
              refine xr_mput (i := 22) hM (by rfl) (fun w87 hM => ?_)
              refine xr_aload_n dX4_number_90 rfl (by first | rfl | exact isRef_rf _) ?_
              refine xr_getfield (ci := 14) (T := TX4) (N := 23) (i := 9) hM.1.1 rfl (by decide) in_X4 q2200 (.inl rfl) dX4_number_91 (by rfl) ?_
              refine xr_iconst dX4_number_94 ?_
              refine xr_aload_n dX4_number_95 rfl (by first | rfl | exact isRef_rf _) ?_
              refine xr_getfield (ci := 14) (T := TX4) (N := 23) (i := 21) hM.1.1 rfl (by decide) in_X4 q2212 (.inl rfl) dX4_number_96 (by rfl) ?_
              rw [updI_ne (by decide), r4]
              refine xr_imul dX4_number_99 ?_
              refine xr_iload_n dX4_number_100 rfl ?_
              refine xr_iadd dX4_number_101 ?_
              refine xr_iload_n dX4_number_102 rfl ?_
              refine xr_mstC (j := 9) hM (by decide) (show (0 : Int) ≤ _ ∧ _ < ((240 : Nat) : Int) from by omega) dX4_number_103 (fun w103 hM => ?_)
              refine xr_return rfl dX4_number_104 ?_
              rw [hpo]
              have hc9 : RD F9 (updC C 9 (updI (C 9) (4 * k + a) v9)) T n o9 e1 k := hD9.cc (updC_ne (by decide))
              have hx3 : e1 = 0 ∨ e1 = 1 := by omega
              have hD8 := hc9
              obtain ⟨r1, r2, r3, r4, r5, r6, r7⟩ := hD8
              have hfr : ∀ u : Int, FR2 F (updI F9 22 u) := fun u j h1 h2 => (updI_ne h2).trans (hf9 j h1 h2)
              first
                | (have ho : o9 = o1 := by omega
                   exact ⟨_, v9, .inl o9, rfl, hM, hc9.at r6 ((updI_ne (by decide)).trans r2) updI_eq (updI_ne (by decide)) (updI_ne (by decide)), hfr _, Or.inl ⟨o9, rfl, by
                     rw [hpn]
                     rcases hoe with ⟨h1, h2⟩ | ⟨h1, h2⟩
                     · rw [h2, ho]; rfl
                     · rw [h2]
                       rw [ho]
                       exact pN1_0 (by first | omega | (rw [← ho]; assumption))⟩⟩)
                | exact ⟨_, v9, .inr o9, rfl, hM, hc9.at r6 ((updI_ne (by decide)).trans r2) updI_eq (updI_ne (by decide)) (updI_ne (by decide)), hfr _, Or.inr ⟨o9, rfl, by
                     rw [hpn]
                     rcases hoe with ⟨h1, h2⟩ | ⟨h1, h2⟩
                     · omega
                     · rw [h2]
                       show pN1 q T n o1 = _
                       rcases hni with ⟨h3, -⟩ | ⟨-, h3, h4, h5, h6⟩ | ⟨-, h3, h4, h5, h6, h7, h8⟩
                       · omega
                       · subst h6
                         rw [h5]
                         exact pN1_1 h4 (by first | exact Or.inl (by omega) | exact Or.inr (by assumption))
                       · rw [h7, h8]
                         exact pN1_2 h5 (by omega) h6⟩⟩
                | omega
        · skip
          refine xr_aload_n dX4_number_24 rfl (by first | rfl | exact isRef_rf _) ?_
          refine xr_iconst dX4_number_25 ?_
          refine xr_callV (n9 := 1) (rc' := 0 * fu11 + 0) (rs' := 0 * fu11 + 0) (k_M_here hG hM.1 hD9 (by omega)) hM.1.1 rfl q2672 q2674 qs80 q96 q2675 (by decide +kernel) rfl ⟨by decide, Nat.le_of_ble_eq_true rfl⟩ ⟨by omega, by omega⟩ (Nat.le_of_ble_eq_true rfl) dX4_number_26 rfl (xk_r ?_) (fun _ _ _ h => h.elim)
          rw [Int.add_zero]
          have hhr : -1 ≤ hereT T n o9 ∧ hereT T n o9 ≤ 126 := by
            unfold hereT
            split
            · have := (r7 o9 (by omega) (by omega)).2; omega
            · omega
          refine xr_bipush dX4_number_29 (by decide) ?_
          refine xr_bipush dX4_number_31 (by decide) ?_
          refine xr_callS (n9 := 3) (rc' := 0 * fu11 + 0) (rs' := 0 * fu11 + 0) (k_M_in hG (by omega)) q2280 q2281 q96 q2282 (by decide +kernel) rfl ⟨by decide, Nat.le_of_ble_eq_true rfl⟩ ⟨by omega, by omega⟩ (Nat.le_of_ble_eq_true rfl) dX4_number_33 rfl (xk_r ?_) (fun _ _ _ h => h.elim)
          refine xr_ifb_eq (tgt := 69) dX4_number_36 (by decide) (fun c36 => ?_) (fun c36 => ?_)
          · skip
            try simp only [decide_eq_true_eq, decide_eq_false_iff_not] at c36
            have hnd : ¬ dgT T n o9 := by
              unfold dgT
              intro q9
              by_cases hon : o9 < n
              · have hhc : hereT T n o9 = curT T n o9 := by unfold hereT curT; rw [if_pos hon, if_pos hon]
                omega
              · have h8 : curT T n o9 = 0 := if_neg hon
                omega
            refine xr_aload_n dX4_number_69 rfl (by first | rfl | exact isRef_rf _) ?_
            refine xr_aload_n dX4_number_70 rfl (by first | rfl | exact isRef_rf _) ?_
            refine xr_getfield (ci := 14) (T := TX4) (N := 23) (i := 22) hM.1.1 rfl (by decide) in_X4 q2213 (.inl rfl) dX4_number_71 (by rfl) ?_
            rw [r3]
            refine xr_if_ne (tgt := 82) dX4_number_74 (by decide) (by omega) (fun c74 => ?_) (fun c74 => ?_)
            · skip
              refine xr_iconst dX4_number_82 ?_
              refine xr_goto (tgt := 87) dX4_number_83 (by decide) ?_
              refine xr_putfield (ci := 14) (T := TX4) (N := 23) (i := 22) (fs' := [_, _, _, _, _, _, _, _, _, _, _, _, _, _, _, _, _, _, _, _, _, _, _]) hM.1.1 rfl (by decide) in_X4 tyX4 tyX4_ok nmX4 q2213 (.inl rfl) rfl dX4_number_87 (by decide +kernel) (by decide +kernel) (by simp) (by rfl) (.inl rfl) (fun _ => ?_)
              refine xr_mput (i := 22) hM (by rfl) (fun w87 hM => ?_)
              refine xr_aload_n dX4_number_90 rfl (by first | rfl | exact isRef_rf _) ?_
              refine xr_getfield (ci := 14) (T := TX4) (N := 23) (i := 9) hM.1.1 rfl (by decide) in_X4 q2200 (.inl rfl) dX4_number_91 (by rfl) ?_
              refine xr_iconst dX4_number_94 ?_
              refine xr_aload_n dX4_number_95 rfl (by first | rfl | exact isRef_rf _) ?_
              refine xr_getfield (ci := 14) (T := TX4) (N := 23) (i := 21) hM.1.1 rfl (by decide) in_X4 q2212 (.inl rfl) dX4_number_96 (by rfl) ?_
              rw [updI_ne (by decide), r4]
              refine xr_imul dX4_number_99 ?_
              refine xr_iload_n dX4_number_100 rfl ?_
              refine xr_iadd dX4_number_101 ?_
              refine xr_iload_n dX4_number_102 rfl ?_
              refine xr_mstC (j := 9) hM (by decide) (show (0 : Int) ≤ _ ∧ _ < ((240 : Nat) : Int) from by omega) dX4_number_103 (fun w103 hM => ?_)
              refine xr_return rfl dX4_number_104 ?_
              rw [hpo]
              have hc9 : RD F9 (updC C 9 (updI (C 9) (4 * k + a) v9)) T n o9 e1 k := hD9.cc (updC_ne (by decide))
              have hx3 : e1 = 0 ∨ e1 = 1 := by omega
              have hD8 := hc9
              obtain ⟨r1, r2, r3, r4, r5, r6, r7⟩ := hD8
              have hfr : ∀ u : Int, FR2 F (updI F9 22 u) := fun u j h1 h2 => (updI_ne h2).trans (hf9 j h1 h2)
              first
                | (have ho : o9 = o1 := by omega
                   exact ⟨_, v9, .inl o9, rfl, hM, hc9.at r6 ((updI_ne (by decide)).trans r2) updI_eq (updI_ne (by decide)) (updI_ne (by decide)), hfr _, Or.inl ⟨o9, rfl, by
                     rw [hpn]
                     rcases hoe with ⟨h1, h2⟩ | ⟨h1, h2⟩
                     · rw [h2, ho]; rfl
                     · rw [h2]
                       rw [ho]
                       exact pN1_0 (by first | omega | (rw [← ho]; assumption))⟩⟩)
                | exact ⟨_, v9, .inr o9, rfl, hM, hc9.at r6 ((updI_ne (by decide)).trans r2) updI_eq (updI_ne (by decide)) (updI_ne (by decide)), hfr _, Or.inr ⟨o9, rfl, by
                     rw [hpn]
                     rcases hoe with ⟨h1, h2⟩ | ⟨h1, h2⟩
                     · omega
                     · rw [h2]
                       show pN1 q T n o1 = _
                       rcases hni with ⟨h3, -⟩ | ⟨-, h3, h4, h5, h6⟩ | ⟨-, h3, h4, h5, h6, h7, h8⟩
                       · omega
                       · subst h6
                         rw [h5]
                         exact pN1_1 h4 (by first | exact Or.inl (by omega) | exact Or.inr (by assumption))
                       · rw [h7, h8]
                         exact pN1_2 h5 (by omega) h6⟩⟩
                | omega
            · skip
              refine xr_iload dX4_number_77 rfl ?_
              refine xr_if_ne (tgt := 86) dX4_number_79 (by decide) (by omega) (fun c79 => ?_) (fun c79 => ?_)
              · skip
                refine xr_iconst dX4_number_86 ?_
                refine xr_putfield (ci := 14) (T := TX4) (N := 23) (i := 22) (fs' := [_, _, _, _, _, _, _, _, _, _, _, _, _, _, _, _, _, _, _, _, _, _, _]) hM.1.1 rfl (by decide) in_X4 tyX4 tyX4_ok nmX4 q2213 (.inl rfl) rfl dX4_number_87 (by decide +kernel) (by decide +kernel) (by simp) (by rfl) (.inl rfl) (fun _ => ?_)
                refine xr_mput (i := 22) hM (by rfl) (fun w87 hM => ?_)
                refine xr_aload_n dX4_number_90 rfl (by first | rfl | exact isRef_rf _) ?_
                refine xr_getfield (ci := 14) (T := TX4) (N := 23) (i := 9) hM.1.1 rfl (by decide) in_X4 q2200 (.inl rfl) dX4_number_91 (by rfl) ?_
                refine xr_iconst dX4_number_94 ?_
                refine xr_aload_n dX4_number_95 rfl (by first | rfl | exact isRef_rf _) ?_
                refine xr_getfield (ci := 14) (T := TX4) (N := 23) (i := 21) hM.1.1 rfl (by decide) in_X4 q2212 (.inl rfl) dX4_number_96 (by rfl) ?_
                rw [updI_ne (by decide), r4]
                refine xr_imul dX4_number_99 ?_
                refine xr_iload_n dX4_number_100 rfl ?_
                refine xr_iadd dX4_number_101 ?_
                refine xr_iload_n dX4_number_102 rfl ?_
                refine xr_mstC (j := 9) hM (by decide) (show (0 : Int) ≤ _ ∧ _ < ((240 : Nat) : Int) from by omega) dX4_number_103 (fun w103 hM => ?_)
                refine xr_return rfl dX4_number_104 ?_
                rw [hpo]
                have hc9 : RD F9 (updC C 9 (updI (C 9) (4 * k + a) v9)) T n o9 e1 k := hD9.cc (updC_ne (by decide))
                have hx3 : e1 = 0 ∨ e1 = 1 := by omega
                have hD8 := hc9
                obtain ⟨r1, r2, r3, r4, r5, r6, r7⟩ := hD8
                have hfr : ∀ u : Int, FR2 F (updI F9 22 u) := fun u j h1 h2 => (updI_ne h2).trans (hf9 j h1 h2)
                first
                  | (have ho : o9 = o1 := by omega
                     exact ⟨_, v9, .inl o9, rfl, hM, hc9.at r6 ((updI_ne (by decide)).trans r2) updI_eq (updI_ne (by decide)) (updI_ne (by decide)), hfr _, Or.inl ⟨o9, rfl, by
                       rw [hpn]
                       rcases hoe with ⟨h1, h2⟩ | ⟨h1, h2⟩
                       · rw [h2, ho]; rfl
                       · rw [h2]
                         rw [ho]
                         exact pN1_0 (by first | omega | (rw [← ho]; assumption))⟩⟩)
                  | exact ⟨_, v9, .inr o9, rfl, hM, hc9.at r6 ((updI_ne (by decide)).trans r2) updI_eq (updI_ne (by decide)) (updI_ne (by decide)), hfr _, Or.inr ⟨o9, rfl, by
                       rw [hpn]
                       rcases hoe with ⟨h1, h2⟩ | ⟨h1, h2⟩
                       · omega
                       · rw [h2]
                         show pN1 q T n o1 = _
                         rcases hni with ⟨h3, -⟩ | ⟨-, h3, h4, h5, h6⟩ | ⟨-, h3, h4, h5, h6, h7, h8⟩
                         · omega
                         · subst h6
                           rw [h5]
                           exact pN1_1 h4 (by first | exact Or.inl (by omega) | exact Or.inr (by assumption))
                         · rw [h7, h8]
                           exact pN1_2 h5 (by omega) h6⟩⟩
                  | omega
              · skip
                refine xr_iconst dX4_number_82 ?_
                refine xr_goto (tgt := 87) dX4_number_83 (by decide) ?_
                refine xr_putfield (ci := 14) (T := TX4) (N := 23) (i := 22) (fs' := [_, _, _, _, _, _, _, _, _, _, _, _, _, _, _, _, _, _, _, _, _, _, _]) hM.1.1 rfl (by decide) in_X4 tyX4 tyX4_ok nmX4 q2213 (.inl rfl) rfl dX4_number_87 (by decide +kernel) (by decide +kernel) (by simp) (by rfl) (.inl rfl) (fun _ => ?_)
                refine xr_mput (i := 22) hM (by rfl) (fun w87 hM => ?_)
                refine xr_aload_n dX4_number_90 rfl (by first | rfl | exact isRef_rf _) ?_
                refine xr_getfield (ci := 14) (T := TX4) (N := 23) (i := 9) hM.1.1 rfl (by decide) in_X4 q2200 (.inl rfl) dX4_number_91 (by rfl) ?_
                refine xr_iconst dX4_number_94 ?_
                refine xr_aload_n dX4_number_95 rfl (by first | rfl | exact isRef_rf _) ?_
                refine xr_getfield (ci := 14) (T := TX4) (N := 23) (i := 21) hM.1.1 rfl (by decide) in_X4 q2212 (.inl rfl) dX4_number_96 (by rfl) ?_
                rw [updI_ne (by decide), r4]
                refine xr_imul dX4_number_99 ?_
                refine xr_iload_n dX4_number_100 rfl ?_
                refine xr_iadd dX4_number_101 ?_
                refine xr_iload_n dX4_number_102 rfl ?_
                refine xr_mstC (j := 9) hM (by decide) (show (0 : Int) ≤ _ ∧ _ < ((240 : Nat) : Int) from by omega) dX4_number_103 (fun w103 hM => ?_)
                refine xr_return rfl dX4_number_104 ?_
                rw [hpo]
                have hc9 : RD F9 (updC C 9 (updI (C 9) (4 * k + a) v9)) T n o9 e1 k := hD9.cc (updC_ne (by decide))
                have hx3 : e1 = 0 ∨ e1 = 1 := by omega
                have hD8 := hc9
                obtain ⟨r1, r2, r3, r4, r5, r6, r7⟩ := hD8
                have hfr : ∀ u : Int, FR2 F (updI F9 22 u) := fun u j h1 h2 => (updI_ne h2).trans (hf9 j h1 h2)
                first
                  | (have ho : o9 = o1 := by omega
                     exact ⟨_, v9, .inl o9, rfl, hM, hc9.at r6 ((updI_ne (by decide)).trans r2) updI_eq (updI_ne (by decide)) (updI_ne (by decide)), hfr _, Or.inl ⟨o9, rfl, by
                       rw [hpn]
                       rcases hoe with ⟨h1, h2⟩ | ⟨h1, h2⟩
                       · rw [h2, ho]; rfl
                       · rw [h2]
                         rw [ho]
                         exact pN1_0 (by first | omega | (rw [← ho]; assumption))⟩⟩)
                  | exact ⟨_, v9, .inr o9, rfl, hM, hc9.at r6 ((updI_ne (by decide)).trans r2) updI_eq (updI_ne (by decide)) (updI_ne (by decide)), hfr _, Or.inr ⟨o9, rfl, by
                       rw [hpn]
                       rcases hoe with ⟨h1, h2⟩ | ⟨h1, h2⟩
                       · omega
                       · rw [h2]
                         show pN1 q T n o1 = _
                         rcases hni with ⟨h3, -⟩ | ⟨-, h3, h4, h5, h6⟩ | ⟨-, h3, h4, h5, h6, h7, h8⟩
                         · omega
                         · subst h6
                           rw [h5]
                           exact pN1_1 h4 (by first | exact Or.inl (by omega) | exact Or.inr (by assumption))
                         · rw [h7, h8]
                           exact pN1_2 h5 (by omega) h6⟩⟩
                  | omega
          · skip
            try simp only [decide_eq_true_eq, decide_eq_false_iff_not] at c36
            have hon : o9 < n := by
              apply Decidable.byContradiction
              intro q9
              have h8 : hereT T n o9 = -1 := if_neg q9
              omega
            have hhc : hereT T n o9 = curT T n o9 := by unfold hereT curT; rw [if_pos hon, if_pos hon]
            have hdg : dgT T n o9 := by unfold dgT; omega
            refine xr_bipush dX4_number_39 (by decide) ?_
            refine xr_iload_n dX4_number_41 rfl ?_
            refine xr_imul dX4_number_42 ?_
            refine xr_aload_n dX4_number_43 rfl (by first | rfl | exact isRef_rf _) ?_
            refine xr_iconst dX4_number_44 ?_
            refine xr_callV (n9 := 1) (rc' := 0 * fu11 + 0) (rs' := 0 * fu11 + 0) (k_M_here hG hM.1 hD9 (by omega)) hM.1.1 rfl q2672 q2674 qs80 q96 q2675 (by decide +kernel) rfl ⟨by decide, Nat.le_of_ble_eq_true rfl⟩ ⟨by omega, by omega⟩ (Nat.le_of_ble_eq_true rfl) dX4_number_45 rfl (xk_r ?_) (fun _ _ _ h => h.elim)
            rw [Int.add_zero, hhc]
            refine xr_iadd dX4_number_48 ?_
            refine xr_bipush dX4_number_49 (by decide) ?_
            refine xr_isub dX4_number_51 ?_
            refine xr_istore_n (lv' := [some _, some _, some _, some _, some _]) dX4_number_52 (by decide) rfl rfl ?_
            refine xr_aload_n dX4_number_53 rfl (by first | rfl | exact isRef_rf _) ?_
            refine xr_dup dX4_number_54 (by first | rfl | exact cat_rf _) ?_
            refine xr_getfield (ci := 14) (T := TX4) (N := 23) (i := 19) hM.1.1 rfl (by decide) in_X4 q2210 (.inl rfl) dX4_number_55 (by rfl) ?_
            rw [r2]
            refine xr_iconst dX4_number_58 ?_
            refine xr_iadd dX4_number_59 ?_
            refine xr_putfield (ci := 14) (T := TX4) (N := 23) (i := 19) (fs' := [_, _, _, _, _, _, _, _, _, _, _, _, _, _, _, _, _, _, _, _, _, _, _]) hM.1.1 rfl (by decide) in_X4 tyX4 tyX4_ok nmX4 q2210 (.inl rfl) rfl dX4_number_60 (by rfl) (by rfl) (by simp) (by rfl) (.inl rfl) (fun _ => ?_)
            refine xr_mput (i := 19) hM (by rfl) (fun w60 hM => ?_)
            refine xr_iinc (lv' := [some _, some _, some _, some _, some _]) dX4_number_63 rfl (by decide) rfl rfl ?_
            refine xr_goto (tgt := 11) dX4_number_66 (by decide) ?_
            refine xr_wk (rc' := 0 * fu11 + 0) (rs' := 0 * fu11 + 0) ⟨by omega, by omega⟩ (ih11 _ _ _ (d9 + 1) (o9 + 1) (by omega) hM (hD9.at (by omega) updI_eq ((updI_ne (by decide)).trans r3) (updI_ne (by decide)) (updI_ne (by decide))) (fun j h1 h2 => (updI_ne h1).trans (hf9 j h1 h2)) (by
      have he1 : e1 = 0 := by omega
      unfold NI
      rcases hni with ⟨h1, h2, h3⟩ | ⟨h1, h2, h3, h4, h5⟩ | ⟨h1, h2, h3, -⟩
      · subst h3; exact Or.inr (Or.inl ⟨he1, by omega, hdg, by omega, rfl⟩)
      · subst h5; exact Or.inr (Or.inr ⟨he1, by omega, by omega, h3, hdg, by omega, by omega⟩)
      · omega))
  refine xr_wk (rc' := 0 * 3 + 0) (rs' := 0 * 3 + 0) ⟨by omega, by omega⟩ (lp11 3 _ _ 0 0 o1 (by omega) hM hD1 hf3 (Or.inl ⟨rfl, rfl, rfl⟩))
