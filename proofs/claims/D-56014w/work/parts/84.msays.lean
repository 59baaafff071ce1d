/-! 84.msays.lean.txt (written by tools/walker.py)  -/
set_option maxRecDepth 100000
theorem BA.ia_ne {g : GG} (hG : Base g) {w : WW} {b n a m : Nat} {f f' : Int → Int} (h : BA g w b n f) (h' : IA g w a m f') : b ≠ a := by
  obtain ⟨y, h1, -⟩ := h
  obtain ⟨-, v, h2, -⟩ := h'
  exact h1.apart h2 (fun q => by
    injection q with q; injection q with q; injection q with q
    exact gA_02 hG q.symm)
theorem MD.nob {g : GG} {w : WW} {m : Nat} {A : Int → Nat} {F P : Int → Int} {C : Int → Int → Int} (h : MD g w m A F P C) {a k : Nat} {fs : List Value} (ho : Ob w a k fs) (hk : k ≠ 14) : ¬ MS m A a := by
  rintro (q | q | ⟨j, hj, q⟩)
  · exact ho.apart h.1 hk q
  · exact h.2.1.ob_ne ho q.symm
  · exact (h.2.2.1 j hj).ob_ne ho q.symm
theorem MD.nba {g : GG} (hG : Base g) {w : WW} {m : Nat} {A : Int → Nat} {F P : Int → Int} {C : Int → Int → Int} (h : MD g w m A F P C) {b n : Nat} {f : Int → Int} (ho : BA g w b n f) : ¬ MS m A b := by
  rintro (q | q | ⟨j, hj, q⟩)
  · exact ho.ob_ne h.1 q
  · exact ho.ia_ne hG h.2.1 q
  · exact ho.ia_ne hG (h.2.2.1 j hj) q
theorem SO.md {g : GG} (hG : Base g) {w w' : WW} {m : Nat} {A : Int → Nat} {F P : Int → Int} {C : Int → Int → Int} (h : MD g w m A F P C) {t b n : Nat} {f : Int → Int} (ho : SO g w t b n f) (hf : Fr (MS m A) w w') : SO g w' t b n f := by
  have ho' := ho
  obtain ⟨v1, v2, g1, g2, -⟩ := ho
  exact ho'.fr hf (h.nob g1 (by decide)) (h.nba hG g2)
/-- the reader's state: wrong at, or right up to -/
def RS (F : Int → Int) (C : Int → Int → Int) (T : Int → Int) (n : Int) (x : Int ⊕ Int) (k : Int) : Prop := match x with
  | .inl o => RD F C T n o 1 k
  | .inr o => RD F C T n o 0 k
theorem RS.d {F : Int → Int} {C : Int → Int → Int} {T : Int → Int} {n : Int} {x : Int ⊕ Int} {k : Int} (h : RS F C T n x k) : ∃ o e : Int, RD F C T n o e k ∧ ((e = 1 ∧ x = .inl o) ∨ (e = 0 ∧ x = .inr o)) := by
  cases x with
  | inl o => exact ⟨o, 1, h, Or.inl ⟨rfl, rfl⟩⟩
  | inr o => exact ⟨o, 0, h, Or.inr ⟨rfl, rfl⟩⟩
theorem RD.at {F : Int → Int} {C : Int → Int → Int} {T : Int → Int} {n o e k o' e' : Int} (h : RD F C T n o e k) (ho : 0 ≤ o' ∧ o' ≤ n) {F' : Int → Int} (h19 : F' 19 = o') (h22 : F' 22 = e') (h20 : F' 20 = F 20) (h21 : F' 21 = F 21) : RD F' C T n o' e' k := by
  obtain ⟨r1, r2, r3, r4, r5, r6, r7⟩ := h
  exact ⟨h20.trans r1, h19, h22, h21.trans r4, r5, ho, r7⟩
def FR2 (F F' : Int → Int) : Prop := ∀ i : Int, i ≠ 19 → i ≠ 22 → F' i = F i
theorem k_M_says {g : GG} {w : WW} {m : Nat} {A : Int → Nat} {F P : Int → Int} {C : Int → Int → Int} {T : Int → Int} {n k : Int} {x : Int ⊕ Int} {t b : Nat} {s : String} (hG : Base g) (hM : MD g w m A F P C) (hJ : KJ g) (hR : RS F C T n x k) (hT : SO g w t b (txN s) (txI s)) (hp : ∀ c ∈ chs s, 0 < c) (hl11 : txN s ≤ 11) : Ct g yX4_says (.code yX4_says cX4_says 3 none) 4 85 0 0 w [.ref m, .ref t] (fun r_ w1 => ∃ F1 : Int → Int, r_ = none ∧ MDF g w w1 m A F1 P C ∧ RS F1 C T n (pB x (pWord T n (chs s))) k ∧ FR2 F F1) xF := by
  refine Ct.of (lv := [some _, some _, none]) hG (by decide +kernel) (Nat.le_of_ble_eq_true rfl) rfl ?_
  intro z hg hpo hxp hnm htab
  subst hg
  have hM : MDF (zg z) w w m A F P C := ⟨hM, Fr.rf⟩
  have hM0 := hM.1
  have hln := chs_len (s := s)
  have hle := hT.le
  refine xr_iconst dX4_says_0 ?_
  refine xr_istore_n (lv' := [some _, some _, some _]) dX4_says_1 (by decide) rfl rfl ?_
  have lp2 : ∀ (fu2 : Nat) (w9 : WW) (F9 : Int → Int) (x9 : Int ⊕ Int) (i : Nat), i ≤ txN s → txN s < fu2 + i → MDF (zg z) w w9 m A F9 P C → RS F9 C T n x9 k → FR2 F F9 → pB x9 (pWord T n ((chs s).drop i)) = pB x (pWord T n (chs s)) → XJ z yX4_says.cls cX4_says 3 none 4 85 w9 (0 * fu2 + 0) (0 * fu2 + 0) 2 [some (.ref m), some (.ref t), some (.int (iI i))] [] := by
    intro fu2
    induction fu2 with
    | zero =>
      intro w9 F9 x9 i hi hfu hM hR9 hf9 hr9
      omega
    | succ fu2 ih2 =>
      intro w9 F9 x9 i hi hfu hM hR9 hf9 hr9
      have hT9 := hT.md hG hM0 hM.2
      refine xr_iload_n dX4_says_2 rfl ?_
      refine xr_aload_n dX4_says_3 rfl (by first | rfl | exact isRef_rf _) ?_
      refine xr_callV (n9 := 0) (rc' := 0 * fu2 + 0) (rs' := 0 * fu2 + 0) (k_S_length hG hJ hT9) (hT9.ob.choose_spec) rfl q2685 q1770 q1771 q94 q1772 (by decide +kernel) rfl ⟨by decide, Nat.le_of_ble_eq_true rfl⟩ ⟨by omega, by omega⟩ (Nat.le_of_ble_eq_true rfl) dX4_says_4 rfl (xk_r ?_) (fun _ _ _ h => h.elim)
      refine xr_icmp_ge (tgt := 66) dX4_says_7 (by decide) (by omega) (fun c7 => ?_) (fun c7 => ?_)
      · skip
        have hdr : (chs s).drop i = [] := List.drop_eq_nil_of_le (by omega)
        have hx9 : x9 = pB x (pWord T n (chs s)) := by
          rw [← hr9, hdr]; cases x9 <;> rfl
        refine xr_return rfl dX4_says_66 ?_
        rw [hpo]
        exact ⟨F9, rfl, hM, by rw [← hx9]; exact hR9, hf9⟩
      · skip
        refine xr_aload_n dX4_says_10 rfl (by first | rfl | exact isRef_rf _) ?_
        refine xr_getfield (ci := 14) (T := TX4) (N := 23) (i := 22) hM.1.1 rfl (by decide) in_X4 q2213 (.inl rfl) dX4_says_11 (by rfl) ?_
        obtain ⟨o9, e9, hD, hoe⟩ := hR9.d
        have hDD := hD
        obtain ⟨r1, r2, r3, r4, r5, r6, r7⟩ := hDD
        rw [r3]
        refine xr_if_ne (tgt := 66) dX4_says_14 (by decide) (by omega) (fun c14 => ?_) (fun c14 => ?_)
        · skip
          have hx9 : x9 = pB x (pWord T n (chs s)) := by
            rcases hoe with ⟨h1, h2⟩ | ⟨h1, h2⟩
            · rw [← hr9, h2]; rfl
            · omega
          refine xr_return rfl dX4_says_66 ?_
          rw [hpo]
          exact ⟨F9, rfl, hM, by rw [← hx9]; exact hR9, hf9⟩
        · skip
          have hxo : x9 = .inr o9 := by
            rcases hoe with ⟨h1, h2⟩ | ⟨h1, h2⟩
            · omega
            · exact h2
          have he9 : e9 = 0 := by omega
          rw [he9] at hD
          obtain ⟨c, hc⟩ : ∃ c, (chs s)[i]? = some c := ⟨(chs s)[i]'(by omega), List.getElem?_eq_getElem (by omega)⟩
          have hcp := hp c (List.mem_of_getElem? hc)
          have hca := chs_at hc
          have hdr : (chs s).drop i = c :: (chs s).drop (i + 1) := by
            obtain ⟨h1, h2⟩ := List.getElem?_eq_some_iff.mp hc
            rw [← h2]; exact List.drop_eq_getElem_cons h1
          have hch := hT.ch i (by omega) (by omega)
          have hrw : pB x (pWord T n (chs s)) = pB (pExp T n c o9) (fun o1 => pWord T n ((chs s).drop (i + 1)) o1) := by rw [← hr9, hxo, hdr]; rfl
          have hhr : -1 ≤ hereT T n o9 ∧ hereT T n o9 ≤ 126 := by
            unfold hereT
            split
            · have := (r7 o9 (by omega) (by omega)).2; omega
            · omega
          refine xr_aload_n dX4_says_17 rfl (by first | rfl | exact isRef_rf _) ?_
          refine xr_aload_n dX4_says_18 rfl (by first | rfl | exact isRef_rf _) ?_
          refine xr_iconst dX4_says_19 ?_
          refine xr_callV (n9 := 1) (rc' := 0 * fu2 + 0) (rs' := 0 * fu2 + 0) (k_M_here hG hM.1 hD (by omega)) hM.1.1 rfl q2672 q2674 qs80 q96 q2675 (by decide +kernel) rfl ⟨by decide, Nat.le_of_ble_eq_true rfl⟩ ⟨by omega, by omega⟩ (Nat.le_of_ble_eq_true rfl) dX4_says_20 rfl (xk_r ?_) (fun _ _ _ h => h.elim)
          rw [Int.add_zero]
          refine xr_aload_n dX4_says_23 rfl (by first | rfl | exact isRef_rf _) ?_
          refine xr_iload_n dX4_says_24 rfl ?_
          refine xr_callV (n9 := 1) (rc' := 0 * fu2 + 0) (rs' := 0 * fu2 + 0) (k_S_charAt hG hJ hT9 (by omega)) (hT9.ob.choose_spec) rfl q2686 q1848 q1849 q94 q1850 (by decide +kernel) rfl ⟨by decide, Nat.le_of_ble_eq_true rfl⟩ ⟨by omega, by omega⟩ (Nat.le_of_ble_eq_true rfl) dX4_says_25 rfl (xk_r ?_) (fun _ _ _ h => h.elim)
          rw [hca]
          refine xr_icmp_eq (tgt := 35) dX4_says_28 (by decide) (by omega) (fun c28 => ?_) (fun c28 => ?_)
          · skip
            have hcur := (hereT_cur (T := T) (n := n) (o := o9) hcp).mp (by omega)
            have hex : pExp T n c o9 = .inr (o9 + 1) := if_pos hcur
            have hon : o9 < n := by
              apply Decidable.byContradiction
              intro q9
              rw [curT, if_neg q9] at hcur
              omega
            refine xr_iconst dX4_says_35 ?_
            refine xr_putfield (ci := 14) (T := TX4) (N := 23) (i := 22) (fs' := [_, _, _, _, _, _, _, _, _, _, _, _, _, _, _, _, _, _, _, _, _, _, _]) hM.1.1 rfl (by decide) in_X4 tyX4 tyX4_ok nmX4 q2213 (.inl rfl) rfl dX4_says_36 (by decide +kernel) (by decide +kernel) (by simp) (by rfl) (.inl rfl) (fun _ => ?_)
            refine xr_mput (i := 22) hM (by rfl) (fun w36 hM => ?_)
            refine xr_aload_n dX4_says_39 rfl (by first | rfl | exact isRef_rf _) ?_
            refine xr_dup dX4_says_40 (by first | rfl | exact cat_rf _) ?_
            refine xr_getfield (ci := 14) (T := TX4) (N := 23) (i := 19) hM.1.1 rfl (by decide) in_X4 q2210 (.inl rfl) dX4_says_41 (by rfl) ?_
            rw [updI_ne (by decide), r2]
            refine xr_aload_n dX4_says_44 rfl (by first | rfl | exact isRef_rf _) ?_
            refine xr_getfield (ci := 14) (T := TX4) (N := 23) (i := 22) hM.1.1 rfl (by decide) in_X4 q2213 (.inl rfl) dX4_says_45 (by rfl) ?_
            rw [updI_eq]
            refine xr_if_eq (tgt := 55) dX4_says_48 (by decide) (by decide) (fun c48 => ?_) (fun c48 => absurd c48 (by decide))
            refine xr_iconst dX4_says_55 ?_
            refine xr_iadd dX4_says_56 ?_
            refine xr_putfield (ci := 14) (T := TX4) (N := 23) (i := 19) (fs' := [_, _, _, _, _, _, _, _, _, _, _, _, _, _, _, _, _, _, _, _, _, _, _]) hM.1.1 rfl (by decide) in_X4 tyX4 tyX4_ok nmX4 q2210 (.inl rfl) rfl dX4_says_57 (by rfl) (by rfl) (by simp) (by rfl) (.inl rfl) (fun _ => ?_)
            refine xr_mput (i := 19) hM (by rfl) (fun w57 hM => ?_)
            obtain ⟨F8, hF8⟩ : ∃ F8, F8 = updI F9 22 0 := ⟨_, rfl⟩
            refine xr_iinc (lv' := [some _, some _, some _]) dX4_says_60 rfl (by decide) rfl rfl ?_
            refine xr_goto (tgt := 2) dX4_says_63 (by decide) ?_
            refine xr_wk (rc' := 0 * fu2 + 0) (rs' := 0 * fu2 + 0) ⟨by omega, by omega⟩ (ih2 _ _ (pExp T n c o9) (i + 1) (by omega) (by omega) hM (by rw [hex]; exact hD.at (by omega) (by first | exact updI_eq | (rw [updI_eq]; omega)) (by rw [updI_ne (by decide), updI_eq]) (by rw [updI_ne (by decide), updI_ne (by decide)]) (by rw [updI_ne (by decide), updI_ne (by decide)])) (fun j h1 h2 => by rw [updI_ne h1, updI_ne h2]; exact hf9 j h1 h2) hrw.symm)
          · skip
            have hcur : ¬ curT T n o9 = c := fun q9 => by have := (hereT_cur (T := T) (n := n) (o := o9) hcp).mpr q9; omega
            have hex : pExp T n c o9 = .inl o9 := if_neg hcur
            refine xr_iconst dX4_says_31 ?_
            refine xr_goto (tgt := 36) dX4_says_32 (by decide) ?_
            refine xr_putfield (ci := 14) (T := TX4) (N := 23) (i := 22) (fs' := [_, _, _, _, _, _, _, _, _, _, _, _, _, _, _, _, _, _, _, _, _, _, _]) hM.1.1 rfl (by decide) in_X4 tyX4 tyX4_ok nmX4 q2213 (.inl rfl) rfl dX4_says_36 (by decide +kernel) (by decide +kernel) (by simp) (by rfl) (.inl rfl) (fun _ => ?_)
            refine xr_mput (i := 22) hM (by rfl) (fun w36 hM => ?_)
            refine xr_aload_n dX4_says_39 rfl (by first | rfl | exact isRef_rf _) ?_
            refine xr_dup dX4_says_40 (by first | rfl | exact cat_rf _) ?_
            refine xr_getfield (ci := 14) (T := TX4) (N := 23) (i := 19) hM.1.1 rfl (by decide) in_X4 q2210 (.inl rfl) dX4_says_41 (by rfl) ?_
            rw [updI_ne (by decide), r2]
            refine xr_aload_n dX4_says_44 rfl (by first | rfl | exact isRef_rf _) ?_
            refine xr_getfield (ci := 14) (T := TX4) (N := 23) (i := 22) hM.1.1 rfl (by decide) in_X4 q2213 (.inl rfl) dX4_says_45 (by rfl) ?_
            rw [updI_eq]
            refine xr_if_eq (tgt := 55) dX4_says_48 (by decide) (by decide) (fun c48 => absurd c48 (by decide)) (fun c48 => ?_)
            refine xr_iconst dX4_says_51 ?_
            refine xr_goto (tgt := 56) dX4_says_52 (by decide) ?_
            refine xr_iadd dX4_says_56 ?_
            refine xr_putfield (ci := 14) (T := TX4) (N := 23) (i := 19) (fs' := [_, _, _, _, _, _, _, _, _, _, _, _, _, _, _, _, _, _, _, _, _, _, _]) hM.1.1 rfl (by decide) in_X4 tyX4 tyX4_ok nmX4 q2210 (.inl rfl) rfl dX4_says_57 (by rfl) (by rfl) (by simp) (by rfl) (.inl rfl) (fun _ => ?_)
            refine xr_mput (i := 19) hM (by rfl) (fun w57 hM => ?_)
            obtain ⟨F8, hF8⟩ : ∃ F8, F8 = updI F9 22 0 := ⟨_, rfl⟩
            refine xr_iinc (lv' := [some _, some _, some _]) dX4_says_60 rfl (by decide) rfl rfl ?_
            refine xr_goto (tgt := 2) dX4_says_63 (by decide) ?_
            refine xr_wk (rc' := 0 * fu2 + 0) (rs' := 0 * fu2 + 0) ⟨by omega, by omega⟩ (ih2 _ _ (pExp T n c o9) (i + 1) (by omega) (by omega) hM (by rw [hex]; exact hD.at (by omega) (by first | exact updI_eq | (rw [updI_eq]; omega)) (by rw [updI_ne (by decide), updI_eq]) (by rw [updI_ne (by decide), updI_ne (by decide)]) (by rw [updI_ne (by decide), updI_ne (by decide)])) (fun j h1 h2 => by rw [updI_ne h1, updI_ne h2]; exact hf9 j h1 h2) hrw.symm)
  refine xr_wk (rc' := 0 * 12 + 0) (rs' := 0 * 12 + 0) ⟨by omega, by omega⟩ (lp2 12 w F x 0 (by omega) (by omega) hM hR (fun _ _ _ => rfl) rfl)
