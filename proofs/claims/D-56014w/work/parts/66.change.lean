/-! 66.change.lean.txt (written by tools/walker.py)  -/
set_option maxRecDepth 100000
/-! the broker's parks: each lies apart from the list of the old ones -/
def FP (g : GG) (w : WW) (hl harr q : Nat) (L : Int → Nat) (P : Int → Int) : Prop := (∃ n0 : Nat → Prop, PK g w n0 q L P) ∧ ¬ PA g q L P hl ∧ ¬ PA g q L P harr
theorem FP.fr {g : GG} {w w' : WW} {hl harr q : Nat} {L : Int → Nat} {P : Int → Int} (h : FP g w hl harr q L P) {S : Nat → Prop} (hf : Fr S w w') (hS : ∀ b, S b → gb g ≤ b) (hn : ∀ b, S b → ¬ PA g q L P b) : FP g w' hl harr q L P := by
  obtain ⟨⟨n0, hK⟩, h1, h2⟩ := h
  exact ⟨⟨n0, hK.fr hf (fun b hb hs => hn b hs hb) hS⟩, h1, h2⟩
theorem FP.ext {g : GG} {w w' : WW} {hl harr q : Nat} {L : Int → Nat} {P : Int → Int} (h : FP g w hl harr q L P) (hm : Mo w.2 w w') : FP g w' hl harr q L P := by
  obtain ⟨⟨n0, hK⟩, h1, h2⟩ := h
  exact ⟨⟨n0, hK.ext hm⟩, h1, h2⟩
theorem FP.arr {g : GG} {w : WW} {hl harr harr' q : Nat} {L : Int → Nat} {P : Int → Int} (h : FP g w hl harr q L P) (ha : harr' = harr ∨ w.2 ≤ harr') : FP g w hl harr' q L P := by
  obtain ⟨⟨n0, hK⟩, h1, h2⟩ := h
  refine ⟨⟨n0, hK⟩, h1, fun q9 => ?_⟩
  rcases ha with rfl | ha
  · exact h2 q9
  · have := hK.hi q9; omega
theorem FP.ob {g : GG} {w : WW} {hl harr q : Nat} {L : Int → Nat} {P : Int → Int} (h : FP g w hl harr q L P) : Ob w q 0 (qF L P) := by
  obtain ⟨⟨n0, hK⟩, -⟩ := h
  exact hK.hq
/-- the list and a thing of another class: what the broker's own writes touch -/
def XS (g : GG) (x hl harr : Nat) : Nat → Prop := fun b => b = x ∨ b = hl ∨ (b = harr ∧ gb g ≤ b)
theorem FP.xs {g : GG} {w w' : WW} {x hl harr q k : Nat} {fs : List Value} {L : Int → Nat} {P : Int → Int} (h : FP g w hl harr q L P) {S : Nat → Prop} (hf : Fr S w w') (hS : ∀ b, S b → XS g x hl harr b) (hx : Ob w x k fs) (hk : 5 < k) (hg : gb g ≤ x ∧ gb g ≤ hl) : FP g w' hl harr q L P := by
  obtain ⟨n0, hK⟩ := h.1
  refine h.fr hf (fun b hb => ?_) (fun b hb => ?_)
  · rcases hS b hb with rfl | rfl | ⟨rfl, h9⟩
    · exact hg.1
    · exact hg.2
    · exact h9
  · rcases hS b hb with rfl | rfl | ⟨rfl, h9⟩
    · exact hK.na hx hk
    · exact h.2.1
    · exact h.2.2
/-- the old parks -/
def HPs (g : GG) (w : WW) (hl harr : Nat) (H : List (Int → Int)) (f : Int → Option Nat) : Prop := AL g w hl harr H.length f ∧ ∀ (i : Nat) (Ph : Int → Int), H[i]? = some Ph → ∃ (qh : Nat) (Lh : Int → Nat), f i = some qh ∧ FP g w hl harr qh Lh Ph
theorem HPs.pks {g : GG} {w : WW} {hl harr : Nat} {H : List (Int → Int)} {f : Int → Option Nat} (h : HPs g w hl harr H f) : Pks w H.length f := by
  intro k h0 h1
  obtain ⟨Ph, hk⟩ : ∃ Ph, H[k.toNat]? = some Ph := ⟨H[k.toNat]'(by omega), List.getElem?_eq_getElem (by omega)⟩
  obtain ⟨qh, Lh, h2, h3⟩ := h.2 k.toNat Ph hk
  rw [Int.toNat_of_nonneg h0] at h2
  exact ⟨qh, _, h2, h3.ob⟩
theorem HPs.ext {g : GG} {w w' : WW} {hl harr : Nat} {H : List (Int → Int)} {f : Int → Option Nat} (h : HPs g w hl harr H f) (hm : Mo w.2 w w') : HPs g w' hl harr H f :=
  ⟨h.1.ext hm, fun i Ph hi => by
    obtain ⟨qh, Lh, h2, h3⟩ := h.2 i Ph hi
    exact ⟨qh, Lh, h2, h3.ext hm⟩⟩
theorem HPs.fx {g : GG} {w w' : WW} {x hl harr k : Nat} {fs : List Value} {H : List (Int → Int)} {f : Int → Option Nat} (h : HPs g w hl harr H f) (hf : Fr (fun b => b = x) w w') (hx : Ob w x k fs) (hk : 5 < k) (hg : gb g ≤ x ∧ gb g ≤ hl) : HPs g w' hl harr H f := by
  obtain ⟨h1, h2⟩ := h
  refine ⟨?_, fun i Ph hi => ?_⟩
  · obtain ⟨mm, cap, y, g1, g2, g3⟩ := h1
    exact ⟨mm, cap, y, g1.fr hf (g1.apart hx (by omega)), g2.fr hf (g2.ob_ne hx), g3⟩
  · obtain ⟨qh, Lh, h3, h4⟩ := h2 i Ph hi
    exact ⟨qh, Lh, h3, h4.xs hf (fun b hb => Or.inl hb) hx hk hg⟩
def pushH (H : List (Int → Int)) (P : Int → Int) : List (Int → Int) := (if H.length = 8 then H.tail else H) ++ [P]
theorem pushH_len {H : List (Int → Int)} {P : Int → Int} (h : H.length ≤ 8) : (pushH H P).length ≤ 8 := by
  unfold pushH
  split <;> simp <;> omega
theorem k_X_commit {g : GG} {w : WW} {x hl harr q q2 : Nat} {L L2 : Int → Nat} {P P2 : Int → Int} {H : List (Int → Int)} {fH : Int → Option Nat} {v1 v3 v4 v5 v6 : Value} {r : Int} (hG : Base g) (hL : KL g) (hx : Ob w x 13 [.ref q, v1, .ref hl, v3, v4, v5, v6]) (hF : FP g w hl harr q L P) (hH : HPs g w hl harr H fH) (h8 : H.length ≤ 8) (hF2 : FP g w hl harr q2 L2 P2) : Ct g yX1_commit (.code yX1_commit cX1_commit 3 (some .int)) 5 108 1 10 w [.ref x, .ref q2, .int (iI r)] (fun r_ w1 => r_ = some (.int (iI r)) ∧ ∃ (harr' : Nat) (fH' : Int → Option Nat), Ob w1 x 13 [.ref q2, v1, .ref hl, v3, v4, v5, v6] ∧ HPs g w1 hl harr' (pushH H P) fH' ∧ (harr' = harr ∨ w.2 ≤ harr') ∧ FP g w1 hl harr' q2 L2 P2 ∧ Fr (XS g x hl harr) w w1) xF := by
  refine Ct.of (lv := [some _, some _, some _]) hG (by decide +kernel) (Nat.le_of_ble_eq_true rfl) rfl ?_
  intro z hg hpo hxp hnm htab
  subst hg
  refine xr_ge hx rfl (fun hgx => ?_)
  obtain ⟨mm0, hol0⟩ := hH.1.ob
  refine xr_ge hol0 rfl (fun hgl => ?_)
  have hAl := hH.1.lt
  have hxl : x ≠ hl := hx.apart hol0 (by decide)
  have hxa : x ≠ harr := by
    obtain ⟨mq, cq, xq, -, g2, -⟩ := hH.1
    exact Ne.symm (g2.ob_ne hx)
  refine xr_aload_n dX1_commit_0 rfl (by first | rfl | exact isRef_rf _) ?_
  refine xr_getfield (ci := 13) (T := TX1) (N := 7) (i := 2) hx rfl (by decide) in_X1 q269 (.inl rfl) dX1_commit_1 (by rfl) ?_
  refine xr_callV (n9 := 0) (rc' := 1) (rs' := 10) (k_AL_size hG hH.1) hol0 rfl q1159 q298 q299 q91 q300 (by decide +kernel) rfl ⟨by decide, Nat.le_of_ble_eq_true rfl⟩ ⟨Nat.le_of_ble_eq_true rfl, Nat.le_of_ble_eq_true rfl⟩ (Nat.le_of_ble_eq_true rfl) dX1_commit_4 rfl (xk_r ?_) (fun _ _ _ h => h.elim)
  refine xr_bipush dX1_commit_7 (by decide) ?_
  refine xr_icmp_ne (tgt := 21) dX1_commit_9 (by decide) (by omega) (fun c9 => ?_) (fun c9 => ?_)
  · skip
    obtain ⟨w5, H5, f5, hH5, hx5, hF5, hF25, hf5, hl5, he5, hw5⟩ : ∃ (w5 : WW) (H5 : List (Int → Int)) (f5 : Int → Option Nat), HPs (zg z) w5 hl harr H5 f5 ∧ Ob w5 x 13 [.ref q, v1, .ref hl, v3, v4, v5, v6] ∧ FP (zg z) w5 hl harr q L P ∧ FP (zg z) w5 hl harr q2 L2 P2 ∧ Fr (XS (zg z) x hl harr) w w5 ∧ H5.length ≤ 7 ∧ pushH H P = H5 ++ [P] ∧ w = w5 := ⟨w, H, fH, hH, hx, hF, hF2, Fr.rf, by omega, by unfold pushH; rw [if_neg (by omega)], rfl⟩
    subst hw5
    refine xr_aload_n dX1_commit_21 rfl (by first | rfl | exact isRef_rf _) ?_
    refine xr_getfield (ci := 13) (T := TX1) (N := 7) (i := 2) hx5 rfl (by decide) in_X1 q269 (.inl rfl) dX1_commit_22 (by rfl) ?_
    refine xr_aload_n dX1_commit_25 rfl (by first | rfl | exact isRef_rf _) ?_
    refine xr_getfield (ci := 13) (T := TX1) (N := 7) (i := 0) hx5 rfl (by decide) in_X1 q267 (.inl rfl) dX1_commit_26 (by rfl) ?_
    refine xr_callV (n9 := 1) (rc' := 0) (rs' := 0) (k_AL_add hG hL hH5.1 (by omega) hF5.ob rfl q2766 (by decide)) (hH5.1.ob.choose_spec) rfl q1169 q768 q769 q91 q770 (by decide +kernel) rfl ⟨by decide, Nat.le_of_ble_eq_true rfl⟩ ⟨Nat.le_of_ble_eq_true rfl, Nat.le_of_ble_eq_true rfl⟩ (Nat.le_of_ble_eq_true rfl) dX1_commit_29 rfl (fun r w29 hw => ?_) (fun _ _ _ h => h.elim)
    obtain ⟨rfl, arr9, hA29, hf29, har29⟩ := hw
    have hx29 : Ob w29 x 13 [.ref q, v1, .ref hl, v3, v4, v5, v6] := hx5.fr hf29 (fun q9 => by rcases q9 with q9 | ⟨q9, -⟩; exact hxl q9; exact hxa q9)
    have hF29 := hF5.xs (x := x) hf29 (fun y hy => by rcases hy with h9 | ⟨h9, h8⟩; exact Or.inr (Or.inl h9); exact Or.inr (Or.inr ⟨h9, h8⟩)) hx5 (by decide) ⟨hgx, hgl⟩
    have hF229 := (hF25.arr har29).fr hf29 (fun b hb => by rcases hb with rfl | ⟨rfl, h9⟩; exact hgl; exact h9) (fun b hb => by rcases hb with rfl | ⟨rfl, h9⟩; exact hF25.2.1; exact hF25.2.2)
    have hA5l := hH5.1.lt
    refine xr_pop dX1_commit_32 (by first | rfl | exact cat_rf _) ?_
    refine xr_aload_n dX1_commit_33 rfl (by first | rfl | exact isRef_rf _) ?_
    refine xr_aload_n dX1_commit_34 rfl (by first | rfl | exact isRef_rf _) ?_
    refine xr_putfield (ci := 13) (T := TX1) (N := 7) (i := 0) (fs' := [_, _, _, _, _, _, _]) hx29 rfl (by decide) in_X1 tyX1 tyX1_ok nmX1 q267 (.inl rfl) rfl dX1_commit_35 (by first | rfl | exact nar_bI _ | exact nar_rf _) (by first | rfl | exact fit_bI _ | exact fit_rf _ _) (by simp) (by rfl) (.inl rfl) (fun hob35 => ?_)
    have hxl2 : x ≠ arr9 := by
      obtain ⟨mq, cq, xq, -, g2, -⟩ := hA29
      exact Ne.symm (g2.ob_ne hx29)
    have hfx : Fr (fun b => b = x) w29 (wput w29 x (.inl (.inr (13, [.ref q2, v1, .ref hl, v3, v4, v5, v6])))) := Fr.put1 _
    have hH29 : HPs (zg z) w29 hl arr9 (H5 ++ [P]) (updR f5 (H5.length : Int) (some q)) := by
      refine ⟨by rw [List.length_append]; exact hA29, fun i Ph hi => ?_⟩
      rw [List.getElem?_append] at hi
      by_cases h1 : i < H5.length
      · rw [if_pos h1] at hi
        obtain ⟨qh, Lh, h2, h3⟩ := hH5.2 i Ph hi
        refine ⟨qh, Lh, by unfold updR; rw [if_neg (by omega)]; exact h2, ?_⟩
        exact (h3.arr har29).fr hf29 (fun b hb => by rcases hb with rfl | ⟨rfl, h9⟩; exact hgl; exact h9) (fun b hb => by rcases hb with rfl | ⟨rfl, h9⟩; exact h3.2.1; exact h3.2.2)
      · rw [if_neg h1] at hi
        have hi2 : i = H5.length := by
          by_cases h2 : i - H5.length = 0
          · omega
          · rw [List.getElem?_eq_none (by simp; omega)] at hi; cases hi
        subst hi2
        rw [Nat.sub_self] at hi
        have hc : P = Ph := by simpa using hi
        subst hc
        exact ⟨q, L, by unfold updR; rw [if_pos rfl], (hF5.arr har29).fr hf29 (fun b hb => by rcases hb with rfl | ⟨rfl, h9⟩; exact hgl; exact h9) (fun b hb => by rcases hb with rfl | ⟨rfl, h9⟩; exact hF5.2.1; exact hF5.2.2)⟩
    have hfw5 := hf5.1
    refine xr_iload_n dX1_commit_38 rfl ?_
    refine xr_ireturn rfl rfl dX1_commit_39 ?_
    rw [hpo]
    rw [he5]
    exact ⟨rfl, arr9, _, hob35, hH29.fx hfx hx29 (by decide) ⟨hgx, hgl⟩, by omega, hF229.xs (x := x) hfx (fun b hb => Or.inl hb) hx29 (by decide) ⟨hgx, hgl⟩, (hf5.tr hf29 (fun y _ hy => (fun y hy => by rcases hy with h9 | ⟨h9, h8⟩; exact Or.inr (Or.inl h9); exact Or.inr (Or.inr ⟨h9, h8⟩)) y hy)).tr hfx (fun y _ hy => Or.inl hy)⟩
  · skip
    have c9 : H.length = 8 := by omega
    refine xr_aload_n dX1_commit_12 rfl (by first | rfl | exact isRef_rf _) ?_
    refine xr_getfield (ci := 13) (T := TX1) (N := 7) (i := 2) hx rfl (by decide) in_X1 q269 (.inl rfl) dX1_commit_13 (by rfl) ?_
    refine xr_iconst dX1_commit_16 ?_
    refine xr_callV (n9 := 1) (rc' := 1) (rs' := 10) (k_AL_remove hG hH.1 ⟨by omega, by omega⟩ hH.pks (v := (hH.2 0 (H[0]'(by omega)) (List.getElem?_eq_getElem (by omega))).choose) (hH.2 0 (H[0]'(by omega)) (List.getElem?_eq_getElem (by omega))).choose_spec.choose_spec.1) hol0 rfl q1160 q1161 q1162 q91 q1163 (by decide +kernel) rfl ⟨by decide, Nat.le_of_ble_eq_true rfl⟩ ⟨Nat.le_of_ble_eq_true rfl, Nat.le_of_ble_eq_true rfl⟩ (Nat.le_of_ble_eq_true rfl) dX1_commit_17 rfl (fun r w17 hw => ?_) (fun _ _ _ h => h.elim)
    obtain ⟨rfl, hA17, hf17⟩ := hw
    show XJ _ _ _ _ _ _ _ _ _ _ _ _ [.ref _]
    have hx5 : Ob w17 x 13 [.ref q, v1, .ref hl, v3, v4, v5, v6] := hx.fr hf17 (fun q9 => by rcases q9 with q9 | ⟨q9, -⟩; exact hxl q9; exact hxa q9)
    have hF5 := hF.xs (x := x) hf17 (fun y hy => by rcases hy with h9 | ⟨h9, h8⟩; exact Or.inr (Or.inl h9); exact Or.inr (Or.inr ⟨h9, h8⟩)) hx (by decide) ⟨hgx, hgl⟩
    have hF25 := hF2.xs (x := x) hf17 (fun y hy => by rcases hy with h9 | ⟨h9, h8⟩; exact Or.inr (Or.inl h9); exact Or.inr (Or.inr ⟨h9, h8⟩)) hx (by decide) ⟨hgx, hgl⟩
    have hf5 : Fr (XS (zg z) x hl harr) w w17 := hf17.to (fun y _ hy => (fun y hy => by rcases hy with h9 | ⟨h9, h8⟩; exact Or.inr (Or.inl h9); exact Or.inr (Or.inr ⟨h9, h8⟩)) y hy)
    have htl : H.tail.length = 7 := by rw [List.length_tail]; omega
    obtain ⟨H5, hH5e⟩ : ∃ H5, H5 = H.tail := ⟨_, rfl⟩
    have hH5 : HPs (zg z) w17 hl harr H5 (rmI fH 0) := by
      rw [hH5e]
      refine ⟨by rw [show (H.tail.length : Int) = H.length - 1 by omega]; exact hA17, fun i Ph hi => ?_⟩
      rw [List.getElem?_tail] at hi
      obtain ⟨qh, Lh, h2, h3⟩ := hH.2 (i + 1) Ph hi
      exact ⟨qh, Lh, by unfold rmI; rw [if_neg (by omega)]; exact h2, h3.xs (x := x) hf17 (fun y hy => by rcases hy with h9 | ⟨h9, h8⟩; exact Or.inr (Or.inl h9); exact Or.inr (Or.inr ⟨h9, h8⟩)) hx (by decide) ⟨hgx, hgl⟩⟩
    obtain ⟨f5, hf5e⟩ : ∃ f5, f5 = rmI fH 0 := ⟨_, rfl⟩
    rw [← hf5e] at hH5
    have hl5 : H5.length ≤ 7 := by rw [hH5e]; omega
    have he5 : pushH H P = H5 ++ [P] := by unfold pushH; rw [if_pos c9, hH5e]
    refine xr_pop dX1_commit_20 (by first | rfl | exact cat_rf _) ?_
    refine xr_aload_n dX1_commit_21 rfl (by first | rfl | exact isRef_rf _) ?_
    refine xr_getfield (ci := 13) (T := TX1) (N := 7) (i := 2) hx5 rfl (by decide) in_X1 q269 (.inl rfl) dX1_commit_22 (by rfl) ?_
    refine xr_aload_n dX1_commit_25 rfl (by first | rfl | exact isRef_rf _) ?_
    refine xr_getfield (ci := 13) (T := TX1) (N := 7) (i := 0) hx5 rfl (by decide) in_X1 q267 (.inl rfl) dX1_commit_26 (by rfl) ?_
    refine xr_callV (n9 := 1) (rc' := 0) (rs' := 0) (k_AL_add hG hL hH5.1 (by omega) hF5.ob rfl q2766 (by decide)) (hH5.1.ob.choose_spec) rfl q1169 q768 q769 q91 q770 (by decide +kernel) rfl ⟨by decide, Nat.le_of_ble_eq_true rfl⟩ ⟨Nat.le_of_ble_eq_true rfl, Nat.le_of_ble_eq_true rfl⟩ (Nat.le_of_ble_eq_true rfl) dX1_commit_29 rfl (fun r w29 hw => ?_) (fun _ _ _ h => h.elim)
    obtain ⟨rfl, arr9, hA29, hf29, har29⟩ := hw
    have hx29 : Ob w29 x 13 [.ref q, v1, .ref hl, v3, v4, v5, v6] := hx5.fr hf29 (fun q9 => by rcases q9 with q9 | ⟨q9, -⟩; exact hxl q9; exact hxa q9)
    have hF29 := hF5.xs (x := x) hf29 (fun y hy => by rcases hy with h9 | ⟨h9, h8⟩; exact Or.inr (Or.inl h9); exact Or.inr (Or.inr ⟨h9, h8⟩)) hx5 (by decide) ⟨hgx, hgl⟩
    have hF229 := (hF25.arr har29).fr hf29 (fun b hb => by rcases hb with rfl | ⟨rfl, h9⟩; exact hgl; exact h9) (fun b hb => by rcases hb with rfl | ⟨rfl, h9⟩; exact hF25.2.1; exact hF25.2.2)
    have hA5l := hH5.1.lt
    refine xr_pop dX1_commit_32 (by first | rfl | exact cat_rf _) ?_
    refine xr_aload_n dX1_commit_33 rfl (by first | rfl | exact isRef_rf _) ?_
    refine xr_aload_n dX1_commit_34 rfl (by first | rfl | exact isRef_rf _) ?_
    refine xr_putfield (ci := 13) (T := TX1) (N := 7) (i := 0) (fs' := [_, _, _, _, _, _, _]) hx29 rfl (by decide) in_X1 tyX1 tyX1_ok nmX1 q267 (.inl rfl) rfl dX1_commit_35 (by first | rfl | exact nar_bI _ | exact nar_rf _) (by first | rfl | exact fit_bI _ | exact fit_rf _ _) (by simp) (by rfl) (.inl rfl) (fun hob35 => ?_)
    have hxl2 : x ≠ arr9 := by
      obtain ⟨mq, cq, xq, -, g2, -⟩ := hA29
      exact Ne.symm (g2.ob_ne hx29)
    have hfx : Fr (fun b => b = x) w29 (wput w29 x (.inl (.inr (13, [.ref q2, v1, .ref hl, v3, v4, v5, v6])))) := Fr.put1 _
    have hH29 : HPs (zg z) w29 hl arr9 (H5 ++ [P]) (updR f5 (H5.length : Int) (some q)) := by
      refine ⟨by rw [List.length_append]; exact hA29, fun i Ph hi => ?_⟩
      rw [List.getElem?_append] at hi
      by_cases h1 : i < H5.length
      · rw [if_pos h1] at hi
        obtain ⟨qh, Lh, h2, h3⟩ := hH5.2 i Ph hi
        refine ⟨qh, Lh, by unfold updR; rw [if_neg (by omega)]; exact h2, ?_⟩
        exact (h3.arr har29).fr hf29 (fun b hb => by rcases hb with rfl | ⟨rfl, h9⟩; exact hgl; exact h9) (fun b hb => by rcases hb with rfl | ⟨rfl, h9⟩; exact h3.2.1; exact h3.2.2)
      · rw [if_neg h1] at hi
        have hi2 : i = H5.length := by
          by_cases h2 : i - H5.length = 0
          · omega
          · rw [List.getElem?_eq_none (by simp; omega)] at hi; cases hi
        subst hi2
        rw [Nat.sub_self] at hi
        have hc : P = Ph := by simpa using hi
        subst hc
        exact ⟨q, L, by unfold updR; rw [if_pos rfl], (hF5.arr har29).fr hf29 (fun b hb => by rcases hb with rfl | ⟨rfl, h9⟩; exact hgl; exact h9) (fun b hb => by rcases hb with rfl | ⟨rfl, h9⟩; exact hF5.2.1; exact hF5.2.2)⟩
    have hfw5 := hf5.1
    refine xr_iload_n dX1_commit_38 rfl ?_
    refine xr_ireturn rfl rfl dX1_commit_39 ?_
    rw [hpo]
    rw [he5]
    exact ⟨rfl, arr9, _, hob35, hH29.fx hfx hx29 (by decide) ⟨hgx, hgl⟩, by omega, hF229.xs (x := x) hfx (fun b hb => Or.inl hb) hx29 (by decide) ⟨hgx, hgl⟩, (hf5.tr hf29 (fun y _ hy => (fun y hy => by rcases hy with h9 | ⟨h9, h8⟩; exact Or.inr (Or.inl h9); exact Or.inr (Or.inr ⟨h9, h8⟩)) y hy)).tr hfx (fun y _ hy => Or.inl hy)⟩
section Rn
variable {z : ZZ} {own : String} {cc : ByteArray} {nL fr lo rc rs pc : Nat} {ret : Option FieldType} {w : WW} {lv : List (Option Value)} {st : List Value}
theorem xr_runA {x q idx rc' rs' : Nat} {n0 : Nat → Prop} {L : Int → Nat} {P : Int → Int} {N : Int} {c : Cm} {rest : List Value} (hG : Base (zg z)) (hob : CmO w x c) (hs : cmS c) (hL : KL (zg z)) (hK : PK (zg z) w n0 q L P) (hB : PB P N) (hN : N + 13000 ≤ 10000000) (hac : cA c P = true) (hlink : Cond.methodLink own idx ⟨"BenchBroker$Action", "run", "(LBenchBroker$Park;)I"⟩ ∈ lw_all) (hfr : 16 + 1 ≤ fr) (hlo : 3213 ≤ lo) (hb : rc' + 286 ≤ rc ∧ rs' + 572 ≤ rs) (hcat : (rest.map fun v => v.category).sum ≤ 8) (d : decode cc pc = .ok (.invokevirtual idx, 3)) (hst : st = .ref q :: .ref x :: rest)
    (k : ∀ (L' : Int → Nat) (w' : WW), (cR c P).1 = 0 → PK (zg z) w' n0 q L' (cO c P) → Fr n0 w w' → XJ z own cc nL ret fr lo w' rc' rs' (pc + 3) lv (.int (iI (cV c P)) :: rest))
    (kx : ∀ (E : String) (q9 : Nat) (w' : WW), (E = "BenchBroker$Rejection" ∧ (cR c P).1 ≠ 0 ∧ Ob w' q9 6 [.int (iI (cR c P).1), .int (iI (cR c P).2), .int (iI 0)] ∧ Mo w.2 w w' ∧ w.2 ≤ q9) → XT z own cc nL ret fr lo w' rc' rs' pc lv E q9) : XJ z own cc nL ret fr lo w rc rs pc lv st := by
  subst hst
  obtain ⟨s, a, b, v⟩ := c
  obtain ⟨hs, ha9, hb9, hv9⟩ := hs
  dsimp only at hs ha9 hb9 hv9
  rcases hs with rfl | rfl | rfl | rfl | rfl | rfl | rfl | rfl | rfl | rfl
  · have ho : Ob w x 9 [.int (iI a), .int (iI b), .int (iI v), .int (iI 98)] := hob
    refine xr_callVA (n9 := 1) (rc' := rc') (rs' := rs') (k_run_b (x := a) (y := b) (v := v) hG ho hL hK hB ⟨ha9, hb9, hv9⟩ hN (of_decide_eq_true hac)) ho rfl hlink q1007 q1006 q1009 q1008 q104 q1010 (by decide +kernel) rfl ⟨by omega, by omega⟩ ⟨by omega, by omega⟩ hcat d rfl (fun r w' h => ?_) (fun E q9 w' h => ?_)
    · obtain ⟨L', rfl, h2, h3, h4⟩ := h
      exact k L' w' h2 h3 h4
    · obtain ⟨h2, ⟨h3, h4⟩, h5, h6⟩ := h
      exact kx E q9 w' ⟨h2, h3, h4, h5, h6⟩
  · have ho : Ob w x 9 [.int (iI a), .int (iI b), .int (iI v), .int (iI 102)] := hob
    refine xr_callVA (n9 := 1) (rc' := rc') (rs' := rs') (k_run_f (x := a) (y := b) (v := v) hG ho hL hK hB ⟨ha9, hb9, hv9⟩ hN (of_decide_eq_true hac)) ho rfl hlink q1007 q1006 q1009 q1008 q104 q1010 (by decide +kernel) rfl ⟨by omega, by omega⟩ ⟨by omega, by omega⟩ hcat d rfl (fun r w' h => ?_) (fun E q9 w' h => ?_)
    · obtain ⟨L', rfl, h2, h3, h4⟩ := h
      exact k L' w' h2 h3 h4
    · obtain ⟨h2, ⟨h3, h4⟩, h5, h6⟩ := h
      exact kx E q9 w' ⟨h2, h3, h4, h5, h6⟩
  · have ho : Ob w x 9 [.int (iI (-1)), .int (iI (-1)), .int (iI a), .int (iI 116)] := hob
    refine xr_callVA (n9 := 1) (rc' := rc') (rs' := rs') (k_run_t (v := a) hG ho hL hK hB ha9 hN (of_decide_eq_true hac)) ho rfl hlink q1007 q1006 q1009 q1008 q104 q1010 (by decide +kernel) rfl ⟨by omega, by omega⟩ ⟨by omega, by omega⟩ hcat d rfl (fun r w' h => ?_) (fun E q9 w' h => ?_)
    · obtain ⟨L', rfl, h2, h3, h4⟩ := h
      exact k L' w' h2 h3 h4
    · obtain ⟨h2, ⟨h3, h4⟩, h5, h6⟩ := h
      exact kx E q9 w' ⟨h2, h3, h4, h5, h6⟩
  · have ho : Ob w x 10 [.int (iI a), .int (iI b), .int (iI v), .int (iI 108)] := hob
    refine xr_callVA (n9 := 1) (rc' := rc') (rs' := rs') (k_run_l (x := a) (y := b) (v := v) hG ho hL hK hB ⟨ha9, hb9, hv9⟩ hN (of_decide_eq_true hac)) ho rfl hlink q1007 q1006 q1092 q1091 q125 q1093 (by decide +kernel) rfl ⟨by omega, by omega⟩ ⟨by omega, by omega⟩ hcat d rfl (fun r w' h => ?_) (fun E q9 w' h => ?_)
    · obtain ⟨L', rfl, h2, h3, h4⟩ := h
      exact k L' w' h2 h3 h4
    · obtain ⟨h2, ⟨h3, h4⟩, h5, h6⟩ := h
      exact kx E q9 w' ⟨h2, h3, h4, h5, h6⟩
  · have ho : Ob w x 10 [.int (iI (-1)), .int (iI a), .int (iI b), .int (iI 114)] := hob
    refine xr_callVA (n9 := 1) (rc' := rc') (rs' := rs') (k_run_r (y := a) (v := b) hG ho hL hK hB ⟨ha9, hb9⟩ hN (of_decide_eq_true hac)) ho rfl hlink q1007 q1006 q1092 q1091 q125 q1093 (by decide +kernel) rfl ⟨by omega, by omega⟩ ⟨by omega, by omega⟩ hcat d rfl (fun r w' h => ?_) (fun E q9 w' h => ?_)
    · obtain ⟨L', rfl, h2, h3, h4⟩ := h
      exact k L' w' h2 h3 h4
    · obtain ⟨h2, ⟨h3, h4⟩, h5, h6⟩ := h
      exact kx E q9 w' ⟨h2, h3, h4, h5, h6⟩
  · have ho : Ob w x 10 [.int (iI (-1)), .int (iI a), .int (iI (-1)), .int (iI 101)] := hob
    refine xr_callVA (n9 := 1) (rc' := rc') (rs' := rs') (k_run_e (y := a) hG ho hL hK hB ha9 hN (of_decide_eq_true hac)) ho rfl hlink q1007 q1006 q1092 q1091 q125 q1093 (by decide +kernel) rfl ⟨by omega, by omega⟩ ⟨by omega, by omega⟩ hcat d rfl (fun r w' h => ?_) (fun E q9 w' h => ?_)
    · obtain ⟨L', rfl, h2, h3, h4⟩ := h
      exact k L' w' h2 h3 h4
    · obtain ⟨h2, ⟨h3, h4⟩, h5, h6⟩ := h
      exact kx E q9 w' ⟨h2, h3, h4, h5, h6⟩
  · have ho : Ob w x 11 [.int (iI a), .int (iI (-1)), .int (iI b), .int (iI 103)] := hob
    refine xr_callVA (n9 := 1) (rc' := rc') (rs' := rs') (k_run_g (x := a) (v := b) hG ho hL hK hB ⟨ha9, hb9⟩ hN (of_decide_eq_true hac)) ho rfl hlink q1007 q1006 q1133 q1132 q118 q1134 (by decide +kernel) rfl ⟨by omega, by omega⟩ ⟨by omega, by omega⟩ hcat d rfl (fun r w' h => ?_) (fun E q9 w' h => ?_)
    · obtain ⟨L', rfl, h3, h4⟩ := h
      exact k L' w' rfl h3 h4
    · exact h.elim
  · have ho : Ob w x 11 [.int (iI a), .int (iI (-1)), .int (iI (-1)), .int (iI 115)] := hob
    refine xr_callVA (n9 := 1) (rc' := rc') (rs' := rs') (k_run_s (x := a) hG ho hL hK hB ha9 hN (of_decide_eq_true hac)) ho rfl hlink q1007 q1006 q1133 q1132 q118 q1134 (by decide +kernel) rfl ⟨by omega, by omega⟩ ⟨by omega, by omega⟩ hcat d rfl (fun r w' h => ?_) (fun E q9 w' h => ?_)
    · obtain ⟨L', rfl, h3, h4⟩ := h
      exact k L' w' rfl h3 h4
    · exact h.elim
  · have ho : Ob w x 11 [.int (iI (-1)), .int (iI (-1)), .int (iI a), .int (iI 110)] := hob
    refine xr_callVA (n9 := 1) (rc' := rc') (rs' := rs') (k_run_n (v := a) hG ho hL hK hB ha9 hN (of_decide_eq_true hac)) ho rfl hlink q1007 q1006 q1133 q1132 q118 q1134 (by decide +kernel) rfl ⟨by omega, by omega⟩ ⟨by omega, by omega⟩ hcat d rfl (fun r w' h => ?_) (fun E q9 w' h => ?_)
    · obtain ⟨L', rfl, h3, h4⟩ := h
      exact k L' w' rfl h3 h4
    · exact h.elim
  · have ho : Ob w x 11 [.int (iI (-1)), .int (iI (-1)), .int (iI a), .int (iI 112)] := hob
    refine xr_callVA (n9 := 1) (rc' := rc') (rs' := rs') (k_run_p (v := a) hG ho hL hK hB ha9 hN (of_decide_eq_true hac)) ho rfl hlink q1007 q1006 q1133 q1132 q118 q1134 (by decide +kernel) rfl ⟨by omega, by omega⟩ ⟨by omega, by omega⟩ hcat d rfl (fun r w' h => ?_) (fun E q9 w' h => ?_)
    · obtain ⟨L', rfl, h3, h4⟩ := h
      exact k L' w' rfl h3 h4
    · exact h.elim
end Rn
theorem k_X_change {g : GG} {w : WW} {x hl harr q : Nat} {L : Int → Nat} {P : Int → Int} {H : List (Int → Int)} {fH : Int → Option Nat} {v1 v3 v4 v5 v6 : Value} {a : Nat} {N : Int} {c : Cm} (hG : Base g) (hL : KL g) (hx : Ob w x 13 [.ref q, v1, .ref hl, v3, v4, v5, v6]) (hF : FP g w hl harr q L P) (hH : HPs g w hl harr H fH) (h8 : H.length ≤ 8) (hB : PB P N) (hN : N + 13000 ≤ 10000000) (hC : PCon P) (hac : cA c P = true) (hs : cmS c) (hob : CmO w a c) : Ct g yX1_change (.codeWith yX1_change cX1_change 4 (some .int) [(8, 20, 21, 25)]) 17 3213 344 992 w [.ref x, .ref a] (fun r_ w1 => (cR c P).1 = 0 ∧ r_ = some (.int (iI (cV c P))) ∧ ∃ (q2 : Nat) (L2 : Int → Nat), ∃ (harr' : Nat) (fH' : Int → Option Nat), Ob w1 x 13 [.ref q2, v1, .ref hl, v3, v4, v5, v6] ∧ HPs g w1 hl harr' (pushH H P) fH' ∧ (harr' = harr ∨ w.2 ≤ harr') ∧ FP g w1 hl harr' q2 L2 (cO c P) ∧ Fr (XS g x hl harr) w w1) (fun E a9 w1 => E = "java/lang/UnsupportedOperationException" ∧ (cR c P).1 ≠ 0 ∧ ∃ r9 : Nat, Ob w1 x 13 [.ref q, v1, .ref hl, v3, v4, v5, .ref r9] ∧ Ob w1 r9 6 [.int (iI (cR c P).1), .int (iI (cR c P).2), .int (iI 0)] ∧ w.2 ≤ r9 ∧ Fr (fun y => y = x) w w1) := by
  refine Ct.ofH (lv := [some _, some _, none, none]) hG (by decide +kernel) (Nat.le_of_ble_eq_true rfl) rfl ?_
  intro z hg hpo hxp hnm htab
  subst hg
  obtain ⟨n0, hK⟩ := hF.1
  have hAl := hH.1.lt
  have hxw := hx.2
  obtain ⟨mm0, hol0⟩ := hH.1.ob
  refine xr_aload_n dX1_change_0 rfl (by first | rfl | exact isRef_rf _) ?_
  refine xr_getfield (ci := 13) (T := TX1) (N := 7) (i := 0) hx rfl (by decide) in_X1 q267 (.inl rfl) dX1_change_1 (by rfl) ?_
  refine xr_callV (n9 := 0) (rc' := 287) (rs' := 582) (k_P_copy hG hL hK hC) hK.hq rfl q901 q727 q728 q87 q729 (by decide +kernel) rfl ⟨by decide, Nat.le_of_ble_eq_true rfl⟩ ⟨Nat.le_of_ble_eq_true rfl, Nat.le_of_ble_eq_true rfl⟩ (Nat.le_of_ble_eq_true rfl) dX1_change_4 rfl (fun r w4 hw => ?_) (fun _ _ _ h => h.elim)
  obtain ⟨q2, L2, rfl, hK2, hg2, hm4⟩ := hw
  show XJ _ _ _ _ _ _ _ _ _ _ _ _ [.ref q2]
  have ho4 : Ob w4 a (cmF c).1 (cmF c).2 := Ob.ext hob hm4
  refine xr_astore_n (lv' := [some _, some _, some _, none]) dX1_change_7 (by decide) rfl (by first | rfl | exact isRef_rf _) rfl ?_
  refine xr_aload_n dX1_change_8 rfl (by first | rfl | exact isRef_rf _) ?_
  refine xr_aload_n dX1_change_9 rfl (by first | rfl | exact isRef_rf _) ?_
  refine xr_runA (rc' := 1) (rs' := 10) (c := c) hG ho4 hs hL hK2 hB hN hac q1005 (by decide) (by decide) ⟨Nat.le_of_ble_eq_true rfl, Nat.le_of_ble_eq_true rfl⟩ (Nat.le_of_ble_eq_true rfl) dX1_change_10 rfl (fun L7 w10 hr10 hK10 hf10 => ?_) (fun E r9 w10 hx10 => ?_)
  rotate_left
  · skip
    obtain ⟨rfl, hr10, hoq, hmq, hr9⟩ := hx10
    refine xt_catch (name := "BenchBroker$Rejection") [] ⟨8, 20, 21, 25⟩ [] (by rw [htab]; rfl) (fun y hy => by cases hy) (by decide) (by decide) q1004 q1037 ?_
    have hm10 := hm4.tr hmq hm4.1
    have hx10 := hx.ext hm10
    refine xr_astore_n (lv' := [some _, some _, some _, some _]) dX1_change_21 (by decide) rfl (by first | rfl | exact isRef_rf _) rfl ?_
    refine xr_aload_n dX1_change_22 rfl (by first | rfl | exact isRef_rf _) ?_
    refine xr_aload_n dX1_change_23 rfl (by first | rfl | exact isRef_rf _) ?_
    refine xr_putfield (ci := 13) (T := TX1) (N := 7) (i := 6) (fs' := [_, _, _, _, _, _, _]) hx10 rfl (by decide) in_X1 tyX1 tyX1_ok nmX1 q273 (.inl rfl) rfl dX1_change_24 (by first | rfl | exact nar_bI _ | exact nar_rf _) (by first | rfl | exact fit_bI _ | exact fit_rf _ _) (by simp) (by rfl) (.inl rfl) (fun hob24 => ?_)
    have hoq2 := hoq.put_k hx10 (f' := [.ref q, v1, .ref hl, v3, v4, v5, .ref r9]) (by decide)
    have hm41 := hm4.1
    refine xr_throw0 (cls := "java/lang/UnsupportedOperationException") (names := ["java/lang/RuntimeException", "java/lang/Exception"]) (by decide +kernel) (by decide +kernel) q1170 q117 (at_words [97, 546, 555, 567, 570, 572, 547, 548, 139, 140, 549, 554, 568, 588, 536, 589, 538, 590, 540, 550, 552, 542, 1180, 1181, 1182, 695, 527, 695, 696, 697, 698, 529, 698, 699, 700, 547, 531, 1179, 1171, 1172, 1173, 565, 1174, 1175, 1176, 1177, 586, 544, 1178] (by decide +kernel) (by decide +kernel)) ⟨rfl, rfl⟩ dX1_change_27 dX1_change_30 dX1_change_31 dX1_change_34 (by rw [htab]; decide) (by decide) (Nat.le_of_ble_eq_true rfl) ⟨Nat.le_of_ble_eq_true rfl, Nat.le_of_ble_eq_true rfl⟩ (fun q9 hq9 => ?_)
    rw [hxp]
    exact ⟨rfl, hr10, r9, hob24, hoq2, by omega, (hm10.fr.to (S' := fun y => y = x) (fun y hy (q8 : w.2 ≤ y) => by omega)).tr (Fr.put1 _) (fun _ _ q8 => q8)⟩
  have hm10 : Mo w.2 w w10 := hm4.tr (hf10.mo (n := w.2) (fun y _ (q9 : q2 ≤ y) => by omega)) (Nat.le_refl _)
  have hF10 : FP (zg z) w10 hl harr q2 L7 (cO c P) := ⟨⟨_, hK10⟩, fun h9 => by have h8 : q2 ≤ hl := hK10.lo _ h9; omega, fun h9 => by have h8 : q2 ≤ harr := hK10.lo _ h9; omega⟩
  have hx10 := hx.ext hm10
  have hm101 := hm10.1
  refine xr_istore_n (lv' := [some _, some _, some _, some _]) dX1_change_13 (by decide) rfl rfl ?_
  refine xr_aload_n dX1_change_14 rfl (by first | rfl | exact isRef_rf _) ?_
  refine xr_aload_n dX1_change_15 rfl (by first | rfl | exact isRef_rf _) ?_
  refine xr_iload_n dX1_change_16 rfl ?_
  refine xr_callV (n9 := 2) (rc' := 0) (rs' := 0) (k_X_commit hG hL hx10 (hF.ext hm10) (hH.ext hm10) h8 hF10) hx10 rfl q1155 q1157 qs17 q86 q1158 (by decide +kernel) rfl ⟨by decide, Nat.le_of_ble_eq_true rfl⟩ ⟨Nat.le_of_ble_eq_true rfl, Nat.le_of_ble_eq_true rfl⟩ (Nat.le_of_ble_eq_true rfl) dX1_change_17 rfl (fun r w17 hw => ?_) (fun _ _ _ h => h.elim)
  obtain ⟨rfl, arr9, f9, h1, h2, h3, h4, h5⟩ := hw
  show XJ _ _ _ _ _ _ _ _ _ _ _ _ [.int (iI (cV c P))]
  refine xr_ireturn rfl rfl dX1_change_20 ?_
  rw [hpo]
  exact ⟨hr10, rfl, q2, L7, arr9, f9, h1, h2, by omega, h4, (hm10.fr.to (S' := XS (zg z) x hl harr) (fun y hy (q9 : w.2 ≤ y) => by omega)).tr h5 (fun _ _ q9 => q9)⟩
