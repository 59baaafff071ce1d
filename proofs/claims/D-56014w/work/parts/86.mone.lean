/-! 86.mone.lean.txt (written by tools/walker.py)  -/
set_option maxRecDepth 100000
theorem pB_as {α β γ : Type} {x : Int ⊕ α} {f : α → Int ⊕ β} {h : β → Int ⊕ γ} : pB (pB x f) h = pB x (fun a => pB (f a) h) := by cases x <;> rfl
def pO2 (q3 : Int) (T : Int → Int) (n a : Int) (b : Int × Int) : Int ⊕ ((Int × Int × Int) × Int) := if 0 < q3 then pB (pNm q3 T n b.2) (fun c => .inr ((a, b.1, c.1), c.2)) else .inr ((a, b.1, 0), b.2)
def pO1 (q2 q3 : Int) (T : Int → Int) (n : Int) (a : Int × Int) : Int ⊕ ((Int × Int × Int) × Int) := if 0 < q2 then pB (pNm q2 T n a.2) (pO2 q3 T n a.1) else .inr ((a.1, 0, 0), a.2)
def pOne (l : List Int) (q1 q2 q3 : Int) (T : Int → Int) (n o : Int) : Int ⊕ ((Int × Int × Int) × Int) := pB (pWord T n l o) (fun o1 => pB (pNm q1 T n o1) (pO1 q2 q3 T n))
theorem pOne_as {l : List Int} {q1 q2 q3 : Int} {T : Int → Int} {n : Int} {x : Int ⊕ Int} : pB x (pOne l q1 q2 q3 T n) = pB (pB (pB x (pWord T n l)) (pNm q1 T n)) (pO1 q2 q3 T n) := by rw [pB_as, pB_as]; rfl
theorem RS.cc {F : Int → Int} {C C' : Int → Int → Int} {T : Int → Int} {n k : Int} {x : Int ⊕ Int} (h : RS F C T n x k) (hC : C' 8 = C 8) : RS F C' T n x k := by
  cases x
  · exact RD.cc h hC
  · exact RD.cc h hC
theorem RS.f21 {F : Int → Int} {C : Int → Int → Int} {T : Int → Int} {n k : Int} {x : Int ⊕ Int} (h : RS F C T n x k) : F 21 = k := by
  obtain ⟨o, e, h1, -⟩ := h.d
  exact h1.2.2.2.1
/-- told: the four places of command k, the others as before -/
def TD (C0 C1 : Int → Int → Int) (k : Int) : Prop := (∀ j : Int, j ≠ 9 → C1 j = C0 j) ∧ ∀ i : Int, (i < 4 * k ∨ 4 * k + 4 ≤ i) → C1 9 i = C0 9 i
theorem TD.up {C0 C1 : Int → Int → Int} {k i v : Int} (h : TD C0 C1 k) (hi : 4 * k ≤ i ∧ i < 4 * k + 4) : TD C0 (updC C1 9 (updI (C1 9) i v)) k :=
  ⟨fun j hj => (updC_ne hj).trans (h.1 j hj), fun j hj => by rw [updC_at, updI_ne (by omega)]; exact h.2 j hj⟩
theorem TD.rf {C0 : Int → Int → Int} {k : Int} : TD C0 C0 k := ⟨fun _ _ => rfl, fun _ _ => rfl⟩
theorem k_M_one2 {g : GG} {w : WW} {m : Nat} {A : Int → Nat} {F P : Int → Int} {C : Int → Int → Int} {T : Int → Int} {n k so q1 q2 q3 : Int} {x : Int ⊕ Int} {t b : Nat} {s : String} (hG : Base g) (hM : MD g w m A F P C) (hJ : KJ g) (hS : KS g) (hR : RS F C T n x k) (hT : SO g w t b (txN s) (txI s)) (hp : ∀ c ∈ chs s, 0 < c) (hl11 : txN s ≤ 11) (hq : (q1 = 1 ∨ q1 = 2) ∧ (1 ≤ q2 ∧ q2 ≤ 2) ∧ (0 ≤ q3 ∧ q3 ≤ 2)) (hk : 0 ≤ k ∧ k ≤ 20) : Ct g yX4_one (.code yX4_one cX4_one 6 none) 6 131 0 0 w [.ref m, .int (iI so), .ref t, .int (iI q1), .int (iI q2), .int (iI q3)] (fun r_ w1 => ∃ (F1 : Int → Int) (C1 : Int → Int → Int) (x1 : Int ⊕ Int), r_ = none ∧ MDF g w w1 m A F1 P C1 ∧ RS F1 C1 T n x1 k ∧ TD C C1 k ∧ FR2 F F1 ∧ C1 9 (4 * k) = so ∧ ((∃ o, x1 = .inl o ∧ pB x (pOne (chs s) q1 q2 q3 T n) = .inl o) ∨ (∃ (o : Int) (v : Int × Int × Int), x1 = .inr o ∧ pB x (pOne (chs s) q1 q2 q3 T n) = .inr (v, o) ∧ C1 9 (4 * k + 1) = v.1 ∧ (0 < q2 → C1 9 (4 * k + 2) = v.2.1) ∧ (0 < q3 → C1 9 (4 * k + 3) = v.2.2)))) xF := by
  refine Ct.of (lv := [some _, some _, some _, some _, some _, some _]) hG (by decide +kernel) (Nat.le_of_ble_eq_true rfl) rfl ?_
  intro z hg hpo hxp hnm htab
  subst hg
  have hM : MDF (zg z) w w m A F P C := ⟨hM, Fr.rf⟩
  have hM0 := hM.1
  have h21 := hR.f21
  refine xr_aload_n dX4_one_0 rfl (by first | rfl | exact isRef_rf _) ?_
  refine xr_getfield (ci := 14) (T := TX4) (N := 23) (i := 9) hM.1.1 rfl (by decide) in_X4 q2200 (.inl rfl) dX4_one_1 (by rfl) ?_
  refine xr_iconst dX4_one_4 ?_
  refine xr_aload_n dX4_one_5 rfl (by first | rfl | exact isRef_rf _) ?_
  refine xr_getfield (ci := 14) (T := TX4) (N := 23) (i := 21) hM.1.1 rfl (by decide) in_X4 q2212 (.inl rfl) dX4_one_6 (by rfl) ?_
  rw [h21]
  refine xr_imul dX4_one_9 ?_
  refine xr_iload_n dX4_one_10 rfl ?_
  refine xr_mstC (j := 9) hM (by decide) (show (0 : Int) ≤ _ ∧ _ < ((240 : Nat) : Int) from by omega) dX4_one_11 (fun w11 hM => ?_)
  have hT11 := hT.md hG hM0 hM.2
  have hR11 := hR.cc (C' := updC C 9 (updI (C 9) (4 * k) so)) (updC_ne (by decide))
  obtain ⟨Ca, hCa⟩ : ∃ Ca, Ca = updC C 9 (updI (C 9) (4 * k) so) := ⟨_, rfl⟩
  have ca0 : Ca 9 (4 * k) = so := by rw [hCa, updC_at, updI_eq]
  have htd : TD C Ca k := by rw [hCa]; exact TD.rf.up (by omega)
  rw [← hCa] at hM hR11
  refine xr_aload_n dX4_one_12 rfl (by first | rfl | exact isRef_rf _) ?_
  refine xr_aload_n dX4_one_13 rfl (by first | rfl | exact isRef_rf _) ?_
  refine xr_callV (n9 := 1) (rc' := 0) (rs' := 0) (k_M_says hG hM.1 hJ hR11 hT11 hp hl11) hM.1.1 rfl q2681 q2683 qs82 q96 q2684 (by decide +kernel) rfl ⟨by decide, Nat.le_of_ble_eq_true rfl⟩ ⟨Nat.le_of_ble_eq_true rfl, Nat.le_of_ble_eq_true rfl⟩ (Nat.le_of_ble_eq_true rfl) dX4_one_14 rfl (fun r w14 hw => ?_) (fun _ _ _ h => h.elim)
  obtain ⟨F14, rfl, hw, hR14, hf14⟩ := hw
  have hM := hM.tr hw
  refine xr_aload_n dX4_one_17 rfl (by first | rfl | exact isRef_rf _) ?_
  refine xr_iconst dX4_one_18 ?_
  refine xr_iload_n dX4_one_19 rfl ?_
  refine xr_callV (n9 := 2) (rc' := 0) (rs' := 0) (k_M_number hG hM.1 hJ hS hR14 (by omega) hq.1 hk) hM.1.1 rfl q2687 q2689 qs83 q96 q2690 (by decide +kernel) rfl ⟨by decide, Nat.le_of_ble_eq_true rfl⟩ ⟨Nat.le_of_ble_eq_true rfl, Nat.le_of_ble_eq_true rfl⟩ (Nat.le_of_ble_eq_true rfl) dX4_one_20 rfl (fun r w20 hw => ?_) (fun _ _ _ h => h.elim)
  obtain ⟨F20, v1, x1, rfl, hw, hR20, hf20, hx1⟩ := hw
  have hM := hM.tr hw
  have hfA : FR2 F F20 := fun j h1 h2 => (hf20 j h1 h2).trans (hf14 j h1 h2)
  obtain ⟨Cb, hCb⟩ : ∃ Cb, Cb = updC Ca 9 (updI (Ca 9) (4 * k + 1) v1) := ⟨_, rfl⟩
  have cb0 : Cb 9 (4 * k) = so := by rw [hCb, updC_at, updI_ne (by omega)]; exact ca0
  have cb1 : Cb 9 (4 * k + 1) = v1 := by rw [hCb, updC_at, updI_eq]
  have htd1 : TD C Cb k := by rw [hCb]; exact htd.up (by omega)
  rw [← hCb] at hM hR20
  have hpq := pOne_as (l := chs s) (q1 := q1) (q2 := q2) (q3 := q3) (T := T) (n := n) (x := x)
  refine xr_iload dX4_one_23 rfl ?_
  refine xr_if_le (tgt := 35) dX4_one_25 (by decide) (by omega) (fun c25 => absurd c25 (by omega)) (fun c25 => ?_)
  refine xr_aload_n dX4_one_28 rfl (by first | rfl | exact isRef_rf _) ?_
  refine xr_iconst dX4_one_29 ?_
  refine xr_iload dX4_one_30 rfl ?_
  refine xr_callV (n9 := 2) (rc' := 0) (rs' := 0) (k_M_number hG hM.1 hJ hS hR20 (by omega) (by omega) hk) hM.1.1 rfl q2687 q2689 qs83 q96 q2690 (by decide +kernel) rfl ⟨by decide, Nat.le_of_ble_eq_true rfl⟩ ⟨Nat.le_of_ble_eq_true rfl, Nat.le_of_ble_eq_true rfl⟩ (Nat.le_of_ble_eq_true rfl) dX4_one_32 rfl (fun r w32 hw => ?_) (fun _ _ _ h => h.elim)
  obtain ⟨F32, v2, x2, rfl, hw, hR32, hf32, hx2⟩ := hw
  have hM := hM.tr hw
  have hfB : FR2 F F32 := fun j h1 h2 => (hf32 j h1 h2).trans (hfA j h1 h2)
  obtain ⟨Cc, hCc⟩ : ∃ Cc, Cc = updC Cb 9 (updI (Cb 9) (4 * k + 2) v2) := ⟨_, rfl⟩
  have cc0 : Cc 9 (4 * k) = so := by rw [hCc, updC_at, updI_ne (by omega)]; exact cb0
  have cc1 : Cc 9 (4 * k + 1) = v1 := by rw [hCc, updC_at, updI_ne (by omega)]; exact cb1
  have cc2 : Cc 9 (4 * k + 2) = v2 := by rw [hCc, updC_at, updI_eq]
  have htd2 : TD C Cc k := by rw [hCc]; exact htd1.up (by omega)
  rw [← hCc] at hM hR32
  refine xr_iload dX4_one_35 rfl ?_
  refine xr_if_le (tgt := 47) dX4_one_37 (by decide) (by omega) (fun c37 => ?_) (fun c37 => ?_)
  · skip
    refine xr_return rfl dX4_one_47 ?_
    rw [hpo]
    first
      | (refine ⟨F44, Cd, x3, rfl, hM, hR44, htd3, hfC, cd0, ?_⟩
         rw [hpq]
         rcases hx1 with ⟨o1, e1, h1⟩ | ⟨o1, e1, h1⟩
         · rw [h1]
           have h2 : x2 = .inl o1 := by
             rw [e1] at hx2
             rcases hx2 with ⟨o2, e2, h2⟩ | ⟨o2, e2, h2⟩
             · rw [e2]; cases h2; rfl
             · cases h2
           have h3 : x3 = .inl o1 := by
             rw [h2] at hx3
             rcases hx3 with ⟨o3, e3, h3⟩ | ⟨o3, e3, h3⟩
             · rw [e3]; cases h3; rfl
             · cases h3
           exact Or.inl ⟨o1, h3, rfl⟩
         · rw [h1]
           show _ ∨ _
           have hk1 : pB (.inr (v1, o1)) (pO1 q2 q3 T n) = pB (pB x1 (pNm q2 T n)) (pO2 q3 T n v1) := by rw [e1]; show pO1 q2 q3 T n (v1, o1) = _; unfold pO1; rw [if_pos (by omega)]; rfl
           rw [hk1]
           rcases hx2 with ⟨o2, e2, h2⟩ | ⟨o2, e2, h2⟩
           · rw [h2]
             have h3 : x3 = .inl o2 := by
               rw [e2] at hx3
               rcases hx3 with ⟨o3, e3, h3⟩ | ⟨o3, e3, h3⟩
               · rw [e3]; cases h3; rfl
               · cases h3
             exact Or.inl ⟨o2, h3, rfl⟩
           · rw [h2]
             have hk2 : pB (.inr (v2, o2)) (pO2 q3 T n v1) = pB (pB x2 (pNm q3 T n)) (fun c => .inr ((v1, v2, c.1), c.2)) := by rw [e2]; show pO2 q3 T n v1 (v2, o2) = _; unfold pO2; rw [if_pos (by omega)]; rfl
             rw [hk2]
             rcases hx3 with ⟨o3, e3, h3⟩ | ⟨o3, e3, h3⟩
             · rw [h3]; exact Or.inl ⟨o3, e3, rfl⟩
             · rw [h3]; exact Or.inr ⟨o3, (v1, v2, v3), e3, rfl, cd1, fun _ => cd2, fun _ => cd3⟩)
      | (refine ⟨F32, Cc, x2, rfl, hM, hR32, htd2, hfB, cc0, ?_⟩
         rw [hpq]
         rcases hx1 with ⟨o1, e1, h1⟩ | ⟨o1, e1, h1⟩
         · rw [h1]
           have h2 : x2 = .inl o1 := by
             rw [e1] at hx2
             rcases hx2 with ⟨o2, e2, h2⟩ | ⟨o2, e2, h2⟩
             · rw [e2]; cases h2; rfl
             · cases h2
           exact Or.inl ⟨o1, h2, rfl⟩
         · rw [h1]
           have hk1 : pB (.inr (v1, o1)) (pO1 q2 q3 T n) = pB (pB x1 (pNm q2 T n)) (pO2 q3 T n v1) := by rw [e1]; show pO1 q2 q3 T n (v1, o1) = _; unfold pO1; rw [if_pos (by omega)]; rfl
           rw [hk1]
           rcases hx2 with ⟨o2, e2, h2⟩ | ⟨o2, e2, h2⟩
           · rw [h2]; exact Or.inl ⟨o2, e2, rfl⟩
           · rw [h2]
             refine Or.inr ⟨o2, (v1, v2, 0), e2, ?_, cc1, fun _ => cc2, fun h9 => by omega⟩
             show pO2 q3 T n v1 (v2, o2) = _
             unfold pO2; rw [if_neg (by omega)])
  · skip
    refine xr_aload_n dX4_one_40 rfl (by first | rfl | exact isRef_rf _) ?_
    refine xr_iconst dX4_one_41 ?_
    refine xr_iload dX4_one_42 rfl ?_
    refine xr_callV (n9 := 2) (rc' := 0) (rs' := 0) (k_M_number hG hM.1 hJ hS hR32 (by omega) (by omega) hk) hM.1.1 rfl q2687 q2689 qs83 q96 q2690 (by decide +kernel) rfl ⟨by decide, Nat.le_of_ble_eq_true rfl⟩ ⟨Nat.le_of_ble_eq_true rfl, Nat.le_of_ble_eq_true rfl⟩ (Nat.le_of_ble_eq_true rfl) dX4_one_44 rfl (fun r w44 hw => ?_) (fun _ _ _ h => h.elim)
    obtain ⟨F44, v3, x3, rfl, hw, hR44, hf44, hx3⟩ := hw
    have hM := hM.tr hw
    have hfC : FR2 F F44 := fun j h1 h2 => (hf44 j h1 h2).trans (hfB j h1 h2)
    obtain ⟨Cd, hCd⟩ : ∃ Cd, Cd = updC Cc 9 (updI (Cc 9) (4 * k + 3) v3) := ⟨_, rfl⟩
    have cd0 : Cd 9 (4 * k) = so := by rw [hCd, updC_at, updI_ne (by omega)]; exact cc0
    have cd1 : Cd 9 (4 * k + 1) = v1 := by rw [hCd, updC_at, updI_ne (by omega)]; exact cc1
    have cd2 : Cd 9 (4 * k + 2) = v2 := by rw [hCd, updC_at, updI_ne (by omega)]; exact cc2
    have cd3 : Cd 9 (4 * k + 3) = v3 := by rw [hCd, updC_at, updI_eq]
    have htd3 : TD C Cd k := by rw [hCd]; exact htd2.up (by omega)
    rw [← hCd] at hM hR44
    refine xr_return rfl dX4_one_47 ?_
    rw [hpo]
    first
      | (refine ⟨F44, Cd, x3, rfl, hM, hR44, htd3, hfC, cd0, ?_⟩
         rw [hpq]
         rcases hx1 with ⟨o1, e1, h1⟩ | ⟨o1, e1, h1⟩
         · rw [h1]
           have h2 : x2 = .inl o1 := by
             rw [e1] at hx2
             rcases hx2 with ⟨o2, e2, h2⟩ | ⟨o2, e2, h2⟩
             · rw [e2]; cases h2; rfl
             · cases h2
           have h3 : x3 = .inl o1 := by
             rw [h2] at hx3
             rcases hx3 with ⟨o3, e3, h3⟩ | ⟨o3, e3, h3⟩
             · rw [e3]; cases h3; rfl
             · cases h3
           exact Or.inl ⟨o1, h3, rfl⟩
         · rw [h1]
           show _ ∨ _
           have hk1 : pB (.inr (v1, o1)) (pO1 q2 q3 T n) = pB (pB x1 (pNm q2 T n)) (pO2 q3 T n v1) := by rw [e1]; show pO1 q2 q3 T n (v1, o1) = _; unfold pO1; rw [if_pos (by omega)]; rfl
           rw [hk1]
           rcases hx2 with ⟨o2, e2, h2⟩ | ⟨o2, e2, h2⟩
           · rw [h2]
             have h3 : x3 = .inl o2 := by
               rw [e2] at hx3
               rcases hx3 with ⟨o3, e3, h3⟩ | ⟨o3, e3, h3⟩
               · rw [e3]; cases h3; rfl
               · cases h3
             exact Or.inl ⟨o2, h3, rfl⟩
           · rw [h2]
             have hk2 : pB (.inr (v2, o2)) (pO2 q3 T n v1) = pB (pB x2 (pNm q3 T n)) (fun c => .inr ((v1, v2, c.1), c.2)) := by rw [e2]; show pO2 q3 T n v1 (v2, o2) = _; unfold pO2; rw [if_pos (by omega)]; rfl
             rw [hk2]
             rcases hx3 with ⟨o3, e3, h3⟩ | ⟨o3, e3, h3⟩
             · rw [h3]; exact Or.inl ⟨o3, e3, rfl⟩
             · rw [h3]; exact Or.inr ⟨o3, (v1, v2, v3), e3, rfl, cd1, fun _ => cd2, fun _ => cd3⟩)
      | (refine ⟨F32, Cc, x2, rfl, hM, hR32, htd2, hfB, cc0, ?_⟩
         rw [hpq]
         rcases hx1 with ⟨o1, e1, h1⟩ | ⟨o1, e1, h1⟩
         · rw [h1]
           have h2 : x2 = .inl o1 := by
             rw [e1] at hx2
             rcases hx2 with ⟨o2, e2, h2⟩ | ⟨o2, e2, h2⟩
             · rw [e2]; cases h2; rfl
             · cases h2
           exact Or.inl ⟨o1, h2, rfl⟩
         · rw [h1]
           have hk1 : pB (.inr (v1, o1)) (pO1 q2 q3 T n) = pB (pB x1 (pNm q2 T n)) (pO2 q3 T n v1) := by rw [e1]; show pO1 q2 q3 T n (v1, o1) = _; unfold pO1; rw [if_pos (by omega)]; rfl
           rw [hk1]
           rcases hx2 with ⟨o2, e2, h2⟩ | ⟨o2, e2, h2⟩
           · rw [h2]; exact Or.inl ⟨o2, e2, rfl⟩
           · rw [h2]
             refine Or.inr ⟨o2, (v1, v2, 0), e2, ?_, cc1, fun _ => cc2, fun h9 => by omega⟩
             show pO2 q3 T n v1 (v2, o2) = _
             unfold pO2; rw [if_neg (by omega)])
theorem k_M_one0 {g : GG} {w : WW} {m : Nat} {A : Int → Nat} {F P : Int → Int} {C : Int → Int → Int} {T : Int → Int} {n k so q1 : Int} {x : Int ⊕ Int} {t b : Nat} {s : String} (hG : Base g) (hM : MD g w m A F P C) (hJ : KJ g) (hS : KS g) (hR : RS F C T n x k) (hT : SO g w t b (txN s) (txI s)) (hp : ∀ c ∈ chs s, 0 < c) (hl11 : txN s ≤ 11) (hq : (q1 = 1 ∨ q1 = 2) ∧ True) (hk : 0 ≤ k ∧ k ≤ 20) : Ct g yX4_one (.code yX4_one cX4_one 6 none) 6 131 0 0 w [.ref m, .int (iI so), .ref t, .int (iI q1), .int (iI 0), .int (iI 0)] (fun r_ w1 => ∃ (F1 : Int → Int) (C1 : Int → Int → Int) (x1 : Int ⊕ Int), r_ = none ∧ MDF g w w1 m A F1 P C1 ∧ RS F1 C1 T n x1 k ∧ TD C C1 k ∧ FR2 F F1 ∧ C1 9 (4 * k) = so ∧ ((∃ o, x1 = .inl o ∧ pB x (pOne (chs s) q1 0 0 T n) = .inl o) ∨ (∃ (o : Int) (v : Int × Int × Int), x1 = .inr o ∧ pB x (pOne (chs s) q1 0 0 T n) = .inr (v, o) ∧ C1 9 (4 * k + 1) = v.1 ∧ ((0 : Int) < 0 → C1 9 (4 * k + 2) = v.2.1) ∧ ((0 : Int) < 0 → C1 9 (4 * k + 3) = v.2.2)))) xF := by
  refine Ct.of (lv := [some _, some _, some _, some _, some _, some _]) hG (by decide +kernel) (Nat.le_of_ble_eq_true rfl) rfl ?_
  intro z hg hpo hxp hnm htab
  subst hg
  have hM : MDF (zg z) w w m A F P C := ⟨hM, Fr.rf⟩
  have hM0 := hM.1
  have h21 := hR.f21
  refine xr_aload_n dX4_one_0 rfl (by first | rfl | exact isRef_rf _) ?_
  refine xr_getfield (ci := 14) (T := TX4) (N := 23) (i := 9) hM.1.1 rfl (by decide) in_X4 q2200 (.inl rfl) dX4_one_1 (by rfl) ?_
  refine xr_iconst dX4_one_4 ?_
  refine xr_aload_n dX4_one_5 rfl (by first | rfl | exact isRef_rf _) ?_
  refine xr_getfield (ci := 14) (T := TX4) (N := 23) (i := 21) hM.1.1 rfl (by decide) in_X4 q2212 (.inl rfl) dX4_one_6 (by rfl) ?_
  rw [h21]
  refine xr_imul dX4_one_9 ?_
  refine xr_iload_n dX4_one_10 rfl ?_
  refine xr_mstC (j := 9) hM (by decide) (show (0 : Int) ≤ _ ∧ _ < ((240 : Nat) : Int) from by omega) dX4_one_11 (fun w11 hM => ?_)
  have hT11 := hT.md hG hM0 hM.2
  have hR11 := hR.cc (C' := updC C 9 (updI (C 9) (4 * k) so)) (updC_ne (by decide))
  obtain ⟨Ca, hCa⟩ : ∃ Ca, Ca = updC C 9 (updI (C 9) (4 * k) so) := ⟨_, rfl⟩
  have ca0 : Ca 9 (4 * k) = so := by rw [hCa, updC_at, updI_eq]
  have htd : TD C Ca k := by rw [hCa]; exact TD.rf.up (by omega)
  rw [← hCa] at hM hR11
  refine xr_aload_n dX4_one_12 rfl (by first | rfl | exact isRef_rf _) ?_
  refine xr_aload_n dX4_one_13 rfl (by first | rfl | exact isRef_rf _) ?_
  refine xr_callV (n9 := 1) (rc' := 0) (rs' := 0) (k_M_says hG hM.1 hJ hR11 hT11 hp hl11) hM.1.1 rfl q2681 q2683 qs82 q96 q2684 (by decide +kernel) rfl ⟨by decide, Nat.le_of_ble_eq_true rfl⟩ ⟨Nat.le_of_ble_eq_true rfl, Nat.le_of_ble_eq_true rfl⟩ (Nat.le_of_ble_eq_true rfl) dX4_one_14 rfl (fun r w14 hw => ?_) (fun _ _ _ h => h.elim)
  obtain ⟨F14, rfl, hw, hR14, hf14⟩ := hw
  have hM := hM.tr hw
  refine xr_aload_n dX4_one_17 rfl (by first | rfl | exact isRef_rf _) ?_
  refine xr_iconst dX4_one_18 ?_
  refine xr_iload_n dX4_one_19 rfl ?_
  refine xr_callV (n9 := 2) (rc' := 0) (rs' := 0) (k_M_number hG hM.1 hJ hS hR14 (by omega) hq.1 hk) hM.1.1 rfl q2687 q2689 qs83 q96 q2690 (by decide +kernel) rfl ⟨by decide, Nat.le_of_ble_eq_true rfl⟩ ⟨Nat.le_of_ble_eq_true rfl, Nat.le_of_ble_eq_true rfl⟩ (Nat.le_of_ble_eq_true rfl) dX4_one_20 rfl (fun r w20 hw => ?_) (fun _ _ _ h => h.elim)
  obtain ⟨F20, v1, x1, rfl, hw, hR20, hf20, hx1⟩ := hw
  have hM := hM.tr hw
  have hfA : FR2 F F20 := fun j h1 h2 => (hf20 j h1 h2).trans (hf14 j h1 h2)
  obtain ⟨Cb, hCb⟩ : ∃ Cb, Cb = updC Ca 9 (updI (Ca 9) (4 * k + 1) v1) := ⟨_, rfl⟩
  have cb0 : Cb 9 (4 * k) = so := by rw [hCb, updC_at, updI_ne (by omega)]; exact ca0
  have cb1 : Cb 9 (4 * k + 1) = v1 := by rw [hCb, updC_at, updI_eq]
  have htd1 : TD C Cb k := by rw [hCb]; exact htd.up (by omega)
  rw [← hCb] at hM hR20
  have hpq := pOne_as (l := chs s) (q1 := q1) (q2 := 0) (q3 := 0) (T := T) (n := n) (x := x)
  refine xr_iload dX4_one_23 rfl ?_
  refine xr_if_le (tgt := 35) dX4_one_25 (by decide) (by decide) (fun c25 => ?_) (fun c25 => absurd c25 (by decide))
  refine xr_iload dX4_one_35 rfl ?_
  refine xr_if_le (tgt := 47) dX4_one_37 (by decide) (by decide) (fun c37 => ?_) (fun c37 => absurd c37 (by decide))
  refine xr_return rfl dX4_one_47 ?_
  rw [hpo]
  first
    | (refine ⟨F20, Cb, x1, rfl, hM, hR20, htd1, hfA, cb0, ?_⟩
       rw [hpq]
       rcases hx1 with ⟨o1, e1, h1⟩ | ⟨o1, e1, h1⟩
       · rw [h1]; exact Or.inl ⟨o1, e1, rfl⟩
       · rw [h1]
         refine Or.inr ⟨o1, (v1, 0, 0), e1, ?_, cb1, fun h9 => by omega, fun h9 => by omega⟩
         show pO1 0 0 T n (v1, o1) = _
         unfold pO1; rw [if_neg (by omega)])
