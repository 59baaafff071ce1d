/-! 76.mpublic.lean.txt (written by tools/walker.py)  -/
set_option maxRecDepth 100000
/-! the other model's state, as the broker's: th what was thrown last -/
def HC (F : Int → Int) (C : Int → Int → Int) (H : List (Int → Int)) : Prop := F 6 = H.length ∧ H.length ≤ 8 ∧ ∀ (i : Nat) (Ph : Int → Int), H[i]? = some Ph → ∀ k : Int, 0 ≤ k → k < 102 → C 4 (102 * i + k) = Ph k
def SC (F : Int → Int) (C : Int → Int → Int) (S : Option (Int → Int)) : Prop := (S = none ∧ F 7 = 0) ∨ ∃ Ps : Int → Int, S = some Ps ∧ F 7 = 1 ∧ ∀ k : Int, 0 ≤ k → k < 102 → C 3 k = Ps k
def TC (n : Int) (c : Int → Int) (T : Tx) : Prop := n = T.1 ∧ T.1 ≤ 60 ∧ ∀ k : Int, 0 ≤ k → k < T.1 → c k = T.2 k
def EC (x : Int) (se : Option Int) : Prop := (se = none ∧ x = -1) ∨ ∃ e : Int, se = some e ∧ 0 ≤ e ∧ e ≤ 60 ∧ x = e
def RC (F : Int → Int) (rj : Option (Int × Int × Int)) : Prop := (rj = none ∧ F 14 = 0) ∨ ∃ r : Int × Int × Int, rj = some r ∧ (0 < r.1 ∧ r.1 ≤ 12) ∧ F 14 = r.1 ∧ F 15 = r.2.1 ∧ F 16 = r.2.2
def MRS (F : Int → Int) (C : Int → Int → Int) (S : Option (Int → Int)) (H : List (Int → Int)) (I O : Tx) (se : Option Int) (rj : Option (Int × Int × Int)) : Prop := HC F C H ∧ SC F C S ∧ TC (F 11) (C 8) I ∧ TC (F 12) (C 10) O ∧ EC (F 13) se ∧ RC F rj
def MR (g : GG) (w : WW) (m : Nat) (A : Int → Nat) (th : Int) (P : Int → Int) (S : Option (Int → Int)) (H : List (Int → Int)) (I O : Tx) (se : Option Int) (rj : Option (Int × Int × Int)) : Prop := ∃ (F : Int → Int) (C : Int → Int → Int), MD g w m A F P C ∧ F 0 = th ∧ MRS F C S H I O se rj
theorem MRS.to {F F' : Int → Int} {C C' : Int → Int → Int} {S : Option (Int → Int)} {H : List (Int → Int)} {I O : Tx} {se : Option Int} {rj : Option (Int × Int × Int)} (h : MRS F C S H I O se rj) (hF : ∀ k : Int, k = 6 ∨ k = 7 ∨ (11 ≤ k ∧ k ≤ 16) → F' k = F k) (hC : ∀ j : Int, j = 3 ∨ j = 4 ∨ j = 8 ∨ j = 10 → C' j = C j) : MRS F' C' S H I O se rj := by
  obtain ⟨h1, h2, h3, h4, h5, h6⟩ := h
  unfold MRS HC SC TC EC RC at *
  rw [hF 6 (by omega), hF 7 (by omega), hF 11 (by omega), hF 12 (by omega), hF 13 (by omega), hF 14 (by omega), hF 15 (by omega), hF 16 (by omega), hC 3 (by omega), hC 4 (by omega), hC 8 (by omega), hC 10 (by omega)]
  exact ⟨h1, h2, h3, h4, h5, h6⟩
/-- one more old park -/
theorem HC_push {F F2 : Int → Int} {C C2 : Int → Int → Int} {P : Int → Int} {H : List (Int → Int)} (h : HC F C H) (h2 : CH F C F2 C2) (hP : C 2 = P) : HC F2 C2 (pushH H P) := by
  obtain ⟨h6, h8, hi⟩ := h
  obtain ⟨h5, K5, hD, rfl, rfl⟩ := h2
  have hl : (pushH H P).length = if H.length = 8 then 8 else H.length + 1 := by
    unfold pushH
    split
    · simp; omega
    · simp
  refine ⟨?_, pushH_len h8, fun i Ph hx k hk0 hk1 => ?_⟩
  · rw [updI_eq, hl]
    split <;> omega
  · rw [updC_at, hP]
    have hil := (List.getElem?_eq_some_iff.mp hx).1
    rw [hl] at hil
    unfold pushH at hx
    rw [List.getElem?_append] at hx
    unfold puH
    rcases hD with ⟨e6, rfl, rfl⟩ | ⟨e6, rfl, rfl⟩
    · have e8 : H.length = 8 := by omega
      rw [if_pos e8] at hx hil
      rw [List.length_tail, e8] at hx
      by_cases h7 : i < 8 - 1
      · rw [if_pos h7, List.getElem?_tail] at hx
        have h9 := hi (i + 1) Ph hx k hk0 hk1
        rw [if_neg (by omega)]
        unfold shH
        rw [if_pos (by omega), ← h9]
        congr 1
        omega
      · rw [if_neg h7] at hx
        have e7 : i = 7 := by omega
        subst e7
        have hx : P = Ph := by simpa using hx
        rw [← hx, if_pos (by omega)]
        congr 1
        omega
    · have e8 : H.length ≠ 8 := by omega
      rw [if_neg e8] at hx hil
      by_cases h7 : i < H.length
      · rw [if_pos h7] at hx
        rw [if_neg (by omega)]
        exact hi i Ph hx k hk0 hk1
      · rw [if_neg h7] at hx
        have e7 : i = H.length := by omega
        subst e7
        rw [Nat.sub_self] at hx
        have hx : P = Ph := by simpa using hx
        rw [← hx, if_pos (by omega)]
        congr 1
        omega
theorem MA.fk {C1 C2 : Prop} {rj : Int × Int} {v r : Int} {P P' F F1 P1 : Int → Int} (h : MA C1 C2 rj v P P' F r F1 P1) {k : Int} (h1 : k ≠ 17) (h2 : k ≠ 18) : F1 k = F k := by
  rcases h with ⟨-, -, rfl, -⟩ | ⟨-, -, -, rfl, -⟩ | ⟨-, -, -, -, rfl, -⟩ | ⟨-, -, -, -, rfl, -⟩
  · rfl
  · rfl
  · exact updI_ne h1
  · exact updI_ne h2
def AD (g : GG) (w : WW) (m : Nat) (A : Int → Nat) (C1 C2 : Prop) (rj : Int × Int) (v code : Int) (P P' : Int → Int) (S : Option (Int → Int)) (H : List (Int → Int)) (I O : Tx) (se : Option Int) (rj0 : Option (Int × Int × Int)) (y : Int) : Prop :=
  (¬ C1 ∧ y = 0 ∧ MR g w m A 1 P S H I O se rj0) ∨ (C1 ∧ ¬ C2 ∧ y = 0 ∧ MR g w m A 2 P S H I O se rj0) ∨ (C1 ∧ C2 ∧ rj.1 ≠ 0 ∧ y = 0 ∧ MR g w m A code P S H I O se (some (rj.1, rj.2, 0))) ∨ (C1 ∧ C2 ∧ rj.1 = 0 ∧ y = v ∧ MR g w m A 0 P' S (pushH H P) I O se rj0)
theorem act_fin {g : GG} {w : WW} {m : Nat} {A : Int → Nat} {C1 C2 : Prop} {rj : Int × Int} {v code r y : Int} {P P' F F1 P1 F2 : Int → Int} {C Cx : Int → Int → Int} {S : Option (Int → Int)} {H : List (Int → Int)} {I O : Tx} {se : Option Int} {rj0 : Option (Int × Int × Int)} (hS : MRS F C S H I O se rj0) (hA : MA C1 C2 rj v P P' (updI F 0 0) r F1 P1) (hE : ED r code F1 (updC C 2 P) y F2 Cx) (hM : MD g w m A F2 P1 Cx) (hrj : 0 ≤ rj.1 ∧ rj.1 ≤ 12) : AD g w m A C1 C2 rj v code P P' S H I O se rj0 y := by
  have hS2 : MRS (updI F 0 0) (updC C 2 P) S H I O se rj0 := hS.to (fun k hk => updI_ne (by omega)) (fun j hj => updC_ne (by omega))
  rcases hA with ⟨c1, rfl, rfl, rfl⟩ | ⟨c1, c2, rfl, rfl, rfl⟩ | ⟨c1, c2, c3, rfl, rfl, rfl⟩ | ⟨c1, c2, c3, rfl, rfl, rfl⟩
  · rcases hE with ⟨h, -⟩ | ⟨-, rfl, rfl, rfl⟩ | ⟨h, -⟩
    · omega
    · exact Or.inl ⟨c1, rfl, _, _, hM, updI_eq, hS2.to (fun k hk => updI_ne (by omega)) (fun j hj => rfl)⟩
    · omega
  · rcases hE with ⟨h, -⟩ | ⟨-, rfl, rfl, rfl⟩ | ⟨h, -⟩
    · omega
    · exact Or.inr (Or.inl ⟨c1, c2, rfl, _, _, hM, updI_eq, hS2.to (fun k hk => updI_ne (by omega)) (fun j hj => rfl)⟩)
    · omega
  · rcases hE with ⟨h, -⟩ | ⟨h, -⟩ | ⟨-, rfl, rfl, rfl⟩
    · omega
    · omega
    · refine Or.inr (Or.inr (Or.inl ⟨c1, c2, c3, rfl, _, _, hM, updI_eq, ?_⟩))
      obtain ⟨a1, a2, a3, a4, a5, -⟩ := hS2
      unfold HC SC TC EC at *
      refine ⟨?_, ?_, ?_, ?_, ?_, Or.inr ⟨_, rfl, by dsimp only; omega, ?_, ?_, ?_⟩⟩
      all_goals first | exact a1 | exact a2 | exact a3 | exact a4 | exact a5 | rfl
  · rcases hE with ⟨-, hy, h⟩ | ⟨h, -⟩ | ⟨h, -⟩
    · refine Or.inr (Or.inr (Or.inr ⟨c1, c2, c3, hy.trans updI_eq, _, _, hM, ?_, ?_⟩))
      · obtain ⟨h5, K5, hD, rfl, rfl⟩ := h
        rw [updI_ne (by decide), updI_ne (by decide), updI_eq]
      · have hS3 : MRS (updI (updI F 0 0) 18 v) (updC C 2 P) S H I O se rj0 := hS2.to (fun k hk => updI_ne (by omega)) (fun j hj => rfl)
        have hp := HC_push hS3.1 h (updC_at)
        obtain ⟨h5, K5, hD, rfl, rfl⟩ := h
        obtain ⟨a1, a2, a3, a4, a5, a6⟩ := hS3
        exact ⟨hp, a2, a3, a4, a5, a6⟩
    · omega
    · omega
theorem k_N_addBench {g : GG} {w : WW} {m : Nat} {A : Int → Nat} {th : Int} {P : Int → Int} {S : Option (Int → Int)} {H : List (Int → Int)} {I O : Tx} {se : Option Int} {rj : Option (Int × Int × Int)} {a b v N : Int} (hG : Base g) (hX : MR g w m A th P S H I O se rj) (hB : PB P N) (hr : (-2147483648 ≤ a ∧ a < 2147483648) ∧ (-2147483648 ≤ b ∧ b < 2147483648) ∧ (-2147483648 ≤ v ∧ v < 2147483648)) : Ct g yX4_addBench (.code yX4_addBench cX4_addBench 4 (some .int)) 3 70 0 0 w [.ref m, .int (iI a), .int (iI b), .int (iI v)] (fun r_ w1 => ∃ y : Int, r_ = some (.int (iI y)) ∧ Fr (MS m A) w w1 ∧ AD g w1 m A ((0 ≤ a ∧ a ≤ 5) ∧ (0 ≤ b ∧ b ≤ 5)) (1 ≤ v ∧ v ≤ 20) (rjBench P a b) (P 0) 3 P (oBench P a b v) S H I O se rj y) xF := by
  refine Ct.of (lv := [some _, some _, some _, some _]) hG (by decide +kernel) (Nat.le_of_ble_eq_true rfl) rfl ?_
  intro z hg hpo hxp hnm htab
  subst hg
  obtain ⟨F, C, hM, -, hS⟩ := hX
  have hM : MDF (zg z) w w m A F P C := ⟨hM, Fr.rf⟩
  have h68 : 0 ≤ F 6 ∧ F 6 ≤ 8 := by have := hS.1.1; have := hS.1.2.1; omega
  refine xr_aload_n dX4_addBench_0 rfl (by first | rfl | exact isRef_rf _) ?_
  refine xr_callV (n9 := 0) (rc' := 0) (rs' := 0) (k_M_remembers hG hM.1) hM.1.1 rfl q2269 q2271 qs37 q96 q2272 (by decide +kernel) rfl ⟨by decide, Nat.le_of_ble_eq_true rfl⟩ ⟨Nat.le_of_ble_eq_true rfl, Nat.le_of_ble_eq_true rfl⟩ (Nat.le_of_ble_eq_true rfl) dX4_addBench_1 rfl (fun r w1 hw => ?_) (fun _ _ _ h => h.elim)
  obtain ⟨rfl, hw⟩ := hw
  have hM := hM.tr hw
  refine xr_aload_n dX4_addBench_4 rfl (by first | rfl | exact isRef_rf _) ?_
  refine xr_aload_n dX4_addBench_5 rfl (by first | rfl | exact isRef_rf _) ?_
  refine xr_iload_n dX4_addBench_6 rfl ?_
  refine xr_iload_n dX4_addBench_7 rfl ?_
  refine xr_iload_n dX4_addBench_8 rfl ?_
  refine xr_callV (n9 := 3) (rc' := 0) (rs' := 0) (k_M_addsBench hG hM.1 hB  hr) hM.1.1 rfl q2273 q2275 qs38 q96 q2276 (by decide +kernel) rfl ⟨by decide, Nat.le_of_ble_eq_true rfl⟩ ⟨Nat.le_of_ble_eq_true rfl, Nat.le_of_ble_eq_true rfl⟩ (Nat.le_of_ble_eq_true rfl) dX4_addBench_9 rfl (fun r w9 hw => ?_) (fun _ _ _ h => h.elim)
  obtain ⟨r, F1, P1, rfl, hw, hA⟩ := hw
  have hM := hM.tr hw
  show XJ _ _ _ _ _ _ _ _ _ _ _ _ [.int (iI r), .ref m]
  have h16 : F1 6 = F 6 := (hA.fk (by decide) (by decide)).trans (updI_ne (by decide))
  have hrj : 0 ≤ (rjBench P a b).1 ∧ (rjBench P a b).1 ≤ 12 := by
    unfold rjBench
    repeat' split
    all_goals simp
  have hrb : -100 ≤ r ∧ r ≤ 100 := by
    rcases hA with ⟨-, h, -⟩ | ⟨-, -, h, -⟩ | ⟨-, -, -, h, -⟩ | ⟨-, -, -, h, -⟩ <;> omega
  refine xr_iconst dX4_addBench_12 ?_
  refine xr_callV (n9 := 2) (rc' := 0) (rs' := 0) (k_M_ends hG hM.1 (by rw [h16]; exact h68) hrb) hM.1.1 rfl q2303 q2305 qs44 q96 q2306 (by decide +kernel) rfl ⟨by decide, Nat.le_of_ble_eq_true rfl⟩ ⟨Nat.le_of_ble_eq_true rfl, Nat.le_of_ble_eq_true rfl⟩ (Nat.le_of_ble_eq_true rfl) dX4_addBench_13 rfl (fun r w13 hw => ?_) (fun _ _ _ h => h.elim)
  obtain ⟨y, F2, Cx, rfl, hw9, hE⟩ := hw
  have hM := hM.tr hw9
  have hAD := act_fin hS hA hE hM.1 hrj
  show XJ _ _ _ _ _ _ _ _ _ _ _ _ [.int (iI y)]
  refine xr_ireturn rfl rfl dX4_addBench_16 ?_
  rw [hpo]
  exact ⟨y, rfl, hM.2, hAD⟩
theorem k_N_addFountain {g : GG} {w : WW} {m : Nat} {A : Int → Nat} {th : Int} {P : Int → Int} {S : Option (Int → Int)} {H : List (Int → Int)} {I O : Tx} {se : Option Int} {rj : Option (Int × Int × Int)} {a b v N : Int} (hG : Base g) (hX : MR g w m A th P S H I O se rj) (hB : PB P N) (hr : (-2147483648 ≤ a ∧ a < 2147483648) ∧ (-2147483648 ≤ b ∧ b < 2147483648) ∧ (-2147483648 ≤ v ∧ v < 2147483648)) : Ct g yX4_addFountain (.code yX4_addFountain cX4_addFountain 4 (some .int)) 3 69 0 0 w [.ref m, .int (iI a), .int (iI b), .int (iI v)] (fun r_ w1 => ∃ y : Int, r_ = some (.int (iI y)) ∧ Fr (MS m A) w w1 ∧ AD g w1 m A ((0 ≤ a ∧ a ≤ 5) ∧ (0 ≤ b ∧ b ≤ 5)) (1 ≤ v ∧ v ≤ 9) (rjFount P a b) (P 1) 3 P (oFount P a b v) S H I O se rj y) xF := by
  refine Ct.of (lv := [some _, some _, some _, some _]) hG (by decide +kernel) (Nat.le_of_ble_eq_true rfl) rfl ?_
  intro z hg hpo hxp hnm htab
  subst hg
  obtain ⟨F, C, hM, -, hS⟩ := hX
  have hM : MDF (zg z) w w m A F P C := ⟨hM, Fr.rf⟩
  have h68 : 0 ≤ F 6 ∧ F 6 ≤ 8 := by have := hS.1.1; have := hS.1.2.1; omega
  refine xr_aload_n dX4_addFountain_0 rfl (by first | rfl | exact isRef_rf _) ?_
  refine xr_callV (n9 := 0) (rc' := 0) (rs' := 0) (k_M_remembers hG hM.1) hM.1.1 rfl q2269 q2271 qs37 q96 q2272 (by decide +kernel) rfl ⟨by decide, Nat.le_of_ble_eq_true rfl⟩ ⟨Nat.le_of_ble_eq_true rfl, Nat.le_of_ble_eq_true rfl⟩ (Nat.le_of_ble_eq_true rfl) dX4_addFountain_1 rfl (fun r w1 hw => ?_) (fun _ _ _ h => h.elim)
  obtain ⟨rfl, hw⟩ := hw
  have hM := hM.tr hw
  refine xr_aload_n dX4_addFountain_4 rfl (by first | rfl | exact isRef_rf _) ?_
  refine xr_aload_n dX4_addFountain_5 rfl (by first | rfl | exact isRef_rf _) ?_
  refine xr_iload_n dX4_addFountain_6 rfl ?_
  refine xr_iload_n dX4_addFountain_7 rfl ?_
  refine xr_iload_n dX4_addFountain_8 rfl ?_
  refine xr_callV (n9 := 3) (rc' := 0) (rs' := 0) (k_M_addsFountain hG hM.1 hB  hr) hM.1.1 rfl q2331 q2333 qs49 q96 q2334 (by decide +kernel) rfl ⟨by decide, Nat.le_of_ble_eq_true rfl⟩ ⟨Nat.le_of_ble_eq_true rfl, Nat.le_of_ble_eq_true rfl⟩ (Nat.le_of_ble_eq_true rfl) dX4_addFountain_9 rfl (fun r w9 hw => ?_) (fun _ _ _ h => h.elim)
  obtain ⟨r, F1, P1, rfl, hw, hA⟩ := hw
  have hM := hM.tr hw
  show XJ _ _ _ _ _ _ _ _ _ _ _ _ [.int (iI r), .ref m]
  have h16 : F1 6 = F 6 := (hA.fk (by decide) (by decide)).trans (updI_ne (by decide))
  have hrj : 0 ≤ (rjFount P a b).1 ∧ (rjFount P a b).1 ≤ 12 := by
    unfold rjFount
    repeat' split
    all_goals simp
  have hrb : -100 ≤ r ∧ r ≤ 100 := by
    rcases hA with ⟨-, h, -⟩ | ⟨-, -, h, -⟩ | ⟨-, -, -, h, -⟩ | ⟨-, -, -, h, -⟩ <;> omega
  refine xr_iconst dX4_addFountain_12 ?_
  refine xr_callV (n9 := 2) (rc' := 0) (rs' := 0) (k_M_ends hG hM.1 (by rw [h16]; exact h68) hrb) hM.1.1 rfl q2303 q2305 qs44 q96 q2306 (by decide +kernel) rfl ⟨by decide, Nat.le_of_ble_eq_true rfl⟩ ⟨Nat.le_of_ble_eq_true rfl, Nat.le_of_ble_eq_true rfl⟩ (Nat.le_of_ble_eq_true rfl) dX4_addFountain_13 rfl (fun r w13 hw => ?_) (fun _ _ _ h => h.elim)
  obtain ⟨y, F2, Cx, rfl, hw9, hE⟩ := hw
  have hM := hM.tr hw9
  have hAD := act_fin hS hA hE hM.1 hrj
  show XJ _ _ _ _ _ _ _ _ _ _ _ _ [.int (iI y)]
  refine xr_ireturn rfl rfl dX4_addFountain_16 ?_
  rw [hpo]
  exact ⟨y, rfl, hM.2, hAD⟩
theorem k_N_addTenant {g : GG} {w : WW} {m : Nat} {A : Int → Nat} {th : Int} {P : Int → Int} {S : Option (Int → Int)} {H : List (Int → Int)} {I O : Tx} {se : Option Int} {rj : Option (Int × Int × Int)} {v N : Int} (hG : Base g) (hX : MR g w m A th P S H I O se rj) (hB : PB P N) (hr : (-2147483648 ≤ v ∧ v < 2147483648)) : Ct g yX4_addTenant (.code yX4_addTenant cX4_addTenant 2 (some .int)) 2 44 0 0 w [.ref m, .int (iI v)] (fun r_ w1 => ∃ y : Int, r_ = some (.int (iI y)) ∧ Fr (MS m A) w w1 ∧ AD g w1 m A (0 ≤ v ∧ v ≤ 99) (True) (rjTenant P) (P 2) 2 P (oTenant P v) S H I O se rj y) xF := by
  refine Ct.of (lv := [some _, some _]) hG (by decide +kernel) (Nat.le_of_ble_eq_true rfl) rfl ?_
  intro z hg hpo hxp hnm htab
  subst hg
  obtain ⟨F, C, hM, -, hS⟩ := hX
  have hM : MDF (zg z) w w m A F P C := ⟨hM, Fr.rf⟩
  have h68 : 0 ≤ F 6 ∧ F 6 ≤ 8 := by have := hS.1.1; have := hS.1.2.1; omega
  refine xr_aload_n dX4_addTenant_0 rfl (by first | rfl | exact isRef_rf _) ?_
  refine xr_callV (n9 := 0) (rc' := 0) (rs' := 0) (k_M_remembers hG hM.1) hM.1.1 rfl q2269 q2271 qs37 q96 q2272 (by decide +kernel) rfl ⟨by decide, Nat.le_of_ble_eq_true rfl⟩ ⟨Nat.le_of_ble_eq_true rfl, Nat.le_of_ble_eq_true rfl⟩ (Nat.le_of_ble_eq_true rfl) dX4_addTenant_1 rfl (fun r w1 hw => ?_) (fun _ _ _ h => h.elim)
  obtain ⟨rfl, hw⟩ := hw
  have hM := hM.tr hw
  refine xr_aload_n dX4_addTenant_4 rfl (by first | rfl | exact isRef_rf _) ?_
  refine xr_aload_n dX4_addTenant_5 rfl (by first | rfl | exact isRef_rf _) ?_
  refine xr_iload_n dX4_addTenant_6 rfl ?_
  refine xr_callV (n9 := 1) (rc' := 0) (rs' := 0) (k_M_addsTenant hG hM.1 hB  hr) hM.1.1 rfl q2443 q2445 qs59 q96 q2446 (by decide +kernel) rfl ⟨by decide, Nat.le_of_ble_eq_true rfl⟩ ⟨Nat.le_of_ble_eq_true rfl, Nat.le_of_ble_eq_true rfl⟩ (Nat.le_of_ble_eq_true rfl) dX4_addTenant_7 rfl (fun r w7 hw => ?_) (fun _ _ _ h => h.elim)
  obtain ⟨r, F1, P1, rfl, hw, hA⟩ := hw
  have hM := hM.tr hw
  show XJ _ _ _ _ _ _ _ _ _ _ _ _ [.int (iI r), .ref m]
  have h16 : F1 6 = F 6 := (hA.fk (by decide) (by decide)).trans (updI_ne (by decide))
  have hrj : 0 ≤ (rjTenant P).1 ∧ (rjTenant P).1 ≤ 12 := by
    unfold rjTenant
    repeat' split
    all_goals simp
  have hrb : -100 ≤ r ∧ r ≤ 100 := by
    rcases hA with ⟨-, h, -⟩ | ⟨-, -, h, -⟩ | ⟨-, -, -, h, -⟩ | ⟨-, -, -, h, -⟩ <;> omega
  refine xr_iconst dX4_addTenant_10 ?_
  refine xr_callV (n9 := 2) (rc' := 0) (rs' := 0) (k_M_ends hG hM.1 (by rw [h16]; exact h68) hrb) hM.1.1 rfl q2303 q2305 qs44 q96 q2306 (by decide +kernel) rfl ⟨by decide, Nat.le_of_ble_eq_true rfl⟩ ⟨Nat.le_of_ble_eq_true rfl, Nat.le_of_ble_eq_true rfl⟩ (Nat.le_of_ble_eq_true rfl) dX4_addTenant_11 rfl (fun r w11 hw => ?_) (fun _ _ _ h => h.elim)
  obtain ⟨y, F2, Cx, rfl, hw9, hE⟩ := hw
  have hM := hM.tr hw9
  have hAD := act_fin hS hA hE hM.1 hrj
  show XJ _ _ _ _ _ _ _ _ _ _ _ _ [.int (iI y)]
  refine xr_ireturn rfl rfl dX4_addTenant_14 ?_
  rw [hpo]
  exact ⟨y, rfl, hM.2, hAD⟩
theorem k_N_giveCoins {g : GG} {w : WW} {m : Nat} {A : Int → Nat} {th : Int} {P : Int → Int} {S : Option (Int → Int)} {H : List (Int → Int)} {I O : Tx} {se : Option Int} {rj : Option (Int × Int × Int)} {t v N : Int} (hG : Base g) (hX : MR g w m A th P S H I O se rj) (hB : PB P N) (hr : (-2147483648 ≤ t ∧ t < 2147483648) ∧ (-2147483648 ≤ v ∧ v < 2147483648)) : Ct g yX4_giveCoins (.code yX4_giveCoins cX4_giveCoins 3 (some .int)) 3 65 0 0 w [.ref m, .int (iI t), .int (iI v)] (fun r_ w1 => ∃ y : Int, r_ = some (.int (iI y)) ∧ Fr (MS m A) w w1 ∧ AD g w1 m A (0 ≤ t ∧ t < P 2) (1 ≤ v ∧ v ≤ 99) (((0, 0) : Int × Int)) (P (86 + 2 * t) + v) 1 P (oGive P t v) S H I O se rj y) xF := by
  refine Ct.of (lv := [some _, some _, some _]) hG (by decide +kernel) (Nat.le_of_ble_eq_true rfl) rfl ?_
  intro z hg hpo hxp hnm htab
  subst hg
  obtain ⟨F, C, hM, -, hS⟩ := hX
  have hM : MDF (zg z) w w m A F P C := ⟨hM, Fr.rf⟩
  have h68 : 0 ≤ F 6 ∧ F 6 ≤ 8 := by have := hS.1.1; have := hS.1.2.1; omega
  refine xr_aload_n dX4_giveCoins_0 rfl (by first | rfl | exact isRef_rf _) ?_
  refine xr_callV (n9 := 0) (rc' := 0) (rs' := 0) (k_M_remembers hG hM.1) hM.1.1 rfl q2269 q2271 qs37 q96 q2272 (by decide +kernel) rfl ⟨by decide, Nat.le_of_ble_eq_true rfl⟩ ⟨Nat.le_of_ble_eq_true rfl, Nat.le_of_ble_eq_true rfl⟩ (Nat.le_of_ble_eq_true rfl) dX4_giveCoins_1 rfl (fun r w1 hw => ?_) (fun _ _ _ h => h.elim)
  obtain ⟨rfl, hw⟩ := hw
  have hM := hM.tr hw
  refine xr_aload_n dX4_giveCoins_4 rfl (by first | rfl | exact isRef_rf _) ?_
  refine xr_aload_n dX4_giveCoins_5 rfl (by first | rfl | exact isRef_rf _) ?_
  refine xr_iload_n dX4_giveCoins_6 rfl ?_
  refine xr_iload_n dX4_giveCoins_7 rfl ?_
  refine xr_callV (n9 := 2) (rc' := 0) (rs' := 0) (k_M_gives hG hM.1 hB  hr) hM.1.1 rfl q2451 q2453 qs60 q96 q2454 (by decide +kernel) rfl ⟨by decide, Nat.le_of_ble_eq_true rfl⟩ ⟨Nat.le_of_ble_eq_true rfl, Nat.le_of_ble_eq_true rfl⟩ (Nat.le_of_ble_eq_true rfl) dX4_giveCoins_8 rfl (fun r w8 hw => ?_) (fun _ _ _ h => h.elim)
  obtain ⟨r, F1, P1, rfl, hw, hA⟩ := hw
  have hM := hM.tr hw
  show XJ _ _ _ _ _ _ _ _ _ _ _ _ [.int (iI r), .ref m]
  have h16 : F1 6 = F 6 := (hA.fk (by decide) (by decide)).trans (updI_ne (by decide))
  have hrj : 0 ≤ (((0, 0) : Int × Int)).1 ∧ (((0, 0) : Int × Int)).1 ≤ 12 := by
    exact ⟨Int.le_refl _, by decide⟩
  have hrb : -100 ≤ r ∧ r ≤ 100 := by
    rcases hA with ⟨-, h, -⟩ | ⟨-, -, h, -⟩ | ⟨-, -, -, h, -⟩ | ⟨-, -, -, h, -⟩ <;> omega
  refine xr_iconst dX4_giveCoins_11 ?_
  refine xr_callV (n9 := 2) (rc' := 0) (rs' := 0) (k_M_ends hG hM.1 (by rw [h16]; exact h68) hrb) hM.1.1 rfl q2303 q2305 qs44 q96 q2306 (by decide +kernel) rfl ⟨by decide, Nat.le_of_ble_eq_true rfl⟩ ⟨Nat.le_of_ble_eq_true rfl, Nat.le_of_ble_eq_true rfl⟩ (Nat.le_of_ble_eq_true rfl) dX4_giveCoins_12 rfl (fun r w12 hw => ?_) (fun _ _ _ h => h.elim)
  obtain ⟨y, F2, Cx, rfl, hw9, hE⟩ := hw
  have hM := hM.tr hw9
  have hAD := act_fin hS hA hE hM.1 hrj
  show XJ _ _ _ _ _ _ _ _ _ _ _ _ [.int (iI y)]
  refine xr_ireturn rfl rfl dX4_giveCoins_15 ?_
  rw [hpo]
  exact ⟨y, rfl, hM.2, hAD⟩
theorem k_N_setRent {g : GG} {w : WW} {m : Nat} {A : Int → Nat} {th : Int} {P : Int → Int} {S : Option (Int → Int)} {H : List (Int → Int)} {I O : Tx} {se : Option Int} {rj : Option (Int × Int × Int)} {b v N : Int} (hG : Base g) (hX : MR g w m A th P S H I O se rj) (hB : PB P N) (hr : (-2147483648 ≤ b ∧ b < 2147483648) ∧ (-2147483648 ≤ v ∧ v < 2147483648)) : Ct g yX4_setRent (.code yX4_setRent cX4_setRent 3 (some .int)) 3 66 0 0 w [.ref m, .int (iI b), .int (iI v)] (fun r_ w1 => ∃ y : Int, r_ = some (.int (iI y)) ∧ Fr (MS m A) w w1 ∧ AD g w1 m A (0 ≤ b ∧ b < P 0) (1 ≤ v ∧ v ≤ 20) (((0, 0) : Int × Int)) (P (12 + 6 * b)) 1 P (oRent P b v) S H I O se rj y) xF := by
  refine Ct.of (lv := [some _, some _, some _]) hG (by decide +kernel) (Nat.le_of_ble_eq_true rfl) rfl ?_
  intro z hg hpo hxp hnm htab
  subst hg
  obtain ⟨F, C, hM, -, hS⟩ := hX
  have hM : MDF (zg z) w w m A F P C := ⟨hM, Fr.rf⟩
  have h68 : 0 ≤ F 6 ∧ F 6 ≤ 8 := by have := hS.1.1; have := hS.1.2.1; omega
  refine xr_aload_n dX4_setRent_0 rfl (by first | rfl | exact isRef_rf _) ?_
  refine xr_callV (n9 := 0) (rc' := 0) (rs' := 0) (k_M_remembers hG hM.1) hM.1.1 rfl q2269 q2271 qs37 q96 q2272 (by decide +kernel) rfl ⟨by decide, Nat.le_of_ble_eq_true rfl⟩ ⟨Nat.le_of_ble_eq_true rfl, Nat.le_of_ble_eq_true rfl⟩ (Nat.le_of_ble_eq_true rfl) dX4_setRent_1 rfl (fun r w1 hw => ?_) (fun _ _ _ h => h.elim)
  obtain ⟨rfl, hw⟩ := hw
  have hM := hM.tr hw
  refine xr_aload_n dX4_setRent_4 rfl (by first | rfl | exact isRef_rf _) ?_
  refine xr_aload_n dX4_setRent_5 rfl (by first | rfl | exact isRef_rf _) ?_
  refine xr_iload_n dX4_setRent_6 rfl ?_
  refine xr_iload_n dX4_setRent_7 rfl ?_
  refine xr_callV (n9 := 2) (rc' := 0) (rs' := 0) (k_M_rents hG hM.1 hB  hr) hM.1.1 rfl q2319 q2321 qs47 q96 q2322 (by decide +kernel) rfl ⟨by decide, Nat.le_of_ble_eq_true rfl⟩ ⟨Nat.le_of_ble_eq_true rfl, Nat.le_of_ble_eq_true rfl⟩ (Nat.le_of_ble_eq_true rfl) dX4_setRent_8 rfl (fun r w8 hw => ?_) (fun _ _ _ h => h.elim)
  obtain ⟨r, F1, P1, rfl, hw, hA⟩ := hw
  have hM := hM.tr hw
  show XJ _ _ _ _ _ _ _ _ _ _ _ _ [.int (iI r), .ref m]
  have h16 : F1 6 = F 6 := (hA.fk (by decide) (by decide)).trans (updI_ne (by decide))
  have hrj : 0 ≤ (((0, 0) : Int × Int)).1 ∧ (((0, 0) : Int × Int)).1 ≤ 12 := by
    exact ⟨Int.le_refl _, by decide⟩
  have hrb : -100 ≤ r ∧ r ≤ 100 := by
    rcases hA with ⟨-, h, -⟩ | ⟨-, -, h, -⟩ | ⟨-, -, -, h, -⟩ | ⟨-, -, -, h, -⟩ <;> omega
  refine xr_iconst dX4_setRent_11 ?_
  refine xr_callV (n9 := 2) (rc' := 0) (rs' := 0) (k_M_ends hG hM.1 (by rw [h16]; exact h68) hrb) hM.1.1 rfl q2303 q2305 qs44 q96 q2306 (by decide +kernel) rfl ⟨by decide, Nat.le_of_ble_eq_true rfl⟩ ⟨Nat.le_of_ble_eq_true rfl, Nat.le_of_ble_eq_true rfl⟩ (Nat.le_of_ble_eq_true rfl) dX4_setRent_12 rfl (fun r w12 hw => ?_) (fun _ _ _ h => h.elim)
  obtain ⟨y, F2, Cx, rfl, hw9, hE⟩ := hw
  have hM := hM.tr hw9
  have hAD := act_fin hS hA hE hM.1 hrj
  show XJ _ _ _ _ _ _ _ _ _ _ _ _ [.int (iI y)]
  refine xr_ireturn rfl rfl dX4_setRent_15 ?_
  rw [hpo]
  exact ⟨y, rfl, hM.2, hAD⟩
theorem k_N_setLoudness {g : GG} {w : WW} {m : Nat} {A : Int → Nat} {th : Int} {P : Int → Int} {S : Option (Int → Int)} {H : List (Int → Int)} {I O : Tx} {se : Option Int} {rj : Option (Int × Int × Int)} {b v N : Int} (hG : Base g) (hX : MR g w m A th P S H I O se rj) (hB : PB P N) (hr : (-2147483648 ≤ b ∧ b < 2147483648) ∧ (-2147483648 ≤ v ∧ v < 2147483648)) : Ct g yX4_setLoudness (.code yX4_setLoudness cX4_setLoudness 3 (some .int)) 3 66 0 0 w [.ref m, .int (iI b), .int (iI v)] (fun r_ w1 => ∃ y : Int, r_ = some (.int (iI y)) ∧ Fr (MS m A) w w1 ∧ AD g w1 m A (0 ≤ b ∧ b < P 1) (1 ≤ v ∧ v ≤ 9) (((0, 0) : Int × Int)) (P (72 + 4 * b)) 1 P (oLoud P b v) S H I O se rj y) xF := by
  refine Ct.of (lv := [some _, some _, some _]) hG (by decide +kernel) (Nat.le_of_ble_eq_true rfl) rfl ?_
  intro z hg hpo hxp hnm htab
  subst hg
  obtain ⟨F, C, hM, -, hS⟩ := hX
  have hM : MDF (zg z) w w m A F P C := ⟨hM, Fr.rf⟩
  have h68 : 0 ≤ F 6 ∧ F 6 ≤ 8 := by have := hS.1.1; have := hS.1.2.1; omega
  refine xr_aload_n dX4_setLoudness_0 rfl (by first | rfl | exact isRef_rf _) ?_
  refine xr_callV (n9 := 0) (rc' := 0) (rs' := 0) (k_M_remembers hG hM.1) hM.1.1 rfl q2269 q2271 qs37 q96 q2272 (by decide +kernel) rfl ⟨by decide, Nat.le_of_ble_eq_true rfl⟩ ⟨Nat.le_of_ble_eq_true rfl, Nat.le_of_ble_eq_true rfl⟩ (Nat.le_of_ble_eq_true rfl) dX4_setLoudness_1 rfl (fun r w1 hw => ?_) (fun _ _ _ h => h.elim)
  obtain ⟨rfl, hw⟩ := hw
  have hM := hM.tr hw
  refine xr_aload_n dX4_setLoudness_4 rfl (by first | rfl | exact isRef_rf _) ?_
  refine xr_aload_n dX4_setLoudness_5 rfl (by first | rfl | exact isRef_rf _) ?_
  refine xr_iload_n dX4_setLoudness_6 rfl ?_
  refine xr_iload_n dX4_setLoudness_7 rfl ?_
  refine xr_callV (n9 := 2) (rc' := 0) (rs' := 0) (k_M_louds hG hM.1 hB  hr) hM.1.1 rfl q2339 q2341 qs50 q96 q2342 (by decide +kernel) rfl ⟨by decide, Nat.le_of_ble_eq_true rfl⟩ ⟨Nat.le_of_ble_eq_true rfl, Nat.le_of_ble_eq_true rfl⟩ (Nat.le_of_ble_eq_true rfl) dX4_setLoudness_8 rfl (fun r w8 hw => ?_) (fun _ _ _ h => h.elim)
  obtain ⟨r, F1, P1, rfl, hw, hA⟩ := hw
  have hM := hM.tr hw
  show XJ _ _ _ _ _ _ _ _ _ _ _ _ [.int (iI r), .ref m]
  have h16 : F1 6 = F 6 := (hA.fk (by decide) (by decide)).trans (updI_ne (by decide))
  have hrj : 0 ≤ (((0, 0) : Int × Int)).1 ∧ (((0, 0) : Int × Int)).1 ≤ 12 := by
    exact ⟨Int.le_refl _, by decide⟩
  have hrb : -100 ≤ r ∧ r ≤ 100 := by
    rcases hA with ⟨-, h, -⟩ | ⟨-, -, h, -⟩ | ⟨-, -, -, h, -⟩ | ⟨-, -, -, h, -⟩ <;> omega
  refine xr_iconst dX4_setLoudness_11 ?_
  refine xr_callV (n9 := 2) (rc' := 0) (rs' := 0) (k_M_ends hG hM.1 (by rw [h16]; exact h68) hrb) hM.1.1 rfl q2303 q2305 qs44 q96 q2306 (by decide +kernel) rfl ⟨by decide, Nat.le_of_ble_eq_true rfl⟩ ⟨Nat.le_of_ble_eq_true rfl, Nat.le_of_ble_eq_true rfl⟩ (Nat.le_of_ble_eq_true rfl) dX4_setLoudness_12 rfl (fun r w12 hw => ?_) (fun _ _ _ h => h.elim)
  obtain ⟨y, F2, Cx, rfl, hw9, hE⟩ := hw
  have hM := hM.tr hw9
  have hAD := act_fin hS hA hE hM.1 hrj
  show XJ _ _ _ _ _ _ _ _ _ _ _ _ [.int (iI y)]
  refine xr_ireturn rfl rfl dX4_setLoudness_15 ?_
  rw [hpo]
  exact ⟨y, rfl, hM.2, hAD⟩
theorem k_N_setNoiseLimit {g : GG} {w : WW} {m : Nat} {A : Int → Nat} {th : Int} {P : Int → Int} {S : Option (Int → Int)} {H : List (Int → Int)} {I O : Tx} {se : Option Int} {rj : Option (Int × Int × Int)} {v N : Int} (hG : Base g) (hX : MR g w m A th P S H I O se rj) (hB : PB P N) (hr : (-2147483648 ≤ v ∧ v < 2147483648)) : Ct g yX4_setNoiseLimit (.code yX4_setNoiseLimit cX4_setNoiseLimit 2 (some .int)) 2 44 0 0 w [.ref m, .int (iI v)] (fun r_ w1 => ∃ y : Int, r_ = some (.int (iI y)) ∧ Fr (MS m A) w w1 ∧ AD g w1 m A (0 ≤ v ∧ v ≤ 20) (True) (((0, 0) : Int × Int)) (P 3) 1 P (oLimit P v) S H I O se rj y) xF := by
  refine Ct.of (lv := [some _, some _]) hG (by decide +kernel) (Nat.le_of_ble_eq_true rfl) rfl ?_
  intro z hg hpo hxp hnm htab
  subst hg
  obtain ⟨F, C, hM, -, hS⟩ := hX
  have hM : MDF (zg z) w w m A F P C := ⟨hM, Fr.rf⟩
  have h68 : 0 ≤ F 6 ∧ F 6 ≤ 8 := by have := hS.1.1; have := hS.1.2.1; omega
  refine xr_aload_n dX4_setNoiseLimit_0 rfl (by first | rfl | exact isRef_rf _) ?_
  refine xr_callV (n9 := 0) (rc' := 0) (rs' := 0) (k_M_remembers hG hM.1) hM.1.1 rfl q2269 q2271 qs37 q96 q2272 (by decide +kernel) rfl ⟨by decide, Nat.le_of_ble_eq_true rfl⟩ ⟨Nat.le_of_ble_eq_true rfl, Nat.le_of_ble_eq_true rfl⟩ (Nat.le_of_ble_eq_true rfl) dX4_setNoiseLimit_1 rfl (fun r w1 hw => ?_) (fun _ _ _ h => h.elim)
  obtain ⟨rfl, hw⟩ := hw
  have hM := hM.tr hw
  refine xr_aload_n dX4_setNoiseLimit_4 rfl (by first | rfl | exact isRef_rf _) ?_
  refine xr_aload_n dX4_setNoiseLimit_5 rfl (by first | rfl | exact isRef_rf _) ?_
  refine xr_iload_n dX4_setNoiseLimit_6 rfl ?_
  refine xr_callV (n9 := 1) (rc' := 0) (rs' := 0) (k_M_limits hG hM.1 hB  hr) hM.1.1 rfl q2359 q2361 qs53 q96 q2362 (by decide +kernel) rfl ⟨by decide, Nat.le_of_ble_eq_true rfl⟩ ⟨Nat.le_of_ble_eq_true rfl, Nat.le_of_ble_eq_true rfl⟩ (Nat.le_of_ble_eq_true rfl) dX4_setNoiseLimit_7 rfl (fun r w7 hw => ?_) (fun _ _ _ h => h.elim)
  obtain ⟨r, F1, P1, rfl, hw, hA⟩ := hw
  have hM := hM.tr hw
  show XJ _ _ _ _ _ _ _ _ _ _ _ _ [.int (iI r), .ref m]
  have h16 : F1 6 = F 6 := (hA.fk (by decide) (by decide)).trans (updI_ne (by decide))
  have hrj : 0 ≤ (((0, 0) : Int × Int)).1 ∧ (((0, 0) : Int × Int)).1 ≤ 12 := by
    exact ⟨Int.le_refl _, by decide⟩
  have hrb : -100 ≤ r ∧ r ≤ 100 := by
    rcases hA with ⟨-, h, -⟩ | ⟨-, -, h, -⟩ | ⟨-, -, -, h, -⟩ | ⟨-, -, -, h, -⟩ <;> omega
  refine xr_iconst dX4_setNoiseLimit_10 ?_
  refine xr_callV (n9 := 2) (rc' := 0) (rs' := 0) (k_M_ends hG hM.1 (by rw [h16]; exact h68) hrb) hM.1.1 rfl q2303 q2305 qs44 q96 q2306 (by decide +kernel) rfl ⟨by decide, Nat.le_of_ble_eq_true rfl⟩ ⟨Nat.le_of_ble_eq_true rfl, Nat.le_of_ble_eq_true rfl⟩ (Nat.le_of_ble_eq_true rfl) dX4_setNoiseLimit_11 rfl (fun r w11 hw => ?_) (fun _ _ _ h => h.elim)
  obtain ⟨y, F2, Cx, rfl, hw9, hE⟩ := hw
  have hM := hM.tr hw9
  have hAD := act_fin hS hA hE hM.1 hrj
  show XJ _ _ _ _ _ _ _ _ _ _ _ _ [.int (iI y)]
  refine xr_ireturn rfl rfl dX4_setNoiseLimit_14 ?_
  rw [hpo]
  exact ⟨y, rfl, hM.2, hAD⟩
theorem k_N_lease {g : GG} {w : WW} {m : Nat} {A : Int → Nat} {th : Int} {P : Int → Int} {S : Option (Int → Int)} {H : List (Int → Int)} {I O : Tx} {se : Option Int} {rj : Option (Int × Int × Int)} {t b v N : Int} (hG : Base g) (hX : MR g w m A th P S H I O se rj) (hB : PB P N) (hC : PCon P) (hr : (-2147483648 ≤ t ∧ t < 2147483648) ∧ (-2147483648 ≤ b ∧ b < 2147483648) ∧ (-2147483648 ≤ v ∧ v < 2147483648)) : Ct g yX4_lease (.code yX4_lease cX4_lease 4 (some .int)) 6 138 0 0 w [.ref m, .int (iI t), .int (iI b), .int (iI v)] (fun r_ w1 => ∃ y : Int, r_ = some (.int (iI y)) ∧ Fr (MS m A) w w1 ∧ AD g w1 m A ((0 ≤ t ∧ t < P 2) ∧ (0 ≤ b ∧ b < P 0)) (1 ≤ v ∧ v ≤ 12) (barred P t b) (rent P b) 3 P (oLease P t b v) S H I O se rj y) xF := by
  refine Ct.of (lv := [some _, some _, some _, some _]) hG (by decide +kernel) (Nat.le_of_ble_eq_true rfl) rfl ?_
  intro z hg hpo hxp hnm htab
  subst hg
  obtain ⟨F, C, hM, -, hS⟩ := hX
  have hM : MDF (zg z) w w m A F P C := ⟨hM, Fr.rf⟩
  have h68 : 0 ≤ F 6 ∧ F 6 ≤ 8 := by have := hS.1.1; have := hS.1.2.1; omega
  refine xr_aload_n dX4_lease_0 rfl (by first | rfl | exact isRef_rf _) ?_
  refine xr_callV (n9 := 0) (rc' := 0) (rs' := 0) (k_M_remembers hG hM.1) hM.1.1 rfl q2269 q2271 qs37 q96 q2272 (by decide +kernel) rfl ⟨by decide, Nat.le_of_ble_eq_true rfl⟩ ⟨Nat.le_of_ble_eq_true rfl, Nat.le_of_ble_eq_true rfl⟩ (Nat.le_of_ble_eq_true rfl) dX4_lease_1 rfl (fun r w1 hw => ?_) (fun _ _ _ h => h.elim)
  obtain ⟨rfl, hw⟩ := hw
  have hM := hM.tr hw
  refine xr_aload_n dX4_lease_4 rfl (by first | rfl | exact isRef_rf _) ?_
  refine xr_aload_n dX4_lease_5 rfl (by first | rfl | exact isRef_rf _) ?_
  refine xr_iload_n dX4_lease_6 rfl ?_
  refine xr_iload_n dX4_lease_7 rfl ?_
  refine xr_iload_n dX4_lease_8 rfl ?_
  refine xr_callV (n9 := 3) (rc' := 0) (rs' := 0) (k_M_leases hG hM.1 hB hC hr) hM.1.1 rfl q2507 q2509 qs67 q96 q2510 (by decide +kernel) rfl ⟨by decide, Nat.le_of_ble_eq_true rfl⟩ ⟨Nat.le_of_ble_eq_true rfl, Nat.le_of_ble_eq_true rfl⟩ (Nat.le_of_ble_eq_true rfl) dX4_lease_9 rfl (fun r w9 hw => ?_) (fun _ _ _ h => h.elim)
  obtain ⟨r, F1, P1, rfl, hw, hA⟩ := hw
  have hM := hM.tr hw
  show XJ _ _ _ _ _ _ _ _ _ _ _ _ [.int (iI r), .ref m]
  have h16 : F1 6 = F 6 := (hA.fk (by decide) (by decide)).trans (updI_ne (by decide))
  have hrj : 0 ≤ (barred P t b).1 ∧ (barred P t b).1 ≤ 12 := by
    have := barred_bd (P := P) (t := t) (b := b); omega
  have hrb : -100 ≤ r ∧ r ≤ 100 := by
    rcases hA with ⟨-, h, -⟩ | ⟨-, -, h, -⟩ | ⟨-, -, -, h, -⟩ | ⟨-, -, -, h, -⟩ <;> omega
  refine xr_iconst dX4_lease_12 ?_
  refine xr_callV (n9 := 2) (rc' := 0) (rs' := 0) (k_M_ends hG hM.1 (by rw [h16]; exact h68) hrb) hM.1.1 rfl q2303 q2305 qs44 q96 q2306 (by decide +kernel) rfl ⟨by decide, Nat.le_of_ble_eq_true rfl⟩ ⟨Nat.le_of_ble_eq_true rfl, Nat.le_of_ble_eq_true rfl⟩ (Nat.le_of_ble_eq_true rfl) dX4_lease_13 rfl (fun r w13 hw => ?_) (fun _ _ _ h => h.elim)
  obtain ⟨y, F2, Cx, rfl, hw9, hE⟩ := hw
  have hM := hM.tr hw9
  have hAD := act_fin hS hA hE hM.1 hrj
  show XJ _ _ _ _ _ _ _ _ _ _ _ _ [.int (iI y)]
  refine xr_ireturn rfl rfl dX4_lease_16 ?_
  rw [hpo]
  exact ⟨y, rfl, hM.2, hAD⟩
theorem k_N_endLease {g : GG} {w : WW} {m : Nat} {A : Int → Nat} {th : Int} {P : Int → Int} {S : Option (Int → Int)} {H : List (Int → Int)} {I O : Tx} {se : Option Int} {rj : Option (Int × Int × Int)} {b N : Int} (hG : Base g) (hX : MR g w m A th P S H I O se rj) (hB : PB P N) (hr : (-2147483648 ≤ b ∧ b < 2147483648)) : Ct g yX4_endLease (.code yX4_endLease cX4_endLease 2 (some .int)) 4 87 0 0 w [.ref m, .int (iI b)] (fun r_ w1 => ∃ y : Int, r_ = some (.int (iI y)) ∧ Fr (MS m A) w w1 ∧ AD g w1 m A (0 ≤ b ∧ b < P 0) (True) (rjEnd P b) ((P (14 + 6 * b)).tdiv 2) 2 P (oFree P b ((P (14 + 6 * b)).tdiv 2)) S H I O se rj y) xF := by
  refine Ct.of (lv := [some _, some _]) hG (by decide +kernel) (Nat.le_of_ble_eq_true rfl) rfl ?_
  intro z hg hpo hxp hnm htab
  subst hg
  obtain ⟨F, C, hM, -, hS⟩ := hX
  have hM : MDF (zg z) w w m A F P C := ⟨hM, Fr.rf⟩
  have h68 : 0 ≤ F 6 ∧ F 6 ≤ 8 := by have := hS.1.1; have := hS.1.2.1; omega
  refine xr_aload_n dX4_endLease_0 rfl (by first | rfl | exact isRef_rf _) ?_
  refine xr_callV (n9 := 0) (rc' := 0) (rs' := 0) (k_M_remembers hG hM.1) hM.1.1 rfl q2269 q2271 qs37 q96 q2272 (by decide +kernel) rfl ⟨by decide, Nat.le_of_ble_eq_true rfl⟩ ⟨Nat.le_of_ble_eq_true rfl, Nat.le_of_ble_eq_true rfl⟩ (Nat.le_of_ble_eq_true rfl) dX4_endLease_1 rfl (fun r w1 hw => ?_) (fun _ _ _ h => h.elim)
  obtain ⟨rfl, hw⟩ := hw
  have hM := hM.tr hw
  refine xr_aload_n dX4_endLease_4 rfl (by first | rfl | exact isRef_rf _) ?_
  refine xr_aload_n dX4_endLease_5 rfl (by first | rfl | exact isRef_rf _) ?_
  refine xr_iload_n dX4_endLease_6 rfl ?_
  refine xr_callV (n9 := 1) (rc' := 0) (rs' := 0) (k_M_endsLease hG hM.1 hB  hr) hM.1.1 rfl q2515 q2517 qs68 q96 q2518 (by decide +kernel) rfl ⟨by decide, Nat.le_of_ble_eq_true rfl⟩ ⟨Nat.le_of_ble_eq_true rfl, Nat.le_of_ble_eq_true rfl⟩ (Nat.le_of_ble_eq_true rfl) dX4_endLease_7 rfl (fun r w7 hw => ?_) (fun _ _ _ h => h.elim)
  obtain ⟨r, F1, P1, rfl, hw, hA⟩ := hw
  have hM := hM.tr hw
  show XJ _ _ _ _ _ _ _ _ _ _ _ _ [.int (iI r), .ref m]
  have h16 : F1 6 = F 6 := (hA.fk (by decide) (by decide)).trans (updI_ne (by decide))
  have hrj : 0 ≤ (rjEnd P b).1 ∧ (rjEnd P b).1 ≤ 12 := by
    unfold rjEnd
    repeat' split
    all_goals simp
  have hrb : -100 ≤ r ∧ r ≤ 100 := by
    rcases hA with ⟨-, h, -⟩ | ⟨-, -, h, -⟩ | ⟨-, -, -, h, -⟩ | ⟨-, -, -, h, -⟩ <;> omega
  refine xr_iconst dX4_endLease_10 ?_
  refine xr_callV (n9 := 2) (rc' := 0) (rs' := 0) (k_M_ends hG hM.1 (by rw [h16]; exact h68) hrb) hM.1.1 rfl q2303 q2305 qs44 q96 q2306 (by decide +kernel) rfl ⟨by decide, Nat.le_of_ble_eq_true rfl⟩ ⟨Nat.le_of_ble_eq_true rfl, Nat.le_of_ble_eq_true rfl⟩ (Nat.le_of_ble_eq_true rfl) dX4_endLease_11 rfl (fun r w11 hw => ?_) (fun _ _ _ h => h.elim)
  obtain ⟨y, F2, Cx, rfl, hw9, hE⟩ := hw
  have hM := hM.tr hw9
  have hAD := act_fin hS hA hE hM.1 hrj
  show XJ _ _ _ _ _ _ _ _ _ _ _ _ [.int (iI y)]
  refine xr_ireturn rfl rfl dX4_endLease_14 ?_
  rw [hpo]
  exact ⟨y, rfl, hM.2, hAD⟩
theorem k_N_renew {g : GG} {w : WW} {m : Nat} {A : Int → Nat} {th : Int} {P : Int → Int} {S : Option (Int → Int)} {H : List (Int → Int)} {I O : Tx} {se : Option Int} {rj : Option (Int × Int × Int)} {b v N : Int} (hG : Base g) (hX : MR g w m A th P S H I O se rj) (hB : PB P N) (hr : (-2147483648 ≤ b ∧ b < 2147483648) ∧ (-2147483648 ≤ v ∧ v < 2147483648)) : Ct g yX4_renew (.code yX4_renew cX4_renew 3 (some .int)) 3 65 0 0 w [.ref m, .int (iI b), .int (iI v)] (fun r_ w1 => ∃ y : Int, r_ = some (.int (iI y)) ∧ Fr (MS m A) w w1 ∧ AD g w1 m A (0 ≤ b ∧ b < P 0) (1 ≤ v ∧ v ≤ 12) (rjRenew P b v) (P (15 + 6 * b) + v) 3 P (oRenew P b v) S H I O se rj y) xF := by
  refine Ct.of (lv := [some _, some _, some _]) hG (by decide +kernel) (Nat.le_of_ble_eq_true rfl) rfl ?_
  intro z hg hpo hxp hnm htab
  subst hg
  obtain ⟨F, C, hM, -, hS⟩ := hX
  have hM : MDF (zg z) w w m A F P C := ⟨hM, Fr.rf⟩
  have h68 : 0 ≤ F 6 ∧ F 6 ≤ 8 := by have := hS.1.1; have := hS.1.2.1; omega
  refine xr_aload_n dX4_renew_0 rfl (by first | rfl | exact isRef_rf _) ?_
  refine xr_callV (n9 := 0) (rc' := 0) (rs' := 0) (k_M_remembers hG hM.1) hM.1.1 rfl q2269 q2271 qs37 q96 q2272 (by decide +kernel) rfl ⟨by decide, Nat.le_of_ble_eq_true rfl⟩ ⟨Nat.le_of_ble_eq_true rfl, Nat.le_of_ble_eq_true rfl⟩ (Nat.le_of_ble_eq_true rfl) dX4_renew_1 rfl (fun r w1 hw => ?_) (fun _ _ _ h => h.elim)
  obtain ⟨rfl, hw⟩ := hw
  have hM := hM.tr hw
  refine xr_aload_n dX4_renew_4 rfl (by first | rfl | exact isRef_rf _) ?_
  refine xr_aload_n dX4_renew_5 rfl (by first | rfl | exact isRef_rf _) ?_
  refine xr_iload_n dX4_renew_6 rfl ?_
  refine xr_iload_n dX4_renew_7 rfl ?_
  refine xr_callV (n9 := 2) (rc' := 0) (rs' := 0) (k_M_renews hG hM.1 hB  hr) hM.1.1 rfl q2527 q2529 qs70 q96 q2530 (by decide +kernel) rfl ⟨by decide, Nat.le_of_ble_eq_true rfl⟩ ⟨Nat.le_of_ble_eq_true rfl, Nat.le_of_ble_eq_true rfl⟩ (Nat.le_of_ble_eq_true rfl) dX4_renew_8 rfl (fun r w8 hw => ?_) (fun _ _ _ h => h.elim)
  obtain ⟨r, F1, P1, rfl, hw, hA⟩ := hw
  have hM := hM.tr hw
  show XJ _ _ _ _ _ _ _ _ _ _ _ _ [.int (iI r), .ref m]
  have h16 : F1 6 = F 6 := (hA.fk (by decide) (by decide)).trans (updI_ne (by decide))
  have hrj : 0 ≤ (rjRenew P b v).1 ∧ (rjRenew P b v).1 ≤ 12 := by
    unfold rjRenew
    repeat' split
    all_goals simp
  have hrb : -100 ≤ r ∧ r ≤ 100 := by
    rcases hA with ⟨-, h, -⟩ | ⟨-, -, h, -⟩ | ⟨-, -, -, h, -⟩ | ⟨-, -, -, h, -⟩ <;> omega
  refine xr_iconst dX4_renew_11 ?_
  refine xr_callV (n9 := 2) (rc' := 0) (rs' := 0) (k_M_ends hG hM.1 (by rw [h16]; exact h68) hrb) hM.1.1 rfl q2303 q2305 qs44 q96 q2306 (by decide +kernel) rfl ⟨by decide, Nat.le_of_ble_eq_true rfl⟩ ⟨Nat.le_of_ble_eq_true rfl, Nat.le_of_ble_eq_true rfl⟩ (Nat.le_of_ble_eq_true rfl) dX4_renew_12 rfl (fun r w12 hw => ?_) (fun _ _ _ h => h.elim)
  obtain ⟨y, F2, Cx, rfl, hw9, hE⟩ := hw
  have hM := hM.tr hw9
  have hAD := act_fin hS hA hE hM.1 hrj
  show XJ _ _ _ _ _ _ _ _ _ _ _ _ [.int (iI y)]
  refine xr_ireturn rfl rfl dX4_renew_15 ?_
  rw [hpo]
  exact ⟨y, rfl, hM.2, hAD⟩
theorem k_N_passMonths {g : GG} {w : WW} {m : Nat} {A : Int → Nat} {th : Int} {P : Int → Int} {S : Option (Int → Int)} {H : List (Int → Int)} {I O : Tx} {se : Option Int} {rj : Option (Int × Int × Int)} {v N : Int} (hG : Base g) (hX : MR g w m A th P S H I O se rj) (hB : PB P N) (hN : N + 13000 ≤ 10000000) (hr : (-2147483648 ≤ v ∧ v < 2147483648)) : Ct g yX4_passMonths (.code yX4_passMonths cX4_passMonths 2 (some .int)) 6 137 0 0 w [.ref m, .int (iI v)] (fun r_ w1 => ∃ y : Int, r_ = some (.int (iI y)) ∧ Fr (MS m A) w w1 ∧ AD g w1 m A (1 ≤ v ∧ v ≤ 12) (True) (((0, 0) : Int × Int)) ((oMonths v.toNat P).2) 1 P ((oMonths v.toNat P).1) S H I O se rj y) xF := by
  refine Ct.of (lv := [some _, some _]) hG (by decide +kernel) (Nat.le_of_ble_eq_true rfl) rfl ?_
  intro z hg hpo hxp hnm htab
  subst hg
  obtain ⟨F, C, hM, -, hS⟩ := hX
  have hM : MDF (zg z) w w m A F P C := ⟨hM, Fr.rf⟩
  have h68 : 0 ≤ F 6 ∧ F 6 ≤ 8 := by have := hS.1.1; have := hS.1.2.1; omega
  refine xr_aload_n dX4_passMonths_0 rfl (by first | rfl | exact isRef_rf _) ?_
  refine xr_callV (n9 := 0) (rc' := 0) (rs' := 0) (k_M_remembers hG hM.1) hM.1.1 rfl q2269 q2271 qs37 q96 q2272 (by decide +kernel) rfl ⟨by decide, Nat.le_of_ble_eq_true rfl⟩ ⟨Nat.le_of_ble_eq_true rfl, Nat.le_of_ble_eq_true rfl⟩ (Nat.le_of_ble_eq_true rfl) dX4_passMonths_1 rfl (fun r w1 hw => ?_) (fun _ _ _ h => h.elim)
  obtain ⟨rfl, hw⟩ := hw
  have hM := hM.tr hw
  refine xr_aload_n dX4_passMonths_4 rfl (by first | rfl | exact isRef_rf _) ?_
  refine xr_aload_n dX4_passMonths_5 rfl (by first | rfl | exact isRef_rf _) ?_
  refine xr_iload_n dX4_passMonths_6 rfl ?_
  refine xr_callV (n9 := 1) (rc' := 0) (rs' := 0) (k_M_passes hG hM.1 hB hN hr) hM.1.1 rfl q2559 q2561 qs72 q96 q2562 (by decide +kernel) rfl ⟨by decide, Nat.le_of_ble_eq_true rfl⟩ ⟨Nat.le_of_ble_eq_true rfl, Nat.le_of_ble_eq_true rfl⟩ (Nat.le_of_ble_eq_true rfl) dX4_passMonths_7 rfl (fun r w7 hw => ?_) (fun _ _ _ h => h.elim)
  obtain ⟨r, F1, P1, rfl, hw, hA⟩ := hw
  have hM := hM.tr hw
  show XJ _ _ _ _ _ _ _ _ _ _ _ _ [.int (iI r), .ref m]
  have h16 : F1 6 = F 6 := (hA.fk (by decide) (by decide)).trans (updI_ne (by decide))
  have hrj : 0 ≤ (((0, 0) : Int × Int)).1 ∧ (((0, 0) : Int × Int)).1 ≤ 12 := by
    exact ⟨Int.le_refl _, by decide⟩
  have hrb : -100 ≤ r ∧ r ≤ 100 := by
    rcases hA with ⟨-, h, -⟩ | ⟨-, -, h, -⟩ | ⟨-, -, -, h, -⟩ | ⟨-, -, -, h, -⟩ <;> omega
  refine xr_iconst dX4_passMonths_10 ?_
  refine xr_callV (n9 := 2) (rc' := 0) (rs' := 0) (k_M_ends hG hM.1 (by rw [h16]; exact h68) hrb) hM.1.1 rfl q2303 q2305 qs44 q96 q2306 (by decide +kernel) rfl ⟨by decide, Nat.le_of_ble_eq_true rfl⟩ ⟨Nat.le_of_ble_eq_true rfl, Nat.le_of_ble_eq_true rfl⟩ (Nat.le_of_ble_eq_true rfl) dX4_passMonths_11 rfl (fun r w11 hw => ?_) (fun _ _ _ h => h.elim)
  obtain ⟨y, F2, Cx, rfl, hw9, hE⟩ := hw
  have hM := hM.tr hw9
  have hAD := act_fin hS hA hE hM.1 hrj
  show XJ _ _ _ _ _ _ _ _ _ _ _ _ [.int (iI y)]
  refine xr_ireturn rfl rfl dX4_passMonths_14 ?_
  rw [hpo]
  exact ⟨y, rfl, hM.2, hAD⟩
theorem k_N_switchFountain {g : GG} {w : WW} {m : Nat} {A : Int → Nat} {th : Int} {P : Int → Int} {S : Option (Int → Int)} {H : List (Int → Int)} {I O : Tx} {se : Option Int} {rj : Option (Int × Int × Int)} {b N : Int} (hG : Base g) (hX : MR g w m A th P S H I O se rj) (hB : PB P N) (hr : (-2147483648 ≤ b ∧ b < 2147483648)) : Ct g yX4_switchFountain (.code yX4_switchFountain cX4_switchFountain 2 (some .boolean)) 3 64 0 0 w [.ref m, .int (iI b)] (fun r_ w1 => ∃ y : Int, r_ = some (.int (iI y)) ∧ Fr (MS m A) w w1 ∧ AD g w1 m A (0 ≤ b ∧ b < P 1) (True) (((0, 0) : Int × Int)) (1 - P (73 + 4 * b)) 1 P (oSwitch P b) S H I O se rj y) xF := by
  refine Ct.of (lv := [some _, some _]) hG (by decide +kernel) (Nat.le_of_ble_eq_true rfl) rfl ?_
  intro z hg hpo hxp hnm htab
  subst hg
  obtain ⟨F, C, hM, -, hS⟩ := hX
  have hM : MDF (zg z) w w m A F P C := ⟨hM, Fr.rf⟩
  have h68 : 0 ≤ F 6 ∧ F 6 ≤ 8 := by have := hS.1.1; have := hS.1.2.1; omega
  refine xr_aload_n dX4_switchFountain_0 rfl (by first | rfl | exact isRef_rf _) ?_
  refine xr_callV (n9 := 0) (rc' := 0) (rs' := 0) (k_M_remembers hG hM.1) hM.1.1 rfl q2269 q2271 qs37 q96 q2272 (by decide +kernel) rfl ⟨by decide, Nat.le_of_ble_eq_true rfl⟩ ⟨Nat.le_of_ble_eq_true rfl, Nat.le_of_ble_eq_true rfl⟩ (Nat.le_of_ble_eq_true rfl) dX4_switchFountain_1 rfl (fun r w1 hw => ?_) (fun _ _ _ h => h.elim)
  obtain ⟨rfl, hw⟩ := hw
  have hM := hM.tr hw
  refine xr_aload_n dX4_switchFountain_4 rfl (by first | rfl | exact isRef_rf _) ?_
  refine xr_aload_n dX4_switchFountain_5 rfl (by first | rfl | exact isRef_rf _) ?_
  refine xr_iload_n dX4_switchFountain_6 rfl ?_
  refine xr_callV (n9 := 1) (rc' := 0) (rs' := 0) (k_M_switches hG hM.1 hB  hr) hM.1.1 rfl q2351 q2353 qs52 q96 q2354 (by decide +kernel) rfl ⟨by decide, Nat.le_of_ble_eq_true rfl⟩ ⟨Nat.le_of_ble_eq_true rfl, Nat.le_of_ble_eq_true rfl⟩ (Nat.le_of_ble_eq_true rfl) dX4_switchFountain_7 rfl (fun r w7 hw => ?_) (fun _ _ _ h => h.elim)
  obtain ⟨r, F1, P1, rfl, hw, hA⟩ := hw
  have hM := hM.tr hw
  show XJ _ _ _ _ _ _ _ _ _ _ _ _ [.int (iI r), .ref m]
  have h16 : F1 6 = F 6 := (hA.fk (by decide) (by decide)).trans (updI_ne (by decide))
  have hrj : 0 ≤ (((0, 0) : Int × Int)).1 ∧ (((0, 0) : Int × Int)).1 ≤ 12 := by
    exact ⟨Int.le_refl _, by decide⟩
  have hrb : -100 ≤ r ∧ r ≤ 100 := by
    rcases hA with ⟨-, h, -⟩ | ⟨-, -, h, -⟩ | ⟨-, -, -, h, -⟩ | ⟨-, -, -, h, -⟩ <;> omega
  refine xr_iconst dX4_switchFountain_10 ?_
  refine xr_callV (n9 := 2) (rc' := 0) (rs' := 0) (k_M_ends hG hM.1 (by rw [h16]; exact h68) hrb) hM.1.1 rfl q2303 q2305 qs44 q96 q2306 (by decide +kernel) rfl ⟨by decide, Nat.le_of_ble_eq_true rfl⟩ ⟨Nat.le_of_ble_eq_true rfl, Nat.le_of_ble_eq_true rfl⟩ (Nat.le_of_ble_eq_true rfl) dX4_switchFountain_11 rfl (fun r w11 hw => ?_) (fun _ _ _ h => h.elim)
  obtain ⟨y, F2, Cx, rfl, hw9, hE⟩ := hw
  have hM := hM.tr hw9
  have hAD := act_fin hS hA hE hM.1 hrj
  show XJ _ _ _ _ _ _ _ _ _ _ _ _ [.int (iI y)]
  have hy9 : y = 0 ∨ y = 1 := by
    rcases hAD with ⟨-, h, -⟩ | ⟨-, -, h, -⟩ | ⟨-, -, -, h, -⟩ | ⟨h9, -, -, h, -⟩
    · omega
    · omega
    · omega
    · have hff := hB.f h9
      omega
  refine xr_iconst dX4_switchFountain_14 ?_
  refine xr_icmp_ne (tgt := 22) dX4_switchFountain_15 (by decide) (by omega) (fun c15 => ?_) (fun c15 => ?_)
  · skip
    refine xr_iconst dX4_switchFountain_22 ?_
    refine xr_ireturn rfl (by first | rfl | exact nar_bI _ | decide +kernel) dX4_switchFountain_23 ?_
    rw [hpo]
    refine ⟨y, ?_, hM.2, hAD⟩
    rcases hy9 with rfl | rfl <;> first | rfl | omega
  · skip
    refine xr_iconst dX4_switchFountain_18 ?_
    refine xr_goto (tgt := 23) dX4_switchFountain_19 (by decide) ?_
    refine xr_ireturn rfl (by first | rfl | exact nar_bI _ | decide +kernel) dX4_switchFountain_23 ?_
    rw [hpo]
    refine ⟨y, ?_, hM.2, hAD⟩
    rcases hy9 with rfl | rfl <;> first | rfl | omega
