/-! 71.model.lean.txt (written by tools/walker.py)  -/
set_option maxRecDepth 100000
/-! the other model: an object of class 14 with eight arrays -/
abbrev mF (A : Int → Nat) (F : Int → Int) : List Value := [.int (iI (F 0)), .ref (A 1), .ref (A 2), .ref (A 3), .ref (A 4), .ref (A 5), .int (iI (F 6)), .int (iI (F 7)), .ref (A 8), .ref (A 9), .ref (A 10), .int (iI (F 11)), .int (iI (F 12)), .int (iI (F 13)), .int (iI (F 14)), .int (iI (F 15)), .int (iI (F 16)), .int (iI (F 17)), .int (iI (F 18)), .int (iI (F 19)), .int (iI (F 20)), .int (iI (F 21)), .int (iI (F 22))]
/-- the arrays beside s -/
def aln (j : Int) : Nat := if j = 2 ∨ j = 3 ∨ j = 5 then 102 else if j = 4 then 816 else if j = 8 ∨ j = 10 then 60 else if j = 9 then 240 else 0
def MD (g : GG) (w : WW) (m : Nat) (A : Int → Nat) (F P : Int → Int) (C : Int → Int → Int) : Prop := Ob w m 14 (mF A F) ∧ IA g w (A 1) 102 P ∧ (∀ j : Int, aln j ≠ 0 → IA g w (A j) (aln j) (C j)) ∧ (∀ j : Int, aln j ≠ 0 → A j ≠ A 1) ∧ ∀ i j : Int, aln i ≠ 0 → aln j ≠ 0 → i ≠ j → A i ≠ A j
def MS (m : Nat) (A : Int → Nat) (b : Nat) : Prop := b = m ∨ b = A 1 ∨ ∃ j : Int, aln j ≠ 0 ∧ b = A j
def MDF (g : GG) (w0 w : WW) (m : Nat) (A : Int → Nat) (F P : Int → Int) (C : Int → Int → Int) : Prop := MD g w m A F P C ∧ Fr (MS m A) w0 w
theorem MDF.tr {g : GG} {w0 w w1 : WW} {m : Nat} {A : Int → Nat} {F F' P P' : Int → Int} {C C' : Int → Int → Int} (h : MDF g w0 w m A F P C) (h' : MDF g w w1 m A F' P' C') : MDF g w0 w1 m A F' P' C' := ⟨h'.1, h.2.tq h'.2⟩
theorem MD.toP {g : GG} {w : WW} {m : Nat} {A : Int → Nat} {F P P' : Int → Int} {C : Int → Int → Int} (h : MD g w m A F P C) (hP : ∀ k : Int, 0 ≤ k → k < 102 → P k = P' k) : MD g w m A F P' C := ⟨h.1, h.2.1.to hP, h.2.2⟩
theorem MDF.toP {g : GG} {w0 w : WW} {m : Nat} {A : Int → Nat} {F P P' : Int → Int} {C : Int → Int → Int} (h : MDF g w0 w m A F P C) (hP : ∀ k : Int, 0 ≤ k → k < 102 → P k = P' k) : MDF g w0 w m A F P' C := ⟨h.1.toP hP, h.2⟩
def updC (C : Int → Int → Int) (j : Int) (f : Int → Int) : Int → Int → Int := fun i => if i = j then f else C i
theorem MD.toC {g : GG} {w : WW} {m : Nat} {A : Int → Nat} {F P : Int → Int} {C C' : Int → Int → Int} (h : MD g w m A F P C) (hC : ∀ j k : Int, 0 ≤ k → k < aln j → C j k = C' j k) : MD g w m A F P C' := ⟨h.1, h.2.1, fun j hj => (h.2.2.1 j hj).to (fun k h0 h1 => hC j k h0 h1), h.2.2.2⟩
theorem MDF.toC {g : GG} {w0 w : WW} {m : Nat} {A : Int → Nat} {F P : Int → Int} {C C' : Int → Int → Int} (h : MDF g w0 w m A F P C) (hC : ∀ j k : Int, 0 ≤ k → k < aln j → C j k = C' j k) : MDF g w0 w m A F P C' := ⟨h.1.toC hC, h.2⟩
theorem MD.toF {g : GG} {w : WW} {m : Nat} {A : Int → Nat} {F F' P : Int → Int} {C : Int → Int → Int} (h : MD g w m A F P C) (hF : ∀ k : Int, F k = F' k) : MD g w m A F' P C := by
  have e : F = F' := funext hF
  rw [← e]; exact h
section Mr
variable {z : ZZ} {own : String} {cc : ByteArray} {nL fr lo rc rs pc : Nat} {ret : Option FieldType} {w w0 : WW} {lv : List (Option Value)} {st : List Value} {m : Nat} {A : Int → Nat} {F P : Int → Int} {C : Int → Int → Int}
theorem xr_mput {i : Int} {v : Int} {fs : List Value} (hM : MDF (zg z) w0 w m A F P C) (hfs : fs = mF A (updI F i v)) (k : ∀ w', MDF (zg z) w0 w' m A (updI F i v) P C → XJ z own cc nL ret fr lo w' rc rs pc lv st) : XJ z own cc nL ret fr lo (wput w m (.inl (.inr (14, fs)))) rc rs pc lv st := by
  refine k _ ⟨⟨?_, hM.1.2.1.put_k hM.1.1 _, fun j hj => (hM.1.2.2.1 j hj).put_k hM.1.1 _, hM.1.2.2.2⟩, hM.2.tq (Fr.put (Or.inl rfl) _)⟩
  rw [← hfs]
  exact hM.1.1.put_eq _
theorem xr_mstS {i v : Int} (hM : MDF (zg z) w0 w m A F P C) (hi : 0 ≤ i ∧ i < 102) (d : decode cc pc = .ok (.iastore, 1)) (k : ∀ w', MDF (zg z) w0 w' m A F (updI P i v) C → XJ z own cc nL ret fr lo w' rc rs (pc + 1) lv st) : XJ z own cc nL ret fr lo w rc rs pc lv (.int (iI v) :: .int (iI i) :: .ref (A 1) :: st) :=
  xr_iastore hM.1.2.1 hi (by decide) d (fun e har => k _ ⟨⟨hM.1.1.put_ne (Ne.symm (hM.1.2.1.ob_ne hM.1.1)) e, har, fun j hj => (hM.1.2.2.1 j hj).put_ne (hM.1.2.2.2.1 j hj) e, hM.1.2.2.2⟩, hM.2.tq (Fr.put (Or.inr (Or.inl rfl)) e)⟩)
theorem xr_mstC {j i v : Int} (hM : MDF (zg z) w0 w m A F P C) (hj : aln j ≠ 0) (hi : 0 ≤ i ∧ i < aln j) (d : decode cc pc = .ok (.iastore, 1)) (k : ∀ w', MDF (zg z) w0 w' m A F P (updC C j (updI (C j) i v)) → XJ z own cc nL ret fr lo w' rc rs (pc + 1) lv st) : XJ z own cc nL ret fr lo w rc rs pc lv (.int (iI v) :: .int (iI i) :: .ref (A j) :: st) := by
  have hn : (aln j : Int) ≤ 2147483647 := by unfold aln; repeat' split
                                             all_goals decide
  refine xr_iastore (hM.1.2.2.1 j hj) hi hn d (fun e har => k _ ⟨⟨hM.1.1.put_ne (Ne.symm ((hM.1.2.2.1 j hj).ob_ne hM.1.1)) e, hM.1.2.1.put_ne (Ne.symm (hM.1.2.2.2.1 j hj)) e, fun j2 hj2 => ?_, hM.1.2.2.2⟩, hM.2.tq (Fr.put (Or.inr (Or.inr ⟨j, hj, rfl⟩)) e)⟩)
  unfold updC
  split
  · next h => rw [h]; exact har
  · next h => exact (hM.1.2.2.1 j2 hj2).put_ne (hM.1.2.2.2.2 j2 j hj2 hj h) e
end Mr
theorem k_M_in {g : GG} {w : WW} {a b c : Int} (hG : Base g) (hr : (-2147483648 ≤ a ∧ a < 2147483648) ∧ (-2147483648 ≤ b ∧ b < 2147483648) ∧ (-2147483648 ≤ c ∧ c < 2147483648)) : Ct g yX4_in (.code yX4_in cX4_in 3 (some .boolean)) 0 0 0 0 w [.int (iI a), .int (iI b), .int (iI c)] (fun r_ w1 => r_ = some (.int (bI (decide (b ≤ a ∧ a ≤ c)))) ∧ w1 = w) xF := by
  refine Ct.of (lv := [some _, some _, some _]) hG (by decide +kernel) (Nat.le_of_ble_eq_true rfl) rfl ?_
  intro z hg hpo hxp hnm htab
  subst hg
  refine xr_iload_n dX4_in_0 rfl ?_
  refine xr_iload_n dX4_in_1 rfl ?_
  refine xr_icmp_lt (tgt := 14) dX4_in_2 (by decide) (by omega) (fun c2 => ?_) (fun c2 => ?_)
  · skip
    refine xr_iconst dX4_in_14 ?_
    refine xr_ireturn rfl (by first | rfl | exact nar_bI _ | decide +kernel) dX4_in_15 ?_
    rw [hpo]
    first | exact ⟨rfl, rfl⟩ | exact ⟨ret_bt (by omega), rfl⟩ | exact ⟨ret_bf (by omega), rfl⟩ | exact ⟨ret_i (by omega), rfl⟩
  · skip
    refine xr_iload_n dX4_in_5 rfl ?_
    refine xr_iload_n dX4_in_6 rfl ?_
    refine xr_icmp_gt (tgt := 14) dX4_in_7 (by decide) (by omega) (fun c7 => ?_) (fun c7 => ?_)
    · skip
      refine xr_iconst dX4_in_14 ?_
      refine xr_ireturn rfl (by first | rfl | exact nar_bI _ | decide +kernel) dX4_in_15 ?_
      rw [hpo]
      first | exact ⟨rfl, rfl⟩ | exact ⟨ret_bt (by omega), rfl⟩ | exact ⟨ret_bf (by omega), rfl⟩ | exact ⟨ret_i (by omega), rfl⟩
    · skip
      refine xr_iconst dX4_in_10 ?_
      refine xr_goto (tgt := 15) dX4_in_11 (by decide) ?_
      refine xr_ireturn rfl (by first | rfl | exact nar_bI _ | decide +kernel) dX4_in_15 ?_
      rw [hpo]
      first | exact ⟨rfl, rfl⟩ | exact ⟨ret_bt (by omega), rfl⟩ | exact ⟨ret_bf (by omega), rfl⟩ | exact ⟨ret_i (by omega), rfl⟩
theorem k_M_size {g : GG} {w : WW} {v : Int} (hG : Base g) (hr : -1000 ≤ v ∧ v ≤ 1000) : Ct g yX4_size (.code yX4_size cX4_size 1 (some .int)) 0 0 0 0 w [.int (iI v)] (fun r_ w1 => r_ = some (.int (iI (v.natAbs : Int))) ∧ w1 = w) xF := by
  refine Ct.of (lv := [some _]) hG (by decide +kernel) (Nat.le_of_ble_eq_true rfl) rfl ?_
  intro z hg hpo hxp hnm htab
  subst hg
  refine xr_iload_n dX4_size_0 rfl ?_
  refine xr_if_ge (tgt := 9) dX4_size_1 (by decide) (by omega) (fun c1 => ?_) (fun c1 => ?_)
  · skip
    refine xr_iload_n dX4_size_9 rfl ?_
    refine xr_ireturn rfl rfl dX4_size_10 ?_
    rw [hpo]
    exact ⟨by first | (rw [show (v.natAbs : Int) = -v by omega]) | (rw [show (v.natAbs : Int) = v by omega]), rfl⟩
  · skip
    refine xr_iload_n dX4_size_4 rfl ?_
    refine xr_ineg dX4_size_5 ?_
    refine xr_goto (tgt := 10) dX4_size_6 (by decide) ?_
    refine xr_ireturn rfl rfl dX4_size_10 ?_
    rw [hpo]
    exact ⟨by first | (rw [show (v.natAbs : Int) = -v by omega]) | (rw [show (v.natAbs : Int) = v by omega]), rfl⟩
theorem k_M_thrown {g : GG} {w : WW} {m : Nat} {A : Int → Nat} {F P : Int → Int} {C : Int → Int → Int} (hG : Base g) (hM : MD g w m A F P C) : Ct g yX4_thrown (.code yX4_thrown cX4_thrown 1 (some .int)) 0 0 0 0 w [.ref m] (fun r_ w1 => r_ = some (.int (iI (F 0))) ∧ w1 = w) xF := by
  refine Ct.of (lv := [some _]) hG (by decide +kernel) (Nat.le_of_ble_eq_true rfl) rfl ?_
  intro z hg hpo hxp hnm htab
  subst hg
  have hM : MDF (zg z) w w m A F P C := ⟨hM, Fr.rf⟩
  refine xr_aload_n dX4_thrown_0 rfl (by first | rfl | exact isRef_rf _) ?_
  refine xr_getfield (ci := 14) (T := TX4) (N := 23) (i := 0) hM.1.1 rfl (by decide) in_X4 q2191 (.inl rfl) dX4_thrown_1 (by rfl) ?_
  refine xr_ireturn rfl rfl dX4_thrown_4 ?_
  rw [hpo]
  first | exact ⟨rfl, rfl⟩ | exact ⟨ret_bt (by omega), rfl⟩ | exact ⟨ret_bf (by omega), rfl⟩ | exact ⟨ret_i (by omega), rfl⟩
theorem k_M_isBench {g : GG} {w : WW} {m : Nat} {A : Int → Nat} {F P : Int → Int} {C : Int → Int → Int} {b N : Int} (hG : Base g) (hM : MD g w m A F P C) (hB : PB P N) (hr : (-2147483648 ≤ b ∧ b < 2147483648)) : Ct g yX4_isBench (.code yX4_isBench cX4_isBench 2 (some .boolean)) 1 22 0 0 w [.ref m, .int (iI b)] (fun r_ w1 => r_ = some (.int (bI (decide (0 ≤ b ∧ b < P 0)))) ∧ w1 = w) xF := by
  refine Ct.of (lv := [some _, some _]) hG (by decide +kernel) (Nat.le_of_ble_eq_true rfl) rfl ?_
  intro z hg hpo hxp hnm htab
  subst hg
  have hM : MDF (zg z) w w m A F P C := ⟨hM, Fr.rf⟩
  have hgg := hB.g
  refine xr_iload_n dX4_isBench_0 rfl ?_
  refine xr_iconst dX4_isBench_1 ?_
  refine xr_aload_n dX4_isBench_2 rfl (by first | rfl | exact isRef_rf _) ?_
  refine xr_getfield (ci := 14) (T := TX4) (N := 23) (i := 1) hM.1.1 rfl (by decide) in_X4 q2192 (.inl rfl) dX4_isBench_3 (by rfl) ?_
  refine xr_iconst dX4_isBench_6 ?_
  refine xr_iaload hM.1.2.1 (by omega) (by decide) dX4_isBench_7 ?_
  refine xr_iconst dX4_isBench_8 ?_
  refine xr_isub dX4_isBench_9 ?_
  refine xr_callS (n9 := 3) (rc' := 0) (rs' := 0) (k_M_in hG (by omega)) q2280 q2281 q96 q2282 (by decide +kernel) rfl ⟨by decide, Nat.le_of_ble_eq_true rfl⟩ ⟨Nat.le_of_ble_eq_true rfl, Nat.le_of_ble_eq_true rfl⟩ (Nat.le_of_ble_eq_true rfl) dX4_isBench_10 rfl (xk_r ?_) (fun _ _ _ h => h.elim)
  refine xr_ireturn rfl (by first | rfl | exact nar_bI _ | decide +kernel) dX4_isBench_13 ?_
  rw [hpo]
  exact ⟨by rw [decide_eq_decide.mpr (show (0 ≤ b ∧ b < P 0) ↔ (0 ≤ b ∧ b ≤ P 0 - 1) by omega)], rfl⟩
theorem k_M_isFountain {g : GG} {w : WW} {m : Nat} {A : Int → Nat} {F P : Int → Int} {C : Int → Int → Int} {b N : Int} (hG : Base g) (hM : MD g w m A F P C) (hB : PB P N) (hr : (-2147483648 ≤ b ∧ b < 2147483648)) : Ct g yX4_isFountain (.code yX4_isFountain cX4_isFountain 2 (some .boolean)) 1 22 0 0 w [.ref m, .int (iI b)] (fun r_ w1 => r_ = some (.int (bI (decide (0 ≤ b ∧ b < P 1)))) ∧ w1 = w) xF := by
  refine Ct.of (lv := [some _, some _]) hG (by decide +kernel) (Nat.le_of_ble_eq_true rfl) rfl ?_
  intro z hg hpo hxp hnm htab
  subst hg
  have hM : MDF (zg z) w w m A F P C := ⟨hM, Fr.rf⟩
  have hgg := hB.g
  refine xr_iload_n dX4_isFountain_0 rfl ?_
  refine xr_iconst dX4_isFountain_1 ?_
  refine xr_aload_n dX4_isFountain_2 rfl (by first | rfl | exact isRef_rf _) ?_
  refine xr_getfield (ci := 14) (T := TX4) (N := 23) (i := 1) hM.1.1 rfl (by decide) in_X4 q2192 (.inl rfl) dX4_isFountain_3 (by rfl) ?_
  refine xr_iconst dX4_isFountain_6 ?_
  refine xr_iaload hM.1.2.1 (by omega) (by decide) dX4_isFountain_7 ?_
  refine xr_iconst dX4_isFountain_8 ?_
  refine xr_isub dX4_isFountain_9 ?_
  refine xr_callS (n9 := 3) (rc' := 0) (rs' := 0) (k_M_in hG (by omega)) q2280 q2281 q96 q2282 (by decide +kernel) rfl ⟨by decide, Nat.le_of_ble_eq_true rfl⟩ ⟨Nat.le_of_ble_eq_true rfl, Nat.le_of_ble_eq_true rfl⟩ (Nat.le_of_ble_eq_true rfl) dX4_isFountain_10 rfl (xk_r ?_) (fun _ _ _ h => h.elim)
  refine xr_ireturn rfl (by first | rfl | exact nar_bI _ | decide +kernel) dX4_isFountain_13 ?_
  rw [hpo]
  exact ⟨by rw [decide_eq_decide.mpr (show (0 ≤ b ∧ b < P 1) ↔ (0 ≤ b ∧ b ≤ P 1 - 1) by omega)], rfl⟩
theorem k_M_isTenant {g : GG} {w : WW} {m : Nat} {A : Int → Nat} {F P : Int → Int} {C : Int → Int → Int} {b N : Int} (hG : Base g) (hM : MD g w m A F P C) (hB : PB P N) (hr : (-2147483648 ≤ b ∧ b < 2147483648)) : Ct g yX4_isTenant (.code yX4_isTenant cX4_isTenant 2 (some .boolean)) 1 22 0 0 w [.ref m, .int (iI b)] (fun r_ w1 => r_ = some (.int (bI (decide (0 ≤ b ∧ b < P 2)))) ∧ w1 = w) xF := by
  refine Ct.of (lv := [some _, some _]) hG (by decide +kernel) (Nat.le_of_ble_eq_true rfl) rfl ?_
  intro z hg hpo hxp hnm htab
  subst hg
  have hM : MDF (zg z) w w m A F P C := ⟨hM, Fr.rf⟩
  have hgg := hB.g
  refine xr_iload_n dX4_isTenant_0 rfl ?_
  refine xr_iconst dX4_isTenant_1 ?_
  refine xr_aload_n dX4_isTenant_2 rfl (by first | rfl | exact isRef_rf _) ?_
  refine xr_getfield (ci := 14) (T := TX4) (N := 23) (i := 1) hM.1.1 rfl (by decide) in_X4 q2192 (.inl rfl) dX4_isTenant_3 (by rfl) ?_
  refine xr_iconst dX4_isTenant_6 ?_
  refine xr_iaload hM.1.2.1 (by omega) (by decide) dX4_isTenant_7 ?_
  refine xr_iconst dX4_isTenant_8 ?_
  refine xr_isub dX4_isTenant_9 ?_
  refine xr_callS (n9 := 3) (rc' := 0) (rs' := 0) (k_M_in hG (by omega)) q2280 q2281 q96 q2282 (by decide +kernel) rfl ⟨by decide, Nat.le_of_ble_eq_true rfl⟩ ⟨Nat.le_of_ble_eq_true rfl, Nat.le_of_ble_eq_true rfl⟩ (Nat.le_of_ble_eq_true rfl) dX4_isTenant_10 rfl (xk_r ?_) (fun _ _ _ h => h.elim)
  refine xr_ireturn rfl (by first | rfl | exact nar_bI _ | decide +kernel) dX4_isTenant_13 ?_
  rw [hpo]
  exact ⟨by rw [decide_eq_decide.mpr (show (0 ≤ b ∧ b < P 2) ↔ (0 ≤ b ∧ b ≤ P 2 - 1) by omega)], rfl⟩
theorem k_M_isCell {g : GG} {w : WW} {a b : Int} (hG : Base g) (hr : (-2147483648 ≤ a ∧ a < 2147483648) ∧ (-2147483648 ≤ b ∧ b < 2147483648)) : Ct g yX4_isCell (.code yX4_isCell cX4_isCell 2 (some .boolean)) 1 22 0 0 w [.int (iI a), .int (iI b)] (fun r_ w1 => r_ = some (.int (bI (decide ((0 ≤ a ∧ a ≤ 5) ∧ (0 ≤ b ∧ b ≤ 5))))) ∧ w1 = w) xF := by
  refine Ct.of (lv := [some _, some _]) hG (by decide +kernel) (Nat.le_of_ble_eq_true rfl) rfl ?_
  intro z hg hpo hxp hnm htab
  subst hg
  refine xr_iload_n dX4_isCell_0 rfl ?_
  refine xr_iconst dX4_isCell_1 ?_
  refine xr_iconst dX4_isCell_2 ?_
  refine xr_callS (n9 := 3) (rc' := 0) (rs' := 0) (k_M_in hG (by omega)) q2280 q2281 q96 q2282 (by decide +kernel) rfl ⟨by decide, Nat.le_of_ble_eq_true rfl⟩ ⟨Nat.le_of_ble_eq_true rfl, Nat.le_of_ble_eq_true rfl⟩ (Nat.le_of_ble_eq_true rfl) dX4_isCell_3 rfl (xk_r ?_) (fun _ _ _ h => h.elim)
  refine xr_ifb_eq (tgt := 22) dX4_isCell_6 (by decide) (fun c6 => ?_) (fun c6 => ?_)
  · skip
    try simp only [decide_eq_true_eq, decide_eq_false_iff_not] at c6
    refine xr_iconst dX4_isCell_22 ?_
    refine xr_ireturn rfl (by first | rfl | exact nar_bI _ | decide +kernel) dX4_isCell_23 ?_
    rw [hpo]
    first | exact ⟨rfl, rfl⟩ | exact ⟨ret_bt (by omega), rfl⟩ | exact ⟨ret_bf (by omega), rfl⟩ | exact ⟨ret_i (by omega), rfl⟩
  · skip
    try simp only [decide_eq_true_eq, decide_eq_false_iff_not] at c6
    refine xr_iload_n dX4_isCell_9 rfl ?_
    refine xr_iconst dX4_isCell_10 ?_
    refine xr_iconst dX4_isCell_11 ?_
    refine xr_callS (n9 := 3) (rc' := 0) (rs' := 0) (k_M_in hG (by omega)) q2280 q2281 q96 q2282 (by decide +kernel) rfl ⟨by decide, Nat.le_of_ble_eq_true rfl⟩ ⟨Nat.le_of_ble_eq_true rfl, Nat.le_of_ble_eq_true rfl⟩ (Nat.le_of_ble_eq_true rfl) dX4_isCell_12 rfl (xk_r ?_) (fun _ _ _ h => h.elim)
    refine xr_ifb_eq (tgt := 22) dX4_isCell_15 (by decide) (fun c15 => ?_) (fun c15 => ?_)
    · skip
      try simp only [decide_eq_true_eq, decide_eq_false_iff_not] at c15
      refine xr_iconst dX4_isCell_22 ?_
      refine xr_ireturn rfl (by first | rfl | exact nar_bI _ | decide +kernel) dX4_isCell_23 ?_
      rw [hpo]
      first | exact ⟨rfl, rfl⟩ | exact ⟨ret_bt (by omega), rfl⟩ | exact ⟨ret_bf (by omega), rfl⟩ | exact ⟨ret_i (by omega), rfl⟩
    · skip
      try simp only [decide_eq_true_eq, decide_eq_false_iff_not] at c15
      refine xr_iconst dX4_isCell_18 ?_
      refine xr_goto (tgt := 23) dX4_isCell_19 (by decide) ?_
      refine xr_ireturn rfl (by first | rfl | exact nar_bI _ | decide +kernel) dX4_isCell_23 ?_
      rw [hpo]
      first | exact ⟨rfl, rfl⟩ | exact ⟨ret_bt (by omega), rfl⟩ | exact ⟨ret_bf (by omega), rfl⟩ | exact ⟨ret_i (by omega), rfl⟩
theorem k_M_bench_0 {g : GG} {w : WW} {m : Nat} {A : Int → Nat} {F P : Int → Int} {C : Int → Int → Int} {b : Int} (hG : Base g) (hM : MD g w m A F P C) (hb : 0 ≤ b ∧ b < 10) : Ct g yX4_bench (.code yX4_bench cX4_bench 3 (some .int)) 0 0 0 0 w [.ref m, .int (iI b), .int (iI 0)] (fun r_ w1 => r_ = some (.int (iI (P (10 + 6 * b)))) ∧ w1 = w) xF := by
  refine Ct.of (lv := [some _, some _, some _]) hG (by decide +kernel) (Nat.le_of_ble_eq_true rfl) rfl ?_
  intro z hg hpo hxp hnm htab
  subst hg
  have hM : MDF (zg z) w w m A F P C := ⟨hM, Fr.rf⟩
  refine xr_aload_n dX4_bench_0 rfl (by first | rfl | exact isRef_rf _) ?_
  refine xr_getfield (ci := 14) (T := TX4) (N := 23) (i := 1) hM.1.1 rfl (by decide) in_X4 q2192 (.inl rfl) dX4_bench_1 (by rfl) ?_
  refine xr_bipush dX4_bench_4 (by decide) ?_
  refine xr_bipush dX4_bench_6 (by decide) ?_
  refine xr_iload_n dX4_bench_8 rfl ?_
  refine xr_imul dX4_bench_9 ?_
  refine xr_iadd dX4_bench_10 ?_
  refine xr_iload_n dX4_bench_11 rfl ?_
  refine xr_iadd dX4_bench_12 ?_
  refine xr_iaload hM.1.2.1 (by omega) (by decide) dX4_bench_13 ?_
  refine xr_ireturn rfl rfl dX4_bench_14 ?_
  rw [hpo]
  exact ⟨by rw [show (10 + 6 * b + 0 : Int) = 10 + 6 * b by omega], rfl⟩
theorem k_M_bench_1 {g : GG} {w : WW} {m : Nat} {A : Int → Nat} {F P : Int → Int} {C : Int → Int → Int} {b : Int} (hG : Base g) (hM : MD g w m A F P C) (hb : 0 ≤ b ∧ b < 10) : Ct g yX4_bench (.code yX4_bench cX4_bench 3 (some .int)) 0 0 0 0 w [.ref m, .int (iI b), .int (iI 1)] (fun r_ w1 => r_ = some (.int (iI (P (11 + 6 * b)))) ∧ w1 = w) xF := by
  refine Ct.of (lv := [some _, some _, some _]) hG (by decide +kernel) (Nat.le_of_ble_eq_true rfl) rfl ?_
  intro z hg hpo hxp hnm htab
  subst hg
  have hM : MDF (zg z) w w m A F P C := ⟨hM, Fr.rf⟩
  refine xr_aload_n dX4_bench_0 rfl (by first | rfl | exact isRef_rf _) ?_
  refine xr_getfield (ci := 14) (T := TX4) (N := 23) (i := 1) hM.1.1 rfl (by decide) in_X4 q2192 (.inl rfl) dX4_bench_1 (by rfl) ?_
  refine xr_bipush dX4_bench_4 (by decide) ?_
  refine xr_bipush dX4_bench_6 (by decide) ?_
  refine xr_iload_n dX4_bench_8 rfl ?_
  refine xr_imul dX4_bench_9 ?_
  refine xr_iadd dX4_bench_10 ?_
  refine xr_iload_n dX4_bench_11 rfl ?_
  refine xr_iadd dX4_bench_12 ?_
  refine xr_iaload hM.1.2.1 (by omega) (by decide) dX4_bench_13 ?_
  refine xr_ireturn rfl rfl dX4_bench_14 ?_
  rw [hpo]
  exact ⟨by rw [show (10 + 6 * b + 1 : Int) = 11 + 6 * b by omega], rfl⟩
theorem k_M_bench_2 {g : GG} {w : WW} {m : Nat} {A : Int → Nat} {F P : Int → Int} {C : Int → Int → Int} {b : Int} (hG : Base g) (hM : MD g w m A F P C) (hb : 0 ≤ b ∧ b < 10) : Ct g yX4_bench (.code yX4_bench cX4_bench 3 (some .int)) 0 0 0 0 w [.ref m, .int (iI b), .int (iI 2)] (fun r_ w1 => r_ = some (.int (iI (P (12 + 6 * b)))) ∧ w1 = w) xF := by
  refine Ct.of (lv := [some _, some _, some _]) hG (by decide +kernel) (Nat.le_of_ble_eq_true rfl) rfl ?_
  intro z hg hpo hxp hnm htab
  subst hg
  have hM : MDF (zg z) w w m A F P C := ⟨hM, Fr.rf⟩
  refine xr_aload_n dX4_bench_0 rfl (by first | rfl | exact isRef_rf _) ?_
  refine xr_getfield (ci := 14) (T := TX4) (N := 23) (i := 1) hM.1.1 rfl (by decide) in_X4 q2192 (.inl rfl) dX4_bench_1 (by rfl) ?_
  refine xr_bipush dX4_bench_4 (by decide) ?_
  refine xr_bipush dX4_bench_6 (by decide) ?_
  refine xr_iload_n dX4_bench_8 rfl ?_
  refine xr_imul dX4_bench_9 ?_
  refine xr_iadd dX4_bench_10 ?_
  refine xr_iload_n dX4_bench_11 rfl ?_
  refine xr_iadd dX4_bench_12 ?_
  refine xr_iaload hM.1.2.1 (by omega) (by decide) dX4_bench_13 ?_
  refine xr_ireturn rfl rfl dX4_bench_14 ?_
  rw [hpo]
  exact ⟨by rw [show (10 + 6 * b + 2 : Int) = 12 + 6 * b by omega], rfl⟩
theorem k_M_bench_3 {g : GG} {w : WW} {m : Nat} {A : Int → Nat} {F P : Int → Int} {C : Int → Int → Int} {b : Int} (hG : Base g) (hM : MD g w m A F P C) (hb : 0 ≤ b ∧ b < 10) : Ct g yX4_bench (.code yX4_bench cX4_bench 3 (some .int)) 0 0 0 0 w [.ref m, .int (iI b), .int (iI 3)] (fun r_ w1 => r_ = some (.int (iI (P (13 + 6 * b)))) ∧ w1 = w) xF := by
  refine Ct.of (lv := [some _, some _, some _]) hG (by decide +kernel) (Nat.le_of_ble_eq_true rfl) rfl ?_
  intro z hg hpo hxp hnm htab
  subst hg
  have hM : MDF (zg z) w w m A F P C := ⟨hM, Fr.rf⟩
  refine xr_aload_n dX4_bench_0 rfl (by first | rfl | exact isRef_rf _) ?_
  refine xr_getfield (ci := 14) (T := TX4) (N := 23) (i := 1) hM.1.1 rfl (by decide) in_X4 q2192 (.inl rfl) dX4_bench_1 (by rfl) ?_
  refine xr_bipush dX4_bench_4 (by decide) ?_
  refine xr_bipush dX4_bench_6 (by decide) ?_
  refine xr_iload_n dX4_bench_8 rfl ?_
  refine xr_imul dX4_bench_9 ?_
  refine xr_iadd dX4_bench_10 ?_
  refine xr_iload_n dX4_bench_11 rfl ?_
  refine xr_iadd dX4_bench_12 ?_
  refine xr_iaload hM.1.2.1 (by omega) (by decide) dX4_bench_13 ?_
  refine xr_ireturn rfl rfl dX4_bench_14 ?_
  rw [hpo]
  exact ⟨by rw [show (10 + 6 * b + 3 : Int) = 13 + 6 * b by omega], rfl⟩
theorem k_M_bench_4 {g : GG} {w : WW} {m : Nat} {A : Int → Nat} {F P : Int → Int} {C : Int → Int → Int} {b : Int} (hG : Base g) (hM : MD g w m A F P C) (hb : 0 ≤ b ∧ b < 10) : Ct g yX4_bench (.code yX4_bench cX4_bench 3 (some .int)) 0 0 0 0 w [.ref m, .int (iI b), .int (iI 4)] (fun r_ w1 => r_ = some (.int (iI (P (14 + 6 * b)))) ∧ w1 = w) xF := by
  refine Ct.of (lv := [some _, some _, some _]) hG (by decide +kernel) (Nat.le_of_ble_eq_true rfl) rfl ?_
  intro z hg hpo hxp hnm htab
  subst hg
  have hM : MDF (zg z) w w m A F P C := ⟨hM, Fr.rf⟩
  refine xr_aload_n dX4_bench_0 rfl (by first | rfl | exact isRef_rf _) ?_
  refine xr_getfield (ci := 14) (T := TX4) (N := 23) (i := 1) hM.1.1 rfl (by decide) in_X4 q2192 (.inl rfl) dX4_bench_1 (by rfl) ?_
  refine xr_bipush dX4_bench_4 (by decide) ?_
  refine xr_bipush dX4_bench_6 (by decide) ?_
  refine xr_iload_n dX4_bench_8 rfl ?_
  refine xr_imul dX4_bench_9 ?_
  refine xr_iadd dX4_bench_10 ?_
  refine xr_iload_n dX4_bench_11 rfl ?_
  refine xr_iadd dX4_bench_12 ?_
  refine xr_iaload hM.1.2.1 (by omega) (by decide) dX4_bench_13 ?_
  refine xr_ireturn rfl rfl dX4_bench_14 ?_
  rw [hpo]
  exact ⟨by rw [show (10 + 6 * b + 4 : Int) = 14 + 6 * b by omega], rfl⟩
theorem k_M_bench_5 {g : GG} {w : WW} {m : Nat} {A : Int → Nat} {F P : Int → Int} {C : Int → Int → Int} {b : Int} (hG : Base g) (hM : MD g w m A F P C) (hb : 0 ≤ b ∧ b < 10) : Ct g yX4_bench (.code yX4_bench cX4_bench 3 (some .int)) 0 0 0 0 w [.ref m, .int (iI b), .int (iI 5)] (fun r_ w1 => r_ = some (.int (iI (P (15 + 6 * b)))) ∧ w1 = w) xF := by
  refine Ct.of (lv := [some _, some _, some _]) hG (by decide +kernel) (Nat.le_of_ble_eq_true rfl) rfl ?_
  intro z hg hpo hxp hnm htab
  subst hg
  have hM : MDF (zg z) w w m A F P C := ⟨hM, Fr.rf⟩
  refine xr_aload_n dX4_bench_0 rfl (by first | rfl | exact isRef_rf _) ?_
  refine xr_getfield (ci := 14) (T := TX4) (N := 23) (i := 1) hM.1.1 rfl (by decide) in_X4 q2192 (.inl rfl) dX4_bench_1 (by rfl) ?_
  refine xr_bipush dX4_bench_4 (by decide) ?_
  refine xr_bipush dX4_bench_6 (by decide) ?_
  refine xr_iload_n dX4_bench_8 rfl ?_
  refine xr_imul dX4_bench_9 ?_
  refine xr_iadd dX4_bench_10 ?_
  refine xr_iload_n dX4_bench_11 rfl ?_
  refine xr_iadd dX4_bench_12 ?_
  refine xr_iaload hM.1.2.1 (by omega) (by decide) dX4_bench_13 ?_
  refine xr_ireturn rfl rfl dX4_bench_14 ?_
  rw [hpo]
  exact ⟨by rw [show (10 + 6 * b + 5 : Int) = 15 + 6 * b by omega], rfl⟩
theorem k_M_fountain_0 {g : GG} {w : WW} {m : Nat} {A : Int → Nat} {F P : Int → Int} {C : Int → Int → Int} {b : Int} (hG : Base g) (hM : MD g w m A F P C) (hb : 0 ≤ b ∧ b < 4) : Ct g yX4_fountain (.code yX4_fountain cX4_fountain 3 (some .int)) 0 0 0 0 w [.ref m, .int (iI b), .int (iI 0)] (fun r_ w1 => r_ = some (.int (iI (P (70 + 4 * b)))) ∧ w1 = w) xF := by
  refine Ct.of (lv := [some _, some _, some _]) hG (by decide +kernel) (Nat.le_of_ble_eq_true rfl) rfl ?_
  intro z hg hpo hxp hnm htab
  subst hg
  have hM : MDF (zg z) w w m A F P C := ⟨hM, Fr.rf⟩
  refine xr_aload_n dX4_fountain_0 rfl (by first | rfl | exact isRef_rf _) ?_
  refine xr_getfield (ci := 14) (T := TX4) (N := 23) (i := 1) hM.1.1 rfl (by decide) in_X4 q2192 (.inl rfl) dX4_fountain_1 (by rfl) ?_
  refine xr_bipush dX4_fountain_4 (by decide) ?_
  refine xr_iconst dX4_fountain_6 ?_
  refine xr_iload_n dX4_fountain_7 rfl ?_
  refine xr_imul dX4_fountain_8 ?_
  refine xr_iadd dX4_fountain_9 ?_
  refine xr_iload_n dX4_fountain_10 rfl ?_
  refine xr_iadd dX4_fountain_11 ?_
  refine xr_iaload hM.1.2.1 (by omega) (by decide) dX4_fountain_12 ?_
  refine xr_ireturn rfl rfl dX4_fountain_13 ?_
  rw [hpo]
  exact ⟨by rw [show (70 + 4 * b + 0 : Int) = 70 + 4 * b by omega], rfl⟩
theorem k_M_fountain_1 {g : GG} {w : WW} {m : Nat} {A : Int → Nat} {F P : Int → Int} {C : Int → Int → Int} {b : Int} (hG : Base g) (hM : MD g w m A F P C) (hb : 0 ≤ b ∧ b < 4) : Ct g yX4_fountain (.code yX4_fountain cX4_fountain 3 (some .int)) 0 0 0 0 w [.ref m, .int (iI b), .int (iI 1)] (fun r_ w1 => r_ = some (.int (iI (P (71 + 4 * b)))) ∧ w1 = w) xF := by
  refine Ct.of (lv := [some _, some _, some _]) hG (by decide +kernel) (Nat.le_of_ble_eq_true rfl) rfl ?_
  intro z hg hpo hxp hnm htab
  subst hg
  have hM : MDF (zg z) w w m A F P C := ⟨hM, Fr.rf⟩
  refine xr_aload_n dX4_fountain_0 rfl (by first | rfl | exact isRef_rf _) ?_
  refine xr_getfield (ci := 14) (T := TX4) (N := 23) (i := 1) hM.1.1 rfl (by decide) in_X4 q2192 (.inl rfl) dX4_fountain_1 (by rfl) ?_
  refine xr_bipush dX4_fountain_4 (by decide) ?_
  refine xr_iconst dX4_fountain_6 ?_
  refine xr_iload_n dX4_fountain_7 rfl ?_
  refine xr_imul dX4_fountain_8 ?_
  refine xr_iadd dX4_fountain_9 ?_
  refine xr_iload_n dX4_fountain_10 rfl ?_
  refine xr_iadd dX4_fountain_11 ?_
  refine xr_iaload hM.1.2.1 (by omega) (by decide) dX4_fountain_12 ?_
  refine xr_ireturn rfl rfl dX4_fountain_13 ?_
  rw [hpo]
  exact ⟨by rw [show (70 + 4 * b + 1 : Int) = 71 + 4 * b by omega], rfl⟩
theorem k_M_fountain_2 {g : GG} {w : WW} {m : Nat} {A : Int → Nat} {F P : Int → Int} {C : Int → Int → Int} {b : Int} (hG : Base g) (hM : MD g w m A F P C) (hb : 0 ≤ b ∧ b < 4) : Ct g yX4_fountain (.code yX4_fountain cX4_fountain 3 (some .int)) 0 0 0 0 w [.ref m, .int (iI b), .int (iI 2)] (fun r_ w1 => r_ = some (.int (iI (P (72 + 4 * b)))) ∧ w1 = w) xF := by
  refine Ct.of (lv := [some _, some _, some _]) hG (by decide +kernel) (Nat.le_of_ble_eq_true rfl) rfl ?_
  intro z hg hpo hxp hnm htab
  subst hg
  have hM : MDF (zg z) w w m A F P C := ⟨hM, Fr.rf⟩
  refine xr_aload_n dX4_fountain_0 rfl (by first | rfl | exact isRef_rf _) ?_
  refine xr_getfield (ci := 14) (T := TX4) (N := 23) (i := 1) hM.1.1 rfl (by decide) in_X4 q2192 (.inl rfl) dX4_fountain_1 (by rfl) ?_
  refine xr_bipush dX4_fountain_4 (by decide) ?_
  refine xr_iconst dX4_fountain_6 ?_
  refine xr_iload_n dX4_fountain_7 rfl ?_
  refine xr_imul dX4_fountain_8 ?_
  refine xr_iadd dX4_fountain_9 ?_
  refine xr_iload_n dX4_fountain_10 rfl ?_
  refine xr_iadd dX4_fountain_11 ?_
  refine xr_iaload hM.1.2.1 (by omega) (by decide) dX4_fountain_12 ?_
  refine xr_ireturn rfl rfl dX4_fountain_13 ?_
  rw [hpo]
  exact ⟨by rw [show (70 + 4 * b + 2 : Int) = 72 + 4 * b by omega], rfl⟩
theorem k_M_fountain_3 {g : GG} {w : WW} {m : Nat} {A : Int → Nat} {F P : Int → Int} {C : Int → Int → Int} {b : Int} (hG : Base g) (hM : MD g w m A F P C) (hb : 0 ≤ b ∧ b < 4) : Ct g yX4_fountain (.code yX4_fountain cX4_fountain 3 (some .int)) 0 0 0 0 w [.ref m, .int (iI b), .int (iI 3)] (fun r_ w1 => r_ = some (.int (iI (P (73 + 4 * b)))) ∧ w1 = w) xF := by
  refine Ct.of (lv := [some _, some _, some _]) hG (by decide +kernel) (Nat.le_of_ble_eq_true rfl) rfl ?_
  intro z hg hpo hxp hnm htab
  subst hg
  have hM : MDF (zg z) w w m A F P C := ⟨hM, Fr.rf⟩
  refine xr_aload_n dX4_fountain_0 rfl (by first | rfl | exact isRef_rf _) ?_
  refine xr_getfield (ci := 14) (T := TX4) (N := 23) (i := 1) hM.1.1 rfl (by decide) in_X4 q2192 (.inl rfl) dX4_fountain_1 (by rfl) ?_
  refine xr_bipush dX4_fountain_4 (by decide) ?_
  refine xr_iconst dX4_fountain_6 ?_
  refine xr_iload_n dX4_fountain_7 rfl ?_
  refine xr_imul dX4_fountain_8 ?_
  refine xr_iadd dX4_fountain_9 ?_
  refine xr_iload_n dX4_fountain_10 rfl ?_
  refine xr_iadd dX4_fountain_11 ?_
  refine xr_iaload hM.1.2.1 (by omega) (by decide) dX4_fountain_12 ?_
  refine xr_ireturn rfl rfl dX4_fountain_13 ?_
  rw [hpo]
  exact ⟨by rw [show (70 + 4 * b + 3 : Int) = 73 + 4 * b by omega], rfl⟩
theorem k_M_tenant_0 {g : GG} {w : WW} {m : Nat} {A : Int → Nat} {F P : Int → Int} {C : Int → Int → Int} {b : Int} (hG : Base g) (hM : MD g w m A F P C) (hb : 0 ≤ b ∧ b < 8) : Ct g yX4_tenant (.code yX4_tenant cX4_tenant 3 (some .int)) 0 0 0 0 w [.ref m, .int (iI b), .int (iI 0)] (fun r_ w1 => r_ = some (.int (iI (P (86 + 2 * b)))) ∧ w1 = w) xF := by
  refine Ct.of (lv := [some _, some _, some _]) hG (by decide +kernel) (Nat.le_of_ble_eq_true rfl) rfl ?_
  intro z hg hpo hxp hnm htab
  subst hg
  have hM : MDF (zg z) w w m A F P C := ⟨hM, Fr.rf⟩
  refine xr_aload_n dX4_tenant_0 rfl (by first | rfl | exact isRef_rf _) ?_
  refine xr_getfield (ci := 14) (T := TX4) (N := 23) (i := 1) hM.1.1 rfl (by decide) in_X4 q2192 (.inl rfl) dX4_tenant_1 (by rfl) ?_
  refine xr_bipush dX4_tenant_4 (by decide) ?_
  refine xr_iconst dX4_tenant_6 ?_
  refine xr_iload_n dX4_tenant_7 rfl ?_
  refine xr_imul dX4_tenant_8 ?_
  refine xr_iadd dX4_tenant_9 ?_
  refine xr_iload_n dX4_tenant_10 rfl ?_
  refine xr_iadd dX4_tenant_11 ?_
  refine xr_iaload hM.1.2.1 (by omega) (by decide) dX4_tenant_12 ?_
  refine xr_ireturn rfl rfl dX4_tenant_13 ?_
  rw [hpo]
  exact ⟨by rw [show (86 + 2 * b + 0 : Int) = 86 + 2 * b by omega], rfl⟩
theorem k_M_tenant_1 {g : GG} {w : WW} {m : Nat} {A : Int → Nat} {F P : Int → Int} {C : Int → Int → Int} {b : Int} (hG : Base g) (hM : MD g w m A F P C) (hb : 0 ≤ b ∧ b < 8) : Ct g yX4_tenant (.code yX4_tenant cX4_tenant 3 (some .int)) 0 0 0 0 w [.ref m, .int (iI b), .int (iI 1)] (fun r_ w1 => r_ = some (.int (iI (P (87 + 2 * b)))) ∧ w1 = w) xF := by
  refine Ct.of (lv := [some _, some _, some _]) hG (by decide +kernel) (Nat.le_of_ble_eq_true rfl) rfl ?_
  intro z hg hpo hxp hnm htab
  subst hg
  have hM : MDF (zg z) w w m A F P C := ⟨hM, Fr.rf⟩
  refine xr_aload_n dX4_tenant_0 rfl (by first | rfl | exact isRef_rf _) ?_
  refine xr_getfield (ci := 14) (T := TX4) (N := 23) (i := 1) hM.1.1 rfl (by decide) in_X4 q2192 (.inl rfl) dX4_tenant_1 (by rfl) ?_
  refine xr_bipush dX4_tenant_4 (by decide) ?_
  refine xr_iconst dX4_tenant_6 ?_
  refine xr_iload_n dX4_tenant_7 rfl ?_
  refine xr_imul dX4_tenant_8 ?_
  refine xr_iadd dX4_tenant_9 ?_
  refine xr_iload_n dX4_tenant_10 rfl ?_
  refine xr_iadd dX4_tenant_11 ?_
  refine xr_iaload hM.1.2.1 (by omega) (by decide) dX4_tenant_12 ?_
  refine xr_ireturn rfl rfl dX4_tenant_13 ?_
  rw [hpo]
  exact ⟨by rw [show (86 + 2 * b + 1 : Int) = 87 + 2 * b by omega], rfl⟩
theorem k_M_by {g : GG} {w : WW} {m : Nat} {A : Int → Nat} {F P : Int → Int} {C : Int → Int → Int} {b : Int} (hG : Base g) (hM : MD g w m A F P C) (hb : 0 ≤ b ∧ b < 10) : Ct g yX4_by (.code yX4_by cX4_by 2 (some .int)) 1 22 0 0 w [.ref m, .int (iI b)] (fun r_ w1 => r_ = some (.int (iI (P (13 + 6 * b) - 1))) ∧ w1 = w) xF := by
  refine Ct.of (lv := [some _, some _]) hG (by decide +kernel) (Nat.le_of_ble_eq_true rfl) rfl ?_
  intro z hg hpo hxp hnm htab
  subst hg
  have hM : MDF (zg z) w w m A F P C := ⟨hM, Fr.rf⟩
  refine xr_aload_n dX4_by_0 rfl (by first | rfl | exact isRef_rf _) ?_
  refine xr_iload_n dX4_by_1 rfl ?_
  refine xr_iconst dX4_by_2 ?_
  refine xr_callV (n9 := 2) (rc' := 0) (rs' := 0) (k_M_bench_3 hG hM.1 (by omega)) hM.1.1 rfl q2291 q2293 qs41 q96 q2294 (by decide +kernel) rfl ⟨by decide, Nat.le_of_ble_eq_true rfl⟩ ⟨Nat.le_of_ble_eq_true rfl, Nat.le_of_ble_eq_true rfl⟩ (Nat.le_of_ble_eq_true rfl) dX4_by_3 rfl (xk_r ?_) (fun _ _ _ h => h.elim)
  refine xr_iconst dX4_by_6 ?_
  refine xr_isub dX4_by_7 ?_
  refine xr_ireturn rfl rfl dX4_by_8 ?_
  rw [hpo]
  first | exact ⟨rfl, rfl⟩ | exact ⟨ret_bt (by omega), rfl⟩ | exact ⟨ret_bf (by omega), rfl⟩ | exact ⟨ret_i (by omega), rfl⟩
/-- the bench of a tenant, as the other model looks for it -/
def byT (P : Int → Int) (t : Int) : Int := fstR (fun b => decide (P (13 + 6 * b) - 1 = t)) 0 (P 0)
theorem byT_bd {P : Int → Int} {t : Int} : -1 ≤ byT P t ∧ (byT P t = -1 ∨ byT P t < P 0) := by
  rcases fstR_spec (p := fun b => decide (P (13 + 6 * b) - 1 = t)) (k := 0) (n := P 0) (by decide) with ⟨h, -⟩ | ⟨h1, h2, -⟩ <;> unfold byT <;> omega
theorem k_M_benchBy {g : GG} {w : WW} {m : Nat} {A : Int → Nat} {F P : Int → Int} {C : Int → Int → Int} {t N : Int} (hG : Base g) (hM : MD g w m A F P C) (hB : PB P N) (ht : -1000 ≤ t ∧ t ≤ 1000) : Ct g yX4_benchBy (.code yX4_benchBy cX4_benchBy 3 (some .int)) 2 43 0 0 w [.ref m, .int (iI t)] (fun r_ w1 => r_ = some (.int (iI (byT P t))) ∧ w1 = w) xF := by
  refine Ct.of (lv := [some _, some _, none]) hG (by decide +kernel) (Nat.le_of_ble_eq_true rfl) rfl ?_
  intro z hg hpo hxp hnm htab
  subst hg
  have hM : MDF (zg z) w w m A F P C := ⟨hM, Fr.rf⟩
  have hgg := hB.g
  refine xr_iconst dX4_benchBy_0 ?_
  refine xr_istore_n (lv' := [some _, some _, some _]) dX4_benchBy_1 (by decide) rfl rfl ?_
  have lp2 : ∀ (fu2 : Nat) (k : Int), 0 ≤ k → k ≤ P 0 → P 0 - k < fu2 → fstR (fun b => decide (P (13 + 6 * b) - 1 = t)) k (P 0) = byT P t → XJ z yX4_benchBy.cls cX4_benchBy 3 (some .int) 2 43 w (0 * fu2 + 0) (0 * fu2 + 0) 2 [some (.ref m), some (.int (iI t)), some (.int (iI k))] [] := by
    intro fu2
    induction fu2 with
    | zero =>
      intro k hk0 hkn hfu hr9
      omega
    | succ fu2 ih2 =>
      intro k hk0 hkn hfu hr9
      refine xr_iload_n dX4_benchBy_2 rfl ?_
      refine xr_aload_n dX4_benchBy_3 rfl (by first | rfl | exact isRef_rf _) ?_
      refine xr_getfield (ci := 14) (T := TX4) (N := 23) (i := 1) hM.1.1 rfl (by decide) in_X4 q2192 (.inl rfl) dX4_benchBy_4 (by rfl) ?_
      refine xr_iconst dX4_benchBy_7 ?_
      refine xr_iaload hM.1.2.1 (by omega) (by decide) dX4_benchBy_8 ?_
      refine xr_icmp_ge (tgt := 29) dX4_benchBy_9 (by decide) (by omega) (fun c9 => ?_) (fun c9 => ?_)
      · skip
        refine xr_iconst dX4_benchBy_29 ?_
        refine xr_ireturn rfl rfl dX4_benchBy_30 ?_
        rw [hpo]
        exact ⟨by rw [← hr9, fstR_ge (by omega)], rfl⟩
      · skip
        have hbb := hB.b (b := k) (by omega)
        refine xr_aload_n dX4_benchBy_12 rfl (by first | rfl | exact isRef_rf _) ?_
        refine xr_iload_n dX4_benchBy_13 rfl ?_
        refine xr_callV (n9 := 1) (rc' := 0 * fu2 + 0) (rs' := 0 * fu2 + 0) (k_M_by hG hM.1 (by omega)) hM.1.1 rfl q2487 q2489 qs65 q96 q2490 (by decide +kernel) rfl ⟨by decide, Nat.le_of_ble_eq_true rfl⟩ ⟨by omega, by omega⟩ (Nat.le_of_ble_eq_true rfl) dX4_benchBy_14 rfl (xk_r ?_) (fun _ _ _ h => h.elim)
        refine xr_iload_n dX4_benchBy_17 rfl ?_
        refine xr_icmp_ne (tgt := 23) dX4_benchBy_18 (by decide) (by omega) (fun c18 => ?_) (fun c18 => ?_)
        · skip
          refine xr_iinc (lv' := [some _, some _, some _]) dX4_benchBy_23 rfl (by decide) rfl rfl ?_
          refine xr_goto (tgt := 2) dX4_benchBy_26 (by decide) ?_
          refine xr_wk (rc' := 0 * fu2 + 0) (rs' := 0 * fu2 + 0) ⟨by omega, by omega⟩ (ih2 (k + 1) (by omega) (by omega) (by omega) (by rw [← hr9, fstR_lt (show k < P 0 by omega), if_neg (fun q9 => c18 (of_decide_eq_true q9))]))
        · skip
          refine xr_iload_n dX4_benchBy_21 rfl ?_
          refine xr_ireturn rfl rfl dX4_benchBy_22 ?_
          rw [hpo]
          exact ⟨by rw [← hr9, fstR_lt (show k < P 0 by omega), if_pos (decide_eq_true (by omega))], rfl⟩
  refine xr_wk (rc' := 0 * 11 + 0) (rs' := 0 * 11 + 0) ⟨by omega, by omega⟩ (lp2 11 0 (by omega) (by omega) (by omega) rfl)
theorem k_M_holder {g : GG} {w : WW} {m : Nat} {A : Int → Nat} {F P : Int → Int} {C : Int → Int → Int} {r c N : Int} (hG : Base g) (hM : MD g w m A F P C) (hB : PB P N) (hr : (-1000 ≤ r ∧ r ≤ 1000) ∧ (-1000 ≤ c ∧ c ≤ 1000)) : Ct g yX4_holder (.code yX4_holder cX4_holder 4 (some .int)) 1 22 0 0 w [.ref m, .int (iI r), .int (iI c)] (fun r_ w1 => r_ = some (.int (iI (holder P r c))) ∧ w1 = w) xF := by
  refine Ct.of (lv := [some _, some _, some _, none]) hG (by decide +kernel) (Nat.le_of_ble_eq_true rfl) rfl ?_
  intro z hg hpo hxp hnm htab
  subst hg
  have hM : MDF (zg z) w w m A F P C := ⟨hM, Fr.rf⟩
  have hgg := hB.g
  have b1 := benchIn_bd (P := P) (r := r) (c := c)
  have b2 := fountIn_bd (P := P) (r := r) (c := c)
  refine xr_iconst dX4_holder_0 ?_
  refine xr_istore_n (lv' := [some _, some _, some _, some _]) dX4_holder_1 (by decide) rfl rfl ?_
  have lp2 : ∀ (fu2 : Nat) (k : Int), 0 ≤ k → k ≤ P 0 → P 0 - k < fu2 → fstR (fun b => decide (dist (P (10 + 6 * b)) (P (11 + 6 * b)) r c = 0)) k (P 0) = benchIn P r c → XJ z yX4_holder.cls cX4_holder 4 (some .int) 1 22 w (0 * fu2 + 0) (0 * fu2 + 0) 2 [some (.ref m), some (.int (iI r)), some (.int (iI c)), some (.int (iI k))] [] := by
    intro fu2
    induction fu2 with
    | zero =>
      intro k hk0 hkn hfu hr9
      omega
    | succ fu2 ih2 =>
      intro k hk0 hkn hfu hr9
      refine xr_iload_n dX4_holder_2 rfl ?_
      refine xr_aload_n dX4_holder_3 rfl (by first | rfl | exact isRef_rf _) ?_
      refine xr_getfield (ci := 14) (T := TX4) (N := 23) (i := 1) hM.1.1 rfl (by decide) in_X4 q2192 (.inl rfl) dX4_holder_4 (by rfl) ?_
      refine xr_iconst dX4_holder_7 ?_
      refine xr_iaload hM.1.2.1 (by omega) (by decide) dX4_holder_8 ?_
      refine xr_icmp_ge (tgt := 40) dX4_holder_9 (by decide) (by omega) (fun c9 => ?_) (fun c9 => ?_)
      · skip
        have hbn : benchIn P r c = -1 := by rw [← hr9, fstR_ge (by omega)]
        refine xr_iconst dX4_holder_40 ?_
        refine xr_istore_n (lv' := [some _, some _, some _, some _]) dX4_holder_41 (by decide) rfl rfl ?_
        have lp42 : ∀ (fu42 : Nat) (k : Int), 0 ≤ k → k ≤ P 1 → P 1 - k < fu42 → fstR (fun b => decide (dist (P (70 + 4 * b)) (P (71 + 4 * b)) r c = 0)) k (P 1) = fountIn P r c → XJ z yX4_holder.cls cX4_holder 4 (some .int) 1 22 w (0 * fu2 + 0 * fu42 + 0) (0 * fu2 + 0 * fu42 + 0) 42 [some (.ref m), some (.int (iI r)), some (.int (iI c)), some (.int (iI k))] [] := by
          intro fu42
          induction fu42 with
          | zero =>
            intro k hk0 hkn hfu hr9
            omega
          | succ fu42 ih42 =>
            intro k hk0 hkn hfu hr9
            refine xr_iload_n dX4_holder_42 rfl ?_
            refine xr_aload_n dX4_holder_43 rfl (by first | rfl | exact isRef_rf _) ?_
            refine xr_getfield (ci := 14) (T := TX4) (N := 23) (i := 1) hM.1.1 rfl (by decide) in_X4 q2192 (.inl rfl) dX4_holder_44 (by rfl) ?_
            refine xr_iconst dX4_holder_47 ?_
            refine xr_iaload hM.1.2.1 (by omega) (by decide) dX4_holder_48 ?_
            refine xr_icmp_ge (tgt := 83) dX4_holder_49 (by decide) (by omega) (fun c49 => ?_) (fun c49 => ?_)
            · skip
              refine xr_iconst dX4_holder_83 ?_
              refine xr_ireturn rfl rfl dX4_holder_84 ?_
              rw [hpo]
              rw [fstR_ge (by omega)] at hr9
              exact ⟨by rw [show holder P r c = -1 by unfold holder; rw [if_neg (by omega), if_neg (by omega)]], rfl⟩
            · skip
              have hff := hB.f (f := k) (by omega)
              rw [fstR_lt (show k < P 1 by omega)] at hr9
              refine xr_aload_n dX4_holder_52 rfl (by first | rfl | exact isRef_rf _) ?_
              refine xr_iload_n dX4_holder_53 rfl ?_
              refine xr_iconst dX4_holder_54 ?_
              refine xr_callV (n9 := 2) (rc' := 0 * fu2 + 0 * fu42 + 0) (rs' := 0 * fu2 + 0 * fu42 + 0) (k_M_fountain_0 hG hM.1 (by omega)) hM.1.1 rfl q2295 q2297 qs42 q96 q2298 (by decide +kernel) rfl ⟨by decide, Nat.le_of_ble_eq_true rfl⟩ ⟨by omega, by omega⟩ (Nat.le_of_ble_eq_true rfl) dX4_holder_55 rfl (xk_r ?_) (fun _ _ _ h => h.elim)
              refine xr_iload_n dX4_holder_58 rfl ?_
              refine xr_icmp_ne (tgt := 77) dX4_holder_59 (by decide) (by omega) (fun c59 => ?_) (fun c59 => ?_)
              · skip
                refine xr_iinc (lv' := [some _, some _, some _, some _]) dX4_holder_77 rfl (by decide) rfl rfl ?_
                refine xr_goto (tgt := 42) dX4_holder_80 (by decide) ?_
                refine xr_wk (rc' := 0 * fu2 + 0 * fu42 + 0) (rs' := 0 * fu2 + 0 * fu42 + 0) ⟨by omega, by omega⟩ (ih42 (k + 1) (by omega) (by omega) (by omega) (by rw [if_neg (fun q9 => by have q8 := of_decide_eq_true q9; simp only [dist] at q8; omega)] at hr9; exact hr9))
              · skip
                refine xr_aload_n dX4_holder_62 rfl (by first | rfl | exact isRef_rf _) ?_
                refine xr_iload_n dX4_holder_63 rfl ?_
                refine xr_iconst dX4_holder_64 ?_
                refine xr_callV (n9 := 2) (rc' := 0 * fu2 + 0 * fu42 + 0) (rs' := 0 * fu2 + 0 * fu42 + 0) (k_M_fountain_1 hG hM.1 (by omega)) hM.1.1 rfl q2295 q2297 qs42 q96 q2298 (by decide +kernel) rfl ⟨by decide, Nat.le_of_ble_eq_true rfl⟩ ⟨by omega, by omega⟩ (Nat.le_of_ble_eq_true rfl) dX4_holder_65 rfl (xk_r ?_) (fun _ _ _ h => h.elim)
                refine xr_iload_n dX4_holder_68 rfl ?_
                refine xr_icmp_ne (tgt := 77) dX4_holder_69 (by decide) (by omega) (fun c69 => ?_) (fun c69 => ?_)
                · skip
                  refine xr_iinc (lv' := [some _, some _, some _, some _]) dX4_holder_77 rfl (by decide) rfl rfl ?_
                  refine xr_goto (tgt := 42) dX4_holder_80 (by decide) ?_
                  refine xr_wk (rc' := 0 * fu2 + 0 * fu42 + 0) (rs' := 0 * fu2 + 0 * fu42 + 0) ⟨by omega, by omega⟩ (ih42 (k + 1) (by omega) (by omega) (by omega) (by rw [if_neg (fun q9 => by have q8 := of_decide_eq_true q9; simp only [dist] at q8; omega)] at hr9; exact hr9))
                · skip
                  refine xr_bipush dX4_holder_72 (by decide) ?_
                  refine xr_iload_n dX4_holder_74 rfl ?_
                  refine xr_iadd dX4_holder_75 ?_
                  refine xr_ireturn rfl rfl dX4_holder_76 ?_
                  rw [hpo]
                  rw [if_pos (decide_eq_true (by simp only [dist]; omega))] at hr9
                  exact ⟨by rw [show holder P r c = 10 + k by unfold holder; rw [if_neg (by omega), if_pos (by omega)]; omega], rfl⟩
        refine xr_wk (rc' := 0 * fu2 + 0 * 5 + 0) (rs' := 0 * fu2 + 0 * 5 + 0) ⟨by omega, by omega⟩ (lp42 5 0 (by omega) (by omega) (by omega) rfl)
      · skip
        have hbb := hB.b (b := k) (by omega)
        rw [fstR_lt (show k < P 0 by omega)] at hr9
        refine xr_aload_n dX4_holder_12 rfl (by first | rfl | exact isRef_rf _) ?_
        refine xr_iload_n dX4_holder_13 rfl ?_
        refine xr_iconst dX4_holder_14 ?_
        refine xr_callV (n9 := 2) (rc' := 0 * fu2 + 0) (rs' := 0 * fu2 + 0) (k_M_bench_0 hG hM.1 (by omega)) hM.1.1 rfl q2291 q2293 qs41 q96 q2294 (by decide +kernel) rfl ⟨by decide, Nat.le_of_ble_eq_true rfl⟩ ⟨by omega, by omega⟩ (Nat.le_of_ble_eq_true rfl) dX4_holder_15 rfl (xk_r ?_) (fun _ _ _ h => h.elim)
        refine xr_iload_n dX4_holder_18 rfl ?_
        refine xr_icmp_ne (tgt := 34) dX4_holder_19 (by decide) (by omega) (fun c19 => ?_) (fun c19 => ?_)
        · skip
          refine xr_iinc (lv' := [some _, some _, some _, some _]) dX4_holder_34 rfl (by decide) rfl rfl ?_
          refine xr_goto (tgt := 2) dX4_holder_37 (by decide) ?_
          refine xr_wk (rc' := 0 * fu2 + 0) (rs' := 0 * fu2 + 0) ⟨by omega, by omega⟩ (ih2 (k + 1) (by omega) (by omega) (by omega) (by rw [if_neg (fun q9 => by have q8 := of_decide_eq_true q9; simp only [dist] at q8; omega)] at hr9; exact hr9))
        · skip
          refine xr_aload_n dX4_holder_22 rfl (by first | rfl | exact isRef_rf _) ?_
          refine xr_iload_n dX4_holder_23 rfl ?_
          refine xr_iconst dX4_holder_24 ?_
          refine xr_callV (n9 := 2) (rc' := 0 * fu2 + 0) (rs' := 0 * fu2 + 0) (k_M_bench_1 hG hM.1 (by omega)) hM.1.1 rfl q2291 q2293 qs41 q96 q2294 (by decide +kernel) rfl ⟨by decide, Nat.le_of_ble_eq_true rfl⟩ ⟨by omega, by omega⟩ (Nat.le_of_ble_eq_true rfl) dX4_holder_25 rfl (xk_r ?_) (fun _ _ _ h => h.elim)
          refine xr_iload_n dX4_holder_28 rfl ?_
          refine xr_icmp_ne (tgt := 34) dX4_holder_29 (by decide) (by omega) (fun c29 => ?_) (fun c29 => ?_)
          · skip
            refine xr_iinc (lv' := [some _, some _, some _, some _]) dX4_holder_34 rfl (by decide) rfl rfl ?_
            refine xr_goto (tgt := 2) dX4_holder_37 (by decide) ?_
            refine xr_wk (rc' := 0 * fu2 + 0) (rs' := 0 * fu2 + 0) ⟨by omega, by omega⟩ (ih2 (k + 1) (by omega) (by omega) (by omega) (by rw [if_neg (fun q9 => by have q8 := of_decide_eq_true q9; simp only [dist] at q8; omega)] at hr9; exact hr9))
          · skip
            refine xr_iload_n dX4_holder_32 rfl ?_
            refine xr_ireturn rfl rfl dX4_holder_33 ?_
            rw [hpo]
            rw [if_pos (decide_eq_true (by simp only [dist]; omega))] at hr9
            exact ⟨by rw [show holder P r c = k by unfold holder; rw [if_pos (by omega)]; omega], rfl⟩
  refine xr_wk (rc' := 0 * 11 + 0) (rs' := 0 * 11 + 0) ⟨by omega, by omega⟩ (lp2 11 0 (by omega) (by omega) (by omega) rfl)
theorem k_M_noise {g : GG} {w : WW} {m : Nat} {A : Int → Nat} {F P : Int → Int} {C : Int → Int → Int} {r c N : Int} (hG : Base g) (hM : MD g w m A F P C) (hB : PB P N) (hr : (-100 ≤ r ∧ r ≤ 100) ∧ (-100 ≤ c ∧ c ≤ 100)) : Ct g yX4_noise (.code yX4_noise cX4_noise 7 (some .int)) 1 22 0 0 w [.ref m, .int (iI r), .int (iI c)] (fun r_ w1 => r_ = some (.int (iI (noise P r c))) ∧ w1 = w) xF := by
  refine Ct.of (lv := [some _, some _, some _, none, none, none, none]) hG (by decide +kernel) (Nat.le_of_ble_eq_true rfl) rfl ?_
  intro z hg hpo hxp hnm htab
  subst hg
  have hM : MDF (zg z) w w m A F P C := ⟨hM, Fr.rf⟩
  have hgg := hB.g
  refine xr_iconst dX4_noise_0 ?_
  refine xr_istore_n (lv' := [some _, some _, some _, some _, none, none, none]) dX4_noise_1 (by decide) rfl rfl ?_
  refine xr_iconst dX4_noise_2 ?_
  refine xr_istore (lv' := [some _, some _, some _, some _, some _, none, none]) dX4_noise_3 (by decide) rfl rfl ?_
  refine xr_lv (lvw_s (lvw_s (lvw_s (lvw_s (lvw_s (lvw_n (lvw_n (lvw_nil)))))))) ?_
  have lp5 : ∀ (fu5 : Nat) (s9 k : Int), 0 ≤ k → k ≤ P 1 → P 1 - k < fu5 → s9 + sumR (fun f => nz1 P f r c) k (P 1) = noise P r c → XJ z yX4_noise.cls cX4_noise 7 (some .int) 1 22 w (0 * fu5 + 0) (0 * fu5 + 0) 5 [some (.ref m), some (.int (iI r)), some (.int (iI c)), some (.int (iI s9)), some (.int (iI k)), none, none] [] := by
    intro fu5
    induction fu5 with
    | zero =>
      intro s9 k hk0 hkn hfu hr9
      omega
    | succ fu5 ih5 =>
      intro s9 k hk0 hkn hfu hr9
      refine xr_iload dX4_noise_5 rfl ?_
      refine xr_aload_n dX4_noise_7 rfl (by first | rfl | exact isRef_rf _) ?_
      refine xr_getfield (ci := 14) (T := TX4) (N := 23) (i := 1) hM.1.1 rfl (by decide) in_X4 q2192 (.inl rfl) dX4_noise_8 (by rfl) ?_
      refine xr_iconst dX4_noise_11 ?_
      refine xr_iaload hM.1.2.1 (by omega) (by decide) dX4_noise_12 ?_
      refine xr_icmp_ge (tgt := 88) dX4_noise_13 (by decide) (by omega) (fun c13 => ?_) (fun c13 => ?_)
      · skip
        refine xr_iload_n dX4_noise_88 rfl ?_
        refine xr_ireturn rfl rfl dX4_noise_89 ?_
        rw [hpo]
        rw [sumR_ge (by omega), Int.add_zero] at hr9
        exact ⟨by rw [hr9], rfl⟩
      · skip
        have hff := hB.f (f := k) (by omega)
        rw [sumR_lt (show k < P 1 by omega)] at hr9
        refine xr_aload_n dX4_noise_16 rfl (by first | rfl | exact isRef_rf _) ?_
        refine xr_iload dX4_noise_17 rfl ?_
        refine xr_iconst dX4_noise_19 ?_
        refine xr_callV (n9 := 2) (rc' := 0 * fu5 + 0) (rs' := 0 * fu5 + 0) (k_M_fountain_0 hG hM.1 (by omega)) hM.1.1 rfl q2295 q2297 qs42 q96 q2298 (by decide +kernel) rfl ⟨by decide, Nat.le_of_ble_eq_true rfl⟩ ⟨by omega, by omega⟩ (Nat.le_of_ble_eq_true rfl) dX4_noise_20 rfl (xk_r ?_) (fun _ _ _ h => h.elim)
        refine xr_iload_n dX4_noise_23 rfl ?_
        refine xr_isub dX4_noise_24 ?_
        refine xr_callS (n9 := 1) (rc' := 0 * fu5 + 0) (rs' := 0 * fu5 + 0) (k_M_size hG (by omega)) q2399 q2400 q96 q2401 (by decide +kernel) rfl ⟨by decide, Nat.le_of_ble_eq_true rfl⟩ ⟨by omega, by omega⟩ (Nat.le_of_ble_eq_true rfl) dX4_noise_25 rfl (xk_r ?_) (fun _ _ _ h => h.elim)
        refine xr_aload_n dX4_noise_28 rfl (by first | rfl | exact isRef_rf _) ?_
        refine xr_iload dX4_noise_29 rfl ?_
        refine xr_iconst dX4_noise_31 ?_
        refine xr_callV (n9 := 2) (rc' := 0 * fu5 + 0) (rs' := 0 * fu5 + 0) (k_M_fountain_1 hG hM.1 (by omega)) hM.1.1 rfl q2295 q2297 qs42 q96 q2298 (by decide +kernel) rfl ⟨by decide, Nat.le_of_ble_eq_true rfl⟩ ⟨by omega, by omega⟩ (Nat.le_of_ble_eq_true rfl) dX4_noise_32 rfl (xk_r ?_) (fun _ _ _ h => h.elim)
        refine xr_iload_n dX4_noise_35 rfl ?_
        refine xr_isub dX4_noise_36 ?_
        refine xr_callS (n9 := 1) (rc' := 0 * fu5 + 0) (rs' := 0 * fu5 + 0) (k_M_size hG (by omega)) q2399 q2400 q96 q2401 (by decide +kernel) rfl ⟨by decide, Nat.le_of_ble_eq_true rfl⟩ ⟨by omega, by omega⟩ (Nat.le_of_ble_eq_true rfl) dX4_noise_37 rfl (xk_r ?_) (fun _ _ _ h => h.elim)
        refine xr_iadd dX4_noise_40 ?_
        refine xr_istore (lv' := [some _, some _, some _, some _, some _, some _, none]) dX4_noise_41 (by decide) rfl rfl ?_
        refine xr_aload_n dX4_noise_43 rfl (by first | rfl | exact isRef_rf _) ?_
        refine xr_iload dX4_noise_44 rfl ?_
        refine xr_iconst dX4_noise_46 ?_
        refine xr_callV (n9 := 2) (rc' := 0 * fu5 + 0) (rs' := 0 * fu5 + 0) (k_M_fountain_2 hG hM.1 (by omega)) hM.1.1 rfl q2295 q2297 qs42 q96 q2298 (by decide +kernel) rfl ⟨by decide, Nat.le_of_ble_eq_true rfl⟩ ⟨by omega, by omega⟩ (Nat.le_of_ble_eq_true rfl) dX4_noise_47 rfl (xk_r ?_) (fun _ _ _ h => h.elim)
        refine xr_iconst dX4_noise_50 ?_
        refine xr_iload dX4_noise_51 rfl ?_
        refine xr_imul dX4_noise_53 ?_
        refine xr_isub dX4_noise_54 ?_
        refine xr_istore (lv' := [some _, some _, some _, some _, some _, some _, some _]) dX4_noise_55 (by decide) rfl rfl ?_
        refine xr_iload_n dX4_noise_57 rfl ?_
        refine xr_aload_n dX4_noise_58 rfl (by first | rfl | exact isRef_rf _) ?_
        refine xr_iload dX4_noise_59 rfl ?_
        refine xr_iconst dX4_noise_61 ?_
        refine xr_callV (n9 := 2) (rc' := 0 * fu5 + 0) (rs' := 0 * fu5 + 0) (k_M_fountain_3 hG hM.1 (by omega)) hM.1.1 rfl q2295 q2297 qs42 q96 q2298 (by decide +kernel) rfl ⟨by decide, Nat.le_of_ble_eq_true rfl⟩ ⟨by omega, by omega⟩ (Nat.le_of_ble_eq_true rfl) dX4_noise_62 rfl (xk_r ?_) (fun _ _ _ h => h.elim)
        refine xr_iconst dX4_noise_65 ?_
        refine xr_icmp_ne (tgt := 79) dX4_noise_66 (by decide) (by omega) (fun c66 => ?_) (fun c66 => ?_)
        · skip
          refine xr_iconst dX4_noise_79 ?_
          refine xr_iadd dX4_noise_80 ?_
          refine xr_istore_n (lv' := [some _, some _, some _, some _, some _, some _, some _]) dX4_noise_81 (by decide) rfl rfl ?_
          obtain ⟨s8, hs8⟩ : ∃ s8, s8 = s9 + nz1 P k r c := ⟨_, rfl⟩
          refine xr_iinc (lv' := [some _, some _, some _, some _, some _, some _, some _]) dX4_noise_82 rfl (by decide) rfl rfl ?_
          refine xr_goto (tgt := 5) dX4_noise_85 (by decide) ?_
          refine xr_lv (lvw_s (lvw_s (lvw_s (lvw_s (lvw_s (lvw_n (lvw_n (lvw_nil)))))))) ?_
          refine xr_wk (rc' := 0 * fu5 + 0) (rs' := 0 * fu5 + 0) ⟨by omega, by omega⟩ (ih5 _ (k + 1) (by omega) (by omega) (by omega) (by rw [← hr9, ← Int.add_assoc]; congr 2; simp only [nz1, dist]; first | (rw [if_pos (by omega)]; omega) | (rw [if_neg (by omega)])))
        · skip
          refine xr_iload dX4_noise_69 rfl ?_
          refine xr_if_le (tgt := 79) dX4_noise_71 (by decide) (by omega) (fun c71 => ?_) (fun c71 => ?_)
          · skip
            refine xr_iconst dX4_noise_79 ?_
            refine xr_iadd dX4_noise_80 ?_
            refine xr_istore_n (lv' := [some _, some _, some _, some _, some _, some _, some _]) dX4_noise_81 (by decide) rfl rfl ?_
            obtain ⟨s8, hs8⟩ : ∃ s8, s8 = s9 + nz1 P k r c := ⟨_, rfl⟩
            refine xr_iinc (lv' := [some _, some _, some _, some _, some _, some _, some _]) dX4_noise_82 rfl (by decide) rfl rfl ?_
            refine xr_goto (tgt := 5) dX4_noise_85 (by decide) ?_
            refine xr_lv (lvw_s (lvw_s (lvw_s (lvw_s (lvw_s (lvw_n (lvw_n (lvw_nil)))))))) ?_
            refine xr_wk (rc' := 0 * fu5 + 0) (rs' := 0 * fu5 + 0) ⟨by omega, by omega⟩ (ih5 _ (k + 1) (by omega) (by omega) (by omega) (by rw [← hr9, ← Int.add_assoc]; congr 2; simp only [nz1, dist]; first | (rw [if_pos (by omega)]; omega) | (rw [if_neg (by omega)])))
          · skip
            refine xr_iload dX4_noise_74 rfl ?_
            refine xr_goto (tgt := 80) dX4_noise_76 (by decide) ?_
            refine xr_iadd dX4_noise_80 ?_
            refine xr_istore_n (lv' := [some _, some _, some _, some _, some _, some _, some _]) dX4_noise_81 (by decide) rfl rfl ?_
            obtain ⟨s8, hs8⟩ : ∃ s8, s8 = s9 + nz1 P k r c := ⟨_, rfl⟩
            refine xr_iinc (lv' := [some _, some _, some _, some _, some _, some _, some _]) dX4_noise_82 rfl (by decide) rfl rfl ?_
            refine xr_goto (tgt := 5) dX4_noise_85 (by decide) ?_
            refine xr_lv (lvw_s (lvw_s (lvw_s (lvw_s (lvw_s (lvw_n (lvw_n (lvw_nil)))))))) ?_
            refine xr_wk (rc' := 0 * fu5 + 0) (rs' := 0 * fu5 + 0) ⟨by omega, by omega⟩ (ih5 _ (k + 1) (by omega) (by omega) (by omega) (by rw [← hr9, ← Int.add_assoc]; congr 2; simp only [nz1, dist]; first | (rw [if_pos (by omega)]; omega) | (rw [if_neg (by omega)])))
  refine xr_wk (rc' := 0 * 5 + 0) (rs' := 0 * 5 + 0) ⟨by omega, by omega⟩ (lp5 5 0 0 (by omega) (by omega) (by omega) (by rw [Int.zero_add]; rfl))
theorem k_M_noiseOf {g : GG} {w : WW} {m : Nat} {A : Int → Nat} {F P : Int → Int} {C : Int → Int → Int} {b N : Int} (hG : Base g) (hM : MD g w m A F P C) (hB : PB P N) (hb : 0 ≤ b ∧ b < P 0) : Ct g yX4_noiseOf (.code yX4_noiseOf cX4_noiseOf 2 (some .int)) 2 48 0 0 w [.ref m, .int (iI b)] (fun r_ w1 => r_ = some (.int (iI (noiseOf P b))) ∧ w1 = w) xF := by
  refine Ct.of (lv := [some _, some _]) hG (by decide +kernel) (Nat.le_of_ble_eq_true rfl) rfl ?_
  intro z hg hpo hxp hnm htab
  subst hg
  have hM : MDF (zg z) w w m A F P C := ⟨hM, Fr.rf⟩
  have hgg := hB.g
  have hbb := hB.b hb
  refine xr_aload_n dX4_noiseOf_0 rfl (by first | rfl | exact isRef_rf _) ?_
  refine xr_aload_n dX4_noiseOf_1 rfl (by first | rfl | exact isRef_rf _) ?_
  refine xr_iload_n dX4_noiseOf_2 rfl ?_
  refine xr_iconst dX4_noiseOf_3 ?_
  refine xr_callV (n9 := 2) (rc' := 0) (rs' := 0) (k_M_bench_0 hG hM.1 (by omega)) hM.1.1 rfl q2291 q2293 qs41 q96 q2294 (by decide +kernel) rfl ⟨by decide, Nat.le_of_ble_eq_true rfl⟩ ⟨Nat.le_of_ble_eq_true rfl, Nat.le_of_ble_eq_true rfl⟩ (Nat.le_of_ble_eq_true rfl) dX4_noiseOf_4 rfl (xk_r ?_) (fun _ _ _ h => h.elim)
  refine xr_aload_n dX4_noiseOf_7 rfl (by first | rfl | exact isRef_rf _) ?_
  refine xr_iload_n dX4_noiseOf_8 rfl ?_
  refine xr_iconst dX4_noiseOf_9 ?_
  refine xr_callV (n9 := 2) (rc' := 0) (rs' := 0) (k_M_bench_1 hG hM.1 (by omega)) hM.1.1 rfl q2291 q2293 qs41 q96 q2294 (by decide +kernel) rfl ⟨by decide, Nat.le_of_ble_eq_true rfl⟩ ⟨Nat.le_of_ble_eq_true rfl, Nat.le_of_ble_eq_true rfl⟩ (Nat.le_of_ble_eq_true rfl) dX4_noiseOf_10 rfl (xk_r ?_) (fun _ _ _ h => h.elim)
  refine xr_callV (n9 := 2) (rc' := 0) (rs' := 0) (k_M_noise hG hM.1 hB (by omega)) hM.1.1 rfl q2395 q2397 qs57 q96 q2398 (by decide +kernel) rfl ⟨by decide, Nat.le_of_ble_eq_true rfl⟩ ⟨Nat.le_of_ble_eq_true rfl, Nat.le_of_ble_eq_true rfl⟩ (Nat.le_of_ble_eq_true rfl) dX4_noiseOf_13 rfl (xk_r ?_) (fun _ _ _ h => h.elim)
  refine xr_ireturn rfl rfl dX4_noiseOf_16 ?_
  rw [hpo]
  first | exact ⟨rfl, rfl⟩ | exact ⟨ret_bt (by omega), rfl⟩ | exact ⟨ret_bf (by omega), rfl⟩ | exact ⟨ret_i (by omega), rfl⟩
theorem k_M_quiet {g : GG} {w : WW} {m : Nat} {A : Int → Nat} {F P : Int → Int} {C : Int → Int → Int} {b N : Int} (hG : Base g) (hM : MD g w m A F P C) (hB : PB P N) (hb : 0 ≤ b ∧ b < P 0) : Ct g yX4_quiet (.code yX4_quiet cX4_quiet 2 (some .boolean)) 3 69 0 0 w [.ref m, .int (iI b)] (fun r_ w1 => r_ = some (.int (bI (decide (noiseOf P b ≤ P 3)))) ∧ w1 = w) xF := by
  refine Ct.of (lv := [some _, some _]) hG (by decide +kernel) (Nat.le_of_ble_eq_true rfl) rfl ?_
  intro z hg hpo hxp hnm htab
  subst hg
  have hM : MDF (zg z) w w m A F P C := ⟨hM, Fr.rf⟩
  have hgg := hB.g
  have hbb := hB.b hb
  have hnn : 0 ≤ noiseOf P b ∧ noiseOf P b ≤ 36 := noise_bd hB
  refine xr_aload_n dX4_quiet_0 rfl (by first | rfl | exact isRef_rf _) ?_
  refine xr_iload_n dX4_quiet_1 rfl ?_
  refine xr_callV (n9 := 1) (rc' := 0) (rs' := 0) (k_M_noiseOf hG hM.1 hB (by omega)) hM.1.1 rfl q2391 q2393 qs56 q96 q2394 (by decide +kernel) rfl ⟨by decide, Nat.le_of_ble_eq_true rfl⟩ ⟨Nat.le_of_ble_eq_true rfl, Nat.le_of_ble_eq_true rfl⟩ (Nat.le_of_ble_eq_true rfl) dX4_quiet_2 rfl (xk_r ?_) (fun _ _ _ h => h.elim)
  refine xr_aload_n dX4_quiet_5 rfl (by first | rfl | exact isRef_rf _) ?_
  refine xr_getfield (ci := 14) (T := TX4) (N := 23) (i := 1) hM.1.1 rfl (by decide) in_X4 q2192 (.inl rfl) dX4_quiet_6 (by rfl) ?_
  refine xr_iconst dX4_quiet_9 ?_
  refine xr_iaload hM.1.2.1 (by omega) (by decide) dX4_quiet_10 ?_
  refine xr_icmp_gt (tgt := 18) dX4_quiet_11 (by decide) (by omega) (fun c11 => ?_) (fun c11 => ?_)
  · skip
    refine xr_iconst dX4_quiet_18 ?_
    refine xr_ireturn rfl (by first | rfl | exact nar_bI _ | decide +kernel) dX4_quiet_19 ?_
    rw [hpo]
    first | exact ⟨rfl, rfl⟩ | exact ⟨ret_bt (by omega), rfl⟩ | exact ⟨ret_bf (by omega), rfl⟩ | exact ⟨ret_i (by omega), rfl⟩
  · skip
    refine xr_iconst dX4_quiet_14 ?_
    refine xr_goto (tgt := 19) dX4_quiet_15 (by decide) ?_
    refine xr_ireturn rfl (by first | rfl | exact nar_bI _ | decide +kernel) dX4_quiet_19 ?_
    rw [hpo]
    first | exact ⟨rfl, rfl⟩ | exact ⟨ret_bt (by omega), rfl⟩ | exact ⟨ret_bf (by omega), rfl⟩ | exact ⟨ret_i (by omega), rfl⟩
theorem k_M_rent {g : GG} {w : WW} {m : Nat} {A : Int → Nat} {F P : Int → Int} {C : Int → Int → Int} {b N : Int} (hG : Base g) (hM : MD g w m A F P C) (hB : PB P N) (hb : 0 ≤ b ∧ b < P 0) : Ct g yX4_rent (.code yX4_rent cX4_rent 3 (some .int)) 3 69 0 0 w [.ref m, .int (iI b)] (fun r_ w1 => r_ = some (.int (iI (rent P b))) ∧ w1 = w) xF := by
  refine Ct.of (lv := [some _, some _, none]) hG (by decide +kernel) (Nat.le_of_ble_eq_true rfl) rfl ?_
  intro z hg hpo hxp hnm htab
  subst hg
  have hM : MDF (zg z) w w m A F P C := ⟨hM, Fr.rf⟩
  have hgg := hB.g
  have hbb := hB.b hb
  have hnn : 0 ≤ noiseOf P b ∧ noiseOf P b ≤ 36 := noise_bd hB
  refine xr_aload_n dX4_rent_0 rfl (by first | rfl | exact isRef_rf _) ?_
  refine xr_iload_n dX4_rent_1 rfl ?_
  refine xr_iconst dX4_rent_2 ?_
  refine xr_callV (n9 := 2) (rc' := 0) (rs' := 0) (k_M_bench_2 hG hM.1 (by omega)) hM.1.1 rfl q2291 q2293 qs41 q96 q2294 (by decide +kernel) rfl ⟨by decide, Nat.le_of_ble_eq_true rfl⟩ ⟨Nat.le_of_ble_eq_true rfl, Nat.le_of_ble_eq_true rfl⟩ (Nat.le_of_ble_eq_true rfl) dX4_rent_3 rfl (xk_r ?_) (fun _ _ _ h => h.elim)
  refine xr_aload_n dX4_rent_6 rfl (by first | rfl | exact isRef_rf _) ?_
  refine xr_iload_n dX4_rent_7 rfl ?_
  refine xr_callV (n9 := 1) (rc' := 0) (rs' := 0) (k_M_noiseOf hG hM.1 hB (by omega)) hM.1.1 rfl q2391 q2393 qs56 q96 q2394 (by decide +kernel) rfl ⟨by decide, Nat.le_of_ble_eq_true rfl⟩ ⟨Nat.le_of_ble_eq_true rfl, Nat.le_of_ble_eq_true rfl⟩ (Nat.le_of_ble_eq_true rfl) dX4_rent_8 rfl (xk_r ?_) (fun _ _ _ h => h.elim)
  refine xr_isub dX4_rent_11 ?_
  refine xr_istore_n (lv' := [some _, some _, some _]) dX4_rent_12 (by decide) rfl rfl ?_
  refine xr_iload_n dX4_rent_13 rfl ?_
  refine xr_iconst dX4_rent_14 ?_
  refine xr_icmp_ge (tgt := 22) dX4_rent_15 (by decide) (by omega) (fun c15 => ?_) (fun c15 => ?_)
  · skip
    refine xr_iload_n dX4_rent_22 rfl ?_
    refine xr_ireturn rfl rfl dX4_rent_23 ?_
    rw [hpo]
    exact ⟨by first | (rw [show rent P b = 1 by unfold rent; omega]) | (rw [show rent P b = P (12 + 6 * b) - noiseOf P b by unfold rent; omega]), rfl⟩
  · skip
    refine xr_iconst dX4_rent_18 ?_
    refine xr_goto (tgt := 23) dX4_rent_19 (by decide) ?_
    refine xr_ireturn rfl rfl dX4_rent_23 ?_
    rw [hpo]
    exact ⟨by first | (rw [show rent P b = 1 by unfold rent; omega]) | (rw [show rent P b = P (12 + 6 * b) - noiseOf P b by unfold rent; omega]), rfl⟩
