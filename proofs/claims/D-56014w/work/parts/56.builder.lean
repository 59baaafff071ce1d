/-! 56.builder.lean.txt (written by tools/walker.py)  -/
set_option maxRecDepth 100000
/-- a StringBuilder at a, its array at b of cap places, n chars f -/
def SBc (g : GG) (w : WW) (a b cap n : Nat) (f : Int → Int) : Prop := ∃ (m9 : Value) (h : Int → Int), Ob w a 15 [.ref b, .int (iI 0), m9, .int (iI n)] ∧ BA g w b cap h ∧ gb g ≤ b ∧ (cap = 16 ∨ cap = 34 ∨ cap = 70) ∧ n ≤ cap ∧ (∀ k : Int, 0 ≤ k → k < cap → 0 ≤ h k ∧ h k ≤ 127) ∧ ∀ k : Int, 0 ≤ k → k < n → h k = f k
def SB (g : GG) (w : WW) (a b n : Nat) (f : Int → Int) : Prop := ∃ cap : Nat, SBc g w a b cap n f
theorem SB.ob {g : GG} {w : WW} {a b n : Nat} {f : Int → Int} (h : SB g w a b n f) : ∃ fs, Ob w a 15 fs := by
  obtain ⟨c, m9, x, h1, -⟩ := h
  exact ⟨_, h1⟩
theorem SB.fr {g : GG} {S : Nat → Prop} {w w' : WW} {a b n : Nat} {f : Int → Int} (h : SB g w a b n f) (hf : Fr S w w') (h1 : ¬ S a) (h2 : ¬ S b) : SB g w' a b n f := by
  obtain ⟨c, m9, x, g1, g2, g3⟩ := h
  exact ⟨c, m9, x, g1.fr hf h1, g2.fr hf h2, g3⟩
theorem SB.lt {g : GG} {w : WW} {a b n : Nat} {f : Int → Int} (h : SB g w a b n f) : a < w.2 ∧ b < w.2 ∧ gb g ≤ b := by
  obtain ⟨c, m9, x, h1, h2, h3, -⟩ := h
  exact ⟨h1.2, h2.lt, h3⟩
theorem SB.ext {g : GG} {w w' : WW} {a b n : Nat} {f : Int → Int} (h : SB g w a b n f) (hm : Mo w.2 w w') : SB g w' a b n f := by
  have h9 := h.lt
  exact h.fr hm.fr (by omega) (by omega)
theorem SB.to {g : GG} {w : WW} {a b n : Nat} {f f' : Int → Int} (h : SB g w a b n f) (hf : ∀ k : Int, 0 ≤ k → k < n → f k = f' k) : SB g w a b n f' := by
  obtain ⟨c, m9, x, h1, h2, h3, h4, h5, h6, h7⟩ := h
  exact ⟨c, m9, x, h1, h2, h3, h4, h5, h6, fun k k0 k1 => (h7 k k0 k1).trans (hf k k0 k1)⟩
/-- a number below 100 as text behind n chars -/
def lenI (v : Int) : Nat := if v < 10 then 1 else 2
def appI (f : Int → Int) (n v : Int) : Int → Int := if v < 10 then updI f n (48 + v) else updI (updI f (n + 1) (48 + v % 10)) n (48 + v / 10)
theorem lenI_eq {v : Int} : (lenI v : Int) = if v < 10 then 1 else 2 := by unfold lenI; split <;> rfl
theorem appI_at {f : Int → Int} {n v k : Int} : appI f n v k = if v < 10 then (if k = n then 48 + v else f k) else (if k = n then 48 + v / 10 else if k = n + 1 then 48 + v % 10 else f k) := by
  unfold appI
  split <;> rfl
theorem appI_bd {h : Int → Int} {n v k : Int} (hv : 0 ≤ v ∧ v ≤ 99) (hh : 0 ≤ h k ∧ h k ≤ 127) : 0 ≤ appI h n v k ∧ appI h n v k ≤ 127 := by
  rw [appI_at]
  split
  · split <;> omega
  · split
    · omega
    · split <;> omega
theorem appI_congr {h f : Int → Int} {n v k : Int} (hel : ∀ k : Int, 0 ≤ k → k < n → h k = f k) (k0 : 0 ≤ k) (hk : k < n + lenI v) : appI h n v k = appI f n v k := by
  rw [appI_at, appI_at]
  have e := lenI_eq (v := v)
  by_cases hv : v < 10
  · simp only [if_pos hv] at e ⊢
    by_cases h2 : k = n
    · simp only [if_pos h2]
    · rw [if_neg h2, if_neg h2]
      exact hel k k0 (by omega)
  · simp only [if_neg hv] at e ⊢
    by_cases h2 : k = n
    · simp only [if_pos h2]
    · rw [if_neg h2, if_neg h2]
      by_cases h3 : k = n + 1
      · simp only [if_pos h3]
      · rw [if_neg h3, if_neg h3]
        exact hel k k0 (by omega)
theorem k_newLength {g : GG} {w : WW} {a b c : Int} (hG : Base g) (hr : 0 ≤ a ∧ a ≤ 1000 ∧ 1 ≤ b ∧ b ≤ c ∧ c ≤ 1000) : Ct g yJ15_newLength (.code yJ15_newLength cJ15_newLength 4 (some .int)) 1 21 0 0 w [.int (iI a), .int (iI b), .int (iI c)] (fun r_ w1 => r_ = some (.int (iI (a + c))) ∧ w1 = w) xF := by
  refine Ct.of (lv := [some _, some _, some _, none]) hG (by decide +kernel) (Nat.le_of_ble_eq_true rfl) rfl ?_
  intro z hg hpo hxp hnm htab
  subst hg
  refine xr_iload_n dJ15_newLength_0 rfl ?_
  refine xr_iload_n dJ15_newLength_1 rfl ?_
  refine xr_iload_n dJ15_newLength_2 rfl ?_
  refine xr_mmax q786 q360 q111 q361 (by decide) (Nat.le_of_ble_eq_true rfl) (by omega) dJ15_newLength_3 ?_
  rw [show max b c = c by omega]
  refine xr_iadd dJ15_newLength_6 ?_
  refine xr_istore_n (lv' := [some _, some _, some _, some _]) dJ15_newLength_7 (by decide) rfl rfl ?_
  refine xr_iconst dJ15_newLength_8 ?_
  refine xr_iload_n dJ15_newLength_9 rfl ?_
  refine xr_icmp_ge (tgt := 21) dJ15_newLength_10 (by decide) (by omega) (fun c10 => absurd c10 (by omega)) (fun c10 => ?_)
  refine xr_iload_n dJ15_newLength_13 rfl ?_
  refine xr_ldc (x := 2147483639) q787 (by decide +kernel) dJ15_newLength_14 ?_
  refine xr_icmp_gt (tgt := 21) dJ15_newLength_16 (by decide) (by omega) (fun c16 => absurd c16 (by omega)) (fun c16 => ?_)
  refine xr_iload_n dJ15_newLength_19 rfl ?_
  refine xr_ireturn rfl rfl dJ15_newLength_20 ?_
  rw [hpo]
  first | exact ⟨rfl, rfl⟩ | exact ⟨ret_bt (by omega), rfl⟩ | exact ⟨ret_bf (by omega), rfl⟩ | exact ⟨ret_i (by omega), rfl⟩
theorem k_copyOfB {g : GG} {w : WW} {b n : Nat} {h : Int → Int} {m : Int} (hG : Base g) (hb : BA g w b n h) (hm : n < m ∧ m ≤ 70) (hf : ∀ k : Int, 0 ≤ k → k < n → 0 ≤ h k ∧ h k ≤ 127) : Ct g yJ17_copyOf_3 (.code yJ17_copyOf_3 cJ17_copyOf_3 3 (some ((.array .byte)))) 1 48 1 70 w [.ref b, .int (iI m)] (fun r_ w1 => ∃ b1 : Nat, r_ = some (.ref b1) ∧ BA g w1 b1 m.toNat (fun k => if k < n then h k else 0) ∧ w.2 ≤ b1 ∧ gb g ≤ b1 ∧ Mo w.2 w w1) xF := by
  refine Ct.of (lv := [some _, some _, none]) hG (by decide +kernel) (Nat.le_of_ble_eq_true rfl) rfl ?_
  intro z hg hpo hxp hnm htab
  subst hg
  refine xr_iload_n dJ17_copyOf_3_0 rfl ?_
  refine xr_aload_n dJ17_copyOf_3_1 rfl (by first | rfl | exact isRef_rf _) ?_
  refine xr_alenBA hb dJ17_copyOf_3_2 ?_
  refine xr_icmp_ne (tgt := 14) dJ17_copyOf_3_3 (by decide) (by omega) (fun c3 => ?_) (fun c3 => absurd c3 (by omega))
  refine xr_iload_n dJ17_copyOf_3_14 rfl ?_
  refine xr_newBA (rc' := 0) (rs' := 0) q265 (by omega) (by omega) dJ17_copyOf_3_15 (fun a15 e15 ga15 ba15 har15 => ?_)
  have hb2 := hb.new_ne ga15 e15
  refine xr_astore_n (lv' := [some _, some _, some _]) dJ17_copyOf_3_17 (by decide) rfl (by first | rfl | exact isRef_rf _) rfl ?_
  refine xr_aload_n dJ17_copyOf_3_18 rfl (by first | rfl | exact isRef_rf _) ?_
  refine xr_iconst dJ17_copyOf_3_19 ?_
  refine xr_aload_n dJ17_copyOf_3_20 rfl (by first | rfl | exact isRef_rf _) ?_
  refine xr_iconst dJ17_copyOf_3_21 ?_
  refine xr_aload_n dJ17_copyOf_3_22 rfl (by first | rfl | exact isRef_rf _) ?_
  refine xr_alenBA hb2 dJ17_copyOf_3_23 ?_
  refine xr_iload_n dJ17_copyOf_3_24 rfl ?_
  refine xr_mmin q640 q641 q111 q642 (by decide) (Nat.le_of_ble_eq_true rfl) (by omega) dJ17_copyOf_3_25 ?_
  rw [show min (n : Int) m = n by omega]
  refine xr_acopyBA hb2 har15 ba15 q643 q645 q644 q113 (by omega) (fun k h0 h1 => by have := hf k (by omega) (by omega); omega) (by decide) (by decide +kernel) dJ17_copyOf_3_28 (fun e28 har28 => ?_)
  refine xr_aload_n dJ17_copyOf_3_31 rfl (by first | rfl | exact isRef_rf _) ?_
  first | refine xr_areturn rfl rfl dJ17_copyOf_3_32 ?_ | refine xr_areturnN rfl rfl dJ17_copyOf_3_32 ?_
  rw [hpo]
  exact ⟨a15, rfl, har28.to (fun k h0 h1 => by simp only [cpyI]; split <;> split <;> first | rfl | (congr 1; omega) | omega), ga15, ba15, (Mo.new (n := w.2) ga15 ga15 e15).tr (Mo.put (n := w.2) ga15 e28) (Nat.le_refl _)⟩
theorem k_ASB_isLatin1 {g : GG} {w : WW} {a : Nat} {v0 v2 v3 : Value} (hG : Base g) (hJ : KJ g) (ho : Ob w a 15 [v0, .int (iI 0), v2, v3]) : Ct g yJ3_isLatin1 (.code yJ3_isLatin1 cJ3_isLatin1 1 (some .boolean)) 0 0 0 0 w [.ref a] (fun r_ w1 => r_ = some (.int (iI 1)) ∧ w1 = w) xF := by
  refine Ct.of (lv := [some _]) hG (by decide +kernel) (Nat.le_of_ble_eq_true rfl) rfl ?_
  intro z hg hpo hxp hnm htab
  subst hg
  obtain ⟨kc, ⟨fo, kf⟩, kd, kt⟩ := hJ
  refine xr_getstatic kc q242 dJ3_isLatin1_0 ?_
  refine xr_if_eq (tgt := 17) dJ3_isLatin1_3 (by decide) (by omega) (fun c3 => absurd c3 (by decide)) (fun c3 => ?_)
  refine xr_aload_n dJ3_isLatin1_6 rfl (by first | rfl | exact isRef_rf _) ?_
  refine xr_getfield (ci := 15) (T := TJ4) (N := 4) (i := 1) ho rfl (by decide) in_J4 q252 (.inl rfl) dJ3_isLatin1_7 (by rfl) ?_
  refine xr_if_ne (tgt := 17) dJ3_isLatin1_10 (by decide) (by omega) (fun c10 => absurd c10 (fun h => h rfl)) (fun c10 => ?_)
  refine xr_iconst dJ3_isLatin1_13 ?_
  refine xr_goto (tgt := 18) dJ3_isLatin1_14 (by decide) ?_
  refine xr_ireturn rfl (by first | rfl | exact nar_bI _ | decide +kernel) dJ3_isLatin1_18 ?_
  rw [hpo]
  first | exact ⟨rfl, rfl⟩ | exact ⟨ret_bt (by omega), rfl⟩ | exact ⟨ret_bf (by omega), rfl⟩ | exact ⟨ret_i (by omega), rfl⟩
theorem k_ASB_newCapacity {g : GG} {w : WW} {a b n : Nat} {h : Int → Int} {m : Int} {v2 v3 : Value} (hG : Base g) (ho : Ob w a 15 [.ref b, .int (iI 0), v2, v3]) (hb : BA g w b n h) (hm : n < m ∧ m ≤ n + 12 ∧ 16 ≤ n ∧ n ≤ 70) : Ct g yJ3_newCapacity (.code yJ3_newCapacity cJ3_newCapacity 6 (some .int)) 2 44 0 0 w [.ref a, .int (iI m)] (fun r_ w1 => r_ = some (.int (iI (2 * n + 2))) ∧ w1 = w) xF := by
  refine Ct.of (lv := [some _, some _, none, none, none, none]) hG (by decide +kernel) (Nat.le_of_ble_eq_true rfl) rfl ?_
  intro z hg hpo hxp hnm htab
  subst hg
  refine xr_aload_n dJ3_newCapacity_0 rfl (by first | rfl | exact isRef_rf _) ?_
  refine xr_getfield (ci := 15) (T := TJ4) (N := 4) (i := 0) ho rfl (by decide) in_J4 q251 (.inl rfl) dJ3_newCapacity_1 (by rfl) ?_
  refine xr_alenBA hb dJ3_newCapacity_4 ?_
  refine xr_istore_n (lv' := [some _, some _, some _, none, none, none]) dJ3_newCapacity_5 (by decide) rfl rfl ?_
  refine xr_iload_n dJ3_newCapacity_6 rfl ?_
  refine xr_aload_n dJ3_newCapacity_7 rfl (by first | rfl | exact isRef_rf _) ?_
  refine xr_getfield (ci := 15) (T := TJ4) (N := 4) (i := 1) ho rfl (by decide) in_J4 q252 (.inl rfl) dJ3_newCapacity_8 (by rfl) ?_
  refine xr_ishl dJ3_newCapacity_11 ?_
  rw [iI_shl0]
  refine xr_istore_n (lv' := [some _, some _, some _, some _, none, none]) dJ3_newCapacity_12 (by decide) rfl rfl ?_
  refine xr_iload_n dJ3_newCapacity_13 rfl ?_
  refine xr_iload_n dJ3_newCapacity_14 rfl ?_
  refine xr_isub dJ3_newCapacity_15 ?_
  refine xr_istore (lv' := [some _, some _, some _, some _, some _, none]) dJ3_newCapacity_16 (by decide) rfl rfl ?_
  refine xr_iload_n dJ3_newCapacity_18 rfl ?_
  refine xr_iload dJ3_newCapacity_19 rfl ?_
  refine xr_iload_n dJ3_newCapacity_21 rfl ?_
  refine xr_iconst dJ3_newCapacity_22 ?_
  refine xr_aload_n dJ3_newCapacity_23 rfl (by first | rfl | exact isRef_rf _) ?_
  refine xr_getfield (ci := 15) (T := TJ4) (N := 4) (i := 1) ho rfl (by decide) in_J4 q252 (.inl rfl) dJ3_newCapacity_24 (by rfl) ?_
  refine xr_ishl dJ3_newCapacity_27 ?_
  rw [iI_shl0]
  refine xr_iadd dJ3_newCapacity_28 ?_
  refine xr_callS (n9 := 3) (rc' := 0) (rs' := 0) (k_newLength hG (by omega)) q1616 q784 q110 q785 (by decide +kernel) rfl ⟨by decide, Nat.le_of_ble_eq_true rfl⟩ ⟨Nat.le_of_ble_eq_true rfl, Nat.le_of_ble_eq_true rfl⟩ (Nat.le_of_ble_eq_true rfl) dJ3_newCapacity_29 rfl (xk_r ?_) (fun _ _ _ h => h.elim)
  rw [show (n : Int) + (n + 2) = 2 * n + 2 by omega]
  refine xr_istore (lv' := [some _, some _, some _, some _, some _, some _]) dJ3_newCapacity_32 (by decide) rfl rfl ?_
  refine xr_iload dJ3_newCapacity_34 rfl ?_
  refine xr_ldc (x := 2147483647) q1617 (by decide +kernel) dJ3_newCapacity_36 ?_
  refine xr_icmp_ne (tgt := 51) dJ3_newCapacity_38 (by decide) (by omega) (fun c38 => ?_) (fun c38 => absurd c38 (by omega))
  refine xr_iload dJ3_newCapacity_51 rfl ?_
  refine xr_aload_n dJ3_newCapacity_53 rfl (by first | rfl | exact isRef_rf _) ?_
  refine xr_getfield (ci := 15) (T := TJ4) (N := 4) (i := 1) ho rfl (by decide) in_J4 q252 (.inl rfl) dJ3_newCapacity_54 (by rfl) ?_
  refine xr_ishr dJ3_newCapacity_57 ?_
  rw [iI_shr0]
  refine xr_ireturn rfl rfl dJ3_newCapacity_58 ?_
  rw [hpo]
  first | exact ⟨rfl, rfl⟩ | exact ⟨ret_bt (by omega), rfl⟩ | exact ⟨ret_bf (by omega), rfl⟩ | exact ⟨ret_i (by omega), rfl⟩
theorem k_ASB_ensure {g : GG} {w : WW} {a b n : Nat} {f : Int → Int} {m : Int} (hG : Base g) (hA : SB g w a b n f) (hm : 0 ≤ m ∧ m ≤ n + 12 ∧ m ≤ 70) : Ct g yJ3_ensureCapacityInternal (.code yJ3_ensureCapacityInternal cJ3_ensureCapacityInternal 3 none) 3 70 1 70 w [.ref a, .int (iI m)] (fun r_ w1 => r_ = none ∧ ∃ b' cap' : Nat, SBc g w1 a b' cap' n f ∧ m ≤ cap' ∧ (b' = b ∨ w.2 ≤ b') ∧ Fr (fun x => x = a) w w1) xF := by
  refine Ct.of (lv := [some _, some _, none]) hG (by decide +kernel) (Nat.le_of_ble_eq_true rfl) rfl ?_
  intro z hg hpo hxp hnm htab
  subst hg
  obtain ⟨cap, m9, h, ho, hba, hge, hcap, hncap, hch, hel⟩ := hA
  refine xr_aload_n dJ3_ensureCapacityInternal_0 rfl (by first | rfl | exact isRef_rf _) ?_
  refine xr_getfield (ci := 15) (T := TJ4) (N := 4) (i := 0) ho rfl (by decide) in_J4 q251 (.inl rfl) dJ3_ensureCapacityInternal_1 (by rfl) ?_
  refine xr_alenBA hba dJ3_ensureCapacityInternal_4 ?_
  refine xr_aload_n dJ3_ensureCapacityInternal_5 rfl (by first | rfl | exact isRef_rf _) ?_
  refine xr_getfield (ci := 15) (T := TJ4) (N := 4) (i := 1) ho rfl (by decide) in_J4 q252 (.inl rfl) dJ3_ensureCapacityInternal_6 (by rfl) ?_
  refine xr_ishr dJ3_ensureCapacityInternal_9 ?_
  rw [iI_shr0]
  refine xr_istore_n (lv' := [some _, some _, some _]) dJ3_ensureCapacityInternal_10 (by decide) rfl rfl ?_
  refine xr_iload_n dJ3_ensureCapacityInternal_11 rfl ?_
  refine xr_iload_n dJ3_ensureCapacityInternal_12 rfl ?_
  refine xr_isub dJ3_ensureCapacityInternal_13 ?_
  refine xr_if_le (tgt := 38) dJ3_ensureCapacityInternal_14 (by decide) (by omega) (fun c14 => ?_) (fun c14 => ?_)
  · skip
    refine xr_return rfl dJ3_ensureCapacityInternal_38 ?_
    rw [hpo]
    first | exact ⟨rfl, b, cap, ⟨m9, h, ho, hba, hge, hcap, hncap, hch, hel⟩, by omega, Or.inl rfl, Fr.rf⟩ | exact ⟨rfl, b1, (2 * (cap : Int) + 2).toNat, ⟨m9, _, hob35, hb1.put_k ho1 _, hg2, by omega, by omega, fun k h0 h1 => by split; (exact hch k h0 (by omega)); omega, fun k h0 h1 => by rw [if_pos (by omega)]; exact hel k h0 h1⟩, by omega, Or.inr hg1, (hm1.fr.to (fun x hx q => by omega)).tr (Fr.put1 _) (fun x _ q => q)⟩
  · skip
    refine xr_aload_n dJ3_ensureCapacityInternal_17 rfl (by first | rfl | exact isRef_rf _) ?_
    refine xr_aload_n dJ3_ensureCapacityInternal_18 rfl (by first | rfl | exact isRef_rf _) ?_
    refine xr_getfield (ci := 15) (T := TJ4) (N := 4) (i := 0) ho rfl (by decide) in_J4 q251 (.inl rfl) dJ3_ensureCapacityInternal_19 (by rfl) ?_
    refine xr_aload_n dJ3_ensureCapacityInternal_22 rfl (by first | rfl | exact isRef_rf _) ?_
    refine xr_iload_n dJ3_ensureCapacityInternal_23 rfl ?_
    refine xr_callVP (n9 := 1) (rc' := 1) (rs' := 70) (k_ASB_newCapacity hG ho hba (by omega)) ho rfl q1612 q1614 q1631 rfl q1613 q92 q1615 (by decide +kernel) rfl ⟨by decide, Nat.le_of_ble_eq_true rfl⟩ ⟨Nat.le_of_ble_eq_true rfl, Nat.le_of_ble_eq_true rfl⟩ (Nat.le_of_ble_eq_true rfl) dJ3_ensureCapacityInternal_24 rfl (xk_r ?_) (fun _ _ _ h => h.elim)
    refine xr_aload_n dJ3_ensureCapacityInternal_27 rfl (by first | rfl | exact isRef_rf _) ?_
    refine xr_getfield (ci := 15) (T := TJ4) (N := 4) (i := 1) ho rfl (by decide) in_J4 q252 (.inl rfl) dJ3_ensureCapacityInternal_28 (by rfl) ?_
    refine xr_ishl dJ3_ensureCapacityInternal_31 ?_
    rw [iI_shl0]
    refine xr_callS (n9 := 2) (rc' := 0) (rs' := 0) (k_copyOfB hG hba (by omega) (fun k h0 h1 => hch k h0 h1)) q1618 q1619 q112 q1620 (by decide +kernel) rfl ⟨by decide, Nat.le_of_ble_eq_true rfl⟩ ⟨Nat.le_of_ble_eq_true rfl, Nat.le_of_ble_eq_true rfl⟩ (Nat.le_of_ble_eq_true rfl) dJ3_ensureCapacityInternal_32 rfl (fun r w32 hw => ?_) (fun _ _ _ h => h.elim)
    obtain ⟨b1, rfl, hb1, hg1, hg2, hm1⟩ := hw
    show XJ _ _ _ _ _ _ _ _ _ _ _ _ [.ref b1, _]
    have ho1 := ho.ext hm1
    refine xr_putfield (ci := 15) (T := TJ4) (N := 4) (i := 0) (fs' := [_, _, _, _]) ho1 rfl (by decide) in_J4 tyJ4 tyJ4_ok nmJ4 q251 (.inl rfl) rfl dJ3_ensureCapacityInternal_35 (by first | rfl | exact nar_bI _ | exact nar_rf _) (by first | rfl | exact fit_bI _ | exact fit_rf _ _) (by simp) (by rfl) (.inl rfl) (fun hob35 => ?_)
    refine xr_return rfl dJ3_ensureCapacityInternal_38 ?_
    rw [hpo]
    first | exact ⟨rfl, b, cap, ⟨m9, h, ho, hba, hge, hcap, hncap, hch, hel⟩, by omega, Or.inl rfl, Fr.rf⟩ | exact ⟨rfl, b1, (2 * (cap : Int) + 2).toNat, ⟨m9, _, hob35, hb1.put_k ho1 _, hg2, by omega, by omega, fun k h0 h1 => by split; (exact hch k h0 (by omega)); omega, fun k h0 h1 => by rw [if_pos (by omega)]; exact hel k h0 h1⟩, by omega, Or.inr hg1, (hm1.fr.to (fun x hx q => by omega)).tr (Fr.put1 _) (fun x _ q => q)⟩
theorem k_ASB_length {g : GG} {w : WW} {a b n : Nat} {f : Int → Int} (hG : Base g) (hA : SB g w a b n f) : Ct g yJ3_length (.code yJ3_length cJ3_length 1 (some .int)) 0 0 0 0 w [.ref a] (fun r_ w1 => r_ = some (.int (iI n)) ∧ w1 = w) xF := by
  refine Ct.of (lv := [some _]) hG (by decide +kernel) (Nat.le_of_ble_eq_true rfl) rfl ?_
  intro z hg hpo hxp hnm htab
  subst hg
  obtain ⟨cap, m9, h, ho, hba, hge, hcap, hncap, hch, hel⟩ := hA
  refine xr_aload_n dJ3_length_0 rfl (by first | rfl | exact isRef_rf _) ?_
  refine xr_getfield (ci := 15) (T := TJ4) (N := 4) (i := 3) ho rfl (by decide) in_J4 q255 (.inl rfl) dJ3_length_1 (by rfl) ?_
  refine xr_ireturn rfl rfl dJ3_length_4 ?_
  rw [hpo]
  first | exact ⟨rfl, rfl⟩ | exact ⟨ret_bt (by omega), rfl⟩ | exact ⟨ret_bf (by omega), rfl⟩ | exact ⟨ret_i (by omega), rfl⟩
theorem k_SB_length {g : GG} {w : WW} {a b n : Nat} {f : Int → Int} (hG : Base g) (hA : SB g w a b n f) : Ct g yJ4_length (.code yJ4_length cJ4_length 1 (some .int)) 1 20 0 0 w [.ref a] (fun r_ w1 => r_ = some (.int (iI n)) ∧ w1 = w) xF := by
  refine Ct.of (lv := [some _]) hG (by decide +kernel) (Nat.le_of_ble_eq_true rfl) rfl ?_
  intro z hg hpo hxp hnm htab
  subst hg
  obtain ⟨_, hoS⟩ := hA.ob
  refine xr_aload_n dJ4_length_0 rfl (by first | rfl | exact isRef_rf _) ?_
  refine xr_callSU (n9 := 0) (rc' := 0) (rs' := 0) (k_ASB_length hG hA) hoS rfl q1738 q1734 q264 q1733 (by decide) q92 q1739 (by decide +kernel) rfl ⟨by decide, Nat.le_of_ble_eq_true rfl⟩ ⟨Nat.le_of_ble_eq_true rfl, Nat.le_of_ble_eq_true rfl⟩ (Nat.le_of_ble_eq_true rfl) dJ4_length_1 rfl (xk_r ?_) (fun _ _ _ h => h.elim)
  refine xr_ireturn rfl rfl dJ4_length_4 ?_
  rw [hpo]
  first | exact ⟨rfl, rfl⟩ | exact ⟨ret_bt (by omega), rfl⟩ | exact ⟨ret_bf (by omega), rfl⟩ | exact ⟨ret_i (by omega), rfl⟩
theorem k_ASB_init {g : GG} {w : WW} {a : Nat} (f : Int → Int) (hG : Base g) (hJ : KJ g) (ho : Ob w a 15 [.null, .int (iI 0), .int (iI 0), .int (iI 0)]) : Ct g yJ3_init (.code yJ3_init cJ3_init 2 none) 1 12 1 16 w [.ref a, .int (iI 16)] (fun r_ w1 => r_ = none ∧ ∃ b : Nat, SB g w1 a b 0 f ∧ w.2 ≤ b ∧ Fr (fun x => x = a) w w1) xF := by
  refine Ct.of (lv := [some _, some _]) hG (by decide +kernel) (Nat.le_of_ble_eq_true rfl) rfl ?_
  intro z hg hpo hxp hnm htab
  subst hg
  obtain ⟨kc, ⟨fo, kf⟩, kd, kt⟩ := hJ
  refine xr_aload_n dJ3_init_0 rfl (by first | rfl | exact isRef_rf _) ?_
  refine xr_objInit q241 q139 q140 (by decide) (Nat.le_of_ble_eq_true rfl) dJ3_init_1 ?_
  refine xr_getstatic kc q242 dJ3_init_4 ?_
  refine xr_if_eq (tgt := 25) dJ3_init_7 (by decide) (by omega) (fun c7 => absurd c7 (by decide)) (fun c7 => ?_)
  refine xr_aload_n dJ3_init_10 rfl (by first | rfl | exact isRef_rf _) ?_
  refine xr_iload_n dJ3_init_11 rfl ?_
  refine xr_newBA (rc' := 0) (rs' := 0) q265 (by omega) (by omega) dJ3_init_12 (fun a12 e12 ga12 ba12 har12 => ?_)
  have hb2 : BA (zg z) _ a12 16 _ := har12
  have ho2 := ho.new_ne ga12 e12
  refine xr_putfield (ci := 15) (T := TJ4) (N := 4) (i := 0) (fs' := [_, _, _, _]) ho2 rfl (by decide) in_J4 tyJ4 tyJ4_ok nmJ4 q251 (.inl rfl) rfl dJ3_init_14 (by first | rfl | exact nar_bI _ | exact nar_rf _) (by first | rfl | exact fit_bI _ | exact fit_rf _ _) (by simp) (by rfl) (.inl rfl) (fun hob14 => ?_)
  have hb3 := hb2.put_k ho2 (.inl (.inr (15, [.ref a12, .int (iI 0), .int (iI 0), .int (iI 0)])))
  refine xr_aload_n dJ3_init_17 rfl (by first | rfl | exact isRef_rf _) ?_
  refine xr_iconst dJ3_init_18 ?_
  refine xr_putfield (ci := 15) (T := TJ4) (N := 4) (i := 1) (fs' := [_, _, _, _]) hob14 rfl (by decide) in_J4 tyJ4 tyJ4_ok nmJ4 q252 (.inl rfl) rfl dJ3_init_19 (by decide +kernel) (by decide +kernel) (by simp) (by rfl) (.inl rfl) (fun hob19 => ?_)
  refine xr_goto (tgt := 38) dJ3_init_22 (by decide) ?_
  refine xr_return rfl dJ3_init_38 ?_
  rw [hpo]
  exact ⟨rfl, a12, ⟨16, _, _, hob19, hb3.put_k hob14 _, ba12, Or.inl rfl, by omega, fun k _ _ => by (try dsimp only); omega, fun k h0 h1 => by omega⟩, ga12, ((Fr.new ga12 _).tr (Fr.put1 _) (fun x _ q => q)).tr (Fr.put1 _) (fun x _ q => q)⟩
theorem k_SB_init {g : GG} {w : WW} {a : Nat} (f : Int → Int) (hG : Base g) (hJ : KJ g) (ho : Ob w a 15 [.null, .int (iI 0), .int (iI 0), .int (iI 0)]) : Ct g yJ4_init (.code yJ4_init cJ4_init 1 none) 2 33 1 16 w [.ref a] (fun r_ w1 => r_ = none ∧ ∃ b : Nat, SB g w1 a b 0 f ∧ w.2 ≤ b ∧ Fr (fun x => x = a) w w1) xF := by
  refine Ct.of (lv := [some _]) hG (by decide +kernel) (Nat.le_of_ble_eq_true rfl) rfl ?_
  intro z hg hpo hxp hnm htab
  subst hg
  refine xr_aload_n dJ4_init_0 rfl (by first | rfl | exact isRef_rf _) ?_
  refine xr_bipush dJ4_init_1 (by decide) ?_
  refine xr_callI (n9 := 1) (rc' := 0) (rs' := 0) (k_ASB_init f hG hJ ho) q238 q239 q92 q240 rfl (by decide +kernel) rfl ⟨by decide, Nat.le_of_ble_eq_true rfl⟩ ⟨Nat.le_of_ble_eq_true rfl, Nat.le_of_ble_eq_true rfl⟩ (Nat.le_of_ble_eq_true rfl) dJ4_init_3 rfl (fun r w3 hw => ?_) (fun _ _ _ h => h.elim)
  obtain ⟨rfl, hw2⟩ := hw
  refine xr_return rfl dJ4_init_6 ?_
  rw [hpo]
  exact ⟨rfl, hw2⟩
theorem k_canEncode {g : GG} {w : WW} {c : Int} (hG : Base g) (hc : 0 ≤ c ∧ c ≤ 127) : Ct g yJ25_canEncode (.code yJ25_canEncode cJ25_canEncode 1 (some .boolean)) 0 0 0 0 w [.int (iI c)] (fun r_ w1 => r_ = some (.int (iI 1)) ∧ w1 = w) xF := by
  refine Ct.of (lv := [some _]) hG (by decide +kernel) (Nat.le_of_ble_eq_true rfl) rfl ?_
  intro z hg hpo hxp hnm htab
  subst hg
  refine xr_iload_n dJ25_canEncode_0 rfl ?_
  refine xr_sipush dJ25_canEncode_1 (by decide) ?_
  refine xr_icmp_gt (tgt := 11) dJ25_canEncode_4 (by decide) (by omega) (fun c4 => absurd c4 (by omega)) (fun c4 => ?_)
  refine xr_iconst dJ25_canEncode_7 ?_
  refine xr_goto (tgt := 12) dJ25_canEncode_8 (by decide) ?_
  refine xr_ireturn rfl (by first | rfl | exact nar_bI _ | decide +kernel) dJ25_canEncode_12 ?_
  rw [hpo]
  first | exact ⟨rfl, rfl⟩ | exact ⟨ret_bt (by omega), rfl⟩ | exact ⟨ret_bf (by omega), rfl⟩ | exact ⟨ret_i (by omega), rfl⟩
theorem k_ASB_appendC {g : GG} {w : WW} {a b n : Nat} {f : Int → Int} {c : Int} (hG : Base g) (hJ : KJ g) (hA : SB g w a b n f) (hn : n ≤ 69) (hc : 0 ≤ c ∧ c ≤ 127) : Ct g yJ3_append_2 (.code yJ3_append_2 cJ3_append_2 2 (some ((.object "java/lang/AbstractStringBuilder")))) 4 92 1 70 w [.ref a, .int (iI c)] (fun r_ w1 => r_ = some (.ref a) ∧ ∃ b' : Nat, SB g w1 a b' (n + 1) (updI f n c) ∧ (b' = b ∨ w.2 ≤ b') ∧ Fr (fun x => x = a ∨ x = b) w w1) xF := by
  refine Ct.of (lv := [some _, some _]) hG (by decide +kernel) (Nat.le_of_ble_eq_true rfl) rfl ?_
  intro z hg hpo hxp hnm htab
  subst hg
  obtain ⟨_, hoA⟩ := hA.ob
  obtain ⟨cap0, hA0⟩ := hA
  have hA9 := hA0
  obtain ⟨m90, h0, ho0, -⟩ := hA9
  refine xr_aload_n dJ3_append_2_0 rfl (by first | rfl | exact isRef_rf _) ?_
  refine xr_aload_n dJ3_append_2_1 rfl (by first | rfl | exact isRef_rf _) ?_
  refine xr_getfield (ci := 15) (T := TJ4) (N := 4) (i := 3) ho0 rfl (by decide) in_J4 q255 (.inl rfl) dJ3_append_2_2 (by rfl) ?_
  refine xr_iconst dJ3_append_2_5 ?_
  refine xr_iadd dJ3_append_2_6 ?_
  refine xr_callVP (n9 := 1) (rc' := 0) (rs' := 0) (k_ASB_ensure hG ⟨cap0, hA0⟩ (by omega)) ho0 rfl q1608 q1610 q1631 rfl q1609 q92 q1611 (by decide +kernel) rfl ⟨by decide, Nat.le_of_ble_eq_true rfl⟩ ⟨Nat.le_of_ble_eq_true rfl, Nat.le_of_ble_eq_true rfl⟩ (Nat.le_of_ble_eq_true rfl) dJ3_append_2_7 rfl (fun r w7 hw => ?_) (fun _ _ _ h => h.elim)
  obtain ⟨rfl, b2, cap, ⟨m9, h, ho, hba, hge, hcap, hncap, hch, hel⟩, hcp, hbb, hfr0⟩ := hw
  refine xr_aload_n dJ3_append_2_10 rfl (by first | rfl | exact isRef_rf _) ?_
  refine xr_callV (n9 := 0) (rc' := 0) (rs' := 0) (k_ASB_isLatin1 hG hJ ho) ho rfl q1628 q1629 q1631 q92 q1632 (by decide +kernel) rfl ⟨by decide, Nat.le_of_ble_eq_true rfl⟩ ⟨Nat.le_of_ble_eq_true rfl, Nat.le_of_ble_eq_true rfl⟩ (Nat.le_of_ble_eq_true rfl) dJ3_append_2_11 rfl (xk_r ?_) (fun _ _ _ h => h.elim)
  refine xr_if_eq (tgt := 45) dJ3_append_2_14 (by decide) (by omega) (fun c14 => absurd c14 (by decide)) (fun c14 => ?_)
  refine xr_iload_n dJ3_append_2_17 rfl ?_
  refine xr_callS (n9 := 1) (rc' := 0) (rs' := 0) (k_canEncode hG hc) q1678 q1679 q127 q1680 (by decide +kernel) rfl ⟨by decide, Nat.le_of_ble_eq_true rfl⟩ ⟨Nat.le_of_ble_eq_true rfl, Nat.le_of_ble_eq_true rfl⟩ (Nat.le_of_ble_eq_true rfl) dJ3_append_2_18 rfl (xk_r ?_) (fun _ _ _ h => h.elim)
  refine xr_if_eq (tgt := 45) dJ3_append_2_21 (by decide) (by omega) (fun c21 => absurd c21 (by decide)) (fun c21 => ?_)
  refine xr_aload_n dJ3_append_2_24 rfl (by first | rfl | exact isRef_rf _) ?_
  refine xr_getfield (ci := 15) (T := TJ4) (N := 4) (i := 0) ho rfl (by decide) in_J4 q251 (.inl rfl) dJ3_append_2_25 (by rfl) ?_
  refine xr_aload_n dJ3_append_2_28 rfl (by first | rfl | exact isRef_rf _) ?_
  refine xr_dup dJ3_append_2_29 (by first | rfl | exact cat_rf _) ?_
  refine xr_getfield (ci := 15) (T := TJ4) (N := 4) (i := 3) ho rfl (by decide) in_J4 q255 (.inl rfl) dJ3_append_2_30 (by rfl) ?_
  refine xr_dup_x1 dJ3_append_2_33 (by first | rfl | exact cat_rf _) (by first | rfl | exact cat_rf _) ?_
  refine xr_iconst dJ3_append_2_34 ?_
  refine xr_iadd dJ3_append_2_35 ?_
  refine xr_putfield (ci := 15) (T := TJ4) (N := 4) (i := 3) (fs' := [_, _, _, _]) ho rfl (by decide) in_J4 tyJ4 tyJ4_ok nmJ4 q255 (.inl rfl) rfl dJ3_append_2_36 (by first | rfl | exact nar_bI _ | exact nar_rf _) (by first | rfl | exact fit_bI _ | exact fit_rf _ _) (by simp) (by rfl) (.inl rfl) (fun hob36 => ?_)
  have hba2 := hba.put_k ho (.inl (.inr (15, [.ref b2, .int (iI 0), m9, .int (iI ((n : Int) + 1))])))
  refine xr_iload_n dJ3_append_2_39 rfl ?_
  refine xr_i2bs dJ3_append_2_40 (by omega) ?_
  refine xr_bastore hba2 hge (by omega) (by omega) (by omega) dJ3_append_2_41 (fun e41 har41 => ?_)
  have hob2 := hob36.put_BA hba2 e41
  refine xr_goto (tgt := 75) dJ3_append_2_42 (by decide) ?_
  refine xr_aload_n dJ3_append_2_75 rfl (by first | rfl | exact isRef_rf _) ?_
  first | refine xr_areturn rfl rfl dJ3_append_2_76 ?_ | refine xr_areturnN rfl rfl dJ3_append_2_76 ?_
  rw [hpo]
  refine ⟨rfl, b2, ⟨cap, m9, _, hob2, har41, hge, hcap, by omega, fun k k0 k1 => ?_, fun k k0 k1 => ?_⟩, hbb, ?_⟩
  · unfold updI
    split
    · omega
    · exact hch k k0 k1
  · unfold updI
    split
    · rfl
    · exact hel k k0 (by omega)
  · have hfr1 := (hfr0.to (S' := fun x => x = a ∨ x = b) (fun x _ q => Or.inl q)).tr (Fr.put1 (.inl (.inr (15, [.ref b2, .int (iI 0), m9, .int (iI ((n : Int) + 1))])))) (fun x _ q => Or.inl q)
    refine hfr1.tr (Fr.put1 e41) (fun x hx q => ?_)
    rcases hbb with q9 | q9
    · exact Or.inr (q.trans q9)
    · have q : x = b2 := q
      omega
theorem k_SB_appendC {g : GG} {w : WW} {a b n : Nat} {f : Int → Int} {c : Int} (hG : Base g) (hJ : KJ g) (hA : SB g w a b n f) (hn : n ≤ 69) (hc : 0 ≤ c ∧ c ≤ 127) : Ct g yJ4_append_2 (.code yJ4_append_2 cJ4_append_2 2 (some ((.object "java/lang/StringBuilder")))) 5 113 1 70 w [.ref a, .int (iI c)] (fun r_ w1 => r_ = some (.ref a) ∧ ∃ b' : Nat, SB g w1 a b' (n + 1) (updI f n c) ∧ (b' = b ∨ w.2 ≤ b') ∧ Fr (fun x => x = a ∨ x = b) w w1) xF := by
  refine Ct.of (lv := [some _, some _]) hG (by decide +kernel) (Nat.le_of_ble_eq_true rfl) rfl ?_
  intro z hg hpo hxp hnm htab
  subst hg
  obtain ⟨_, hoS⟩ := hA.ob
  refine xr_aload_n dJ4_append_2_0 rfl (by first | rfl | exact isRef_rf _) ?_
  refine xr_iload_n dJ4_append_2_1 rfl ?_
  refine xr_callSU (n9 := 1) (rc' := 0) (rs' := 0) (k_ASB_appendC hG hJ hA hn hc) hoS rfl q1675 q2746 q264 q1676 (by decide) q92 q1677 (by decide +kernel) rfl ⟨by decide, Nat.le_of_ble_eq_true rfl⟩ ⟨Nat.le_of_ble_eq_true rfl, Nat.le_of_ble_eq_true rfl⟩ (Nat.le_of_ble_eq_true rfl) dJ4_append_2_2 rfl (fun r w2 hw => ?_) (fun _ _ _ h => h.elim)
  obtain ⟨rfl, hw2⟩ := hw
  show XJ _ _ _ _ _ _ _ _ _ _ _ _ [.ref a]
  refine xr_pop dJ4_append_2_5 (by first | rfl | exact cat_rf _) ?_
  refine xr_aload_n dJ4_append_2_6 rfl (by first | rfl | exact isRef_rf _) ?_
  first | refine xr_areturn rfl rfl dJ4_append_2_7 ?_ | refine xr_areturnN rfl rfl dJ4_append_2_7 ?_
  rw [hpo]
  exact ⟨rfl, hw2⟩
theorem k_stringSize {g : GG} {w : WW} {v : Int} (hG : Base g) (hv : 0 ≤ v ∧ v ≤ 99) : Ct g yJ21_stringSize (.code yJ21_stringSize cJ21_stringSize 4 (some .int)) 0 0 0 0 w [.int (iI v)] (fun r_ w1 => r_ = some (.int (iI (lenI v))) ∧ w1 = w) xF := by
  refine Ct.of (lv := [some _, none, none, none]) hG (by decide +kernel) (Nat.le_of_ble_eq_true rfl) rfl ?_
  intro z hg hpo hxp hnm htab
  subst hg
  refine xr_iconst dJ21_stringSize_0 ?_
  refine xr_istore_n (lv' := [some _, some _, none, none]) dJ21_stringSize_1 (by decide) rfl rfl ?_
  refine xr_iload_n dJ21_stringSize_2 rfl ?_
  refine xr_if_lt (tgt := 11) dJ21_stringSize_3 (by decide) (by omega) (fun c3 => absurd c3 (by omega)) (fun c3 => ?_)
  refine xr_iconst dJ21_stringSize_6 ?_
  refine xr_istore_n (lv' := [some _, some _, none, none]) dJ21_stringSize_7 (by decide) rfl rfl ?_
  refine xr_iload_n dJ21_stringSize_8 rfl ?_
  refine xr_ineg dJ21_stringSize_9 ?_
  refine xr_istore_n (lv' := [some _, some _, none, none]) dJ21_stringSize_10 (by decide) rfl rfl ?_
  refine xr_bipush dJ21_stringSize_11 (by decide) ?_
  refine xr_istore_n (lv' := [some _, some _, some _, none]) dJ21_stringSize_13 (by decide) rfl rfl ?_
  refine xr_iconst dJ21_stringSize_14 ?_
  refine xr_istore_n (lv' := [some _, some _, some _, some _]) dJ21_stringSize_15 (by decide) rfl rfl ?_
  have lp16 : ∀ (fu16 : Nat) (i p : Int), ((i = 1 ∧ p = -10 ∧ 1 < fu16) ∨ (i = 2 ∧ p = -100 ∧ 10 ≤ v ∧ 0 < fu16)) → XJ z yJ21_stringSize.cls cJ21_stringSize 4 (some .int) 0 0 w (0 * fu16 + 0) (0 * fu16 + 0) 16 [some (.int (iI (-v))), some (.int (iI 0)), some (.int (iI p)), some (.int (iI i))] [] := by
    intro fu16
    induction fu16 with
    | zero =>
      intro i p hh
      omega
    | succ fu16 ih16 =>
      intro i p hh
      refine xr_iload_n dJ21_stringSize_16 rfl ?_
      refine xr_bipush dJ21_stringSize_17 (by decide) ?_
      refine xr_icmp_ge (tgt := 42) dJ21_stringSize_19 (by decide) (by omega) (fun c19 => absurd c19 (by omega)) (fun c19 => ?_)
      refine xr_iload_n dJ21_stringSize_22 rfl ?_
      refine xr_iload_n dJ21_stringSize_23 rfl ?_
      refine xr_icmp_le (tgt := 31) dJ21_stringSize_24 (by decide) (by omega) (fun c24 => ?_) (fun c24 => ?_)
      · skip
        refine xr_bipush dJ21_stringSize_31 (by decide) ?_
        refine xr_iload_n dJ21_stringSize_33 rfl ?_
        refine xr_imul dJ21_stringSize_34 ?_
        refine xr_istore_n (lv' := [some _, some _, some _, some _]) dJ21_stringSize_35 (by decide) rfl rfl ?_
        refine xr_iinc (lv' := [some _, some _, some _, some _]) dJ21_stringSize_36 rfl (by decide) rfl rfl ?_
        refine xr_goto (tgt := 16) dJ21_stringSize_39 (by decide) ?_
        refine xr_wk (rc' := 0 * fu16 + 0) (rs' := 0 * fu16 + 0) ⟨by omega, by omega⟩ (ih16 _ _ (by omega))
      · skip
        refine xr_iload_n dJ21_stringSize_27 rfl ?_
        refine xr_iload_n dJ21_stringSize_28 rfl ?_
        refine xr_iadd dJ21_stringSize_29 ?_
        refine xr_ireturn rfl rfl dJ21_stringSize_30 ?_
        rw [hpo]
        exact ⟨by unfold lenI; congr 3; split <;> omega, rfl⟩
  refine xr_wk (rc' := 0 * 3 + 0) (rs' := 0 * 3 + 0) ⟨by omega, by omega⟩ (lp16 3 _ _ (by omega))
theorem k_getChars {g : GG} {w : WW} {b cap : Nat} {h : Int → Int} {v i : Int} (hG : Base g) (hJ : KJ g) (hba : BA g w b cap h) (hge : gb g ≤ b) (hv : 0 ≤ v ∧ v ≤ 99) (hi : lenI v ≤ i ∧ i ≤ cap ∧ cap ≤ 70) : Ct g yJ21_getChars (.code yJ21_getChars cJ21_getChars 7 (some .int)) 0 0 0 0 w [.int (iI v), .int (iI i), .ref b] (fun r_ w1 => (∃ x : Int, r_ = some (.int (iI x))) ∧ BA g w1 b cap (appI h (i - lenI v) v) ∧ Fr (fun x => x = b) w w1) xF := by
  refine Ct.of (lv := [some _, some _, some _, none, none, none, none]) hG (by decide +kernel) (Nat.le_of_ble_eq_true rfl) rfl ?_
  intro z hg hpo hxp hnm htab
  subst hg
  obtain ⟨kc, ⟨fo, kf⟩, kd, kt⟩ := hJ
  refine xr_base (fun hB9 hk9 => ?_)
  have hd1 := kd.2.2.mo hk9 kd.2.1
  have hd2 := kt.2.2.mo hk9 kt.2.1
  have hl9 : (lenI v : Int) = if v < 10 then 1 else 2 := by unfold lenI; split <;> rfl
  refine xr_iload_n dJ21_getChars_0 rfl ?_
  refine xr_istore (lv' := [some _, some _, some _, none, none, some _, none]) dJ21_getChars_1 (by decide) rfl rfl ?_
  refine xr_iload_n dJ21_getChars_3 rfl ?_
  refine xr_if_ge (tgt := 11) dJ21_getChars_4 (by decide) (by omega) (fun c4 => ?_) (fun c4 => absurd c4 (by omega))
  refine xr_iconst dJ21_getChars_11 ?_
  refine xr_istore (lv' := [some _, some _, some _, none, none, some _, some _]) dJ21_getChars_12 (by decide) rfl rfl ?_
  refine xr_iload dJ21_getChars_14 rfl ?_
  refine xr_if_ne (tgt := 22) dJ21_getChars_16 (by decide) (by decide) (fun c16 => absurd c16 (by decide)) (fun c16 => ?_)
  refine xr_iload_n dJ21_getChars_19 rfl ?_
  refine xr_ineg dJ21_getChars_20 ?_
  refine xr_istore_n (lv' := [some _, some _, some _, none, none, some _, some _]) dJ21_getChars_21 (by decide) rfl rfl ?_
  refine xr_iload_n dJ21_getChars_22 rfl ?_
  refine xr_bipush dJ21_getChars_23 (by decide) ?_
  refine xr_icmp_gt (tgt := 72) dJ21_getChars_25 (by decide) (by omega) (fun c25 => ?_) (fun c25 => absurd c25 (by omega))
  refine xr_aload_n dJ21_getChars_72 rfl (by first | rfl | exact isRef_rf _) ?_
  refine xr_iinc (lv' := [some _, some _, some _, none, none, some _, some _]) dJ21_getChars_73 rfl (by decide) rfl rfl ?_
  refine xr_iload dJ21_getChars_76 rfl ?_
  refine xr_getstatic kd.1 q1636 dJ21_getChars_78 ?_
  refine xr_iload_n dJ21_getChars_81 rfl ?_
  refine xr_ineg dJ21_getChars_82 ?_
  refine xr_baload hd1 (by omega) (by omega) dJ21_getChars_83 ?_
  refine xr_bastore hba hge (by omega) (by omega) (by omega) dJ21_getChars_84 (fun e84 har84 => ?_)
  have hne : gC (zg z) 3 ≠ b := by have := kt.2.1; omega
  have hd3 := hd2.put_ne hne e84
  refine xr_iload_n dJ21_getChars_85 rfl ?_
  refine xr_bipush dJ21_getChars_86 (by decide) ?_
  refine xr_icmp_ge (tgt := 104) dJ21_getChars_88 (by decide) (by omega) (fun c88 => ?_) (fun c88 => ?_)
  · skip
    have hl1 : (lenI v : Int) = 1 := by rw [hl9, if_pos (by omega)]
    refine xr_iload dJ21_getChars_104 rfl ?_
    refine xr_if_eq (tgt := 118) dJ21_getChars_106 (by decide) (by decide) (fun c106 => ?_) (fun c106 => absurd c106 (by decide))
    refine xr_iload dJ21_getChars_118 rfl ?_
    refine xr_ireturn rfl rfl dJ21_getChars_120 ?_
    rw [hpo]
    first
    | exact ⟨⟨_, rfl⟩, har84.to (fun k k0 k1 => by unfold appI; rw [if_pos (by omega)]; unfold updI; split <;> split <;> omega), Fr.put1 _⟩
    | exact ⟨⟨_, rfl⟩, har103.to (fun k k0 k1 => by unfold appI; rw [if_neg (by omega)]; unfold updI; split <;> split <;> (first | omega | (split <;> split <;> omega))), (Fr.put1 _).tr (Fr.put1 _) (fun x _ q => q)⟩
  · skip
    have hl2 : (lenI v : Int) = 2 := by rw [hl9, if_neg (by omega)]
    refine xr_aload_n dJ21_getChars_91 rfl (by first | rfl | exact isRef_rf _) ?_
    refine xr_iinc (lv' := [some _, some _, some _, none, none, some _, some _]) dJ21_getChars_92 rfl (by decide) rfl rfl ?_
    refine xr_iload dJ21_getChars_95 rfl ?_
    refine xr_getstatic kt.1 q1638 dJ21_getChars_97 ?_
    refine xr_iload_n dJ21_getChars_100 rfl ?_
    refine xr_ineg dJ21_getChars_101 ?_
    refine xr_baload hd3 (by omega) (by omega) dJ21_getChars_102 ?_
    refine xr_bastore har84 hge (by omega) (by omega) (by omega) dJ21_getChars_103 (fun e103 har103 => ?_)
    refine xr_iload dJ21_getChars_104 rfl ?_
    refine xr_if_eq (tgt := 118) dJ21_getChars_106 (by decide) (by decide) (fun c106 => ?_) (fun c106 => absurd c106 (by decide))
    refine xr_iload dJ21_getChars_118 rfl ?_
    refine xr_ireturn rfl rfl dJ21_getChars_120 ?_
    rw [hpo]
    first
    | exact ⟨⟨_, rfl⟩, har84.to (fun k k0 k1 => by unfold appI; rw [if_pos (by omega)]; unfold updI; split <;> split <;> omega), Fr.put1 _⟩
    | exact ⟨⟨_, rfl⟩, har103.to (fun k k0 k1 => by unfold appI; rw [if_neg (by omega)]; unfold updI; split <;> split <;> (first | omega | (split <;> split <;> omega))), (Fr.put1 _).tr (Fr.put1 _) (fun x _ q => q)⟩
theorem k_ASB_appendI {g : GG} {w : WW} {a b n : Nat} {f : Int → Int} {v : Int} (hG : Base g) (hJ : KJ g) (hA : SB g w a b n f) (hn : n ≤ 60) (hv : 0 ≤ v ∧ v ≤ 99) : Ct g yJ3_append (.code yJ3_append cJ3_append 4 (some ((.object "java/lang/AbstractStringBuilder")))) 4 92 1 70 w [.ref a, .int (iI v)] (fun r_ w1 => r_ = some (.ref a) ∧ ∃ b' : Nat, SB g w1 a b' (n + lenI v) (appI f n v) ∧ (b' = b ∨ w.2 ≤ b') ∧ Fr (fun x => x = a ∨ x = b) w w1) xF := by
  refine Ct.of (lv := [some _, some _, none, none]) hG (by decide +kernel) (Nat.le_of_ble_eq_true rfl) rfl ?_
  intro z hg hpo hxp hnm htab
  subst hg
  have hl9 : 1 ≤ lenI v ∧ lenI v ≤ 2 := by unfold lenI; split <;> omega
  have hlv : (lenI v : Int) = if v < 10 then 1 else 2 := by unfold lenI; split <;> rfl
  obtain ⟨cap0, hA0⟩ := hA
  have hA9 := hA0
  obtain ⟨m90, h0, ho0, -⟩ := hA9
  refine xr_aload_n dJ3_append_0 rfl (by first | rfl | exact isRef_rf _) ?_
  refine xr_getfield (ci := 15) (T := TJ4) (N := 4) (i := 3) ho0 rfl (by decide) in_J4 q255 (.inl rfl) dJ3_append_1 (by rfl) ?_
  refine xr_istore_n (lv' := [some _, some _, some _, none]) dJ3_append_4 (by decide) rfl rfl ?_
  refine xr_iload_n dJ3_append_5 rfl ?_
  refine xr_iload_n dJ3_append_6 rfl ?_
  refine xr_callS (n9 := 1) (rc' := 1) (rs' := 70) (k_stringSize hG hv) q1605 q1606 q121 q1607 (by decide +kernel) rfl ⟨by decide, Nat.le_of_ble_eq_true rfl⟩ ⟨Nat.le_of_ble_eq_true rfl, Nat.le_of_ble_eq_true rfl⟩ (Nat.le_of_ble_eq_true rfl) dJ3_append_7 rfl (xk_r ?_) (fun _ _ _ h => h.elim)
  refine xr_iadd dJ3_append_10 ?_
  refine xr_istore_n (lv' := [some _, some _, some _, some _]) dJ3_append_11 (by decide) rfl rfl ?_
  refine xr_aload_n dJ3_append_12 rfl (by first | rfl | exact isRef_rf _) ?_
  refine xr_iload_n dJ3_append_13 rfl ?_
  refine xr_callVP (n9 := 1) (rc' := 0) (rs' := 0) (k_ASB_ensure hG ⟨cap0, hA0⟩ (by omega)) ho0 rfl q1608 q1610 q1631 rfl q1609 q92 q1611 (by decide +kernel) rfl ⟨by decide, Nat.le_of_ble_eq_true rfl⟩ ⟨Nat.le_of_ble_eq_true rfl, Nat.le_of_ble_eq_true rfl⟩ (Nat.le_of_ble_eq_true rfl) dJ3_append_14 rfl (fun r w14 hw => ?_) (fun _ _ _ h => h.elim)
  obtain ⟨rfl, b2, cap, ⟨m9, h, ho, hba, hge, hcap, hncap, hch, hel⟩, hcp, hbb, hfr0⟩ := hw
  refine xr_aload_n dJ3_append_17 rfl (by first | rfl | exact isRef_rf _) ?_
  refine xr_callV (n9 := 0) (rc' := 0) (rs' := 0) (k_ASB_isLatin1 hG hJ ho) ho rfl q1628 q1629 q1631 q92 q1632 (by decide +kernel) rfl ⟨by decide, Nat.le_of_ble_eq_true rfl⟩ ⟨Nat.le_of_ble_eq_true rfl, Nat.le_of_ble_eq_true rfl⟩ (Nat.le_of_ble_eq_true rfl) dJ3_append_18 rfl (xk_r ?_) (fun _ _ _ h => h.elim)
  refine xr_if_eq (tgt := 37) dJ3_append_21 (by decide) (by omega) (fun c21 => absurd c21 (by decide)) (fun c21 => ?_)
  refine xr_iload_n dJ3_append_24 rfl ?_
  refine xr_iload_n dJ3_append_25 rfl ?_
  refine xr_aload_n dJ3_append_26 rfl (by first | rfl | exact isRef_rf _) ?_
  refine xr_getfield (ci := 15) (T := TJ4) (N := 4) (i := 0) ho rfl (by decide) in_J4 q251 (.inl rfl) dJ3_append_27 (by rfl) ?_
  refine xr_callS (n9 := 3) (rc' := 0) (rs' := 0) (k_getChars hG hJ hba hge hv (by omega)) q1633 q1634 q121 q1635 (by decide +kernel) rfl ⟨by decide, Nat.le_of_ble_eq_true rfl⟩ ⟨Nat.le_of_ble_eq_true rfl, Nat.le_of_ble_eq_true rfl⟩ (Nat.le_of_ble_eq_true rfl) dJ3_append_30 rfl (fun r w30 hw => ?_) (fun _ _ _ h => h.elim)
  obtain ⟨⟨x9, rfl⟩, hbc, hfr1⟩ := hw
  show XJ _ _ _ _ _ _ _ _ _ _ _ _ [.int (iI x9)]
  have ho1 := ho.fr hfr1 (Ne.symm (hba.ob_ne ho))
  rw [show (n : Int) + lenI v - lenI v = n by omega] at hbc
  refine xr_pop dJ3_append_33 (by first | rfl | exact cat_rf _) ?_
  refine xr_goto (tgt := 48) dJ3_append_34 (by decide) ?_
  refine xr_aload_n dJ3_append_48 rfl (by first | rfl | exact isRef_rf _) ?_
  refine xr_iload_n dJ3_append_49 rfl ?_
  refine xr_putfield (ci := 15) (T := TJ4) (N := 4) (i := 3) (fs' := [_, _, _, _]) ho1 rfl (by decide) in_J4 tyJ4 tyJ4_ok nmJ4 q255 (.inl rfl) rfl dJ3_append_50 (by first | rfl | exact nar_bI _ | exact nar_rf _) (by first | rfl | exact fit_bI _ | exact fit_rf _ _) (by simp) (by rfl) (.inl rfl) (fun hob50 => ?_)
  refine xr_aload_n dJ3_append_53 rfl (by first | rfl | exact isRef_rf _) ?_
  first | refine xr_areturn rfl rfl dJ3_append_54 ?_ | refine xr_areturnN rfl rfl dJ3_append_54 ?_
  rw [hpo]
  refine ⟨rfl, b2, ⟨cap, m9, _, (show Ob _ a 15 [.ref b2, .int (iI 0), m9, .int (iI ((n + lenI v : Nat) : Int))] from by rw [Int.natCast_add]; exact hob50), hbc.put_k ho1 _, hge, hcap, by omega, fun k k0 k1 => ?_, fun k k0 k1 => ?_⟩, hbb, ?_⟩
  · exact appI_bd hv (hch k k0 k1)
  · exact appI_congr hel k0 (by omega)
  · have hfr2 : Fr (fun x => x = a ∨ x = b) w _ := (hfr0.to (S' := fun x => x = a ∨ x = b) (fun x _ q => Or.inl q)).tr hfr1 (fun x hx q => by
      have q : x = b2 := q
      rcases hbb with q9 | q9
      · exact Or.inr (q.trans q9)
      · omega)
    exact hfr2.tr (Fr.put1 _) (fun x _ q => Or.inl q)
theorem k_SB_appendI {g : GG} {w : WW} {a b n : Nat} {f : Int → Int} {v : Int} (hG : Base g) (hJ : KJ g) (hA : SB g w a b n f) (hn : n ≤ 60) (hv : 0 ≤ v ∧ v ≤ 99) : Ct g yJ4_append (.code yJ4_append cJ4_append 2 (some ((.object "java/lang/StringBuilder")))) 5 115 1 70 w [.ref a, .int (iI v)] (fun r_ w1 => r_ = some (.ref a) ∧ ∃ b' : Nat, SB g w1 a b' (n + lenI v) (appI f n v) ∧ (b' = b ∨ w.2 ≤ b') ∧ Fr (fun x => x = a ∨ x = b) w w1) xF := by
  refine Ct.of (lv := [some _, some _]) hG (by decide +kernel) (Nat.le_of_ble_eq_true rfl) rfl ?_
  intro z hg hpo hxp hnm htab
  subst hg
  obtain ⟨_, hoS⟩ := hA.ob
  refine xr_aload_n dJ4_append_0 rfl (by first | rfl | exact isRef_rf _) ?_
  refine xr_iload_n dJ4_append_1 rfl ?_
  refine xr_callSU (n9 := 1) (rc' := 0) (rs' := 0) (k_ASB_appendI hG hJ hA hn hv) hoS rfl q1602 q2743 q264 q1603 (by decide) q92 q1604 (by decide +kernel) rfl ⟨by decide, Nat.le_of_ble_eq_true rfl⟩ ⟨Nat.le_of_ble_eq_true rfl, Nat.le_of_ble_eq_true rfl⟩ (Nat.le_of_ble_eq_true rfl) dJ4_append_2 rfl (fun r w2 hw => ?_) (fun _ _ _ h => h.elim)
  obtain ⟨rfl, hw2⟩ := hw
  show XJ _ _ _ _ _ _ _ _ _ _ _ _ [.ref a]
  refine xr_pop dJ4_append_5 (by first | rfl | exact cat_rf _) ?_
  refine xr_aload_n dJ4_append_6 rfl (by first | rfl | exact isRef_rf _) ?_
  first | refine xr_areturn rfl rfl dJ4_append_7 ?_ | refine xr_areturnN rfl rfl dJ4_append_7 ?_
  rw [hpo]
  exact ⟨rfl, hw2⟩
theorem k_ASB_setLength {g : GG} {w : WW} {a b n : Nat} {f : Int → Int} (hG : Base g) (hA : SB g w a b n f) : Ct g yJ3_setLength (.code yJ3_setLength cJ3_setLength 2 none) 4 92 1 70 w [.ref a, .int (iI 0)] (fun r_ w1 => r_ = none ∧ ∃ b' : Nat, SB g w1 a b' 0 f ∧ (b' = b ∨ w.2 ≤ b') ∧ Fr (fun x => x = a) w w1) xF := by
  refine Ct.of (lv := [some _, some _]) hG (by decide +kernel) (Nat.le_of_ble_eq_true rfl) rfl ?_
  intro z hg hpo hxp hnm htab
  subst hg
  obtain ⟨cap0, hA0⟩ := hA
  have hA9 := hA0
  obtain ⟨m90, h0, ho0, -⟩ := hA9
  refine xr_iload_n dJ3_setLength_0 rfl ?_
  refine xr_if_ge (tgt := 13) dJ3_setLength_1 (by decide) (by omega) (fun c1 => ?_) (fun c1 => absurd c1 (by decide))
  refine xr_aload_n dJ3_setLength_13 rfl (by first | rfl | exact isRef_rf _) ?_
  refine xr_iload_n dJ3_setLength_14 rfl ?_
  refine xr_callVP (n9 := 1) (rc' := 0) (rs' := 0) (k_ASB_ensure hG ⟨cap0, hA0⟩ (by omega)) ho0 rfl q1608 q1610 q1631 rfl q1609 q92 q1611 (by decide +kernel) rfl ⟨by decide, Nat.le_of_ble_eq_true rfl⟩ ⟨Nat.le_of_ble_eq_true rfl, Nat.le_of_ble_eq_true rfl⟩ (Nat.le_of_ble_eq_true rfl) dJ3_setLength_15 rfl (fun r w15 hw => ?_) (fun _ _ _ h => h.elim)
  obtain ⟨rfl, b2, cap, ⟨m9, h, ho, hba, hge, hcap, hncap, hch, hel⟩, hcp, hbb, hfr0⟩ := hw
  refine xr_aload_n dJ3_setLength_18 rfl (by first | rfl | exact isRef_rf _) ?_
  refine xr_getfield (ci := 15) (T := TJ4) (N := 4) (i := 3) ho rfl (by decide) in_J4 q255 (.inl rfl) dJ3_setLength_19 (by rfl) ?_
  refine xr_iload_n dJ3_setLength_22 rfl ?_
  refine xr_icmp_ge (tgt := 63) dJ3_setLength_23 (by decide) (by omega) (fun c23 => ?_) (fun c23 => absurd c23 (by omega))
  refine xr_aload_n dJ3_setLength_63 rfl (by first | rfl | exact isRef_rf _) ?_
  refine xr_getfield (ci := 15) (T := TJ4) (N := 4) (i := 3) ho rfl (by decide) in_J4 q255 (.inl rfl) dJ3_setLength_64 (by rfl) ?_
  refine xr_iload_n dJ3_setLength_67 rfl ?_
  refine xr_icmp_le (tgt := 76) dJ3_setLength_68 (by decide) (by omega) (fun c68 => ?_) (fun c68 => ?_)
  · skip
    have ho7 := ho
    have hba7 := hba
    have hfr7 := hfr0
    refine xr_aload_n dJ3_setLength_76 rfl (by first | rfl | exact isRef_rf _) ?_
    refine xr_iload_n dJ3_setLength_77 rfl ?_
    refine xr_putfield (ci := 15) (T := TJ4) (N := 4) (i := 3) (fs' := [_, _, _, _]) ho7 rfl (by decide) in_J4 tyJ4 tyJ4_ok nmJ4 q255 (.inl rfl) rfl dJ3_setLength_78 (by first | rfl | exact nar_bI _ | exact nar_rf _) (by first | rfl | exact fit_bI _ | exact fit_rf _ _) (by simp) (by rfl) (.inl rfl) (fun hob78 => ?_)
    refine xr_return rfl dJ3_setLength_81 ?_
    rw [hpo]
    exact ⟨rfl, b2, ⟨cap, _, _, hob78, hba7.put_k ho7 _, hge, hcap, by omega, hch, fun k k0 k1 => by omega⟩, hbb, hfr7.tr (Fr.put1 _) (fun x _ q => q)⟩
  · skip
    refine xr_aload_n dJ3_setLength_71 rfl (by first | rfl | exact isRef_rf _) ?_
    refine xr_iconst dJ3_setLength_72 ?_
    refine xr_putfield (ci := 15) (T := TJ4) (N := 4) (i := 2) (fs' := [_, _, _, _]) ho rfl (by decide) in_J4 tyJ4 tyJ4_ok nmJ4 q253 (.inl rfl) rfl dJ3_setLength_73 (by decide +kernel) (by decide +kernel) (by simp) (by rfl) (.inl rfl) (fun hob73 => ?_)
    have ho7 := hob73
    have hba7 := hba.put_k ho (.inl (.inr (15, [.ref b2, .int (iI 0), .int (iI 1), .int (iI n)])))
    have hfr7 := hfr0.tr (Fr.put1 (.inl (.inr (15, [.ref b2, .int (iI 0), .int (iI 1), .int (iI n)])))) (fun x _ q => q)
    refine xr_aload_n dJ3_setLength_76 rfl (by first | rfl | exact isRef_rf _) ?_
    refine xr_iload_n dJ3_setLength_77 rfl ?_
    refine xr_putfield (ci := 15) (T := TJ4) (N := 4) (i := 3) (fs' := [_, _, _, _]) ho7 rfl (by decide) in_J4 tyJ4 tyJ4_ok nmJ4 q255 (.inl rfl) rfl dJ3_setLength_78 (by first | rfl | exact nar_bI _ | exact nar_rf _) (by first | rfl | exact fit_bI _ | exact fit_rf _ _) (by simp) (by rfl) (.inl rfl) (fun hob78 => ?_)
    refine xr_return rfl dJ3_setLength_81 ?_
    rw [hpo]
    exact ⟨rfl, b2, ⟨cap, _, _, hob78, hba7.put_k ho7 _, hge, hcap, by omega, hch, fun k k0 k1 => by omega⟩, hbb, hfr7.tr (Fr.put1 _) (fun x _ q => q)⟩
theorem k_SB_setLength {g : GG} {w : WW} {a b n : Nat} {f : Int → Int} (hG : Base g) (hA : SB g w a b n f) : Ct g yJ4_setLength (.code yJ4_setLength cJ4_setLength 2 none) 5 113 1 70 w [.ref a, .int (iI 0)] (fun r_ w1 => r_ = none ∧ ∃ b' : Nat, SB g w1 a b' 0 f ∧ (b' = b ∨ w.2 ≤ b') ∧ Fr (fun x => x = a) w w1) xF := by
  refine Ct.of (lv := [some _, some _]) hG (by decide +kernel) (Nat.le_of_ble_eq_true rfl) rfl ?_
  intro z hg hpo hxp hnm htab
  subst hg
  obtain ⟨_, hoS⟩ := hA.ob
  refine xr_aload_n dJ4_setLength_0 rfl (by first | rfl | exact isRef_rf _) ?_
  refine xr_iload_n dJ4_setLength_1 rfl ?_
  refine xr_callSU (n9 := 1) (rc' := 0) (rs' := 0) (k_ASB_setLength hG hA) hoS rfl q1910 q2753 q264 q1911 (by decide) q92 q1912 (by decide +kernel) rfl ⟨by decide, Nat.le_of_ble_eq_true rfl⟩ ⟨Nat.le_of_ble_eq_true rfl, Nat.le_of_ble_eq_true rfl⟩ (Nat.le_of_ble_eq_true rfl) dJ4_setLength_2 rfl (fun r w2 hw => ?_) (fun _ _ _ h => h.elim)
  obtain ⟨rfl, hw2⟩ := hw
  refine xr_return rfl dJ4_setLength_5 ?_
  rw [hpo]
  exact ⟨rfl, hw2⟩
theorem k_checkLength {g : GG} {w : WW} {n : Int} (hG : Base g) (hn : 0 ≤ n ∧ n ≤ 1000) : Ct g yJ17_checkLength (.code yJ17_checkLength cJ17_checkLength 2 none) 0 0 0 0 w [.int (iI 0), .int (iI n)] (fun r_ w1 => r_ = none ∧ w1 = w) xF := by
  refine Ct.of (lv := [some _, some _]) hG (by decide +kernel) (Nat.le_of_ble_eq_true rfl) rfl ?_
  intro z hg hpo hxp hnm htab
  subst hg
  refine xr_iload_n dJ17_checkLength_0 rfl ?_
  refine xr_iload_n dJ17_checkLength_1 rfl ?_
  refine xr_icmp_ge (tgt := 37) dJ17_checkLength_2 (by decide) (by omega) (fun c2 => ?_) (fun c2 => absurd c2 (by omega))
  refine xr_return rfl dJ17_checkLength_37 ?_
  rw [hpo]
  first | exact ⟨rfl, rfl⟩ | exact rfl
theorem k_copyRangeB {g : GG} {w : WW} {b cap n : Nat} {h : Int → Int} (hG : Base g) (hb : BA g w b cap h) (hn : n ≤ cap ∧ cap ≤ 70) (hf : ∀ k : Int, 0 ≤ k → k < cap → 0 ≤ h k ∧ h k ≤ 127) : Ct g yJ17_copyOfRangeByte (.code yJ17_copyOfRangeByte cJ17_copyOfRangeByte 5 (some ((.array .byte)))) 1 48 1 70 w [.ref b, .int (iI 0), .int (iI n)] (fun r_ w1 => ∃ b1 : Nat, r_ = some (.ref b1) ∧ BA g w1 b1 n h ∧ w.2 ≤ b1 ∧ gb g ≤ b1 ∧ Mo w.2 w w1) xF := by
  refine Ct.of (lv := [some _, some _, some _, none, none]) hG (by decide +kernel) (Nat.le_of_ble_eq_true rfl) rfl ?_
  intro z hg hpo hxp hnm htab
  subst hg
  refine xr_iload_n dJ17_copyOfRangeByte_0 rfl ?_
  refine xr_iload_n dJ17_copyOfRangeByte_1 rfl ?_
  refine xr_callS (n9 := 2) (rc' := 1) (rs' := 70) (k_checkLength hG (by omega)) q1747 q1748 q112 q1749 (by decide +kernel) rfl ⟨by decide, Nat.le_of_ble_eq_true rfl⟩ ⟨Nat.le_of_ble_eq_true rfl, Nat.le_of_ble_eq_true rfl⟩ (Nat.le_of_ble_eq_true rfl) dJ17_copyOfRangeByte_2 rfl (xk_v ?_) (fun _ _ _ h => h.elim)
  refine xr_iload_n dJ17_copyOfRangeByte_5 rfl ?_
  refine xr_iload_n dJ17_copyOfRangeByte_6 rfl ?_
  refine xr_isub dJ17_copyOfRangeByte_7 ?_
  refine xr_istore_n (lv' := [some _, some _, some _, some _, none]) dJ17_copyOfRangeByte_8 (by decide) rfl rfl ?_
  refine xr_iload_n dJ17_copyOfRangeByte_9 rfl ?_
  refine xr_newBA (rc' := 0) (rs' := 0) q265 (by omega) (by omega) dJ17_copyOfRangeByte_10 (fun a10 e10 ga10 ba10 har10 => ?_)
  have hb2 := hb.new_ne ga10 e10
  refine xr_astore (lv' := [some _, some _, some _, some _, some _]) dJ17_copyOfRangeByte_12 (by decide) rfl (by first | rfl | exact isRef_rf _) rfl ?_
  refine xr_aload_n dJ17_copyOfRangeByte_14 rfl (by first | rfl | exact isRef_rf _) ?_
  refine xr_iload_n dJ17_copyOfRangeByte_15 rfl ?_
  refine xr_aload dJ17_copyOfRangeByte_16 rfl (by first | rfl | exact isRef_rf _) ?_
  refine xr_iconst dJ17_copyOfRangeByte_18 ?_
  refine xr_aload_n dJ17_copyOfRangeByte_19 rfl (by first | rfl | exact isRef_rf _) ?_
  refine xr_alenBA hb2 dJ17_copyOfRangeByte_20 ?_
  refine xr_iload_n dJ17_copyOfRangeByte_21 rfl ?_
  refine xr_isub dJ17_copyOfRangeByte_22 ?_
  refine xr_iload_n dJ17_copyOfRangeByte_23 rfl ?_
  refine xr_mmin q640 q641 q111 q642 (by decide) (Nat.le_of_ble_eq_true rfl) (by omega) dJ17_copyOfRangeByte_24 ?_
  rw [show min ((cap : Int) - 0) (n - 0) = n by omega]
  refine xr_acopyBA hb2 har10 ba10 q643 q645 q644 q113 (by omega) (fun k h0 h1 => by have := hf k (by omega) (by omega); omega) (by decide) (by decide +kernel) dJ17_copyOfRangeByte_27 (fun e27 har27 => ?_)
  refine xr_aload dJ17_copyOfRangeByte_30 rfl (by first | rfl | exact isRef_rf _) ?_
  first | refine xr_areturn rfl rfl dJ17_copyOfRangeByte_32 ?_ | refine xr_areturnN rfl rfl dJ17_copyOfRangeByte_32 ?_
  rw [hpo]
  exact ⟨a10, rfl, by rw [show n = ((n : Int) - 0).toNat by omega]; exact har27.to (fun k h0 h1 => by simp only [cpyI]; rw [if_pos (by omega)]; congr 1; omega), ga10, ba10, (Mo.new (n := w.2) ga10 ga10 e10).tr (Mo.put (n := w.2) ga10 e27) (Nat.le_refl _)⟩
theorem k_copyRange {g : GG} {w : WW} {b cap n : Nat} {h : Int → Int} (hG : Base g) (hb : BA g w b cap h) (hn : n ≤ cap ∧ cap ≤ 70) (hf : ∀ k : Int, 0 ≤ k → k < cap → 0 ≤ h k ∧ h k ≤ 127) : Ct g yJ17_copyOfRange (.code yJ17_copyOfRange cJ17_copyOfRange 3 (some ((.array .byte)))) 2 72 1 70 w [.ref b, .int (iI 0), .int (iI n)] (fun r_ w1 => ∃ b1 : Nat, r_ = some (.ref b1) ∧ BA g w1 b1 n h ∧ w.2 ≤ b1 ∧ gb g ≤ b1 ∧ Mo w.2 w w1) xF := by
  refine Ct.of (lv := [some _, some _, some _]) hG (by decide +kernel) (Nat.le_of_ble_eq_true rfl) rfl ?_
  intro z hg hpo hxp hnm htab
  subst hg
  refine xr_iload_n dJ17_copyOfRange_0 rfl ?_
  refine xr_if_ne (tgt := 10) dJ17_copyOfRange_1 (by decide) (by omega) (fun c1 => absurd c1 (fun h => h rfl)) (fun c1 => ?_)
  refine xr_iload_n dJ17_copyOfRange_4 rfl ?_
  refine xr_aload_n dJ17_copyOfRange_5 rfl (by first | rfl | exact isRef_rf _) ?_
  refine xr_alenBA hb dJ17_copyOfRange_6 ?_
  refine xr_icmp_eq (tgt := 17) dJ17_copyOfRange_7 (by decide) (by omega) (fun c7 => ?_) (fun c7 => ?_)
  · skip
    refine xr_aload_n dJ17_copyOfRange_17 rfl (by first | rfl | exact isRef_rf _) ?_
    obtain rfl : n = cap := by omega
    refine xr_cloneBA (rc' := 0) (rs' := 0) hb (fun k h0 h1 => by have := hf k h0 h1; omega) q1621 q1622 q1623 q1624 q1625 q1626 (by decide) (Nat.le_of_ble_eq_true rfl) ⟨by omega, by omega⟩ dJ17_copyOfRange_18 (fun a18 e18 ga18 ba18 har18 => ?_)
    refine xr_castBA har18 q1627 dJ17_copyOfRange_21 ?_
    first | refine xr_areturn rfl rfl dJ17_copyOfRange_24 ?_ | refine xr_areturnN rfl rfl dJ17_copyOfRange_24 ?_
    rw [hpo]
    exact ⟨a18, rfl, har18, ga18, ba18, Mo.new ga18 ga18 e18⟩
  · skip
    refine xr_aload_n dJ17_copyOfRange_10 rfl (by first | rfl | exact isRef_rf _) ?_
    refine xr_iload_n dJ17_copyOfRange_11 rfl ?_
    refine xr_iload_n dJ17_copyOfRange_12 rfl ?_
    refine xr_callS (n9 := 3) (rc' := 0) (rs' := 0) (k_copyRangeB hG hb hn hf) q1744 q1745 q112 q1746 (by decide +kernel) rfl ⟨by decide, Nat.le_of_ble_eq_true rfl⟩ ⟨Nat.le_of_ble_eq_true rfl, Nat.le_of_ble_eq_true rfl⟩ (Nat.le_of_ble_eq_true rfl) dJ17_copyOfRange_13 rfl (fun r w13 hw => ?_) (fun _ _ _ h => h.elim)
    obtain ⟨b1, rfl, h1, h2, h3, h4⟩ := hw
    show XJ _ _ _ _ _ _ _ _ _ _ _ _ [.ref b1]
    first | refine xr_areturn rfl rfl dJ17_copyOfRange_16 ?_ | refine xr_areturnN rfl rfl dJ17_copyOfRange_16 ?_
    rw [hpo]
    exact ⟨b1, rfl, h1, h2, h3, h4⟩
theorem k_ASB_getValue {g : GG} {w : WW} {a b : Nat} {v1 v2 v3 : Value} (hG : Base g) (ho : Ob w a 15 [.ref b, v1, v2, v3]) : Ct g yJ3_getValue (.code yJ3_getValue cJ3_getValue 1 (some ((.array .byte)))) 0 0 0 0 w [.ref a] (fun r_ w1 => r_ = some (.ref b) ∧ w1 = w) xF := by
  refine Ct.of (lv := [some _]) hG (by decide +kernel) (Nat.le_of_ble_eq_true rfl) rfl ?_
  intro z hg hpo hxp hnm htab
  subst hg
  refine xr_aload_n dJ3_getValue_0 rfl (by first | rfl | exact isRef_rf _) ?_
  refine xr_getfield (ci := 15) (T := TJ4) (N := 4) (i := 0) (by assumption) rfl (by decide) in_J4 q251 (.inl rfl) dJ3_getValue_1 (by rfl) ?_
  first | refine xr_areturn rfl rfl dJ3_getValue_4 ?_ | refine xr_areturnN rfl rfl dJ3_getValue_4 ?_
  rw [hpo]
  first | exact ⟨rfl, rfl⟩ | exact rfl
theorem k_S_init2 {g : GG} {w : WW} {a b n : Nat} {f : Int → Int} {t : Nat} (hG : Base g) (hJ : KJ g) (hA : SB g w a b n f) (ht : Ob w t 16 [.null, .int (iI 0), .int (iI 0), .int (iI 0)]) (htg : gb g ≤ t) : Ct g yJ5_init_2 (.code yJ5_init_2 cJ5_init_2 5 none) 3 94 1 70 w [.ref t, .ref a, .null] (fun r_ w1 => r_ = none ∧ ∃ b1 : Nat, SO g w1 t b1 n f ∧ w.2 ≤ b1 ∧ gb g ≤ b1 ∧ Fr (fun x => x = t) w w1) xF := by
  refine Ct.of (lv := [some _, some _, some _, none, none]) hG (by decide +kernel) (Nat.le_of_ble_eq_true rfl) rfl ?_
  intro z hg hpo hxp hnm htab
  subst hg
  have hA1 := hA
  obtain ⟨cap, m9, h, ho, hba, hge, hcap, hncap, hch, hel⟩ := hA
  refine xr_aload_n dJ5_init_2_0 rfl (by first | rfl | exact isRef_rf _) ?_
  refine xr_objInit q1726 q139 q140 (by decide) (Nat.le_of_ble_eq_true rfl) dJ5_init_2_1 ?_
  refine xr_aload_n dJ5_init_2_4 rfl (by first | rfl | exact isRef_rf _) ?_
  refine xr_callV (n9 := 0) (rc' := 1) (rs' := 70) (k_ASB_getValue hG ho) ho rfl q1727 q1728 q1730 q92 q1731 (by decide +kernel) rfl ⟨by decide, Nat.le_of_ble_eq_true rfl⟩ ⟨Nat.le_of_ble_eq_true rfl, Nat.le_of_ble_eq_true rfl⟩ (Nat.le_of_ble_eq_true rfl) dJ5_init_2_5 rfl (xk_r ?_) (fun _ _ _ h => h.elim)
  refine xr_astore_n (lv' := [some _, some _, some _, some _, none]) dJ5_init_2_8 (by decide) rfl (by first | rfl | exact isRef_rf _) rfl ?_
  refine xr_aload_n dJ5_init_2_9 rfl (by first | rfl | exact isRef_rf _) ?_
  refine xr_callVO (n9 := 0) (rc' := 1) (rs' := 70) (k_SB_length hG hA1) ho rfl q1732 q1733 q1739 q1736 q1735 q1631 rfl rfl q93 q1737 (by decide +kernel) rfl ⟨by decide, Nat.le_of_ble_eq_true rfl⟩ ⟨Nat.le_of_ble_eq_true rfl, Nat.le_of_ble_eq_true rfl⟩ (Nat.le_of_ble_eq_true rfl) dJ5_init_2_10 rfl (xk_r ?_) (fun _ _ _ h => h.elim)
  refine xr_istore (lv' := [some _, some _, some _, some _, some _]) dJ5_init_2_13 (by decide) rfl rfl ?_
  refine xr_aload_n dJ5_init_2_15 rfl (by first | rfl | exact isRef_rf _) ?_
  refine xr_callV (n9 := 0) (rc' := 1) (rs' := 70) (k_ASB_isLatin1 hG hJ ho) ho rfl q1740 q1629 q1631 q92 q1632 (by decide +kernel) rfl ⟨by decide, Nat.le_of_ble_eq_true rfl⟩ ⟨Nat.le_of_ble_eq_true rfl, Nat.le_of_ble_eq_true rfl⟩ (Nat.le_of_ble_eq_true rfl) dJ5_init_2_16 rfl (xk_r ?_) (fun _ _ _ h => h.elim)
  refine xr_if_eq (tgt := 41) dJ5_init_2_19 (by decide) (by omega) (fun c19 => absurd c19 (by decide)) (fun c19 => ?_)
  refine xr_aload_n dJ5_init_2_22 rfl (by first | rfl | exact isRef_rf _) ?_
  refine xr_iconst dJ5_init_2_23 ?_
  refine xr_putfieldF (ci := 16) (T := TJ5) (N := 4) (i := 1) (fs' := [_, _, _, _]) ht rfl (by decide) in_J5 tyJ5 tyJ5_ok nmJ5 q1812 (.inl rfl) rfl rfl hnm dJ5_init_2_24 (by decide +kernel) (by decide +kernel) (by simp) (by rfl) (.inr htg) (fun hob24 => ?_)
  have hba2 := hba.put_k ht (.inl (.inr (16, [.null, .int (iI 0), .int (iI 0), .int (iI 0)])))
  refine xr_aload_n dJ5_init_2_27 rfl (by first | rfl | exact isRef_rf _) ?_
  refine xr_aload_n dJ5_init_2_28 rfl (by first | rfl | exact isRef_rf _) ?_
  refine xr_iconst dJ5_init_2_29 ?_
  refine xr_iload dJ5_init_2_30 rfl ?_
  refine xr_callS (n9 := 3) (rc' := 0) (rs' := 0) (k_copyRange hG hba2 (by omega) (fun k h0 h1 => hch k h0 h1)) q1741 q1742 q112 q1743 (by decide +kernel) rfl ⟨by decide, Nat.le_of_ble_eq_true rfl⟩ ⟨Nat.le_of_ble_eq_true rfl, Nat.le_of_ble_eq_true rfl⟩ (Nat.le_of_ble_eq_true rfl) dJ5_init_2_32 rfl (fun r w32 hw => ?_) (fun _ _ _ h => h.elim)
  obtain ⟨b1, rfl, hb1, hg1, hg2, hm1⟩ := hw
  show XJ _ _ _ _ _ _ _ _ _ _ _ _ [.ref b1, _]
  have ht1 := hob24.ext hm1
  refine xr_putfieldF (ci := 16) (T := TJ5) (N := 4) (i := 0) (fs' := [_, _, _, _]) ht1 rfl (by decide) in_J5 tyJ5 tyJ5_ok nmJ5 q1811 (.inl rfl) rfl rfl hnm dJ5_init_2_35 (by first | rfl | exact nar_bI _ | exact nar_rf _) (by first | rfl | exact fit_bI _ | exact fit_rf _ _) (by simp) (by rfl) (.inr htg) (fun hob35 => ?_)
  refine xr_goto (tgt := 97) dJ5_init_2_38 (by decide) ?_
  refine xr_return rfl dJ5_init_2_97 ?_
  rw [hpo]
  exact ⟨rfl, b1, ⟨_, _, hob35, (hb1.put_k ht1 _).to (fun k h0 h1 => hel k h0 h1), by omega, fun k h0 h1 => by rw [← hel k h0 h1]; exact hch k h0 (by omega)⟩, hg1, hg2, ((Fr.put1 _).tr (hm1.fr.to (fun x hx q => by omega)) (fun x _ q => q)).tr (Fr.put1 _) (fun x _ q => q)⟩
theorem k_S_init {g : GG} {w : WW} {a b n : Nat} {f : Int → Int} {t : Nat} (hG : Base g) (hJ : KJ g) (hA : SB g w a b n f) (ht : Ob w t 16 [.null, .int (iI 0), .int (iI 0), .int (iI 0)]) (htg : gb g ≤ t) : Ct g yJ5_init (.code yJ5_init cJ5_init 2 none) 4 118 1 70 w [.ref t, .ref a] (fun r_ w1 => r_ = none ∧ ∃ b1 : Nat, SO g w1 t b1 n f ∧ w.2 ≤ b1 ∧ gb g ≤ b1 ∧ Fr (fun x => x = t) w w1) xF := by
  refine Ct.of (lv := [some _, some _]) hG (by decide +kernel) (Nat.le_of_ble_eq_true rfl) rfl ?_
  intro z hg hpo hxp hnm htab
  subst hg
  refine xr_aload_n dJ5_init_0 rfl (by first | rfl | exact isRef_rf _) ?_
  refine xr_aload_n dJ5_init_1 rfl (by first | rfl | exact isRef_rf _) ?_
  refine xr_null dJ5_init_2 ?_
  refine xr_callI (n9 := 2) (rc' := 0) (rs' := 0) (k_S_init2 hG hJ hA ht htg) q1723 q1724 q94 q1725 rfl (by decide +kernel) rfl ⟨by decide, Nat.le_of_ble_eq_true rfl⟩ ⟨Nat.le_of_ble_eq_true rfl, Nat.le_of_ble_eq_true rfl⟩ (Nat.le_of_ble_eq_true rfl) dJ5_init_3 rfl (fun r w3 hw => ?_) (fun _ _ _ h => h.elim)
  obtain ⟨rfl, hw2⟩ := hw
  refine xr_return rfl dJ5_init_6 ?_
  rw [hpo]
  exact ⟨rfl, hw2⟩
theorem k_SB_toString {g : GG} {w : WW} {a b n : Nat} {f : Int → Int} (hG : Base g) (hJ : KJ g) (hA : SB g w a b n f) : Ct g yJ4_toString (.code yJ4_toString cJ4_toString 1 (some ((.object "java/lang/String")))) 5 139 2 74 w [.ref a] (fun r_ w1 => ∃ t b1 : Nat, r_ = some (.ref t) ∧ SO g w1 t b1 n f ∧ w.2 ≤ t ∧ w.2 ≤ b1 ∧ gb g ≤ t ∧ gb g ≤ b1 ∧ Mo w.2 w w1) xF := by
  refine Ct.of (lv := [some _]) hG (by decide +kernel) (Nat.le_of_ble_eq_true rfl) rfl ?_
  intro z hg hpo hxp hnm htab
  subst hg
  refine xr_new (ci := 16) (T := TJ5) (N := 4) (n9 := 4) (fs := [.null, .int (iI 0), .int (iI 0), .int (iI 0)]) (rc' := 1) (rs' := 70) rfl in_J5 tyJ5 tyJ5_ok q1719 q924 q94 (by intro j hj; rcases (show j = 0 ∨ j = 1 ∨ j = 2 ∨ j = 3 by omega) with rfl | rfl | rfl | rfl <;> rfl) ⟨Nat.le_of_ble_eq_true rfl, Nat.le_of_ble_eq_true rfl⟩ dJ4_toString_0 (fun a0 ga0 hob0 => ?_)
  have hmn0 := Mo.new ga0 ga0 (.inl (.inr (16, [.null, .int (iI 0), .int (iI 0), .int (iI 0)])))
  have hA1 := hA.ext hmn0
  have hz9 := hA.lt
  refine xr_dup dJ4_toString_3 (by first | rfl | exact cat_rf _) ?_
  refine xr_aload_n dJ4_toString_4 rfl (by first | rfl | exact isRef_rf _) ?_
  refine xr_callI (n9 := 1) (rc' := 0) (rs' := 0) (k_S_init hG hJ hA1 hob0 (by omega)) q1720 q1721 q94 q1722 rfl (by decide +kernel) rfl ⟨by decide, Nat.le_of_ble_eq_true rfl⟩ ⟨Nat.le_of_ble_eq_true rfl, Nat.le_of_ble_eq_true rfl⟩ (Nat.le_of_ble_eq_true rfl) dJ4_toString_5 rfl (fun r w5 hw => ?_) (fun _ _ _ h => h.elim)
  obtain ⟨rfl, b1, hs1, hs2, hs3, hs4⟩ := hw
  have h02 := hob0.2
  have hmm := hmn0.tr (hs4.mo (n := a0) (fun x _ (q : x = a0) => by omega)) ga0
  first | refine xr_areturn rfl rfl dJ4_toString_8 ?_ | refine xr_areturnN rfl rfl dJ4_toString_8 ?_
  rw [hpo]
  exact ⟨a0, b1, rfl, hs1, ga0, by have := hmn0.1; omega, by omega, hs3, hmm⟩
