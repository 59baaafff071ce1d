/-! 23.iter.lean.txt (written by tools/walker.py)  -/
set_option maxRecDepth 100000
/-- the elements of a list are parks -/
def Pks (w : WW) (n : Int) (f : Int → Option Nat) : Prop := ∀ k : Int, 0 ≤ k → k < n → ∃ (y : Nat) (fs : List Value), f k = some y ∧ Ob w y 0 fs
/-- a list without its i-th element -/
def rmI (f : Int → Option Nat) (i : Int) : Int → Option Nat := fun k => if k < i then f k else f (k + 1)
theorem Pks.cast {w : WW} {n : Int} {f : Int → Option Nat} (h : Pks w n f) {k : Int} (h0 : 0 ≤ k) (h1 : k < n) {y : Nat} (hy : f k = some y) : ∃ (ci : Nat) (q : vw_C) (fs : List Value), Ob w y ci fs ∧ vwCl[ci]? = some q ∧ Cond.castable q.1 "java/lang/Object" ∈ lw_tbl := by
  obtain ⟨y2, fs, h2, h3⟩ := h k h0 h1
  rw [hy] at h2
  obtain rfl : y = y2 := by injection h2
  exact ⟨0, _, fs, h3, rfl, q2766⟩
theorem k_AL_fastRemove {g : GG} {w : WW} {a arr : Nat} {n : Int} {f : Int → Option Nat} {i : Int} (hG : Base g) (hA : AL g w a arr n f) (hi : 0 ≤ i ∧ i < n) (hP : Pks w n f) : Ct g yJ2_fastRemove (.code yJ2_fastRemove cJ2_fastRemove 4 none) 1 48 0 0 w [.ref a, .ref arr, .int (iI i)] (fun r w1 => r = none ∧ AL g w1 a arr (n - 1) (rmI f i) ∧ Fr (fun b => b = a ∨ (b = arr ∧ gb g ≤ b)) w w1) xF := by
  refine Ct.of (lv := [some _, some _, some _, none]) hG (by decide +kernel) (Nat.le_of_ble_eq_true rfl) rfl ?_
  intro z hg hpo hxp hnm htab
  subst hg
  obtain ⟨mm, cap, hf, hob, hra, hel, hn, hcap⟩ := hA
  have hge : gb (zg z) ≤ arr := by omega
  have hnb : RA (zg z) w arr cap f → True := fun _ => trivial
  refine xr_aload_n dJ2_fastRemove_0 rfl (by first | rfl | exact isRef_rf _) ?_
  refine xr_dup dJ2_fastRemove_1 (by first | rfl | exact cat_rf _) ?_
  refine xr_getfield (ci := 2) (T := TJ2) (N := 3) (i := 0) (by assumption) rfl (by decide) in_J2 q174 (.inr q173) dJ2_fastRemove_2 (by rfl) ?_
  refine xr_iconst dJ2_fastRemove_5 ?_
  refine xr_iadd dJ2_fastRemove_6 ?_
  refine xr_putfield (ci := 2) (T := TJ2) (N := 3) (i := 0) (fs' := [_, _, _]) (by assumption) rfl (by decide) in_J2 tyJ2 tyJ2_ok nmJ2 q174 (.inr q173) rfl dJ2_fastRemove_7 (by first | rfl | exact nar_bI _ | exact nar_rf _) (by first | rfl | exact fit_bI _ | exact fit_rf _ _) (by simp) (by rfl) (.inl rfl) (fun hob7 => ?_)
  have hra1 := hra.put_k hob (.inl (.inr (2, [.int (iI (mm + 1)), .ref arr, .int (iI n)])))
  refine xr_aload_n dJ2_fastRemove_10 rfl (by first | rfl | exact isRef_rf _) ?_
  refine xr_getfield (ci := 2) (T := TJ2) (N := 3) (i := 2) (by assumption) rfl (by decide) in_J2 q170 (.inl rfl) dJ2_fastRemove_11 (by rfl) ?_
  refine xr_iconst dJ2_fastRemove_14 ?_
  refine xr_isub dJ2_fastRemove_15 ?_
  refine xr_dup dJ2_fastRemove_16 (by first | rfl | exact cat_rf _) ?_
  refine xr_istore_n (lv' := [some _, some _, some _, some _]) dJ2_fastRemove_17 (by decide) rfl rfl ?_
  refine xr_iload_n dJ2_fastRemove_18 rfl ?_
  refine xr_icmp_le (tgt := 34) dJ2_fastRemove_19 (by decide) (by omega) (fun c19 => ?_) (fun c19 => ?_)
  · skip
    have hraX := hra1
    have hobX := hob7
    have hfrX : Fr (fun b => b = a ∨ (b = arr ∧ gb (zg z) ≤ b)) _ _ := Fr.rf (w := wput w a (.inl (.inr (2, [.int (iI (mm + 1)), .ref arr, .int (iI n)]))))
    refine xr_aload_n dJ2_fastRemove_34 rfl (by first | rfl | exact isRef_rf _) ?_
    refine xr_aload_n dJ2_fastRemove_35 rfl (by first | rfl | exact isRef_rf _) ?_
    refine xr_iload_n dJ2_fastRemove_36 rfl ?_
    refine xr_dup_x1 dJ2_fastRemove_37 (by first | rfl | exact cat_rf _) (by first | rfl | exact cat_rf _) ?_
    refine xr_putfield (ci := 2) (T := TJ2) (N := 3) (i := 2) (fs' := [_, _, _]) hobX rfl (by decide) in_J2 tyJ2 tyJ2_ok nmJ2 q170 (.inl rfl) rfl dJ2_fastRemove_38 (by first | rfl | exact nar_bI _ | exact nar_rf _) (by first | rfl | exact fit_bI _ | exact fit_rf _ _) (by simp) (by rfl) (.inl rfl) (fun hob38 => ?_)
    have hraY := hraX.put_k hobX (.inl (.inr (2, [.int (iI (mm + 1)), .ref arr, .int (iI (n - 1))])))
    refine xr_null dJ2_fastRemove_41 ?_
    refine xr_aastoreN hraY hge (by omega) (by omega) dJ2_fastRemove_42 (fun e42 har42 => ?_)
    have hob38 := hob38.put_RA hraY e42
    refine xr_return rfl dJ2_fastRemove_43 ?_
    rw [hpo]
    refine ⟨rfl, ⟨_, cap, _, hob38, har42, fun k a b => ?_, by omega, hcap⟩, ?_⟩
    · simp only [updR, rmI, cpyI]
      repeat' split
      all_goals first
        | omega
        | exact hel _ (by omega) (by omega)
        | (rw [hel _ (by omega) (by omega)]; exact congrArg f (by omega))
    · exact ((Fr.put (w := w) (S := fun b => b = a ∨ (b = arr ∧ gb (zg z) ≤ b)) (Or.inl rfl) _).tr hfrX (fun b _ q => q)).tr ((Fr.put (S := fun b => b = a ∨ (b = arr ∧ gb (zg z) ≤ b)) (Or.inl rfl) _).tr (Fr.put (S := fun b => b = a ∨ (b = arr ∧ gb (zg z) ≤ b)) (Or.inr ⟨rfl, hge⟩) e42) (fun b _ q => q)) (fun b _ q => q)
  · skip
    refine xr_aload_n dJ2_fastRemove_22 rfl (by first | rfl | exact isRef_rf _) ?_
    refine xr_iload_n dJ2_fastRemove_23 rfl ?_
    refine xr_iconst dJ2_fastRemove_24 ?_
    refine xr_iadd dJ2_fastRemove_25 ?_
    refine xr_aload_n dJ2_fastRemove_26 rfl (by first | rfl | exact isRef_rf _) ?_
    refine xr_iload_n dJ2_fastRemove_27 rfl ?_
    refine xr_iload_n dJ2_fastRemove_28 rfl ?_
    refine xr_iload_n dJ2_fastRemove_29 rfl ?_
    refine xr_isub dJ2_fastRemove_30 ?_
    have hcast1 : ∀ k : Int, 0 ≤ k → k < n → ∀ y : Nat, hf k = some y → ∃ (ci : Nat) (q : vw_C) (fs : List Value), Ob (wput w a (.inl (.inr (2, [.int (iI (mm + 1)), .ref arr, .int (iI n)])))) y ci fs ∧ vwCl[ci]? = some q ∧ Cond.castable q.1 "java/lang/Object" ∈ lw_tbl := by
      intro k h0 h1 y hy
      rw [hel k h0 h1] at hy
      obtain ⟨y2, fs, h2, h3⟩ := hP k h0 h1
      rw [hy] at h2
      obtain rfl : y = y2 := by injection h2
      exact ⟨0, _, fs, h3.put_k hob (by decide), rfl, q2766⟩
    refine xr_acopyRA hra1 hra1 hge q1168 q645 q644 q113 (by omega) (fun k h0 h1 y hy => hcast1 k (by omega) (by omega) y hy) (by decide) (by decide +kernel) dJ2_fastRemove_31 (fun e31 hraX => ?_)
    have hobX := hob7.put_RA hra1 e31
    have hfrX := Fr.put (w := wput w a (.inl (.inr (2, [.int (iI (mm + 1)), .ref arr, .int (iI n)])))) (S := fun b => b = a ∨ (b = arr ∧ gb (zg z) ≤ b)) (Or.inr ⟨rfl, hge⟩) e31
    refine xr_aload_n dJ2_fastRemove_34 rfl (by first | rfl | exact isRef_rf _) ?_
    refine xr_aload_n dJ2_fastRemove_35 rfl (by first | rfl | exact isRef_rf _) ?_
    refine xr_iload_n dJ2_fastRemove_36 rfl ?_
    refine xr_dup_x1 dJ2_fastRemove_37 (by first | rfl | exact cat_rf _) (by first | rfl | exact cat_rf _) ?_
    refine xr_putfield (ci := 2) (T := TJ2) (N := 3) (i := 2) (fs' := [_, _, _]) hobX rfl (by decide) in_J2 tyJ2 tyJ2_ok nmJ2 q170 (.inl rfl) rfl dJ2_fastRemove_38 (by first | rfl | exact nar_bI _ | exact nar_rf _) (by first | rfl | exact fit_bI _ | exact fit_rf _ _) (by simp) (by rfl) (.inl rfl) (fun hob38 => ?_)
    have hraY := hraX.put_k hobX (.inl (.inr (2, [.int (iI (mm + 1)), .ref arr, .int (iI (n - 1))])))
    refine xr_null dJ2_fastRemove_41 ?_
    refine xr_aastoreN hraY hge (by omega) (by omega) dJ2_fastRemove_42 (fun e42 har42 => ?_)
    have hob38 := hob38.put_RA hraY e42
    refine xr_return rfl dJ2_fastRemove_43 ?_
    rw [hpo]
    refine ⟨rfl, ⟨_, cap, _, hob38, har42, fun k a b => ?_, by omega, hcap⟩, ?_⟩
    · simp only [updR, rmI, cpyI]
      repeat' split
      all_goals first
        | omega
        | exact hel _ (by omega) (by omega)
        | (rw [hel _ (by omega) (by omega)]; exact congrArg f (by omega))
    · exact ((Fr.put (w := w) (S := fun b => b = a ∨ (b = arr ∧ gb (zg z) ≤ b)) (Or.inl rfl) _).tr hfrX (fun b _ q => q)).tr ((Fr.put (S := fun b => b = a ∨ (b = arr ∧ gb (zg z) ≤ b)) (Or.inl rfl) _).tr (Fr.put (S := fun b => b = a ∨ (b = arr ∧ gb (zg z) ≤ b)) (Or.inr ⟨rfl, hge⟩) e42) (fun b _ q => q)) (fun b _ q => q)
theorem k_AL_remove {g : GG} {w : WW} {a arr : Nat} {n : Int} {f : Int → Option Nat} {i : Int} {v : Nat} (hG : Base g) (hA : AL g w a arr n f) (hi : 0 ≤ i ∧ i < n) (hP : Pks w n f) (hv : f i = some v) : Ct g yJ2_remove (.code yJ2_remove cJ2_remove 4 (some ((.object "java/lang/Object")))) 2 71 0 0 w [.ref a, .int (iI i)] (fun r w1 => r = some (.ref v) ∧ AL g w1 a arr (n - 1) (rmI f i) ∧ Fr (fun b => b = a ∨ (b = arr ∧ gb g ≤ b)) w w1) xF := by
  refine Ct.of (lv := [some _, some _, none, none]) hG (by decide +kernel) (Nat.le_of_ble_eq_true rfl) rfl ?_
  intro z hg hpo hxp hnm htab
  subst hg
  have hA0 := hA
  obtain ⟨mm, cap, hf, hob, hra, hel, hn, hcap⟩ := hA
  refine xr_iload_n dJ2_remove_0 rfl ?_
  refine xr_aload_n dJ2_remove_1 rfl (by first | rfl | exact isRef_rf _) ?_
  refine xr_getfield (ci := 2) (T := TJ2) (N := 3) (i := 2) (by assumption) rfl (by decide) in_J2 q170 (.inl rfl) dJ2_remove_2 (by rfl) ?_
  refine xr_callS (n9 := 2) (rc' := 0) (rs' := 0) (k_checkIndex hG hi (by omega)) q370 q371 q105 q372 (by decide +kernel) rfl ⟨by decide, Nat.le_of_ble_eq_true rfl⟩ ⟨Nat.le_of_ble_eq_true rfl, Nat.le_of_ble_eq_true rfl⟩ (Nat.le_of_ble_eq_true rfl) dJ2_remove_5 rfl (xk_r ?_) (fun _ _ _ h => h.elim)
  refine xr_pop dJ2_remove_8 (by first | rfl | exact cat_rf _) ?_
  refine xr_aload_n dJ2_remove_9 rfl (by first | rfl | exact isRef_rf _) ?_
  refine xr_getfield (ci := 2) (T := TJ2) (N := 3) (i := 1) (by assumption) rfl (by decide) in_J2 q167 (.inl rfl) dJ2_remove_10 (by rfl) ?_
  refine xr_astore_n (lv' := [some _, some _, some _, none]) dJ2_remove_13 (by decide) rfl (by first | rfl | exact isRef_rf _) rfl ?_
  refine xr_aload_n dJ2_remove_14 rfl (by first | rfl | exact isRef_rf _) ?_
  refine xr_iload_n dJ2_remove_15 rfl ?_
  refine xr_aaload (by assumption) (by omega) (by omega) dJ2_remove_16 ?_
  rw [(hel i hi.1 hi.2).trans hv]
  show XJ _ _ _ _ _ _ _ _ _ _ _ _ [.ref v]
  refine xr_astore_n (lv' := [some _, some _, some _, some _]) dJ2_remove_17 (by decide) rfl (by first | rfl | exact isRef_rf _) rfl ?_
  refine xr_aload_n dJ2_remove_18 rfl (by first | rfl | exact isRef_rf _) ?_
  refine xr_aload_n dJ2_remove_19 rfl (by first | rfl | exact isRef_rf _) ?_
  refine xr_iload_n dJ2_remove_20 rfl ?_
  refine xr_callV (n9 := 2) (rc' := 0) (rs' := 0) (k_AL_fastRemove hG hA0 hi hP) (by assumption) rfl q1164 q1166 qs18 q91 q1167 (by decide +kernel) rfl ⟨by decide, Nat.le_of_ble_eq_true rfl⟩ ⟨Nat.le_of_ble_eq_true rfl, Nat.le_of_ble_eq_true rfl⟩ (Nat.le_of_ble_eq_true rfl) dJ2_remove_21 rfl (fun r w21 hw => ?_) (fun _ _ _ h => h.elim)
  obtain ⟨rfl, h1, h2⟩ := hw
  refine xr_aload_n dJ2_remove_24 rfl (by first | rfl | exact isRef_rf _) ?_
  refine xr_areturn rfl rfl dJ2_remove_25 ?_
  rw [hpo]
  exact ⟨rfl, h1, h2⟩
theorem k_Itr_init {g : GG} {w : WW} {a it arr : Nat} {mm n : Int} {v2 v3 v4 : Value} (hG : Base g) (hob : Ob w a 2 [.int (iI mm), .ref arr, .int (iI n)]) (hit : Ob w it 19 [.int (iI 0), v2, v3, v4]) : Ct g yJ27_init (.code yJ27_init cJ27_init 2 none) 1 12 0 0 w [.ref it, .ref a] (fun r w1 => r = none ∧ Ob w1 it 19 [.int (iI 0), .int (iI (-1)), .int (iI mm), .ref a] ∧ Ob w1 a 2 [.int (iI mm), .ref arr, .int (iI n)] ∧ Fr (fun b => b = it) w w1) xF := by
  refine Ct.of (lv := [some _, some _]) hG (by decide +kernel) (Nat.le_of_ble_eq_true rfl) rfl ?_
  intro z hg hpo hxp hnm htab
  subst hg
  refine xr_aload_n dJ27_init_0 rfl (by first | rfl | exact isRef_rf _) ?_
  refine xr_aload_n dJ27_init_1 rfl (by first | rfl | exact isRef_rf _) ?_
  refine xr_putfieldF (ci := 19) (T := TJ27) (N := 4) (i := 3) (fs' := [_, _, _, _]) hit rfl (by decide) in_J27 tyJ27 tyJ27_ok nmJ27 q2057 (.inl rfl) rfl rfl hnm dJ27_init_2 (by first | rfl | exact nar_bI _ | exact nar_rf _) (by first | rfl | exact fit_bI _ | exact fit_rf _ _) (by simp) (by rfl) (.inl rfl) (fun hob2 => ?_)
  have ho2 := hob.put_k (f' := [.int (iI 0), v2, v3, .ref a]) hit (by decide)
  refine xr_aload_n dJ27_init_5 rfl (by first | rfl | exact isRef_rf _) ?_
  refine xr_objInit q2053 q139 q140 (by decide) (Nat.le_of_ble_eq_true rfl) dJ27_init_6 ?_
  refine xr_aload_n dJ27_init_9 rfl (by first | rfl | exact isRef_rf _) ?_
  refine xr_iconst dJ27_init_10 ?_
  refine xr_putfield (ci := 19) (T := TJ27) (N := 4) (i := 1) (fs' := [_, _, _, _]) hob2 rfl (by decide) in_J27 tyJ27 tyJ27_ok nmJ27 q2055 (.inl rfl) rfl dJ27_init_11 (by first | rfl | exact nar_bI _ | exact nar_rf _) (by first | rfl | exact fit_bI _ | exact fit_rf _ _) (by simp) (by rfl) (.inl rfl) (fun hob11 => ?_)
  have ho11 := ho2.put_k (f' := [.int (iI 0), .int (iI (-1)), v3, .ref a]) hob2 (by decide)
  refine xr_aload_n dJ27_init_14 rfl (by first | rfl | exact isRef_rf _) ?_
  refine xr_aload_n dJ27_init_15 rfl (by first | rfl | exact isRef_rf _) ?_
  refine xr_getfield (ci := 19) (T := TJ27) (N := 4) (i := 3) hob11 rfl (by decide) in_J27 q2057 (.inl rfl) dJ27_init_16 (by rfl) ?_
  refine xr_getfield (ci := 2) (T := TJ2) (N := 3) (i := 0) ho11 rfl (by decide) in_J2 q172 (.inr q173) dJ27_init_19 (by rfl) ?_
  refine xr_putfield (ci := 19) (T := TJ27) (N := 4) (i := 2) (fs' := [_, _, _, _]) hob11 rfl (by decide) in_J27 tyJ27 tyJ27_ok nmJ27 q2056 (.inl rfl) rfl dJ27_init_22 (by first | rfl | exact nar_bI _ | exact nar_rf _) (by first | rfl | exact fit_bI _ | exact fit_rf _ _) (by simp) (by rfl) (.inl rfl) (fun hob22 => ?_)
  have ho22 := ho11.put_k (f' := [.int (iI 0), .int (iI (-1)), .int (iI mm), .ref a]) hob11 (by decide)
  refine xr_return rfl dJ27_init_25 ?_
  rw [hpo]
  exact ⟨rfl, hob22, ho22, (Fr.put1 _).tr ((Fr.put1 _).tr (Fr.put1 _) (fun b _ q => q)) (fun b _ q => q)⟩
theorem k_AL_iterator {g : GG} {w : WW} {a arr : Nat} {mm n : Int} (hG : Base g) (hob : Ob w a 2 [.int (iI mm), .ref arr, .int (iI n)]) : Ct g yJ2_iterator (.code yJ2_iterator cJ2_iterator 1 (some ((.object "java/util/Iterator")))) 2 33 1 4 w [.ref a] (fun r w1 => ∃ it : Nat, r = some (.ref it) ∧ Ob w1 it 19 [.int (iI 0), .int (iI (-1)), .int (iI mm), .ref a] ∧ Ob w1 a 2 [.int (iI mm), .ref arr, .int (iI n)] ∧ w.2 ≤ it ∧ gb g ≤ it ∧ Mo w.2 w w1) xF := by
  refine Ct.of (lv := [some _]) hG (by decide +kernel) (Nat.le_of_ble_eq_true rfl) rfl ?_
  intro z hg hpo hxp hnm htab
  subst hg
  refine xr_base (fun _ hk9 => ?_)
  refine xr_new (ci := 19) (T := TJ27) (N := 4) (n9 := 4) (fs := [.int (iI 0), .int (iI 0), .int (iI 0), .null]) (rc' := 0) (rs' := 0) rfl in_J27 tyJ27 tyJ27_ok q2048 q2049 q131 (by intro j hj; rcases (show j = 0 ∨ j = 1 ∨ j = 2 ∨ j = 3 by omega) with rfl | rfl | rfl | rfl <;> rfl) ⟨Nat.le_of_ble_eq_true rfl, Nat.le_of_ble_eq_true rfl⟩ dJ2_iterator_0 (fun a0 ga0 hob0 => ?_)
  have hmn0 := Mo.new ga0 ga0 (.inl (.inr (19, [.int (iI 0), .int (iI 0), .int (iI 0), .null])))
  have hgb := hk9.1
  have hob0' := hob.new_ne ga0 (.inl (.inr (19, [.int (iI 0), .int (iI 0), .int (iI 0), .null])))
  refine xr_dup dJ2_iterator_3 (by first | rfl | exact cat_rf _) ?_
  refine xr_aload_n dJ2_iterator_4 rfl (by first | rfl | exact isRef_rf _) ?_
  refine xr_callI (n9 := 1) (rc' := 0) (rs' := 0) (k_Itr_init hG hob0' hob0) q2050 q2051 q131 q2052 rfl (by decide +kernel) rfl ⟨by decide, Nat.le_of_ble_eq_true rfl⟩ ⟨Nat.le_of_ble_eq_true rfl, Nat.le_of_ble_eq_true rfl⟩ (Nat.le_of_ble_eq_true rfl) dJ2_iterator_5 rfl (fun r w5 hw => ?_) (fun _ _ _ h => h.elim)
  obtain ⟨rfl, h1, h2, h3⟩ := hw
  refine xr_areturn rfl rfl dJ2_iterator_8 ?_
  rw [hpo]
  exact ⟨_, rfl, h1, h2, ga0, Nat.le_trans hgb ga0, (Mo.new ga0 ga0 _).tr (h3.mo (n := w.2) (fun b _ q => by omega)) (Nat.le_refl _)⟩
theorem k_Itr_hasNext {g : GG} {w : WW} {a it arr : Nat} {mm n c l : Int} (hG : Base g) (hit : Ob w it 19 [.int (iI c), .int (iI l), .int (iI mm), .ref a]) (hob : Ob w a 2 [.int (iI mm), .ref arr, .int (iI n)]) (hr : 0 ≤ c ∧ c ≤ n ∧ n ≤ 10) : Ct g yJ27_hasNext (.code yJ27_hasNext cJ27_hasNext 1 (some .boolean)) 0 0 0 0 w [.ref it] (fun r_ w1 => r_ = some (.int (bI (decide (c < n)))) ∧ w1 = w) xF := by
  refine Ct.of (lv := [some _]) hG (by decide +kernel) (Nat.le_of_ble_eq_true rfl) rfl ?_
  intro z hg hpo hxp hnm htab
  subst hg
  refine xr_aload_n dJ27_hasNext_0 rfl (by first | rfl | exact isRef_rf _) ?_
  refine xr_getfield (ci := 19) (T := TJ27) (N := 4) (i := 0) (by assumption) rfl (by decide) in_J27 q2054 (.inl rfl) dJ27_hasNext_1 (by rfl) ?_
  refine xr_aload_n dJ27_hasNext_4 rfl (by first | rfl | exact isRef_rf _) ?_
  refine xr_getfield (ci := 19) (T := TJ27) (N := 4) (i := 3) (by assumption) rfl (by decide) in_J27 q2057 (.inl rfl) dJ27_hasNext_5 (by rfl) ?_
  refine xr_getfieldN (ci := 2) (T := TJ2) (N := 3) (i := 2) (by assumption) rfl (by decide) in_J2 q169 (.inl rfl) dJ27_hasNext_8 (by rfl) ?_
  refine xr_icmp_eq (tgt := 18) dJ27_hasNext_11 (by decide) (by omega) (fun c11 => ?_) (fun c11 => ?_)
  · skip
    refine xr_iconst dJ27_hasNext_18 ?_
    refine xr_ireturn rfl (by first | rfl | exact nar_bI _ | decide +kernel) dJ27_hasNext_19 ?_
    rw [hpo]
    first | exact ⟨rfl, rfl⟩ | exact ⟨ret_bt (by omega), rfl⟩ | exact ⟨ret_bf (by omega), rfl⟩ | exact ⟨ret_i (by omega), rfl⟩
  · skip
    refine xr_iconst dJ27_hasNext_14 ?_
    refine xr_goto (tgt := 19) dJ27_hasNext_15 (by decide) ?_
    refine xr_ireturn rfl (by first | rfl | exact nar_bI _ | decide +kernel) dJ27_hasNext_19 ?_
    rw [hpo]
    first | exact ⟨rfl, rfl⟩ | exact ⟨ret_bt (by omega), rfl⟩ | exact ⟨ret_bf (by omega), rfl⟩ | exact ⟨ret_i (by omega), rfl⟩
theorem k_Itr_check {g : GG} {w : WW} {a it arr : Nat} {mm n c l : Int} (hG : Base g) (hit : Ob w it 19 [.int (iI c), .int (iI l), .int (iI mm), .ref a]) (hob : Ob w a 2 [.int (iI mm), .ref arr, .int (iI n)]) : Ct g yJ27_checkForComodification (.code yJ27_checkForComodification cJ27_checkForComodification 1 none) 0 0 0 0 w [.ref it] (fun r_ w1 => r_ = none ∧ w1 = w) xF := by
  refine Ct.of (lv := [some _]) hG (by decide +kernel) (Nat.le_of_ble_eq_true rfl) rfl ?_
  intro z hg hpo hxp hnm htab
  subst hg
  refine xr_aload_n dJ27_checkForComodification_0 rfl (by first | rfl | exact isRef_rf _) ?_
  refine xr_getfield (ci := 19) (T := TJ27) (N := 4) (i := 3) (by assumption) rfl (by decide) in_J27 q2057 (.inl rfl) dJ27_checkForComodification_1 (by rfl) ?_
  refine xr_getfield (ci := 2) (T := TJ2) (N := 3) (i := 0) (by assumption) rfl (by decide) in_J2 q172 (.inr q173) dJ27_checkForComodification_4 (by rfl) ?_
  refine xr_aload_n dJ27_checkForComodification_7 rfl (by first | rfl | exact isRef_rf _) ?_
  refine xr_getfield (ci := 19) (T := TJ27) (N := 4) (i := 2) (by assumption) rfl (by decide) in_J27 q2056 (.inl rfl) dJ27_checkForComodification_8 (by rfl) ?_
  refine xr_icmpx_eq (tgt := 22) dJ27_checkForComodification_11 (by decide) (fun c11 => ?_) (fun c11 => absurd rfl c11)
  refine xr_return rfl dJ27_checkForComodification_22 ?_
  rw [hpo]
  first | exact ⟨rfl, rfl⟩ | exact rfl
theorem k_Itr_next {g : GG} {w : WW} {a it arr : Nat} {mm n c l : Int} {f : Int → Option Nat} {cap v : Nat} (hG : Base g) (hit : Ob w it 19 [.int (iI c), .int (iI l), .int (iI mm), .ref a]) (hob : Ob w a 2 [.int (iI mm), .ref arr, .int (iI n)]) (hr : 0 ≤ c ∧ c < n ∧ n ≤ cap ∧ cap ≤ 10) (hra : RA g w arr cap f) (hv : f c = some v) : Ct g yJ27_next (.code yJ27_next cJ27_next 3 (some ((.object "java/lang/Object")))) 1 20 0 0 w [.ref it] (fun r w1 => r = some (.ref v) ∧ Ob w1 it 19 [.int (iI (c + 1)), .int (iI c), .int (iI mm), .ref a] ∧ Fr (fun b => b = it) w w1) xF := by
  refine Ct.of (lv := [some _, none, none]) hG (by decide +kernel) (Nat.le_of_ble_eq_true rfl) rfl ?_
  intro z hg hpo hxp hnm htab
  subst hg
  refine xr_aload_n dJ27_next_0 rfl (by first | rfl | exact isRef_rf _) ?_
  refine xr_callV (n9 := 0) (rc' := 0) (rs' := 0) (k_Itr_check hG hit hob) (by assumption) rfl q2086 q2087 q2088 q131 q2089 (by decide +kernel) rfl ⟨by decide, Nat.le_of_ble_eq_true rfl⟩ ⟨Nat.le_of_ble_eq_true rfl, Nat.le_of_ble_eq_true rfl⟩ (Nat.le_of_ble_eq_true rfl) dJ27_next_1 rfl (xk_v ?_) (fun _ _ _ h => h.elim)
  refine xr_aload_n dJ27_next_4 rfl (by first | rfl | exact isRef_rf _) ?_
  refine xr_getfield (ci := 19) (T := TJ27) (N := 4) (i := 0) hit rfl (by decide) in_J27 q2054 (.inl rfl) dJ27_next_5 (by rfl) ?_
  refine xr_istore_n (lv' := [some _, some _, none]) dJ27_next_8 (by decide) rfl rfl ?_
  refine xr_iload_n dJ27_next_9 rfl ?_
  refine xr_aload_n dJ27_next_10 rfl (by first | rfl | exact isRef_rf _) ?_
  refine xr_getfield (ci := 19) (T := TJ27) (N := 4) (i := 3) (by assumption) rfl (by decide) in_J27 q2057 (.inl rfl) dJ27_next_11 (by rfl) ?_
  refine xr_getfieldN (ci := 2) (T := TJ2) (N := 3) (i := 2) (by assumption) rfl (by decide) in_J2 q169 (.inl rfl) dJ27_next_14 (by rfl) ?_
  refine xr_icmp_lt (tgt := 28) dJ27_next_17 (by decide) (by omega) (fun c17 => ?_) (fun c17 => absurd c17 (by omega))
  refine xr_aload_n dJ27_next_28 rfl (by first | rfl | exact isRef_rf _) ?_
  refine xr_getfield (ci := 19) (T := TJ27) (N := 4) (i := 3) (by assumption) rfl (by decide) in_J27 q2057 (.inl rfl) dJ27_next_29 (by rfl) ?_
  refine xr_getfield (ci := 2) (T := TJ2) (N := 3) (i := 1) (by assumption) rfl (by decide) in_J2 q168 (.inl rfl) dJ27_next_32 (by rfl) ?_
  refine xr_astore_n (lv' := [some _, some _, some _]) dJ27_next_35 (by decide) rfl (by first | rfl | exact isRef_rf _) rfl ?_
  refine xr_iload_n dJ27_next_36 rfl ?_
  refine xr_aload_n dJ27_next_37 rfl (by first | rfl | exact isRef_rf _) ?_
  refine xr_alenRA (by assumption) dJ27_next_38 ?_
  refine xr_icmp_lt (tgt := 50) dJ27_next_39 (by decide) (by omega) (fun c39 => ?_) (fun c39 => absurd c39 (by omega))
  refine xr_aload_n dJ27_next_50 rfl (by first | rfl | exact isRef_rf _) ?_
  refine xr_iload_n dJ27_next_51 rfl ?_
  refine xr_iconst dJ27_next_52 ?_
  refine xr_iadd dJ27_next_53 ?_
  refine xr_putfield (ci := 19) (T := TJ27) (N := 4) (i := 0) (fs' := [_, _, _, _]) hit rfl (by decide) in_J27 tyJ27 tyJ27_ok nmJ27 q2054 (.inl rfl) rfl dJ27_next_54 (by first | rfl | exact nar_bI _ | exact nar_rf _) (by first | rfl | exact fit_bI _ | exact fit_rf _ _) (by simp) (by rfl) (.inl rfl) (fun hob54 => ?_)
  refine xr_aload_n dJ27_next_57 rfl (by first | rfl | exact isRef_rf _) ?_
  refine xr_aload_n dJ27_next_58 rfl (by first | rfl | exact isRef_rf _) ?_
  refine xr_iload_n dJ27_next_59 rfl ?_
  refine xr_dup_x1 dJ27_next_60 (by first | rfl | exact cat_rf _) (by first | rfl | exact cat_rf _) ?_
  refine xr_putfield (ci := 19) (T := TJ27) (N := 4) (i := 1) (fs' := [_, _, _, _]) hob54 rfl (by decide) in_J27 tyJ27 tyJ27_ok nmJ27 q2055 (.inl rfl) rfl dJ27_next_61 (by first | rfl | exact nar_bI _ | exact nar_rf _) (by first | rfl | exact fit_bI _ | exact fit_rf _ _) (by simp) (by rfl) (.inl rfl) (fun hob61 => ?_)
  refine xr_aaload ((hra.put_k hit _).put_k hob54 _) (by omega) (by omega) dJ27_next_64 ?_
  rw [hv]
  show XJ _ _ _ _ _ _ _ _ _ _ _ _ [.ref v]
  refine xr_areturn rfl rfl dJ27_next_65 ?_
  rw [hpo]
  exact ⟨rfl, hob61, (Fr.put1 _).tr (Fr.put1 _) (fun b _ q => q)⟩
