/-! 22.lists.lean.txt (written by tools/walker.py)  -/
set_option maxRecDepth 100000
theorem k_checkIndex3 {g : GG} {w : WW} {i n : Int} (hG : Base g) (hi : 0 ≤ i ∧ i < n) (hn : n < 2147483648) : Ct g yJ14_checkIndex (.code yJ14_checkIndex cJ14_checkIndex 3 (some .int)) 0 0 0 0 w [.int (iI i), .int (iI n), .null] (fun r_ w1 => r_ = some (.int (iI i)) ∧ w1 = w) xF := by
  refine Ct.of (lv := [some _, some _, some _]) hG (by decide +kernel) (Nat.le_of_ble_eq_true rfl) rfl ?_
  intro z hg hpo hxp hnm htab
  subst hg
  refine xr_iload_n dJ14_checkIndex_0 rfl ?_
  refine xr_if_lt (tgt := 9) dJ14_checkIndex_1 (by decide) (by omega) (fun c1 => absurd c1 (by omega)) (fun c1 => ?_)
  refine xr_iload_n dJ14_checkIndex_4 rfl ?_
  refine xr_iload_n dJ14_checkIndex_5 rfl ?_
  refine xr_icmp_lt (tgt := 16) dJ14_checkIndex_6 (by decide) (by omega) (fun c6 => ?_) (fun c6 => absurd c6 (by omega))
  refine xr_iload_n dJ14_checkIndex_16 rfl ?_
  refine xr_ireturn rfl rfl dJ14_checkIndex_17 ?_
  rw [hpo]
  first | exact ⟨rfl, rfl⟩ | exact ⟨ret_bt (by omega), rfl⟩ | exact ⟨ret_bf (by omega), rfl⟩ | exact ⟨ret_i (by omega), rfl⟩
theorem k_checkIndex {g : GG} {w : WW} {i n : Int} (hG : Base g) (hi : 0 ≤ i ∧ i < n) (hn : n < 2147483648) : Ct g yJ13_checkIndex (.code yJ13_checkIndex cJ13_checkIndex 2 (some .int)) 1 22 0 0 w [.int (iI i), .int (iI n)] (fun r_ w1 => r_ = some (.int (iI i)) ∧ w1 = w) xF := by
  refine Ct.of (lv := [some _, some _]) hG (by decide +kernel) (Nat.le_of_ble_eq_true rfl) rfl ?_
  intro z hg hpo hxp hnm htab
  subst hg
  refine xr_iload_n dJ13_checkIndex_0 rfl ?_
  refine xr_iload_n dJ13_checkIndex_1 rfl ?_
  refine xr_null dJ13_checkIndex_2 ?_
  refine xr_callS (n9 := 3) (rc' := 0) (rs' := 0) (k_checkIndex3 hG hi hn) q373 q374 q106 q375 (by decide +kernel) rfl ⟨by decide, Nat.le_of_ble_eq_true rfl⟩ ⟨Nat.le_of_ble_eq_true rfl, Nat.le_of_ble_eq_true rfl⟩ (Nat.le_of_ble_eq_true rfl) dJ13_checkIndex_3 rfl (xk_r ?_) (fun _ _ _ h => h.elim)
  refine xr_ireturn rfl rfl dJ13_checkIndex_6 ?_
  rw [hpo]
  first | exact ⟨rfl, rfl⟩ | exact ⟨ret_bt (by omega), rfl⟩ | exact ⟨ret_bf (by omega), rfl⟩ | exact ⟨ret_i (by omega), rfl⟩
theorem k_AL_size {g : GG} {w : WW} {a arr : Nat} {n : Int} {f : Int → Option Nat} (hG : Base g) (hA : AL g w a arr n f) : Ct g yJ2_size (.code yJ2_size cJ2_size 1 (some .int)) 0 0 0 0 w [.ref a] (fun r_ w1 => r_ = some (.int (iI n)) ∧ w1 = w) xF := by
  refine Ct.of (lv := [some _]) hG (by decide +kernel) (Nat.le_of_ble_eq_true rfl) rfl ?_
  intro z hg hpo hxp hnm htab
  subst hg
  obtain ⟨mm, cap, hf, hob, hra, hel, hn, hcap⟩ := hA
  refine xr_aload_n dJ2_size_0 rfl (by first | rfl | exact isRef_rf _) ?_
  refine xr_getfield (ci := 2) (T := TJ2) (N := 3) (i := 2) (by assumption) rfl (by decide) in_J2 q170 (.inl rfl) dJ2_size_1 (by rfl) ?_
  refine xr_ireturn rfl rfl dJ2_size_4 ?_
  rw [hpo]
  first | exact ⟨rfl, rfl⟩ | exact ⟨ret_bt (by omega), rfl⟩ | exact ⟨ret_bf (by omega), rfl⟩ | exact ⟨ret_i (by omega), rfl⟩
theorem k_AL_elementData {g : GG} {w : WW} {a arr cap : Nat} {mm n i : Int} {h : Int → Option Nat} (hG : Base g) (hob : Ob w a 2 [.int (iI mm), .ref arr, .int (iI n)]) (hra : RA g w arr cap h) (hi : 0 ≤ i ∧ i < cap) (hc : cap ≤ 10) {v : Nat} (hv : h i = some v) : Ct g yJ2_elementData (.code yJ2_elementData cJ2_elementData 2 (some ((.object "java/lang/Object")))) 0 0 0 0 w [.ref a, .int (iI i)] (fun r_ w1 => r_ = some (.ref v) ∧ w1 = w) xF := by
  refine Ct.of (lv := [some _, some _]) hG (by decide +kernel) (Nat.le_of_ble_eq_true rfl) rfl ?_
  intro z hg hpo hxp hnm htab
  subst hg
  refine xr_aload_n dJ2_elementData_0 rfl (by first | rfl | exact isRef_rf _) ?_
  refine xr_getfield (ci := 2) (T := TJ2) (N := 3) (i := 1) (by assumption) rfl (by decide) in_J2 q167 (.inl rfl) dJ2_elementData_1 (by rfl) ?_
  refine xr_iload_n dJ2_elementData_4 rfl ?_
  refine xr_aaload (by assumption) (by omega) (by omega) dJ2_elementData_5 ?_
  rw [hv]
  show XJ _ _ _ _ _ _ _ _ _ _ _ _ [.ref v]
  refine xr_areturn rfl rfl dJ2_elementData_6 ?_
  rw [hpo]
  first | exact ⟨rfl, rfl⟩ | exact rfl
theorem k_AL_get {g : GG} {w : WW} {a arr : Nat} {n : Int} {f : Int → Option Nat} {i : Int} {v : Nat} (hG : Base g) (hA : AL g w a arr n f) (hi : 0 ≤ i ∧ i < n) (hv : f i = some v) : Ct g yJ2_get (.code yJ2_get cJ2_get 2 (some ((.object "java/lang/Object")))) 2 43 0 0 w [.ref a, .int (iI i)] (fun r_ w1 => r_ = some (.ref v) ∧ w1 = w) xF := by
  refine Ct.of (lv := [some _, some _]) hG (by decide +kernel) (Nat.le_of_ble_eq_true rfl) rfl ?_
  intro z hg hpo hxp hnm htab
  subst hg
  obtain ⟨mm, cap, hf, hob, hra, hel, hn, hcap⟩ := hA
  refine xr_iload_n dJ2_get_0 rfl ?_
  refine xr_aload_n dJ2_get_1 rfl (by first | rfl | exact isRef_rf _) ?_
  refine xr_getfield (ci := 2) (T := TJ2) (N := 3) (i := 2) (by assumption) rfl (by decide) in_J2 q170 (.inl rfl) dJ2_get_2 (by rfl) ?_
  refine xr_callS (n9 := 2) (rc' := 0) (rs' := 0) (k_checkIndex hG hi (by omega)) q370 q371 q105 q372 (by decide +kernel) rfl ⟨by decide, Nat.le_of_ble_eq_true rfl⟩ ⟨Nat.le_of_ble_eq_true rfl, Nat.le_of_ble_eq_true rfl⟩ (Nat.le_of_ble_eq_true rfl) dJ2_get_5 rfl (xk_r ?_) (fun _ _ _ h => h.elim)
  refine xr_pop dJ2_get_8 (by first | rfl | exact cat_rf _) ?_
  refine xr_aload_n dJ2_get_9 rfl (by first | rfl | exact isRef_rf _) ?_
  refine xr_iload_n dJ2_get_10 rfl ?_
  refine xr_callV (n9 := 1) (rc' := 0) (rs' := 0) (k_AL_elementData hG hob hra (by omega) (by omega) ((hel i hi.1 hi.2).trans hv)) (by assumption) rfl q376 q377 q378 q91 q379 (by decide +kernel) rfl ⟨by decide, Nat.le_of_ble_eq_true rfl⟩ ⟨Nat.le_of_ble_eq_true rfl, Nat.le_of_ble_eq_true rfl⟩ (Nat.le_of_ble_eq_true rfl) dJ2_get_11 rfl (xk_r ?_) (fun _ _ _ h => h.elim)
  refine xr_areturn rfl rfl dJ2_get_14 ?_
  rw [hpo]
  first | exact ⟨rfl, rfl⟩ | exact rfl
theorem k_AC_init {g : GG} {w : WW} {a : Nat} (hG : Base g)  : Ct g yJ0_init (.code yJ0_init cJ0_init 1 none) 1 12 0 0 w [.ref a] (fun r_ w1 => r_ = none ∧ w1 = w) xF := by
  refine Ct.of (lv := [some _]) hG (by decide +kernel) (Nat.le_of_ble_eq_true rfl) rfl ?_
  intro z hg hpo hxp hnm htab
  subst hg
  refine xr_aload_n dJ0_init_0 rfl (by first | rfl | exact isRef_rf _) ?_
  refine xr_objInit q164 q139 q140 (by decide) (Nat.le_of_ble_eq_true rfl) dJ0_init_1 ?_
  refine xr_return rfl dJ0_init_4 ?_
  rw [hpo]
  first | exact ⟨rfl, rfl⟩ | exact rfl
theorem k_ALs_init {g : GG} {w : WW} {a : Nat} {v1 v2 : Value} (hG : Base g) (ho : Ob w a 2 [.int (iI 0), v1, v2]) : Ct g yJ1_init (.code yJ1_init cJ1_init 1 none) 2 32 0 0 w [.ref a] (fun r w1 => r = none ∧ Ob w1 a 2 [.int (iI 0), v1, v2] ∧ Fr (fun b => b = a) w w1) xF := by
  refine Ct.of (lv := [some _]) hG (by decide +kernel) (Nat.le_of_ble_eq_true rfl) rfl ?_
  intro z hg hpo hxp hnm htab
  subst hg
  refine xr_aload_n dJ1_init_0 rfl (by first | rfl | exact isRef_rf _) ?_
  refine xr_callI (n9 := 0) (rc' := 0) (rs' := 0) (k_AC_init hG) q161 q162 q89 q163 rfl (by decide +kernel) rfl ⟨by decide, Nat.le_of_ble_eq_true rfl⟩ ⟨Nat.le_of_ble_eq_true rfl, Nat.le_of_ble_eq_true rfl⟩ (Nat.le_of_ble_eq_true rfl) dJ1_init_1 rfl (xk_v ?_) (fun _ _ _ h => h.elim)
  refine xr_aload_n dJ1_init_4 rfl (by first | rfl | exact isRef_rf _) ?_
  refine xr_iconst dJ1_init_5 ?_
  refine xr_putfield (ci := 2) (T := TJ2) (N := 3) (i := 0) (fs' := [_, _, _]) ho rfl (by decide) in_J2 tyJ2 tyJ2_ok nmJ2 q171 (.inl rfl) rfl dJ1_init_6 (by first | rfl | exact nar_bI _ | exact nar_rf _) (by first | rfl | exact fit_bI _ | exact fit_rf _ _) (by simp) (by rfl) (.inl rfl) (fun hob6 => ?_)
  refine xr_return rfl dJ1_init_9 ?_
  rw [hpo]
  exact ⟨rfl, hob6, Fr.put1 _⟩
theorem k_AL_init {g : GG} {w : WW} {a : Nat} (f : Int → Option Nat) (hG : Base g) (hK : KL g) (ho : Ob w a 2 [.int (iI 0), .null, .int (iI 0)]) : Ct g yJ2_init (.code yJ2_init cJ2_init 1 none) 3 52 0 0 w [.ref a] (fun r w1 => r = none ∧ AL g w1 a (gC g 0) 0 f ∧ Fr (fun b => b = a) w w1) xF := by
  refine Ct.of (lv := [some _]) hG (by decide +kernel) (Nat.le_of_ble_eq_true rfl) rfl ?_
  intro z hg hpo hxp hnm htab
  subst hg
  refine xr_aload_n dJ2_init_0 rfl (by first | rfl | exact isRef_rf _) ?_
  refine xr_callI (n9 := 0) (rc' := 0) (rs' := 0) (k_ALs_init hG ho) q158 q159 q90 q160 rfl (by decide +kernel) rfl ⟨by decide, Nat.le_of_ble_eq_true rfl⟩ ⟨Nat.le_of_ble_eq_true rfl, Nat.le_of_ble_eq_true rfl⟩ (Nat.le_of_ble_eq_true rfl) dJ2_init_1 rfl (fun r w1 hw => ?_) (fun _ _ _ h => h.elim)
  obtain ⟨rfl, ho2, hfr⟩ := hw
  refine xr_aload_n dJ2_init_4 rfl (by first | rfl | exact isRef_rf _) ?_
  refine xr_getstatic hK.1 q165 dJ2_init_5 ?_
  refine xr_putfield (ci := 2) (T := TJ2) (N := 3) (i := 1) (fs' := [_, _, _]) ho2 rfl (by decide) in_J2 tyJ2 tyJ2_ok nmJ2 q167 (.inl rfl) rfl dJ2_init_8 (by first | rfl | exact nar_bI _ | exact nar_rf _) (by first | rfl | exact fit_bI _ | exact fit_rf _ _) (by simp) (by rfl) (.inl rfl) (fun hob8 => ?_)
  refine xr_base (fun hB hk9 => ?_)
  refine xr_return rfl dJ2_init_11 ?_
  rw [hpo]
  refine ⟨rfl, ⟨0, 0, _, hob8, ((hK.2.2).mo hk9 hK.2.1), fun k a b => by omega, by omega, Or.inr ⟨rfl, rfl, hK.2.1⟩⟩, hfr.tr (Fr.put1 _) (fun b _ q => q)⟩
theorem k_AL_growN {g : GG} {w : WW} {a : Nat} {mm n m : Int} (hG : Base g) (hK : KL g) (hob : Ob w a 2 [.int (iI mm), .ref (gC g 0), .int (iI n)]) (hra : RA g w (gC g 0) 0 (fun _ => none)) (hm : 0 < m ∧ m ≤ 10) : Ct g yJ2_grow_2 (.code yJ2_grow_2 cJ2_grow_2 4 (some ((.array (.object "java/lang/Object"))))) 1 21 1 10 w [.ref a, .int (iI m)] (fun r w1 => ∃ q : Nat, r = some (.ref q) ∧ Ob w1 a 2 [.int (iI mm), .ref q, .int (iI n)] ∧ RA g w1 q 10 (fun _ => none) ∧ w.2 ≤ q ∧ gb g ≤ q ∧ Fr (fun b => b = a) w w1) xF := by
  refine Ct.of (lv := [some _, some _, none, none]) hG (by decide +kernel) (Nat.le_of_ble_eq_true rfl) rfl ?_
  intro z hg hpo hxp hnm htab
  subst hg
  refine xr_aload_n dJ2_grow_2_0 rfl (by first | rfl | exact isRef_rf _) ?_
  refine xr_getfield (ci := 2) (T := TJ2) (N := 3) (i := 1) (by assumption) rfl (by decide) in_J2 q167 (.inl rfl) dJ2_grow_2_1 (by rfl) ?_
  refine xr_alenRA (by assumption) dJ2_grow_2_4 ?_
  refine xr_istore_n (lv' := [some _, some _, some _, none]) dJ2_grow_2_5 (by decide) rfl rfl ?_
  refine xr_iload_n dJ2_grow_2_6 rfl ?_
  refine xr_if_gt (tgt := 20) dJ2_grow_2_7 (by decide) (by omega) (fun c7 => absurd c7 (by omega)) (fun c7 => ?_)
  refine xr_aload_n dJ2_grow_2_10 rfl (by first | rfl | exact isRef_rf _) ?_
  refine xr_getfield (ci := 2) (T := TJ2) (N := 3) (i := 1) (by assumption) rfl (by decide) in_J2 q167 (.inl rfl) dJ2_grow_2_11 (by rfl) ?_
  refine xr_getstatic hK.1 q165 dJ2_grow_2_14 ?_
  refine xr_acmp_eq (rx := some _) (ry := some _) (tgt := 45) dJ2_grow_2_17 (by decide) (fun c17 => ?_) (fun c17 => absurd rfl c17)
  refine xr_aload_n dJ2_grow_2_45 rfl (by first | rfl | exact isRef_rf _) ?_
  refine xr_bipush dJ2_grow_2_46 (by decide) ?_
  refine xr_iload_n dJ2_grow_2_48 rfl ?_
  refine xr_mmax q792 q360 q111 q361 (by decide) (Nat.le_of_ble_eq_true rfl) (by omega) dJ2_grow_2_49 ?_
  rw [show max 10 m = 10 by omega]
  refine xr_newRA (rc' := 0) (rs' := 0) q793 q460 (by omega) (by omega) dJ2_grow_2_52 (fun a52 e52 ga52 ba52 har52 => ?_)
  have hra2 : RA (zg z) _ a52 10 _ := har52
  have hob2 := hob.new_ne ga52 e52
  refine xr_dup_x1 dJ2_grow_2_55 (by first | rfl | exact cat_rf _) (by first | rfl | exact cat_rf _) ?_
  refine xr_putfield (ci := 2) (T := TJ2) (N := 3) (i := 1) (fs' := [_, _, _]) hob2 rfl (by decide) in_J2 tyJ2 tyJ2_ok nmJ2 q167 (.inl rfl) rfl dJ2_grow_2_56 (by first | rfl | exact nar_bI _ | exact nar_rf _) (by first | rfl | exact fit_bI _ | exact fit_rf _ _) (by simp) (by rfl) (.inl rfl) (fun hob56 => ?_)
  refine xr_areturn rfl rfl dJ2_grow_2_59 ?_
  rw [hpo]
  refine ⟨_, rfl, hob56, hra2.put_k hob2 _, ga52, ba52, (Fr.new ga52 _).tr (Fr.put1 _) (fun b _ q => q)⟩
theorem k_AL_grow {g : GG} {w : WW} {a : Nat} {mm n : Int} (hG : Base g) (hK : KL g) (hob : Ob w a 2 [.int (iI mm), .ref (gC g 0), .int (iI n)]) (hra : RA g w (gC g 0) 0 (fun _ => none)) (hm : 0 ≤ n ∧ n < 10) : Ct g yJ2_grow (.code yJ2_grow cJ2_grow 1 (some ((.array (.object "java/lang/Object"))))) 2 44 1 10 w [.ref a] (fun r w1 => ∃ q : Nat, r = some (.ref q) ∧ Ob w1 a 2 [.int (iI mm), .ref q, .int (iI n)] ∧ RA g w1 q 10 (fun _ => none) ∧ w.2 ≤ q ∧ gb g ≤ q ∧ Fr (fun b => b = a) w w1) xF := by
  refine Ct.of (lv := [some _]) hG (by decide +kernel) (Nat.le_of_ble_eq_true rfl) rfl ?_
  intro z hg hpo hxp hnm htab
  subst hg
  refine xr_aload_n dJ2_grow_0 rfl (by first | rfl | exact isRef_rf _) ?_
  refine xr_aload_n dJ2_grow_1 rfl (by first | rfl | exact isRef_rf _) ?_
  refine xr_getfield (ci := 2) (T := TJ2) (N := 3) (i := 2) (by assumption) rfl (by decide) in_J2 q170 (.inl rfl) dJ2_grow_2 (by rfl) ?_
  refine xr_iconst dJ2_grow_5 ?_
  refine xr_iadd dJ2_grow_6 ?_
  refine xr_callV (n9 := 1) (rc' := 0) (rs' := 0) (k_AL_growN hG hK hob hra (by omega)) (by assumption) rfl q779 q781 qs8 q91 q782 (by decide +kernel) rfl ⟨by decide, Nat.le_of_ble_eq_true rfl⟩ ⟨Nat.le_of_ble_eq_true rfl, Nat.le_of_ble_eq_true rfl⟩ (Nat.le_of_ble_eq_true rfl) dJ2_grow_7 rfl (fun r w7 hw => ?_) (fun _ _ _ h => h.elim)
  obtain ⟨q, rfl, h1, h2, h3, h4, h5⟩ := hw
  show XJ _ _ _ _ _ _ _ _ _ _ _ _ [.ref q]
  refine xr_areturn rfl rfl dJ2_grow_10 ?_
  rw [hpo]
  exact ⟨q, rfl, h1, h2, h3, h4, h5⟩
theorem k_AL_add3 {g : GG} {w : WW} {a arr : Nat} {n : Int} {f : Int → Option Nat} {v ci : Nat} {fs : List Value} {qc : vw_C} (hG : Base g) (hK : KL g) (hA : AL g w a arr n f) (hn10 : n < 10) (hv : Ob w v ci fs) (hq : vwCl[ci]? = some qc) (hcast : Cond.castable qc.1 "java/lang/Object" ∈ lw_tbl) (hka : ci ≠ 2) : Ct g yJ2_add_2 (.code yJ2_add_2 cJ2_add_2 4 none) 3 64 1 10 w [.ref a, .ref v, .ref arr, .int (iI n)] (fun r w1 => r = none ∧ ∃ arr' : Nat, AL g w1 a arr' (n + 1) (updR f n (some v)) ∧ Fr (fun b => b = a ∨ (b = arr ∧ gb g ≤ b)) w w1 ∧ (arr' = arr ∨ w.2 ≤ arr')) xF := by
  refine Ct.of (lv := [some _, some _, some _, some _]) hG (by decide +kernel) (Nat.le_of_ble_eq_true rfl) rfl ?_
  intro z hg hpo hxp hnm htab
  subst hg
  obtain ⟨mm, cap, hf, hob, hra, hel, hn, hcap⟩ := hA
  refine xr_iload_n dJ2_add_2_0 rfl ?_
  refine xr_aload_n dJ2_add_2_1 rfl (by first | rfl | exact isRef_rf _) ?_
  refine xr_alenRA (by assumption) dJ2_add_2_2 ?_
  refine xr_icmp_ne (tgt := 11) dJ2_add_2_3 (by decide) (by omega) (fun c3 => ?_) (fun c3 => ?_)
  · skip
    have hge : gb (zg z) ≤ arr := by omega
    obtain rfl : cap = 10 := by omega
    have hobX := hob
    have hraX := hra
    have hvX := hv
    have hfX : Fr (fun b => b = a ∨ (b = arr ∧ gb (zg z) ≤ b)) w w := Fr.rf
    have harX : arr = arr ∨ w.2 ≤ arr := Or.inl rfl
    have helX : ∀ k : Int, 0 ≤ k → k < n → hf k = f k := hel
    refine xr_aload_n dJ2_add_2_11 rfl (by first | rfl | exact isRef_rf _) ?_
    refine xr_iload_n dJ2_add_2_12 rfl ?_
    refine xr_aload_n dJ2_add_2_13 rfl (by first | rfl | exact isRef_rf _) ?_
    refine xr_aastore hraX hge (by omega) (by omega) hvX hq hcast dJ2_add_2_14 (fun e14 har14 => ?_)
    have hobY := hobX.put_RA hraX e14
    refine xr_aload_n dJ2_add_2_15 rfl (by first | rfl | exact isRef_rf _) ?_
    refine xr_iload_n dJ2_add_2_16 rfl ?_
    refine xr_iconst dJ2_add_2_17 ?_
    refine xr_iadd dJ2_add_2_18 ?_
    refine xr_putfield (ci := 2) (T := TJ2) (N := 3) (i := 2) (fs' := [_, _, _]) hobY rfl (by decide) in_J2 tyJ2 tyJ2_ok nmJ2 q170 (.inl rfl) rfl dJ2_add_2_19 (by first | rfl | exact nar_bI _ | exact nar_rf _) (by first | rfl | exact fit_bI _ | exact fit_rf _ _) (by simp) (by rfl) (.inl rfl) (fun hob19 => ?_)
    refine xr_return rfl dJ2_add_2_22 ?_
    rw [hpo]
    refine ⟨rfl, _, ⟨_, 10, _, hob19, (har14.put_k hobY _), fun k a b => ?_, by omega, Or.inl ⟨hge, rfl⟩⟩, ?_, harX⟩
    · simp only [updR]
      by_cases hk : k = n
      · rw [if_pos hk, if_pos hk]
      · rw [if_neg hk, if_neg hk]
        exact helX k a (by omega)
    · refine hfX.tr ((Fr.put (S := fun b => b = a ∨ (b = _ ∧ gb (zg z) ≤ b)) (Or.inr ⟨rfl, hge⟩) _).tr (Fr.put (S := fun b => b = a ∨ (b = _ ∧ gb (zg z) ≤ b)) (Or.inl rfl) _) (fun b _ q => q)) (fun b hb q => ?_)
      rcases q with q | ⟨q, q2⟩
      · exact Or.inl q
      · rcases harX with h | h
        · exact Or.inr ⟨q.trans h, q2⟩
        · omega
  · skip
    have hc0 : cap = 0 := by omega
    obtain ⟨rfl, -⟩ : arr = gC (zg z) 0 ∧ True := ⟨by omega, trivial⟩
    subst hc0
    refine xr_aload_n dJ2_add_2_6 rfl (by first | rfl | exact isRef_rf _) ?_
    refine xr_callV (n9 := 0) (rc' := 0) (rs' := 0) (k_AL_grow hG hK hob (hra.to (fun k a b => by omega)) (by omega)) (by assumption) rfl q775 q777 qs7 q91 q778 (by decide +kernel) rfl ⟨by decide, Nat.le_of_ble_eq_true rfl⟩ ⟨Nat.le_of_ble_eq_true rfl, Nat.le_of_ble_eq_true rfl⟩ (Nat.le_of_ble_eq_true rfl) dJ2_add_2_7 rfl (fun r w7 hw => ?_) (fun _ _ _ h => h.elim)
    obtain ⟨q, rfl, hobX, hraX, hq2, hge, hfr⟩ := hw
    show XJ _ _ _ _ _ _ _ _ _ _ _ _ [.ref q]
    have hvX := hv.fr hfr (fun q => (Ob.apart hv hob hka) q)
    have hfX : Fr (fun b => b = a ∨ (b = gC (zg z) 0 ∧ gb (zg z) ≤ b)) w w7 := hfr.to (fun b _ q => Or.inl q)
    have harX : q = gC (zg z) 0 ∨ w.2 ≤ q := Or.inr hq2
    have hc10 : (10 : Nat) = 10 := rfl
    have helX : ∀ k : Int, 0 ≤ k → k < n → (fun _ => none : Int → Option Nat) k = f k := fun k a b => by omega
    refine xr_astore_n (lv' := [some _, some _, some _, some _]) dJ2_add_2_10 (by decide) rfl (by first | rfl | exact isRef_rf _) rfl ?_
    refine xr_aload_n dJ2_add_2_11 rfl (by first | rfl | exact isRef_rf _) ?_
    refine xr_iload_n dJ2_add_2_12 rfl ?_
    refine xr_aload_n dJ2_add_2_13 rfl (by first | rfl | exact isRef_rf _) ?_
    refine xr_aastore hraX hge (by omega) (by omega) hvX hq hcast dJ2_add_2_14 (fun e14 har14 => ?_)
    have hobY := hobX.put_RA hraX e14
    refine xr_aload_n dJ2_add_2_15 rfl (by first | rfl | exact isRef_rf _) ?_
    refine xr_iload_n dJ2_add_2_16 rfl ?_
    refine xr_iconst dJ2_add_2_17 ?_
    refine xr_iadd dJ2_add_2_18 ?_
    refine xr_putfield (ci := 2) (T := TJ2) (N := 3) (i := 2) (fs' := [_, _, _]) hobY rfl (by decide) in_J2 tyJ2 tyJ2_ok nmJ2 q170 (.inl rfl) rfl dJ2_add_2_19 (by first | rfl | exact nar_bI _ | exact nar_rf _) (by first | rfl | exact fit_bI _ | exact fit_rf _ _) (by simp) (by rfl) (.inl rfl) (fun hob19 => ?_)
    refine xr_return rfl dJ2_add_2_22 ?_
    rw [hpo]
    refine ⟨rfl, _, ⟨_, 10, _, hob19, (har14.put_k hobY _), fun k a b => ?_, by omega, Or.inl ⟨hge, rfl⟩⟩, ?_, harX⟩
    · simp only [updR]
      by_cases hk : k = n
      · rw [if_pos hk, if_pos hk]
      · rw [if_neg hk, if_neg hk]
        exact helX k a (by omega)
    · refine hfX.tr ((Fr.put (S := fun b => b = a ∨ (b = _ ∧ gb (zg z) ≤ b)) (Or.inr ⟨rfl, hge⟩) _).tr (Fr.put (S := fun b => b = a ∨ (b = _ ∧ gb (zg z) ≤ b)) (Or.inl rfl) _) (fun b _ q => q)) (fun b hb q => ?_)
      rcases q with q | ⟨q, q2⟩
      · exact Or.inl q
      · rcases harX with h | h
        · exact Or.inr ⟨q.trans h, q2⟩
        · omega
theorem k_AL_add {g : GG} {w : WW} {a arr : Nat} {n : Int} {f : Int → Option Nat} {v ci : Nat} {fs : List Value} {qc : vw_C} (hG : Base g) (hK : KL g) (hA : AL g w a arr n f) (hn10 : n < 10) (hv : Ob w v ci fs) (hq : vwCl[ci]? = some qc) (hcast : Cond.castable qc.1 "java/lang/Object" ∈ lw_tbl) (hka : ci ≠ 2) : Ct g yJ2_add (.code yJ2_add cJ2_add 2 (some .boolean)) 4 87 1 10 w [.ref a, .ref v] (fun r w1 => r = some (.int (iI 1)) ∧ ∃ arr' : Nat, AL g w1 a arr' (n + 1) (updR f n (some v)) ∧ Fr (fun b => b = a ∨ (b = arr ∧ gb g ≤ b)) w w1 ∧ (arr' = arr ∨ w.2 ≤ arr')) xF := by
  refine Ct.of (lv := [some _, some _]) hG (by decide +kernel) (Nat.le_of_ble_eq_true rfl) rfl ?_
  intro z hg hpo hxp hnm htab
  subst hg
  obtain ⟨mm, cap, hf, hob, hra, hel, hn, hcap⟩ := hA
  refine xr_aload_n dJ2_add_0 rfl (by first | rfl | exact isRef_rf _) ?_
  refine xr_dup dJ2_add_1 (by first | rfl | exact cat_rf _) ?_
  refine xr_getfield (ci := 2) (T := TJ2) (N := 3) (i := 0) (by assumption) rfl (by decide) in_J2 q174 (.inr q173) dJ2_add_2 (by rfl) ?_
  refine xr_iconst dJ2_add_5 ?_
  refine xr_iadd dJ2_add_6 ?_
  refine xr_putfield (ci := 2) (T := TJ2) (N := 3) (i := 0) (fs' := [_, _, _]) (by assumption) rfl (by decide) in_J2 tyJ2 tyJ2_ok nmJ2 q174 (.inr q173) rfl dJ2_add_7 (by first | rfl | exact nar_bI _ | exact nar_rf _) (by first | rfl | exact fit_bI _ | exact fit_rf _ _) (by simp) (by rfl) (.inl rfl) (fun hob7 => ?_)
  have hA2 : AL (zg z) (wput w a (.inl (.inr (2, [.int (iI (mm + 1)), .ref arr, .int (iI n)])))) a arr n f := ⟨mm + 1, cap, hf, hob7, hra.put_k hob _, hel, hn, hcap⟩
  have hv2 := hv.put_k (f' := [.int (iI (mm + 1)), .ref arr, .int (iI n)]) hob hka
  refine xr_aload_n dJ2_add_10 rfl (by first | rfl | exact isRef_rf _) ?_
  refine xr_aload_n dJ2_add_11 rfl (by first | rfl | exact isRef_rf _) ?_
  refine xr_aload_n dJ2_add_12 rfl (by first | rfl | exact isRef_rf _) ?_
  refine xr_getfield (ci := 2) (T := TJ2) (N := 3) (i := 1) (by assumption) rfl (by decide) in_J2 q167 (.inl rfl) dJ2_add_13 (by rfl) ?_
  refine xr_aload_n dJ2_add_16 rfl (by first | rfl | exact isRef_rf _) ?_
  refine xr_getfield (ci := 2) (T := TJ2) (N := 3) (i := 2) (by assumption) rfl (by decide) in_J2 q170 (.inl rfl) dJ2_add_17 (by rfl) ?_
  refine xr_callV (n9 := 3) (rc' := 0) (rs' := 0) (k_AL_add3 hG hK hA2 hn10 hv2 hq hcast hka) (by assumption) rfl q771 q773 qs6 q91 q774 (by decide +kernel) rfl ⟨by decide, Nat.le_of_ble_eq_true rfl⟩ ⟨Nat.le_of_ble_eq_true rfl, Nat.le_of_ble_eq_true rfl⟩ (Nat.le_of_ble_eq_true rfl) dJ2_add_20 rfl (fun r w20 hw => ?_) (fun _ _ _ h => h.elim)
  obtain ⟨rfl, arr2, h1, h2, h3⟩ := hw
  refine xr_iconst dJ2_add_23 ?_
  refine xr_ireturn rfl (by first | rfl | exact nar_bI _ | decide +kernel) dJ2_add_24 ?_
  rw [hpo]
  exact ⟨rfl, arr2, h1, (Fr.put (S := fun b => b = a ∨ (b = arr ∧ gb (zg z) ≤ b)) (Or.inl rfl) _).tr h2 (fun b _ q => q), h3⟩
theorem k_AL_clear {g : GG} {w : WW} {a arr : Nat} {n : Int} {f : Int → Option Nat} (f' : Int → Option Nat) (hG : Base g) (hA : AL g w a arr n f) : Ct g yJ2_clear (.code yJ2_clear cJ2_clear 4 none) 0 0 0 0 w [.ref a] (fun r w1 => r = none ∧ AL g w1 a arr 0 f' ∧ Fr (fun b => b = a ∨ (b = arr ∧ gb g ≤ b)) w w1) xF := by
  refine Ct.of (lv := [some _, none, none, none]) hG (by decide +kernel) (Nat.le_of_ble_eq_true rfl) rfl ?_
  intro z hg hpo hxp hnm htab
  subst hg
  obtain ⟨mm, cap, hf, hob, hra, hel, hn, hcap⟩ := hA
  have lp : ∀ (fuel : Nat) (w9 : WW) (i : Int) (h9 : Int → Option Nat), 0 ≤ i → i ≤ n → n - i < fuel → Ob w9 a 2 [.int (iI (mm + 1)), .ref arr, .int (iI 0)] → RA (zg z) w9 arr cap h9 → Fr (fun b => b = a ∨ (b = arr ∧ gb (zg z) ≤ b)) w w9 → XJ z yJ2_clear.cls cJ2_clear 4 none 0 0 w9 (0) (0) 27 [some (.ref a), some (.ref arr), some (.int (iI n)), some (.int (iI i))] [] := by
    intro fuel
    induction fuel with
    | zero =>
      intro w9 i h9 hi hin hfu hob9 hra9 hfr9
      omega
    | succ fuel ih =>
      intro w9 i h9 hi hin hfu hob9 hra9 hfr9
      refine xr_iload_n dJ2_clear_27 rfl ?_
      refine xr_iload_n dJ2_clear_28 rfl ?_
      refine xr_icmp_ge (tgt := 42) dJ2_clear_29 (by decide) (by omega) (fun c29 => ?_) (fun c29 => ?_)
      · skip
        refine xr_return rfl dJ2_clear_42 ?_
        rw [hpo]
        exact ⟨rfl, ⟨_, cap, h9, hob9, hra9, fun k a b => by omega, by omega, hcap⟩, hfr9⟩
      · skip
        have hge : gb (zg z) ≤ arr := by omega
        refine xr_aload_n dJ2_clear_32 rfl (by first | rfl | exact isRef_rf _) ?_
        refine xr_iload_n dJ2_clear_33 rfl ?_
        refine xr_null dJ2_clear_34 ?_
        refine xr_aastoreN hra9 hge (by omega) (by omega) dJ2_clear_35 (fun e35 har35 => ?_)
        have hob9' := hob9.put_RA hra9 e35
        have hfr9' := hfr9.tr (Fr.put (S := fun b => b = a ∨ (b = arr ∧ gb (zg z) ≤ b)) (Or.inr ⟨rfl, hge⟩) e35) (fun b _ q => q)
        refine xr_iinc (lv' := [some _, some _, some _, some _]) dJ2_clear_36 rfl (by decide) rfl rfl ?_
        refine xr_goto (tgt := 27) dJ2_clear_39 (by decide) ?_
        exact ih _ _ _ (by omega) (by omega) (by omega) hob9' har35 hfr9'
  refine xr_aload_n dJ2_clear_0 rfl (by first | rfl | exact isRef_rf _) ?_
  refine xr_dup dJ2_clear_1 (by first | rfl | exact cat_rf _) ?_
  refine xr_getfield (ci := 2) (T := TJ2) (N := 3) (i := 0) (by assumption) rfl (by decide) in_J2 q174 (.inr q173) dJ2_clear_2 (by rfl) ?_
  refine xr_iconst dJ2_clear_5 ?_
  refine xr_iadd dJ2_clear_6 ?_
  refine xr_putfield (ci := 2) (T := TJ2) (N := 3) (i := 0) (fs' := [_, _, _]) (by assumption) rfl (by decide) in_J2 tyJ2 tyJ2_ok nmJ2 q174 (.inr q173) rfl dJ2_clear_7 (by first | rfl | exact nar_bI _ | exact nar_rf _) (by first | rfl | exact fit_bI _ | exact fit_rf _ _) (by simp) (by rfl) (.inl rfl) (fun hob7 => ?_)
  have hra1 := hra.put_k hob (.inl (.inr (2, [.int (iI (mm + 1)), .ref arr, .int (iI n)])))
  refine xr_aload_n dJ2_clear_10 rfl (by first | rfl | exact isRef_rf _) ?_
  refine xr_getfield (ci := 2) (T := TJ2) (N := 3) (i := 1) (by assumption) rfl (by decide) in_J2 q167 (.inl rfl) dJ2_clear_11 (by rfl) ?_
  refine xr_astore_n (lv' := [some _, some _, none, none]) dJ2_clear_14 (by decide) rfl (by first | rfl | exact isRef_rf _) rfl ?_
  refine xr_aload_n dJ2_clear_15 rfl (by first | rfl | exact isRef_rf _) ?_
  refine xr_getfield (ci := 2) (T := TJ2) (N := 3) (i := 2) (by assumption) rfl (by decide) in_J2 q170 (.inl rfl) dJ2_clear_16 (by rfl) ?_
  refine xr_istore_n (lv' := [some _, some _, some _, none]) dJ2_clear_19 (by decide) rfl rfl ?_
  refine xr_aload_n dJ2_clear_20 rfl (by first | rfl | exact isRef_rf _) ?_
  refine xr_iconst dJ2_clear_21 ?_
  refine xr_dup_x1 dJ2_clear_22 (by first | rfl | exact cat_rf _) (by first | rfl | exact cat_rf _) ?_
  refine xr_putfield (ci := 2) (T := TJ2) (N := 3) (i := 2) (fs' := [_, _, _]) hob7 rfl (by decide) in_J2 tyJ2 tyJ2_ok nmJ2 q170 (.inl rfl) rfl dJ2_clear_23 (by first | rfl | exact nar_bI _ | exact nar_rf _) (by first | rfl | exact fit_bI _ | exact fit_rf _ _) (by simp) (by rfl) (.inl rfl) (fun hob23 => ?_)
  have hra2 := hra1.put_k hob7 (.inl (.inr (2, [.int (iI (mm + 1)), .ref arr, .int (iI 0)])))
  have hfr2 := (Fr.put (w := w) (a := a) (S := fun b => b = a ∨ (b = arr ∧ gb (zg z) ≤ b)) (Or.inl rfl) (.inl (.inr (2, [.int (iI (mm + 1)), .ref arr, .int (iI n)])))).tr (Fr.put (a := a) (S := fun b => b = a ∨ (b = arr ∧ gb (zg z) ≤ b)) (Or.inl rfl) (.inl (.inr (2, [.int (iI (mm + 1)), .ref arr, .int (iI 0)])))) (fun b _ q => q)
  refine xr_istore_n (lv' := [some _, some _, some _, some _]) dJ2_clear_26 (by decide) rfl rfl ?_
  exact lp (n.toNat + 1) _ 0 hf (by omega) (by omega) (by omega) hob23 hra2 hfr2
