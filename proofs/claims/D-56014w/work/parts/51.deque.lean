/-! 51.deque.lean.txt (written by tools/walker.py)  -/
set_option maxRecDepth 100000
/-- the cache of small Integers: its array and its objects -/
def ic (g : GG) (c : Nat) : Nat := gC g (228 + c)
def KI (g : GG) : Prop := Sz g "java/lang/Integer$IntegerCache" "high" "I" (.int (iI 127)) ∧ Sz g "java/lang/Integer$IntegerCache" "cache" "[Ljava/lang/Integer;" (.ref (gC g 1)) ∧
  (∃ (c : ClassId) (x : Nat → Option Nat), ArrOfT (gU g) c (.object "java/lang/Integer") ∧ gC g 1 < gb g ∧ Wa (gK g, gb g) (gC g 1) (.inl (.inl (c, 256, .inr (.inr (.inr (.inr x)))))) ∧ ∀ i : Nat, i < 256 → x i = some (gC g (100 + i))) ∧
  ∀ i : Nat, i < 256 → gC g (100 + i) < gb g ∧ Ob (gK g, gb g) (gC g (100 + i)) 18 [.int (iI ((i : Int) - 128))]
theorem KI.ob {g : GG} (h : KI g) {w : WW} (hk : Mo (gb g) (gK g, gb g) w) {c : Nat} (hc : c < 128) : Ob w (ic g c) 18 [.int (iI c)] := by
  obtain ⟨-, -, -, h4⟩ := h
  obtain ⟨h5, h6⟩ := h4 (128 + c) (by omega)
  rw [show 100 + (128 + c) = 228 + c by omega] at h5 h6
  rw [show (((128 + c : Nat) : Int) - 128) = (c : Int) by omega] at h6
  exact h6.mo hk h5
section Rw
variable {z : ZZ} {own : String} {cc : ByteArray} {nL fr lo rc rs pc : Nat} {ret : Option FieldType} {w : WW} {lv : List (Option Value)} {st : List Value}
theorem xr_aaloadW {a n : Nat} {c : ClassId} {x : Nat → Option Nat} {i : Int} {Cn : String} (hT : ArrOfT (gU (zg z)) c (.object Cn)) (h : Wa w a (.inl (.inl (c, n, .inr (.inr (.inr (.inr x))))))) (hi : 0 ≤ i ∧ i < n) (hn : (n : Int) ≤ 2147483647) (d : decode cc pc = .ok (.aaload, 1)) (k : XJ z own cc nL ret fr lo w rc rs (pc + 1) lv (va_rf (x i.toNat) :: st)) : XJ z own cc nL ret fr lo w rc rs pc lv (.int (iI i) :: .ref a :: st) := by
  intro C H L n1 n2 ls hH hl hc hs hv
  obtain ⟨e1, e2⟩ := cl_nat hi hn
  refine W.aald (v := va_rf (x (iI i).toNatClampNeg)) (ty := .object Cn) C.hx C.hb (hp_P hH h 0 _ rfl) ((arrOfT_moved C.warm.alike hT) n (fun j => va_rf (x j))) rfl (fun q => by cases q) (by show ¬ (iI i < 0 ∨ (arrV _ _ _).slots.size ≤ _); rw [arrV_size]; exact iI_in hi hn) (by show (arrV c n (fun j => va_rf (x j))).slots[_]? = _; rw [arrV_read _ _ (by rw [e1]; exact e2)]) rfl rfl d ?_
  rw [e1]
  exact k C H L n1 n2 ls hH hl hc hs hv
end Rw
def wrap17 (x : Int) : Int := if x < 17 then x else x - 17
theorem wrap17_bd {x : Int} (h : 0 ≤ x ∧ x < 34) : 0 ≤ wrap17 x ∧ wrap17 x < 17 ∧ (wrap17 x = x ∨ wrap17 x = x - 17) := by
  unfold wrap17
  split <;> omega
/-- an ArrayDeque at a, its array of 17 places at arr, in it the small Integers l -/
def DQ (g : GG) (w : WW) (a arr : Nat) (l : List Nat) : Prop := ∃ (hd tl : Int) (h : Int → Option Nat), Ob w a 17 [.ref arr, .int (iI hd), .int (iI tl)] ∧ RA g w arr 17 h ∧ gb g ≤ arr ∧ (0 ≤ hd ∧ hd < 17 ∧ 0 ≤ tl ∧ tl < 17) ∧ l.length ≤ 16 ∧ (hd + l.length = tl ∨ hd + l.length = tl + 17) ∧
  ∀ (i c : Nat), l[i]? = some c → h (wrap17 (hd + i)) = some (ic g c) ∧ Ob w (ic g c) 18 [.int (iI c)]
theorem DQ.fr {g : GG} {S : Nat → Prop} {w w' : WW} {a arr : Nat} {l : List Nat} (h : DQ g w a arr l) (hf : Fr S w w') (h1 : ¬ S a) (h2 : ¬ S arr) (h3 : ∀ (b : Nat) (fs : List Value), Ob w b 18 fs → ¬ S b) : DQ g w' a arr l := by
  obtain ⟨hd, tl, x, g1, g2, g3, g4, g5, g6, g7⟩ := h
  exact ⟨hd, tl, x, g1.fr hf h1, g2.fr hf h2, g3, g4, g5, g6, fun i c hi => ⟨(g7 i c hi).1, (g7 i c hi).2.fr hf (h3 _ _ (g7 i c hi).2)⟩⟩
theorem DQ.ob {g : GG} {w : WW} {a arr : Nat} {l : List Nat} (h : DQ g w a arr l) : ∃ fs, Ob w a 17 fs := by
  obtain ⟨hd, tl, x, g1, -⟩ := h
  exact ⟨_, g1⟩
theorem IA.ra_ne {g : GG} {w : WW} {b n a m : Nat} {f : Int → Int} {x : Int → Option Nat} (h : IA g w b n f) (h' : RA g w a m x) : b ≠ a := by
  obtain ⟨-, y, h1, -⟩ := h
  obtain ⟨v, h2, -⟩ := h'
  exact h1.apart h2 (fun q => by injection q with q; injection q with q; injection q with _ q; injection q with _ q; cases q)
theorem DQ.ia {g : GG} {w : WW} {a arr b n : Nat} {f : Int → Int} {l : List Nat} (h : DQ g w a arr l) (hI : IA g w b n f) : b ≠ a ∧ b ≠ arr := by
  obtain ⟨hd, tl, x, g1, g2, -⟩ := h
  exact ⟨hI.ob_ne g1, hI.ra_ne g2⟩
theorem IA.ia_ne {g : GG} {w : WW} {b n a m : Nat} {f f' : Int → Int} (h : IA g w b n f) (h' : IA g w a m f') (hn : n ≠ m) : b ≠ a := by
  obtain ⟨-, y, h1, -⟩ := h
  obtain ⟨-, v, h2, -⟩ := h'
  exact h1.apart h2 (fun q => hn (by injection q with q; injection q with q; injection q with _ q; injection q))
theorem DQ.el {g : GG} {w : WW} {a arr c : Nat} {l : List Nat} (h : DQ g w a arr (c :: l)) : Ob w (ic g c) 18 [.int (iI c)] := by
  obtain ⟨hd, tl, x, g1, g2, g3, g4, g5, g6, g7⟩ := h
  exact (g7 0 c rfl).2
theorem DQ.lt {g : GG} {w : WW} {a arr : Nat} {l : List Nat} (h : DQ g w a arr l) : a < w.2 ∧ arr < w.2 := by
  obtain ⟨hd, tl, x, g1, g2, -⟩ := h
  exact ⟨g1.2, g2.lt⟩
theorem dq_addL {g : GG} {w w1 : WW} {l : List Nat} {c : Nat} {hd tl : Int} {h : Int → Option Nat} (hr : 0 ≤ hd ∧ hd < 17 ∧ 0 ≤ tl ∧ tl < 17) (hl : l.length ≤ 15) (he : hd + l.length = tl ∨ hd + l.length = tl + 17) (hold : ∀ (i c : Nat), l[i]? = some c → h (wrap17 (hd + i)) = some (ic g c) ∧ Ob w (ic g c) 18 [.int (iI c)]) (hob : ∀ (b : Nat) (fs : List Value), Ob w b 18 fs → Ob w1 b 18 fs) (hoc : Ob w1 (ic g c) 18 [.int (iI c)]) : ∀ (i c' : Nat), (l ++ [c])[i]? = some c' → updR h tl (some (ic g c)) (wrap17 (hd + i)) = some (ic g c') ∧ Ob w1 (ic g c') 18 [.int (iI c')] := by
  intro i c' hi
  rw [List.getElem?_append] at hi
  have hb := wrap17_bd (x := hd + i)
  by_cases h1 : i < l.length
  · rw [if_pos h1] at hi
    obtain ⟨h2, h3⟩ := hold i c' hi
    have hb := hb (by omega)
    refine ⟨?_, hob _ _ h3⟩
    unfold updR
    rw [if_neg (by omega)]
    exact h2
  · rw [if_neg h1] at hi
    have hi2 : i = l.length := by
      by_cases h2 : i - l.length = 0
      · omega
      · rw [List.getElem?_eq_none (by simp; omega)] at hi
        cases hi
    subst hi2
    rw [Nat.sub_self] at hi
    have hc : c = c' := by simpa using hi
    subst hc
    have hb := hb (by omega)
    refine ⟨?_, hoc⟩
    unfold updR
    rw [if_pos (by omega)]
theorem dq_pollL {g : GG} {w w1 : WW} {l : List Nat} {c : Nat} {hd : Int} {h : Int → Option Nat} (hr : 0 ≤ hd ∧ hd < 17) (hl : (c :: l).length ≤ 16) (hold : ∀ (i c' : Nat), (c :: l)[i]? = some c' → h (wrap17 (hd + i)) = some (ic g c') ∧ Ob w (ic g c') 18 [.int (iI c')]) (hob : ∀ (b : Nat) (fs : List Value), Ob w b 18 fs → Ob w1 b 18 fs) : ∀ (i c' : Nat), l[i]? = some c' → updR h hd none (wrap17 (wrap17 (hd + 1) + i)) = some (ic g c') ∧ Ob w1 (ic g c') 18 [.int (iI c')] := by
  intro i c' hi
  have hlt : i < l.length := (List.getElem?_eq_some_iff.mp hi).1
  simp only [List.length_cons] at hl
  obtain ⟨h2, h3⟩ := hold (i + 1) c' (by simpa using hi)
  have hb := wrap17_bd (x := hd + 1) (by omega)
  have hb2 := wrap17_bd (x := wrap17 (hd + 1) + i) (by omega)
  have hb3 := wrap17_bd (x := hd + ((i + 1 : Nat) : Int)) (by omega)
  refine ⟨?_, hob _ _ h3⟩
  unfold updR
  rw [if_neg (by omega), ← h2]
  congr 1
  omega
theorem k_Int_valueOf {g : GG} {w : WW} {c : Nat} (hG : Base g) (hKI : KI g) (hc : c < 128) : Ct g yJ21_valueOf (.code yJ21_valueOf cJ21_valueOf 1 (some ((.object "java/lang/Integer")))) 0 0 0 0 w [.int (iI c)] (fun r_ w1 => r_ = some (.ref (ic g c)) ∧ w1 = w) xF := by
  refine Ct.of (lv := [some _]) hG (by decide +kernel) (Nat.le_of_ble_eq_true rfl) rfl ?_
  intro z hg hpo hxp hnm htab
  subst hg
  refine xr_base (fun hB hk9 => ?_)
  obtain ⟨k1, k2, ⟨cc9, x9, hT, k3, k4, k5⟩, k6⟩ := hKI
  have k7 := k4.mo hk9 k3
  refine xr_iload_n dJ21_valueOf_0 rfl ?_
  refine xr_bipush dJ21_valueOf_1 (by decide) ?_
  refine xr_icmp_lt (tgt := 23) dJ21_valueOf_3 (by decide) (by omega) (fun c3 => absurd c3 (by omega)) (fun c3 => ?_)
  refine xr_iload_n dJ21_valueOf_6 rfl ?_
  refine xr_getstatic k1 q487 dJ21_valueOf_7 ?_
  refine xr_icmp_gt (tgt := 23) dJ21_valueOf_10 (by decide) (by omega) (fun c10 => absurd c10 (by omega)) (fun c10 => ?_)
  refine xr_getstatic k2 q489 dJ21_valueOf_13 ?_
  refine xr_iload_n dJ21_valueOf_16 rfl ?_
  refine xr_sipush dJ21_valueOf_17 (by decide) ?_
  refine xr_iadd dJ21_valueOf_20 ?_
  refine xr_aaloadW hT k7 (by omega) (by omega) dJ21_valueOf_21 ?_
  rw [show ((c : Int) + 128).toNat = 128 + c by omega, k5 _ (by omega), show 100 + (128 + c) = 228 + c by omega]
  show XJ _ _ _ _ _ _ _ _ _ _ _ _ [.ref (ic (zg z) c)]
  first | refine xr_areturn rfl rfl dJ21_valueOf_22 ?_ | refine xr_areturnN rfl rfl dJ21_valueOf_22 ?_
  rw [hpo]
  first | exact ⟨rfl, rfl⟩ | exact rfl
theorem k_Int_intValue {g : GG} {w : WW} {a : Nat} {v : Int} (hG : Base g) (ho : Ob w a 18 [.int (iI v)]) : Ct g yJ21_intValue (.code yJ21_intValue cJ21_intValue 1 (some .int)) 0 0 0 0 w [.ref a] (fun r_ w1 => r_ = some (.int (iI v)) ∧ w1 = w) xF := by
  refine Ct.of (lv := [some _]) hG (by decide +kernel) (Nat.le_of_ble_eq_true rfl) rfl ?_
  intro z hg hpo hxp hnm htab
  subst hg
  refine xr_aload_n dJ21_intValue_0 rfl (by first | rfl | exact isRef_rf _) ?_
  refine xr_getfield (ci := 18) (T := TJ21) (N := 1) (i := 0) (by assumption) rfl (by decide) in_J21 q500 (.inl rfl) dJ21_intValue_1 (by rfl) ?_
  refine xr_ireturn rfl rfl dJ21_intValue_4 ?_
  rw [hpo]
  first | exact ⟨rfl, rfl⟩ | exact ⟨ret_bt (by omega), rfl⟩ | exact ⟨ret_bf (by omega), rfl⟩ | exact ⟨ret_i (by omega), rfl⟩
theorem k_DQ_init {g : GG} {w : WW} {a : Nat} (hG : Base g) (ho : Ob w a 17 [.null, .int (iI 0), .int (iI 0)]) : Ct g yJ19_init (.code yJ19_init cJ19_init 1 none) 2 32 1 17 w [.ref a] (fun r_ w1 => r_ = none ∧ ∃ arr : Nat, DQ g w1 a arr [] ∧ w.2 ≤ arr ∧ Fr (fun b => b = a) w w1) xF := by
  refine Ct.of (lv := [some _]) hG (by decide +kernel) (Nat.le_of_ble_eq_true rfl) rfl ?_
  intro z hg hpo hxp hnm htab
  subst hg
  refine xr_aload_n dJ19_init_0 rfl (by first | rfl | exact isRef_rf _) ?_
  refine xr_callI (n9 := 0) (rc' := 1) (rs' := 17) (k_AC_init hG) q458 q162 q89 q163 rfl (by decide +kernel) rfl ⟨by decide, Nat.le_of_ble_eq_true rfl⟩ ⟨Nat.le_of_ble_eq_true rfl, Nat.le_of_ble_eq_true rfl⟩ (Nat.le_of_ble_eq_true rfl) dJ19_init_1 rfl (xk_v ?_) (fun _ _ _ h => h.elim)
  refine xr_aload_n dJ19_init_4 rfl (by first | rfl | exact isRef_rf _) ?_
  refine xr_bipush dJ19_init_5 (by decide) ?_
  refine xr_newRA (rc' := 0) (rs' := 0) q459 q460 (by omega) (by omega) dJ19_init_7 (fun a7 e7 ga7 ba7 har7 => ?_)
  have hra2 : RA (zg z) _ a7 17 _ := har7
  have ho2 := ho.new_ne ga7 e7
  refine xr_putfield (ci := 17) (T := TJ19) (N := 3) (i := 0) (fs' := [_, _, _]) ho2 rfl (by decide) in_J19 tyJ19 tyJ19_ok nmJ19 q461 (.inl rfl) rfl dJ19_init_10 (by first | rfl | exact nar_bI _ | exact nar_rf _) (by first | rfl | exact fit_bI _ | exact fit_rf _ _) (by simp) (by rfl) (.inl rfl) (fun hob10 => ?_)
  refine xr_return rfl dJ19_init_13 ?_
  rw [hpo]
  refine ⟨rfl, a7, ⟨0, 0, _, hob10, hra2.put_k ho2 _, ba7, by omega, by simp, by simp, fun i c hi => by simp at hi⟩, ga7, (Fr.new ga7 _).tr (Fr.put1 _) (fun b _ q => q)⟩
theorem k_DQ_inc {g : GG} {w : WW} {i : Int} (hG : Base g) (hi : 0 ≤ i ∧ i < 17) : Ct g yJ19_inc (.code yJ19_inc cJ19_inc 2 (some .int)) 0 0 0 0 w [.int (iI i), .int (iI 17)] (fun r_ w1 => r_ = some (.int (iI (wrap17 (i + 1)))) ∧ w1 = w) xF := by
  refine Ct.of (lv := [some _, some _]) hG (by decide +kernel) (Nat.le_of_ble_eq_true rfl) rfl ?_
  intro z hg hpo hxp hnm htab
  subst hg
  refine xr_iinc (lv' := [some _, some _]) dJ19_inc_0 rfl (by decide) rfl rfl ?_
  refine xr_iload_n dJ19_inc_3 rfl ?_
  refine xr_iload_n dJ19_inc_4 rfl ?_
  refine xr_icmp_lt (tgt := 10) dJ19_inc_5 (by decide) (by omega) (fun c5 => ?_) (fun c5 => ?_)
  · skip
    refine xr_iload_n dJ19_inc_10 rfl ?_
    refine xr_ireturn rfl rfl dJ19_inc_11 ?_
    rw [hpo]
    first | exact ⟨by rw [show wrap17 (i + 1) = i + 1 from if_pos (by omega)], rfl⟩ | exact ⟨by rw [show wrap17 (i + 1) = 0 by rw [wrap17, if_neg (by omega)]; omega], rfl⟩
  · skip
    refine xr_iconst dJ19_inc_8 ?_
    refine xr_istore_n (lv' := [some _, some _]) dJ19_inc_9 (by decide) rfl rfl ?_
    refine xr_iload_n dJ19_inc_10 rfl ?_
    refine xr_ireturn rfl rfl dJ19_inc_11 ?_
    rw [hpo]
    first | exact ⟨by rw [show wrap17 (i + 1) = i + 1 from if_pos (by omega)], rfl⟩ | exact ⟨by rw [show wrap17 (i + 1) = 0 by rw [wrap17, if_neg (by omega)]; omega], rfl⟩
theorem k_DQ_addLast {g : GG} {w : WW} {a arr : Nat} {l : List Nat} {c : Nat} (hG : Base g) (hD : DQ g w a arr l) (hl : l.length ≤ 15) (hoc : Ob w (ic g c) 18 [.int (iI c)]) : Ct g yJ19_addLast (.code yJ19_addLast cJ19_addLast 3 none) 1 21 0 0 w [.ref a, .ref (ic g c)] (fun r_ w1 => r_ = none ∧ DQ g w1 a arr (l ++ [c]) ∧ Fr (fun b => b = a ∨ b = arr) w w1) xF := by
  refine Ct.of (lv := [some _, some _, none]) hG (by decide +kernel) (Nat.le_of_ble_eq_true rfl) rfl ?_
  intro z hg hpo hxp hnm htab
  subst hg
  obtain ⟨hd, tl, h, hob, hra, hge, hr, hl16, he, hel⟩ := hD
  have hwr := wrap17_bd (x := tl + 1) (by omega)
  refine xr_aload_n dJ19_addLast_0 rfl (by first | rfl | exact isRef_rf _) ?_
  refine xr_ifnonnull (r := some _) (tgt := 12) dJ19_addLast_1 (by decide) (fun c1 => ?_) (fun c1 => absurd c1 (Option.some_ne_none _))
  refine xr_aload_n dJ19_addLast_12 rfl (by first | rfl | exact isRef_rf _) ?_
  refine xr_getfield (ci := 17) (T := TJ19) (N := 3) (i := 0) hob rfl (by decide) in_J19 q461 (.inl rfl) dJ19_addLast_13 (by rfl) ?_
  refine xr_astore_n (lv' := [some _, some _, some _]) dJ19_addLast_16 (by decide) rfl (by first | rfl | exact isRef_rf _) rfl ?_
  refine xr_aload_n dJ19_addLast_17 rfl (by first | rfl | exact isRef_rf _) ?_
  refine xr_aload_n dJ19_addLast_18 rfl (by first | rfl | exact isRef_rf _) ?_
  refine xr_getfield (ci := 17) (T := TJ19) (N := 3) (i := 2) hob rfl (by decide) in_J19 q463 (.inl rfl) dJ19_addLast_19 (by rfl) ?_
  refine xr_aload_n dJ19_addLast_22 rfl (by first | rfl | exact isRef_rf _) ?_
  refine xr_aastore hra hge (by omega) (by omega) hoc rfl q2782 dJ19_addLast_23 (fun e23 har23 => ?_)
  have hob2 := hob.put_RA hra e23
  have hoc2 := hoc.put_RA hra e23
  refine xr_aload_n dJ19_addLast_24 rfl (by first | rfl | exact isRef_rf _) ?_
  refine xr_getfield (ci := 17) (T := TJ19) (N := 3) (i := 1) hob2 rfl (by decide) in_J19 q462 (.inl rfl) dJ19_addLast_25 (by rfl) ?_
  refine xr_aload_n dJ19_addLast_28 rfl (by first | rfl | exact isRef_rf _) ?_
  refine xr_aload_n dJ19_addLast_29 rfl (by first | rfl | exact isRef_rf _) ?_
  refine xr_getfield (ci := 17) (T := TJ19) (N := 3) (i := 2) hob2 rfl (by decide) in_J19 q463 (.inl rfl) dJ19_addLast_30 (by rfl) ?_
  refine xr_aload_n dJ19_addLast_33 rfl (by first | rfl | exact isRef_rf _) ?_
  refine xr_alenRA har23 dJ19_addLast_34 ?_
  refine xr_callS (n9 := 2) (rc' := 0) (rs' := 0) (k_DQ_inc hG (i := tl) (by omega)) q512 q513 q119 q514 (by decide +kernel) rfl ⟨by decide, Nat.le_of_ble_eq_true rfl⟩ ⟨Nat.le_of_ble_eq_true rfl, Nat.le_of_ble_eq_true rfl⟩ (Nat.le_of_ble_eq_true rfl) dJ19_addLast_35 rfl (xk_r ?_) (fun _ _ _ h => h.elim)
  refine xr_dup_x1 dJ19_addLast_38 (by first | rfl | exact cat_rf _) (by first | rfl | exact cat_rf _) ?_
  refine xr_putfield (ci := 17) (T := TJ19) (N := 3) (i := 2) (fs' := [_, _, _]) hob2 rfl (by decide) in_J19 tyJ19 tyJ19_ok nmJ19 q463 (.inl rfl) rfl dJ19_addLast_39 (by first | rfl | exact nar_bI _ | exact nar_rf _) (by first | rfl | exact fit_bI _ | exact fit_rf _ _) (by simp) (by rfl) (.inl rfl) (fun hob39 => ?_)
  refine xr_icmp_ne (tgt := 50) dJ19_addLast_42 (by decide) (by omega) (fun c42 => ?_) (fun c42 => absurd c42 (by omega))
  refine xr_return rfl dJ19_addLast_50 ?_
  rw [hpo]
  refine ⟨rfl, ⟨hd, _, _, hob39, har23.put_k hob2 _, hge, by omega, by simp; omega, by simp only [List.length_append, List.length_cons, List.length_nil]; omega, dq_addL hr hl he hel (fun b fs q => (q.put_RA hra e23).put_k hob2 (by decide)) (hoc2.put_k hob2 (by decide))⟩, (Fr.put (S := fun b => b = a ∨ b = arr) (Or.inr rfl) _).tr (Fr.put (S := fun b => b = a ∨ b = arr) (Or.inl rfl) _) (fun b _ q => q)⟩
theorem k_DQ_add {g : GG} {w : WW} {a arr : Nat} {l : List Nat} {c : Nat} (hG : Base g) (hD : DQ g w a arr l) (hl : l.length ≤ 15) (hoc : Ob w (ic g c) 18 [.int (iI c)]) : Ct g yJ19_add (.code yJ19_add cJ19_add 2 (some .boolean)) 2 43 0 0 w [.ref a, .ref (ic g c)] (fun r_ w1 => r_ = some (.int (iI 1)) ∧ DQ g w1 a arr (l ++ [c]) ∧ Fr (fun b => b = a ∨ b = arr) w w1) xF := by
  refine Ct.of (lv := [some _, some _]) hG (by decide +kernel) (Nat.le_of_ble_eq_true rfl) rfl ?_
  intro z hg hpo hxp hnm htab
  subst hg
  obtain ⟨_, hob⟩ := hD.ob
  refine xr_aload_n dJ19_add_0 rfl (by first | rfl | exact isRef_rf _) ?_
  refine xr_aload_n dJ19_add_1 rfl (by first | rfl | exact isRef_rf _) ?_
  refine xr_callV (n9 := 1) (rc' := 0) (rs' := 0) (k_DQ_addLast hG hD hl hoc) hob rfl q508 q509 q510 q119 q511 (by decide +kernel) rfl ⟨by decide, Nat.le_of_ble_eq_true rfl⟩ ⟨Nat.le_of_ble_eq_true rfl, Nat.le_of_ble_eq_true rfl⟩ (Nat.le_of_ble_eq_true rfl) dJ19_add_2 rfl (fun r w2 hw => ?_) (fun _ _ _ h => h.elim)
  obtain ⟨rfl, h1, h2⟩ := hw
  refine xr_iconst dJ19_add_5 ?_
  refine xr_ireturn rfl (by first | rfl | exact nar_bI _ | decide +kernel) dJ19_add_6 ?_
  rw [hpo]
  exact ⟨rfl, h1, h2⟩
theorem k_DQ_elementAt {g : GG} {w : WW} {arr : Nat} {h : Int → Option Nat} {i : Int} {v : Nat} (hG : Base g) (hra : RA g w arr 17 h) (hi : 0 ≤ i ∧ i < 17) (hv : h i = some v) : Ct g yJ19_elementAt (.code yJ19_elementAt cJ19_elementAt 2 (some ((.object "java/lang/Object")))) 0 0 0 0 w [.ref arr, .int (iI i)] (fun r_ w1 => r_ = some (.ref v) ∧ w1 = w) xF := by
  refine Ct.of (lv := [some _, some _]) hG (by decide +kernel) (Nat.le_of_ble_eq_true rfl) rfl ?_
  intro z hg hpo hxp hnm htab
  subst hg
  refine xr_aload_n dJ19_elementAt_0 rfl (by first | rfl | exact isRef_rf _) ?_
  refine xr_iload_n dJ19_elementAt_1 rfl ?_
  refine xr_aaload (by assumption) (by omega) (by omega) dJ19_elementAt_2 ?_
  rw [hv]
  show XJ _ _ _ _ _ _ _ _ _ _ _ _ [.ref v]
  first | refine xr_areturn rfl rfl dJ19_elementAt_3 ?_ | refine xr_areturnN rfl rfl dJ19_elementAt_3 ?_
  rw [hpo]
  first | exact ⟨rfl, rfl⟩ | exact rfl
theorem k_DQ_peekFirst {g : GG} {w : WW} {a arr c : Nat} {l : List Nat} (hG : Base g) (hD : DQ g w a arr (c :: l)) : Ct g yJ19_peekFirst (.code yJ19_peekFirst cJ19_peekFirst 1 (some ((.object "java/lang/Object")))) 1 21 0 0 w [.ref a] (fun r_ w1 => r_ = some (.ref (ic g c)) ∧ w1 = w) xF := by
  refine Ct.of (lv := [some _]) hG (by decide +kernel) (Nat.le_of_ble_eq_true rfl) rfl ?_
  intro z hg hpo hxp hnm htab
  subst hg
  obtain ⟨hd, tl, h, hob, hra, hge, hr, hl16, he, hel⟩ := hD
  have hv0 : h hd = some (ic (zg z) c) := by
    have hq := (hel 0 c rfl).1
    rwa [show wrap17 (hd + ((0 : Nat) : Int)) = hd by rw [wrap17, if_pos (by omega)]; omega] at hq
  have hoc := (hel 0 c rfl).2
  refine xr_aload_n dJ19_peekFirst_0 rfl (by first | rfl | exact isRef_rf _) ?_
  refine xr_getfield (ci := 17) (T := TJ19) (N := 3) (i := 0) (by assumption) rfl (by decide) in_J19 q461 (.inl rfl) dJ19_peekFirst_1 (by rfl) ?_
  refine xr_aload_n dJ19_peekFirst_4 rfl (by first | rfl | exact isRef_rf _) ?_
  refine xr_getfield (ci := 17) (T := TJ19) (N := 3) (i := 1) (by assumption) rfl (by decide) in_J19 q462 (.inl rfl) dJ19_peekFirst_5 (by rfl) ?_
  refine xr_callS (n9 := 2) (rc' := 0) (rs' := 0) (k_DQ_elementAt hG hra (by omega) hv0) q658 q659 q119 q660 (by decide +kernel) rfl ⟨by decide, Nat.le_of_ble_eq_true rfl⟩ ⟨Nat.le_of_ble_eq_true rfl, Nat.le_of_ble_eq_true rfl⟩ (Nat.le_of_ble_eq_true rfl) dJ19_peekFirst_8 rfl (xk_r ?_) (fun _ _ _ h => h.elim)
  first | refine xr_areturn rfl rfl dJ19_peekFirst_11 ?_ | refine xr_areturnN rfl rfl dJ19_peekFirst_11 ?_
  rw [hpo]
  first | exact ⟨rfl, rfl⟩ | exact rfl
theorem k_DQ_peek {g : GG} {w : WW} {a arr c : Nat} {l : List Nat} (hG : Base g) (hD : DQ g w a arr (c :: l)) : Ct g yJ19_peek (.code yJ19_peek cJ19_peek 1 (some ((.object "java/lang/Object")))) 2 41 0 0 w [.ref a] (fun r_ w1 => r_ = some (.ref (ic g c)) ∧ w1 = w) xF := by
  refine Ct.of (lv := [some _]) hG (by decide +kernel) (Nat.le_of_ble_eq_true rfl) rfl ?_
  intro z hg hpo hxp hnm htab
  subst hg
  have hD0 := hD
  obtain ⟨hd, tl, h, hob, hra, hge, hr, hl16, he, hel⟩ := hD
  refine xr_aload_n dJ19_peek_0 rfl (by first | rfl | exact isRef_rf _) ?_
  refine xr_callV (n9 := 0) (rc' := 0) (rs' := 0) (k_DQ_peekFirst hG hD0) hob rfl q654 q655 q656 q119 q657 (by decide +kernel) rfl ⟨by decide, Nat.le_of_ble_eq_true rfl⟩ ⟨Nat.le_of_ble_eq_true rfl, Nat.le_of_ble_eq_true rfl⟩ (Nat.le_of_ble_eq_true rfl) dJ19_peek_1 rfl (xk_r ?_) (fun _ _ _ h => h.elim)
  first | refine xr_areturn rfl rfl dJ19_peek_4 ?_ | refine xr_areturnN rfl rfl dJ19_peek_4 ?_
  rw [hpo]
  first | exact ⟨rfl, rfl⟩ | exact rfl
theorem k_DQ_pollFirst {g : GG} {w : WW} {a arr c : Nat} {l : List Nat} (hG : Base g) (hD : DQ g w a arr (c :: l)) : Ct g yJ19_pollFirst (.code yJ19_pollFirst cJ19_pollFirst 4 (some ((.object "java/lang/Object")))) 1 21 0 0 w [.ref a] (fun r_ w1 => r_ = some (.ref (ic g c)) ∧ DQ g w1 a arr l ∧ Ob w1 (ic g c) 18 [.int (iI c)] ∧ Fr (fun b => b = a ∨ b = arr) w w1) xF := by
  refine Ct.of (lv := [some _, none, none, none]) hG (by decide +kernel) (Nat.le_of_ble_eq_true rfl) rfl ?_
  intro z hg hpo hxp hnm htab
  subst hg
  obtain ⟨hd, tl, h, hob, hra, hge, hr, hl16, he, hel⟩ := hD
  have hv0 : h hd = some (ic (zg z) c) := by
    have hq := (hel 0 c rfl).1
    rwa [show wrap17 (hd + ((0 : Nat) : Int)) = hd by rw [wrap17, if_pos (by omega)]; omega] at hq
  have hoc := (hel 0 c rfl).2
  have hwr := wrap17_bd (x := hd + 1) (by omega)
  simp only [List.length_cons] at hl16 he
  refine xr_aload_n dJ19_pollFirst_0 rfl (by first | rfl | exact isRef_rf _) ?_
  refine xr_getfield (ci := 17) (T := TJ19) (N := 3) (i := 0) (by assumption) rfl (by decide) in_J19 q461 (.inl rfl) dJ19_pollFirst_1 (by rfl) ?_
  refine xr_dup dJ19_pollFirst_4 (by first | rfl | exact cat_rf _) ?_
  refine xr_astore_n (lv' := [some _, some _, none, none]) dJ19_pollFirst_5 (by decide) rfl (by first | rfl | exact isRef_rf _) rfl ?_
  refine xr_aload_n dJ19_pollFirst_6 rfl (by first | rfl | exact isRef_rf _) ?_
  refine xr_getfield (ci := 17) (T := TJ19) (N := 3) (i := 1) (by assumption) rfl (by decide) in_J19 q462 (.inl rfl) dJ19_pollFirst_7 (by rfl) ?_
  refine xr_dup dJ19_pollFirst_10 (by first | rfl | exact cat_rf _) ?_
  refine xr_istore_n (lv' := [some _, some _, some _, none]) dJ19_pollFirst_11 (by decide) rfl rfl ?_
  refine xr_callS (n9 := 2) (rc' := 0) (rs' := 0) (k_DQ_elementAt hG hra (by omega) hv0) q658 q659 q119 q660 (by decide +kernel) rfl ⟨by decide, Nat.le_of_ble_eq_true rfl⟩ ⟨Nat.le_of_ble_eq_true rfl, Nat.le_of_ble_eq_true rfl⟩ (Nat.le_of_ble_eq_true rfl) dJ19_pollFirst_12 rfl (xk_r ?_) (fun _ _ _ h => h.elim)
  refine xr_astore_n (lv' := [some _, some _, some _, some _]) dJ19_pollFirst_15 (by decide) rfl (by first | rfl | exact isRef_rf _) rfl ?_
  refine xr_aload_n dJ19_pollFirst_16 rfl (by first | rfl | exact isRef_rf _) ?_
  refine xr_ifnull (r := some _) (tgt := 34) dJ19_pollFirst_17 (by decide) (fun c17 => absurd c17 (Option.some_ne_none _)) (fun c17 => ?_)
  refine xr_aload_n dJ19_pollFirst_20 rfl (by first | rfl | exact isRef_rf _) ?_
  refine xr_iload_n dJ19_pollFirst_21 rfl ?_
  refine xr_null dJ19_pollFirst_22 ?_
  refine xr_aastoreN hra hge (by omega) (by omega) dJ19_pollFirst_23 (fun e23 har23 => ?_)
  have hob2 := hob.put_RA hra e23
  have hoc2 := hoc.put_RA hra e23
  refine xr_aload_n dJ19_pollFirst_24 rfl (by first | rfl | exact isRef_rf _) ?_
  refine xr_iload_n dJ19_pollFirst_25 rfl ?_
  refine xr_aload_n dJ19_pollFirst_26 rfl (by first | rfl | exact isRef_rf _) ?_
  refine xr_alenRA har23 dJ19_pollFirst_27 ?_
  refine xr_callS (n9 := 2) (rc' := 0) (rs' := 0) (k_DQ_inc hG (i := hd) (by omega)) q512 q513 q119 q514 (by decide +kernel) rfl ⟨by decide, Nat.le_of_ble_eq_true rfl⟩ ⟨Nat.le_of_ble_eq_true rfl, Nat.le_of_ble_eq_true rfl⟩ (Nat.le_of_ble_eq_true rfl) dJ19_pollFirst_28 rfl (xk_r ?_) (fun _ _ _ h => h.elim)
  refine xr_putfield (ci := 17) (T := TJ19) (N := 3) (i := 1) (fs' := [_, _, _]) hob2 rfl (by decide) in_J19 tyJ19 tyJ19_ok nmJ19 q462 (.inl rfl) rfl dJ19_pollFirst_31 (by first | rfl | exact nar_bI _ | exact nar_rf _) (by first | rfl | exact fit_bI _ | exact fit_rf _ _) (by simp) (by rfl) (.inl rfl) (fun hob31 => ?_)
  refine xr_aload_n dJ19_pollFirst_34 rfl (by first | rfl | exact isRef_rf _) ?_
  first | refine xr_areturn rfl rfl dJ19_pollFirst_35 ?_ | refine xr_areturnN rfl rfl dJ19_pollFirst_35 ?_
  rw [hpo]
  refine ⟨rfl, ⟨_, tl, _, hob31, har23.put_k hob2 _, hge, by omega, by omega, by omega, dq_pollL (by omega) (by simp only [List.length_cons]; omega) hel (fun b fs q => (q.put_RA hra e23).put_k hob2 (by decide))⟩, hoc2.put_k hob2 (by decide), (Fr.put (S := fun b => b = a ∨ b = arr) (Or.inr rfl) _).tr (Fr.put (S := fun b => b = a ∨ b = arr) (Or.inl rfl) _) (fun b _ q => q)⟩
theorem k_DQ_removeFirst {g : GG} {w : WW} {a arr c : Nat} {l : List Nat} (hG : Base g) (hD : DQ g w a arr (c :: l)) : Ct g yJ19_removeFirst (.code yJ19_removeFirst cJ19_removeFirst 2 (some ((.object "java/lang/Object")))) 2 44 0 0 w [.ref a] (fun r_ w1 => r_ = some (.ref (ic g c)) ∧ DQ g w1 a arr l ∧ Ob w1 (ic g c) 18 [.int (iI c)] ∧ Fr (fun b => b = a ∨ b = arr) w w1) xF := by
  refine Ct.of (lv := [some _, none]) hG (by decide +kernel) (Nat.le_of_ble_eq_true rfl) rfl ?_
  intro z hg hpo hxp hnm htab
  subst hg
  obtain ⟨_, hob⟩ := hD.ob
  refine xr_aload_n dJ19_removeFirst_0 rfl (by first | rfl | exact isRef_rf _) ?_
  refine xr_callV (n9 := 0) (rc' := 0) (rs' := 0) (k_DQ_pollFirst hG hD) hob rfl q678 q679 q680 q119 q681 (by decide +kernel) rfl ⟨by decide, Nat.le_of_ble_eq_true rfl⟩ ⟨Nat.le_of_ble_eq_true rfl, Nat.le_of_ble_eq_true rfl⟩ (Nat.le_of_ble_eq_true rfl) dJ19_removeFirst_1 rfl (fun r w1 hw => ?_) (fun _ _ _ h => h.elim)
  obtain ⟨rfl, h1, h2, h3⟩ := hw
  show XJ _ _ _ _ _ _ _ _ _ _ _ _ [.ref (ic (zg z) c)]
  refine xr_astore_n (lv' := [some _, some _]) dJ19_removeFirst_4 (by decide) rfl (by first | rfl | exact isRef_rf _) rfl ?_
  refine xr_aload_n dJ19_removeFirst_5 rfl (by first | rfl | exact isRef_rf _) ?_
  refine xr_ifnonnull (r := some _) (tgt := 17) dJ19_removeFirst_6 (by decide) (fun c6 => ?_) (fun c6 => absurd c6 (Option.some_ne_none _))
  refine xr_aload_n dJ19_removeFirst_17 rfl (by first | rfl | exact isRef_rf _) ?_
  first | refine xr_areturn rfl rfl dJ19_removeFirst_18 ?_ | refine xr_areturnN rfl rfl dJ19_removeFirst_18 ?_
  rw [hpo]
  exact ⟨rfl, h1, h2, h3⟩
theorem k_DQ_remove {g : GG} {w : WW} {a arr c : Nat} {l : List Nat} (hG : Base g) (hD : DQ g w a arr (c :: l)) : Ct g yJ19_remove (.code yJ19_remove cJ19_remove 1 (some ((.object "java/lang/Object")))) 3 65 0 0 w [.ref a] (fun r_ w1 => r_ = some (.ref (ic g c)) ∧ DQ g w1 a arr l ∧ Ob w1 (ic g c) 18 [.int (iI c)] ∧ Fr (fun b => b = a ∨ b = arr) w w1) xF := by
  refine Ct.of (lv := [some _]) hG (by decide +kernel) (Nat.le_of_ble_eq_true rfl) rfl ?_
  intro z hg hpo hxp hnm htab
  subst hg
  obtain ⟨_, hob⟩ := hD.ob
  refine xr_aload_n dJ19_remove_0 rfl (by first | rfl | exact isRef_rf _) ?_
  refine xr_callV (n9 := 0) (rc' := 0) (rs' := 0) (k_DQ_removeFirst hG hD) hob rfl q674 q675 q676 q119 q677 (by decide +kernel) rfl ⟨by decide, Nat.le_of_ble_eq_true rfl⟩ ⟨Nat.le_of_ble_eq_true rfl, Nat.le_of_ble_eq_true rfl⟩ (Nat.le_of_ble_eq_true rfl) dJ19_remove_1 rfl (fun r w1 hw => ?_) (fun _ _ _ h => h.elim)
  obtain ⟨rfl, h1, h2, h3⟩ := hw
  show XJ _ _ _ _ _ _ _ _ _ _ _ _ [.ref (ic (zg z) c)]
  first | refine xr_areturn rfl rfl dJ19_remove_4 ?_ | refine xr_areturnN rfl rfl dJ19_remove_4 ?_
  rw [hpo]
  exact ⟨rfl, h1, h2, h3⟩
theorem k_DQ_isEmpty {g : GG} {w : WW} {a arr : Nat} {l : List Nat} (hG : Base g) (hD : DQ g w a arr l) : Ct g yJ19_isEmpty (.code yJ19_isEmpty cJ19_isEmpty 1 (some .boolean)) 0 0 0 0 w [.ref a] (fun r_ w1 => r_ = some (.int (bI (decide (l = [])))) ∧ w1 = w) xF := by
  refine Ct.of (lv := [some _]) hG (by decide +kernel) (Nat.le_of_ble_eq_true rfl) rfl ?_
  intro z hg hpo hxp hnm htab
  subst hg
  obtain ⟨hd, tl, h, hob, hra, hge, hr, hl16, he, hel⟩ := hD
  refine xr_aload_n dJ19_isEmpty_0 rfl (by first | rfl | exact isRef_rf _) ?_
  refine xr_getfield (ci := 17) (T := TJ19) (N := 3) (i := 1) (by assumption) rfl (by decide) in_J19 q462 (.inl rfl) dJ19_isEmpty_1 (by rfl) ?_
  refine xr_aload_n dJ19_isEmpty_4 rfl (by first | rfl | exact isRef_rf _) ?_
  refine xr_getfield (ci := 17) (T := TJ19) (N := 3) (i := 2) (by assumption) rfl (by decide) in_J19 q463 (.inl rfl) dJ19_isEmpty_5 (by rfl) ?_
  refine xr_icmp_ne (tgt := 15) dJ19_isEmpty_8 (by decide) (by omega) (fun c8 => ?_) (fun c8 => ?_)
  · skip
    have hne : ¬ l = [] := fun q => by rw [q] at he; simp only [List.length_nil] at he; omega
    refine xr_iconst dJ19_isEmpty_15 ?_
    refine xr_ireturn rfl (by first | rfl | exact nar_bI _ | decide +kernel) dJ19_isEmpty_16 ?_
    rw [hpo]
    first | exact ⟨ret_bt hem, rfl⟩ | exact ⟨ret_bf hne, rfl⟩
  · skip
    have hem : l = [] := List.length_eq_zero_iff.mp (by omega)
    refine xr_iconst dJ19_isEmpty_11 ?_
    refine xr_goto (tgt := 16) dJ19_isEmpty_12 (by decide) ?_
    refine xr_ireturn rfl (by first | rfl | exact nar_bI _ | decide +kernel) dJ19_isEmpty_16 ?_
    rw [hpo]
    first | exact ⟨ret_bt hem, rfl⟩ | exact ⟨ret_bf hne, rfl⟩
