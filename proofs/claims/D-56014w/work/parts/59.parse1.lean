/-! 59.parse1.lean.txt (written by tools/walker.py)  -/
set_option maxRecDepth 100000
/-! the parser: a text T of n chars -/
def curT (T : Int → Int) (n o : Int) : Int := if o < n then T o else 0
def pB {α β : Type} (x : Int ⊕ α) (f : α → Int ⊕ β) : Int ⊕ β := match x with
  | .inl e => .inl e
  | .inr a => f a
theorem pB_l {α β : Type} {e : Int} {f : α → Int ⊕ β} : pB (.inl e) f = .inl e := rfl
theorem pB_r {α β : Type} {a : α} {f : α → Int ⊕ β} : pB (.inr a) f = f a := rfl
def pExp (T : Int → Int) (n c o : Int) : Int ⊕ Int := if curT T n o = c then .inr (o + 1) else .inl o
def pWord (T : Int → Int) (n : Int) : List Int → Int → Int ⊕ Int
  | [], o => .inr o
  | c :: s, o => pB (pExp T n c o) (fun o1 => pWord T n s o1)
def pDig (T : Int → Int) (n o : Int) : Int ⊕ (Int × Int) := if 48 ≤ curT T n o ∧ curT T n o ≤ 57 then .inr (curT T n o - 48, o + 1) else .inl o
def pNum (T : Int → Int) (n o : Int) : Int ⊕ (Int × Int) := pB (pDig T n o) (fun d => if 48 ≤ curT T n d.2 ∧ curT T n d.2 ≤ 57 then pB (pDig T n d.2) (fun e => .inr (10 * d.1 + e.1, e.2)) else .inr d)
def pSD (T : Int → Int) (n o : Int) : Int ⊕ (Int × Int) := pB (pExp T n 32 o) (fun o1 => pDig T n o1)
def pSN (T : Int → Int) (n o : Int) : Int ⊕ (Int × Int) := pB (pExp T n 32 o) (fun o1 => pNum T n o1)
def chs (s : String) : List Int := s.toList.map (fun c => (c.toNat : Int))
theorem chs_len {s : String} : (chs s).length = txN s := by simp [chs, txN]
theorem chs_at {s : String} {i : Nat} {c : Int} (h : (chs s)[i]? = some c) : txI s i = c := by
  unfold chs at h
  rw [List.getElem?_map] at h
  cases h9 : s.toList[i]? with
  | none => rw [h9] at h; cases h
  | some x =>
    rw [h9] at h
    have h : (x.toNat : Int) = c := Option.some.inj h
    unfold txI
    rw [Int.toNat_natCast, List.getD, h9]
    exact h
theorem SO.ch {g : GG} {w : WW} {t b n : Nat} {f : Int → Int} (h : SO g w t b n f) : ∀ k : Int, 0 ≤ k → k < n → 0 ≤ f k ∧ f k ≤ 127 := by
  obtain ⟨v1, v2, h1, h2, h3, h4⟩ := h
  exact h4
theorem SO.cur {g : GG} {w : WW} {t b n : Nat} {f : Int → Int} (h : SO g w t b n f) {o : Int} (ho : 0 ≤ o) : 0 ≤ curT f n o ∧ curT f n o ≤ 127 := by
  unfold curT
  split
  · exact h.ch o ho (by assumption)
  · omega
theorem SO.le {g : GG} {w : WW} {t b n : Nat} {f : Int → Int} (h : SO g w t b n f) : n ≤ 1000 := by
  obtain ⟨v1, v2, h1, h2, h3, h4⟩ := h
  exact h3
theorem BA.ra_ne {g : GG} {w : WW} {b n a m : Nat} {f : Int → Int} {x : Int → Option Nat} (h : BA g w b n f) (h' : RA g w a m x) : b ≠ a := by
  obtain ⟨y, h1, -⟩ := h
  obtain ⟨v, h2, -⟩ := h'
  exact h1.apart h2 (fun q => by injection q with q; injection q with q; injection q with _ q; injection q with _ q; cases q)
section TD
variable {z : ZZ} {own : String} {cc : ByteArray} {nL fr lo rc rs pc : Nat} {ret : Option FieldType} {w : WW} {lv : List (Option Value)} {st : List Value}
theorem xr_tableD {dflt lo' hi : Int} {offs : Array Int} {len : Nat} {a : Int} {tgt : Nat} (d : decode cc pc = .ok (.tableswitch dflt lo' hi offs, len)) (hr : (-2147483648 ≤ a ∧ a < 2147483648)) (h1 : (a < lo' ∨ hi < a) ∨ (lo' ≤ a ∧ a ≤ hi ∧ offs[(a - lo').toNat]? = some dflt)) (ht : (pc : Int) + dflt = (tgt : Int)) (k : XJ z own cc nL ret fr lo w rc rs tgt lv st) : XJ z own cc nL ret fr lo w rc rs pc lv (.int (iI a) :: st) := by
  rcases h1 with h1 | ⟨h1, h2, h3⟩
  · exact xr_tableOut d hr h1 ht k
  · exact xr_tableIn d hr ⟨h1, h2⟩ h3 ht k
end TD
theorem SO.np {g : GG} {w : WW} {t b n p : Nat} {f : Int → Int} {fs : List Value} (h : SO g w t b n f) (hp : Ob w p 12 fs) : t ≠ p ∧ b ≠ p := by
  obtain ⟨v1, v2, h1, h2, h3⟩ := h
  exact ⟨h1.apart hp (by decide), h2.ob_ne hp⟩
def pAdd (T : Int → Int) (n k o : Int) : Int ⊕ (Cm × Int) :=
  if k = 98 then pB (pWord T n (chs "bench") o) fun o1 => pB (pSD T n o1) fun a => pB (pSD T n a.2) fun b => pB (pSN T n b.2) fun v => .inr ((98, a.1, b.1, v.1), v.2)
  else pB (pWord T n (chs "fountain") o) fun o1 => pB (pSD T n o1) fun a => pB (pSD T n a.2) fun b => pB (pSD T n b.2) fun v => .inr ((102, a.1, b.1, v.1), v.2)
def pLim (T : Int → Int) (n o : Int) : Int ⊕ (Cm × Int) :=
  pB (pExp T n 108 o) fun o0 => if curT T n o0 = 105 then pB (pWord T n (chs "imit") o0) fun o1 => pB (pSN T n o1) fun v => .inr ((105, v.1, 0, 0), v.2)
  else pB (pWord T n (chs "ease") o0) fun o1 => pB (pSD T n o1) fun a => pB (pSD T n a.2) fun b => pB (pSN T n b.2) fun v => .inr ((108, a.1, b.1, v.1), v.2)
def pAct (T : Int → Int) (n o : Int) : Int ⊕ (Cm × Int) :=
  if curT T n o = 98 then pAdd T n 98 o
  else if curT T n o = 101 then pB (pWord T n (chs "end") o) fun o1 => pB (pSD T n o1) fun a => .inr ((101, a.1, 0, 0), a.2)
  else if curT T n o = 102 then pAdd T n 102 o
  else if curT T n o = 103 then pB (pWord T n (chs "give") o) fun o1 => pB (pSD T n o1) fun a => pB (pSN T n a.2) fun v => .inr ((103, a.1, v.1, 0), v.2)
  else if curT T n o = 108 then pLim T n o
  else if curT T n o = 112 then pB (pWord T n (chs "pass") o) fun o1 => pB (pSN T n o1) fun v => .inr ((112, v.1, 0, 0), v.2)
  else if curT T n o = 114 then pB (pWord T n (chs "renew") o) fun o1 => pB (pSD T n o1) fun a => pB (pSN T n a.2) fun v => .inr ((114, a.1, v.1, 0), v.2)
  else if curT T n o = 115 then pB (pWord T n (chs "switch") o) fun o1 => pB (pSD T n o1) fun a => .inr ((115, a.1, 0, 0), a.2)
  else if curT T n o = 116 then pB (pWord T n (chs "tenant") o) fun o1 => pB (pSN T n o1) fun v => .inr ((116, v.1, 0, 0), v.2)
  else .inl o
def pRest (T : Int → Int) (n : Int) : Nat → Int → List Cm → Int ⊕ List Cm
  | 0, _, cs => .inr cs
  | f + 1, o, cs => if o < n then pB (pExp T n 59 o) fun o1 => pB (pAct T n o1) fun d => pRest T n f d.2 (cs ++ [d.1]) else .inr cs
def pAll (T : Int → Int) (n : Int) : Int ⊕ List Cm := pB (pAct T n 0) fun d => pRest T n 11 d.2 [d.1]
theorem k_Pa_current {g : GG} {w : WW} {p t b al n : Nat} {T : Int → Int} {o : Int} (hG : Base g) (hJ : KJ g) (hp : Ob w p 12 [.ref t, .ref al, .int (iI o)]) (hT : SO g w t b n T) (ho : 0 ≤ o ∧ o ≤ n) : Ct g yX15_current (.code yX15_current cX15_current 1 (some .char)) 4 85 0 0 w [.ref p] (fun r_ w1 => r_ = some (.int (iI (curT T n o))) ∧ w1 = w) xF := by
  refine Ct.of (lv := [some _]) hG (by decide +kernel) (Nat.le_of_ble_eq_true rfl) rfl ?_
  intro z hg hpo hxp hnm htab
  subst hg
  have hle := hT.le
  refine xr_aload_n dX15_current_0 rfl (by first | rfl | exact isRef_rf _) ?_
  refine xr_getfield (ci := 12) (T := TX15) (N := 3) (i := 2) hp rfl (by decide) in_X15 q1898 (.inl rfl) dX15_current_1 (by rfl) ?_
  refine xr_aload_n dX15_current_4 rfl (by first | rfl | exact isRef_rf _) ?_
  refine xr_getfield (ci := 12) (T := TX15) (N := 3) (i := 0) hp rfl (by decide) in_X15 q1896 (.inl rfl) dX15_current_5 (by rfl) ?_
  refine xr_callV (n9 := 0) (rc' := 0) (rs' := 0) (k_S_length hG hJ hT) (hT.ob.choose_spec) rfl q1970 q1770 q1771 q94 q1772 (by decide +kernel) rfl ⟨by decide, Nat.le_of_ble_eq_true rfl⟩ ⟨Nat.le_of_ble_eq_true rfl, Nat.le_of_ble_eq_true rfl⟩ (Nat.le_of_ble_eq_true rfl) dX15_current_8 rfl (xk_r ?_) (fun _ _ _ h => h.elim)
  refine xr_icmp_ge (tgt := 28) dX15_current_11 (by decide) (by omega) (fun c11 => ?_) (fun c11 => ?_)
  · skip
    refine xr_iconst dX15_current_28 ?_
    refine xr_ireturn rfl (by first | exact nar_ch (by omega) | decide +kernel) dX15_current_29 ?_
    rw [hpo]
    first | exact ⟨by rw [curT, if_pos (by omega)], rfl⟩ | exact ⟨by rw [curT, if_neg (by omega)], rfl⟩
  · skip
    have hcc := hT.ch o ho.1 (by omega)
    refine xr_aload_n dX15_current_14 rfl (by first | rfl | exact isRef_rf _) ?_
    refine xr_getfield (ci := 12) (T := TX15) (N := 3) (i := 0) hp rfl (by decide) in_X15 q1896 (.inl rfl) dX15_current_15 (by rfl) ?_
    refine xr_aload_n dX15_current_18 rfl (by first | rfl | exact isRef_rf _) ?_
    refine xr_getfield (ci := 12) (T := TX15) (N := 3) (i := 2) hp rfl (by decide) in_X15 q1898 (.inl rfl) dX15_current_19 (by rfl) ?_
    refine xr_callV (n9 := 1) (rc' := 0) (rs' := 0) (k_S_charAt hG hJ hT ⟨ho.1, by omega⟩) (hT.ob.choose_spec) rfl q1971 q1848 q1849 q94 q1850 (by decide +kernel) rfl ⟨by decide, Nat.le_of_ble_eq_true rfl⟩ ⟨Nat.le_of_ble_eq_true rfl, Nat.le_of_ble_eq_true rfl⟩ (Nat.le_of_ble_eq_true rfl) dX15_current_22 rfl (xk_r ?_) (fun _ _ _ h => h.elim)
    refine xr_goto (tgt := 29) dX15_current_25 (by decide) ?_
    refine xr_ireturn rfl (by first | exact nar_ch (by omega) | decide +kernel) dX15_current_29 ?_
    rw [hpo]
    first | exact ⟨by rw [curT, if_pos (by omega)], rfl⟩ | exact ⟨by rw [curT, if_neg (by omega)], rfl⟩
theorem k_Pa_expect {g : GG} {w : WW} {p t b al n : Nat} {T : Int → Int} {o : Int} {c : Int} (hG : Base g) (hJ : KJ g) (hp : Ob w p 12 [.ref t, .ref al, .int (iI o)]) (hT : SO g w t b n T) (ho : 0 ≤ o ∧ o ≤ n) (hc : 1 ≤ c ∧ c ≤ 127) : Ct g yX15_expect (.code yX15_expect cX15_expect 2 none) 5 105 1 7 w [.ref p, .int (iI c)] (fun r_ w1 => r_ = none ∧ ∃ o1 : Int, pExp T n c o = .inr o1 ∧ (o < o1 ∧ o1 ≤ n) ∧ Ob w1 p 12 [.ref t, .ref al, .int (iI o1)] ∧ Fr (fun x => x = p) w w1) (fun E a9 w1 => E = "BenchBroker$SyntaxError" ∧ ∃ e : Int, pExp T n c o = .inl e ∧ (0 ≤ e ∧ e ≤ n) ∧ Ob w1 a9 7 [.int (iI e)] ∧ w.2 ≤ a9 ∧ Fr (fun x => x = p) w w1) := by
  refine Ct.of (lv := [some _, some _]) hG (by decide +kernel) (Nat.le_of_ble_eq_true rfl) rfl ?_
  intro z hg hpo hxp hnm htab
  subst hg
  refine xr_aload_n dX15_expect_0 rfl (by first | rfl | exact isRef_rf _) ?_
  refine xr_callV (n9 := 0) (rc' := 1) (rs' := 7) (k_Pa_current hG hJ hp hT ho) hp rfl q1966 q1968 qs28 q128 q1969 (by decide +kernel) rfl ⟨by decide, Nat.le_of_ble_eq_true rfl⟩ ⟨Nat.le_of_ble_eq_true rfl, Nat.le_of_ble_eq_true rfl⟩ (Nat.le_of_ble_eq_true rfl) dX15_expect_1 rfl (xk_r ?_) (fun _ _ _ h => h.elim)
  have hcu := hT.cur ho.1
  refine xr_iload_n dX15_expect_4 rfl ?_
  refine xr_icmp_eq (tgt := 20) dX15_expect_5 (by decide) (by omega) (fun c5 => ?_) (fun c5 => ?_)
  · skip
    refine xr_aload_n dX15_expect_20 rfl (by first | rfl | exact isRef_rf _) ?_
    refine xr_dup dX15_expect_21 (by first | rfl | exact cat_rf _) ?_
    refine xr_getfield (ci := 12) (T := TX15) (N := 3) (i := 2) hp rfl (by decide) in_X15 q1898 (.inl rfl) dX15_expect_22 (by rfl) ?_
    refine xr_iconst dX15_expect_25 ?_
    refine xr_iadd dX15_expect_26 ?_
    refine xr_putfield (ci := 12) (T := TX15) (N := 3) (i := 2) (fs' := [_, _, _]) hp rfl (by decide) in_X15 tyX15 tyX15_ok nmX15 q1898 (.inl rfl) rfl dX15_expect_27 (by first | rfl | exact nar_bI _ | exact nar_rf _) (by first | rfl | exact fit_bI _ | exact fit_rf _ _) (by simp) (by rfl) (.inl rfl) (fun hob27 => ?_)
    refine xr_return rfl dX15_expect_30 ?_
    rw [hpo]
    have hcu9 : curT T n o = c := by omega
    have hon : o < n := by
      by_cases h9 : o < n
      · exact h9
      · unfold curT at hcu9; rw [if_neg h9] at hcu9; omega
    exact ⟨rfl, o + 1, if_pos hcu9, by omega, hob27, Fr.put1 _⟩
  · skip
    refine xr_newZ (rc' := 0) (rs' := 0) q1986 q1987 q130 ⟨Nat.le_of_ble_eq_true rfl, Nat.le_of_ble_eq_true rfl⟩ dX15_expect_8 (fun a8 e8 ga8 ba8 hz8 => ?_)
    have hp8 := hp.ext (Mo.new (n := w.2) ga8 ga8 e8)
    refine xr_dup dX15_expect_11 (by first | rfl | exact cat_rf _) ?_
    refine xr_aload_n dX15_expect_12 rfl (by first | rfl | exact isRef_rf _) ?_
    refine xr_getfield (ci := 12) (T := TX15) (N := 3) (i := 2) hp8 rfl (by decide) in_X15 q1898 (.inl rfl) dX15_expect_13 (by rfl) ?_
    refine xr_callI (n9 := 1) (rc' := 0) (rs' := 0) (k_SE_init hG hz8 ba8) q1995 q1996 q130 q1997 rfl (by decide +kernel) rfl ⟨by decide, Nat.le_of_ble_eq_true rfl⟩ ⟨Nat.le_of_ble_eq_true rfl, Nat.le_of_ble_eq_true rfl⟩ (Nat.le_of_ble_eq_true rfl) dX15_expect_16 rfl (fun r w16 hw => ?_) (fun _ _ _ h => h.elim)
    obtain ⟨rfl, hr9, hf9⟩ := hw
    refine xr_athrow hr9 rfl dX15_expect_19 ?_
    exact xt_out (fun x hx => (htab x hx).elim) (by rw [hxp]; exact ⟨rfl, o, if_neg (by omega), ho, hr9, ga8, (Fr.new (S := (fun x => x = p)) ga8 e8).tr hf9 (fun b9 hb9 (q9 : b9 = a8) => by omega)⟩)
theorem k_Pa_digit {g : GG} {w : WW} {p t b al n : Nat} {T : Int → Int} {o : Int} (hG : Base g) (hJ : KJ g) (hp : Ob w p 12 [.ref t, .ref al, .int (iI o)]) (hT : SO g w t b n T) (ho : 0 ≤ o ∧ o ≤ n) : Ct g yX15_digit (.code yX15_digit cX15_digit 2 (some .int)) 5 105 1 7 w [.ref p] (fun r_ w1 => ∃ v o1 : Int, pDig T n o = .inr (v, o1) ∧ r_ = some (.int (iI v)) ∧ (0 ≤ v ∧ v ≤ 9) ∧ (o < o1 ∧ o1 ≤ n) ∧ Ob w1 p 12 [.ref t, .ref al, .int (iI o1)] ∧ Fr (fun x => x = p) w w1) (fun E a9 w1 => E = "BenchBroker$SyntaxError" ∧ ∃ e : Int, pDig T n o = .inl e ∧ (0 ≤ e ∧ e ≤ n) ∧ Ob w1 a9 7 [.int (iI e)] ∧ w.2 ≤ a9 ∧ Fr (fun x => x = p) w w1) := by
  refine Ct.of (lv := [some _, none]) hG (by decide +kernel) (Nat.le_of_ble_eq_true rfl) rfl ?_
  intro z hg hpo hxp hnm htab
  subst hg
  refine xr_aload_n dX15_digit_0 rfl (by first | rfl | exact isRef_rf _) ?_
  refine xr_callV (n9 := 0) (rc' := 1) (rs' := 7) (k_Pa_current hG hJ hp hT ho) hp rfl q1966 q1968 qs28 q128 q1969 (by decide +kernel) rfl ⟨by decide, Nat.le_of_ble_eq_true rfl⟩ ⟨Nat.le_of_ble_eq_true rfl, Nat.le_of_ble_eq_true rfl⟩ (Nat.le_of_ble_eq_true rfl) dX15_digit_1 rfl (xk_r ?_) (fun _ _ _ h => h.elim)
  have hcu := hT.cur ho.1
  refine xr_istore_n (lv' := [some _, some _]) dX15_digit_4 (by decide) rfl rfl ?_
  refine xr_iload_n dX15_digit_5 rfl ?_
  refine xr_bipush dX15_digit_6 (by decide) ?_
  refine xr_bipush dX15_digit_8 (by decide) ?_
  refine xr_callSN (n9 := 3) (rc' := 1) (rs' := 7) (k_isBetween hG (by omega)) q2013 q707 q86 q708 (by decide +kernel) rfl ⟨by decide, Nat.le_of_ble_eq_true rfl⟩ ⟨Nat.le_of_ble_eq_true rfl, Nat.le_of_ble_eq_true rfl⟩ (Nat.le_of_ble_eq_true rfl) dX15_digit_10 rfl (xk_r ?_) (fun _ _ _ h => h.elim)
  refine xr_ifb_ne (tgt := 28) dX15_digit_13 (by decide) (fun c13 => ?_) (fun c13 => ?_)
  · skip
    try simp only [decide_eq_true_eq, decide_eq_false_iff_not] at c13
    refine xr_aload_n dX15_digit_28 rfl (by first | rfl | exact isRef_rf _) ?_
    refine xr_dup dX15_digit_29 (by first | rfl | exact cat_rf _) ?_
    refine xr_getfield (ci := 12) (T := TX15) (N := 3) (i := 2) hp rfl (by decide) in_X15 q1898 (.inl rfl) dX15_digit_30 (by rfl) ?_
    refine xr_iconst dX15_digit_33 ?_
    refine xr_iadd dX15_digit_34 ?_
    refine xr_putfield (ci := 12) (T := TX15) (N := 3) (i := 2) (fs' := [_, _, _]) hp rfl (by decide) in_X15 tyX15 tyX15_ok nmX15 q1898 (.inl rfl) rfl dX15_digit_35 (by first | rfl | exact nar_bI _ | exact nar_rf _) (by first | rfl | exact fit_bI _ | exact fit_rf _ _) (by simp) (by rfl) (.inl rfl) (fun hob35 => ?_)
    refine xr_iload_n dX15_digit_38 rfl ?_
    refine xr_bipush dX15_digit_39 (by decide) ?_
    refine xr_isub dX15_digit_41 ?_
    refine xr_ireturn rfl rfl dX15_digit_42 ?_
    rw [hpo]
    have hon : o < n := by
      by_cases h9 : o < n
      · exact h9
      · unfold curT at c13; rw [if_neg h9] at c13; omega
    exact ⟨curT T n o - 48, o + 1, if_pos c13, rfl, by omega, by omega, hob35, Fr.put1 _⟩
  · skip
    try simp only [decide_eq_true_eq, decide_eq_false_iff_not] at c13
    refine xr_newZ (rc' := 0) (rs' := 0) q1986 q1987 q130 ⟨Nat.le_of_ble_eq_true rfl, Nat.le_of_ble_eq_true rfl⟩ dX15_digit_16 (fun a16 e16 ga16 ba16 hz16 => ?_)
    have hp16 := hp.ext (Mo.new (n := w.2) ga16 ga16 e16)
    refine xr_dup dX15_digit_19 (by first | rfl | exact cat_rf _) ?_
    refine xr_aload_n dX15_digit_20 rfl (by first | rfl | exact isRef_rf _) ?_
    refine xr_getfield (ci := 12) (T := TX15) (N := 3) (i := 2) hp16 rfl (by decide) in_X15 q1898 (.inl rfl) dX15_digit_21 (by rfl) ?_
    refine xr_callI (n9 := 1) (rc' := 0) (rs' := 0) (k_SE_init hG hz16 ba16) q1995 q1996 q130 q1997 rfl (by decide +kernel) rfl ⟨by decide, Nat.le_of_ble_eq_true rfl⟩ ⟨Nat.le_of_ble_eq_true rfl, Nat.le_of_ble_eq_true rfl⟩ (Nat.le_of_ble_eq_true rfl) dX15_digit_24 rfl (fun r w24 hw => ?_) (fun _ _ _ h => h.elim)
    obtain ⟨rfl, hr9, hf9⟩ := hw
    refine xr_athrow hr9 rfl dX15_digit_27 ?_
    exact xt_out (fun x hx => (htab x hx).elim) (by rw [hxp]; exact ⟨rfl, o, if_neg c13, ho, hr9, ga16, (Fr.new (S := (fun x => x = p)) ga16 e16).tr hf9 (fun b9 hb9 (q9 : b9 = a16) => by omega)⟩)
theorem k_Pa_word {g : GG} {w : WW} {p t b al n : Nat} {T : Int → Int} {o : Int} {tx : String} {t2 b2 : Nat} (hG : Base g) (hJ : KJ g) (hp : Ob w p 12 [.ref t, .ref al, .int (iI o)]) (hT : SO g w t b n T) (ho : 0 ≤ o ∧ o ≤ n) (hT2 : SO g w t2 b2 (txN tx) (txI tx)) (hcs : ∀ c ∈ chs tx, 1 ≤ c ∧ c ≤ 127) (h8 : txN tx ≤ 8) : Ct g yX15_word (.code yX15_word cX15_word 3 none) 6 126 9 63 w [.ref p, .ref t2] (fun r_ w1 => r_ = none ∧ ∃ o1 : Int, pWord T n (chs tx) o = .inr o1 ∧ (o + txN tx ≤ o1 ∧ o1 ≤ n) ∧ Ob w1 p 12 [.ref t, .ref al, .int (iI o1)] ∧ Fr (fun x => x = p) w w1) (fun E a9 w1 => E = "BenchBroker$SyntaxError" ∧ ∃ e : Int, pWord T n (chs tx) o = .inl e ∧ (0 ≤ e ∧ e ≤ n) ∧ Ob w1 a9 7 [.int (iI e)] ∧ w.2 ≤ a9 ∧ Fr (fun x => x = p) w w1) := by
  refine Ct.of (lv := [some _, some _, none]) hG (by decide +kernel) (Nat.le_of_ble_eq_true rfl) rfl ?_
  intro z hg hpo hxp hnm htab
  subst hg
  have hnp := hT.np hp
  have hnp2 := hT2.np hp
  have hle := chs_len (s := tx)
  refine xr_iconst dX15_word_0 ?_
  refine xr_istore_n (lv' := [some _, some _, some _]) dX15_word_1 (by decide) rfl rfl ?_
  have lp2 : ∀ (fu2 : Nat) (w9 : WW) (k : Nat) (o9 : Int), k ≤ txN tx → txN tx - k < fu2 → (o + k ≤ o9 ∧ o9 ≤ n) → Ob w9 p 12 [.ref t, .ref al, .int (iI o9)] → Fr (fun x => x = p) w w9 → pWord T n ((chs tx).drop k) o9 = pWord T n (chs tx) o → XJ z yX15_word.cls cX15_word 3 none 6 126 w9 (1 * fu2 + 0) (7 * fu2 + 0) 2 [some (.ref p), some (.ref t2), some (.int (iI k))] [] := by
    intro fu2
    induction fu2 with
    | zero =>
      intro w9 k o9 hk hfu ho9 hp9 hfr9 hr9
      omega
    | succ fu2 ih2 =>
      intro w9 k o9 hk hfu ho9 hp9 hfr9 hr9
      have hT9 := hT.fr hfr9 hnp.1 hnp.2
      have hT29 := hT2.fr hfr9 hnp2.1 hnp2.2
      refine xr_iload_n dX15_word_2 rfl ?_
      refine xr_aload_n dX15_word_3 rfl (by first | rfl | exact isRef_rf _) ?_
      refine xr_callV (n9 := 0) (rc' := 1 * fu2 + 1) (rs' := 7 * fu2 + 7) (k_S_length hG hJ hT29) (hT29.ob.choose_spec) rfl q1970 q1770 q1771 q94 q1772 (by decide +kernel) rfl ⟨by decide, Nat.le_of_ble_eq_true rfl⟩ ⟨by omega, by omega⟩ (Nat.le_of_ble_eq_true rfl) dX15_word_4 rfl (xk_r ?_) (fun _ _ _ h => h.elim)
      refine xr_icmp_ge (tgt := 25) dX15_word_7 (by decide) (by omega) (fun c7 => ?_) (fun c7 => ?_)
      · skip
        refine xr_return rfl dX15_word_25 ?_
        rw [hpo]
        have e9 : k = (chs tx).length := by omega
        rw [show (chs tx).drop k = [] by rw [e9]; exact List.drop_length] at hr9
        exact ⟨rfl, o9, hr9.symm, by omega, hp9, hfr9⟩
      · skip
        obtain ⟨c, hck⟩ : ∃ c, (chs tx)[k]? = some c := ⟨(chs tx)[k]'(by omega), List.getElem?_eq_getElem (by omega)⟩
        obtain ⟨hl9, hg9⟩ := List.getElem?_eq_some_iff.mp hck
        have hc1 := hcs c (by rw [← hg9]; exact List.getElem_mem hl9)
        have hcd : (chs tx).drop k = c :: (chs tx).drop (k + 1) := by rw [← hg9]; exact List.drop_eq_getElem_cons hl9
        refine xr_aload_n dX15_word_10 rfl (by first | rfl | exact isRef_rf _) ?_
        refine xr_aload_n dX15_word_11 rfl (by first | rfl | exact isRef_rf _) ?_
        refine xr_iload_n dX15_word_12 rfl ?_
        refine xr_callV (n9 := 1) (rc' := 1 * fu2 + 1) (rs' := 7 * fu2 + 7) (k_S_charAt hG hJ hT29 (by omega)) (hT29.ob.choose_spec) rfl q1971 q1848 q1849 q94 q1850 (by decide +kernel) rfl ⟨by decide, Nat.le_of_ble_eq_true rfl⟩ ⟨by omega, by omega⟩ (Nat.le_of_ble_eq_true rfl) dX15_word_13 rfl (xk_r ?_) (fun _ _ _ h => h.elim)
        rw [chs_at hck]
        refine xr_callV (n9 := 1) (rc' := 1 * fu2 + 0) (rs' := 7 * fu2 + 0) (k_Pa_expect hG hJ hp9 hT9 (by omega) hc1) hp9 rfl q1982 q1984 qs31 q128 q1985 (by decide +kernel) rfl ⟨by decide, Nat.le_of_ble_eq_true rfl⟩ ⟨by omega, by omega⟩ (Nat.le_of_ble_eq_true rfl) dX15_word_16 rfl (fun r w16 hw => ?_) ?_
        rotate_left
        · skip
          rintro E q9 w8 ⟨rfl, e9, he9, hb9, hob9, hq9, hf9⟩
          exact xt_out (fun x hx => (htab x hx).elim) (by rw [hxp]; exact ⟨rfl, e9, by rw [← hr9, hcd, pWord, he9, pB_l], hb9, hob9, by have := hfr9.1; omega, hfr9.tq hf9⟩)
        obtain ⟨rfl, o16, he16, hb16, hp16, hf16⟩ := hw
        refine xr_iinc (lv' := [some _, some _, some _]) dX15_word_19 rfl (by decide) rfl rfl ?_
        refine xr_goto (tgt := 2) dX15_word_22 (by decide) ?_
        refine xr_wk (rc' := 1 * fu2 + 0) (rs' := 7 * fu2 + 0) ⟨by omega, by omega⟩ (ih2 w16 (k + 1) o16 (by omega) (by omega) (by omega) hp16 (hfr9.tq hf16) (by rw [← hr9, hcd]; show _ = pB _ _; rw [he16]; rfl))
  refine xr_wk (rc' := 1 * 9 + 0) (rs' := 7 * 9 + 0) ⟨by omega, by omega⟩ (lp2 9 w 0 o (by omega) (by omega) (by omega) hp Fr.rf rfl)
