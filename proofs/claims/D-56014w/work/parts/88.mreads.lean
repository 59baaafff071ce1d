/-! 88.mreads.lean.txt (written by tools/walker.py)  -/
set_option maxRecDepth 100000
theorem ldcWs {p : Program} {l : Launch} {e : Env} {R : Room} {s : State} {m : MethodId} {args : Array Value} {below : List Frame} {meth : Method} {c : Code} {T : State} {locs : List Loc} {cells slots : Nat} (X : Stand p l e R s m args below meth c T locs cells slots) (hexec : p.tables.exec = Jvm.exec) {own text : String} {index a : Nat} (hown : s.vm.findClass own = some m.cls)
    (hconst : (Cond.stringRef own index text).before args s = true) (hev : (Term.string own index).eval args s none [] s = some (.ref a)) {g : JFrame} (hg : g.method = m) (hdg : decode c.code g.pc = .ok (.ldc_w index, 3)) :
    ∀ target, Steps p.tables e below (T.setTop { g with pc := g.pc + 3, stack := .ref a :: g.stack }) target → Steps p.tables e below (T.setTop g) target := by
  obtain ⟨k, cf, i, a', hk, hcf, hcp, -, hr, hev'⟩ := Cond.stringRef_spec hown hconst
  cases hev.symm.trans hev'
  obtain ⟨k', hk', he⟩ := X.warmed.alike.2.2 _ _ hk
  have hr' : k'.resolved[index]? = some (some (.string a)) := by
    rcases X.warmed.entry hk hk' index with h | ⟨h, -⟩
    · rw [h]; exact hr
    · rw [hr] at h; cases h
  intro target hrest
  subst hg
  jvm_step X.here [hexec, hdg, ldc_w.wp_string (e := e) (s := T) (f := g) X.here.top hk' (by rw [he]; exact hcf) hcp hr']
  exact hrest
theorem xr_ldcSW {z : ZZ} {own : String} {cc : ByteArray} {nL fr lo rc rs pc : Nat} {ret : Option FieldType} {w : WW} {lv : List (Option Value)} {st : List Value} {idx t : Nat} {tx : String} (hR : vk_R own idx tx t (gU (zg z))) (d : decode cc pc = .ok (.ldc_w idx, 3)) (k : XJ z own cc nL ret fr lo w rc rs (pc + 3) lv (.ref t :: st)) : XJ z own cc nL ret fr lo w rc rs pc lv st := by
  intro C H L n1 n2 ls hH hl hc hs hv
  have hZ := vk_R.warm C.warm hR
  intro T hT X
  obtain ⟨t1, a1, b1⟩ := k C H L n1 n2 ls hH hl hc hs hv T hT X
  exact ⟨t1, ldcWs X C.hx C.hown (text := tx) (a := t) hZ.1 hZ.2 (g := F0 (zm z) pc ls st) rfl (by rw [C.hb]; exact d) t1 a1, b1⟩
/-- the places of command k that its sort reads -/
def TL (f : Int → Int) (k : Int) (cm : Cm) : Prop := f (4 * k) = cm.1 ∧ f (4 * k + 1) = cm.2.1 ∧ ((cm.1 = 98 ∨ cm.1 = 102 ∨ cm.1 = 108 ∨ cm.1 = 103 ∨ cm.1 = 114) → f (4 * k + 2) = cm.2.2.1) ∧ ((cm.1 = 98 ∨ cm.1 = 102 ∨ cm.1 = 108) → f (4 * k + 3) = cm.2.2.2)
theorem RS.k1 {F F' : Int → Int} {C : Int → Int → Int} {T : Int → Int} {n k : Int} {x : Int ⊕ Int} (h : RS F C T n x k) (h1 : ∀ i : Int, i ≠ 21 → F' i = F i) (h2 : F' 21 = k + 1) : RS F' C T n x (k + 1) := by
  cases x with
  | inl o =>
    obtain ⟨r1, r2, r3, r4, r5, r6, r7⟩ := h
    exact ⟨(h1 20 (by decide)).trans r1, (h1 19 (by decide)).trans r2, (h1 22 (by decide)).trans r3, h2, r5, r6, r7⟩
  | inr o =>
    obtain ⟨r1, r2, r3, r4, r5, r6, r7⟩ := h
    exact ⟨(h1 20 (by decide)).trans r1, (h1 19 (by decide)).trans r2, (h1 22 (by decide)).trans r3, h2, r5, r6, r7⟩
def FR3 (F F' : Int → Int) : Prop := ∀ i : Int, i ≠ 19 → i ≠ 21 → i ≠ 22 → F' i = F i
theorem k_M_readsOne {g : GG} {w : WW} {m : Nat} {A : Int → Nat} {F P : Int → Int} {C : Int → Int → Int} {T : Int → Int} {n k o : Int} (hG : Base g) (hM : MD g w m A F P C) (hJ : KJ g) (hS : KS g) (hR : RS F C T n (.inr o) k) (hk : 0 ≤ k ∧ k ≤ 15) : Ct g yX4_readsOne (.code yX4_readsOne cX4_readsOne 1 none) 7 156 0 0 w [.ref m] (fun r_ w1 => ∃ (F1 : Int → Int) (C1 : Int → Int → Int) (x1 : Int ⊕ Int), r_ = none ∧ MDF g w w1 m A F1 P C1 ∧ RS F1 C1 T n x1 (k + 1) ∧ TD C C1 k ∧ FR3 F F1 ∧ ((∃ o' : Int, x1 = .inl o' ∧ pAct T n o = .inl o') ∨ (∃ (o' : Int) (cm : Cm), x1 = .inr o' ∧ pAct T n o = .inr (cm, o') ∧ TL (C1 9) k cm))) xF := by
  refine Ct.of (lv := [some _]) hG (by decide +kernel) (Nat.le_of_ble_eq_true rfl) rfl ?_
  intro z hg hpo hxp hnm htab
  subst hg
  have hM : MDF (zg z) w w m A F P C := ⟨hM, Fr.rf⟩
  refine xr_base (fun hG9 hk9 => ?_)
  have hD : RD F C T n o 0 k := hR
  have hD0 := hD
  refine xr_aload_n dX4_readsOne_0 rfl (by first | rfl | exact isRef_rf _) ?_
  refine xr_iconst dX4_readsOne_1 ?_
  refine xr_callV (n9 := 1) (rc' := 0) (rs' := 0) (k_M_here hG hM.1 hD (by omega)) hM.1.1 rfl q2672 q2674 qs80 q96 q2675 (by decide +kernel) rfl ⟨by decide, Nat.le_of_ble_eq_true rfl⟩ ⟨Nat.le_of_ble_eq_true rfl, Nat.le_of_ble_eq_true rfl⟩ (Nat.le_of_ble_eq_true rfl) dX4_readsOne_2 rfl (xk_r ?_) (fun _ _ _ h => h.elim)
  rw [Int.add_zero]
  obtain ⟨r1, r2, r3, r4, r5, r6, r7⟩ := hD0
  have hhr : -1 ≤ hereT T n o ∧ hereT T n o ≤ 126 := by
    unfold hereT
    split
    · have := (r7 o (by omega) (by omega)).2; omega
    · omega
  by_cases s5_98 : hereT T n o = 98
  · skip
    have hcu : curT T n o = 98 := (hereT_cur (by decide)).mp s5_98
    have hact : pAct T n o = pB (pOne (chs "bench") 1 1 2 T n o) (mkC 98) := by
      rw [one112]
      unfold pAct
      rw [if_pos hcu]
      rfl
    refine xr_tableIn (off := 91) (tgt := 96) dX4_readsOne_5 (by omega) (by omega) (by rw [s5_98]; first | rfl | decide) (by decide) ?_
    refine xr_aload_n dX4_readsOne_96 rfl (by first | rfl | exact isRef_rf _) ?_
    refine xr_bipush dX4_readsOne_97 (by decide) ?_
    obtain ⟨tS99, bS99, hR99, hSO99⟩ := hS ("BenchBrokerModel", 248, "bench") (by decide)
    refine xr_ldcS hR99 dX4_readsOne_99 ?_
    refine xr_iconst dX4_readsOne_101 ?_
    refine xr_iconst dX4_readsOne_102 ?_
    refine xr_iconst dX4_readsOne_103 ?_
    refine xr_callV (n9 := 5) (rc' := 0) (rs' := 0) (k_M_one2 (s := "bench") hG hM.1 hJ hS (show RS F C T n (.inr o) k from hD) (hSO99.ext hk9) (by decide) (by decide) (by decide) (by omega)) hM.1.1 rfl q2677 q2679 qs81 q96 q2680 (by decide +kernel) rfl ⟨by decide, Nat.le_of_ble_eq_true rfl⟩ ⟨Nat.le_of_ble_eq_true rfl, Nat.le_of_ble_eq_true rfl⟩ (Nat.le_of_ble_eq_true rfl) dX4_readsOne_104 rfl (fun r w104 hw => ?_) (fun _ _ _ h => h.elim)
    obtain ⟨F1, C1, x1, rfl, hw, hR1, htd, hf1, hc0, hrl⟩ := hw
    have hM := hM.tr hw
    have hf3 : FR3 F F1 := fun i h1 h2 h3 => hf1 i h1 h3
    have hfin : (∃ o' : Int, x1 = .inl o' ∧ pAct T n o = .inl o') ∨ (∃ (o' : Int) (cm : Cm), x1 = .inr o' ∧ pAct T n o = .inr (cm, o') ∧ TL (C1 9) k cm) := by
      rcases hrl with ⟨o', h1, h2⟩ | ⟨o', v, h1, h2, h4, h5, h6⟩
      · exact Or.inl ⟨o', h1, by rw [hact]; have h2 : pOne (chs "bench") 1 1 2 T n o = .inl o' := h2; rw [h2]; rfl⟩
      · exact Or.inr ⟨o', (98, v.1, v.2.1, v.2.2), h1, by rw [hact]; have h2 : pOne (chs "bench") 1 1 2 T n o = .inr (v, o') := h2; rw [h2]; rfl, hc0, h4, fun _ => h5 (by decide), fun _ => h6 (by decide)⟩
    refine xr_goto (tgt := 257) dX4_readsOne_107 (by decide) ?_
    refine xr_aload_n dX4_readsOne_257 rfl (by first | rfl | exact isRef_rf _) ?_
    refine xr_dup dX4_readsOne_258 (by first | rfl | exact cat_rf _) ?_
    refine xr_getfield (ci := 14) (T := TX4) (N := 23) (i := 21) hM.1.1 rfl (by decide) in_X4 q2212 (.inl rfl) dX4_readsOne_259 (by rfl) ?_
    rw [hR1.f21]
    refine xr_iconst dX4_readsOne_262 ?_
    refine xr_iadd dX4_readsOne_263 ?_
    refine xr_putfield (ci := 14) (T := TX4) (N := 23) (i := 21) (fs' := [_, _, _, _, _, _, _, _, _, _, _, _, _, _, _, _, _, _, _, _, _, _, _]) hM.1.1 rfl (by decide) in_X4 tyX4 tyX4_ok nmX4 q2212 (.inl rfl) rfl dX4_readsOne_264 (by rfl) (by rfl) (by simp) (by rfl) (.inl rfl) (fun _ => ?_)
    refine xr_mput (i := 21) hM (by rfl) (fun w264 hM => ?_)
    refine xr_return rfl dX4_readsOne_267 ?_
    rw [hpo]
    exact ⟨_, C1, x1, rfl, hM, hR1.k1 (fun i hi => updI_ne hi) updI_eq, htd, fun i h1 h2 h3 => (updI_ne h2).trans (hf3 i h1 h2 h3), hfin⟩
  by_cases s5_101 : hereT T n o = 101
  · skip
    have hcu : curT T n o = 101 := (hereT_cur (by decide)).mp s5_101
    have hact : pAct T n o = pB (pOne (chs "end") 1 0 0 T n o) (mkC 101) := by
      rw [one100]
      unfold pAct
      rw [if_neg (by omega), if_pos hcu]
    refine xr_tableIn (off := 187) (tgt := 192) dX4_readsOne_5 (by omega) (by omega) (by rw [s5_101]; first | rfl | decide) (by decide) ?_
    refine xr_aload_n dX4_readsOne_192 rfl (by first | rfl | exact isRef_rf _) ?_
    refine xr_bipush dX4_readsOne_193 (by decide) ?_
    obtain ⟨tS195, bS195, hR195, hSO195⟩ := hS ("BenchBrokerModel", 261, "end") (by decide)
    refine xr_ldcSW hR195 dX4_readsOne_195 ?_
    refine xr_iconst dX4_readsOne_198 ?_
    refine xr_iconst dX4_readsOne_199 ?_
    refine xr_iconst dX4_readsOne_200 ?_
    refine xr_callV (n9 := 5) (rc' := 0) (rs' := 0) (k_M_one0 (s := "end") hG hM.1 hJ hS (show RS F C T n (.inr o) k from hD) (hSO195.ext hk9) (by decide) (by decide) (by decide) (by omega)) hM.1.1 rfl q2677 q2679 qs81 q96 q2680 (by decide +kernel) rfl ⟨by decide, Nat.le_of_ble_eq_true rfl⟩ ⟨Nat.le_of_ble_eq_true rfl, Nat.le_of_ble_eq_true rfl⟩ (Nat.le_of_ble_eq_true rfl) dX4_readsOne_201 rfl (fun r w201 hw => ?_) (fun _ _ _ h => h.elim)
    obtain ⟨F1, C1, x1, rfl, hw, hR1, htd, hf1, hc0, hrl⟩ := hw
    have hM := hM.tr hw
    have hf3 : FR3 F F1 := fun i h1 h2 h3 => hf1 i h1 h3
    have hfin : (∃ o' : Int, x1 = .inl o' ∧ pAct T n o = .inl o') ∨ (∃ (o' : Int) (cm : Cm), x1 = .inr o' ∧ pAct T n o = .inr (cm, o') ∧ TL (C1 9) k cm) := by
      rcases hrl with ⟨o', h1, h2⟩ | ⟨o', v, h1, h2, h4, h5, h6⟩
      · exact Or.inl ⟨o', h1, by rw [hact]; have h2 : pOne (chs "end") 1 0 0 T n o = .inl o' := h2; rw [h2]; rfl⟩
      · exact Or.inr ⟨o', (101, v.1, v.2.1, v.2.2), h1, by rw [hact]; have h2 : pOne (chs "end") 1 0 0 T n o = .inr (v, o') := h2; rw [h2]; rfl, hc0, h4, fun h9 => (by rcases h9 with h9 | h9 | h9 | h9 | h9 <;> cases h9), fun h9 => (by rcases h9 with h9 | h9 | h9 <;> cases h9)⟩
    refine xr_goto (tgt := 257) dX4_readsOne_204 (by decide) ?_
    refine xr_aload_n dX4_readsOne_257 rfl (by first | rfl | exact isRef_rf _) ?_
    refine xr_dup dX4_readsOne_258 (by first | rfl | exact cat_rf _) ?_
    refine xr_getfield (ci := 14) (T := TX4) (N := 23) (i := 21) hM.1.1 rfl (by decide) in_X4 q2212 (.inl rfl) dX4_readsOne_259 (by rfl) ?_
    rw [hR1.f21]
    refine xr_iconst dX4_readsOne_262 ?_
    refine xr_iadd dX4_readsOne_263 ?_
    refine xr_putfield (ci := 14) (T := TX4) (N := 23) (i := 21) (fs' := [_, _, _, _, _, _, _, _, _, _, _, _, _, _, _, _, _, _, _, _, _, _, _]) hM.1.1 rfl (by decide) in_X4 tyX4 tyX4_ok nmX4 q2212 (.inl rfl) rfl dX4_readsOne_264 (by rfl) (by rfl) (by simp) (by rfl) (.inl rfl) (fun _ => ?_)
    refine xr_mput (i := 21) hM (by rfl) (fun w264 hM => ?_)
    refine xr_return rfl dX4_readsOne_267 ?_
    rw [hpo]
    exact ⟨_, C1, x1, rfl, hM, hR1.k1 (fun i hi => updI_ne hi) updI_eq, htd, fun i h1 h2 h3 => (updI_ne h2).trans (hf3 i h1 h2 h3), hfin⟩
  by_cases s5_102 : hereT T n o = 102
  · skip
    have hcu : curT T n o = 102 := (hereT_cur (by decide)).mp s5_102
    have hact : pAct T n o = pB (pOne (chs "fountain") 1 1 1 T n o) (mkC 102) := by
      rw [one111]
      unfold pAct
      rw [if_neg (by omega), if_neg (by omega), if_pos hcu]
      rfl
    refine xr_tableIn (off := 105) (tgt := 110) dX4_readsOne_5 (by omega) (by omega) (by rw [s5_102]; first | rfl | decide) (by decide) ?_
    refine xr_aload_n dX4_readsOne_110 rfl (by first | rfl | exact isRef_rf _) ?_
    refine xr_bipush dX4_readsOne_111 (by decide) ?_
    obtain ⟨tS113, bS113, hR113, hSO113⟩ := hS ("BenchBrokerModel", 253, "fountain") (by decide)
    refine xr_ldcS hR113 dX4_readsOne_113 ?_
    refine xr_iconst dX4_readsOne_115 ?_
    refine xr_iconst dX4_readsOne_116 ?_
    refine xr_iconst dX4_readsOne_117 ?_
    refine xr_callV (n9 := 5) (rc' := 0) (rs' := 0) (k_M_one2 (s := "fountain") hG hM.1 hJ hS (show RS F C T n (.inr o) k from hD) (hSO113.ext hk9) (by decide) (by decide) (by decide) (by omega)) hM.1.1 rfl q2677 q2679 qs81 q96 q2680 (by decide +kernel) rfl ⟨by decide, Nat.le_of_ble_eq_true rfl⟩ ⟨Nat.le_of_ble_eq_true rfl, Nat.le_of_ble_eq_true rfl⟩ (Nat.le_of_ble_eq_true rfl) dX4_readsOne_118 rfl (fun r w118 hw => ?_) (fun _ _ _ h => h.elim)
    obtain ⟨F1, C1, x1, rfl, hw, hR1, htd, hf1, hc0, hrl⟩ := hw
    have hM := hM.tr hw
    have hf3 : FR3 F F1 := fun i h1 h2 h3 => hf1 i h1 h3
    have hfin : (∃ o' : Int, x1 = .inl o' ∧ pAct T n o = .inl o') ∨ (∃ (o' : Int) (cm : Cm), x1 = .inr o' ∧ pAct T n o = .inr (cm, o') ∧ TL (C1 9) k cm) := by
      rcases hrl with ⟨o', h1, h2⟩ | ⟨o', v, h1, h2, h4, h5, h6⟩
      · exact Or.inl ⟨o', h1, by rw [hact]; have h2 : pOne (chs "fountain") 1 1 1 T n o = .inl o' := h2; rw [h2]; rfl⟩
      · exact Or.inr ⟨o', (102, v.1, v.2.1, v.2.2), h1, by rw [hact]; have h2 : pOne (chs "fountain") 1 1 1 T n o = .inr (v, o') := h2; rw [h2]; rfl, hc0, h4, fun _ => h5 (by decide), fun _ => h6 (by decide)⟩
    refine xr_goto (tgt := 257) dX4_readsOne_121 (by decide) ?_
    refine xr_aload_n dX4_readsOne_257 rfl (by first | rfl | exact isRef_rf _) ?_
    refine xr_dup dX4_readsOne_258 (by first | rfl | exact cat_rf _) ?_
    refine xr_getfield (ci := 14) (T := TX4) (N := 23) (i := 21) hM.1.1 rfl (by decide) in_X4 q2212 (.inl rfl) dX4_readsOne_259 (by rfl) ?_
    rw [hR1.f21]
    refine xr_iconst dX4_readsOne_262 ?_
    refine xr_iadd dX4_readsOne_263 ?_
    refine xr_putfield (ci := 14) (T := TX4) (N := 23) (i := 21) (fs' := [_, _, _, _, _, _, _, _, _, _, _, _, _, _, _, _, _, _, _, _, _, _, _]) hM.1.1 rfl (by decide) in_X4 tyX4 tyX4_ok nmX4 q2212 (.inl rfl) rfl dX4_readsOne_264 (by rfl) (by rfl) (by simp) (by rfl) (.inl rfl) (fun _ => ?_)
    refine xr_mput (i := 21) hM (by rfl) (fun w264 hM => ?_)
    refine xr_return rfl dX4_readsOne_267 ?_
    rw [hpo]
    exact ⟨_, C1, x1, rfl, hM, hR1.k1 (fun i hi => updI_ne hi) updI_eq, htd, fun i h1 h2 h3 => (updI_ne h2).trans (hf3 i h1 h2 h3), hfin⟩
  by_cases s5_103 : hereT T n o = 103
  · skip
    have hcu : curT T n o = 103 := (hereT_cur (by decide)).mp s5_103
    have hact : pAct T n o = pB (pOne (chs "give") 1 2 0 T n o) (mkC 103) := by
      rw [one120]
      unfold pAct
      rw [if_neg (by omega), if_neg (by omega), if_neg (by omega), if_pos hcu]
    refine xr_tableIn (off := 133) (tgt := 138) dX4_readsOne_5 (by omega) (by omega) (by rw [s5_103]; first | rfl | decide) (by decide) ?_
    refine xr_aload_n dX4_readsOne_138 rfl (by first | rfl | exact isRef_rf _) ?_
    refine xr_bipush dX4_readsOne_139 (by decide) ?_
    obtain ⟨tS141, bS141, hR141, hSO141⟩ := hS ("BenchBrokerModel", 255, "give") (by decide)
    refine xr_ldcS hR141 dX4_readsOne_141 ?_
    refine xr_iconst dX4_readsOne_143 ?_
    refine xr_iconst dX4_readsOne_144 ?_
    refine xr_iconst dX4_readsOne_145 ?_
    refine xr_callV (n9 := 5) (rc' := 0) (rs' := 0) (k_M_one2 (s := "give") hG hM.1 hJ hS (show RS F C T n (.inr o) k from hD) (hSO141.ext hk9) (by decide) (by decide) (by decide) (by omega)) hM.1.1 rfl q2677 q2679 qs81 q96 q2680 (by decide +kernel) rfl ⟨by decide, Nat.le_of_ble_eq_true rfl⟩ ⟨Nat.le_of_ble_eq_true rfl, Nat.le_of_ble_eq_true rfl⟩ (Nat.le_of_ble_eq_true rfl) dX4_readsOne_146 rfl (fun r w146 hw => ?_) (fun _ _ _ h => h.elim)
    obtain ⟨F1, C1, x1, rfl, hw, hR1, htd, hf1, hc0, hrl⟩ := hw
    have hM := hM.tr hw
    have hf3 : FR3 F F1 := fun i h1 h2 h3 => hf1 i h1 h3
    have hfin : (∃ o' : Int, x1 = .inl o' ∧ pAct T n o = .inl o') ∨ (∃ (o' : Int) (cm : Cm), x1 = .inr o' ∧ pAct T n o = .inr (cm, o') ∧ TL (C1 9) k cm) := by
      rcases hrl with ⟨o', h1, h2⟩ | ⟨o', v, h1, h2, h4, h5, h6⟩
      · exact Or.inl ⟨o', h1, by rw [hact]; have h2 : pOne (chs "give") 1 2 0 T n o = .inl o' := h2; rw [h2]; rfl⟩
      · exact Or.inr ⟨o', (103, v.1, v.2.1, v.2.2), h1, by rw [hact]; have h2 : pOne (chs "give") 1 2 0 T n o = .inr (v, o') := h2; rw [h2]; rfl, hc0, h4, fun _ => h5 (by decide), fun h9 => (by rcases h9 with h9 | h9 | h9 <;> cases h9)⟩
    refine xr_goto (tgt := 257) dX4_readsOne_149 (by decide) ?_
    refine xr_aload_n dX4_readsOne_257 rfl (by first | rfl | exact isRef_rf _) ?_
    refine xr_dup dX4_readsOne_258 (by first | rfl | exact cat_rf _) ?_
    refine xr_getfield (ci := 14) (T := TX4) (N := 23) (i := 21) hM.1.1 rfl (by decide) in_X4 q2212 (.inl rfl) dX4_readsOne_259 (by rfl) ?_
    rw [hR1.f21]
    refine xr_iconst dX4_readsOne_262 ?_
    refine xr_iadd dX4_readsOne_263 ?_
    refine xr_putfield (ci := 14) (T := TX4) (N := 23) (i := 21) (fs' := [_, _, _, _, _, _, _, _, _, _, _, _, _, _, _, _, _, _, _, _, _, _, _]) hM.1.1 rfl (by decide) in_X4 tyX4 tyX4_ok nmX4 q2212 (.inl rfl) rfl dX4_readsOne_264 (by rfl) (by rfl) (by simp) (by rfl) (.inl rfl) (fun _ => ?_)
    refine xr_mput (i := 21) hM (by rfl) (fun w264 hM => ?_)
    refine xr_return rfl dX4_readsOne_267 ?_
    rw [hpo]
    exact ⟨_, C1, x1, rfl, hM, hR1.k1 (fun i hi => updI_ne hi) updI_eq, htd, fun i h1 h2 h3 => (updI_ne h2).trans (hf3 i h1 h2 h3), hfin⟩
  by_cases s5_108 : hereT T n o = 108
  · skip
    have hcu : curT T n o = 108 := (hereT_cur (by decide)).mp s5_108
    have hpl : pAct T n o = pLim T n o := by
      unfold pAct
      rw [if_neg (by omega), if_neg (by omega), if_neg (by omega), if_neg (by omega), if_pos hcu]
    refine xr_tableIn (off := 147) (tgt := 152) dX4_readsOne_5 (by omega) (by omega) (by rw [s5_108]; first | rfl | decide) (by decide) ?_
    refine xr_aload_n dX4_readsOne_152 rfl (by first | rfl | exact isRef_rf _) ?_
    refine xr_iconst dX4_readsOne_153 ?_
    refine xr_callV (n9 := 1) (rc' := 0) (rs' := 0) (k_M_here hG hM.1 hD (by omega)) hM.1.1 rfl q2672 q2674 qs80 q96 q2675 (by decide +kernel) rfl ⟨by decide, Nat.le_of_ble_eq_true rfl⟩ ⟨Nat.le_of_ble_eq_true rfl, Nat.le_of_ble_eq_true rfl⟩ (Nat.le_of_ble_eq_true rfl) dX4_readsOne_154 rfl (xk_r ?_) (fun _ _ _ h => h.elim)
    have hh1 : -1 ≤ hereT T n (o + 1) ∧ hereT T n (o + 1) ≤ 126 := by
      unfold hereT
      split
      · have := (r7 (o + 1) (by omega) (by omega)).2; omega
      · omega
    refine xr_bipush dX4_readsOne_157 (by decide) ?_
    refine xr_icmp_ne (tgt := 177) dX4_readsOne_159 (by decide) (by omega) (fun c159 => ?_) (fun c159 => ?_)
    · skip
      have hact : pAct T n o = pB (pOne (chs "lease") 1 1 2 T n o) (mkC 108) := by rw [hpl, lim_108 hcu (fun q9 => by have := (hereT_cur (T := T) (n := n) (o := o + 1) (by decide : (0 : Int) < 105)).mpr q9; omega)]
      refine xr_aload_n dX4_readsOne_177 rfl (by first | rfl | exact isRef_rf _) ?_
      refine xr_bipush dX4_readsOne_178 (by decide) ?_
      obtain ⟨tS180, bS180, hR180, hSO180⟩ := hS ("BenchBrokerModel", 259, "lease") (by decide)
      refine xr_ldcSW hR180 dX4_readsOne_180 ?_
      refine xr_iconst dX4_readsOne_183 ?_
      refine xr_iconst dX4_readsOne_184 ?_
      refine xr_iconst dX4_readsOne_185 ?_
      refine xr_callV (n9 := 5) (rc' := 0) (rs' := 0) (k_M_one2 (s := "lease") hG hM.1 hJ hS (show RS F C T n (.inr o) k from hD) (hSO180.ext hk9) (by decide) (by decide) (by decide) (by omega)) hM.1.1 rfl q2677 q2679 qs81 q96 q2680 (by decide +kernel) rfl ⟨by decide, Nat.le_of_ble_eq_true rfl⟩ ⟨Nat.le_of_ble_eq_true rfl, Nat.le_of_ble_eq_true rfl⟩ (Nat.le_of_ble_eq_true rfl) dX4_readsOne_186 rfl (fun r w186 hw => ?_) (fun _ _ _ h => h.elim)
      obtain ⟨F1, C1, x1, rfl, hw, hR1, htd, hf1, hc0, hrl⟩ := hw
      have hM := hM.tr hw
      have hf3 : FR3 F F1 := fun i h1 h2 h3 => hf1 i h1 h3
      have hfin : (∃ o' : Int, x1 = .inl o' ∧ pAct T n o = .inl o') ∨ (∃ (o' : Int) (cm : Cm), x1 = .inr o' ∧ pAct T n o = .inr (cm, o') ∧ TL (C1 9) k cm) := by
        rcases hrl with ⟨o', h1, h2⟩ | ⟨o', v, h1, h2, h4, h5, h6⟩
        · exact Or.inl ⟨o', h1, by rw [hact]; have h2 : pOne (chs "lease") 1 1 2 T n o = .inl o' := h2; rw [h2]; rfl⟩
        · exact Or.inr ⟨o', (108, v.1, v.2.1, v.2.2), h1, by rw [hact]; have h2 : pOne (chs "lease") 1 1 2 T n o = .inr (v, o') := h2; rw [h2]; rfl, hc0, h4, fun _ => h5 (by decide), fun _ => h6 (by decide)⟩
      refine xr_goto (tgt := 257) dX4_readsOne_189 (by decide) ?_
      refine xr_aload_n dX4_readsOne_257 rfl (by first | rfl | exact isRef_rf _) ?_
      refine xr_dup dX4_readsOne_258 (by first | rfl | exact cat_rf _) ?_
      refine xr_getfield (ci := 14) (T := TX4) (N := 23) (i := 21) hM.1.1 rfl (by decide) in_X4 q2212 (.inl rfl) dX4_readsOne_259 (by rfl) ?_
      rw [hR1.f21]
      refine xr_iconst dX4_readsOne_262 ?_
      refine xr_iadd dX4_readsOne_263 ?_
      refine xr_putfield (ci := 14) (T := TX4) (N := 23) (i := 21) (fs' := [_, _, _, _, _, _, _, _, _, _, _, _, _, _, _, _, _, _, _, _, _, _, _]) hM.1.1 rfl (by decide) in_X4 tyX4 tyX4_ok nmX4 q2212 (.inl rfl) rfl dX4_readsOne_264 (by rfl) (by rfl) (by simp) (by rfl) (.inl rfl) (fun _ => ?_)
      refine xr_mput (i := 21) hM (by rfl) (fun w264 hM => ?_)
      refine xr_return rfl dX4_readsOne_267 ?_
      rw [hpo]
      exact ⟨_, C1, x1, rfl, hM, hR1.k1 (fun i hi => updI_ne hi) updI_eq, htd, fun i h1 h2 h3 => (updI_ne h2).trans (hf3 i h1 h2 h3), hfin⟩
    · skip
      have hact : pAct T n o = pB (pOne (chs "limit") 2 0 0 T n o) (mkC 105) := by rw [hpl, lim_105 hcu ((hereT_cur (by decide)).mp (by omega))]
      refine xr_aload_n dX4_readsOne_162 rfl (by first | rfl | exact isRef_rf _) ?_
      refine xr_bipush dX4_readsOne_163 (by decide) ?_
      obtain ⟨tS165, bS165, hR165, hSO165⟩ := hS ("BenchBrokerModel", 257, "limit") (by decide)
      refine xr_ldcSW hR165 dX4_readsOne_165 ?_
      refine xr_iconst dX4_readsOne_168 ?_
      refine xr_iconst dX4_readsOne_169 ?_
      refine xr_iconst dX4_readsOne_170 ?_
      refine xr_callV (n9 := 5) (rc' := 0) (rs' := 0) (k_M_one0 (s := "limit") hG hM.1 hJ hS (show RS F C T n (.inr o) k from hD) (hSO165.ext hk9) (by decide) (by decide) (by decide) (by omega)) hM.1.1 rfl q2677 q2679 qs81 q96 q2680 (by decide +kernel) rfl ⟨by decide, Nat.le_of_ble_eq_true rfl⟩ ⟨Nat.le_of_ble_eq_true rfl, Nat.le_of_ble_eq_true rfl⟩ (Nat.le_of_ble_eq_true rfl) dX4_readsOne_171 rfl (fun r w171 hw => ?_) (fun _ _ _ h => h.elim)
      obtain ⟨F1, C1, x1, rfl, hw, hR1, htd, hf1, hc0, hrl⟩ := hw
      have hM := hM.tr hw
      have hf3 : FR3 F F1 := fun i h1 h2 h3 => hf1 i h1 h3
      have hfin : (∃ o' : Int, x1 = .inl o' ∧ pAct T n o = .inl o') ∨ (∃ (o' : Int) (cm : Cm), x1 = .inr o' ∧ pAct T n o = .inr (cm, o') ∧ TL (C1 9) k cm) := by
        rcases hrl with ⟨o', h1, h2⟩ | ⟨o', v, h1, h2, h4, h5, h6⟩
        · exact Or.inl ⟨o', h1, by rw [hact]; have h2 : pOne (chs "limit") 2 0 0 T n o = .inl o' := h2; rw [h2]; rfl⟩
        · exact Or.inr ⟨o', (105, v.1, v.2.1, v.2.2), h1, by rw [hact]; have h2 : pOne (chs "limit") 2 0 0 T n o = .inr (v, o') := h2; rw [h2]; rfl, hc0, h4, fun h9 => (by rcases h9 with h9 | h9 | h9 | h9 | h9 <;> cases h9), fun h9 => (by rcases h9 with h9 | h9 | h9 <;> cases h9)⟩
      refine xr_goto (tgt := 257) dX4_readsOne_174 (by decide) ?_
      refine xr_aload_n dX4_readsOne_257 rfl (by first | rfl | exact isRef_rf _) ?_
      refine xr_dup dX4_readsOne_258 (by first | rfl | exact cat_rf _) ?_
      refine xr_getfield (ci := 14) (T := TX4) (N := 23) (i := 21) hM.1.1 rfl (by decide) in_X4 q2212 (.inl rfl) dX4_readsOne_259 (by rfl) ?_
      rw [hR1.f21]
      refine xr_iconst dX4_readsOne_262 ?_
      refine xr_iadd dX4_readsOne_263 ?_
      refine xr_putfield (ci := 14) (T := TX4) (N := 23) (i := 21) (fs' := [_, _, _, _, _, _, _, _, _, _, _, _, _, _, _, _, _, _, _, _, _, _, _]) hM.1.1 rfl (by decide) in_X4 tyX4 tyX4_ok nmX4 q2212 (.inl rfl) rfl dX4_readsOne_264 (by rfl) (by rfl) (by simp) (by rfl) (.inl rfl) (fun _ => ?_)
      refine xr_mput (i := 21) hM (by rfl) (fun w264 hM => ?_)
      refine xr_return rfl dX4_readsOne_267 ?_
      rw [hpo]
      exact ⟨_, C1, x1, rfl, hM, hR1.k1 (fun i hi => updI_ne hi) updI_eq, htd, fun i h1 h2 h3 => (updI_ne h2).trans (hf3 i h1 h2 h3), hfin⟩
  by_cases s5_112 : hereT T n o = 112
  · skip
    have hcu : curT T n o = 112 := (hereT_cur (by decide)).mp s5_112
    have hact : pAct T n o = pB (pOne (chs "pass") 2 0 0 T n o) (mkC 112) := by
      rw [one200]
      unfold pAct
      rw [if_neg (by omega), if_neg (by omega), if_neg (by omega), if_neg (by omega), if_neg (by omega), if_pos hcu]
    refine xr_tableIn (off := 232) (tgt := 237) dX4_readsOne_5 (by omega) (by omega) (by rw [s5_112]; first | rfl | decide) (by decide) ?_
    refine xr_aload_n dX4_readsOne_237 rfl (by first | rfl | exact isRef_rf _) ?_
    refine xr_bipush dX4_readsOne_238 (by decide) ?_
    obtain ⟨tS240, bS240, hR240, hSO240⟩ := hS ("BenchBrokerModel", 266, "pass") (by decide)
    refine xr_ldcSW hR240 dX4_readsOne_240 ?_
    refine xr_iconst dX4_readsOne_243 ?_
    refine xr_iconst dX4_readsOne_244 ?_
    refine xr_iconst dX4_readsOne_245 ?_
    refine xr_callV (n9 := 5) (rc' := 0) (rs' := 0) (k_M_one0 (s := "pass") hG hM.1 hJ hS (show RS F C T n (.inr o) k from hD) (hSO240.ext hk9) (by decide) (by decide) (by decide) (by omega)) hM.1.1 rfl q2677 q2679 qs81 q96 q2680 (by decide +kernel) rfl ⟨by decide, Nat.le_of_ble_eq_true rfl⟩ ⟨Nat.le_of_ble_eq_true rfl, Nat.le_of_ble_eq_true rfl⟩ (Nat.le_of_ble_eq_true rfl) dX4_readsOne_246 rfl (fun r w246 hw => ?_) (fun _ _ _ h => h.elim)
    obtain ⟨F1, C1, x1, rfl, hw, hR1, htd, hf1, hc0, hrl⟩ := hw
    have hM := hM.tr hw
    have hf3 : FR3 F F1 := fun i h1 h2 h3 => hf1 i h1 h3
    have hfin : (∃ o' : Int, x1 = .inl o' ∧ pAct T n o = .inl o') ∨ (∃ (o' : Int) (cm : Cm), x1 = .inr o' ∧ pAct T n o = .inr (cm, o') ∧ TL (C1 9) k cm) := by
      rcases hrl with ⟨o', h1, h2⟩ | ⟨o', v, h1, h2, h4, h5, h6⟩
      · exact Or.inl ⟨o', h1, by rw [hact]; have h2 : pOne (chs "pass") 2 0 0 T n o = .inl o' := h2; rw [h2]; rfl⟩
      · exact Or.inr ⟨o', (112, v.1, v.2.1, v.2.2), h1, by rw [hact]; have h2 : pOne (chs "pass") 2 0 0 T n o = .inr (v, o') := h2; rw [h2]; rfl, hc0, h4, fun h9 => (by rcases h9 with h9 | h9 | h9 | h9 | h9 <;> cases h9), fun h9 => (by rcases h9 with h9 | h9 | h9 <;> cases h9)⟩
    refine xr_goto (tgt := 257) dX4_readsOne_249 (by decide) ?_
    refine xr_aload_n dX4_readsOne_257 rfl (by first | rfl | exact isRef_rf _) ?_
    refine xr_dup dX4_readsOne_258 (by first | rfl | exact cat_rf _) ?_
    refine xr_getfield (ci := 14) (T := TX4) (N := 23) (i := 21) hM.1.1 rfl (by decide) in_X4 q2212 (.inl rfl) dX4_readsOne_259 (by rfl) ?_
    rw [hR1.f21]
    refine xr_iconst dX4_readsOne_262 ?_
    refine xr_iadd dX4_readsOne_263 ?_
    refine xr_putfield (ci := 14) (T := TX4) (N := 23) (i := 21) (fs' := [_, _, _, _, _, _, _, _, _, _, _, _, _, _, _, _, _, _, _, _, _, _, _]) hM.1.1 rfl (by decide) in_X4 tyX4 tyX4_ok nmX4 q2212 (.inl rfl) rfl dX4_readsOne_264 (by rfl) (by rfl) (by simp) (by rfl) (.inl rfl) (fun _ => ?_)
    refine xr_mput (i := 21) hM (by rfl) (fun w264 hM => ?_)
    refine xr_return rfl dX4_readsOne_267 ?_
    rw [hpo]
    exact ⟨_, C1, x1, rfl, hM, hR1.k1 (fun i hi => updI_ne hi) updI_eq, htd, fun i h1 h2 h3 => (updI_ne h2).trans (hf3 i h1 h2 h3), hfin⟩
  by_cases s5_114 : hereT T n o = 114
  · skip
    have hcu : curT T n o = 114 := (hereT_cur (by decide)).mp s5_114
    have hact : pAct T n o = pB (pOne (chs "renew") 1 2 0 T n o) (mkC 114) := by
      rw [one120]
      unfold pAct
      rw [if_neg (by omega), if_neg (by omega), if_neg (by omega), if_neg (by omega), if_neg (by omega), if_neg (by omega), if_pos hcu]
    refine xr_tableIn (off := 202) (tgt := 207) dX4_readsOne_5 (by omega) (by omega) (by rw [s5_114]; first | rfl | decide) (by decide) ?_
    refine xr_aload_n dX4_readsOne_207 rfl (by first | rfl | exact isRef_rf _) ?_
    refine xr_bipush dX4_readsOne_208 (by decide) ?_
    obtain ⟨tS210, bS210, hR210, hSO210⟩ := hS ("BenchBrokerModel", 262, "renew") (by decide)
    refine xr_ldcSW hR210 dX4_readsOne_210 ?_
    refine xr_iconst dX4_readsOne_213 ?_
    refine xr_iconst dX4_readsOne_214 ?_
    refine xr_iconst dX4_readsOne_215 ?_
    refine xr_callV (n9 := 5) (rc' := 0) (rs' := 0) (k_M_one2 (s := "renew") hG hM.1 hJ hS (show RS F C T n (.inr o) k from hD) (hSO210.ext hk9) (by decide) (by decide) (by decide) (by omega)) hM.1.1 rfl q2677 q2679 qs81 q96 q2680 (by decide +kernel) rfl ⟨by decide, Nat.le_of_ble_eq_true rfl⟩ ⟨Nat.le_of_ble_eq_true rfl, Nat.le_of_ble_eq_true rfl⟩ (Nat.le_of_ble_eq_true rfl) dX4_readsOne_216 rfl (fun r w216 hw => ?_) (fun _ _ _ h => h.elim)
    obtain ⟨F1, C1, x1, rfl, hw, hR1, htd, hf1, hc0, hrl⟩ := hw
    have hM := hM.tr hw
    have hf3 : FR3 F F1 := fun i h1 h2 h3 => hf1 i h1 h3
    have hfin : (∃ o' : Int, x1 = .inl o' ∧ pAct T n o = .inl o') ∨ (∃ (o' : Int) (cm : Cm), x1 = .inr o' ∧ pAct T n o = .inr (cm, o') ∧ TL (C1 9) k cm) := by
      rcases hrl with ⟨o', h1, h2⟩ | ⟨o', v, h1, h2, h4, h5, h6⟩
      · exact Or.inl ⟨o', h1, by rw [hact]; have h2 : pOne (chs "renew") 1 2 0 T n o = .inl o' := h2; rw [h2]; rfl⟩
      · exact Or.inr ⟨o', (114, v.1, v.2.1, v.2.2), h1, by rw [hact]; have h2 : pOne (chs "renew") 1 2 0 T n o = .inr (v, o') := h2; rw [h2]; rfl, hc0, h4, fun _ => h5 (by decide), fun h9 => (by rcases h9 with h9 | h9 | h9 <;> cases h9)⟩
    refine xr_goto (tgt := 257) dX4_readsOne_219 (by decide) ?_
    refine xr_aload_n dX4_readsOne_257 rfl (by first | rfl | exact isRef_rf _) ?_
    refine xr_dup dX4_readsOne_258 (by first | rfl | exact cat_rf _) ?_
    refine xr_getfield (ci := 14) (T := TX4) (N := 23) (i := 21) hM.1.1 rfl (by decide) in_X4 q2212 (.inl rfl) dX4_readsOne_259 (by rfl) ?_
    rw [hR1.f21]
    refine xr_iconst dX4_readsOne_262 ?_
    refine xr_iadd dX4_readsOne_263 ?_
    refine xr_putfield (ci := 14) (T := TX4) (N := 23) (i := 21) (fs' := [_, _, _, _, _, _, _, _, _, _, _, _, _, _, _, _, _, _, _, _, _, _, _]) hM.1.1 rfl (by decide) in_X4 tyX4 tyX4_ok nmX4 q2212 (.inl rfl) rfl dX4_readsOne_264 (by rfl) (by rfl) (by simp) (by rfl) (.inl rfl) (fun _ => ?_)
    refine xr_mput (i := 21) hM (by rfl) (fun w264 hM => ?_)
    refine xr_return rfl dX4_readsOne_267 ?_
    rw [hpo]
    exact ⟨_, C1, x1, rfl, hM, hR1.k1 (fun i hi => updI_ne hi) updI_eq, htd, fun i h1 h2 h3 => (updI_ne h2).trans (hf3 i h1 h2 h3), hfin⟩
  by_cases s5_115 : hereT T n o = 115
  · skip
    have hcu : curT T n o = 115 := (hereT_cur (by decide)).mp s5_115
    have hact : pAct T n o = pB (pOne (chs "switch") 1 0 0 T n o) (mkC 115) := by
      rw [one100]
      unfold pAct
      rw [if_neg (by omega), if_neg (by omega), if_neg (by omega), if_neg (by omega), if_neg (by omega), if_neg (by omega), if_neg (by omega), if_pos hcu]
    refine xr_tableIn (off := 217) (tgt := 222) dX4_readsOne_5 (by omega) (by omega) (by rw [s5_115]; first | rfl | decide) (by decide) ?_
    refine xr_aload_n dX4_readsOne_222 rfl (by first | rfl | exact isRef_rf _) ?_
    refine xr_bipush dX4_readsOne_223 (by decide) ?_
    obtain ⟨tS225, bS225, hR225, hSO225⟩ := hS ("BenchBrokerModel", 264, "switch") (by decide)
    refine xr_ldcSW hR225 dX4_readsOne_225 ?_
    refine xr_iconst dX4_readsOne_228 ?_
    refine xr_iconst dX4_readsOne_229 ?_
    refine xr_iconst dX4_readsOne_230 ?_
    refine xr_callV (n9 := 5) (rc' := 0) (rs' := 0) (k_M_one0 (s := "switch") hG hM.1 hJ hS (show RS F C T n (.inr o) k from hD) (hSO225.ext hk9) (by decide) (by decide) (by decide) (by omega)) hM.1.1 rfl q2677 q2679 qs81 q96 q2680 (by decide +kernel) rfl ⟨by decide, Nat.le_of_ble_eq_true rfl⟩ ⟨Nat.le_of_ble_eq_true rfl, Nat.le_of_ble_eq_true rfl⟩ (Nat.le_of_ble_eq_true rfl) dX4_readsOne_231 rfl (fun r w231 hw => ?_) (fun _ _ _ h => h.elim)
    obtain ⟨F1, C1, x1, rfl, hw, hR1, htd, hf1, hc0, hrl⟩ := hw
    have hM := hM.tr hw
    have hf3 : FR3 F F1 := fun i h1 h2 h3 => hf1 i h1 h3
    have hfin : (∃ o' : Int, x1 = .inl o' ∧ pAct T n o = .inl o') ∨ (∃ (o' : Int) (cm : Cm), x1 = .inr o' ∧ pAct T n o = .inr (cm, o') ∧ TL (C1 9) k cm) := by
      rcases hrl with ⟨o', h1, h2⟩ | ⟨o', v, h1, h2, h4, h5, h6⟩
      · exact Or.inl ⟨o', h1, by rw [hact]; have h2 : pOne (chs "switch") 1 0 0 T n o = .inl o' := h2; rw [h2]; rfl⟩
      · exact Or.inr ⟨o', (115, v.1, v.2.1, v.2.2), h1, by rw [hact]; have h2 : pOne (chs "switch") 1 0 0 T n o = .inr (v, o') := h2; rw [h2]; rfl, hc0, h4, fun h9 => (by rcases h9 with h9 | h9 | h9 | h9 | h9 <;> cases h9), fun h9 => (by rcases h9 with h9 | h9 | h9 <;> cases h9)⟩
    refine xr_goto (tgt := 257) dX4_readsOne_234 (by decide) ?_
    refine xr_aload_n dX4_readsOne_257 rfl (by first | rfl | exact isRef_rf _) ?_
    refine xr_dup dX4_readsOne_258 (by first | rfl | exact cat_rf _) ?_
    refine xr_getfield (ci := 14) (T := TX4) (N := 23) (i := 21) hM.1.1 rfl (by decide) in_X4 q2212 (.inl rfl) dX4_readsOne_259 (by rfl) ?_
    rw [hR1.f21]
    refine xr_iconst dX4_readsOne_262 ?_
    refine xr_iadd dX4_readsOne_263 ?_
    refine xr_putfield (ci := 14) (T := TX4) (N := 23) (i := 21) (fs' := [_, _, _, _, _, _, _, _, _, _, _, _, _, _, _, _, _, _, _, _, _, _, _]) hM.1.1 rfl (by decide) in_X4 tyX4 tyX4_ok nmX4 q2212 (.inl rfl) rfl dX4_readsOne_264 (by rfl) (by rfl) (by simp) (by rfl) (.inl rfl) (fun _ => ?_)
    refine xr_mput (i := 21) hM (by rfl) (fun w264 hM => ?_)
    refine xr_return rfl dX4_readsOne_267 ?_
    rw [hpo]
    exact ⟨_, C1, x1, rfl, hM, hR1.k1 (fun i hi => updI_ne hi) updI_eq, htd, fun i h1 h2 h3 => (updI_ne h2).trans (hf3 i h1 h2 h3), hfin⟩
  by_cases s5_116 : hereT T n o = 116
  · skip
    have hcu : curT T n o = 116 := (hereT_cur (by decide)).mp s5_116
    have hact : pAct T n o = pB (pOne (chs "tenant") 2 0 0 T n o) (mkC 116) := by
      rw [one200]
      unfold pAct
      rw [if_neg (by omega), if_neg (by omega), if_neg (by omega), if_neg (by omega), if_neg (by omega), if_neg (by omega), if_neg (by omega), if_neg (by omega), if_pos hcu]
    refine xr_tableIn (off := 119) (tgt := 124) dX4_readsOne_5 (by omega) (by omega) (by rw [s5_116]; first | rfl | decide) (by decide) ?_
    refine xr_aload_n dX4_readsOne_124 rfl (by first | rfl | exact isRef_rf _) ?_
    refine xr_bipush dX4_readsOne_125 (by decide) ?_
    obtain ⟨tS127, bS127, hR127, hSO127⟩ := hS ("BenchBrokerModel", 254, "tenant") (by decide)
    refine xr_ldcS hR127 dX4_readsOne_127 ?_
    refine xr_iconst dX4_readsOne_129 ?_
    refine xr_iconst dX4_readsOne_130 ?_
    refine xr_iconst dX4_readsOne_131 ?_
    refine xr_callV (n9 := 5) (rc' := 0) (rs' := 0) (k_M_one0 (s := "tenant") hG hM.1 hJ hS (show RS F C T n (.inr o) k from hD) (hSO127.ext hk9) (by decide) (by decide) (by decide) (by omega)) hM.1.1 rfl q2677 q2679 qs81 q96 q2680 (by decide +kernel) rfl ⟨by decide, Nat.le_of_ble_eq_true rfl⟩ ⟨Nat.le_of_ble_eq_true rfl, Nat.le_of_ble_eq_true rfl⟩ (Nat.le_of_ble_eq_true rfl) dX4_readsOne_132 rfl (fun r w132 hw => ?_) (fun _ _ _ h => h.elim)
    obtain ⟨F1, C1, x1, rfl, hw, hR1, htd, hf1, hc0, hrl⟩ := hw
    have hM := hM.tr hw
    have hf3 : FR3 F F1 := fun i h1 h2 h3 => hf1 i h1 h3
    have hfin : (∃ o' : Int, x1 = .inl o' ∧ pAct T n o = .inl o') ∨ (∃ (o' : Int) (cm : Cm), x1 = .inr o' ∧ pAct T n o = .inr (cm, o') ∧ TL (C1 9) k cm) := by
      rcases hrl with ⟨o', h1, h2⟩ | ⟨o', v, h1, h2, h4, h5, h6⟩
      · exact Or.inl ⟨o', h1, by rw [hact]; have h2 : pOne (chs "tenant") 2 0 0 T n o = .inl o' := h2; rw [h2]; rfl⟩
      · exact Or.inr ⟨o', (116, v.1, v.2.1, v.2.2), h1, by rw [hact]; have h2 : pOne (chs "tenant") 2 0 0 T n o = .inr (v, o') := h2; rw [h2]; rfl, hc0, h4, fun h9 => (by rcases h9 with h9 | h9 | h9 | h9 | h9 <;> cases h9), fun h9 => (by rcases h9 with h9 | h9 | h9 <;> cases h9)⟩
    refine xr_goto (tgt := 257) dX4_readsOne_135 (by decide) ?_
    refine xr_aload_n dX4_readsOne_257 rfl (by first | rfl | exact isRef_rf _) ?_
    refine xr_dup dX4_readsOne_258 (by first | rfl | exact cat_rf _) ?_
    refine xr_getfield (ci := 14) (T := TX4) (N := 23) (i := 21) hM.1.1 rfl (by decide) in_X4 q2212 (.inl rfl) dX4_readsOne_259 (by rfl) ?_
    rw [hR1.f21]
    refine xr_iconst dX4_readsOne_262 ?_
    refine xr_iadd dX4_readsOne_263 ?_
    refine xr_putfield (ci := 14) (T := TX4) (N := 23) (i := 21) (fs' := [_, _, _, _, _, _, _, _, _, _, _, _, _, _, _, _, _, _, _, _, _, _, _]) hM.1.1 rfl (by decide) in_X4 tyX4 tyX4_ok nmX4 q2212 (.inl rfl) rfl dX4_readsOne_264 (by rfl) (by rfl) (by simp) (by rfl) (.inl rfl) (fun _ => ?_)
    refine xr_mput (i := 21) hM (by rfl) (fun w264 hM => ?_)
    refine xr_return rfl dX4_readsOne_267 ?_
    rw [hpo]
    exact ⟨_, C1, x1, rfl, hM, hR1.k1 (fun i hi => updI_ne hi) updI_eq, htd, fun i h1 h2 h3 => (updI_ne h2).trans (hf3 i h1 h2 h3), hfin⟩
  have hact : pAct T n o = .inl o := by
    unfold pAct
    rw [if_neg (fun q9 => s5_98 ((hereT_cur (by decide)).mpr q9))]
    rw [if_neg (fun q9 => s5_101 ((hereT_cur (by decide)).mpr q9))]
    rw [if_neg (fun q9 => s5_102 ((hereT_cur (by decide)).mpr q9))]
    rw [if_neg (fun q9 => s5_103 ((hereT_cur (by decide)).mpr q9))]
    rw [if_neg (fun q9 => s5_108 ((hereT_cur (by decide)).mpr q9))]
    rw [if_neg (fun q9 => s5_112 ((hereT_cur (by decide)).mpr q9))]
    rw [if_neg (fun q9 => s5_114 ((hereT_cur (by decide)).mpr q9))]
    rw [if_neg (fun q9 => s5_115 ((hereT_cur (by decide)).mpr q9))]
    rw [if_neg (fun q9 => s5_116 ((hereT_cur (by decide)).mpr q9))]
  have hd5 : (hereT T n o < 98 ∨ 116 < hereT T n o) ∨ (hereT T n o = 99 ∨ hereT T n o = 100 ∨ hereT T n o = 104 ∨ hereT T n o = 105 ∨ hereT T n o = 106 ∨ hereT T n o = 107 ∨ hereT T n o = 109 ∨ hereT T n o = 110 ∨ hereT T n o = 111 ∨ hereT T n o = 113) := by omega
  refine xr_tableD (tgt := 252) dX4_readsOne_5 (by omega) (by rcases hd5 with h8 | h8; exact Or.inl h8; refine Or.inr ⟨by omega, by omega, ?_⟩; rcases h8 with h8 | h8 | h8 | h8 | h8 | h8 | h8 | h8 | h8 | h8 <;> (rw [h8]; rfl)) (by decide) ?_
  refine xr_aload_n dX4_readsOne_252 rfl (by first | rfl | exact isRef_rf _) ?_
  refine xr_iconst dX4_readsOne_253 ?_
  refine xr_putfield (ci := 14) (T := TX4) (N := 23) (i := 22) (fs' := [_, _, _, _, _, _, _, _, _, _, _, _, _, _, _, _, _, _, _, _, _, _, _]) hM.1.1 rfl (by decide) in_X4 tyX4 tyX4_ok nmX4 q2213 (.inl rfl) rfl dX4_readsOne_254 (by decide +kernel) (by decide +kernel) (by simp) (by rfl) (.inl rfl) (fun _ => ?_)
  refine xr_mput (i := 22) hM (by rfl) (fun w254 hM => ?_)
  obtain ⟨F1, hF1⟩ : ∃ F1, F1 = updI F 22 1 := ⟨_, rfl⟩
  obtain ⟨C1, hC1⟩ : ∃ C1, C1 = C := ⟨_, rfl⟩
  obtain ⟨x1, hx1⟩ : ∃ x1 : Int ⊕ Int, x1 = .inl o := ⟨_, rfl⟩
  have hR1 : RS F1 C1 T n x1 k := by rw [hx1, hC1, hF1]; exact hD.at r6 ((updI_ne (by decide)).trans r2) updI_eq (updI_ne (by decide)) (updI_ne (by decide))
  have htd : TD C C1 k := by rw [hC1]; exact TD.rf
  have hf3 : FR3 F F1 := fun i h1 h2 h3 => by rw [hF1]; exact updI_ne h3
  have hfin : (∃ o' : Int, x1 = .inl o' ∧ pAct T n o = .inl o') ∨ (∃ (o' : Int) (cm : Cm), x1 = .inr o' ∧ pAct T n o = .inr (cm, o') ∧ TL (C1 9) k cm) := Or.inl ⟨o, hx1, hact⟩
  rw [← hF1, ← hC1] at hM
  refine xr_aload_n dX4_readsOne_257 rfl (by first | rfl | exact isRef_rf _) ?_
  refine xr_dup dX4_readsOne_258 (by first | rfl | exact cat_rf _) ?_
  refine xr_getfield (ci := 14) (T := TX4) (N := 23) (i := 21) hM.1.1 rfl (by decide) in_X4 q2212 (.inl rfl) dX4_readsOne_259 (by rfl) ?_
  rw [hR1.f21]
  refine xr_iconst dX4_readsOne_262 ?_
  refine xr_iadd dX4_readsOne_263 ?_
  refine xr_putfield (ci := 14) (T := TX4) (N := 23) (i := 21) (fs' := [_, _, _, _, _, _, _, _, _, _, _, _, _, _, _, _, _, _, _, _, _, _, _]) hM.1.1 rfl (by decide) in_X4 tyX4 tyX4_ok nmX4 q2212 (.inl rfl) rfl dX4_readsOne_264 (by rfl) (by rfl) (by simp) (by rfl) (.inl rfl) (fun _ => ?_)
  refine xr_mput (i := 21) hM (by rfl) (fun w264 hM => ?_)
  refine xr_return rfl dX4_readsOne_267 ?_
  rw [hpo]
  exact ⟨_, C1, x1, rfl, hM, hR1.k1 (fun i hi => updI_ne hi) updI_eq, htd, fun i h1 h2 h3 => (updI_ne h2).trans (hf3 i h1 h2 h3), hfin⟩
