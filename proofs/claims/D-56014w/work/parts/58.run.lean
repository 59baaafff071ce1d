/-! 58.run.lean.txt (written by tools/walker.py)  -/
set_option maxRecDepth 100000
/-! a list of commands -/
theorem xn_of {z : ZZ} {E nm : String} (h : Cond.not (Cond.castable E nm) ∈ flatC (Jvm.Cond.and given_1 narrow_1)) : ∀ (own' : String) (cc' : ByteArray) (nL' : Nat) (ret' : Option FieldType) (fr' lo' : Nat), Cx z own' cc' nL' ret' fr' lo' → va_Nc E nm (zs z) := fun _ _ _ _ _ _ C => va_Nc.moved C.warm.alike (va_Nc.of (args := gW (zg z)) (flat_of_before _ C.base.2.2.1 _ h))
def CmO (w : WW) (x : Nat) (c : Cm) : Prop := Ob w x (cmF c).1 (cmF c).2
def cmS (c : Cm) : Prop := (c.1 = 98 ∨ c.1 = 102 ∨ c.1 = 116 ∨ c.1 = 108 ∨ c.1 = 114 ∨ c.1 = 101 ∨ c.1 = 103 ∨ c.1 = 115 ∨ c.1 = 105 ∨ c.1 = 112) ∧ sm c.2.1 ∧ sm c.2.2.1 ∧ sm c.2.2.2
theorem cm_cls (c : Cm) : ∃ qc : vw_C, vwCl[(cmF c).1]? = some qc ∧ Cond.castable qc.1 "java/lang/Object" ∈ lw_tbl ∧ Cond.castable qc.1 "BenchBroker$Action" ∈ lw_tbl ∧ 8 < (cmF c).1 ∧ (cmF c).1 < 12 := by
  have h : (cmF c).1 = 9 ∨ (cmF c).1 = 10 ∨ (cmF c).1 = 11 := by
    unfold cmF
    repeat' split
    all_goals simp
  rcases h with h | h | h <;> rw [h]
  · exact ⟨_, rfl, q2774, q2762, by omega, by omega⟩
  · exact ⟨_, rfl, q2785, q2763, by omega, by omega⟩
  · exact ⟨_, rfl, q2780, q2764, by omega, by omega⟩
/-- what a list of commands does: its code (2: a bad one, 3: a rejected one), which one, the reason; or the park behind it -/
def rAll : List Cm → Int → (Int → Int) → (Int × Int × Int) ⊕ (Int → Int)
  | [], _, P => .inr P
  | c :: cs, k, P => if cA c P = false then .inl (2, 0, 0) else if (cR c P).1 ≠ 0 then .inl (3, k, (cR c P).1) else rAll cs (k + 1) (cO c P)
/-- the park's own things are of classes below 6, or arrays of lists -/
theorem PK.na {g : GG} {w : WW} {n0 : Nat → Prop} {q : Nat} {L : Int → Nat} {P : Int → Int} (h : PK g w n0 q L P) {b k : Nat} {fs : List Value} (ho : Ob w b k fs) (hk : 5 < k) : ¬ PA g q L P b := by
  have ha : ∀ {l arr : Nat} {n : Int} {f : Int → Option Nat}, AL g w l arr n f → b ≠ l ∧ b ≠ arr := fun hl => by
    obtain ⟨mm, cap, x, g1, g2, -⟩ := hl
    exact ⟨ho.apart g1 (by omega), Ne.symm (g2.ob_ne ho)⟩
  rintro (rfl | ⟨i, h0, h1, rfl⟩ | ⟨i, h0, h1, rfl, -⟩ | ⟨i, h0, h1, rfl⟩ | ⟨i, h0, h1, rfl⟩ | ⟨i, h0, h1, rfl⟩)
  · exact (ho.apart h.hq (by omega)) rfl
  · rcases (show i = 0 ∨ i = 1 ∨ i = 2 ∨ i = 3 ∨ i = 4 ∨ i = 5 by omega) with rfl | rfl | rfl | rfl | rfl | rfl
    · exact (ho.apart h.r0 (by omega)) rfl
    · exact (ho.apart h.r1 (by omega)) rfl
    · exact (ho.apart h.r2 (by omega)) rfl
    · exact (ha h.l0).1 rfl
    · exact (ha h.l1).1 rfl
    · exact (ha h.l2).1 rfl
  · rcases (show i = 6 ∨ i = 7 ∨ i = 8 by omega) with rfl | rfl | rfl
    · exact (ha h.l0).2 rfl
    · exact (ha h.l1).2 rfl
    · exact (ha h.l2).2 rfl
  · exact (ho.apart (h.be i h0 h1) (by omega)) rfl
  · exact (ho.apart (h.fo i h0 h1) (by omega)) rfl
  · exact (ho.apart (h.te i h0 h1) (by omega)) rfl
section Ck
variable {z : ZZ} {own : String} {cc : ByteArray} {nL fr lo rc rs pc : Nat} {ret : Option FieldType} {w : WW} {lv : List (Option Value)} {st : List Value}
/-- checkedRun of an action of any class -/
theorem xr_checked {x q idx rc' rs' : Nat} {n0 : Nat → Prop} {L : Int → Nat} {P : Int → Int} {N : Int} {c : Cm} {rest : List Value} (hG : Base (zg z)) (hob : CmO w x c) (hs : cmS c) (hL : KL (zg z)) (hK : PK (zg z) w n0 q L P) (hB : PB P N) (hN : N + 13000 ≤ 10000000) (hlink : Cond.methodLink own idx yX5_checkedRun ∈ lw_all) (hfr : 17 + 1 ≤ fr) (hlo : 8 + (2 + 11) + 3213 ≤ lo) (hb : rc' + 286 ≤ rc ∧ rs' + 572 ≤ rs) (hcat : (rest.map fun v => v.category).sum ≤ 8) (d : decode cc pc = .ok (.invokevirtual idx, 3)) (hst : st = .ref q :: .ref x :: rest)
    (k : ∀ (L' : Int → Nat) (w' : WW), cA c P = true → (cR c P).1 = 0 → PK (zg z) w' n0 q L' (cO c P) → Fr n0 w w' → XJ z own cc nL ret fr lo w' rc' rs' (pc + 3) lv (.int (iI (cV c P)) :: rest))
    (kx : ∀ (E : String) (q9 : Nat) (w' : WW), ((E = "BenchBroker$BadCommand" ∧ cA c P = false ∧ w' = w) ∨ (E = "BenchBroker$Rejection" ∧ cA c P = true ∧ (cR c P).1 ≠ 0 ∧ Ob w' q9 6 [.int (iI (cR c P).1), .int (iI (cR c P).2), .int (iI 0)] ∧ Mo w.2 w w' ∧ w.2 ≤ q9)) → XT z own cc nL ret fr lo w' rc' rs' pc lv E q9) : XJ z own cc nL ret fr lo w rc rs pc lv st := by
  subst hst
  obtain ⟨s, a, b, v⟩ := c
  obtain ⟨hs, ha9, hb9, hv9⟩ := hs
  dsimp only at hs ha9 hb9 hv9
  rcases hs with rfl | rfl | rfl | rfl | rfl | rfl | rfl | rfl | rfl | rfl
  · have ho : Ob w x 9 [.int (iI a), .int (iI b), .int (iI v), .int (iI 98)] := hob
    refine xr_callV (n9 := 1) (rc' := rc') (rs' := rs') (k_checked_b (x := a) (y := b) (v := v) hG ho hL hK hB ⟨ha9, hb9, hv9⟩ hN) ho rfl hlink q2094 q2096 q103 q2099 (by decide +kernel) rfl ⟨by omega, by omega⟩ ⟨by omega, by omega⟩ hcat d rfl (fun r w' h => ?_) (fun E q9 w' h => ?_)
    · obtain ⟨h1, L', rfl, h2, h3, h4⟩ := h
      exact k L' w' (decide_eq_true h1) h2 h3 h4
    · rcases h with ⟨h1, h2, h3⟩ | ⟨h1, h2, ⟨h3, h4⟩, h5, h6⟩
      · exact kx E q9 w' (Or.inl ⟨h1, decide_eq_false h2, h3⟩)
      · exact kx E q9 w' (Or.inr ⟨h2, decide_eq_true h1, h3, h4, h5, h6⟩)
  · have ho : Ob w x 9 [.int (iI a), .int (iI b), .int (iI v), .int (iI 102)] := hob
    refine xr_callV (n9 := 1) (rc' := rc') (rs' := rs') (k_checked_f (x := a) (y := b) (v := v) hG ho hL hK hB ⟨ha9, hb9, hv9⟩ hN) ho rfl hlink q2094 q2096 q103 q2099 (by decide +kernel) rfl ⟨by omega, by omega⟩ ⟨by omega, by omega⟩ hcat d rfl (fun r w' h => ?_) (fun E q9 w' h => ?_)
    · obtain ⟨h1, L', rfl, h2, h3, h4⟩ := h
      exact k L' w' (decide_eq_true h1) h2 h3 h4
    · rcases h with ⟨h1, h2, h3⟩ | ⟨h1, h2, ⟨h3, h4⟩, h5, h6⟩
      · exact kx E q9 w' (Or.inl ⟨h1, decide_eq_false h2, h3⟩)
      · exact kx E q9 w' (Or.inr ⟨h2, decide_eq_true h1, h3, h4, h5, h6⟩)
  · have ho : Ob w x 9 [.int (iI (-1)), .int (iI (-1)), .int (iI a), .int (iI 116)] := hob
    refine xr_callV (n9 := 1) (rc' := rc') (rs' := rs') (k_checked_t (v := a) hG ho hL hK hB ha9 hN) ho rfl hlink q2094 q2096 q103 q2099 (by decide +kernel) rfl ⟨by omega, by omega⟩ ⟨by omega, by omega⟩ hcat d rfl (fun r w' h => ?_) (fun E q9 w' h => ?_)
    · obtain ⟨h1, L', rfl, h2, h3, h4⟩ := h
      exact k L' w' (decide_eq_true h1) h2 h3 h4
    · rcases h with ⟨h1, h2, h3⟩ | ⟨h1, h2, ⟨h3, h4⟩, h5, h6⟩
      · exact kx E q9 w' (Or.inl ⟨h1, decide_eq_false h2, h3⟩)
      · exact kx E q9 w' (Or.inr ⟨h2, decide_eq_true h1, h3, h4, h5, h6⟩)
  · have ho : Ob w x 10 [.int (iI a), .int (iI b), .int (iI v), .int (iI 108)] := hob
    refine xr_callV (n9 := 1) (rc' := rc') (rs' := rs') (k_checked_l (x := a) (y := b) (v := v) hG ho hL hK hB ⟨ha9, hb9, hv9⟩ hN) ho rfl hlink q2094 q2097 q103 q2099 (by decide +kernel) rfl ⟨by omega, by omega⟩ ⟨by omega, by omega⟩ hcat d rfl (fun r w' h => ?_) (fun E q9 w' h => ?_)
    · obtain ⟨h1, L', rfl, h2, h3, h4⟩ := h
      exact k L' w' (decide_eq_true h1) h2 h3 h4
    · rcases h with ⟨h1, h2, h3⟩ | ⟨h1, h2, ⟨h3, h4⟩, h5, h6⟩
      · exact kx E q9 w' (Or.inl ⟨h1, decide_eq_false h2, h3⟩)
      · exact kx E q9 w' (Or.inr ⟨h2, decide_eq_true h1, h3, h4, h5, h6⟩)
  · have ho : Ob w x 10 [.int (iI (-1)), .int (iI a), .int (iI b), .int (iI 114)] := hob
    refine xr_callV (n9 := 1) (rc' := rc') (rs' := rs') (k_checked_r (y := a) (v := b) hG ho hL hK hB ⟨ha9, hb9⟩ hN) ho rfl hlink q2094 q2097 q103 q2099 (by decide +kernel) rfl ⟨by omega, by omega⟩ ⟨by omega, by omega⟩ hcat d rfl (fun r w' h => ?_) (fun E q9 w' h => ?_)
    · obtain ⟨h1, L', rfl, h2, h3, h4⟩ := h
      exact k L' w' (decide_eq_true h1) h2 h3 h4
    · rcases h with ⟨h1, h2, h3⟩ | ⟨h1, h2, ⟨h3, h4⟩, h5, h6⟩
      · exact kx E q9 w' (Or.inl ⟨h1, decide_eq_false h2, h3⟩)
      · exact kx E q9 w' (Or.inr ⟨h2, decide_eq_true h1, h3, h4, h5, h6⟩)
  · have ho : Ob w x 10 [.int (iI (-1)), .int (iI a), .int (iI (-1)), .int (iI 101)] := hob
    refine xr_callV (n9 := 1) (rc' := rc') (rs' := rs') (k_checked_e (y := a) hG ho hL hK hB ha9 hN) ho rfl hlink q2094 q2097 q103 q2099 (by decide +kernel) rfl ⟨by omega, by omega⟩ ⟨by omega, by omega⟩ hcat d rfl (fun r w' h => ?_) (fun E q9 w' h => ?_)
    · obtain ⟨h1, L', rfl, h2, h3, h4⟩ := h
      exact k L' w' (decide_eq_true h1) h2 h3 h4
    · rcases h with ⟨h1, h2, h3⟩ | ⟨h1, h2, ⟨h3, h4⟩, h5, h6⟩
      · exact kx E q9 w' (Or.inl ⟨h1, decide_eq_false h2, h3⟩)
      · exact kx E q9 w' (Or.inr ⟨h2, decide_eq_true h1, h3, h4, h5, h6⟩)
  · have ho : Ob w x 11 [.int (iI a), .int (iI (-1)), .int (iI b), .int (iI 103)] := hob
    refine xr_callV (n9 := 1) (rc' := rc') (rs' := rs') (k_checked_g (x := a) (v := b) hG ho hL hK hB ⟨ha9, hb9⟩ hN) ho rfl hlink q2094 q2098 q103 q2099 (by decide +kernel) rfl ⟨by omega, by omega⟩ ⟨by omega, by omega⟩ hcat d rfl (fun r w' h => ?_) (fun E q9 w' h => ?_)
    · obtain ⟨h1, L', rfl, h3, h4⟩ := h
      exact k L' w' (decide_eq_true h1) rfl h3 h4
    · obtain ⟨h1, h2, h3⟩ := h
      exact kx E q9 w' (Or.inl ⟨h1, decide_eq_false h2, h3⟩)
  · have ho : Ob w x 11 [.int (iI a), .int (iI (-1)), .int (iI (-1)), .int (iI 115)] := hob
    refine xr_callV (n9 := 1) (rc' := rc') (rs' := rs') (k_checked_s (x := a) hG ho hL hK hB ha9 hN) ho rfl hlink q2094 q2098 q103 q2099 (by decide +kernel) rfl ⟨by omega, by omega⟩ ⟨by omega, by omega⟩ hcat d rfl (fun r w' h => ?_) (fun E q9 w' h => ?_)
    · obtain ⟨h1, L', rfl, h3, h4⟩ := h
      exact k L' w' (decide_eq_true h1) rfl h3 h4
    · obtain ⟨h1, h2, h3⟩ := h
      exact kx E q9 w' (Or.inl ⟨h1, decide_eq_false h2, h3⟩)
  · have ho : Ob w x 11 [.int (iI (-1)), .int (iI (-1)), .int (iI a), .int (iI 110)] := hob
    refine xr_callV (n9 := 1) (rc' := rc') (rs' := rs') (k_checked_n (v := a) hG ho hL hK hB ha9 hN) ho rfl hlink q2094 q2098 q103 q2099 (by decide +kernel) rfl ⟨by omega, by omega⟩ ⟨by omega, by omega⟩ hcat d rfl (fun r w' h => ?_) (fun E q9 w' h => ?_)
    · obtain ⟨h1, L', rfl, h3, h4⟩ := h
      exact k L' w' (decide_eq_true h1) rfl h3 h4
    · obtain ⟨h1, h2, h3⟩ := h
      exact kx E q9 w' (Or.inl ⟨h1, decide_eq_false h2, h3⟩)
  · have ho : Ob w x 11 [.int (iI (-1)), .int (iI (-1)), .int (iI a), .int (iI 112)] := hob
    refine xr_callV (n9 := 1) (rc' := rc') (rs' := rs') (k_checked_p (v := a) hG ho hL hK hB ha9 hN) ho rfl hlink q2094 q2098 q103 q2099 (by decide +kernel) rfl ⟨by omega, by omega⟩ ⟨by omega, by omega⟩ hcat d rfl (fun r w' h => ?_) (fun E q9 w' h => ?_)
    · obtain ⟨h1, L', rfl, h3, h4⟩ := h
      exact k L' w' (decide_eq_true h1) rfl h3 h4
    · obtain ⟨h1, h2, h3⟩ := h
      exact kx E q9 w' (Or.inl ⟨h1, decide_eq_false h2, h3⟩)
end Ck
theorem k_B_run {g : GG} {w : WW} {n0 : Nat → Prop} {q : Nat} {L : Int → Nat} {P : Int → Int} {N : Int} {al arr : Nat} {n : Int} {f : Int → Option Nat} {cs : List Cm} (hG : Base g) (hL : KL g) (hK : PK g w n0 q L P) (hB : PB P N) (hA : AL g w al arr n f) (hna : ¬ PA g q L P al ∧ ¬ PA g q L P arr) (hcs : ∀ (i : Nat) (c : Cm), cs[i]? = some c → ∃ x : Nat, f i = some x ∧ CmO w x c ∧ cmS c) (hlen : n = cs.length) (hN : N + 13000 * 11 ≤ 10000000) : Ct g yX1_run (.codeWith yX1_run cX1_run 6 (some .int) [(27, 35, 38, 25)]) 18 3234 3434 6877 w [.ref al, .ref q] (fun r_ w1 => r_ = some (.int (iI n)) ∧ ∃ (L' : Int → Nat) (P' : Int → Int), rAll cs 0 P = .inr P' ∧ PK g w1 (PN g w q L P) q L' P' ∧ PB P' (N + 13000 * n) ∧ Fr (PN g w q L P) w w1) (fun E a9 w1 => ∃ cd k rr : Int, rAll cs 0 P = .inl (cd, k, rr) ∧ ((cd = 2 ∧ E = "BenchBroker$BadCommand") ∨ (cd = 3 ∧ E = "BenchBroker$Rejection" ∧ Ob w1 a9 6 [.int (iI 12), .int (iI k), .int (iI rr)] ∧ w.2 ≤ a9)) ∧ Fr (PN g w q L P) w w1) := by
  refine Ct.ofH (lv := [some _, some _, none, none, none, none]) hG (by decide +kernel) (Nat.le_of_ble_eq_true rfl) rfl ?_
  intro z hg hpo hxp hnm htab
  subst hg
  have hgb := hB.g
  obtain ⟨mm, cap, hf, hob, hra, hel, hn, hcap⟩ := hA
  refine xr_iconst dX1_run_0 ?_
  refine xr_istore_n (lv' := [some _, some _, some _, none, none, none]) dX1_run_1 (by decide) rfl rfl ?_
  refine xr_aload_n dX1_run_2 rfl (by first | rfl | exact isRef_rf _) ?_
  refine xr_callV (n9 := 0) (rc' := 3433) (rs' := 6873) (k_AL_iterator hG hob) hob rfl q2044 q2045 q2046 q91 q2047 (by decide +kernel) rfl ⟨by decide, Nat.le_of_ble_eq_true rfl⟩ ⟨Nat.le_of_ble_eq_true rfl, Nat.le_of_ble_eq_true rfl⟩ (Nat.le_of_ble_eq_true rfl) dX1_run_3 rfl (fun r w3 hw => ?_) (fun _ _ _ h => h.elim)
  obtain ⟨it, rfl, hit, hob3, hitw, hitg, hm3⟩ := hw
  show XJ _ _ _ _ _ _ _ _ _ _ _ _ [.ref it]
  have hK3 := (hK.ext hm3).pn
  have hra3 := hra.ext hm3
  have hm31 := hm3.1
  have hit3 := hit.2
  have hnal : ¬ (fun b => b = it ∨ PN (zg z) w3 q L P b) al := fun q9 => by
    rcases q9 with q9 | q9
    · have := hob.2; omega
    · rcases q9 with q9 | q9
      · exact hna.1 q9
      · have := hob3.2; omega
  have hnarr : ¬ (fun b => b = it ∨ PN (zg z) w3 q L P b) arr := fun q9 => by
    rcases q9 with q9 | q9
    · have := hra.lt; omega
    · rcases q9 with q9 | q9
      · exact hna.2 q9
      · have := hra3.lt; omega
  refine xr_astore_n (lv' := [some _, some _, some _, some _, none, none]) dX1_run_6 (by decide) rfl (by first | rfl | exact isRef_rf _) rfl ?_
  refine xr_lv (lvw_s (lvw_s (lvw_s (lvw_s (lvw_n (lvw_n (lvw_nil))))))) ?_
  have lp7 : ∀ (fu7 : Nat) (w9 : WW) (k : Nat) (l9 : Int) (P9 : Int → Int) (L9 : Int → Nat), k ≤ cs.length → cs.length - k < fu7 → Fr (fun b => b = it ∨ PN (zg z) w3 q L P b) w3 w9 → Ob w9 it 19 [.int (iI k), .int (iI l9), .int (iI mm), .ref al] → PK (zg z) w9 (PN (zg z) w3 q L P) q L9 P9 → PB P9 (N + 13000 * k) → rAll (cs.drop k) k P9 = rAll cs 0 P → XJ z yX1_run.cls cX1_run 6 (some .int) 18 3234 w9 (286 * fu7 + 287) (572 * fu7 + 581) 7 [some (.ref al), some (.ref q), some (.int (iI k)), some (.ref it), none, none] [] := by
    intro fu7
    induction fu7 with
    | zero =>
      intro w9 k l9 P9 L9 hk hfu hfr9 hit9 hK9 hB9 hr9
      omega
    | succ fu7 ih7 =>
      intro w9 k l9 P9 L9 hk hfu hfr9 hit9 hK9 hB9 hr9
      have hob9 := hob3.fr hfr9 hnal
      have hra9 := hra3.fr hfr9 hnarr
      have hcd : ∀ c, cs[k]? = some c → cs.drop k = c :: cs.drop (k + 1) := fun c hc => by
        obtain ⟨h1, h2⟩ := List.getElem?_eq_some_iff.mp hc
        rw [← h2]; exact List.drop_eq_getElem_cons h1
      refine xr_aload_n dX1_run_7 rfl (by first | rfl | exact isRef_rf _) ?_
      refine xr_callF (n9 := 0) (rc' := 286 * fu7 + 573) (rs' := 572 * fu7 + 1153) (k_Itr_hasNext hG hit9 hob9 (by omega)) hit9 rfl q2068 q2074 q2072 q2070 q2069 q2075 q2073 q2071 q131 q2076 (by decide +kernel) rfl ⟨by decide, Nat.le_of_ble_eq_true rfl⟩ ⟨by omega, by omega⟩ (Nat.le_of_ble_eq_true rfl) dX1_run_8 rfl (xk_r ?_) (fun _ _ _ h => h.elim)
      refine xr_ifb_eq (tgt := 62) dX1_run_13 (by decide) (fun c13 => ?_) (fun c13 => ?_)
      · skip
        try simp only [decide_eq_true_eq, decide_eq_false_iff_not] at c13
        refine xr_iload_n dX1_run_62 rfl ?_
        refine xr_ireturn rfl rfl dX1_run_63 ?_
        rw [hpo]
        have e9 : k = cs.length := by omega
        have e8 : cs.drop k = [] := by rw [e9]; exact List.drop_length
        rw [e8] at hr9
        refine ⟨by rw [hlen, e9], L9, P9, hr9.symm, hK9.sub (fun b hb => by rcases hK9.lo b hb with q9 | q9; exact Or.inl q9; exact Or.inr (by omega)) (fun b hb => hb.elim (fun q9 => hK.gn _ (hK.lo _ q9)) (fun q9 => Nat.le_trans hK.n0lt.2.2 q9)) (fun b hb => Or.inr (by have := hfr9.1; omega)), by rw [hlen, ← e9]; exact hB9, hm3.trq (hfr9.to (S' := PN (zg z) w q L P) (fun b hb q9 => by rcases q9 with q9 | q9 | q9; exact Or.inr (by omega); exact Or.inl q9; exact Or.inr (by omega)))⟩
      · skip
        try simp only [decide_eq_true_eq, decide_eq_false_iff_not] at c13
        obtain ⟨c, hck⟩ : ∃ c, cs[k]? = some c := ⟨cs[k]'(by omega), List.getElem?_eq_getElem (by omega)⟩
        obtain ⟨x, hfx, hxo, hxs⟩ := hcs k c hck
        obtain ⟨qc, hqc, hqo, hqa, hc8, hc12⟩ := cm_cls c
        have hx3 := hxo.ext hm3
        have hnx : ¬ (fun b => b = it ∨ PN (zg z) w3 q L P b) x := fun q9 => by
          rcases q9 with q9 | q9
          · have := hxo.2; omega
          · rcases q9 with q9 | q9
            · exact (hK.na hxo (by omega)) q9
            · have := hx3.2; omega
        have hx9 : Ob w9 x (cmF c).1 (cmF c).2 := hx3.fr hfr9 hnx
        refine xr_aload_n dX1_run_16 rfl (by first | rfl | exact isRef_rf _) ?_
        refine xr_callF (n9 := 0) (rc' := 286 * fu7 + 573) (rs' := 572 * fu7 + 1153) (k_Itr_next hG hit9 hob9 (by omega) hra9 ((hel k (by omega) (by omega)).trans hfx)) hit9 rfl q2078 q2083 q2081 q2080 q2079 q2084 q2082 q2071 q131 q2085 (by decide +kernel) rfl ⟨by decide, Nat.le_of_ble_eq_true rfl⟩ ⟨by omega, by omega⟩ (Nat.le_of_ble_eq_true rfl) dX1_run_17 rfl (fun r w17 hw => ?_) (fun _ _ _ h => h.elim)
        obtain ⟨rfl, hit17, hf17⟩ := hw
        show XJ _ _ _ _ _ _ _ _ _ _ _ _ [.ref x]
        have hx17 : Ob w17 x (cmF c).1 (cmF c).2 := hx9.fr hf17 (fun q9 => by have q9 : x = it := q9; have := hxo.2; omega)
        have hK17 : PK (zg z) w17 (PN (zg z) w3 q L P) q L9 P9 := hK9.fr hf17 (fun b hb (q9 : b = it) => by subst q9; exact hK9.na hit9 (by decide) hb) (fun b (q9 : b = it) => by omega)
        refine xr_castY hx17 hqc q2092 hqa dX1_run_22 ?_
        refine xr_astore (lv' := [some _, some _, some _, some _, some _, none]) dX1_run_25 (by decide) rfl (by first | rfl | exact isRef_rf _) rfl ?_
        refine xr_aload dX1_run_27 rfl (by first | rfl | exact isRef_rf _) ?_
        refine xr_aload_n dX1_run_29 rfl (by first | rfl | exact isRef_rf _) ?_
        refine xr_checked (rc' := 286 * fu7 + 287) (rs' := 572 * fu7 + 581) (c := c) hG hx17 hxs hL hK17 hB9 (by omega) q2093 (by decide) (by decide) ⟨by omega, by omega⟩ (Nat.le_of_ble_eq_true rfl) dX1_run_30 rfl (fun L7 w30 ha30 hr30 hK30 hf30 => ?_) (fun E q9 w30 hx30 => ?_)
        rotate_left
        · skip
          rcases hx30 with ⟨rfl, ha30, rfl⟩ | ⟨rfl, ha30, hr30, hoq, hmq, hq9⟩
          · refine xt_outP (by rw [htab]; intro x9 hx9; have hx9 : x9 = ⟨27, 35, 38, 25⟩ := by simpa [tableOf] using hx9
                               subst hx9; exact Or.inr ⟨by decide, "BenchBroker$Rejection", q1004, xn_of (by decide +kernel)⟩) ?_
            rw [hxp]
            refine ⟨2, 0, 0, ?_, Or.inl ⟨rfl, rfl⟩, ?_⟩
            · rw [← hr9, hcd c hck]; simp only [rAll, ha30, ↓reduceIte]
            · have hfr9 := hfr9.tr hf17 (fun b _ q9 => Or.inl q9)
              exact hm3.trq (hfr9.to (S' := PN (zg z) w q L P) (fun b hb q9 => by rcases q9 with q9 | q9 | q9; exact Or.inr (by omega); exact Or.inl q9; exact Or.inr (by omega)))
          refine xt_catch (name := "BenchBroker$Rejection") [] ⟨27, 35, 38, 25⟩ [] (by rw [htab]; rfl) (fun y hy => by cases hy) (by decide) (by decide) q1004 q1037 ?_
          refine xr_astore (lv' := [some _, some _, some _, some _, some _, some _]) dX1_run_38 (by decide) rfl (by first | rfl | exact isRef_rf _) rfl ?_
          refine xr_newZ (rc' := 286 * fu7 + 286) (rs' := 572 * fu7 + 572) q1004 q1036 q116 ⟨by omega, by omega⟩ dX1_run_40 (fun a40 e40 ga40 ba40 hz40 => ?_)
          have hoq1 := hoq.mo (n := w30.2) (Mo.new (n := w30.2) ga40 ga40 e40) hoq.2
          refine xr_dup dX1_run_43 (by first | rfl | exact cat_rf _) ?_
          refine xr_bipush dX1_run_44 (by decide) ?_
          refine xr_iload_n dX1_run_46 rfl ?_
          refine xr_aload dX1_run_47 rfl (by first | rfl | exact isRef_rf _) ?_
          refine xr_getfieldN (ci := 6) (T := TR_) (N := 3) (i := 0) hoq1 rfl (by decide) in_R_ q1052 (.inl rfl) dX1_run_49 (by rfl) ?_
          refine xr_callI (n9 := 3) (rc' := 286 * fu7 + 286) (rs' := 572 * fu7 + 572) (k_Rej_init3 hG hz40 ba40) q2138 q1048 q116 q1049 rfl (by decide +kernel) rfl ⟨by decide, Nat.le_of_ble_eq_true rfl⟩ ⟨by omega, by omega⟩ (Nat.le_of_ble_eq_true rfl) dX1_run_52 rfl (fun r w52 hw => ?_) (fun _ _ _ h => h.elim)
          obtain ⟨rfl, hr52, hf52⟩ := hw
          refine xr_athrow hr52 rfl dX1_run_55 ?_
          refine xt_out (by rw [htab]; decide) ?_
          rw [hxp]
          refine ⟨3, k, (cR c P9).1, ?_, Or.inr ⟨rfl, rfl, hr52, ?_⟩, ?_⟩
          · rw [← hr9, hcd c hck]; simp only [rAll, ha30, hr30, ne_eq, not_false_eq_true, ↓reduceIte, Bool.true_eq_false]
          · have h1 := hfr9.1; have h2 := hf17.1; have h3 := hmq.1; omega
          · have hfr9 := ((((hfr9.tr hf17 (fun b _ q9 => Or.inl q9)).trm hmq).trm (Mo.new (n := w30.2) ga40 ga40 e40)).tr hf52 (fun b hb (q9 : b = a40) => by have h1 := hfr9.1; have h2 := hf17.1; have h3 := hmq.1; omega))
            exact hm3.trq (hfr9.to (S' := PN (zg z) w q L P) (fun b hb q9 => by rcases q9 with q9 | q9 | q9; exact Or.inr (by omega); exact Or.inl q9; exact Or.inr (by omega)))
        refine xr_istore (lv' := [some _, some _, some _, some _, some _, some _]) dX1_run_33 (by decide) rfl rfl ?_
        refine xr_goto (tgt := 56) dX1_run_35 (by decide) ?_
        refine xr_iinc (lv' := [some _, some _, some _, some _, some _, some _]) dX1_run_56 rfl (by decide) rfl rfl ?_
        refine xr_goto (tgt := 7) dX1_run_59 (by decide) ?_
        refine xr_lv (lvw_s (lvw_s (lvw_s (lvw_s (lvw_n (lvw_n (lvw_nil))))))) ?_
        have hnit : ¬ (PN (zg z) w3 q L P) it := fun q9 => by
          rcases q9 with q9 | q9
          · exact (hK.ext hm3).na hit (by decide) q9
          · omega
        refine xr_wk (rc' := 286 * fu7 + 287) (rs' := 572 * fu7 + 581) ⟨by omega, by omega⟩ (ih7 w30 (k + 1) k (cO c P9) L7 (by omega) (by omega) ((hfr9.tr hf17 (fun b _ q9 => Or.inl q9)).tr hf30 (fun b _ q9 => Or.inr q9)) (hit17.fr hf30 hnit) hK30 ((PB_act hB9 (by omega) ha30 hr30).mono (by omega)) (by rw [← hr9, hcd c hck, rAll, if_neg (by rw [ha30]; decide), if_neg (by rw [hr30]; decide)]; rfl))
  refine xr_wk (rc' := 286 * 11 + 287) (rs' := 572 * 11 + 581) ⟨by omega, by omega⟩ (lp7 11 w3 0 (-1) P L (by omega) (by omega) Fr.rf hit hK3 (by rw [show N + 13000 * ((0 : Nat) : Int) = N by omega]; exact hB) rfl)
