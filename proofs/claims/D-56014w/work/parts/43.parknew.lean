/-! 43.parknew.lean.txt (written by tools/walker.py)  -/
set_option maxRecDepth 100000
/-- the cheapest bench that a tenant can lease: the benches from k on, m of them -/
def cheapF (P : Int → Int) (t : Int) : Nat → Int → Int → Int
  | 0, _, best => best
  | m + 1, k, best => cheapF P t m (k + 1) (if (best = -1 ∨ rent P k < rent P best) ∧ (barred P t k).1 = 0 then k else best)
def cheap (P : Int → Int) (t : Int) : Int := cheapF P t (P 0).toNat 0 (-1)
theorem cheapF_lt {P : Int → Int} {t k n best : Int} (h : k < n) : cheapF P t (n - k).toNat k best = cheapF P t (n - (k + 1)).toNat (k + 1) (if (best = -1 ∨ rent P k < rent P best) ∧ (barred P t k).1 = 0 then k else best) := by
  rw [show (n - k).toNat = (n - (k + 1)).toNat + 1 by omega]; rfl
theorem cheapF_ge {P : Int → Int} {t k n best : Int} (h : n ≤ k) : cheapF P t (n - k).toNat k best = best := by
  rw [show (n - k).toNat = 0 by omega]; rfl
theorem k_P_cheapestFor {g : GG} {w : WW} {n0 : Nat → Prop} {q : Nat} {L : Int → Nat} {P : Int → Int} {N : Int} {t : Int} (hG : Base g) (hK : PK g w n0 q L P) (hB : PB P N) (ht : 0 ≤ t ∧ t < P 2) : Ct g yX2_cheapestFor (.code yX2_cheapestFor cX2_cheapestFor 6 (some .int)) 15 3166 55 187 w [.ref q, .ref (L (50 + t))] (fun r_ w1 => r_ = some (.int (iI (cheap P t))) ∧ Mo w.2 w w1) xF := by
  refine Ct.of (lv := [some _, some _, none, none, none, none]) hG (by decide +kernel) (Nat.le_of_ble_eq_true rfl) rfl ?_
  intro z hg hpo hxp hnm htab
  subst hg
  have hmo : Mo w.2 w w := Mo.rf
  have hgg := hB.g
  refine xr_iconst dX2_cheapestFor_0 ?_
  refine xr_istore_n (lv' := [some _, some _, some _, none, none, none]) dX2_cheapestFor_1 (by decide) rfl rfl ?_
  refine xr_iconst dX2_cheapestFor_2 ?_
  refine xr_istore_n (lv' := [some _, some _, some _, some _, none, none]) dX2_cheapestFor_3 (by decide) rfl rfl ?_
  refine xr_lv (lvw_s (lvw_s (lvw_s (lvw_s (lvw_n (lvw_n (lvw_nil))))))) ?_
  have lp4 : ∀ (fu4 : Nat) (w9 : WW) (best k : Int), 0 ≤ k → k ≤ P 0 → P 0 - k < fu4 → -1 ≤ best → best < k → PK (zg z) w9 n0 q L P → Mo w.2 w w9 → cheapF P t (P 0 - k).toNat k best = cheap P t → XJ z yX2_cheapestFor.cls cX2_cheapestFor 6 (some .int) 15 3166 w9 (5 * fu4 + 0) (17 * fu4 + 0) 4 [some (.ref q), some (.ref (L (50 + t))), some (.int (iI best)), some (.int (iI k)), none, none] [] := by
    intro fu4
    induction fu4 with
    | zero =>
      intro w9 best k hk0 hkn hfu hb0 hb1 hK9 hmo hr
      omega
    | succ fu4 ih4 =>
      intro w9 best k hk0 hkn hfu hb0 hb1 hK9 hmo hr
      refine xr_iload_n dX2_cheapestFor_4 rfl ?_
      refine xr_aload_n dX2_cheapestFor_5 rfl (by first | rfl | exact isRef_rf _) ?_
      refine xr_getfield (ci := 0) (T := TX2) (N := 10) (i := 0) hK9.hq rfl (by decide) in_X2 q186 (.inl rfl) dX2_cheapestFor_6 (by rfl) ?_
      refine xr_callV (n9 := 0) (rc' := 5 * fu4 + 5) (rs' := 17 * fu4 + 17) (k_Reg_size hG hK9.r0 hK9.l0) hK9.r0 rfl q472 q294 q295 q88 q296 (by decide +kernel) rfl ⟨by decide, Nat.le_of_ble_eq_true rfl⟩ ⟨by omega, by omega⟩ (Nat.le_of_ble_eq_true rfl) dX2_cheapestFor_9 rfl (xk_r ?_) (fun _ _ _ h => h.elim)
      refine xr_icmp_ge (tgt := 91) dX2_cheapestFor_12 (by decide) (by omega) (fun c12 => ?_) (fun c12 => ?_)
      · skip
        refine xr_iload_n dX2_cheapestFor_91 rfl ?_
        refine xr_ireturn rfl rfl dX2_cheapestFor_92 ?_
        rw [hpo]
        exact ⟨by rw [← hr, cheapF_ge (by omega)], hmo⟩
      · skip
        rw [cheapF_lt (show k < P 0 by omega)] at hr
        have hrr := rent_bd hB hk0 (show k < P 0 by omega)
        refine xr_aload_n dX2_cheapestFor_15 rfl (by first | rfl | exact isRef_rf _) ?_
        refine xr_getfield (ci := 0) (T := TX2) (N := 10) (i := 0) hK9.hq rfl (by decide) in_X2 q186 (.inl rfl) dX2_cheapestFor_16 (by rfl) ?_
        refine xr_iload_n dX2_cheapestFor_19 rfl ?_
        refine xr_callV (n9 := 1) (rc' := 5 * fu4 + 5) (rs' := 17 * fu4 + 17) (k_Reg_get hG hK9.r0 hK9.l0 ⟨hk0, by omega⟩ rfl (hK9.be k hk0 (by omega)) rfl q2757) hK9.r0 rfl q473 q474 q475 q88 q476 (by decide +kernel) rfl ⟨by decide, Nat.le_of_ble_eq_true rfl⟩ ⟨by omega, by omega⟩ (Nat.le_of_ble_eq_true rfl) dX2_cheapestFor_20 rfl (xk_r ?_) (fun _ _ _ h => h.elim)
        refine xr_castS (hK9.be k hk0 (by omega)) rfl q794 dX2_cheapestFor_23 ?_
        refine xr_astore (lv' := [some _, some _, some _, some _, some _, none]) dX2_cheapestFor_26 (by decide) rfl (by first | rfl | exact isRef_rf _) rfl ?_
        refine xr_iload_n dX2_cheapestFor_28 rfl ?_
        refine xr_iconst dX2_cheapestFor_29 ?_
        refine xr_icmp_eq (tgt := 57) dX2_cheapestFor_30 (by decide) (by omega) (fun c30 => ?_) (fun c30 => ?_)
        · skip
          refine xr_iconst dX2_cheapestFor_57 ?_
          refine xr_goto (tgt := 62) dX2_cheapestFor_58 (by decide) ?_
          refine xr_istore (lv' := [some _, some _, some _, some _, some _, some _]) dX2_cheapestFor_62 (by decide) rfl rfl ?_
          refine xr_iload dX2_cheapestFor_64 rfl ?_
          refine xr_if_eq (tgt := 83) dX2_cheapestFor_66 (by decide) (by decide) (fun c66 => absurd c66 (by decide)) (fun c66 => ?_)
          refine xr_aload_n dX2_cheapestFor_69 rfl (by first | rfl | exact isRef_rf _) ?_
          refine xr_aload_n dX2_cheapestFor_70 rfl (by first | rfl | exact isRef_rf _) ?_
          refine xr_aload dX2_cheapestFor_71 rfl (by first | rfl | exact isRef_rf _) ?_
          refine xr_callV (n9 := 2) (rc' := 5 * fu4 + 2) (rs' := 17 * fu4 + 4) (k_P_obstacle hG hK9 hB (b := k) ⟨hk0, by omega⟩ ht) hK9.hq rfl q1107 q1108 q1109 q87 q1110 (by decide +kernel) rfl ⟨by decide, Nat.le_of_ble_eq_true rfl⟩ ⟨by omega, by omega⟩ (Nat.le_of_ble_eq_true rfl) dX2_cheapestFor_73 rfl (fun r w73 hw => ?_) (fun _ _ _ h => h.elim)
          obtain ⟨o, rfl, hm73, hn73, hs73⟩ := hw
          have hmo := hmo.tr hm73 hmo.1
          have hK9 := hK9.ext hm73
          show XJ _ _ _ _ _ _ _ _ _ _ _ _ [va_rf o]
          refine xr_ifnonnull (tgt := 83) dX2_cheapestFor_76 (by decide) (fun c76 => ?_) (fun c76 => ?_)
          · skip
            obtain ⟨a9, rfl⟩ : ∃ a9, o = some a9 := by
              cases o with
              | none => exact absurd rfl c76
              | some a9 => exact ⟨a9, rfl⟩
            have hbar := (hs73 a9 rfl).1
            refine xr_iload_n dX2_cheapestFor_83 rfl ?_
            refine xr_istore_n (lv' := [some _, some _, some _, some _, some _, some _]) dX2_cheapestFor_84 (by decide) rfl rfl ?_
            refine xr_iinc (lv' := [some _, some _, some _, some _, some _, some _]) dX2_cheapestFor_85 rfl (by decide) rfl rfl ?_
            refine xr_goto (tgt := 4) dX2_cheapestFor_88 (by decide) ?_
            refine xr_lv (lvw_s (lvw_s (lvw_s (lvw_s (lvw_n (lvw_n (lvw_nil))))))) ?_
            refine xr_wk (rc' := 5 * fu4 + 0) (rs' := 17 * fu4 + 0) ⟨by omega, by omega⟩ (ih4 _ _ _ (by omega) (by omega) (by omega) (by omega) (by omega) hK9 hmo (by first | (rw [if_pos ⟨by omega, hbar⟩] at hr; exact hr) | (rw [if_neg (fun h9 => hbar h9.2)] at hr; exact hr) | (rw [if_neg (fun h9 => by omega)] at hr; exact hr)))
          · skip
            have hbar := hn73 c76
            refine xr_iload_n dX2_cheapestFor_79 rfl ?_
            refine xr_goto (tgt := 84) dX2_cheapestFor_80 (by decide) ?_
            refine xr_istore_n (lv' := [some _, some _, some _, some _, some _, some _]) dX2_cheapestFor_84 (by decide) rfl rfl ?_
            refine xr_iinc (lv' := [some _, some _, some _, some _, some _, some _]) dX2_cheapestFor_85 rfl (by decide) rfl rfl ?_
            refine xr_goto (tgt := 4) dX2_cheapestFor_88 (by decide) ?_
            refine xr_lv (lvw_s (lvw_s (lvw_s (lvw_s (lvw_n (lvw_n (lvw_nil))))))) ?_
            refine xr_wk (rc' := 5 * fu4 + 0) (rs' := 17 * fu4 + 0) ⟨by omega, by omega⟩ (ih4 _ _ _ (by omega) (by omega) (by omega) (by omega) (by omega) hK9 hmo (by first | (rw [if_pos ⟨by omega, hbar⟩] at hr; exact hr) | (rw [if_neg (fun h9 => hbar h9.2)] at hr; exact hr) | (rw [if_neg (fun h9 => by omega)] at hr; exact hr)))
        · skip
          have hr2 := rent_bd hB (b := best) (by omega) (by omega)
          refine xr_aload_n dX2_cheapestFor_33 rfl (by first | rfl | exact isRef_rf _) ?_
          refine xr_aload dX2_cheapestFor_34 rfl (by first | rfl | exact isRef_rf _) ?_
          refine xr_callV (n9 := 1) (rc' := 5 * fu4 + 4) (rs' := 17 * fu4 + 15) (k_P_rentOf hG hK9 hB ⟨hk0, by omega⟩) hK9.hq rfl q872 q873 q874 q87 q875 (by decide +kernel) rfl ⟨by decide, Nat.le_of_ble_eq_true rfl⟩ ⟨by omega, by omega⟩ (Nat.le_of_ble_eq_true rfl) dX2_cheapestFor_36 rfl (xk_e fun w36 hm36 => ?_) (fun _ _ _ h => h.elim)
          have hmo := hmo.tr hm36 hmo.1
          have hK9 := hK9.ext hm36
          refine xr_aload_n dX2_cheapestFor_39 rfl (by first | rfl | exact isRef_rf _) ?_
          refine xr_aload_n dX2_cheapestFor_40 rfl (by first | rfl | exact isRef_rf _) ?_
          refine xr_getfield (ci := 0) (T := TX2) (N := 10) (i := 0) hK9.hq rfl (by decide) in_X2 q186 (.inl rfl) dX2_cheapestFor_41 (by rfl) ?_
          refine xr_iload_n dX2_cheapestFor_44 rfl ?_
          refine xr_callV (n9 := 1) (rc' := 5 * fu4 + 4) (rs' := 17 * fu4 + 15) (k_Reg_get hG hK9.r0 hK9.l0 ⟨by omega, by omega⟩ rfl (hK9.be best (by omega) (by omega)) rfl q2757) hK9.r0 rfl q473 q474 q475 q88 q476 (by decide +kernel) rfl ⟨by decide, Nat.le_of_ble_eq_true rfl⟩ ⟨by omega, by omega⟩ (Nat.le_of_ble_eq_true rfl) dX2_cheapestFor_45 rfl (xk_r ?_) (fun _ _ _ h => h.elim)
          refine xr_castS (hK9.be best (by omega) (by omega)) rfl q794 dX2_cheapestFor_48 ?_
          refine xr_callV (n9 := 1) (rc' := 5 * fu4 + 3) (rs' := 17 * fu4 + 13) (k_P_rentOf hG hK9 hB (b := best) ⟨by omega, by omega⟩) hK9.hq rfl q872 q873 q874 q87 q875 (by decide +kernel) rfl ⟨by decide, Nat.le_of_ble_eq_true rfl⟩ ⟨by omega, by omega⟩ (Nat.le_of_ble_eq_true rfl) dX2_cheapestFor_51 rfl (xk_e fun w51 hm51 => ?_) (fun _ _ _ h => h.elim)
          have hmo := hmo.tr hm51 hmo.1
          have hK9 := hK9.ext hm51
          refine xr_icmp_ge (tgt := 61) dX2_cheapestFor_54 (by decide) (by omega) (fun c54 => ?_) (fun c54 => ?_)
          · skip
            refine xr_iconst dX2_cheapestFor_61 ?_
            refine xr_istore (lv' := [some _, some _, some _, some _, some _, some _]) dX2_cheapestFor_62 (by decide) rfl rfl ?_
            refine xr_iload dX2_cheapestFor_64 rfl ?_
            refine xr_if_eq (tgt := 83) dX2_cheapestFor_66 (by decide) (by decide) (fun c66 => ?_) (fun c66 => absurd c66 (by decide))
            refine xr_iload_n dX2_cheapestFor_83 rfl ?_
            refine xr_istore_n (lv' := [some _, some _, some _, some _, some _, some _]) dX2_cheapestFor_84 (by decide) rfl rfl ?_
            refine xr_iinc (lv' := [some _, some _, some _, some _, some _, some _]) dX2_cheapestFor_85 rfl (by decide) rfl rfl ?_
            refine xr_goto (tgt := 4) dX2_cheapestFor_88 (by decide) ?_
            refine xr_lv (lvw_s (lvw_s (lvw_s (lvw_s (lvw_n (lvw_n (lvw_nil))))))) ?_
            refine xr_wk (rc' := 5 * fu4 + 0) (rs' := 17 * fu4 + 0) ⟨by omega, by omega⟩ (ih4 _ _ _ (by omega) (by omega) (by omega) (by omega) (by omega) hK9 hmo (by first | (rw [if_pos ⟨by omega, hbar⟩] at hr; exact hr) | (rw [if_neg (fun h9 => hbar h9.2)] at hr; exact hr) | (rw [if_neg (fun h9 => by omega)] at hr; exact hr)))
          · skip
            refine xr_iconst dX2_cheapestFor_57 ?_
            refine xr_goto (tgt := 62) dX2_cheapestFor_58 (by decide) ?_
            refine xr_istore (lv' := [some _, some _, some _, some _, some _, some _]) dX2_cheapestFor_62 (by decide) rfl rfl ?_
            refine xr_iload dX2_cheapestFor_64 rfl ?_
            refine xr_if_eq (tgt := 83) dX2_cheapestFor_66 (by decide) (by decide) (fun c66 => absurd c66 (by decide)) (fun c66 => ?_)
            refine xr_aload_n dX2_cheapestFor_69 rfl (by first | rfl | exact isRef_rf _) ?_
            refine xr_aload_n dX2_cheapestFor_70 rfl (by first | rfl | exact isRef_rf _) ?_
            refine xr_aload dX2_cheapestFor_71 rfl (by first | rfl | exact isRef_rf _) ?_
            refine xr_callV (n9 := 2) (rc' := 5 * fu4 + 0) (rs' := 17 * fu4 + 0) (k_P_obstacle hG hK9 hB (b := k) ⟨hk0, by omega⟩ ht) hK9.hq rfl q1107 q1108 q1109 q87 q1110 (by decide +kernel) rfl ⟨by decide, Nat.le_of_ble_eq_true rfl⟩ ⟨by omega, by omega⟩ (Nat.le_of_ble_eq_true rfl) dX2_cheapestFor_73 rfl (fun r w73 hw => ?_) (fun _ _ _ h => h.elim)
            obtain ⟨o, rfl, hm73, hn73, hs73⟩ := hw
            have hmo := hmo.tr hm73 hmo.1
            have hK9 := hK9.ext hm73
            show XJ _ _ _ _ _ _ _ _ _ _ _ _ [va_rf o]
            refine xr_ifnonnull (tgt := 83) dX2_cheapestFor_76 (by decide) (fun c76 => ?_) (fun c76 => ?_)
            · skip
              obtain ⟨a9, rfl⟩ : ∃ a9, o = some a9 := by
                cases o with
                | none => exact absurd rfl c76
                | some a9 => exact ⟨a9, rfl⟩
              have hbar := (hs73 a9 rfl).1
              refine xr_iload_n dX2_cheapestFor_83 rfl ?_
              refine xr_istore_n (lv' := [some _, some _, some _, some _, some _, some _]) dX2_cheapestFor_84 (by decide) rfl rfl ?_
              refine xr_iinc (lv' := [some _, some _, some _, some _, some _, some _]) dX2_cheapestFor_85 rfl (by decide) rfl rfl ?_
              refine xr_goto (tgt := 4) dX2_cheapestFor_88 (by decide) ?_
              refine xr_lv (lvw_s (lvw_s (lvw_s (lvw_s (lvw_n (lvw_n (lvw_nil))))))) ?_
              refine xr_wk (rc' := 5 * fu4 + 0) (rs' := 17 * fu4 + 0) ⟨by omega, by omega⟩ (ih4 _ _ _ (by omega) (by omega) (by omega) (by omega) (by omega) hK9 hmo (by first | (rw [if_pos ⟨by omega, hbar⟩] at hr; exact hr) | (rw [if_neg (fun h9 => hbar h9.2)] at hr; exact hr) | (rw [if_neg (fun h9 => by omega)] at hr; exact hr)))
            · skip
              have hbar := hn73 c76
              refine xr_iload_n dX2_cheapestFor_79 rfl ?_
              refine xr_goto (tgt := 84) dX2_cheapestFor_80 (by decide) ?_
              refine xr_istore_n (lv' := [some _, some _, some _, some _, some _, some _]) dX2_cheapestFor_84 (by decide) rfl rfl ?_
              refine xr_iinc (lv' := [some _, some _, some _, some _, some _, some _]) dX2_cheapestFor_85 rfl (by decide) rfl rfl ?_
              refine xr_goto (tgt := 4) dX2_cheapestFor_88 (by decide) ?_
              refine xr_lv (lvw_s (lvw_s (lvw_s (lvw_s (lvw_n (lvw_n (lvw_nil))))))) ?_
              refine xr_wk (rc' := 5 * fu4 + 0) (rs' := 17 * fu4 + 0) ⟨by omega, by omega⟩ (ih4 _ _ _ (by omega) (by omega) (by omega) (by omega) (by omega) hK9 hmo (by first | (rw [if_pos ⟨by omega, hbar⟩] at hr; exact hr) | (rw [if_neg (fun h9 => hbar h9.2)] at hr; exact hr) | (rw [if_neg (fun h9 => by omega)] at hr; exact hr)))
  refine xr_wk (rc' := 5 * 11 + 0) (rs' := 17 * 11 + 0) ⟨by omega, by omega⟩ (lp4 11 _ _ _ (by omega) (by omega) (by omega) (by omega) (by omega) hK Mo.rf (by rw [Int.sub_zero]; rfl))
/-- a new park's numbers -/
def P00 : Int → Int := updI (fun _ => 0) 3 3
theorem PK_new {g : GG} {w : WW} {a b0 b1 b2 l0 l1 l2 : Nat} {f0 f1 f2 : Int → Option Nat} (hL : KL g) (hge : gb g ≤ a) (hq : Ob w a 0 [.ref b0, .ref b1, .ref b2, .int (iI 3), .int (iI 0), .int (iI 0), .int (iI 0), .int (iI 0), .int (iI 0), .int (iI 0)])
    (r0 : Ob w b0 1 [.ref l0]) (r1 : Ob w b1 1 [.ref l1]) (r2 : Ob w b2 1 [.ref l2]) (h0 : AL g w l0 (gC g 0) 0 f0) (h1 : AL g w l1 (gC g 0) 0 f1) (h2 : AL g w l2 (gC g 0) 0 f2)
    (hb : a ≤ b0 ∧ a ≤ b1 ∧ a ≤ b2 ∧ a ≤ l0 ∧ a ≤ l1 ∧ a ≤ l2) (hd : l0 ≠ l1 ∧ l0 ≠ l2 ∧ l1 ≠ l2) : ∃ L : Int → Nat, PK g w (fun x => a ≤ x) a L P00 := by
  obtain ⟨L, e0, e1, e2, e3, e4, e5, e6, e7, e8⟩ : ∃ L : Int → Nat, L 0 = b0 ∧ L 1 = b1 ∧ L 2 = b2 ∧ L 3 = l0 ∧ L 4 = l1 ∧ L 5 = l2 ∧ L 6 = gC g 0 ∧ L 7 = gC g 0 ∧ L 8 = gC g 0 :=
    ⟨fun k => if k = 0 then b0 else if k = 1 then b1 else if k = 2 then b2 else if k = 3 then l0 else if k = 4 then l1 else if k = 5 then l2 else gC g 0, rfl, rfl, rfl, rfl, rfl, rfl, rfl, rfl, rfl⟩
  have hk := hL.2.1
  refine ⟨L, ?_, ?_, ?_, ?_, ?_, ?_, ?_, ⟨by decide, by decide, by decide⟩, fun i a b => ?_, fun i a b => ?_, fun i a b => ?_, fun i a b => ?_, fun i a b => ?_, fun b hb9 => ?_, ⟨fun b (h9 : a ≤ b) => Nat.le_trans hge h9, fun b h9 => (show a ≤ b by have := hq.2; omega)⟩, ?_, ?_⟩
  · show Ob w a 0 [.ref (L 0), .ref (L 1), .ref (L 2), .int (iI 3), .int (iI 0), .int (iI 0), .int (iI 0), .int (iI 0), .int (iI 0), .int (iI 0)]
    rw [e0, e1, e2]; exact hq
  · rw [e0, e3]; exact r0
  · rw [e1, e4]; exact r1
  · rw [e2, e5]; exact r2
  · rw [e3, e6]; exact AL.to (n := 0) h0 (fun k a b => by omega)
  · rw [e4, e7]; exact AL.to (n := 0) h1 (fun k a b => by omega)
  · rw [e5, e8]; exact AL.to (n := 0) h2 (fun k a b => by omega)
  · exact absurd (show i < 0 from b) (by omega)
  · exact absurd (show i < 0 from b) (by omega)
  · exact absurd (show i < 0 from b) (by omega)
  · exact absurd (show i < 0 from b) (by omega)
  · exact absurd (show i < 0 from b) (by omega)
  · show a ≤ b
    rcases hb9 with rfl | ⟨k, k0, k1, rfl⟩ | ⟨k, k0, k1, rfl, k2⟩ | ⟨k, k0, k1, -⟩ | ⟨k, k0, k1, -⟩ | ⟨k, k0, k1, -⟩
    · exact Nat.le_refl _
    · rcases (show k = 0 ∨ k = 1 ∨ k = 2 ∨ k = 3 ∨ k = 4 ∨ k = 5 by omega) with rfl | rfl | rfl | rfl | rfl | rfl <;> omega
    · rcases (show k = 6 ∨ k = 7 ∨ k = 8 by omega) with rfl | rfl | rfl <;> omega
    · exact absurd (show k < 0 from k1) (by omega)
    · exact absurd (show k < 0 from k1) (by omega)
    · exact absurd (show k < 0 from k1) (by omega)
  · rw [e3, e4, e5]; exact hd
  · rw [e6, e7, e8]; exact ⟨fun h => by omega, fun h => by omega⟩
theorem k_P_init {g : GG} {w : WW} {a : Nat} (hG : Base g) (hL : KL g) (ho : Ob w a 0 [.null, .null, .null, .int (iI 0), .int (iI 0), .int (iI 0), .int (iI 0), .int (iI 0), .int (iI 0), .int (iI 0)]) : Ct g yX2_init (.code yX2_init cX2_init 1 none) 5 92 6 12 w [.ref a] (fun r_ w1 => r_ = none ∧ ∃ L : Int → Nat, PK g w1 (fun x => a ≤ x) a L P00 ∧ Fr (fun b => b = a) w w1) xF := by
  refine Ct.of (lv := [some _]) hG (by decide +kernel) (Nat.le_of_ble_eq_true rfl) rfl ?_
  intro z hg hpo hxp hnm htab
  subst hg
  refine xr_ge ho rfl (fun hge => ?_)
  have haw := ho.2
  refine xr_aload_n dX2_init_0 rfl (by first | rfl | exact isRef_rf _) ?_
  refine xr_objInit q146 q139 q140 (by decide) (Nat.le_of_ble_eq_true rfl) dX2_init_1 ?_
  refine xr_aload_n dX2_init_4 rfl (by first | rfl | exact isRef_rf _) ?_
  refine xr_new (ci := 1) (T := TX3) (N := 1) (n9 := 1) (fs := [.null]) (rc' := 5) (rs' := 11) rfl in_X3 tyX3 tyX3_ok q147 q148 q88 (by intro j hj; obtain rfl : j = 0 := (by omega); rfl) ⟨Nat.le_of_ble_eq_true rfl, Nat.le_of_ble_eq_true rfl⟩ dX2_init_5 (fun a5 ga5 hob5 => ?_)
  have hmn5 := Mo.new ga5 ga5 (.inl (.inr (1, [.null])))
  have ho5 := ho.ext hmn5
  refine xr_dup dX2_init_8 (by first | rfl | exact cat_rf _) ?_
  refine xr_callIN (n9 := 0) (rc' := 4) (rs' := 8) (k_Reg_init (fun _ => none) hG hL hob5) q149 q150 q88 q151 rfl (by decide +kernel) rfl ⟨by decide, Nat.le_of_ble_eq_true rfl⟩ ⟨Nat.le_of_ble_eq_true rfl, Nat.le_of_ble_eq_true rfl⟩ (Nat.le_of_ble_eq_true rfl) dX2_init_9 rfl (fun r w9 hw => ?_) (fun _ _ _ h => h.elim)
  obtain ⟨rfl, l1, hr1, hA1, hl1, hf1⟩ := hw
  have hl1 : a5 + 1 ≤ l1 := hl1
  have ho6 := ho5.fr hf1 (fun q9 => by omega)
  have hz1 := hf1.1
  have hz5 : a5 < w9.2 := hr1.2
  have hzl := hA1.lt.1
  refine xr_putfieldF (ci := 0) (T := TX2) (N := 10) (i := 0) (fs' := [_, _, _, _, _, _, _, _, _, _]) ho6 rfl (by decide) in_X2 tyX2 tyX2_ok nmX2 q186 (.inl rfl) rfl rfl hnm dX2_init_12 (by first | rfl | exact nar_bI _ | exact nar_rf _) (by first | rfl | exact fit_bI _ | exact fit_rf _ _) (by simp) (by rfl) (.inl rfl) (fun hob12 => ?_)
  have hr1 := hr1.put_k (f' := [.ref a5, .null, .null, .int (iI 0), .int (iI 0), .int (iI 0), .int (iI 0), .int (iI 0), .int (iI 0), .int (iI 0)]) ho6 (by decide)
  have hA1 := hA1.put_k ho6 (by decide) (.inl (.inr (0, [.ref a5, .null, .null, .int (iI 0), .int (iI 0), .int (iI 0), .int (iI 0), .int (iI 0), .int (iI 0), .int (iI 0)])))
  refine xr_aload_n dX2_init_15 rfl (by first | rfl | exact isRef_rf _) ?_
  refine xr_new (ci := 1) (T := TX3) (N := 1) (n9 := 1) (fs := [.null]) (rc' := 3) (rs' := 7) rfl in_X3 tyX3 tyX3_ok q147 q148 q88 (by intro j hj; obtain rfl : j = 0 := (by omega); rfl) ⟨Nat.le_of_ble_eq_true rfl, Nat.le_of_ble_eq_true rfl⟩ dX2_init_16 (fun a16 ga16 hob16 => ?_)
  have hmn16 := Mo.new ga16 ga16 (.inl (.inr (1, [.null])))
  have gc16 : w9.2 ≤ a16 := ga16
  have hr1 := hr1.ext hmn16
  have hA1 := hA1.ext hmn16
  have ho7 := hob12.ext hmn16
  refine xr_dup dX2_init_19 (by first | rfl | exact cat_rf _) ?_
  refine xr_callIN (n9 := 0) (rc' := 2) (rs' := 4) (k_Reg_init (fun _ => none) hG hL hob16) q149 q150 q88 q151 rfl (by decide +kernel) rfl ⟨by decide, Nat.le_of_ble_eq_true rfl⟩ ⟨Nat.le_of_ble_eq_true rfl, Nat.le_of_ble_eq_true rfl⟩ (Nat.le_of_ble_eq_true rfl) dX2_init_20 rfl (fun r w20 hw => ?_) (fun _ _ _ h => h.elim)
  obtain ⟨rfl, l2, hr2, hA2, hl2, hf2⟩ := hw
  have ho8 := ho7.fr hf2 (fun q9 => by omega)
  have hr1 := hr1.fr hf2 (fun q9 => by omega)
  have hA1 := hA1.fr hf2 (fun q9 => by omega) (fun q9 => by have := hL.2.1; omega)
  have hz2 := hr2.2
  have hzl2 := hA2.lt.1
  have hl2 : a16 + 1 ≤ l2 := hl2
  refine xr_putfieldF (ci := 0) (T := TX2) (N := 10) (i := 1) (fs' := [_, _, _, _, _, _, _, _, _, _]) ho8 rfl (by decide) in_X2 tyX2 tyX2_ok nmX2 q189 (.inl rfl) rfl rfl hnm dX2_init_23 (by first | rfl | exact nar_bI _ | exact nar_rf _) (by first | rfl | exact fit_bI _ | exact fit_rf _ _) (by simp) (by rfl) (.inl rfl) (fun hob23 => ?_)
  have hr1 := hr1.put_k (f' := [.ref a5, .ref a16, .null, .int (iI 0), .int (iI 0), .int (iI 0), .int (iI 0), .int (iI 0), .int (iI 0), .int (iI 0)]) ho8 (by decide)
  have hA1 := hA1.put_k ho8 (by decide) (.inl (.inr (0, [.ref a5, .ref a16, .null, .int (iI 0), .int (iI 0), .int (iI 0), .int (iI 0), .int (iI 0), .int (iI 0), .int (iI 0)])))
  have hr2 := hr2.put_k (f' := [.ref a5, .ref a16, .null, .int (iI 0), .int (iI 0), .int (iI 0), .int (iI 0), .int (iI 0), .int (iI 0), .int (iI 0)]) ho8 (by decide)
  have hA2 := hA2.put_k ho8 (by decide) (.inl (.inr (0, [.ref a5, .ref a16, .null, .int (iI 0), .int (iI 0), .int (iI 0), .int (iI 0), .int (iI 0), .int (iI 0), .int (iI 0)])))
  refine xr_aload_n dX2_init_26 rfl (by first | rfl | exact isRef_rf _) ?_
  refine xr_new (ci := 1) (T := TX3) (N := 1) (n9 := 1) (fs := [.null]) (rc' := 1) (rs' := 3) rfl in_X3 tyX3 tyX3_ok q147 q148 q88 (by intro j hj; obtain rfl : j = 0 := (by omega); rfl) ⟨Nat.le_of_ble_eq_true rfl, Nat.le_of_ble_eq_true rfl⟩ dX2_init_27 (fun a27 ga27 hob27 => ?_)
  have hmn27 := Mo.new ga27 ga27 (.inl (.inr (1, [.null])))
  have gc27 : w20.2 ≤ a27 := ga27
  have hr1 := hr1.ext hmn27
  have hA1 := hA1.ext hmn27
  have hr2 := hr2.ext hmn27
  have hA2 := hA2.ext hmn27
  have ho9 := hob23.ext hmn27
  refine xr_dup dX2_init_30 (by first | rfl | exact cat_rf _) ?_
  refine xr_callIN (n9 := 0) (rc' := 0) (rs' := 0) (k_Reg_init (fun _ => none) hG hL hob27) q149 q150 q88 q151 rfl (by decide +kernel) rfl ⟨by decide, Nat.le_of_ble_eq_true rfl⟩ ⟨Nat.le_of_ble_eq_true rfl, Nat.le_of_ble_eq_true rfl⟩ (Nat.le_of_ble_eq_true rfl) dX2_init_31 rfl (fun r w31 hw => ?_) (fun _ _ _ h => h.elim)
  obtain ⟨rfl, l3, hr3, hA3, hl3, hf3⟩ := hw
  have ho10 := ho9.fr hf3 (fun q9 => by omega)
  have hr1 := hr1.fr hf3 (fun q9 => by omega)
  have hA1 := hA1.fr hf3 (fun q9 => by omega) (fun q9 => by have := hL.2.1; omega)
  have hr2 := hr2.fr hf3 (fun q9 => by omega)
  have hA2 := hA2.fr hf3 (fun q9 => by omega) (fun q9 => by have := hL.2.1; omega)
  have hl3 : a27 + 1 ≤ l3 := hl3
  refine xr_putfieldF (ci := 0) (T := TX2) (N := 10) (i := 2) (fs' := [_, _, _, _, _, _, _, _, _, _]) ho10 rfl (by decide) in_X2 tyX2 tyX2_ok nmX2 q192 (.inl rfl) rfl rfl hnm dX2_init_34 (by first | rfl | exact nar_bI _ | exact nar_rf _) (by first | rfl | exact fit_bI _ | exact fit_rf _ _) (by simp) (by rfl) (.inl rfl) (fun hob34 => ?_)
  have hr1 := hr1.put_k (f' := [.ref a5, .ref a16, .ref a27, .int (iI 0), .int (iI 0), .int (iI 0), .int (iI 0), .int (iI 0), .int (iI 0), .int (iI 0)]) ho10 (by decide)
  have hA1 := hA1.put_k ho10 (by decide) (.inl (.inr (0, [.ref a5, .ref a16, .ref a27, .int (iI 0), .int (iI 0), .int (iI 0), .int (iI 0), .int (iI 0), .int (iI 0), .int (iI 0)])))
  have hr2 := hr2.put_k (f' := [.ref a5, .ref a16, .ref a27, .int (iI 0), .int (iI 0), .int (iI 0), .int (iI 0), .int (iI 0), .int (iI 0), .int (iI 0)]) ho10 (by decide)
  have hA2 := hA2.put_k ho10 (by decide) (.inl (.inr (0, [.ref a5, .ref a16, .ref a27, .int (iI 0), .int (iI 0), .int (iI 0), .int (iI 0), .int (iI 0), .int (iI 0), .int (iI 0)])))
  have hr3 := hr3.put_k (f' := [.ref a5, .ref a16, .ref a27, .int (iI 0), .int (iI 0), .int (iI 0), .int (iI 0), .int (iI 0), .int (iI 0), .int (iI 0)]) ho10 (by decide)
  have hA3 := hA3.put_k ho10 (by decide) (.inl (.inr (0, [.ref a5, .ref a16, .ref a27, .int (iI 0), .int (iI 0), .int (iI 0), .int (iI 0), .int (iI 0), .int (iI 0), .int (iI 0)])))
  refine xr_aload_n dX2_init_37 rfl (by first | rfl | exact isRef_rf _) ?_
  refine xr_iconst dX2_init_38 ?_
  refine xr_putfield (ci := 0) (T := TX2) (N := 10) (i := 3) (fs' := [_, _, _, _, _, _, _, _, _, _]) hob34 rfl (by decide) in_X2 tyX2 tyX2_ok nmX2 q196 (.inl rfl) rfl dX2_init_39 (by first | rfl | exact nar_bI _ | exact nar_rf _) (by first | rfl | exact fit_bI _ | exact fit_rf _ _) (by simp) (by rfl) (.inl rfl) (fun hob39 => ?_)
  have hr1 := hr1.put_k (f' := [.ref a5, .ref a16, .ref a27, .int (iI 3), .int (iI 0), .int (iI 0), .int (iI 0), .int (iI 0), .int (iI 0), .int (iI 0)]) hob34 (by decide)
  have hA1 := hA1.put_k hob34 (by decide) (.inl (.inr (0, [.ref a5, .ref a16, .ref a27, .int (iI 3), .int (iI 0), .int (iI 0), .int (iI 0), .int (iI 0), .int (iI 0), .int (iI 0)])))
  have hr2 := hr2.put_k (f' := [.ref a5, .ref a16, .ref a27, .int (iI 3), .int (iI 0), .int (iI 0), .int (iI 0), .int (iI 0), .int (iI 0), .int (iI 0)]) hob34 (by decide)
  have hA2 := hA2.put_k hob34 (by decide) (.inl (.inr (0, [.ref a5, .ref a16, .ref a27, .int (iI 3), .int (iI 0), .int (iI 0), .int (iI 0), .int (iI 0), .int (iI 0), .int (iI 0)])))
  have hr3 := hr3.put_k (f' := [.ref a5, .ref a16, .ref a27, .int (iI 3), .int (iI 0), .int (iI 0), .int (iI 0), .int (iI 0), .int (iI 0), .int (iI 0)]) hob34 (by decide)
  have hA3 := hA3.put_k hob34 (by decide) (.inl (.inr (0, [.ref a5, .ref a16, .ref a27, .int (iI 3), .int (iI 0), .int (iI 0), .int (iI 0), .int (iI 0), .int (iI 0), .int (iI 0)])))
  refine xr_return rfl dX2_init_42 ?_
  rw [hpo]
  obtain ⟨L, hP⟩ := PK_new hL hge hob39 hr1 hr2 hr3 hA1 hA2 hA3 (by omega) (by omega)
  refine ⟨rfl, L, hP, ?_⟩
  have s1 := ((Fr.new (S := fun b => b = a) (w := w) ga5 (.inl (.inr (1, [.null])))).tr (hf1.to (S' := fun b => b = a ∨ w.2 ≤ b) (fun b _ q9 => Or.inr (by omega))) (fun b hb q9 => by rcases q9 with q9 | q9; exact q9; omega)).tr (Fr.put (S := fun b => b = a) (a := a) rfl (.inl (.inr (0, [.ref a5, .null, .null, .int (iI 0), .int (iI 0), .int (iI 0), .int (iI 0), .int (iI 0), .int (iI 0), .int (iI 0)])))) (fun b _ q9 => q9)
  have s2 := ((s1.tr (Fr.new (S := fun b => b = a) ga16 (.inl (.inr (1, [.null])))) (fun b _ q9 => q9)).tr (hf2.to (S' := fun b => b = a ∨ w.2 ≤ b) (fun b _ q9 => Or.inr (by omega))) (fun b hb q9 => by rcases q9 with q9 | q9; exact q9; omega)).tr (Fr.put (S := fun b => b = a) (a := a) rfl (.inl (.inr (0, [.ref a5, .ref a16, .null, .int (iI 0), .int (iI 0), .int (iI 0), .int (iI 0), .int (iI 0), .int (iI 0), .int (iI 0)])))) (fun b _ q9 => q9)
  have s3 := ((s2.tr (Fr.new (S := fun b => b = a) ga27 (.inl (.inr (1, [.null])))) (fun b _ q9 => q9)).tr (hf3.to (S' := fun b => b = a ∨ w.2 ≤ b) (fun b _ q9 => Or.inr (by omega))) (fun b hb q9 => by rcases q9 with q9 | q9; exact q9; omega)).tr (Fr.put (S := fun b => b = a) (a := a) rfl (.inl (.inr (0, [.ref a5, .ref a16, .ref a27, .int (iI 0), .int (iI 0), .int (iI 0), .int (iI 0), .int (iI 0), .int (iI 0), .int (iI 0)])))) (fun b _ q9 => q9)
  exact s3.tr (Fr.put (S := fun b => b = a) (a := a) rfl _) (fun b _ q9 => q9)
