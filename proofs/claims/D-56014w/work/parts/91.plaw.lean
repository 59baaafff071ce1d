/-! 91.plaw.lean.txt (written by tools/walker.py)  -/
set_option maxRecDepth 100000
/-! leases and tenants name each other: kept by every act -/
theorem PCon.keep {P Q : Int → Int} {N : Int} (hB : PB P N) (h : PCon P) (h0 : Q 0 = P 0) (h2 : Q 2 = P 2) (hb : ∀ b : Int, 0 ≤ b → b < P 0 → Q (13 + 6 * b) = P (13 + 6 * b)) (ht : ∀ t : Int, 0 ≤ t → t < P 2 → Q (102 + t) = P (102 + t)) : PCon Q := by
  refine ⟨fun b b0 b1 hl => ?_, fun t t0 t1 hl => ?_⟩
  · rw [h0] at b1
    have hbb := hB.b ⟨b0, b1⟩
    rw [hb b b0 b1] at hl ⊢
    rw [ht _ (by omega) (by omega)]
    exact h.1 b b0 b1 hl
  · rw [h2] at t1
    have htt := hB.t ⟨t0, t1⟩
    rw [ht t t0 t1] at hl ⊢
    rw [hb _ (by omega) (by omega)]
    exact h.2 t t0 t1 hl
theorem PCon.upd {P : Int → Int} {N k v : Int} (hB : PB P N) (h : PCon P) (h0 : k ≠ 0) (h2 : k ≠ 2) (hb : ∀ b : Int, 0 ≤ b → b < P 0 → k ≠ 13 + 6 * b) (ht : k < 102) : PCon (updI P k v) :=
  h.keep hB (updI_ne (Ne.symm h0)) (updI_ne (Ne.symm h2)) (fun b b0 b1 => updI_ne (Ne.symm (hb b b0 b1))) (fun t t0 t1 => updI_ne (by omega))
theorem PCon_bench {P : Int → Int} {N r c v : Int} (hB : PB P N) (h : PCon P) (h1 : P 0 < 10) : PCon (oBench P r c v) := by
  have hg := hB.g
  have e0 : oBench P r c v 0 = P 0 + 1 := by unfold oBench; rw [updI_eq]
  have e2 : oBench P r c v 2 = P 2 := by unfold oBench; repeat rw [updI_ne (by omega)]
  have eb : ∀ b : Int, 0 ≤ b → b < P 0 → oBench P r c v (13 + 6 * b) = P (13 + 6 * b) := fun b b0 b1 => by unfold oBench; repeat rw [updI_ne (by omega)]
  have en : oBench P r c v (13 + 6 * P 0) = 0 := by unfold oBench; rw [updI_ne (by omega), updI_ne (by omega), updI_ne (by omega), updI_eq]
  have et : ∀ t : Int, 0 ≤ t → oBench P r c v (102 + t) = P (102 + t) := fun t t0 => by unfold oBench; repeat rw [updI_ne (by omega)]
  refine ⟨fun b b0 b1 hl => ?_, fun t t0 t1 hl => ?_⟩
  · rw [e0] at b1
    by_cases hb : b = P 0
    · rw [hb] at hl; exact absurd en hl
    · have hbb := hB.b ⟨b0, show b < P 0 by omega⟩
      rw [eb b b0 (by omega)] at hl ⊢
      rw [et _ (by omega)]
      exact h.1 b b0 (by omega) hl
  · rw [e2] at t1
    have htt := hB.t ⟨t0, t1⟩
    rw [et t t0] at hl ⊢
    rw [eb _ (by omega) (by omega)]
    exact h.2 t t0 t1 hl
theorem PCon_fount {P : Int → Int} {N r c v : Int} (hB : PB P N) (h : PCon P) (h1 : P 1 < 4) : PCon (oFount P r c v) := by
  have hg := hB.g
  refine h.keep hB ?_ ?_ (fun b b0 b1 => ?_) (fun t t0 t1 => ?_) <;> (unfold oFount; repeat rw [updI_ne (by omega)])
theorem PCon_tenant {P : Int → Int} {N v : Int} (hB : PB P N) (h : PCon P) (h1 : P 2 < 8) : PCon (oTenant P v) := by
  have hg := hB.g
  have e0 : oTenant P v 0 = P 0 := by unfold oTenant; repeat rw [updI_ne (by omega)]
  have e2 : oTenant P v 2 = P 2 + 1 := by unfold oTenant; rw [updI_ne (by omega), updI_eq]
  have eb : ∀ b : Int, 0 ≤ b → b < P 0 → oTenant P v (13 + 6 * b) = P (13 + 6 * b) := fun b b0 b1 => by unfold oTenant; repeat rw [updI_ne (by omega)]
  have et : ∀ t : Int, 0 ≤ t → t < P 2 → oTenant P v (102 + t) = P (102 + t) := fun t t0 t1 => by unfold oTenant; repeat rw [updI_ne (by omega)]
  have en : oTenant P v (102 + P 2) = 0 := by unfold oTenant; rw [updI_ne (by omega), updI_ne (by omega), updI_eq]
  refine ⟨fun b b0 b1 hl => ?_, fun t t0 t1 hl => ?_⟩
  · rw [e0] at b1
    have hbb := hB.b ⟨b0, b1⟩
    rw [eb b b0 b1] at hl ⊢
    rw [et _ (by omega) (by omega)]
    exact h.1 b b0 b1 hl
  · rw [e2] at t1
    by_cases ht : t = P 2
    · rw [ht] at hl; exact absurd en hl
    · have htt := hB.t ⟨t0, show t < P 2 by omega⟩
      rw [et t t0 (by omega)] at hl ⊢
      rw [eb _ (by omega) (by omega)]
      exact h.2 t t0 (by omega) hl
theorem oEnd_at {P : Int → Int} {b k : Int} : oEnd P b k = if k = 15 + 6 * b ∨ k = 14 + 6 * b ∨ k = 13 + 6 * b ∨ k = 102 + (P (13 + 6 * b) - 1) then 0 else P k := by
  unfold oEnd
  simp only [updI]
  by_cases h1 : k = 15 + 6 * b
  · rw [if_pos h1, if_pos (Or.inl h1)]
  rw [if_neg h1]
  by_cases h2 : k = 14 + 6 * b
  · rw [if_pos h2, if_pos (Or.inr (Or.inl h2))]
  rw [if_neg h2]
  by_cases h3 : k = 13 + 6 * b
  · rw [if_pos h3, if_pos (Or.inr (Or.inr (Or.inl h3)))]
  rw [if_neg h3]
  by_cases h4 : k = 102 + (P (13 + 6 * b) - 1)
  · rw [if_pos h4, if_pos (Or.inr (Or.inr (Or.inr h4)))]
  · rw [if_neg h4, if_neg (by rintro (h | h | h | h); exact h1 h; exact h2 h; exact h3 h; exact h4 h)]
theorem PCon_end {P : Int → Int} {N b : Int} (hB : PB P N) (h : PCon P) (hb : 0 ≤ b ∧ b < P 0) (hl : P (13 + 6 * b) ≠ 0) : PCon (oEnd P b) := by
  have hg := hB.g
  have hbb := hB.b hb
  obtain ⟨-, e0, e2⟩ := PB_end hB hb hl
  have hc := h.1 b hb.1 hb.2 hl
  refine ⟨fun i i0 i1 hi => ?_, fun t t0 t1 ht => ?_⟩
  · rw [e0] at i1
    have hii := hB.b ⟨i0, i1⟩
    by_cases hib : i = b
    · rw [hib, oEnd_at, if_pos (by omega)] at hi; exact absurd rfl hi
    · have e1 : oEnd P b (13 + 6 * i) = P (13 + 6 * i) := by rw [oEnd_at, if_neg (by omega)]
      rw [e1] at hi ⊢
      have hci := h.1 i i0 i1 hi
      rw [oEnd_at, if_neg]
      · exact hci
      · rintro (q | q | q | q)
        · omega
        · omega
        · omega
        · have q' : P (13 + 6 * i) - 1 = P (13 + 6 * b) - 1 := by omega
          rw [q'] at hci
          omega
  · rw [e2] at t1
    have htt := hB.t ⟨t0, t1⟩
    by_cases htb : t = P (13 + 6 * b) - 1
    · rw [htb, oEnd_at, if_pos (by omega)] at ht; exact absurd rfl ht
    · have e1 : oEnd P b (102 + t) = P (102 + t) := by rw [oEnd_at, if_neg (by omega)]
      rw [e1] at ht ⊢
      have hct := h.2 t t0 t1 ht
      rw [oEnd_at, if_neg]
      · exact hct
      · rintro (q | q | q | q)
        · omega
        · omega
        · have q' : P (102 + t) - 1 = b := by omega
          rw [q'] at hct
          omega
        · omega
theorem PCon_free {P : Int → Int} {N b v : Int} (hB : PB P N) (hN : N + 100 ≤ 10000000) (h : PCon P) (hb : 0 ≤ b ∧ b < P 0) (hl : P (13 + 6 * b) ≠ 0) : PCon (oFree P b v) := by
  have hg := hB.g
  have hbb := hB.b hb
  obtain ⟨e1, e0, e2⟩ := PB_end hB hb hl
  have h1 := PCon_end hB h hb hl
  unfold oFree
  refine h1.keep e1 ?_ ?_ (fun i i0 i1 => ?_) (fun t t0 t1 => ?_) <;> rw [updI_ne (by omega), updI_ne (by omega)]
theorem PCon_lease {P : Int → Int} {N t b m : Int} (hB : PB P N) (h : PCon P) (ht : 0 ≤ t ∧ t < P 2) (hb : 0 ≤ b ∧ b < P 0) (h1 : P (102 + t) = 0) (h2 : P (13 + 6 * b) = 0) : PCon (oLease P t b m) := by
  have hg := hB.g
  have e0 : oLease P t b m 0 = P 0 := by unfold oLease; repeat rw [updI_ne (by omega)]
  have e2 : oLease P t b m 2 = P 2 := by unfold oLease; repeat rw [updI_ne (by omega)]
  have eb : oLease P t b m (13 + 6 * b) = t + 1 := by unfold oLease; rw [updI_eq]
  have et : oLease P t b m (102 + t) = b + 1 := by unfold oLease; rw [updI_ne (by omega), updI_eq]
  have eb' : ∀ i : Int, 0 ≤ i → i < P 0 → i ≠ b → oLease P t b m (13 + 6 * i) = P (13 + 6 * i) := fun i i0 i1 hi => by unfold oLease; repeat rw [updI_ne (by omega)]
  have et' : ∀ i : Int, 0 ≤ i → i < P 2 → i ≠ t → oLease P t b m (102 + i) = P (102 + i) := fun i i0 i1 hi => by unfold oLease; repeat rw [updI_ne (by omega)]
  refine ⟨fun i i0 i1 hi => ?_, fun i i0 i1 hi => ?_⟩
  · rw [e0] at i1
    have hii := hB.b ⟨i0, i1⟩
    by_cases hib : i = b
    · rw [hib, eb, show 102 + (t + 1 - 1) = 102 + t by omega, et]
    · rw [eb' i i0 i1 hib] at hi ⊢
      have hc := h.1 i i0 i1 hi
      rw [et' _ (by omega) (by omega) (fun q => by rw [q] at hc; omega)]
      exact hc
  · rw [e2] at i1
    have hii := hB.t ⟨i0, i1⟩
    by_cases hit : i = t
    · rw [hit, et, show 13 + 6 * (b + 1 - 1) = 13 + 6 * b by omega, eb]
    · rw [et' i i0 i1 hit] at hi ⊢
      have hc := h.2 i i0 i1 hi
      rw [eb' _ (by omega) (by omega) (fun q => by rw [q] at hc; omega)]
      exact hc
theorem PCon_paid {P : Int → Int} {N b : Int} (hB : PB P N) (h : PCon P) (hb : 0 ≤ b ∧ b < P 0) (hl : P (13 + 6 * b) ≠ 0) : PCon (oPaid P b) := by
  have hg := hB.g
  have hbb := hB.b hb
  unfold oPaid
  refine h.keep hB ?_ ?_ (fun i i0 i1 => ?_) (fun t t0 t1 => ?_) <;> rw [updI_ne (by omega), updI_ne (by omega), updI_ne (by omega)]
theorem PCon_bill {P : Int → Int} {N b : Int} (hB : PB P N) (hN : N + 100 ≤ 10000000) (h : PCon P) (hb : 0 ≤ b ∧ b < P 0) (hl : P (13 + 6 * b) ≠ 0) : PCon (oBill P b).1 := by
  have hg := hB.g
  have hbb := hB.b hb
  have htt := hB.t (t := P (13 + 6 * b) - 1) (by omega)
  have hrr := rent_bd hB hb.1 hb.2
  unfold oBill
  split
  · obtain ⟨e1, e0, e2⟩ := PB_end hB hb hl
    have h1 := PCon_end hB h hb hl
    show PCon (oLoudEnd P b)
    unfold oLoudEnd
    refine h1.keep e1 ?_ ?_ (fun i i0 i1 => ?_) (fun t t0 t1 => ?_) <;> rw [updI_ne (by omega), updI_ne (by omega)]
  · split
    · show PCon (oDefault P b)
      unfold oDefault
      have hB1 := (hB.mono (M := N + 1) (by omega)).updT (t := P (13 + 6 * b) - 1) (k := 87 + 2 * (P (13 + 6 * b) - 1)) (v := P (87 + 2 * (P (13 + 6 * b) - 1)) + 1) (by omega) (Or.inl ⟨Or.inr rfl, by omega, by omega⟩)
      have h1 : PCon (updI P (87 + 2 * (P (13 + 6 * b) - 1)) (P (87 + 2 * (P (13 + 6 * b) - 1)) + 1)) := h.upd hB (by omega) (by omega) (fun i i0 i1 => by omega) (by omega)
      have hb1 : 0 ≤ b ∧ b < updI P (87 + 2 * (P (13 + 6 * b) - 1)) (P (87 + 2 * (P (13 + 6 * b) - 1)) + 1) 0 := by rw [updI_ne (by omega)]; exact hb
      have hl1 : updI P (87 + 2 * (P (13 + 6 * b) - 1)) (P (87 + 2 * (P (13 + 6 * b) - 1)) + 1) (13 + 6 * b) ≠ 0 := by rw [updI_ne (by omega)]; exact hl
      obtain ⟨e1, e0, e2⟩ := PB_end hB1 hb1 hl1
      have h2 := PCon_end hB1 h1 hb1 hl1
      refine h2.keep e1 ?_ ?_ (fun i i0 i1 => ?_) (fun t t0 t1 => ?_) <;> rw [updI_ne (by omega), updI_ne (by omega)]
    · split
      · exact PCon_paid hB h hb hl
      · show PCon (oDone P b)
        have k5 := hB.k (k := 5) (by omega) (by omega)
        have q1 := (hB.mono (M := N + 100) (by omega)).updT (t := P (13 + 6 * b) - 1) (k := 86 + 2 * (P (13 + 6 * b) - 1)) (v := P (86 + 2 * (P (13 + 6 * b) - 1)) - rent P b) (by omega) (Or.inl ⟨Or.inl rfl, by omega, by omega⟩)
        have q2 := q1.updK (k := 5) (v := P 5 + rent P b) (by omega) (by omega)
        have p1 : PCon (updI P (86 + 2 * (P (13 + 6 * b) - 1)) (P (86 + 2 * (P (13 + 6 * b) - 1)) - rent P b)) := h.upd hB (by omega) (by omega) (fun i i0 i1 => by omega) (by omega)
        have p2 := p1.upd q1 (k := 5) (v := P 5 + rent P b) (by omega) (by omega) (fun i i0 i1 => by omega) (by omega)
        have hb1 : 0 ≤ b ∧ b < updI (updI P (86 + 2 * (P (13 + 6 * b) - 1)) (P (86 + 2 * (P (13 + 6 * b) - 1)) - rent P b)) 5 (P 5 + rent P b) 0 := by rw [updI_ne (by omega), updI_ne (by omega)]; exact hb
        have hl1 : updI (updI P (86 + 2 * (P (13 + 6 * b) - 1)) (P (86 + 2 * (P (13 + 6 * b) - 1)) - rent P b)) 5 (P 5 + rent P b) (13 + 6 * b) ≠ 0 := by rw [updI_ne (by omega), updI_ne (by omega)]; exact hl
        obtain ⟨e1, e0, e2⟩ := PB_end q2 hb1 hl1
        have h2 := PCon_end q2 p2 hb1 hl1
        unfold oDone oPaid
        rw [oEnd_left]
        refine h2.keep e1 ?_ ?_ (fun i i0 i1 => ?_) (fun t t0 t1 => ?_) <;> rw [updI_ne (by omega), updI_ne (by omega)]
theorem PCon_one {P : Int → Int} {N b : Int} (hB : PB P N) (hN : N + 100 ≤ 10000000) (h : PCon P) (hb : 0 ≤ b ∧ b < P 0) : PCon (oOne P b).1 := by
  unfold oOne
  split
  · exact h
  · exact PCon_bill hB hN h hb (by assumption)
theorem PCon_row : ∀ (m : Nat) (k : Int) (P : Int → Int) (N : Int), PB P N → N + 100 * m ≤ 10000000 → PCon P → 0 ≤ k → k + m ≤ P 0 → PCon (oRow m k P).1
  | 0, _, _, _, _, _, h, _, _ => h
  | m + 1, k, P, N, hB, hN, h, h0, h1 => by
    obtain ⟨e1, e2⟩ := PB_one (b := k) hB (by omega) ⟨h0, by omega⟩
    exact PCon_row m (k + 1) (oOne P k).1 (N + 100) e1 (by omega) (PCon_one hB (by omega) h ⟨h0, by omega⟩) (by omega) (by omega)
theorem PCon_months : ∀ (m : Nat) (P : Int → Int) (N : Int), PB P N → N + 1001 * m ≤ 10000000 → PCon P → PCon (oMonths m P).1
  | 0, _, _, _, _, h => h
  | m + 1, P, N, hB, hN, h => by
    have hg := hB.g
    obtain ⟨e1, -, -, -⟩ := PB_month hB (by omega)
    have k4 := hB.k (k := 4) (by omega) (by omega)
    have h1 := (hB.mono (M := N + 1) (by omega)).updK (k := 4) (v := P 4 + 1) (by omega) (by omega)
    have e0 : updI P 4 (P 4 + 1) 0 = P 0 := updI_ne (by omega)
    have hc := PCon_row (P 0).toNat 0 (updI P 4 (P 4 + 1)) (N + 1) h1 (by omega) (h.upd hB (by omega) (by omega) (fun i i0 i1 => by omega) (by omega)) (by omega) (by omega)
    exact PCon_months m _ (N + 1001) e1 (by omega) hc
theorem PCon_act {c : Cm} {P : Int → Int} {N : Int} (hB : PB P N) (hN : N + 13000 ≤ 10000000) (h : PCon P) (ha : cA c P = true) (hr : (cR c P).1 = 0) : PCon (cO c P) := by
  obtain ⟨s, a, b, v⟩ := c
  have hg := hB.g
  simp only [cA, cR, cO] at ha hr ⊢
  by_cases s1 : s = 98
  · simp only [if_pos s1, decide_eq_true_eq] at ha hr ⊢
    have h1 : P 0 ≠ 10 := fun q => by unfold rjBench at hr; rw [if_pos q] at hr; simp at hr
    exact PCon_bench hB h (by omega)
  simp only [if_neg s1] at ha hr ⊢
  by_cases s2 : s = 102
  · simp only [if_pos s2, decide_eq_true_eq] at ha hr ⊢
    have h1 : P 1 ≠ 4 := fun q => by unfold rjFount at hr; rw [if_pos q] at hr; simp at hr
    exact PCon_fount hB h (by omega)
  simp only [if_neg s2] at ha hr ⊢
  by_cases s3 : s = 116
  · simp only [if_pos s3, decide_eq_true_eq] at ha hr ⊢
    have h1 : P 2 ≠ 8 := fun q => by unfold rjTenant at hr; rw [if_pos q] at hr; simp at hr
    exact PCon_tenant hB h (by omega)
  simp only [if_neg s3] at ha hr ⊢
  by_cases s4 : s = 108
  · simp only [if_pos s4, decide_eq_true_eq] at ha hr ⊢
    obtain ⟨-, q1, q2, -⟩ := barred_0 hr
    exact PCon_lease hB h ha.1.1 ha.1.2 q1 q2
  simp only [if_neg s4] at ha hr ⊢
  by_cases s5 : s = 114
  · simp only [if_pos s5, decide_eq_true_eq] at ha hr ⊢
    exact h.upd hB (by omega) (by omega) (fun i i0 i1 => by omega) (by omega)
  simp only [if_neg s5] at ha hr ⊢
  by_cases s6 : s = 101
  · simp only [if_pos s6, decide_eq_true_eq] at ha hr ⊢
    have h1 : P (13 + 6 * a) ≠ 0 := fun q => by unfold rjEnd at hr; rw [if_pos q] at hr; simp at hr
    exact PCon_free hB (by omega) h ha h1
  simp only [if_neg s6] at ha hr ⊢
  by_cases s7 : s = 103
  · simp only [if_pos s7, decide_eq_true_eq] at ha hr ⊢
    have htt := hB.t ha.1
    have k6 := hB.k (k := 6) (by omega) (by omega)
    have p1 : PCon (updI P (86 + 2 * a) (P (86 + 2 * a) + b)) := h.upd hB (by omega) (by omega) (fun i i0 i1 => by omega) (by omega)
    have q1 := (hB.mono (M := N + 13000) (by omega)).updT ha.1 (k := 86 + 2 * a) (v := P (86 + 2 * a) + b) (Or.inl ⟨Or.inl rfl, by omega, by omega⟩)
    exact p1.upd q1 (by omega) (by omega) (fun i i0 i1 => by omega) (by omega)
  simp only [if_neg s7] at ha hr ⊢
  by_cases s8 : s = 115
  · simp only [if_pos s8, decide_eq_true_eq] at ha hr ⊢
    exact h.upd hB (by omega) (by omega) (fun i i0 i1 => by omega) (by omega)
  simp only [if_neg s8] at ha hr ⊢
  by_cases s9 : s = 105
  · simp only [if_pos s9, decide_eq_true_eq] at ha hr ⊢
    exact h.upd hB (by omega) (by omega) (fun i i0 i1 => by omega) (by omega)
  simp only [if_neg s9, decide_eq_true_eq] at ha hr ⊢
  exact PCon_months a.toNat P N hB (by omega) h
