/-! PURE: sums and first places; the park's numbers and what each act makes of them. P 0 benches, 1 fountains, 2 tenants, 3 limit, 4 month, 5 broker, 6 given, 7 defaulted, 8 terminated, 9 completed; a bench at 10 + 6 b: row, column, base, by + 1, deposit, left; a fountain at 70 + 4 f: row, column, loudness, runs; a tenant at 86 + 2 t: coins, defaults; at 102 + t: his bench + 1 -/
set_option maxRecDepth 100000
def sumF (f : Int → Int) : Nat → Int → Int
  | 0, _ => 0
  | m + 1, k => f k + sumF f m (k + 1)
/-- f k + .. + f (n - 1) -/
def sumR (f : Int → Int) (k n : Int) : Int := sumF f (n - k).toNat k
theorem sumR_lt {f : Int → Int} {k n : Int} (h : k < n) : sumR f k n = f k + sumR f (k + 1) n := by
  unfold sumR
  rw [show (n - k).toNat = (n - (k + 1)).toNat + 1 by omega]
  rfl
theorem sumR_ge {f : Int → Int} {k n : Int} (h : n ≤ k) : sumR f k n = 0 := by
  unfold sumR
  rw [show (n - k).toNat = 0 by omega]
  rfl
def fstF (p : Int → Bool) : Nat → Int → Int
  | 0, _ => -1
  | m + 1, k => if p k = true then k else fstF p m (k + 1)
/-- the first place from k on, below n, or -1 -/
def fstR (p : Int → Bool) (k n : Int) : Int := fstF p (n - k).toNat k
theorem fstR_lt {p : Int → Bool} {k n : Int} (h : k < n) : fstR p k n = if p k = true then k else fstR p (k + 1) n := by
  unfold fstR
  rw [show (n - k).toNat = (n - (k + 1)).toNat + 1 by omega]
  rfl
theorem fstR_ge {p : Int → Bool} {k n : Int} (h : n ≤ k) : fstR p k n = -1 := by
  unfold fstR
  rw [show (n - k).toNat = 0 by omega]
  rfl
theorem sumF_congr {f h : Int → Int} : ∀ (m : Nat) (k : Int), (∀ j : Int, k ≤ j → j < k + m → f j = h j) → sumF f m k = sumF h m k
  | 0, _, _ => rfl
  | m + 1, k, hh => by
    show f k + sumF f m (k + 1) = h k + sumF h m (k + 1)
    rw [hh k (by omega) (by omega), sumF_congr m (k + 1) (fun j a b => hh j (by omega) (by omega))]
theorem sumR_congr {f h : Int → Int} {k n : Int} (hh : ∀ j : Int, k ≤ j → j < n → f j = h j) : sumR f k n = sumR h k n := sumF_congr _ _ (fun j a b => hh j a (by omega))
theorem fstF_congr {p h : Int → Bool} : ∀ (m : Nat) (k : Int), (∀ j : Int, k ≤ j → j < k + m → p j = h j) → fstF p m k = fstF h m k
  | 0, _, _ => rfl
  | m + 1, k, hh => by
    show (if p k = true then k else fstF p m (k + 1)) = if h k = true then k else fstF h m (k + 1)
    rw [hh k (by omega) (by omega), fstF_congr m (k + 1) (fun j a b => hh j (by omega) (by omega))]
theorem fstR_congr {p h : Int → Bool} {k n : Int} (hh : ∀ j : Int, k ≤ j → j < n → p j = h j) : fstR p k n = fstR h k n := fstF_congr _ _ (fun j a b => hh j a (by omega))
theorem fstF_spec {p : Int → Bool} : ∀ (m : Nat) (k : Int), (fstF p m k = -1 ∧ ∀ j : Int, k ≤ j → j < k + m → p j = false) ∨ (k ≤ fstF p m k ∧ fstF p m k < k + m ∧ p (fstF p m k) = true ∧ ∀ j : Int, k ≤ j → j < fstF p m k → p j = false)
  | 0, k => Or.inl ⟨rfl, fun j a b => by omega⟩
  | m + 1, k => by
    show ((if p k = true then k else fstF p m (k + 1)) = -1 ∧ _) ∨ (k ≤ (if p k = true then k else fstF p m (k + 1)) ∧ _)
    by_cases h : p k = true
    · rw [show fstF p (m + 1) k = (if p k = true then k else fstF p m (k + 1)) from rfl]
      rw [if_pos h]
      exact Or.inr ⟨by omega, by omega, h, fun j a b => by omega⟩
    · have h' : p k = false := by cases hq : p k <;> simp_all
      rw [show fstF p (m + 1) k = (if p k = true then k else fstF p m (k + 1)) from rfl, if_neg h]
      rcases fstF_spec (p := p) m (k + 1) with ⟨h1, h2⟩ | ⟨h1, h2, h3, h4⟩
      · refine Or.inl ⟨h1, fun j a b => ?_⟩
        by_cases hj : j = k
        · rw [hj]; exact h'
        · exact h2 j (by omega) (by omega)
      · refine Or.inr ⟨by omega, by omega, h3, fun j a b => ?_⟩
        by_cases hj : j = k
        · rw [hj]; exact h'
        · exact h4 j (by omega) (by omega)
theorem fstR_spec {p : Int → Bool} {k n : Int} (hk : 0 ≤ k) : (fstR p k n = -1 ∧ ∀ j : Int, k ≤ j → j < n → p j = false) ∨ (k ≤ fstR p k n ∧ fstR p k n < n ∧ p (fstR p k n) = true ∧ ∀ j : Int, k ≤ j → j < fstR p k n → p j = false) := by
  rcases fstF_spec (p := p) (n - k).toNat k with ⟨h1, h2⟩ | ⟨h1, h2, h3, h4⟩
  · exact Or.inl ⟨h1, fun j a b => h2 j a (by omega)⟩
  · exact Or.inr ⟨h1, by unfold fstR; omega, h3, h4⟩
/-- bounds of a sum -/
theorem sumF_bd {f : Int → Int} {B : Int} (hB : 0 ≤ B) : ∀ (m : Nat) (k : Int), (∀ j : Int, k ≤ j → j < k + m → 0 ≤ f j ∧ f j ≤ B) → 0 ≤ sumF f m k ∧ sumF f m k ≤ B * m
  | 0, _, _ => by simp [sumF]
  | m + 1, k, hh => by
    have h1 := hh k (by omega) (by omega)
    have h2 := sumF_bd hB m (k + 1) (fun j a b => hh j (by omega) (by omega))
    show 0 ≤ f k + sumF f m (k + 1) ∧ f k + sumF f m (k + 1) ≤ B * ((m + 1 : Nat) : Int)
    have e : B * ((m + 1 : Nat) : Int) = B * (m : Int) + B := by rw [Int.natCast_succ, Int.mul_add, Int.mul_one]
    omega
theorem sumR_bd {f : Int → Int} {B k n : Int} (hB : 0 ≤ B) (hk : k ≤ n) (hh : ∀ j : Int, k ≤ j → j < n → 0 ≤ f j ∧ f j ≤ B) : 0 ≤ sumR f k n ∧ sumR f k n ≤ B * (n - k) := by
  have h := sumF_bd hB (n - k).toNat k (fun j a b => hh j a (by omega))
  rw [Int.toNat_of_nonneg (by omega)] at h
  exact h
/-! noise and rents -/
def nz1 (P : Int → Int) (f r c : Int) : Int := if P (73 + 4 * f) = 1 then max 0 (P (72 + 4 * f) - 2 * dist (P (70 + 4 * f)) (P (71 + 4 * f)) r c) else 0
def noise (P : Int → Int) (r c : Int) : Int := sumR (fun f => nz1 P f r c) 0 (P 1)
def noiseOf (P : Int → Int) (b : Int) : Int := noise P (P (10 + 6 * b)) (P (11 + 6 * b))
def rent (P : Int → Int) (b : Int) : Int := max 1 (P (12 + 6 * b) - noiseOf P b)
/-- who stands in a cell: the first bench, the first fountain -/
def benchIn (P : Int → Int) (r c : Int) : Int := fstR (fun b => decide (dist (P (10 + 6 * b)) (P (11 + 6 * b)) r c = 0)) 0 (P 0)
def fountIn (P : Int → Int) (r c : Int) : Int := fstR (fun f => decide (dist (P (70 + 4 * f)) (P (71 + 4 * f)) r c = 0)) 0 (P 1)
/-! acts -/
def oBench (P : Int → Int) (r c v : Int) : Int → Int := updI (updI (updI (updI (updI (updI (updI P (10 + 6 * P 0) r) (11 + 6 * P 0) c) (12 + 6 * P 0) v) (13 + 6 * P 0) 0) (14 + 6 * P 0) 0) (15 + 6 * P 0) 0) 0 (P 0 + 1)
def oFount (P : Int → Int) (r c v : Int) : Int → Int := updI (updI (updI (updI (updI P (70 + 4 * P 1) r) (71 + 4 * P 1) c) (72 + 4 * P 1) v) (73 + 4 * P 1) 1) 1 (P 1 + 1)
def oTenant (P : Int → Int) (q : Int) : Int → Int := updI (updI (updI (updI (updI P (86 + 2 * P 2) q) (87 + 2 * P 2) 0) (102 + P 2) 0) 2 (P 2 + 1)) 6 (P 6 + q)
def oGive (P : Int → Int) (t q : Int) : Int → Int := updI (updI P (86 + 2 * t) (P (86 + 2 * t) + q)) 6 (P 6 + q)
def oRent (P : Int → Int) (b v : Int) : Int → Int := updI P (12 + 6 * b) v
def oLoud (P : Int → Int) (f v : Int) : Int → Int := updI P (72 + 4 * f) v
def oSwitch (P : Int → Int) (f : Int) : Int → Int := updI P (73 + 4 * f) (1 - P (73 + 4 * f))
def oLimit (P : Int → Int) (v : Int) : Int → Int := updI P 3 v
def oLease (P : Int → Int) (t b m : Int) : Int → Int := updI (updI (updI (updI (updI P (14 + 6 * b) (rent P b)) (15 + 6 * b) m) (86 + 2 * t) (P (86 + 2 * t) - rent P b)) (102 + t) (b + 1)) (13 + 6 * b) (t + 1)
/-- a lease ends: the tenant without a bench, the bench without a tenant -/
def oEnd (P : Int → Int) (b : Int) : Int → Int := updI (updI (updI (updI P (102 + (P (13 + 6 * b) - 1)) 0) (13 + 6 * b) 0) (14 + 6 * b) 0) (15 + 6 * b) 0
/-- .. 'back' goes to the tenant, the rest of the deposit to the broker -/
def oFree (P : Int → Int) (b back : Int) : Int → Int := updI (updI (oEnd P b) (86 + 2 * (P (13 + 6 * b) - 1)) (P (86 + 2 * (P (13 + 6 * b) - 1)) + back)) 5 (P 5 + (P (14 + 6 * b) - back))
def oRenew (P : Int → Int) (b m : Int) : Int → Int := updI P (15 + 6 * b) (P (15 + 6 * b) + m)
/-- the park when a rent was paid -/
def oPaid (P : Int → Int) (b : Int) : Int → Int := updI (updI (updI P (86 + 2 * (P (13 + 6 * b) - 1)) (P (86 + 2 * (P (13 + 6 * b) - 1)) - rent P b)) 5 (P 5 + rent P b)) (15 + 6 * b) (P (15 + 6 * b) - 1)
def oLoudEnd (P : Int → Int) (b : Int) : Int → Int := updI (updI (oEnd P b) (86 + 2 * (P (13 + 6 * b) - 1)) (P (86 + 2 * (P (13 + 6 * b) - 1)) + P (14 + 6 * b))) 8 (P 8 + 1)
def oDefault (P : Int → Int) (b : Int) : Int → Int := updI (updI (oEnd (updI P (87 + 2 * (P (13 + 6 * b) - 1)) (P (87 + 2 * (P (13 + 6 * b) - 1)) + 1)) b) 5 (P 5 + P (14 + 6 * b))) 7 (P 7 + 1)
def oDone (P : Int → Int) (b : Int) : Int → Int := updI (updI (oEnd (oPaid P b) b) (86 + 2 * (P (13 + 6 * b) - 1)) (P (86 + 2 * (P (13 + 6 * b) - 1)) - rent P b + P (14 + 6 * b))) 9 (P 9 + 1)
/-- a month's bill: the park behind it, and whether the lease has ended -/
def oBill (P : Int → Int) (b : Int) : (Int → Int) × Int :=
  if P 3 < noiseOf P b then (oLoudEnd P b, 1)
  else if P (86 + 2 * (P (13 + 6 * b) - 1)) < rent P b then (oDefault P b, 1)
  else if 0 < P (15 + 6 * b) - 1 then (oPaid P b, 0) else (oDone P b, 1)
/-- a bench in a month -/
def oOne (P : Int → Int) (b : Int) : (Int → Int) × Int := if P (13 + 6 * b) = 0 then (P, 0) else oBill P b
/-- the benches from k on, m of them -/
def oRow : Nat → Int → (Int → Int) → (Int → Int) × Int
  | 0, _, P => (P, 0)
  | m + 1, k, P => ((oRow m (k + 1) (oOne P k).1).1, (oOne P k).2 + (oRow m (k + 1) (oOne P k).1).2)
def oMonths : Nat → (Int → Int) → (Int → Int) × Int
  | 0, P => (P, 0)
  | m + 1, P => ((oMonths m (oRow (P 0).toNat 0 (updI P 4 (P 4 + 1))).1).1, (oRow (P 0).toNat 0 (updI P 4 (P 4 + 1))).2 + (oMonths m (oRow (P 0).toNat 0 (updI P 4 (P 4 + 1))).1).2)
/-- why a tenant can't lease a bench: the reason (0: he can), and the detail -/
def barred (P : Int → Int) (t b : Int) : Int × Int :=
  if P (87 + 2 * t) = 3 then (5, t) else if P (102 + t) ≠ 0 then (6, P (102 + t) - 1) else if P (13 + 6 * b) ≠ 0 then (7, P (13 + 6 * b) - 1)
  else if P 3 < noiseOf P b then (8, noiseOf P b) else if P (86 + 2 * t) < rent P b then (9, P (86 + 2 * t)) else (0, 0)
/-- how many rents a tenant can pay, what a lease brings within so many months, when a tenant defaults -/
def payable (P : Int → Int) (b : Int) : Int := (P (86 + 2 * (P (13 + 6 * b) - 1))).tdiv (rent P b)
def income1 (P : Int → Int) (b m : Int) : Int :=
  if P (13 + 6 * b) = 0 ∨ P 3 < noiseOf P b then 0
  else min (min m (P (15 + 6 * b))) (payable P b) * rent P b + (if min (min m (P (15 + 6 * b))) (payable P b) < min m (P (15 + 6 * b)) then P (14 + 6 * b) else 0)
def defMonth (P : Int → Int) (b : Int) : Int := if P (13 + 6 * b) ≠ 0 ∧ noiseOf P b ≤ P 3 ∧ payable P b < P (15 + 6 * b) then payable P b + 1 else -1
/-- bounds that hold behind so many calls -/
def PB (P : Int → Int) (N : Int) : Prop :=
  (0 ≤ P 0 ∧ P 0 ≤ 10) ∧ (0 ≤ P 1 ∧ P 1 ≤ 4) ∧ (0 ≤ P 2 ∧ P 2 ≤ 8) ∧ (0 ≤ P 3 ∧ P 3 ≤ 20) ∧ (0 ≤ N ∧ N ≤ 10000000) ∧ (∀ k : Int, 4 ≤ k → k ≤ 9 → 0 ≤ P k ∧ P k ≤ N) ∧
  (∀ b : Int, 0 ≤ b → b < P 0 → (0 ≤ P (10 + 6 * b) ∧ P (10 + 6 * b) ≤ 5) ∧ (0 ≤ P (11 + 6 * b) ∧ P (11 + 6 * b) ≤ 5) ∧ (1 ≤ P (12 + 6 * b) ∧ P (12 + 6 * b) ≤ 20) ∧ (0 ≤ P (13 + 6 * b) ∧ P (13 + 6 * b) ≤ P 2) ∧ (0 ≤ P (14 + 6 * b) ∧ P (14 + 6 * b) ≤ 20) ∧ (0 ≤ P (15 + 6 * b) ∧ P (15 + 6 * b) ≤ 12)) ∧
  (∀ f : Int, 0 ≤ f → f < P 1 → (0 ≤ P (70 + 4 * f) ∧ P (70 + 4 * f) ≤ 5) ∧ (0 ≤ P (71 + 4 * f) ∧ P (71 + 4 * f) ≤ 5) ∧ (1 ≤ P (72 + 4 * f) ∧ P (72 + 4 * f) ≤ 9) ∧ (0 ≤ P (73 + 4 * f) ∧ P (73 + 4 * f) ≤ 1)) ∧
  (∀ t : Int, 0 ≤ t → t < P 2 → (0 ≤ P (86 + 2 * t) ∧ P (86 + 2 * t) ≤ N) ∧ (0 ≤ P (87 + 2 * t) ∧ P (87 + 2 * t) ≤ N) ∧ (0 ≤ P (102 + t) ∧ P (102 + t) ≤ P 0))
theorem nz1_bd {P : Int → Int} {N f r c : Int} (h : PB P N) (h0 : 0 ≤ f) (h1 : f < P 1) : 0 ≤ nz1 P f r c ∧ nz1 P f r c ≤ 9 := by
  obtain ⟨-, -, -, -, -, -, -, hf, -⟩ := h
  have h2 := hf f h0 h1
  unfold nz1 dist
  split <;> omega
theorem noise_bd {P : Int → Int} {N r c : Int} (h : PB P N) : 0 ≤ noise P r c ∧ noise P r c ≤ 36 := by
  have h1 := sumR_bd (f := fun f => nz1 P f r c) (B := 9) (k := 0) (n := P 1) (by decide) h.2.1.1 (fun j a b => nz1_bd h a b)
  have h2 := h.2.1
  unfold noise
  omega
theorem rent_bd {P : Int → Int} {N b : Int} (h : PB P N) (h0 : 0 ≤ b) (h1 : b < P 0) : 1 ≤ rent P b ∧ rent P b ≤ 20 := by
  have h2 : 0 ≤ noiseOf P b ∧ noiseOf P b ≤ 36 := noise_bd h
  obtain ⟨-, -, -, -, -, -, hb, -⟩ := h
  have h3 := hb b h0 h1
  unfold rent
  omega
