/-! BASE: ints as Int, worlds as partial heaps, the judgement XJ (a frame at pc, with world, budget, locals, stack), contracts Ct -/
set_option maxRecDepth 100000
/-! ===== ints ===== -/
def iI (z : Int) : Int32 := Int32.ofInt z
abbrev R32 (z : Int) : Prop := -2147483648 ≤ z ∧ z < 2147483648
theorem iI_toInt {z : Int} (h : R32 z) : (iI z).toInt = z := Int32.toInt_ofInt_of_le (by have := h.1; omega) (by have := h.2; omega)
theorem iI_of (x : Int32) : x = iI x.toInt := (Int32.ofInt_toInt x).symm
theorem iI_rng (x : Int32) : R32 x.toInt := ⟨by have := Int32.le_toInt x; omega, by have := Int32.toInt_lt x; omega⟩
theorem iI_add (a b : Int) : iI a + iI b = iI (a + b) := (Int32.ofInt_add a b).symm
theorem iI_sub (a b : Int) : iI a - iI b = iI (a - b) := (Int32.ofInt_sub a b).symm
theorem iI_mul (a b : Int) : iI a * iI b = iI (a * b) := (Int32.ofInt_mul a b).symm
theorem iI_neg (a : Int) : -iI a = iI (-a) := (Int32.ofInt_neg a).symm
theorem iI_lt {a b : Int} (h : R32 a ∧ R32 b) : iI a < iI b ↔ a < b := by rw [Int32.lt_iff_toInt_lt, iI_toInt h.1, iI_toInt h.2]
theorem iI_le {a b : Int} (h : R32 a ∧ R32 b) : iI a ≤ iI b ↔ a ≤ b := by rw [Int32.le_iff_toInt_le, iI_toInt h.1, iI_toInt h.2]
theorem iI_eq {a b : Int} (h : R32 a ∧ R32 b) : iI a = iI b ↔ a = b := by rw [← Int32.toInt_inj, iI_toInt h.1, iI_toInt h.2]
theorem iI_nI (n : Nat) : nI n = iI n := (Int32.ofInt_eq_ofNat (n := n)).symm
theorem iI_0 : (0 : Int32) = iI 0 := by decide +kernel
theorem iI_clamp {z : Int} (h : 0 ≤ z ∧ z < 2147483648) : (iI z).toNatClampNeg = z.toNat := Int32.toNatClampNeg_ofInt_of_le (by omega) (by omega)
theorem iI_in {z : Int} {n : Nat} (h : 0 ≤ z ∧ z < n) (hn : (n : Int) ≤ 2147483647) : vp_in (iI z) n := vp_in_iff.mpr (by rw [iI_toInt (by omega)]; exact h)
theorem iI_div {a b : Int} (h : R32 a ∧ R32 b) (h0 : 0 < b) : iI a / iI b = iI (a.tdiv b) := by
  have hb : iI b ≠ -1 := by
    intro q
    have := congrArg Int32.toInt q
    rw [iI_toInt h.2] at this
    have e : (-1 : Int32).toInt = -1 := by decide +kernel
    omega
  apply Int32.toInt_inj.mp
  rw [Int32.toInt_div_of_ne_right _ _ hb, iI_toInt h.1, iI_toInt h.2, iI_toInt]
  have h1 := Int.natAbs_tdiv_le_natAbs a b
  have h2 : a < 0 → a.tdiv b ≤ 0 := fun ha => by
    have e : a = -(-a) := by omega
    rw [e, Int.neg_tdiv]
    have := Int.tdiv_nonneg (a := -a) (b := b) (by omega) (by omega)
    omega
  omega
theorem iI_rem {a b : Int} (h : R32 a ∧ R32 b) (h0 : 0 < b) : iI a - iI a / iI b * iI b = iI (a.tmod b) := by
  rw [iI_div h h0, iI_mul, iI_sub, Int.tmod_def, Int.mul_comm]
theorem iI_ne0 {b : Int} (h : R32 b) (h0 : b ≠ 0) : ¬ iI b = 0 := by
  rw [iI_0, iI_eq ⟨h, by omega⟩]; exact h0
/-- a Boolean as an int -/
def bI (b : Bool) : Int32 := iI (if b then 1 else 0)
/-! ===== worlds ===== -/
abbrev WE : Type := va_E ⊕ Cell
abbrev WW : Type := (Nat → Option WE) × Nat
abbrev GG : Type := va_G × (Nat → ClassId) × State × Array Value × Launch × (Nat → Option WE) × (Nat → Nat)
abbrev gD (g : GG) : va_G := g.1
abbrev gA (g : GG) : Nat → ClassId := g.2.1
abbrev gU (g : GG) : State := g.2.2.1
abbrev gW (g : GG) : Array Value := g.2.2.2.1
abbrev gL (g : GG) : Launch := g.2.2.2.2.1
/-- the constants that lie in the heap at the start, and where -/
abbrev gK (g : GG) : Nat → Option WE := g.2.2.2.2.2.1
abbrev gC (g : GG) : Nat → Nat := g.2.2.2.2.2.2
abbrev gb (g : GG) : Nat := (gU g).heap.size
/-- the own fields of the own exceptions -/
def TR_ : u_T := fun k => match k with
  | 0 => ("BenchBroker$Rejection", "reason", "I", true)
  | 1 => ("BenchBroker$Rejection", "detail", "I", true)
  | _ => ("BenchBroker$Rejection", "cause", "I", true)
def tyR_ : Nat → FieldType := fun _ => .int
theorem nmR_ : ∀ a, a < 3 → ∀ b, b < 3 → a ≠ b → (TR_ a).2.1 ≠ (TR_ b).2.1 := by decide +kernel
theorem tyR_ok : ∀ k, k < 3 → parseFieldDescriptor (TR_ k).2.2.1 = some (tyR_ k) := by decide +kernel
theorem in_R_ : ∀ w ∈ u_ws "BenchBroker$Rejection" TR_ 3, w ∈ lw_all := lw_in _ [1057, 1059, 1061] (by decide +kernel) (by decide +kernel)
def TS_ : u_T := fun _ => ("BenchBroker$SyntaxError", "offset", "I", true)
def tyS_ : Nat → FieldType := fun _ => .int
theorem nmS_ : ∀ a, a < 1 → ∀ b, b < 1 → a ≠ b → (TS_ a).2.1 ≠ (TS_ b).2.1 := by decide +kernel
theorem tyS_ok : ∀ k, k < 1 → parseFieldDescriptor (TS_ k).2.2.1 = some (tyS_ k) := by decide +kernel
theorem in_S_ : ∀ w ∈ u_ws "BenchBroker$SyntaxError" TS_ 1, w ∈ lw_all := lw_in _ [2001] (by decide +kernel) (by decide +kernel)
abbrev vwCl : List vw_C := [(RX2, TX2, 10), (RX3, TX3, 1), (RJ2, TJ2, 3), (RX10, TX10, 7), (RX9, TX9, 5), (RX11, TX11, 4), (RX12, TR_, 3), (RX16, TS_, 1), (RX17, TR_, 0), (RX6, TX6, 4), (RX14, TX14, 4), (RX13, TX13, 4), (RX15, TX15, 3), (RX1, TX1, 7), (RX4, TX4, 23), (RJ4, TJ4, 4), (RJ5, TJ5, 4), (RJ19, TJ19, 3), (RJ21, TJ21, 1), (RJ27, TJ27, 4), (RJ10, TJ10, 6), (RJ12, TJ12, 6), (RJ18, TJ18, 6), (RJ22, TJ22, 6), (RJ23, TJ23, 6), (RJ24, TJ24, 6)]
abbrev tyL (g : GG) : List (ClassId × FieldType) := [(gA g 0, .int), (gA g 1, .object "java/lang/Object"), (gA g 2, .byte), (gA g 3, .long), (gA g 4, .double)]
def wat (g : GG) (a : Nat) (e : WE) (H : Heap) : Prop := match e with
  | .inl x => va_at (gD g) vwCl (a, x) H
  | .inr x => H[a]? = some x
theorem wat.kept {g : GG} {a : Nat} {e : WE} {H H1 : Heap} (h : wat g a e H) (hq : H1[a]? = H[a]?) : wat g a e H1 := by
  cases e with
  | inl x => exact va_at.kept (q := (a, x)) h hq
  | inr x => exact hq.trans h
theorem wat.lt {g : GG} {a : Nat} {e : WE} {H : Heap} (h : wat g a e H) : a < H.size := by
  cases e with
  | inl x => exact va_at.lt (q := (a, x)) h
  | inr x => exact (Array.getElem?_eq_some_iff.mp h).1
def Wa (w : WW) (a : Nat) (e : WE) : Prop := w.1 a = some e ∧ a < w.2
def Ob (w : WW) (a k : Nat) (fs : List Value) : Prop := Wa w a (.inl (.inr (k, fs)))
def wput (w : WW) (a : Nat) (e : WE) : WW := (fun b => if b = a then some e else w.1 b, w.2)
def wnew (w : WW) (a : Nat) (e : WE) : WW := (fun b => if b = a then some e else if b < w.2 then w.1 b else none, a + 1)
theorem Wa.put_eq {w : WW} {a : Nat} {e0 : WE} (h : Wa w a e0) (e : WE) : Wa (wput w a e) a e := ⟨if_pos rfl, h.2⟩
theorem Wa.put_ne {w : WW} {a b : Nat} {e0 : WE} (h : Wa w b e0) (hn : b ≠ a) (e : WE) : Wa (wput w a e) b e0 := ⟨(if_neg hn).trans h.1, h.2⟩
theorem Wa.new_eq (w : WW) (a : Nat) (e : WE) : Wa (wnew w a e) a e := ⟨if_pos rfl, Nat.lt_succ_self a⟩
theorem Wa.new_ne {w : WW} {a b : Nat} {e0 : WE} (h : Wa w b e0) (hn : w.2 ≤ a) (e : WE) : Wa (wnew w a e) b e0 := by
  have := h.2
  exact ⟨(if_neg (by omega)).trans ((if_pos h.2).trans h.1), show b < a + 1 by omega⟩
theorem Wa.apart {w : WW} {a b : Nat} {e e' : WE} (h : Wa w a e) (h' : Wa w b e') (hn : e ≠ e') : a ≠ b := fun q => by
  subst q
  exact hn (Option.some.inj (h.1.symm.trans h'.1))
theorem Wa.uniq {w : WW} {a : Nat} {e e' : WE} (h : Wa w a e) (h' : Wa w a e') : e = e' := Option.some.inj (h.1.symm.trans h'.1)
theorem Ob.apart {w : WW} {a b k k' : Nat} {f f' : List Value} (h : Ob w a k f) (h' : Ob w b k' f') (hn : k ≠ k') : a ≠ b := Wa.apart h h' (fun q => hn (by cases q; rfl))
theorem Ob.put_eq {w : WW} {a k k' : Nat} {f : List Value} (h : Ob w a k f) (f' : List Value) : Ob (wput w a (.inl (.inr (k', f')))) a k' f' := Wa.put_eq h _
theorem Ob.put_ne {w : WW} {a b k : Nat} {f : List Value} (h : Ob w b k f) (hn : b ≠ a) (e : WE) : Ob (wput w a e) b k f := Wa.put_ne h hn e
theorem Ob.put_k {w : WW} {a b k k' : Nat} {f f' f2 : List Value} (h : Ob w b k f) (ha : Ob w a k' f2) (hn : k ≠ k') : Ob (wput w a (.inl (.inr (k', f')))) b k f := Wa.put_ne h (Ob.apart h ha hn) _
theorem Ob.new_eq (w : WW) (a k : Nat) (f : List Value) : Ob (wnew w a (.inl (.inr (k, f)))) a k f := Wa.new_eq w a _
theorem Ob.new_ne {w : WW} {a b k : Nat} {f : List Value} (h : Ob w b k f) (hn : w.2 ≤ a) (e : WE) : Ob (wnew w a e) b k f := Wa.new_ne h hn e
/-- below n nothing has changed -/
def Mo (n : Nat) (w w' : WW) : Prop := w.2 ≤ w'.2 ∧ ∀ a : Nat, a < n → a < w.2 → w'.1 a = w.1 a
theorem Mo.rf {n : Nat} {w : WW} : Mo n w w := ⟨Nat.le_refl _, fun _ _ _ => rfl⟩
theorem Mo.tr {n m : Nat} {w w' w'' : WW} (h : Mo n w w') (h' : Mo m w' w'') (hn : n ≤ m) : Mo n w w'' := ⟨Nat.le_trans h.1 h'.1, fun a ha hb => (h'.2 a (by omega) (Nat.lt_of_lt_of_le hb h.1)).trans (h.2 a ha hb)⟩
theorem Mo.to {n m : Nat} {w w' : WW} (h : Mo m w w') (hn : n ≤ m) : Mo n w w' := ⟨h.1, fun a ha hb => h.2 a (by omega) hb⟩
theorem Mo.put {n a : Nat} {w : WW} (h : n ≤ a) (e : WE) : Mo n w (wput w a e) := ⟨Nat.le_refl _, fun b hb _ => if_neg (by omega)⟩
theorem Mo.new {n a : Nat} {w : WW} (h : n ≤ a) (hw : w.2 ≤ a) (e : WE) : Mo n w (wnew w a e) := ⟨Nat.le_succ_of_le hw, fun b hb hc => (if_neg (by omega)).trans (if_pos hc)⟩
theorem Wa.mo {n : Nat} {w w' : WW} {a : Nat} {e : WE} (h : Wa w a e) (hm : Mo n w w') (ha : a < n) : Wa w' a e := ⟨(hm.2 a ha h.2).trans h.1, Nat.lt_of_lt_of_le h.2 hm.1⟩
theorem Wa.ext {w w' : WW} {a : Nat} {e : WE} (h : Wa w a e) (hm : Mo w.2 w w') : Wa w' a e := h.mo hm h.2
theorem Ob.mo {n : Nat} {w w' : WW} {a k : Nat} {f : List Value} (h : Ob w a k f) (hm : Mo n w w') (ha : a < n) : Ob w' a k f := Wa.mo h hm ha
theorem Ob.ext {w w' : WW} {a k : Nat} {f : List Value} (h : Ob w a k f) (hm : Mo w.2 w w') : Ob w' a k f := Wa.ext h hm
/-! arrays: what their places hold, inside -/
def updI (f : Int → Int) (k : Int) (v : Int) : Int → Int := fun j => if j = k then v else f j
def updR (f : Int → Option Nat) (k : Int) (v : Option Nat) : Int → Option Nat := fun j => if j = k then v else f j
def IA (g : GG) (w : WW) (a n : Nat) (f : Int → Int) : Prop := gb g ≤ a ∧ ∃ h : Nat → Int32, Wa w a (.inl (.inl (gA g 0, n, .inl h))) ∧ ∀ k : Nat, k < n → h k = iI (f k)
def BA (g : GG) (w : WW) (a n : Nat) (f : Int → Int) : Prop := ∃ h : Nat → Int32, Wa w a (.inl (.inl (gA g 2, n, .inl h))) ∧ ∀ k : Nat, k < n → h k = iI (f k)
def RA (g : GG) (w : WW) (a n : Nat) (f : Int → Option Nat) : Prop := ∃ h : Nat → Option Nat, Wa w a (.inl (.inl (gA g 1, n, .inr (.inr (.inr (.inr h)))))) ∧ ∀ k : Nat, k < n → h k = f k
def LA (g : GG) (w : WW) (a n : Nat) (f : Int → Int64) : Prop := gb g ≤ a ∧ ∃ h : Nat → Int64, Wa w a (.inl (.inl (gA g 3, n, .inr (.inl h)))) ∧ ∀ k : Nat, k < n → h k = f k
def DA (g : GG) (w : WW) (a n : Nat) (f : Int → UInt64) : Prop := gb g ≤ a ∧ ∃ h : Nat → UInt64, Wa w a (.inl (.inl (gA g 4, n, .inr (.inr (.inr (.inl h)))))) ∧ ∀ k : Nat, k < n → h k = f k
theorem IA.to {g : GG} {w : WW} {a n : Nat} {f f' : Int → Int} (h : IA g w a n f) (hf : ∀ k : Int, 0 ≤ k → k < n → f k = f' k) : IA g w a n f' := by
  obtain ⟨h0, x, h1, h2⟩ := h
  exact ⟨h0, x, h1, fun k hk => by rw [h2 k hk, hf k (by omega) (by omega)]⟩
theorem IA.mo {g : GG} {n0 : Nat} {w w' : WW} {a n : Nat} {f : Int → Int} (h : IA g w a n f) (hm : Mo n0 w w') (ha : a < n0) : IA g w' a n f := by
  obtain ⟨h0, x, h1, h2⟩ := h
  exact ⟨h0, x, h1.mo hm ha, h2⟩
theorem IA.lt {g : GG} {w : WW} {a n : Nat} {f : Int → Int} (h : IA g w a n f) : a < w.2 := by
  obtain ⟨h0, x, h1, -⟩ := h
  exact h1.2
theorem IA.ext {g : GG} {w w' : WW} {a n : Nat} {f : Int → Int} (h : IA g w a n f) (hm : Mo w.2 w w') : IA g w' a n f := h.mo hm h.lt
theorem IA.put_ne {g : GG} {w : WW} {a b n : Nat} {f : Int → Int} (h : IA g w b n f) (hn : b ≠ a) (e : WE) : IA g (wput w a e) b n f := by
  obtain ⟨h0, x, h1, h2⟩ := h
  exact ⟨h0, x, h1.put_ne hn e, h2⟩
theorem IA.new_ne {g : GG} {w : WW} {a b n : Nat} {f : Int → Int} (h : IA g w b n f) (hn : w.2 ≤ a) (e : WE) : IA g (wnew w a e) b n f := by
  obtain ⟨h0, x, h1, h2⟩ := h
  exact ⟨h0, x, h1.new_ne hn e, h2⟩
theorem IA.ob_ne {g : GG} {w : WW} {a b n k : Nat} {f : Int → Int} {fs : List Value} (h : IA g w b n f) (h' : Ob w a k fs) : b ≠ a := by
  obtain ⟨h0, x, h1, -⟩ := h
  exact h1.apart h' (fun q => by cases q)
theorem IA.put_k {g : GG} {w : WW} {a b n k : Nat} {f : Int → Int} {fs : List Value} (h : IA g w b n f) (h' : Ob w a k fs) (e : WE) : IA g (wput w a e) b n f := h.put_ne (h.ob_ne h') e
theorem IA.ge {g : GG} {w : WW} {a n : Nat} {f : Int → Int} (h : IA g w a n f) : gb g ≤ a := h.1
theorem BA.to {g : GG} {w : WW} {a n : Nat} {f f' : Int → Int} (h : BA g w a n f) (hf : ∀ k : Int, 0 ≤ k → k < n → f k = f' k) : BA g w a n f' := by
  obtain ⟨x, h1, h2⟩ := h
  exact ⟨x, h1, fun k hk => by rw [h2 k hk, hf k (by omega) (by omega)]⟩
theorem BA.mo {g : GG} {n0 : Nat} {w w' : WW} {a n : Nat} {f : Int → Int} (h : BA g w a n f) (hm : Mo n0 w w') (ha : a < n0) : BA g w' a n f := by
  obtain ⟨x, h1, h2⟩ := h
  exact ⟨x, h1.mo hm ha, h2⟩
theorem BA.lt {g : GG} {w : WW} {a n : Nat} {f : Int → Int} (h : BA g w a n f) : a < w.2 := by
  obtain ⟨x, h1, -⟩ := h
  exact h1.2
theorem BA.ext {g : GG} {w w' : WW} {a n : Nat} {f : Int → Int} (h : BA g w a n f) (hm : Mo w.2 w w') : BA g w' a n f := h.mo hm h.lt
theorem BA.put_ne {g : GG} {w : WW} {a b n : Nat} {f : Int → Int} (h : BA g w b n f) (hn : b ≠ a) (e : WE) : BA g (wput w a e) b n f := by
  obtain ⟨x, h1, h2⟩ := h
  exact ⟨x, h1.put_ne hn e, h2⟩
theorem BA.new_ne {g : GG} {w : WW} {a b n : Nat} {f : Int → Int} (h : BA g w b n f) (hn : w.2 ≤ a) (e : WE) : BA g (wnew w a e) b n f := by
  obtain ⟨x, h1, h2⟩ := h
  exact ⟨x, h1.new_ne hn e, h2⟩
theorem BA.ob_ne {g : GG} {w : WW} {a b n k : Nat} {f : Int → Int} {fs : List Value} (h : BA g w b n f) (h' : Ob w a k fs) : b ≠ a := by
  obtain ⟨x, h1, -⟩ := h
  exact h1.apart h' (fun q => by cases q)
theorem BA.put_k {g : GG} {w : WW} {a b n k : Nat} {f : Int → Int} {fs : List Value} (h : BA g w b n f) (h' : Ob w a k fs) (e : WE) : BA g (wput w a e) b n f := h.put_ne (h.ob_ne h') e
theorem RA.to {g : GG} {w : WW} {a n : Nat} {f f' : Int → Option Nat} (h : RA g w a n f) (hf : ∀ k : Int, 0 ≤ k → k < n → f k = f' k) : RA g w a n f' := by
  obtain ⟨x, h1, h2⟩ := h
  exact ⟨x, h1, fun k hk => by rw [h2 k hk, hf k (by omega) (by omega)]⟩
theorem RA.mo {g : GG} {n0 : Nat} {w w' : WW} {a n : Nat} {f : Int → Option Nat} (h : RA g w a n f) (hm : Mo n0 w w') (ha : a < n0) : RA g w' a n f := by
  obtain ⟨x, h1, h2⟩ := h
  exact ⟨x, h1.mo hm ha, h2⟩
theorem RA.lt {g : GG} {w : WW} {a n : Nat} {f : Int → Option Nat} (h : RA g w a n f) : a < w.2 := by
  obtain ⟨x, h1, -⟩ := h
  exact h1.2
theorem RA.ext {g : GG} {w w' : WW} {a n : Nat} {f : Int → Option Nat} (h : RA g w a n f) (hm : Mo w.2 w w') : RA g w' a n f := h.mo hm h.lt
theorem RA.put_ne {g : GG} {w : WW} {a b n : Nat} {f : Int → Option Nat} (h : RA g w b n f) (hn : b ≠ a) (e : WE) : RA g (wput w a e) b n f := by
  obtain ⟨x, h1, h2⟩ := h
  exact ⟨x, h1.put_ne hn e, h2⟩
theorem RA.new_ne {g : GG} {w : WW} {a b n : Nat} {f : Int → Option Nat} (h : RA g w b n f) (hn : w.2 ≤ a) (e : WE) : RA g (wnew w a e) b n f := by
  obtain ⟨x, h1, h2⟩ := h
  exact ⟨x, h1.new_ne hn e, h2⟩
theorem RA.ob_ne {g : GG} {w : WW} {a b n k : Nat} {f : Int → Option Nat} {fs : List Value} (h : RA g w b n f) (h' : Ob w a k fs) : b ≠ a := by
  obtain ⟨x, h1, -⟩ := h
  exact h1.apart h' (fun q => by cases q)
theorem RA.put_k {g : GG} {w : WW} {a b n k : Nat} {f : Int → Option Nat} {fs : List Value} (h : RA g w b n f) (h' : Ob w a k fs) (e : WE) : RA g (wput w a e) b n f := h.put_ne (h.ob_ne h') e
theorem LA.to {g : GG} {w : WW} {a n : Nat} {f f' : Int → Int64} (h : LA g w a n f) (hf : ∀ k : Int, 0 ≤ k → k < n → f k = f' k) : LA g w a n f' := by
  obtain ⟨h0, x, h1, h2⟩ := h
  exact ⟨h0, x, h1, fun k hk => by rw [h2 k hk, hf k (by omega) (by omega)]⟩
theorem LA.mo {g : GG} {n0 : Nat} {w w' : WW} {a n : Nat} {f : Int → Int64} (h : LA g w a n f) (hm : Mo n0 w w') (ha : a < n0) : LA g w' a n f := by
  obtain ⟨h0, x, h1, h2⟩ := h
  exact ⟨h0, x, h1.mo hm ha, h2⟩
theorem LA.lt {g : GG} {w : WW} {a n : Nat} {f : Int → Int64} (h : LA g w a n f) : a < w.2 := by
  obtain ⟨h0, x, h1, -⟩ := h
  exact h1.2
theorem LA.ext {g : GG} {w w' : WW} {a n : Nat} {f : Int → Int64} (h : LA g w a n f) (hm : Mo w.2 w w') : LA g w' a n f := h.mo hm h.lt
theorem LA.put_ne {g : GG} {w : WW} {a b n : Nat} {f : Int → Int64} (h : LA g w b n f) (hn : b ≠ a) (e : WE) : LA g (wput w a e) b n f := by
  obtain ⟨h0, x, h1, h2⟩ := h
  exact ⟨h0, x, h1.put_ne hn e, h2⟩
theorem LA.new_ne {g : GG} {w : WW} {a b n : Nat} {f : Int → Int64} (h : LA g w b n f) (hn : w.2 ≤ a) (e : WE) : LA g (wnew w a e) b n f := by
  obtain ⟨h0, x, h1, h2⟩ := h
  exact ⟨h0, x, h1.new_ne hn e, h2⟩
theorem LA.ob_ne {g : GG} {w : WW} {a b n k : Nat} {f : Int → Int64} {fs : List Value} (h : LA g w b n f) (h' : Ob w a k fs) : b ≠ a := by
  obtain ⟨h0, x, h1, -⟩ := h
  exact h1.apart h' (fun q => by cases q)
theorem LA.put_k {g : GG} {w : WW} {a b n k : Nat} {f : Int → Int64} {fs : List Value} (h : LA g w b n f) (h' : Ob w a k fs) (e : WE) : LA g (wput w a e) b n f := h.put_ne (h.ob_ne h') e
theorem LA.ge {g : GG} {w : WW} {a n : Nat} {f : Int → Int64} (h : LA g w a n f) : gb g ≤ a := h.1
theorem DA.to {g : GG} {w : WW} {a n : Nat} {f f' : Int → UInt64} (h : DA g w a n f) (hf : ∀ k : Int, 0 ≤ k → k < n → f k = f' k) : DA g w a n f' := by
  obtain ⟨h0, x, h1, h2⟩ := h
  exact ⟨h0, x, h1, fun k hk => by rw [h2 k hk, hf k (by omega) (by omega)]⟩
theorem DA.mo {g : GG} {n0 : Nat} {w w' : WW} {a n : Nat} {f : Int → UInt64} (h : DA g w a n f) (hm : Mo n0 w w') (ha : a < n0) : DA g w' a n f := by
  obtain ⟨h0, x, h1, h2⟩ := h
  exact ⟨h0, x, h1.mo hm ha, h2⟩
theorem DA.lt {g : GG} {w : WW} {a n : Nat} {f : Int → UInt64} (h : DA g w a n f) : a < w.2 := by
  obtain ⟨h0, x, h1, -⟩ := h
  exact h1.2
theorem DA.ext {g : GG} {w w' : WW} {a n : Nat} {f : Int → UInt64} (h : DA g w a n f) (hm : Mo w.2 w w') : DA g w' a n f := h.mo hm h.lt
theorem DA.put_ne {g : GG} {w : WW} {a b n : Nat} {f : Int → UInt64} (h : DA g w b n f) (hn : b ≠ a) (e : WE) : DA g (wput w a e) b n f := by
  obtain ⟨h0, x, h1, h2⟩ := h
  exact ⟨h0, x, h1.put_ne hn e, h2⟩
theorem DA.new_ne {g : GG} {w : WW} {a b n : Nat} {f : Int → UInt64} (h : DA g w b n f) (hn : w.2 ≤ a) (e : WE) : DA g (wnew w a e) b n f := by
  obtain ⟨h0, x, h1, h2⟩ := h
  exact ⟨h0, x, h1.new_ne hn e, h2⟩
theorem DA.ob_ne {g : GG} {w : WW} {a b n k : Nat} {f : Int → UInt64} {fs : List Value} (h : DA g w b n f) (h' : Ob w a k fs) : b ≠ a := by
  obtain ⟨h0, x, h1, -⟩ := h
  exact h1.apart h' (fun q => by cases q)
theorem DA.put_k {g : GG} {w : WW} {a b n k : Nat} {f : Int → UInt64} {fs : List Value} (h : DA g w b n f) (h' : Ob w a k fs) (e : WE) : DA g (wput w a e) b n f := h.put_ne (h.ob_ne h') e
theorem DA.ge {g : GG} {w : WW} {a n : Nat} {f : Int → UInt64} (h : DA g w a n f) : gb g ≤ a := h.1
theorem Ob.put_IA {g : GG} {w : WW} {a b n k : Nat} {f : Int → Int} {fs : List Value} (h : Ob w b k fs) (h' : IA g w a n f) (e : WE) : Ob (wput w a e) b k fs := h.put_ne (Ne.symm (h'.ob_ne h)) e
theorem Ob.put_BA {g : GG} {w : WW} {a b n k : Nat} {f : Int → Int} {fs : List Value} (h : Ob w b k fs) (h' : BA g w a n f) (e : WE) : Ob (wput w a e) b k fs := h.put_ne (Ne.symm (h'.ob_ne h)) e
theorem Ob.put_RA {g : GG} {w : WW} {a b n k : Nat} {f : Int → Option Nat} {fs : List Value} (h : Ob w b k fs) (h' : RA g w a n f) (e : WE) : Ob (wput w a e) b k fs := h.put_ne (Ne.symm (h'.ob_ne h)) e
theorem Ob.put_LA {g : GG} {w : WW} {a b n k : Nat} {f : Int → Int64} {fs : List Value} (h : Ob w b k fs) (h' : LA g w a n f) (e : WE) : Ob (wput w a e) b k fs := h.put_ne (Ne.symm (h'.ob_ne h)) e
theorem Ob.put_DA {g : GG} {w : WW} {a b n k : Nat} {f : Int → UInt64} {fs : List Value} (h : Ob w b k fs) (h' : DA g w a n f) (e : WE) : Ob (wput w a e) b k fs := h.put_ne (Ne.symm (h'.ob_ne h)) e
/-- an entry of a kind that constants have: Strings, boxed ints, arrays, raw cells -/
def kst (e : WE) : Bool := match e with
  | .inl (.inr (k, _)) => k == 16 || k == 18
  | _ => true
/-! the heap holds the world; below the start nothing has changed, and the constants lie there -/
def Hp (g : GG) (w : WW) (H : Heap) : Prop := w.2 ≤ H.size ∧ gb g ≤ w.2 ∧ (∀ q : Nat, q < gb g → H[q]? = (gU g).heap[q]? ∧ w.1 q = gK g q) ∧ ∀ (a : Nat) (e : WE), w.1 a = some e → a < w.2 → (kst e = false → gb g ≤ a) ∧ wat g a e H
def St (g : GG) (w : WW) (U : State) : Prop := (gU g).WarmedH U.vm ∧ Hp g w U.heap
theorem Hp.at {g : GG} {w : WW} {H : Heap} {a : Nat} {e : WE} (h : Hp g w H) (ha : Wa w a e) : wat g a e H := (h.2.2.2 a e ha.1 ha.2).2
theorem Hp.ge {g : GG} {w : WW} {H : Heap} {a : Nat} {e : WE} (h : Hp g w H) (ha : Wa w a e) (hk : kst e = false) : gb g ≤ a := (h.2.2.2 a e ha.1 ha.2).1 hk
theorem Hp.kst {g : GG} {w : WW} {H : Heap} (h : Hp g w H) : Mo (gb g) (gK g, gb g) w := ⟨h.2.1, fun a ha _ => (h.2.2.1 a ha).2⟩
theorem Hp.put {g : GG} {w : WW} {H H1 : Heap} {a : Nat} {e0 e : WE} (h : Hp g w H) (ha : Wa w a e0) (hg : gb g ≤ a) (he : wat g a e H1) (z : H1.size = H.size) (oq : ∀ q : Nat, q ≠ a → H1[q]? = H[q]?) : Hp g (wput w a e) H1 := by
  refine ⟨by rw [z]; exact h.1, h.2.1, fun q hq => ⟨(oq q (by omega)).trans (h.2.2.1 q hq).1, (if_neg (by omega)).trans (h.2.2.1 q hq).2⟩, fun b e1 h1 h2 => ?_⟩
  by_cases hb : b = a
  · subst hb
    have h1' : some e = some e1 := (if_pos rfl).symm.trans h1
    cases h1'
    exact ⟨fun _ => hg, he⟩
  · have h1' : w.1 b = some e1 := (if_neg hb).symm.trans h1
    obtain ⟨g1, g2⟩ := h.2.2.2 b e1 h1' h2
    exact ⟨g1, g2.kept (oq b hb)⟩
theorem Hp.new {g : GG} {w : WW} {H H1 : Heap} {e : WE} (h : Hp g w H) (he : wat g H.size e H1) (z : H1.size = H.size + 1) (oq : ∀ q : Nat, q < H.size → H1[q]? = H[q]?) : Hp g (wnew w H.size e) H1 := by
  have hz := h.1
  have hz2 := h.2.1
  refine ⟨by rw [z]; exact Nat.le_refl _, by show gb g ≤ H.size + 1; omega, fun q hq => ⟨(oq q (by omega)).trans (h.2.2.1 q hq).1, (if_neg (by omega)).trans ((if_pos (by omega)).trans (h.2.2.1 q hq).2)⟩, fun b e1 h1 h2 => ?_⟩
  by_cases hb : b = H.size
  · subst hb
    have h1' : some e = some e1 := (if_pos rfl).symm.trans h1
    cases h1'
    exact ⟨fun _ => by omega, he⟩
  · have h1' : (if b < w.2 then w.1 b else none) = some e1 := (if_neg hb).symm.trans h1
    by_cases hb2 : b < w.2
    · rw [if_pos hb2] at h1'
      obtain ⟨g1, g2⟩ := h.2.2.2 b e1 h1' hb2
      exact ⟨g1, g2.kept (oq b (by omega))⟩
    · rw [if_neg hb2] at h1'
      cases h1'
