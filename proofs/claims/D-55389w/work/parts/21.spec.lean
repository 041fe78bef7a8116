/-! THE PURE LAW of the mill's row g: what each call answers and makes of it, with no program in sight -/
set_option maxRecDepth 100000
def mn (a b : Int32) : Int32 := if a < b then a else b
def mx (a b : Int32) : Int32 := if b < a then a else b
def inB (v lo hi : Int32) : Bool := decide (lo ≤ v) && decide (v ≤ hi)
abbrev gb (g : Nat → Int32) (b w : Nat) : Int32 := g (25 + 7 * b + w)
abbrev gj (g : Nat → Int32) (j w : Nat) : Int32 := g (109 + 4 * j + w)
abbrev go (g : Nat → Int32) (o w : Nat) : Int32 := g (189 + 4 * o + w)
abbrev gq (g : Nat → Int32) (k w : Nat) : Int32 := g (16 + 3 * k + w)
def nBt (g : Nat → Int32) : Nat := (g 7).toNatClampNeg
def nJr (g : Nat → Int32) : Nat := (g 8).toNatClampNeg
def nOr (g : Nat → Int32) : Nat := (g 9).toNatClampNeg
def ripeIn (g : Nat → Int32) (b : Nat) : Int32 := 2 + gb g b 2 + gb g b 4 / 4
def tearAt (g : Nat → Int32) (b : Nat) (d : Int32) : Int32 := mx 0 (if d ≤ ripeIn g b then gb g b 3 * d / ripeIn g b else gb g b 3 - (d - ripeIn g b) / 3)
def ofB (g : Nat → Int32) (j : Nat) : Nat := (gj g j 1).toNatClampNeg
def tearOf (g : Nat → Int32) (j : Nat) : Int32 := if gj g j 0 = 0 then tearAt g (ofB g j) (gj g j 2) else gj g j 3
def missing (g : Nat → Int32) (j : Nat) : Int32 := mx 0 (ripeIn g (ofB g j) - gj g j 2)
def isRipe (g : Nat → Int32) (j : Nat) : Bool := decide (gj g j 0 = 0) && decide (missing g j = 0)
def becomesG (g : Nat → Int32) (j : Nat) (how : Int32) : Nat → Int32 := upd (upd g (109 + 4 * j + 3) (tearOf g j)) (109 + 4 * j + 0) how
def earnsG (g : Nat → Int32) (c : Int32) : Nat → Int32 := upd (upd g 10 (g 10 + c)) 6 (mn 9999 (g 6 + c))
def oI (o : Option Nat) : Int32 := match o with
  | none => -1
  | some j => nI j
def fjC (g : Nat → Int32) (o j : Nat) (b : Option Nat) : Bool := isRipe g j && inB (tearOf g j) (go g o 0) (go g o 1) && (match b with
  | none => true
  | some k => decide (gj g k 2 < gj g j 2))
def fjS (g : Nat → Int32) (o : Nat) : Nat → Option Nat
  | 0 => none
  | j + 1 => if fjC g o j (fjS g o j) = true then some j else fjS g o j
def findJar (g : Nat → Int32) (o : Nat) : Option Nat := fjS g o (nJr g)
def cnt (p : Nat → Bool) : Nat → Nat
  | 0 => 0
  | n + 1 => cnt p n + (if p n = true then 1 else 0)
theorem cnt_le (p : Nat → Bool) (n : Nat) : cnt p n ≤ n := by
  induction n with
  | zero => exact Nat.le_refl 0
  | succ n ih =>
    unfold cnt
    split <;> omega
def jarsN (g : Nat → Int32) (how : Int32) : Nat := cnt (fun j => decide (gj g j 0 = how)) (nJr g)
def ripeN (g : Nat → Int32) : Nat := cnt (isRipe g) (nJr g)
def openN (g : Nat → Int32) : Nat := cnt (fun o => decide (go g o 2 = 0)) (nOr g)
def laidN (g : Nat → Int32) : Nat := cnt (fun p => decide (0 ≤ g (12 + p))) 4
/-- what is asked of a row: the counts, the batch of each jar, the time in which a batch gets ripe -/
def GOk (g : Nat → Int32) : Prop :=
  (∃ n, g 7 = nI n ∧ n ≤ 12) ∧ (∃ n, g 8 = nI n ∧ n ≤ 20) ∧ (∃ n, g 9 = nI n ∧ n ≤ 8) ∧
  (∀ j, j < nJr g → ∃ b, gj g j 1 = nI b ∧ b < nBt g) ∧ (∀ b, b < 12 → ∃ r, gb g b 2 = nI r ∧ r ≤ 9) ∧ (∀ b, b < 12 → ∃ r, gb g b 4 = nI r ∧ r ≤ 20)
theorem nBt_eq {g : Nat → Int32} {n : Nat} (h : g 7 = nI n) (hn : n ≤ 12) : nBt g = n := by unfold nBt; rw [h]; exact nI_clamp (by omega)
theorem nJr_eq {g : Nat → Int32} {n : Nat} (h : g 8 = nI n) (hn : n ≤ 20) : nJr g = n := by unfold nJr; rw [h]; exact nI_clamp (by omega)
theorem nOr_eq {g : Nat → Int32} {n : Nat} (h : g 9 = nI n) (hn : n ≤ 8) : nOr g = n := by unfold nOr; rw [h]; exact nI_clamp (by omega)
theorem GOk.b {g : Nat → Int32} (O : GOk g) : g 7 = nI (nBt g) ∧ nBt g ≤ 12 := by
  obtain ⟨n, h1, h2⟩ := O.1
  rw [nBt_eq h1 h2]; exact ⟨h1, h2⟩
theorem GOk.j {g : Nat → Int32} (O : GOk g) : g 8 = nI (nJr g) ∧ nJr g ≤ 20 := by
  obtain ⟨n, h1, h2⟩ := O.2.1
  rw [nJr_eq h1 h2]; exact ⟨h1, h2⟩
theorem GOk.o {g : Nat → Int32} (O : GOk g) : g 9 = nI (nOr g) ∧ nOr g ≤ 8 := by
  obtain ⟨n, h1, h2⟩ := O.2.2.1
  rw [nOr_eq h1 h2]; exact ⟨h1, h2⟩
theorem GOk.of {g : Nat → Int32} (O : GOk g) {j : Nat} (hj : j < nJr g) : gj g j 1 = nI (ofB g j) ∧ ofB g j < nBt g ∧ ofB g j < 12 := by
  obtain ⟨b, h1, h2⟩ := O.2.2.2.1 j hj
  have h3 := O.b.2
  have e : ofB g j = b := by unfold ofB; rw [h1]; exact nI_clamp (by omega)
  rw [e]; exact ⟨h1, h2, by omega⟩
theorem GOk.r {g : Nat → Int32} (O : GOk g) {b : Nat} (hb : b < 12) : ∃ r, ripeIn g b = nI r ∧ 2 ≤ r ∧ r ≤ 16 := by
  obtain ⟨x, h1, h2⟩ := O.2.2.2.2.1 b hb
  obtain ⟨y, h3, h4⟩ := O.2.2.2.2.2 b hb
  refine ⟨2 + x + y / 4, ?_, by omega, by omega⟩
  unfold ripeIn
  rw [h1, h3, show (2 : Int32) = nI 2 from rfl, show (4 : Int32) = nI 4 from rfl, pk_div (by omega) (by decide) (by decide), nI_add, nI_add]
theorem GOk.rnz {g : Nat → Int32} (O : GOk g) {b : Nat} (hb : b < 12) : ¬ ripeIn g b = 0 := by
  obtain ⟨r, h1, h2, h3⟩ := O.r hb
  rw [h1]
  exact nI_ne0 (by omega) (by omega)
def heatBy (g : Nat → Int32) (k : Nat) (x : Int32) : Int32 := gq g k 1 + (x + 9) / 10
def biteBy (g : Nat → Int32) (k : Nat) (y b x : Int32) : Int32 := mx 1 (10 * (y + 2 * b + 3 * x) / (y + b + x) - 2 * mx 0 (heatBy g k (y + b + x) - 5))
def isMix (y b k : Int32) : Bool := decide (0 ≤ y) && decide (0 ≤ b) && decide (0 ≤ k) && decide (y ≤ 60) && decide (b ≤ 60) && decide (k ≤ 60) && inB (y + b + k) 10 60
theorem nI1 : nI 1 = 1 := rfl
theorem nI0 : nI 0 = 0 := rfl
theorem oI_none : oI none = -1 := rfl
theorem oI_some (j : Nat) : oI (some j) = nI j := rfl
/-- a loop that counts up -/
theorem lpN {P : Nat → Prop} (N : Nat) (hs : ∀ i, i ≤ N → (i < N → P (i + 1)) → P i) : ∀ i, i ≤ N → P i := by
  have k : ∀ n i, i + n = N → P i := by
    intro n
    induction n with
    | zero => intro i hi; exact hs i (by omega) (fun h => absurd h (by omega))
    | succ n ih => intro i hi; exact hs i (by omega) (fun _ => ih (i + 1) (by omega))
  exact fun i hi => k (N - i) i (by omega)
def gyJ (g : Nat → Int32) (j : Nat) : Nat → Int32 := if gj g j 0 = 1 then upd g (109 + 4 * j + 3) (mx 0 (gj g j 3 - 1)) else if gj g j 0 = 0 then upd g (109 + 4 * j + 2) (gj g j 2 + 1) else g
def gyC (g : Nat → Int32) (j : Nat) : Bool := decide (gj g j 0 = 0) && isRipe (gyJ g j) j && !isRipe g j
def gyQ (g : Nat → Int32) (k : Nat) : Nat → Int32 := upd g (16 + 3 * k + 1) (mx 0 (gq g k 1 - 3))
def gyD (g : Nat → Int32) : Nat → Nat → Int32
  | 0 => upd g 0 (g 0 + 1)
  | k + 1 => gyQ (gyD g k) k
def gyS (g : Nat → Int32) : Nat → (Nat → Int32) × Nat
  | 0 => (gyD g 3, 0)
  | j + 1 => (gyJ (gyS g j).1 j, (gyS g j).2 + (if gyC (gyS g j).1 j = true then 1 else 0))
def goesG (g : Nat → Int32) : Nat → Int32 := (gyS g (nJr g)).1
def goesN (g : Nat → Int32) : Nat := (gyS g (nJr g)).2
theorem gyS_le (g : Nat → Int32) (n : Nat) : (gyS g n).2 ≤ n := by
  induction n with
  | zero => exact Nat.le_refl 0
  | succ n ih =>
    show (gyS g n).2 + _ ≤ n + 1
    split <;> omega
theorem nle_i {a b : Int32} (h : a < b) : (b ≤ a) = False := eq_false (Int32.not_le.mpr h)
theorem nlt_i {a b : Int32} (h : a ≤ b) : (b < a) = False := eq_false (Int32.not_lt.mpr h)
theorem fjS_lt {g : Nat → Int32} {o : Nat} : ∀ {n k : Nat}, fjS g o n = some k → k < n := by
  intro n
  induction n with
  | zero => intro k h; cases h
  | succ n ih =>
    intro k h
    unfold fjS at h
    split at h
    · cases h; omega
    · have := ih h; omega
/-- GOk asks but of some places -/
theorem GOk.keep {g g' : Nat → Int32} (O : GOk g) (h : ∀ k, (k = 7 ∨ k = 8 ∨ k = 9 ∨ (∃ j, j < 20 ∧ k = 109 + 4 * j + 1) ∨ ∃ b, b < 12 ∧ (k = 25 + 7 * b + 2 ∨ k = 25 + 7 * b + 4)) → g' k = g k) : GOk g' := by
  have e7 := h 7 (by omega)
  have e8 := h 8 (by omega)
  have e9 := h 9 (by omega)
  have eB : nBt g' = nBt g := by unfold nBt; rw [e7]
  have eJ : nJr g' = nJr g := by unfold nJr; rw [e8]
  have hJ := O.j.2
  refine ⟨by rw [e7]; exact O.1, by rw [e8]; exact O.2.1, by rw [e9]; exact O.2.2.1, fun j hj => ?_, fun b hb => ?_, fun b hb => ?_⟩
  · rw [eJ] at hj
    obtain ⟨b, h1, h2⟩ := O.2.2.2.1 j hj
    exact ⟨b, by rw [show gj g' j 1 = gj g j 1 from h _ (Or.inr (Or.inr (Or.inr (Or.inl ⟨j, by omega, rfl⟩))))]; exact h1, by rw [eB]; exact h2⟩
  · rw [show gb g' b 2 = gb g b 2 from h _ (Or.inr (Or.inr (Or.inr (Or.inr ⟨b, hb, Or.inl rfl⟩))))]; exact O.2.2.2.2.1 b hb
  · rw [show gb g' b 4 = gb g b 4 from h _ (Or.inr (Or.inr (Or.inr (Or.inr ⟨b, hb, Or.inr rfl⟩))))]; exact O.2.2.2.2.2 b hb
theorem GOk.upd {g : Nat → Int32} (O : GOk g) (k : Nat) (v : Int32) (h : k ≠ 7 ∧ k ≠ 8 ∧ k ≠ 9 ∧ (∀ j, j < 20 → k ≠ 109 + 4 * j + 1) ∧ ∀ b, b < 12 → k ≠ 25 + 7 * b + 2 ∧ k ≠ 25 + 7 * b + 4) : GOk (upd g k v) := by
  refine O.keep (fun q hq => pk_un ?_)
  obtain ⟨h1, h2, h3, h4, h5⟩ := h
  rcases hq with e | e | e | ⟨j, hj, e⟩ | ⟨b, hb, e⟩
  · omega
  · omega
  · omega
  · have := h4 j hj; omega
  · have := h5 b hb; omega
theorem nJr_upd {g : Nat → Int32} {k : Nat} {v : Int32} (h : k ≠ 8) : nJr (upd g k v) = nJr g := by unfold nJr; rw [pk_un (Ne.symm h)]
theorem GOk.gyJ {g : Nat → Int32} (O : GOk g) {j : Nat} (hj : j < 20) : GOk (gyJ g j) ∧ nJr (gyJ g j) = nJr g := by
  unfold _root_.Jvm.Pilot.CMustardMillLaw_law_r1713_1dd5ba.gyJ
  split
  · exact ⟨O.upd _ _ (by refine ⟨?_, ?_, ?_, fun i _ => ?_, fun b _ => ?_⟩ <;> omega), nJr_upd (by omega)⟩
  · split
    · exact ⟨O.upd _ _ (by refine ⟨?_, ?_, ?_, fun i _ => ?_, fun b _ => ?_⟩ <;> omega), nJr_upd (by omega)⟩
    · exact ⟨O, rfl⟩
theorem GOk.gyD {g : Nat → Int32} (O : GOk g) : ∀ k, k ≤ 3 → GOk (gyD g k) ∧ nJr (gyD g k) = nJr g := by
  intro k
  induction k with
  | zero => intro _; exact ⟨O.upd _ _ (by refine ⟨?_, ?_, ?_, fun i _ => ?_, fun b _ => ?_⟩ <;> omega), nJr_upd (by omega)⟩
  | succ k ih =>
    intro hk
    obtain ⟨i1, i2⟩ := ih (by omega)
    exact ⟨i1.upd _ _ (by refine ⟨?_, ?_, ?_, fun i _ => ?_, fun b _ => ?_⟩ <;> omega), by rw [← i2]; exact nJr_upd (by omega)⟩
theorem GOk.gyS {g : Nat → Int32} (O : GOk g) : ∀ j, j ≤ 20 → GOk (gyS g j).1 ∧ nJr (gyS g j).1 = nJr g := by
  intro j
  induction j with
  | zero => intro _; exact O.gyD 3 (by omega)
  | succ j ih =>
    intro hj
    obtain ⟨i1, i2⟩ := ih (by omega)
    obtain ⟨k1, k2⟩ := i1.gyJ (j := j) (by omega)
    exact ⟨k1, k2.trans i2⟩
theorem GOk.goesG {g : Nat → Int32} (O : GOk g) : GOk (goesG g) ∧ nJr (goesG g) = nJr g := O.gyS _ O.j.2
theorem cpy0 {f g : Nat → Int32} {p k : Nat} : va_cpy f g p k 0 = g := by
  funext j
  unfold va_cpy
  rw [if_neg (by omega)]
theorem cpyS {f g : Nat → Int32} {p k i : Nat} : upd (va_cpy f g p k i) (k + i) (f (p + i)) = va_cpy f g p k (i + 1) := by
  funext j
  unfold upd va_cpy
  by_cases e : j = k + i
  · subst e
    rw [if_pos rfl, if_pos (by omega), show k + i - k = i by omega]
  · rw [if_neg e]
    by_cases l : k ≤ j ∧ j < k + i
    · rw [if_pos l, if_pos (by omega)]
    · rw [if_neg l, if_neg (by omega)]
/-- the first row: what a mill holds at first -/
def beginG : Nat → Int32 := fun k => if k = 1 ∨ k = 2 ∨ k = 3 then 60 else if k = 4 then 20 else if k = 5 then 12 else if k = 6 then 40 else if 11 ≤ k ∧ k < 16 then -1 else if k = 16 ∨ k = 19 ∨ k = 22 then 9 else 0
