/-! THE PURE LAW, second part: the calls -/
set_option maxRecDepth 100000
abbrev ix (x : Int32) : Nat := x.toNatClampNeg
theorem ix_nI {k : Nat} (h : k < 2147483648) : (nI k).toNatClampNeg = k := nI_clamp h
theorem upd_uu {f : Nat → Int32} {k : Nat} {v w : Int32} : upd (upd f k v) k w = upd f k w := by
  funext j
  unfold upd
  split <;> rfl
theorem inB_n {x : Int32} {n : Nat} (hn : n < 2147483647) (h : inB x 0 (nI n) = true) : ∃ k, k < n + 1 ∧ x = nI k := by
  unfold inB at h
  rw [Bool.and_eq_true, decide_eq_true_eq, decide_eq_true_eq] at h
  obtain ⟨j, hj, rfl⟩ := nI_of (x := x) (Int32.not_lt.mpr h.1)
  exact ⟨j, by have := (nI_leI (by omega) (by omega)).mp h.2; omega, rfl⟩
theorem inB_m {x y : Int32} {n : Nat} (hy : y = nI n) (hn : n < 2147483647) (h : inB x 0 (y - 1) = true) : ∃ k, k < n ∧ x = nI k := by
  subst hy
  cases n with
  | zero =>
    exfalso
    unfold inB at h
    rw [Bool.and_eq_true, decide_eq_true_eq, decide_eq_true_eq, Int32.le_iff_toInt_le, Int32.le_iff_toInt_le] at h
    have : (nI 0 - 1 : Int32).toInt = -1 := by decide
    rw [this] at h
    have h0 : (0 : Int32).toInt = 0 := by decide
    omega
  | succ n =>
    rw [nI_pred] at h
    exact inB_n (by omega) h
theorem inB_1 {x : Int32} {n : Nat} (hn : n < 2147483647) (h : inB x 1 (nI n) = true) : ∃ k, 1 ≤ k ∧ k < n + 1 ∧ x = nI k := by
  unfold inB at h
  rw [Bool.and_eq_true, decide_eq_true_eq, decide_eq_true_eq] at h
  have h1 := h.1
  rw [Int32.le_iff_toInt_le] at h1
  have e1 : (1 : Int32).toInt = 1 := by decide
  obtain ⟨j, hj, rfl⟩ := nI_of (x := x) (by rw [Int32.lt_iff_toInt_lt]; have : (0 : Int32).toInt = 0 := by decide
                                            omega)
  rw [nI_toInt hj, e1] at h1
  exact ⟨j, by omega, by have := (nI_leI (by omega) (by omega)).mp h.2; omega, rfl⟩
theorem nIl : nI 0 = 0 ∧ nI 1 = 1 ∧ nI 2 = 2 ∧ nI 3 = 3 ∧ nI 4 = 4 ∧ nI 5 = 5 ∧ nI 6 = 6 ∧ nI 7 = 7 ∧ nI 8 = 8 ∧ nI 9 = 9 ∧ nI 10 = 10 ∧ nI 11 = 11 ∧ nI 12 = 12 ∧ nI 13 = 13 ∧ nI 17 = 17 ∧ nI 20 = 20 ∧ nI 24 = 24 ∧ nI 30 = 30 ∧ nI 32 = 32 ∧ nI 40 = 40 ∧ nI 48 = 48 ∧ nI 60 = 60 ∧ nI 99 = 99 ∧ nI 126 = 126 ∧ nI 255 = 255 ∧ nI 500 = 500 ∧ nI 9999 = 9999 := ⟨rfl, rfl, rfl, rfl, rfl, rfl, rfl, rfl, rfl, rfl, rfl, rfl, rfl, rfl, rfl, rfl, rfl, rfl, rfl, rfl, rfl, rfl, rfl, rfl, rfl, rfl, rfl⟩
/-- what a call comes to: 0 done, 1 no such index, 2 no such argument, 3 refused; the answer; the reason and the detail; the row behind it -/
abbrev RS : Type := Nat × Int32 × Int32 × Int32 × (Nat → Int32)
abbrev okR (r : Int32) (g : Nat → Int32) : RS := (0, r, 0, 0, g)
abbrev iobR (g : Nat → Int32) : RS := (1, 0, 0, 0, g)
abbrev iaeR (g : Nat → Int32) : RS := (2, 0, 0, 0, g)
abbrev refR (w d : Int32) (g : Nat → Int32) : RS := (3, 0, w, d, g)
def kpN (n : Nat) : Nat := if n = 8 then 8 else n + 1
def kpF (K : Nat → Int32) (n : Nat) (row : Nat → Int32) : Nat → Int32 := if n = 8 then va_cpy row (fun k => if k < 1547 then K (k + 221) else K k) 0 1547 221 else va_cpy row K 0 (221 * n) 221
/-- the kept rows, and the numbers, behind keeps -/
def kpS (S : Nat → Nat → Int32) (V : Nat → Int32) (row : Nat → Int32) : Nat → Nat → Int32 := if V 33 = 0 then upS S 2 (kpF (S 2) (ix (V 32)) row) else S
def kpV (V : Nat → Int32) : Nat → Int32 := if V 33 = 0 then upd (upd V 34 0) 32 (nI (kpN (ix (V 32)))) else upd V 34 0
def VOk (V : Nat → Int32) : Prop := (∃ n, n ≤ 8 ∧ V 32 = nI n) ∧ (V 33 = 0 ∨ V 33 = 1)
theorem VOk.upd {V : Nat → Int32} (h : VOk V) {k : Nat} {v : Int32} (h1 : k ≠ 32) (h2 : k ≠ 33) : VOk (upd V k v) := by
  refine ⟨?_, ?_⟩
  · rw [pk_un (Ne.symm h1)]; exact h.1
  · rw [pk_un (Ne.symm h2)]; exact h.2
theorem kpV_34 {V : Nat → Int32} {v : Int32} : kpV (upd V 34 v) = kpV V := by
  unfold kpV
  rw [pk_un (by decide), pk_un (by decide), upd_uu]
theorem kpS_34 {S : Nat → Nat → Int32} {V row : Nat → Int32} {v : Int32} : kpS S (upd V 34 v) row = kpS S V row := by
  unfold kpS
  rw [pk_un (by decide), pk_un (by decide)]
/-- the reference behind a call that may change the row; c1 c2 c3: its codes for the three ways to fail -/
def twR (h : AH) (a : Nat) (g : Nat → Int32) (S : Nat → Nat → Int32) (V : Nat → Int32) (c1 c2 c3 : Int32) (r : RS) : AH :=
  match r.1 with
  | 0 => twh h a r.2.2.2.2 (kpS S V g) (kpV V)
  | 1 => twh h a g S (upd V 34 c1)
  | 2 => twh h a g S (upd V 34 c2)
  | _ => twh h a g S (upd (upd (upd V 34 c3) 35 r.2.2.1) 36 r.2.2.2.1)
/-- the reference behind a call that only tells -/
def twQ (h : AH) (a : Nat) (g : Nat → Int32) (S : Nat → Nat → Int32) (V : Nat → Int32) (r : Nat × Int32) : AH := twh h a g S (upd V 34 (nI r.1))
def zr (g : Nat → Int32) (b : Nat) : Nat → Nat → Int32
  | 0 => g
  | i + 1 => upd (zr g b i) (b + i) 0
theorem zr_ne {g : Nat → Int32} {b k : Nat} : ∀ {i : Nat}, (k < b ∨ b + i ≤ k) → zr g b i k = g k := by
  intro i
  induction i with
  | zero => intro _; rfl
  | succ i ih =>
    intro h
    show upd (zr g b i) (b + i) 0 k = g k
    rw [pk_un (by omega)]
    exact ih (by omega)
def sp_buy (g : Nat → Int32) (x y : Int32) : RS :=
  if (inB x 0 4 && inB y 1 20) = false then iaeR g else
  if (if x < 3 then 500 else 99) < g (1 + ix x) + (if x < 3 then 10 else if x = 3 then 5 else 1) * y then refR 1 (if x < 3 then 500 else 99) g else
  if g 6 < (if x < 3 then x + 1 else 1) * y then refR 5 ((if x < 3 then x + 1 else 1) * y - g 6) g else
  okR (g (1 + ix x) + (if x < 3 then 10 else if x = 3 then 5 else 1) * y) (upd (upd g 6 (g 6 - (if x < 3 then x + 1 else 1) * y)) (1 + ix x) (g (1 + ix x) + (if x < 3 then 10 else if x = 3 then 5 else 1) * y))
def sp_quernOf (g : Nat → Int32) (x y : Int32) : Nat × Int32 :=
  if inB x 0 2 = false then (1, 0) else if inB y 0 3 = false then (2, 0) else (0, if y = 3 then (gq g (ix x) 1 + 2) / 3 else gq g (ix x) (ix y))
def sp_dress (g : Nat → Int32) (x : Int32) : RS :=
  if inB x 0 2 = false then iobR g else
  if 0 < gq g (ix x) 1 then refR 6 (gq g (ix x) 1) g else
  if g 6 < 5 then refR 5 (5 - g 6) g else
  okR (gq g (ix x) 0) (upd (upd g 6 (g 6 - 5)) (16 + 3 * ix x) 9)
def grindG (g : Nat → Int32) (k : Nat) (y b z : Int32) : Nat → Int32 :=
  let n := nBt g
  let g4 := upd (upd (zr (upd g 7 (g 7 + 1)) (25 + 7 * n) 7) (25 + 7 * n + 1) (y + b + z)) (25 + 7 * n + 6) (y + b + z)
  let g5 := upd g4 (25 + 7 * n + 2) (9 - gq g4 k 0)
  let g6 := upd g5 (25 + 7 * n + 3) (biteBy g5 k y b z)
  let g7 := upd g6 1 (g6 1 - y)
  let g8 := upd g7 2 (g7 2 - b)
  let g9 := upd g8 3 (g8 3 - z)
  let g10 := upd g9 (16 + 3 * k) (g9 (16 + 3 * k) - 1)
  let g11 := upd g10 (16 + 3 * k + 1) (heatBy g k (y + b + z))
  upd g11 (16 + 3 * k + 2) (g11 (16 + 3 * k + 2) + (y + b + z))
def sp_grind (g : Nat → Int32) (x y b z : Int32) : RS :=
  if inB x 0 2 = false then iobR g else
  if isMix y b z = false then iaeR g else
  if g 7 = 12 then refR 1 12 g else
  if g 1 < y then refR 2 (g 1) g else
  if g 2 < b then refR 2 (g 2) g else
  if g 3 < z then refR 2 (g 3) g else
  if gq g (ix x) 0 = 0 then refR 3 x g else
  if 9 < heatBy g (ix x) (y + b + z) then refR 4 (heatBy g (ix x) (y + b + z)) g else
  okR (nI (nBt g)) (grindG g (ix x) y b z)
def sp_biteOf (g : Nat → Int32) (x y b z : Int32) : Nat × Int32 :=
  if inB x 0 2 = false then (1, 0) else if isMix y b z = false then (2, 0) else (0, biteBy g (ix x) y b z)
def mixG (g : Nat → Int32) (k : Nat) (y : Int32) : Nat → Int32 := upd (upd (upd g 4 (g 4 - y)) (25 + 7 * k + 0) 1) (25 + 7 * k + 4) y
def sp_mix (g : Nat → Int32) (x y : Int32) : RS :=
  if inB x 0 (g 7 - 1) = false then iobR g else
  if inB y 1 20 = false then iaeR g else
  if ¬ gb g (ix x) 0 = 0 then refR 7 (gb g (ix x) 0) g else
  if g 4 < y then refR 2 (g 4) g else
  okR (ripeIn (mixG g (ix x) y) (ix x)) (mixG g (ix x) y)
def sp_batchOf (g : Nat → Int32) (x y : Int32) : Nat × Int32 :=
  if inB x 0 (g 7 - 1) = false then (1, 0) else if inB y 0 6 = false then (2, 0) else (0, gb g (ix x) (ix y))
def jarStep (g : Nat → Int32) (b : Int32) : Nat → Int32 := upd (upd (zr g (109 + 4 * nJr g) 4) (109 + 4 * nJr g + 1) b) 8 (nI (nJr g + 1))
def jarsG (g : Nat → Int32) (b : Int32) : Nat → Nat → Int32
  | 0 => g
  | i + 1 => jarStep (jarsG g b i) b
def fillG (g : Nat → Int32) (k : Nat) (m : Nat) : Nat → Int32 :=
  let g1 := jarsG g (nI k) m
  let g2 := upd g1 5 (g1 5 - nI m)
  let g3 := upd g2 (25 + 7 * k + 5) (gb g2 k 5 + nI m)
  let g4 := upd g3 (25 + 7 * k + 1) (gb g3 k 1 - 10 * nI m)
  if gb g4 k 1 = 0 then upd g4 (25 + 7 * k + 0) 2 else g4
def sp_jar (g : Nat → Int32) (x y : Int32) : RS :=
  if inB x 0 (g 7 - 1) = false then iobR g else
  if inB y 1 6 = false then iaeR g else
  if ¬ gb g (ix x) 0 = 1 then refR 7 (gb g (ix x) 0) g else
  if gb g (ix x) 1 < 10 * y then refR 2 (gb g (ix x) 1) g else
  if 20 < g 8 + y then refR 1 20 g else
  if g 5 < y then refR 2 (g 5) g else
  okR (fillG g (ix x) (ix y) 8 - 1) (fillG g (ix x) (ix y))
def sp_open (g : Nat → Int32) (x : Int32) : RS :=
  if inB x 0 (g 8 - 1) = false then iobR g else
  if ¬ gj g (ix x) 0 = 0 then refR 8 (gj g (ix x) 0) g else
  okR (gj (becomesG g (ix x) 1) (ix x) 3) (becomesG g (ix x) 1)
def sp_sell (g : Nat → Int32) (x : Int32) : RS :=
  if inB x 0 (g 8 - 1) = false then iobR g else
  if ¬ gj g (ix x) 0 = 0 then refR 8 (gj g (ix x) 0) g else
  if 0 < missing g (ix x) then refR 9 (missing g (ix x)) g else
  okR (gj (earnsG (becomesG g (ix x) 2) (gj (becomesG g (ix x) 2) (ix x) 3 / 3)) (ix x) 3 / 3) (earnsG (becomesG g (ix x) 2) (gj (becomesG g (ix x) 2) (ix x) 3 / 3))
def sp_jarOf (g : Nat → Int32) (x y : Int32) : Nat × Int32 :=
  if inB x 0 (g 8 - 1) = false then (1, 0) else if inB y 0 4 = false then (2, 0) else
  (0, if y < 3 then gj g (ix x) (ix y) else if y = 4 then tearOf g (ix x) else if gj g (ix x) 0 = 0 then missing g (ix x) else 0)
def isStronger (g : Nat → Int32) (a b : Nat) : Bool :=
  if ¬ tearOf g a = tearOf g b then decide (tearOf g b < tearOf g a) else if ¬ gj g a 2 = gj g b 2 then decide (gj g b 2 < gj g a 2) else decide (a < b)
def stP (g : Nat → Int32) (place : Int32) (j : Nat) : Bool := decide (¬ gj g j 0 = 2) && decide (nI (cnt (fun o => decide (¬ gj g o 0 = 2) && isStronger g o j) (nJr g)) = place)
def lf (p : Nat → Bool) : Nat → Option Nat
  | 0 => none
  | n + 1 => match lf p n with
    | some k => some k
    | none => if p n = true then some n else none
def strongestG (g : Nat → Int32) (place : Int32) : Option Nat := lf (stP g place) (nJr g)
def dbdS (r bt : Int32) : Nat → Int32 × Int32 × Int32
  | 0 => (0, 0, 0)
  | d + 1 =>
    let p := dbdS r bt d
    if nI (d + 1) ≤ r then (p.1 + bt - (p.1 + bt) / r * r, p.2.1 + (p.1 + bt) / r, p.2.2)
    else (p.1, if p.2.2 + 1 - (p.2.2 + 1) / 3 * 3 = 0 ∧ 0 < p.2.1 then p.2.1 + -1 else p.2.1, p.2.2 + 1)
def dayByDay (g : Nat → Int32) (b d : Nat) : Int32 := (dbdS (ripeIn g b) (gb g b 3) d).2.1
def sp_tearBehind (g : Nat → Int32) (x y : Int32) (z : Bool) : Nat × Int32 :=
  if inB x 0 (g 7 - 1) = false then (1, 0) else if inB y 0 99 = false then (2, 0) else if gb g (ix x) 0 = 0 then (3, 0) else
  (0, if z = true then dayByDay g (ix x) (ix y) else tearAt g (ix x) y)
theorem isMix_nz {y b k : Int32} (h : isMix y b k = true) : ¬ y + b + k = 0 := by
  unfold isMix at h
  simp only [Bool.and_eq_true] at h
  have h2 := h.2
  unfold inB at h2
  simp only [Bool.and_eq_true, decide_eq_true_eq] at h2
  intro e
  rw [e] at h2
  exact absurd h2.1 (by decide)
theorem lt_many {x : Int32} {n N : Nat} (h : x = nI n) (hn : n ≤ N) (hx : ¬ x = nI N) : n < N := by
  rcases Nat.lt_or_ge n N with l | l
  · exact l
  · exact absurd (by rw [h, show n = N by omega]) hx
theorem ixl : (0 : Int32).toNatClampNeg = 0 ∧ (1 : Int32).toNatClampNeg = 1 ∧ (2 : Int32).toNatClampNeg = 2 ∧ (3 : Int32).toNatClampNeg = 3 ∧ (4 : Int32).toNatClampNeg = 4 := by decide
