/-! THE PURE LAW, third part: orders, days, trays, what is told -/
set_option maxRecDepth 100000
def orderG (g : Nat → Int32) (x y : Int32) : Nat → Int32 := upd (upd (upd (upd (upd g 9 (g 9 + 1)) (189 + 4 * nOr g) x) (189 + 4 * nOr g + 1) y) (189 + 4 * nOr g + 2) 0) (189 + 4 * nOr g + 3) (-1)
def sp_order (g : Nat → Int32) (x y : Int32) : RS :=
  if (decide (0 ≤ x) && decide (x ≤ y) && decide (y ≤ 30)) = false then iaeR g else
  if g 9 = 8 then refR 1 8 g else
  okR (nI (nOr g)) (orderG g x y)
def serveG (g : Nat → Int32) (o j : Nat) : Nat → Int32 := upd (upd (earnsG (becomesG g j 2) (gj (becomesG g j 2) j 3 / 2 + 2)) (189 + 4 * o + 2) 1) (189 + 4 * o + 3) (nI j)
def sp_serve (g : Nat → Int32) (x : Int32) : RS :=
  if inB x 0 (g 9 - 1) = false then iobR g else
  if go g (ix x) 2 = 1 then refR 10 x g else
  match findJar g (ix x) with
  | none => refR 11 (nI (jarsN g 0)) g
  | some j => okR (nI j) (serveG g (ix x) j)
def sp_orderOf (g : Nat → Int32) (x y : Int32) : Nat × Int32 :=
  if inB x 0 (g 9 - 1) = false then (1, 0) else if inB y 0 3 = false then (2, 0) else (0, go g (ix x) (ix y))
def dayN (g : Nat → Int32) : Nat → Nat → Int32
  | 0 => g
  | k + 1 => goesG (dayN g k)
def dayC (g : Nat → Int32) : Nat → Nat
  | 0 => 0
  | k + 1 => dayC g k + goesN (dayN g k)
theorem GOk.dayN {g : Nat → Int32} (O : GOk g) : ∀ k, GOk (dayN g k) ∧ nJr (dayN g k) = nJr g := by
  intro k
  induction k with
  | zero => exact ⟨O, rfl⟩
  | succ k ih =>
    obtain ⟨a, b⟩ := ih
    obtain ⟨c, d⟩ := a.goesG
    exact ⟨c, d.trans b⟩
def svP (g : Nat → Int32) (o k : Nat) : Bool := (findJar (dayN g k) o).isSome
def svD (g : Nat → Int32) (o : Nat) : Nat := match lf (svP g o) 61 with
  | some k => k
  | none => 61
theorem lf_none {p : Nat → Bool} : ∀ {n : Nat}, lf p n = none ↔ ∀ k, k < n → p k = false := by
  intro n
  induction n with
  | zero => exact ⟨fun _ k hk => absurd hk (Nat.not_lt_zero k), fun _ => rfl⟩
  | succ n ih =>
    constructor
    · intro h k hk
      unfold lf at h
      cases hl : lf p n with
      | some q => rw [hl] at h; cases h
      | none =>
        rw [hl] at h
        rcases Nat.lt_or_ge k n with l | l
        · exact ih.mp hl k l
        · obtain rfl : k = n := by omega
          cases hp : p k with
          | false => rfl
          | true => simp [hp] at h
    · intro h
      unfold lf
      rw [ih.mpr (fun k hk => h k (by omega)), h n (by omega)]
      rfl
theorem lf_step {p : Nat → Bool} {n : Nat} (h : lf p n = none) (hp : p n = false) : lf p (n + 1) = none := by
  unfold lf
  rw [h, hp]
  rfl
theorem lf_found {p : Nat → Bool} {k : Nat} (h : lf p k = none) (hp : p k = true) : ∀ {n : Nat}, k < n → lf p n = some k := by
  intro n
  induction n with
  | zero => intro z; omega
  | succ n ih =>
    intro hk
    unfold lf
    rcases Nat.lt_or_ge k n with l | l
    · rw [ih l]
    · obtain rfl : k = n := by omega
      rw [h]
      simp [hp]
def sp_servedIn (g : Nat → Int32) (x : Int32) : Nat × Int32 :=
  if inB x 0 (g 9 - 1) = false then (1, 0) else if go g (ix x) 2 = 1 then (2, 0) else if svD g (ix x) = 61 then (3, 0) else (0, nI (svD g (ix x)))
def sp_rest (g : Nat → Int32) (x : Int32) : RS :=
  if inB x 1 40 = false then iaeR g else okR (nI (dayC g (ix x))) (dayN g (ix x))
def trG (g : Nat → Int32) : Nat → Nat → Int32
  | 0 => g
  | i + 1 => upd (trG g i) (12 + i) (-1)
def sp_tray (g : Nat → Int32) (x : Int32) : RS :=
  if inB x 0 1 = false then iaeR g else okR (nI (laidN g)) (trG (upd g 11 x) 4)
def isThere (g : Nat → Int32) (x y z : Int32) : Bool := inB x 0 3 && !(decide (y = 0) && !(inB z 0 (g 7 - 1))) && !(decide (y = 1) && !(inB z 0 (g 8 - 1)))
def trP (g : Nat → Int32) (z : Int32) (q : Nat) : Bool := decide (g (12 + q) = z)
def layG (g : Nat → Int32) (x : Nat) (z : Int32) : Nat → Int32 := upd g (12 + x) z
def sp_lay (g : Nat → Int32) (x y z : Int32) : RS :=
  if isThere g x y z = false then iobR g else
  if inB y 0 1 = false then iaeR g else
  if ¬ g 11 = y then refR 12 (g 11) g else
  match lf (trP g z) 4 with
  | some q => refR 13 (nI q) g
  | none => okR (nI (laidN (layG g (ix x) z))) (layG g (ix x) z)
def sp_onTray (g : Nat → Int32) (x : Int32) : Nat × Int32 :=
  if inB x 0 3 = false then (1, 0) else if g (12 + ix x) < 0 then (2, 0) else (0, g (12 + ix x))
def bgG (g : Nat → Int32) : Nat → Int32 := fun k => if k < 221 then beginG k else g k
def sp_account (g V : Nat → Int32) (x : Int32) : Nat × Int32 :=
  if inB x 0 17 = false then (1, 0) else
  (0, if x = 9 then nI (jarsN g 0) else if x = 10 then nI (ripeN g) else if x = 11 then nI (jarsN g 1) else if x = 12 then nI (jarsN g 2) else if x = 13 then g 9 else if x = 14 then nI (openN g) else if x = 15 then g 10 else if x = 16 then V 37 else if x = 17 then V 32 else g (ix x))
def sp_refusal (V : Nat → Int32) (b : Bool) : Nat × Int32 := if V 35 = 0 then (1, 0) else (0, if b = true then V 36 else V 35)
theorem gyJ_ge {g : Nat → Int32} {j k : Nat} (hj : j < 20) (hk : 221 ≤ k) : gyJ g j k = g k := by
  unfold gyJ
  split
  · exact pk_un (by omega)
  · split
    · exact pk_un (by omega)
    · rfl
theorem gyD_ge {g : Nat → Int32} {k : Nat} (hk : 221 ≤ k) : ∀ i, i ≤ 3 → gyD g i k = g k := by
  intro i
  induction i with
  | zero => intro _; exact pk_un (by omega)
  | succ i ih =>
    intro hi
    show upd (gyD g i) (16 + 3 * i + 1) _ k = g k
    rw [pk_un (by omega)]
    exact ih (by omega)
theorem goesG_ge {g : Nat → Int32} (O : GOk g) {k : Nat} (hk : 221 ≤ k) : goesG g k = g k := by
  have h : ∀ j, j ≤ 20 → (gyS g j).1 k = g k := by
    intro j
    induction j with
    | zero => intro _; exact gyD_ge hk 3 (by omega)
    | succ j ih =>
      intro hj
      show gyJ (gyS g j).1 j k = g k
      rw [gyJ_ge (by omega) hk]
      exact ih (by omega)
  exact h _ O.j.2
theorem dayN_ge {g : Nat → Int32} (O : GOk g) {k : Nat} (hk : 221 ≤ k) : ∀ n, dayN g n k = g k := by
  intro n
  induction n with
  | zero => rfl
  | succ n ih =>
    show goesG (dayN g n) k = g k
    rw [goesG_ge (O.dayN n).1 hk]
    exact ih
theorem spare_back {g s : Nat → Int32} (O : GOk g) (n : Nat) : va_cpy (va_cpy g s 0 0 221) (dayN g n) 0 0 221 = g := by
  funext k
  by_cases h : k < 221
  · simp [va_cpy, h]
  · simp only [va_cpy, Nat.zero_le, true_and, Nat.zero_add, h, if_false]
    exact dayN_ge O (by omega) n
