/-! THE PURE LAW of the order texts, as the reference reads them -/
set_option maxRecDepth 100000
def hrL (t : List Int32) (p : Nat) : Int32 := if p < t.length then t.getD p 0 else -1
def wdS (t : List Int32) : List Int32 → Nat → Bool × Nat
  | [], p => (true, p)
  | c :: w, p => if hrL t p = c then wdS t w (p + 1) else (false, p)
/-- a blank and a number: whether, where, which -/
def nb1 (t : List Int32) (p : Nat) : Bool × Nat × Int32 :=
  if ¬ hrL t p = 32 then (false, p, 0) else
  if inB (hrL t (p + 1)) 48 57 = false then (false, p + 1, 0) else
  if 0 < hrL t (p + 1) - 48 ∧ inB (hrL t (p + 2)) 48 57 = true then (true, p + 3, 10 * (hrL t (p + 1) - 48) + hrL t (p + 2) - 48) else (true, p + 2, hrL t (p + 1) - 48)
def nbS (t : List Int32) (pl : Nat) : Nat → Nat → Nat → (Nat → Int32) → Bool × Nat × (Nat → Int32)
  | 0, _, p, F => (true, p, F)
  | m + 1, n, p, F => if (nb1 t p).1 = true then nbS t pl m (n + 1) (nb1 t p).2.1 (upd F (pl + n) (nb1 t p).2.2) else (false, (nb1 t p).2.1, F)
def wh1 (t : List Int32) (p i : Nat) (c : Int32) : Int32 × Nat := (if (wdS t (txl i) p).1 = true then c else -1, (wdS t (txl i) p).2)
def whS (t : List Int32) (p : Nat) : Int32 × Nat :=
  if hrL t p = 103 then wh1 t p 5 103 else
  if hrL t p = 100 then wh1 t p 6 100 else
  if hrL t p = 109 then wh1 t p 7 109 else
  if hrL t p = 106 then wh1 t p 8 106 else
  if hrL t p = 111 then wh1 t p 9 111 else
  if hrL t p = 114 then wh1 t p 12 114 else
  if ¬ hrL t p = 115 then (-1, p) else
  if (wdS t (txl 25) p).1 = false then (-1, (wdS t (txl 25) p).2) else
  if hrL t (wdS t (txl 25) p).2 = 108 then (if (wdS t ((txl 10).drop 3) ((wdS t (txl 25) p).2 + 1)).1 = true then 101 else -1, (wdS t ((txl 10).drop 3) ((wdS t (txl 25) p).2 + 1)).2)
  else (if (wdS t ((txl 11).drop 2) (wdS t (txl 25) p).2).1 = true then 118 else -1, (wdS t ((txl 11).drop 2) (wdS t (txl 25) p).2).2)
def mnyS (w : Int32) : Nat := if w = 103 then 4 else if w = 109 ∨ w = 106 then 2 else 1
def ohS (t : List Int32) (p m : Nat) (F : Nat → Int32) : Bool × Nat × (Nat → Int32) :=
  if (whS t p).1 < 0 then (false, (whS t p).2, upd F (5 * m) (whS t p).1) else nbS t (5 * m + 1) (mnyS (whS t p).1) 0 (whS t p).2 (upd F (5 * m) (whS t p).1)
/-- all the orders: whether, where it ends, how many, and their words and numbers -/
def itS (t : List Int32) : Nat → Nat → Nat → (Nat → Int32) → Bool × Nat × Nat × (Nat → Int32)
  | 0, p, m, F => (false, p, m, F)
  | f + 1, p, m, F =>
    if (ohS t p m F).1 = false then (false, (ohS t p m F).2.1, m, (ohS t p m F).2.2) else
    if hrL t (ohS t p m F).2.1 = 59 then itS t f ((ohS t p m F).2.1 + 1) (m + 1) (ohS t p m F).2.2
    else (decide ((ohS t p m F).2.1 = t.length), (ohS t p m F).2.1, m + 1, (ohS t p m F).2.2)
theorem hrL_lt {t : List Int32} {p : Nat} {c : Int32} (h : hrL t p = c) (hc : ¬ c = -1) : p < t.length := by
  unfold hrL at h
  split at h
  · assumption
  · exact absurd h.symm hc
theorem wdS_le {t : List Int32} : ∀ {w : List Int32} {p : Nat}, (∀ x ∈ w, ¬ x = -1) → p ≤ t.length → p ≤ (wdS t w p).2 ∧ (wdS t w p).2 ≤ t.length ∧ ((wdS t w p).1 = true → (wdS t w p).2 = p + w.length) := by
  intro w
  induction w with
  | nil => intro p _ h; exact ⟨Nat.le_refl _, h, fun _ => rfl⟩
  | cons c w ih =>
    intro p hw h
    unfold wdS
    split
    · next e =>
      have h1 := hrL_lt e (hw c List.mem_cons_self)
      obtain ⟨a, b, d⟩ := ih (p := p + 1) (fun x hx => hw x (List.mem_cons_of_mem _ hx)) (by omega)
      exact ⟨by omega, b, fun z => by rw [d z, List.length_cons]; omega⟩
    · exact ⟨Nat.le_refl _, h, fun z => by cases z⟩
theorem nb1_le {t : List Int32} {p : Nat} (h : p ≤ t.length) : p ≤ (nb1 t p).2.1 ∧ (nb1 t p).2.1 ≤ t.length := by
  unfold nb1
  split
  · exact ⟨Nat.le_refl _, h⟩
  · next e1 =>
    have h1 := hrL_lt (Classical.not_not.mp e1) (by decide)
    split
    · exact ⟨by show p ≤ p + 1; omega, by show p + 1 ≤ _; omega⟩
    · next e2 =>
      have h2 : p + 1 < t.length := by
        rcases Nat.lt_or_ge (p + 1) t.length with l | l
        · exact l
        · exfalso
          apply e2
          unfold hrL
          rw [if_neg (by omega)]
          decide
      split
      · next e3 =>
        have h3 : p + 2 < t.length := by
          rcases Nat.lt_or_ge (p + 2) t.length with l | l
          · exact l
          · exfalso
            have e4 := e3.2
            unfold hrL at e4
            rw [if_neg (by omega)] at e4
            exact absurd e4 (by decide)
        exact ⟨by show p ≤ p + 3; omega, by show p + 3 ≤ _; omega⟩
      · exact ⟨by show p ≤ p + 2; omega, by show p + 2 ≤ _; omega⟩
theorem nbS_le {t : List Int32} {pl : Nat} : ∀ {m n p : Nat} {F : Nat → Int32}, p ≤ t.length → p ≤ (nbS t pl m n p F).2.1 ∧ (nbS t pl m n p F).2.1 ≤ t.length := by
  intro m
  induction m with
  | zero => intro n p F h; exact ⟨Nat.le_refl _, h⟩
  | succ m ih =>
    intro n p F h
    have h1 := nb1_le h
    unfold nbS
    split
    · have := ih (n := n + 1) (F := upd F (pl + n) (nb1 t p).2.2) h1.2
      exact ⟨by omega, this.2⟩
    · exact h1
theorem txl_ok (i : Nat) (h : i < 26) : ∀ x ∈ txl i, ¬ x = -1 := by
  have : ∀ i, i < 26 → ∀ x ∈ txl i, ¬ x = -1 := by decide +kernel
  exact this i h
theorem wh1_le {t : List Int32} {p i : Nat} {c : Int32} (hi : i < 26) (h : p ≤ t.length) (h3 : 3 ≤ (txl i).length) : p ≤ (wh1 t p i c).2 ∧ (wh1 t p i c).2 ≤ t.length ∧ (¬ (wh1 t p i c).1 < 0 → p + 3 ≤ (wh1 t p i c).2) := by
  obtain ⟨a, b, d⟩ := wdS_le (w := txl i) (txl_ok i hi) h
  refine ⟨a, b, fun z => ?_⟩
  show p + 3 ≤ (wdS t (txl i) p).2
  have : (wdS t (txl i) p).1 = true := by
    cases hb : (wdS t (txl i) p).1 with
    | true => rfl
    | false =>
      exfalso
      apply z
      show (if (wdS t (txl i) p).1 = true then c else -1) < 0
      rw [hb]
      exact (by decide : (-1 : Int32) < 0)
  rw [d this]
  omega
theorem whS_le {t : List Int32} {p : Nat} (h : p ≤ t.length) : p ≤ (whS t p).2 ∧ (whS t p).2 ≤ t.length ∧ (¬ (whS t p).1 < 0 → p + 3 ≤ (whS t p).2) := by
  unfold whS
  split
  · exact wh1_le (by decide) h (by decide)
  split
  · exact wh1_le (by decide) h (by decide)
  split
  · exact wh1_le (by decide) h (by decide)
  split
  · exact wh1_le (by decide) h (by decide)
  split
  · exact wh1_le (by decide) h (by decide)
  split
  · exact wh1_le (by decide) h (by decide)
  split
  · exact ⟨Nat.le_refl _, h, fun z => absurd (show (-1 : Int32) < 0 by decide) z⟩
  obtain ⟨a, b, d⟩ := wdS_le (w := txl 25) (txl_ok 25 (by decide)) h
  split
  · exact ⟨a, b, fun z => absurd (show (-1 : Int32) < 0 by decide) z⟩
  next e =>
  have e1 : (wdS t (txl 25) p).1 = true := by cases hb : (wdS t (txl 25) p).1 with
    | true => rfl
    | false => exact absurd hb e
  have e2 := d e1
  have e3 : (txl 25).length = 2 := rfl
  split
  · next f =>
    have f1 := hrL_lt f (by decide)
    obtain ⟨a2, b2, -⟩ := wdS_le (t := t) (w := (txl 10).drop 3) (p := (wdS t (txl 25) p).2 + 1) (by decide) (by omega)
    exact ⟨by show p ≤ (wdS t ((txl 10).drop 3) _).2; omega, b2, fun _ => by show p + 3 ≤ (wdS t ((txl 10).drop 3) _).2; omega⟩
  · obtain ⟨a2, b2, d2⟩ := wdS_le (t := t) (w := (txl 11).drop 2) (p := (wdS t (txl 25) p).2) (by decide) b
    refine ⟨by show p ≤ (wdS t ((txl 11).drop 2) _).2; omega, b2, fun z => ?_⟩
    show p + 3 ≤ (wdS t ((txl 11).drop 2) (wdS t (txl 25) p).2).2
    have : (wdS t ((txl 11).drop 2) (wdS t (txl 25) p).2).1 = true := by
      cases hb : (wdS t ((txl 11).drop 2) (wdS t (txl 25) p).2).1 with
      | true => rfl
      | false =>
        exfalso
        apply z
        show (if (wdS t ((txl 11).drop 2) (wdS t (txl 25) p).2).1 = true then (118 : Int32) else -1) < 0
        rw [hb]
        decide
    have e9 : ((txl 11).drop 2).length = 3 := rfl
    rw [d2 this]
    omega
theorem ohS_le {t : List Int32} {p m : Nat} {F : Nat → Int32} (h : p ≤ t.length) : p ≤ (ohS t p m F).2.1 ∧ (ohS t p m F).2.1 ≤ t.length ∧ ((ohS t p m F).1 = true → p + 3 ≤ (ohS t p m F).2.1) := by
  obtain ⟨a, b, d⟩ := whS_le h
  unfold ohS
  split
  · exact ⟨a, b, fun z => by cases z⟩
  · next e =>
    have e1 := d e
    have e2 := nbS_le (t := t) (pl := 5 * m + 1) (m := mnyS (whS t p).1) (n := 0) (F := upd F (5 * m) (whS t p).1) b
    exact ⟨by omega, e2.2, fun _ => by omega⟩
