/-! THE ABSTRACT HEAP: kinds, lengths, fields and elements as functions of addresses; part of tools/mkah.py -/
abbrev AH : Type := (Nat → Nat) × (Nat → Nat) × (Nat → Nat → Int32) × (Nat → Nat → Option Nat) × (Nat → Nat → Int32) × (Nat → Nat → Option Nat) × (Nat → Nat → Int64) × (Nat → Nat → UInt64) × Nat
def hKd (h : AH) : Nat → Nat := h.1
def hLn (h : AH) : Nat → Nat := h.2.1
def hFI (h : AH) : Nat → Nat → Int32 := h.2.2.1
def hFR (h : AH) : Nat → Nat → Option Nat := h.2.2.2.1
def hEI (h : AH) : Nat → Nat → Int32 := h.2.2.2.2.1
def hER (h : AH) : Nat → Nat → Option Nat := h.2.2.2.2.2.1
def hEL (h : AH) : Nat → Nat → Int64 := h.2.2.2.2.2.2.1
def hED (h : AH) : Nat → Nat → UInt64 := h.2.2.2.2.2.2.2.1
def hSz (h : AH) : Nat := h.2.2.2.2.2.2.2.2
def up1 {α : Type} (f : Nat → α) (a : Nat) (v : α) : Nat → α := fun b => if b = a then v else f b
def up2 {α : Type} (f : Nat → Nat → α) (a i : Nat) (v : α) : Nat → Nat → α := fun b j => if b = a ∧ j = i then v else f b j
def uFI (h : AH) (f a : Nat) (v : Int32) : AH := (hKd h, hLn h, up2 (hFI h) f a v, hFR h, hEI h, hER h, hEL h, hED h, hSz h)
def uFR (h : AH) (f a : Nat) (v : Option Nat) : AH := (hKd h, hLn h, hFI h, up2 (hFR h) f a v, hEI h, hER h, hEL h, hED h, hSz h)
def uEI (h : AH) (a : Nat) (F : Nat → Int32) : AH := (hKd h, hLn h, hFI h, hFR h, up1 (hEI h) a F, hER h, hEL h, hED h, hSz h)
def uER (h : AH) (a : Nat) (F : Nat → Option Nat) : AH := (hKd h, hLn h, hFI h, hFR h, hEI h, up1 (hER h) a F, hEL h, hED h, hSz h)
def uEL (h : AH) (a : Nat) (F : Nat → Int64) : AH := (hKd h, hLn h, hFI h, hFR h, hEI h, hER h, up1 (hEL h) a F, hED h, hSz h)
def uED (h : AH) (a : Nat) (F : Nat → UInt64) : AH := (hKd h, hLn h, hFI h, hFR h, hEI h, hER h, hEL h, up1 (hED h) a F, hSz h)
def nObj (h : AH) (k : Nat) : AH := (up1 (hKd h) (hSz h) k, hLn h, fun f b => if b = hSz h then 0 else hFI h f b, fun f b => if b = hSz h then none else hFR h f b, hEI h, hER h, hEL h, hED h, hSz h + 1)
def nArr (h : AH) (k n : Nat) : AH := (up1 (hKd h) (hSz h) k, up1 (hLn h) (hSz h) n, hFI h, hFR h, up1 (hEI h) (hSz h) (fun _ => 0), up1 (hER h) (hSz h) (fun _ => none), up1 (hEL h) (hSz h) (fun _ => 0), up1 (hED h) (hSz h) (fun _ => 0), hSz h + 1)
def dupO (h : AH) (k a : Nat) : AH := (up1 (hKd h) (hSz h) k, hLn h, fun f b => if b = hSz h then hFI h f a else hFI h f b, fun f b => if b = hSz h then hFR h f a else hFR h f b, hEI h, hER h, hEL h, hED h, hSz h + 1)
def grw (h : AH) (n : Nat) : AH := (hKd h, hLn h, hFI h, hFR h, hEI h, hER h, hEL h, hED h, n)
theorem uFI_hKd {h : AH} {f a : Nat} {v : Int32} {b : Nat} : hKd (uFI h f a v) b = hKd h b := rfl
theorem uFI_hLn {h : AH} {f a : Nat} {v : Int32} {b : Nat} : hLn (uFI h f a v) b = hLn h b := rfl
theorem uFI_hFI {h : AH} {f a : Nat} {v : Int32} {g b : Nat} : hFI (uFI h f a v) g b = if g = f ∧ b = a then v else hFI h g b := rfl
theorem uFI_hFR {h : AH} {f a : Nat} {v : Int32} {g b : Nat} : hFR (uFI h f a v) g b = hFR h g b := rfl
theorem uFI_hEI {h : AH} {f a : Nat} {v : Int32} {b j : Nat} : hEI (uFI h f a v) b j = hEI h b j := rfl
theorem uFI_hER {h : AH} {f a : Nat} {v : Int32} {b j : Nat} : hER (uFI h f a v) b j = hER h b j := rfl
theorem uFI_hEL {h : AH} {f a : Nat} {v : Int32} {b j : Nat} : hEL (uFI h f a v) b j = hEL h b j := rfl
theorem uFI_hED {h : AH} {f a : Nat} {v : Int32} {b j : Nat} : hED (uFI h f a v) b j = hED h b j := rfl
theorem uFI_hSz {h : AH} {f a : Nat} {v : Int32} : hSz (uFI h f a v) = hSz h := rfl
theorem uFR_hKd {h : AH} {f a : Nat} {v : Option Nat} {b : Nat} : hKd (uFR h f a v) b = hKd h b := rfl
theorem uFR_hLn {h : AH} {f a : Nat} {v : Option Nat} {b : Nat} : hLn (uFR h f a v) b = hLn h b := rfl
theorem uFR_hFI {h : AH} {f a : Nat} {v : Option Nat} {g b : Nat} : hFI (uFR h f a v) g b = hFI h g b := rfl
theorem uFR_hFR {h : AH} {f a : Nat} {v : Option Nat} {g b : Nat} : hFR (uFR h f a v) g b = if g = f ∧ b = a then v else hFR h g b := rfl
theorem uFR_hEI {h : AH} {f a : Nat} {v : Option Nat} {b j : Nat} : hEI (uFR h f a v) b j = hEI h b j := rfl
theorem uFR_hER {h : AH} {f a : Nat} {v : Option Nat} {b j : Nat} : hER (uFR h f a v) b j = hER h b j := rfl
theorem uFR_hEL {h : AH} {f a : Nat} {v : Option Nat} {b j : Nat} : hEL (uFR h f a v) b j = hEL h b j := rfl
theorem uFR_hED {h : AH} {f a : Nat} {v : Option Nat} {b j : Nat} : hED (uFR h f a v) b j = hED h b j := rfl
theorem uFR_hSz {h : AH} {f a : Nat} {v : Option Nat} : hSz (uFR h f a v) = hSz h := rfl
theorem uEI_hKd {h : AH} {a : Nat} {F : Nat → Int32} {b : Nat} : hKd (uEI h a F) b = hKd h b := rfl
theorem uEI_hLn {h : AH} {a : Nat} {F : Nat → Int32} {b : Nat} : hLn (uEI h a F) b = hLn h b := rfl
theorem uEI_hFI {h : AH} {a : Nat} {F : Nat → Int32} {g b : Nat} : hFI (uEI h a F) g b = hFI h g b := rfl
theorem uEI_hFR {h : AH} {a : Nat} {F : Nat → Int32} {g b : Nat} : hFR (uEI h a F) g b = hFR h g b := rfl
theorem uEI_hEI {h : AH} {a : Nat} {F : Nat → Int32} {b j : Nat} : hEI (uEI h a F) b j = if b = a then F j else hEI h b j := by simp only [hEI, uEI, up1]; split <;> rfl
theorem uEI_hER {h : AH} {a : Nat} {F : Nat → Int32} {b j : Nat} : hER (uEI h a F) b j = hER h b j := rfl
theorem uEI_hEL {h : AH} {a : Nat} {F : Nat → Int32} {b j : Nat} : hEL (uEI h a F) b j = hEL h b j := rfl
theorem uEI_hED {h : AH} {a : Nat} {F : Nat → Int32} {b j : Nat} : hED (uEI h a F) b j = hED h b j := rfl
theorem uEI_hSz {h : AH} {a : Nat} {F : Nat → Int32} : hSz (uEI h a F) = hSz h := rfl
theorem uER_hKd {h : AH} {a : Nat} {F : Nat → Option Nat} {b : Nat} : hKd (uER h a F) b = hKd h b := rfl
theorem uER_hLn {h : AH} {a : Nat} {F : Nat → Option Nat} {b : Nat} : hLn (uER h a F) b = hLn h b := rfl
theorem uER_hFI {h : AH} {a : Nat} {F : Nat → Option Nat} {g b : Nat} : hFI (uER h a F) g b = hFI h g b := rfl
theorem uER_hFR {h : AH} {a : Nat} {F : Nat → Option Nat} {g b : Nat} : hFR (uER h a F) g b = hFR h g b := rfl
theorem uER_hEI {h : AH} {a : Nat} {F : Nat → Option Nat} {b j : Nat} : hEI (uER h a F) b j = hEI h b j := rfl
theorem uER_hER {h : AH} {a : Nat} {F : Nat → Option Nat} {b j : Nat} : hER (uER h a F) b j = if b = a then F j else hER h b j := by simp only [hER, uER, up1]; split <;> rfl
theorem uER_hEL {h : AH} {a : Nat} {F : Nat → Option Nat} {b j : Nat} : hEL (uER h a F) b j = hEL h b j := rfl
theorem uER_hED {h : AH} {a : Nat} {F : Nat → Option Nat} {b j : Nat} : hED (uER h a F) b j = hED h b j := rfl
theorem uER_hSz {h : AH} {a : Nat} {F : Nat → Option Nat} : hSz (uER h a F) = hSz h := rfl
theorem uEL_hKd {h : AH} {a : Nat} {F : Nat → Int64} {b : Nat} : hKd (uEL h a F) b = hKd h b := rfl
theorem uEL_hLn {h : AH} {a : Nat} {F : Nat → Int64} {b : Nat} : hLn (uEL h a F) b = hLn h b := rfl
theorem uEL_hFI {h : AH} {a : Nat} {F : Nat → Int64} {g b : Nat} : hFI (uEL h a F) g b = hFI h g b := rfl
theorem uEL_hFR {h : AH} {a : Nat} {F : Nat → Int64} {g b : Nat} : hFR (uEL h a F) g b = hFR h g b := rfl
theorem uEL_hEI {h : AH} {a : Nat} {F : Nat → Int64} {b j : Nat} : hEI (uEL h a F) b j = hEI h b j := rfl
theorem uEL_hER {h : AH} {a : Nat} {F : Nat → Int64} {b j : Nat} : hER (uEL h a F) b j = hER h b j := rfl
theorem uEL_hEL {h : AH} {a : Nat} {F : Nat → Int64} {b j : Nat} : hEL (uEL h a F) b j = if b = a then F j else hEL h b j := by simp only [hEL, uEL, up1]; split <;> rfl
theorem uEL_hED {h : AH} {a : Nat} {F : Nat → Int64} {b j : Nat} : hED (uEL h a F) b j = hED h b j := rfl
theorem uEL_hSz {h : AH} {a : Nat} {F : Nat → Int64} : hSz (uEL h a F) = hSz h := rfl
theorem uED_hKd {h : AH} {a : Nat} {F : Nat → UInt64} {b : Nat} : hKd (uED h a F) b = hKd h b := rfl
theorem uED_hLn {h : AH} {a : Nat} {F : Nat → UInt64} {b : Nat} : hLn (uED h a F) b = hLn h b := rfl
theorem uED_hFI {h : AH} {a : Nat} {F : Nat → UInt64} {g b : Nat} : hFI (uED h a F) g b = hFI h g b := rfl
theorem uED_hFR {h : AH} {a : Nat} {F : Nat → UInt64} {g b : Nat} : hFR (uED h a F) g b = hFR h g b := rfl
theorem uED_hEI {h : AH} {a : Nat} {F : Nat → UInt64} {b j : Nat} : hEI (uED h a F) b j = hEI h b j := rfl
theorem uED_hER {h : AH} {a : Nat} {F : Nat → UInt64} {b j : Nat} : hER (uED h a F) b j = hER h b j := rfl
theorem uED_hEL {h : AH} {a : Nat} {F : Nat → UInt64} {b j : Nat} : hEL (uED h a F) b j = hEL h b j := rfl
theorem uED_hED {h : AH} {a : Nat} {F : Nat → UInt64} {b j : Nat} : hED (uED h a F) b j = if b = a then F j else hED h b j := by simp only [hED, uED, up1]; split <;> rfl
theorem uED_hSz {h : AH} {a : Nat} {F : Nat → UInt64} : hSz (uED h a F) = hSz h := rfl
theorem nObj_hKd {h : AH} {k : Nat} {b : Nat} : hKd (nObj h k) b = if b = (hSz h) then k else hKd h b := rfl
theorem nObj_hLn {h : AH} {k : Nat} {b : Nat} : hLn (nObj h k) b = hLn h b := rfl
theorem nObj_hFI {h : AH} {k : Nat} {g b : Nat} : hFI (nObj h k) g b = if b = hSz h then 0 else hFI h g b := rfl
theorem nObj_hFR {h : AH} {k : Nat} {g b : Nat} : hFR (nObj h k) g b = if b = hSz h then none else hFR h g b := rfl
theorem nObj_hEI {h : AH} {k : Nat} {b j : Nat} : hEI (nObj h k) b j = hEI h b j := rfl
theorem nObj_hER {h : AH} {k : Nat} {b j : Nat} : hER (nObj h k) b j = hER h b j := rfl
theorem nObj_hEL {h : AH} {k : Nat} {b j : Nat} : hEL (nObj h k) b j = hEL h b j := rfl
theorem nObj_hED {h : AH} {k : Nat} {b j : Nat} : hED (nObj h k) b j = hED h b j := rfl
theorem nObj_hSz {h : AH} {k : Nat} : hSz (nObj h k) = hSz h + 1 := rfl
theorem nArr_hKd {h : AH} {k n : Nat} {b : Nat} : hKd (nArr h k n) b = if b = (hSz h) then k else hKd h b := rfl
theorem nArr_hLn {h : AH} {k n : Nat} {b : Nat} : hLn (nArr h k n) b = if b = (hSz h) then n else hLn h b := rfl
theorem nArr_hFI {h : AH} {k n : Nat} {g b : Nat} : hFI (nArr h k n) g b = hFI h g b := rfl
theorem nArr_hFR {h : AH} {k n : Nat} {g b : Nat} : hFR (nArr h k n) g b = hFR h g b := rfl
theorem nArr_hEI {h : AH} {k n : Nat} {b j : Nat} : hEI (nArr h k n) b j = if b = (hSz h) then 0 else hEI h b j := by simp only [hEI, nArr, up1]; split <;> rfl
theorem nArr_hER {h : AH} {k n : Nat} {b j : Nat} : hER (nArr h k n) b j = if b = (hSz h) then none else hER h b j := by simp only [hER, nArr, up1]; split <;> rfl
theorem nArr_hEL {h : AH} {k n : Nat} {b j : Nat} : hEL (nArr h k n) b j = if b = (hSz h) then 0 else hEL h b j := by simp only [hEL, nArr, up1]; split <;> rfl
theorem nArr_hED {h : AH} {k n : Nat} {b j : Nat} : hED (nArr h k n) b j = if b = (hSz h) then 0 else hED h b j := by simp only [hED, nArr, up1]; split <;> rfl
theorem nArr_hSz {h : AH} {k n : Nat} : hSz (nArr h k n) = hSz h + 1 := rfl
theorem dupO_hKd {h : AH} {k a : Nat} {b : Nat} : hKd (dupO h k a) b = if b = (hSz h) then k else hKd h b := rfl
theorem dupO_hLn {h : AH} {k a : Nat} {b : Nat} : hLn (dupO h k a) b = hLn h b := rfl
theorem dupO_hFI {h : AH} {k a : Nat} {g b : Nat} : hFI (dupO h k a) g b = if b = hSz h then hFI h g a else hFI h g b := rfl
theorem dupO_hFR {h : AH} {k a : Nat} {g b : Nat} : hFR (dupO h k a) g b = if b = hSz h then hFR h g a else hFR h g b := rfl
theorem dupO_hEI {h : AH} {k a : Nat} {b j : Nat} : hEI (dupO h k a) b j = hEI h b j := rfl
theorem dupO_hER {h : AH} {k a : Nat} {b j : Nat} : hER (dupO h k a) b j = hER h b j := rfl
theorem dupO_hEL {h : AH} {k a : Nat} {b j : Nat} : hEL (dupO h k a) b j = hEL h b j := rfl
theorem dupO_hED {h : AH} {k a : Nat} {b j : Nat} : hED (dupO h k a) b j = hED h b j := rfl
theorem dupO_hSz {h : AH} {k a : Nat} : hSz (dupO h k a) = hSz h + 1 := rfl
theorem grw_hKd {h : AH} {n : Nat} {b : Nat} : hKd (grw h n) b = hKd h b := rfl
theorem grw_hLn {h : AH} {n : Nat} {b : Nat} : hLn (grw h n) b = hLn h b := rfl
theorem grw_hFI {h : AH} {n : Nat} {g b : Nat} : hFI (grw h n) g b = hFI h g b := rfl
theorem grw_hFR {h : AH} {n : Nat} {g b : Nat} : hFR (grw h n) g b = hFR h g b := rfl
theorem grw_hEI {h : AH} {n : Nat} {b j : Nat} : hEI (grw h n) b j = hEI h b j := rfl
theorem grw_hER {h : AH} {n : Nat} {b j : Nat} : hER (grw h n) b j = hER h b j := rfl
theorem grw_hEL {h : AH} {n : Nat} {b j : Nat} : hEL (grw h n) b j = hEL h b j := rfl
theorem grw_hED {h : AH} {n : Nat} {b j : Nat} : hED (grw h n) b j = hED h b j := rfl
theorem grw_hSz {h : AH} {n : Nat} : hSz (grw h n) = n := rfl
theorem uEI_self {h : AH} {a : Nat} {F : Nat → Int32} : hEI (uEI h a F) a = F := if_pos rfl
theorem uEI_other {h : AH} {a b : Nat} {F : Nat → Int32} (n : b ≠ a) : hEI (uEI h a F) b = hEI h b := if_neg n
theorem uER_self {h : AH} {a : Nat} {F : Nat → Option Nat} : hER (uER h a F) a = F := if_pos rfl
theorem uER_other {h : AH} {a b : Nat} {F : Nat → Option Nat} (n : b ≠ a) : hER (uER h a F) b = hER h b := if_neg n
theorem uEI_eta {h : AH} {a : Nat} : uEI h a (hEI h a) = h := by
  simp only [uEI, hKd, hLn, hFI, hFR, hEI, hER, hEL, hED, hSz]
  have e : up1 h.2.2.2.2.1 a (h.2.2.2.2.1 a) = h.2.2.2.2.1 := by
    show (fun b => if b = a then h.2.2.2.2.1 a else h.2.2.2.2.1 b) = h.2.2.2.2.1
    funext b
    split
    · next q => rw [q]
    · rfl
  rw [e]
theorem uEI_uEI {h : AH} {a : Nat} {F F2 : Nat → Int32} : uEI (uEI h a F) a F2 = uEI h a F2 := by
  simp only [uEI, hKd, hLn, hFI, hFR, hEI, hER, hEL, hED, hSz]
  have e : up1 (up1 h.2.2.2.2.1 a F) a F2 = up1 h.2.2.2.2.1 a F2 := by
    funext b
    simp only [up1]
    split <;> rfl
  rw [e]
/-- two heaps agree at an address -/
def Eqa (h k : AH) (a : Nat) : Prop := hKd h a = hKd k a ∧ hLn h a = hLn k a ∧ (∀ f, hFI h f a = hFI k f a) ∧ (∀ f, hFR h f a = hFR k f a) ∧ hEI h a = hEI k a ∧ hER h a = hER k a ∧ hEL h a = hEL k a ∧ hED h a = hED k a
theorem Eqa.rf {h : AH} {a : Nat} : Eqa h h a := ⟨rfl, rfl, fun _ => rfl, fun _ => rfl, rfl, rfl, rfl, rfl⟩
theorem Eqa.tr {h k m : AH} {a : Nat} (x : Eqa h k a) (y : Eqa k m a) : Eqa h m a := ⟨x.1.trans y.1, x.2.1.trans y.2.1, fun f => (x.2.2.1 f).trans (y.2.2.1 f), fun f => (x.2.2.2.1 f).trans (y.2.2.2.1 f), x.2.2.2.2.1.trans y.2.2.2.2.1, x.2.2.2.2.2.1.trans y.2.2.2.2.2.1, x.2.2.2.2.2.2.1.trans y.2.2.2.2.2.2.1, x.2.2.2.2.2.2.2.trans y.2.2.2.2.2.2.2⟩
theorem Eqa.sy {h k : AH} {a : Nat} (x : Eqa h k a) : Eqa k h a := ⟨x.1.symm, x.2.1.symm, fun f => (x.2.2.1 f).symm, fun f => (x.2.2.2.1 f).symm, x.2.2.2.2.1.symm, x.2.2.2.2.2.1.symm, x.2.2.2.2.2.2.1.symm, x.2.2.2.2.2.2.2.symm⟩
theorem Eqa.uFI {h : AH} {f a : Nat} {v : Int32} {b : Nat} (nq : b ≠ a) : Eqa (uFI h f a v) h b := ⟨rfl, rfl, fun g => if_neg (fun z => nq z.2), fun _ => rfl, rfl, rfl, rfl, rfl⟩
theorem Eqa.uFR {h : AH} {f a : Nat} {v : Option Nat} {b : Nat} (nq : b ≠ a) : Eqa (uFR h f a v) h b := ⟨rfl, rfl, fun _ => rfl, fun g => if_neg (fun z => nq z.2), rfl, rfl, rfl, rfl⟩
theorem Eqa.uEI {h : AH} {a : Nat} {F : Nat → Int32} {b : Nat} (nq : b ≠ a) : Eqa (uEI h a F) h b := ⟨rfl, rfl, fun _ => rfl, fun _ => rfl, if_neg nq, rfl, rfl, rfl⟩
theorem Eqa.uER {h : AH} {a : Nat} {F : Nat → Option Nat} {b : Nat} (nq : b ≠ a) : Eqa (uER h a F) h b := ⟨rfl, rfl, fun _ => rfl, fun _ => rfl, rfl, if_neg nq, rfl, rfl⟩
theorem Eqa.uEL {h : AH} {a : Nat} {F : Nat → Int64} {b : Nat} (nq : b ≠ a) : Eqa (uEL h a F) h b := ⟨rfl, rfl, fun _ => rfl, fun _ => rfl, rfl, rfl, if_neg nq, rfl⟩
theorem Eqa.uED {h : AH} {a : Nat} {F : Nat → UInt64} {b : Nat} (nq : b ≠ a) : Eqa (uED h a F) h b := ⟨rfl, rfl, fun _ => rfl, fun _ => rfl, rfl, rfl, rfl, if_neg nq⟩
theorem Eqa.nObj {h : AH} {k : Nat} {b : Nat} (nq : b ≠ hSz h) : Eqa (nObj h k) h b := ⟨if_neg nq, rfl, fun g => if_neg nq, fun g => if_neg nq, rfl, rfl, rfl, rfl⟩
theorem Eqa.nArr {h : AH} {k n : Nat} {b : Nat} (nq : b ≠ hSz h) : Eqa (nArr h k n) h b := ⟨if_neg nq, if_neg nq, fun _ => rfl, fun _ => rfl, if_neg nq, if_neg nq, if_neg nq, if_neg nq⟩
theorem Eqa.dupO {h : AH} {k a : Nat} {b : Nat} (nq : b ≠ hSz h) : Eqa (dupO h k a) h b := ⟨if_neg nq, rfl, fun g => if_neg nq, fun g => if_neg nq, rfl, rfl, rfl, rfl⟩
theorem Eqa.grw {h : AH} {n : Nat} {b : Nat} : Eqa (grw h n) h b := Eqa.rf
/-! THE CLASSES: ci + 1 is the kind of an object of class ci (0 Must, 1 Mill, 2 Quern, 3 Shelf, 4 Batch, 5 Jar, 6 Jar1, 7 Wish, 8 Change, 9 Parser, 10 Refused, 11 Syntax, 12 Model, 13 AList, 14 Itr, 15 Deque, 16 SB, 17 Str), + 100 where it is never written; 201 + t the kind of an array of type t (0 int, 1 byte, 2 char, 3 bool, 4 long, 5 double, 6 Obj, 7 QuernA, 8 ThingA, 9 BatchA, 10 JarA, 11 StrA), 301 + t where it is never written -/
def xcl : List vw_C := [(RX1, TX1, 8), (RX2, TX2, 9), (RX3, TX3, 4), (RX4, TX4, 2), (RX9, TX9, 8), (RX11, TX11, 7), (RX12, TX12, 1), (RX14, TX14, 5), (RX6, TX6, 2), (RX16, TX16, 3), (RX7, TX7, 8), (RX17, TX17, 7), (RX5, TX5, 20), (RJ2, TJ2, 3), (RJ12, TJ12, 4), (RJ3, TJ3, 3), (RJ5, TJ5, 4), (RJ6, TJ6, 4)]
def xfd : List (List Nat) := [[501, 502, 503, 504, 505, 506, 1, 507], [508, 509, 510, 511, 512, 513, 2, 3, 4], [5, 6, 7, 8], [514, 9], [10, 11, 12, 13, 14, 15, 16, 17], [10, 11, 18, 19, 20, 21, 22], [515], [10, 11, 23, 24, 25], [516, 517], [518, 519, 26], [520, 521, 522, 523, 524, 27, 28, 29], [520, 521, 522, 523, 524, 27, 30], [525, 526, 527, 528, 529, 31, 32, 33, 34, 35, 36, 530, 37, 38, 39, 531, 40, 41, 532, 42], [43, 533, 44], [45, 46, 47, 534], [535, 48, 49], [536, 50, 51, 52], [537, 53, 54, 55]]
def fid (ci k : Nat) : Nat := (xfd.getD ci []).getD k 0
def xat : List FieldType := [.int, .byte, .char, .boolean, .long, .double, .object "java/lang/Object", .object "MustardMill$Quern", .object "MustardMill$Thing", .object "MustardMill$Batch", .object "MustardMill$Jar", .object "java/lang/String"]
def fv (h : AH) (f a : Nat) : Value := if f < 500 then .int (hFI h f a) else va_rf (hFR h f a)
def ev (h : AH) (t a j : Nat) : Value := if t < 4 then .int (hEI h a j) else if t = 4 then .long (hEL h a j) else if t = 5 then .double (hED h a j) else va_rf (hER h a j)
theorem fv_eqa {h k : AH} {a : Nat} (e : Eqa h k a) (f : Nat) : fv h f a = fv k f a := by
  unfold fv
  rw [e.2.2.1 f, e.2.2.2.1 f]
theorem ev_eqa {h k : AH} {a : Nat} (e : Eqa h k a) (t : Nat) : ev h t a = ev k t a := by
  funext j
  unfold ev
  rw [e.2.2.2.2.1, e.2.2.2.2.2.1, e.2.2.2.2.2.2.1, e.2.2.2.2.2.2.2]
/-- what is fixed for the run: the launch, the numbers of classes, slots, array classes, the constants' addresses, the heap at the start and its picture -/
abbrev GG : Type := Launch × (Nat → ClassId) × (Nat → Nat → Nat) × (Nat → ClassId) × (Nat → Nat) × Heap × AH × (Nat → Option Nat)
def gl (G : GG) : Launch := G.1
def gC (G : GG) : Nat → ClassId := G.2.1
def gI (G : GG) : Nat → Nat → Nat := G.2.2.1
def gA (G : GG) : Nat → ClassId := G.2.2.2.1
def gS (G : GG) : Nat → Nat := G.2.2.2.2.1
def gH (G : GG) : Heap := G.2.2.2.2.2.1
def gB (G : GG) : AH := G.2.2.2.2.2.2.1
def gT (G : GG) : Nat → Option Nat := G.2.2.2.2.2.2.2
def gz (G : GG) : Nat := (gH G).size
def Cel (G : GG) (h : AH) (a : Nat) (H : Heap) : Prop :=
  (∀ ci, ci < 18 → (hKd h a = ci + 1 ∨ hKd h a = ci + 101) → ∃ r, xcl[ci]? = some r ∧ t_OB a (gC G ci) r.2.2 (gI G ci) H (fun k => fv h (fid ci k) a)) ∧
  (∀ t, t < 12 → (hKd h a = t + 201 ∨ hKd h a = t + 301) → H[a]? = some (arrV (gA G t) (hLn h a) (ev h t a))) ∧
  (∀ ci r, xcl[ci]? = some r → hKd h a = ci + 1 → ci < 18 → ∀ cell : Cell, H[a]? = some cell → cell.slots.size = r.2.2)
/-- may be written -/
def wk (k : Nat) : Prop := (0 < k ∧ k < 100) ∨ (200 < k ∧ k < 300)
def Rep (G : GG) (h : AH) (H : Heap) : Prop :=
  H.size = hSz h ∧ (∀ a, Cel G h a H) ∧ (∀ a, hSz h ≤ a → hKd h a = 0) ∧ (∀ a, a < gz G → H[a]? = (gH G)[a]?) ∧ gz G ≤ hSz h ∧ (∀ a, a < gz G → Eqa h (gB G) a) ∧ (∀ a, wk (hKd h a) → gz G ≤ a)
theorem Cel.kept {G : GG} {h k : AH} {a : Nat} {H H1 : Heap} (c : Cel G h a H) (e : Eqa k h a) (hq : H1[a]? = H[a]?) : Cel G k a H1 := by
  refine ⟨fun ci hci hk => ?_, fun t ht hk => ?_, fun ci r h1 h2 h3 cell h4 => ?_⟩
  · rw [e.1] at hk
    obtain ⟨r, h1, h2⟩ := c.1 ci hci hk
    exact ⟨r, h1, (h2.kept hq).to (fun j _ => (fv_eqa e _).symm)⟩
  · rw [e.1] at hk
    rw [e.2.1, ev_eqa e]
    exact hq.trans (c.2.1 t ht hk)
  · rw [e.1] at h2
    exact c.2.2 ci r h1 h2 h3 cell (hq.symm.trans h4)
theorem Cel.none {G : GG} {h : AH} {a : Nat} {H : Heap} (e : hKd h a = 0) : Cel G h a H :=
  ⟨fun ci _ hk => by omega, fun t _ hk => by omega, fun ci r _ hk => by omega⟩
/-- a cell that may be written is written -/
theorem Rep.put {G : GG} {h k : AH} {H H1 : Heap} {a : Nat} (hR : Rep G h H) (z : H1.size = H.size) (oq : ∀ q : Nat, q ≠ a → H1[q]? = H[q]?) (hw : wk (hKd h a)) (hk : hKd k = hKd h) (hs : hSz k = hSz h) (he : ∀ q, q ≠ a → Eqa k h q) (hc : Cel G k a H1) : Rep G k H1 := by
  obtain ⟨r1, r2, r3, r4, r5, r6, r7⟩ := hR
  have hza := r7 a hw
  refine ⟨by rw [z, r1, hs], fun q => ?_, fun q hq => by rw [hk]; exact r3 q (by rw [← hs]; exact hq), fun q hq => ?_, by rw [hs]; exact r5, fun q hq => ?_, fun q hq => r7 q (by rw [← hk]; exact hq)⟩
  · by_cases e : q = a
    · subst e; exact hc
    · exact (r2 q).kept (he q e) (oq q e)
  · rw [oq q (by omega)]; exact r4 q hq
  · exact (he q (by omega)).tr (r6 q hq)
/-- a cell is made -/
theorem Rep.push {G : GG} {h k : AH} {H H1 : Heap} (hR : Rep G h H) (z : H1.size = H.size + 1) (oq : ∀ q : Nat, q < H.size → H1[q]? = H[q]?) (hs : hSz k = hSz h + 1) (he : ∀ q, q ≠ hSz h → Eqa k h q) (hc : Cel G k (hSz h) H1) : Rep G k H1 := by
  obtain ⟨r1, r2, r3, r4, r5, r6, r7⟩ := hR
  refine ⟨by rw [z, r1, hs], fun q => ?_, fun q hq => ?_, fun q hq => ?_, by omega, fun q hq => ?_, fun q hq => ?_⟩
  · by_cases e : q = hSz h
    · subst e; exact hc
    · rcases Nat.lt_or_ge q (hSz h) with l | l
      · exact (r2 q).kept (he q e) (oq q (by omega))
      · exact Cel.none (by rw [(he q e).1]; exact r3 q l)
  · rw [(he q (by omega)).1]; exact r3 q (by omega)
  · rw [oq q (by omega)]; exact r4 q hq
  · exact (he q (by omega)).tr (r6 q hq)
  · by_cases e : q = hSz h
    · omega
    · exact r7 q (by rw [← (he q e).1]; exact hq)
/-- the heap has grown by cells of which nothing is said -/
theorem Rep.grow {G : GG} {h : AH} {H H1 : Heap} (hR : Rep G h H) (z : H.size ≤ H1.size) (oq : ∀ q : Nat, q < H.size → H1[q]? = H[q]?) : Rep G (grw h H1.size) H1 := by
  obtain ⟨r1, r2, r3, r4, r5, r6, r7⟩ := hR
  have hs : hSz (grw h H1.size) = H1.size := rfl
  refine ⟨rfl, fun q => ?_, fun q hq => ?_, fun q hq => ?_, by omega, fun q hq => r6 q hq, fun q hq => r7 q hq⟩
  · rcases Nat.lt_or_ge q (hSz h) with l | l
    · exact (r2 q).kept Eqa.rf (oq q (by omega))
    · exact Cel.none (r3 q l)
  · exact r3 q (by omega)
  · rw [oq q (by omega)]; exact r4 q hq

