/-! FLOAT ROWS of X, and that a division of counts is no NaN; printed by tools/mkfl.py -/
set_option maxRecDepth 100000
theorem n64_t : ∀ a < 100, ∀ b < 20, vf_n64 (FP.ddiv (FP.i2d (nI a)) (FP.i2d (nI (b + 1)))) := by
  unfold vf_n64
  decide +kernel
theorem n32_t : ∀ a < 21, ∀ b < 20, vf_n32 (FP.fdiv (FP.i2f (nI a)) (FP.i2f (nI (b + 1)))) ∧ vf_n64 (FP.f2d (FP.fdiv (FP.i2f (nI a)) (FP.i2f (nI (b + 1))))) := by
  unfold vf_n64 vf_n32
  decide +kernel
/-- outside of a table: it is none of its values -/
theorem ts_out {x : Int32} (lo hi : Nat) (hh : hi < 2147483648) (h : ∀ k, lo ≤ k → k ≤ hi → ¬ x = nI k) : x.toInt < (lo : Int) ∨ (hi : Int) < x.toInt := by
  rcases Int.lt_or_le x.toInt (lo : Int) with l | l
  · exact Or.inl l
  · rcases Int.lt_or_le (hi : Int) x.toInt with r | r
    · exact Or.inr r
    · exfalso
      obtain ⟨j, hj, rfl⟩ := nI_of (x := x) (by rw [Int32.lt_iff_toInt_lt]; have : (0 : Int32).toInt = 0 := by decide
                                                omega)
      rw [nI_toInt hj] at l r
      exact h j (by omega) (by omega) rfl
section FR
variable {G : GG} {c : CX} {K : KX} {d mc ms : Nat} {Q : OC → AH → Prop} {bc bs : Nat} {h : AH} {pc : Nat} {lv : List (Nat × Value)} {st : List Value}

theorem x_dconst0  (hd : decode (kc K) pc = .ok (.dconst 0, 1)) (k : X G c K d mc ms Q bc bs h (pc + 1) lv (.double FP.dconst0 :: st)) : X G c K d mc ms Q bc bs h pc lv (st) := fun C H locs cells slots ls A hl => lv_dconst0 C.1 C.2.1 hd  (k C H locs cells slots ls A hl)
theorem x_fconst0  (hd : decode (kc K) pc = .ok (.fconst 0, 1)) (k : X G c K d mc ms Q bc bs h (pc + 1) lv (.float FP.fconst0 :: st)) : X G c K d mc ms Q bc bs h pc lv (st) := fun C H locs cells slots ls A hl => lv_fconst0 C.1 C.2.1 hd  (k C H locs cells slots ls A hl)
theorem x_i2d {x : Int32} (hd : decode (kc K) pc = .ok (.i2d, 1)) (k : X G c K d mc ms Q bc bs h (pc + 1) lv (.double (FP.i2d x) :: st)) : X G c K d mc ms Q bc bs h pc lv (.int x :: st) := fun C H locs cells slots ls A hl => lv_i2d C.1 C.2.1 hd  (k C H locs cells slots ls A hl)
theorem x_i2f {x : Int32} (hd : decode (kc K) pc = .ok (.i2f, 1)) (k : X G c K d mc ms Q bc bs h (pc + 1) lv (.float (FP.i2f x) :: st)) : X G c K d mc ms Q bc bs h pc lv (.int x :: st) := fun C H locs cells slots ls A hl => lv_i2f C.1 C.2.1 hd  (k C H locs cells slots ls A hl)
theorem x_ddiv {x y : UInt64} (hne : vf_n64 (FP.ddiv x y)) (hd : decode (kc K) pc = .ok (.ddiv, 1)) (k : X G c K d mc ms Q bc bs h (pc + 1) lv (.double (FP.ddiv x y) :: st)) : X G c K d mc ms Q bc bs h pc lv (.double y :: .double x :: st) := fun C H locs cells slots ls A hl => lv_ddiv C.1 C.2.1 hd hne (k C H locs cells slots ls A hl)
theorem x_fdiv {x y : UInt32} (hne : vf_n32 (FP.fdiv x y)) (hd : decode (kc K) pc = .ok (.fdiv, 1)) (k : X G c K d mc ms Q bc bs h (pc + 1) lv (.float (FP.fdiv x y) :: st)) : X G c K d mc ms Q bc bs h pc lv (.float y :: .float x :: st) := fun C H locs cells slots ls A hl => lv_fdiv C.1 C.2.1 hd hne (k C H locs cells slots ls A hl)
theorem x_f2d {x : UInt32} (hne : vf_n64 (FP.f2d x)) (hd : decode (kc K) pc = .ok (.f2d, 1)) (k : X G c K d mc ms Q bc bs h (pc + 1) lv (.double (FP.f2d x) :: st)) : X G c K d mc ms Q bc bs h pc lv (.float x :: st) := fun C H locs cells slots ls A hl => lv_f2d C.1 C.2.1 hd hne (k C H locs cells slots ls A hl)
theorem x_dcmp {x y : UInt64} {op : CmpOp} (hd : decode (kc K) pc = .ok (.dcmp op, 1)) (k : X G c K d mc ms Q bc bs h (pc + 1) lv (.int (Op.cmpValue (FP.dcmp x y) op) :: st)) : X G c K d mc ms Q bc bs h pc lv (.double y :: .double x :: st) := fun C H locs cells slots ls A hl => lv_dcmp C.1 C.2.1 hd  (k C H locs cells slots ls A hl)
end FR
