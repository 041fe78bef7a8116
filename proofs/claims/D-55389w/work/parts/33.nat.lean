/-! ROWS over the abstract heap: arraycopy, clone, getClass, class constants, instanceof, casts of arrays; printed by tools/mknat.py -/
set_option maxRecDepth 100000
/-- a cell is made that is the array a once more -/
def cpA (h : AH) (t a : Nat) : AH := uER (uEI (nArr h (t + 201) (hLn h a)) (hSz h) (hEI h a)) (hSz h) (hER h a)
theorem inj_no : ∀ n : Nat, ∀ f : Nat → Nat, (∀ k, k < n + 1 → f k < n) → (∀ a b, a < n + 1 → b < n + 1 → a ≠ b → f a ≠ f b) → False := by
  intro n
  induction n with
  | zero => intro f h1 _; exact absurd (h1 0 (by omega)) (by omega)
  | succ n ih =>
    intro f h1 h2
    refine ih (fun k => if f k > f (n + 1) then f k - 1 else f k) (fun k hk => ?_) (fun a b ha hb hab => ?_)
    · have e1 := h1 k (by omega)
      have e2 := h1 (n + 1) (by omega)
      have e3 := h2 k (n + 1) (by omega) (by omega) (by omega)
      show (if f k > f (n + 1) then f k - 1 else f k) < n
      split <;> omega
    · have e1 := h2 a (n + 1) (by omega) (by omega) (by omega)
      have e2 := h2 b (n + 1) (by omega) (by omega) (by omega)
      have e3 := h2 a b (by omega) (by omega) hab
      show (if f a > f (n + 1) then f a - 1 else f a) ≠ (if f b > f (n + 1) then f b - 1 else f b)
      split <;> split <;> omega
theorem inj_sur {n : Nat} {f : Nat → Nat} (h1 : ∀ k, k < n → f k < n) (h2 : ∀ a b, a < n → b < n → a ≠ b → f a ≠ f b) {i : Nat} (hi : i < n) : ∃ k, k < n ∧ f k = i := by
  by_cases hx : ∃ k, k < n ∧ f k = i
  · exact hx
  · exfalso
    have h3 : ∀ k, k < n → f k ≠ i := fun k hk e => hx ⟨k, hk, e⟩
    cases n with
    | zero => omega
    | succ n =>
      refine inj_no n (fun k => if f k > i then f k - 1 else f k) (fun k hk => ?_) (fun a b ha hb hab => ?_)
      · have e1 := h1 k hk
        have e2 := h3 k hk
        show (if f k > i then f k - 1 else f k) < n
        split <;> omega
      · have e1 := h3 a ha
        have e2 := h3 b hb
        have e3 := h2 a b ha hb hab
        show (if f a > i then f a - 1 else f a) ≠ (if f b > i then f b - 1 else f b)
        split <;> split <;> omega
theorem ev_i {k : AH} {t a j : Nat} (h : t < 4) : ev k t a j = .int (hEI k a j) := by unfold ev; rw [if_pos h]
theorem ev_fI {k : AH} {t a : Nat} (h : t < 4) : ev k t a = fun j => .int (hEI k a j) := funext fun j => ev_i h
theorem ev_fR {k : AH} {t a : Nat} (h : 5 < t) : ev k t a = fun j => va_rf (hER k a j) := funext fun j => ev_q h
def Ncl (s : State) (c : ClassId) : Prop := ∀ n, ∀ x ∈ c :: s.vm.superclassesAux n c, ((s.vm.classes[x]?).any fun x => x.name == "java/lang/ClassLoader" && x.loader.isNone) = false
theorem ncl_nm {s : State} {nm : String} (hne : nm ≠ "java/lang/ClassLoader") {c : ClassId} (hc : s.vm.findClass nm = some c) : ((s.vm.classes[c]?).any fun x => x.name == "java/lang/ClassLoader" && x.loader.isNone) = false := by
  obtain ⟨k, h1, h2⟩ := Vm.findClass_spec hc
  rw [h1, Option.any_some, h2]
  simp [hne]
theorem ncl_top {s : State} {A : Array Value} {nm : String} (h : (Cond.noSuperclass nm).before A s = true) (hne : nm ≠ "java/lang/ClassLoader") {c : ClassId} (hc : s.vm.findClass nm = some c) : Ncl s c := by
  obtain ⟨c', k, h1, h2, h3, -⟩ := Cond.noSuperclass_spec h
  cases Option.some.inj (hc.symm.trans h1)
  intro n x hx
  have e : s.vm.superclassesAux n c = [] := by
    cases n with
    | zero => rfl
    | succ n =>
      unfold Vm.superclassesAux
      rw [h2, Option.bind_some, h3]
  rw [e] at hx
  rw [List.mem_singleton.mp hx]
  exact ncl_nm hne hc
theorem ncl_step {s : State} {A : Array Value} {nm sup : String} (h : (Cond.superclass nm sup).before A s = true) (hne : nm ≠ "java/lang/ClassLoader") {c : ClassId} (hc : s.vm.findClass nm = some c) (hs : ∀ q, s.vm.findClass sup = some q → Ncl s q) : Ncl s c := by
  obtain ⟨q, k, kp, h1, h2, h3, h4, -⟩ := Cond.superclass_spec hc h
  intro n x hx
  rcases List.mem_cons.mp hx with e | e
  · rw [e]; exact ncl_nm hne hc
  · cases n with
    | zero => cases e
    | succ n =>
      have e1 : s.vm.superclassesAux (n + 1) c = q :: s.vm.superclassesAux n q := by
        show (match s.vm.classes[c]?.bind (·.super) with
          | some p => p :: s.vm.superclassesAux n p
          | none => []) = _
        rw [h2, Option.bind_some, h4]
      rw [e1] at e
      exact hs q h1 n x e
theorem Ncl.no {s : State} {c : ClassId} (h : Ncl s c) : s.vm.clonesLoader c = false := by
  unfold Vm.clonesLoader
  have e : ((c :: s.vm.superclasses c).any fun c => (s.vm.classes[c]?).any fun x => x.name == "java/lang/ClassLoader" && x.loader.isNone) = false := by
    rw [List.any_eq_false]
    intro x hx
    rw [h _ x hx]
    decide
  rw [e, Bool.and_false]
section NAT
variable {G : GG} {c : CX} {K : KX} {d mc ms : Nat} {Q : OC → AH → Prop} {bc bs : Nat} {h : AH} {pc : Nat} {lv : List (Nat × Value)} {st : List Value}
theorem nI_toInt' {n : Nat} (h : n < 2147483648) : (nI n).toInt = (n : Int) := nI_toInt h
/-- System.arraycopy of bytes -/
theorem x_acopyB {a0 a sp dp n idx : Nat} {xs xd xn : Int32} (es : xs = nI sp) (ed : xd = nI dp) (en : xn = nI n) (w1 : Cond.methodLink (ky K).cls idx arraycopyName ∈ lw_all) (w2 : Cond.native arraycopyName ∈ lw_all) (w3 : Cond.static arraycopyName ∈ lw_all) (w4 : Cond.initialized "java/lang/System" ∈ lw_all)
    (hk0 : kA 1 (hKd h a0)) (hk1 : hKd h a = 202) (h31 : hLn h a0 < 2147483648 ∧ hLn h a < 2147483648) (h4 : sp + n ≤ hLn h a0) (h5 : dp + n ≤ hLn h a) (hfit : ∀ i, i < n → fits .byte (.int (hEI h a0 (sp + i))) = true) (hD : 1 ≤ d) (hst : (st.map fun v => v.category).sum ≤ 8)
    (hd : decode (kc K) pc = .ok (.invokestatic idx, 3)) (kk : X G c K d mc ms Q bc bs (uEI h a (va_cpy (hEI h a0) (hEI h a) sp dp n)) (pc + 3) lv st) : X G c K d mc ms Q bc bs h pc lv (.int xn :: .int xd :: .ref a :: .int xs :: .ref a0 :: st) := by
  intro B H locs cells slots ls A hls T hT X0
  subst es; subst ed; subst en
  have hKs := B.2.2.2.2.2.2.2.1
  have hts := B.2.2.2.2.2.2.1
  have hc0 := A.1.arr (by decide) hk0
  have hc1 := A.1.arr (t := 1) (by decide) (Or.inl hk1)
  rw [ev_fI (by decide)] at hc0 hc1
  have es := nI_clamp (n := sp) (by omega)
  have ed := nI_clamp (n := dp) (by omega)
  have en := nI_clamp (n := n) (by omega)
  obtain ⟨-, k1, hk1', cm1, hkk1⟩ := (xtys_at hKs 1 rfl).1 0 (fun _ => .null)
  obtain ⟨vm', X', step⟩ := X0.arraycopy B.1 B.2.2.2.2.2.1 (hts _ w1) (hts _ w2) (hts _ w3) (hts _ w4) (src := a0) (dst := a) (cs := arrV (gA G 1) (hLn h a0) (fun j => .int (hEI h a0 j))) (cd := arrV (gA G 1) (hLn h a) (fun j => .int (hEI h a j))) (srcPos := nI sp) (destPos := nI dp) (n := nI n) (by rw [hT]; exact hc0) (by rw [hT]; exact hc1)
    (fun _ h => by cases h) (fun _ h => by cases h) (fun h => by cases h) (fun h => by cases h) hk1' hk1' hkk1 hkk1 (by decide) (nI_pos (by omega)) (nI_pos (by omega)) (nI_pos (by omega))
    (by rw [nI_toInt' (by omega), nI_toInt' (by omega), arrV_size]; omega)
    (by rw [nI_toInt' (by omega), nI_toInt' (by omega), arrV_size]; omega)
    (fun vm₁ _ i hi => by
      rw [es]
      rw [en] at hi
      have e : (arrV (gA G 1) (hLn h a0) (fun j => .int (hEI h a0 j))).slots.getD (sp + i) .null = .int (hEI h a0 (sp + i)) := by
        rw [Array.getD_eq_getD_getElem?, arrV_read _ _ (by omega)]
        rfl
      refine ⟨?_, ?_⟩
      · rw [e]; exact hfit i hi
      · rw [e]; exact trivial)
    (g := F0 (cxm c) pc ls (.int (nI n) :: .int (nI dp) :: .ref a :: .int (nI sp) :: .ref a0 :: st)) rfl (hls.1.trans B.2.2.2.2.1.symm) (rest := st) rfl (by rw [B.2.1]; exact hd) hD (by
      have hw : nativeFrameWords "java/lang/System" "arraycopy" 5 = 7 := by decide
      show 2 * 0 + _ + _ ≤ 64 * d
      omega)
  have e1 : copied (arrV (gA G 1) (hLn h a0) (fun j => .int (hEI h a0 j))) (arrV (gA G 1) (hLn h a) (fun j => .int (hEI h a j))) (nI sp) (nI dp) (nI n) = arrV (gA G 1) (hLn h a) (fun j => .int (va_cpy (hEI h a0) (hEI h a) sp dp n j)) := by
    unfold copied
    rw [es, ed, en]
    exact va_copied (fun z => .int z) _ _ _ _ h4
  rw [e1] at X' step
  have hl : a < H.size := (Array.getElem?_eq_some_iff.mp hc1).1
  have hwk : wk (hKd h a) := Or.inr (by omega)
  obtain ⟨t, b1, b2⟩ := kk B (H.setIfInBounds a (arrV (gA G 1) (hLn h a) (fun j => .int (va_cpy (hEI h a0) (hEI h a) sp dp n j)))) _ cells slots ls ⟨A.1.put (a := a) (by simp) (fun q hq => by simp [Array.getElem?_setIfInBounds, Ne.symm hq]) hwk rfl rfl (fun q hq => Eqa.uEI hq) (Cel.arr (t := 1) (Or.inl hk1) (by decide) (by
      rw [ev_fI (by decide)]
      show (H.setIfInBounds a _)[a]? = some (arrV (gA G 1) (hLn h a) _)
      rw [show (hEI (uEI h a (va_cpy (hEI h a0) (hEI h a) sp dp n)) a) = va_cpy (hEI h a0) (hEI h a) sp dp n from uEI_self]
      simp [Array.getElem?_setIfInBounds, hl])), fun q hq => by
      rcases List.mem_append.mp hq with m | m
      · exact A.2.1 q m
      · obtain ⟨z, -, hz⟩ := List.mem_map.mp m
        rw [← hz]
        exact A.1.2.2.2.2.2.2 a hwk, A.2.2.1, A.2.2.2.1, by simp; exact A.2.2.2.2⟩ hls _ (by rw [← hT]; rfl) X'
  exact ⟨t, step t b1, b2⟩
/-- System.arraycopy of references into an Object[] -/
theorem x_acopyQ {a0 a sp dp n idx : Nat} {xs xd xn : Int32} (es : xs = nI sp) (ed : xd = nI dp) (en : xn = nI n) (w1 : Cond.methodLink (ky K).cls idx arraycopyName ∈ lw_all) (w2 : Cond.native arraycopyName ∈ lw_all) (w3 : Cond.static arraycopyName ∈ lw_all) (w4 : Cond.initialized "java/lang/System" ∈ lw_all)
    (hk0 : kA 6 (hKd h a0)) (hk1 : hKd h a = 207) (h31 : hLn h a0 < 2147483648 ∧ hLn h a < 2147483648) (h4 : sp + n ≤ hLn h a0) (h5 : dp + n ≤ hLn h a) (hel : ∀ i, i < n → ∀ y, hER h a0 (sp + i) = some y → ∃ (ci : Nat) (C : String) (T : u_T) (N : Nat), CLk ci C T N ∧ Cond.castable C "java/lang/Object" ∈ lw_tbl ∧ kO ci (hKd h y)) (hD : 1 ≤ d) (hst : (st.map fun v => v.category).sum ≤ 8)
    (hd : decode (kc K) pc = .ok (.invokestatic idx, 3)) (kk : X G c K d mc ms Q bc bs (uER h a (va_cpy (hER h a0) (hER h a) sp dp n)) (pc + 3) lv st) : X G c K d mc ms Q bc bs h pc lv (.int xn :: .int xd :: .ref a :: .int xs :: .ref a0 :: st) := by
  intro B H locs cells slots ls A hls T hT X0
  subst es; subst ed; subst en
  have hKs := B.2.2.2.2.2.2.2.1
  have hts := B.2.2.2.2.2.2.1
  have hc0 := A.1.arr (by decide) hk0
  have hc1 := A.1.arr (t := 6) (by decide) (Or.inl hk1)
  rw [ev_fR (by decide)] at hc0 hc1
  have es := nI_clamp (n := sp) (by omega)
  have ed := nI_clamp (n := dp) (by omega)
  have en := nI_clamp (n := n) (by omega)
  obtain ⟨kA1, comp, r1, r2, r3, -⟩ := (xtys_at hKs 6 rfl).2
  obtain ⟨vm', X', step⟩ := X0.arraycopy B.1 B.2.2.2.2.2.1 (hts _ w1) (hts _ w2) (hts _ w3) (hts _ w4) (src := a0) (dst := a) (cs := arrV (gA G 6) (hLn h a0) (fun j => va_rf (hER h a0 j))) (cd := arrV (gA G 6) (hLn h a) (fun j => va_rf (hER h a j))) (srcPos := nI sp) (destPos := nI dp) (n := nI n) (by rw [hT]; exact hc0) (by rw [hT]; exact hc1)
    (fun _ h => by cases h) (fun _ h => by cases h) (fun h => by cases h) (fun h => by cases h) r1 r1 r2 r2 (by decide) (nI_pos (by omega)) (nI_pos (by omega)) (nI_pos (by omega))
    (by rw [nI_toInt' (by omega), nI_toInt' (by omega), arrV_size]; omega)
    (by rw [nI_toInt' (by omega), nI_toInt' (by omega), arrV_size]; omega)
    (fun vm₁ hal i hi => by
      rw [es]
      rw [en] at hi
      have e : (arrV (gA G 6) (hLn h a0) (fun j => va_rf (hER h a0 j))).slots.getD (sp + i) .null = va_rf (hER h a0 (sp + i)) := by
        rw [Array.getD_eq_getD_getElem?, arrV_read _ _ (by omega)]
        rfl
      rw [e]
      cases hy : hER h a0 (sp + i) with
      | none => exact ⟨rfl, trivial⟩
      | some y =>
        obtain ⟨ci, C, T9, N, L, hcs, hky⟩ := hel i hi y hy
        obtain ⟨cellV, g1, g2, g3⟩ := A.1.recv hKs L hky
        obtain ⟨kC, hkC, -⟩ := Vm.findClass_spec g3
        obtain ⟨kE, hkE, -⟩ := Vm.findClass_spec r3
        obtain ⟨kC', hkC', -⟩ := hal.2.2 _ _ hkC
        obtain ⟨kE', hkE', -⟩ := hal.2.2 _ _ hkE
        refine ⟨rfl, cellV, (show T.heap[y]? = some cellV by rw [hT]; exact g1), (fun q h => by rw [h] at g2; cases g2), ⟨kC', hkC'⟩, ?_, ?_⟩
        · exact ⟨kE', hkE'⟩
        · show vm₁.assignable _ _ = true
          rw [hal.assignable]
          exact vb_asgC (hKs.2.1 _ hcs rfl) _ _ r3 g3)
    (g := F0 (cxm c) pc ls (.int (nI n) :: .int (nI dp) :: .ref a :: .int (nI sp) :: .ref a0 :: st)) rfl (hls.1.trans B.2.2.2.2.1.symm) (rest := st) rfl (by rw [B.2.1]; exact hd) hD (by
      have hw : nativeFrameWords "java/lang/System" "arraycopy" 5 = 7 := by decide
      show 2 * 0 + _ + _ ≤ 64 * d
      omega)
  have e1 : copied (arrV (gA G 6) (hLn h a0) (fun j => va_rf (hER h a0 j))) (arrV (gA G 6) (hLn h a) (fun j => va_rf (hER h a j))) (nI sp) (nI dp) (nI n) = arrV (gA G 6) (hLn h a) (fun j => va_rf (va_cpy (hER h a0) (hER h a) sp dp n j)) := by
    unfold copied
    rw [es, ed, en]
    exact va_copied (fun z => va_rf z) _ _ _ _ h4
  rw [e1] at X' step
  have hl : a < H.size := (Array.getElem?_eq_some_iff.mp hc1).1
  have hwk : wk (hKd h a) := Or.inr (by omega)
  obtain ⟨t, b1, b2⟩ := kk B (H.setIfInBounds a (arrV (gA G 6) (hLn h a) (fun j => va_rf (va_cpy (hER h a0) (hER h a) sp dp n j)))) _ cells slots ls ⟨A.1.put (a := a) (by simp) (fun q hq => by simp [Array.getElem?_setIfInBounds, Ne.symm hq]) hwk rfl rfl (fun q hq => Eqa.uER hq) (Cel.arr (t := 6) (Or.inl hk1) (by decide) (by
      rw [ev_fR (by decide)]
      show (H.setIfInBounds a _)[a]? = some (arrV (gA G 6) (hLn h a) _)
      rw [show (hER (uER h a (va_cpy (hER h a0) (hER h a) sp dp n)) a) = va_cpy (hER h a0) (hER h a) sp dp n from uER_self]
      simp [Array.getElem?_setIfInBounds, hl])), fun q hq => by
      rcases List.mem_append.mp hq with m | m
      · exact A.2.1 q m
      · obtain ⟨z, -, hz⟩ := List.mem_map.mp m
        rw [← hz]
        exact A.1.2.2.2.2.2.2 a hwk, A.2.2.1, A.2.2.2.1, by simp; exact A.2.2.2.2⟩ hls _ (by rw [← hT]; rfl) X'
  exact ⟨t, step t b1, b2⟩
/-- clone() of an array -/
theorem x_cloneA {a t idx : Nat} {ad nm : String} {ty : FieldType} (ht : t < 12 ∧ ¬ t = 4 ∧ ¬ t = 5) (hty : xat[t]? = some ty) (hnm : ∀ s : State, KK G s → s.vm.findClass nm = some (gA G t)) (w1 : Cond.methodLink (ky K).cls idx ⟨ad, "clone", "()Ljava/lang/Object;"⟩ ∈ lw_all) (had : ad = nm) (w2 : Cond.sameMethod ad "java/lang/Object" "clone" "()Ljava/lang/Object;" ∈ lw_all)
    (w3 : Cond.native ⟨"java/lang/Object", "clone", "()Ljava/lang/Object;"⟩ ∈ lw_all) (w4 : Cond.instanceMethod ⟨"java/lang/Object", "clone", "()Ljava/lang/Object;"⟩ ∈ lw_all) (w5 : Cond.selects ad ⟨ad, "clone", "()Ljava/lang/Object;"⟩ ⟨"java/lang/Object", "clone", "()Ljava/lang/Object;"⟩ ∈ lw_all) (w6 : Cond.castable ad "java/lang/Cloneable" ∈ lw_tbl)
    (hk : kA t (hKd h a)) (hfit : ∀ i, i < hLn h a → fits ty (ev h t a i) = true) (hD : 1 ≤ d) (hst : (st.map fun v => v.category).sum ≤ 8) (h1 : 1 ≤ bc) (h2 : hLn h a ≤ bs) (hd : decode (kc K) pc = .ok (.invokevirtual idx, 3))
    (kk : X G c K d mc ms Q (bc - 1) (bs - hLn h a) (cpA h t a) (pc + 3) lv (.ref (hSz h) :: st)) : X G c K d mc ms Q bc bs h pc lv (.ref a :: st) := by
  intro B H locs cells slots ls A hls T hT X0
  subst had
  have hKs := B.2.2.2.2.2.2.2.1
  have hts := B.2.2.2.2.2.2.1
  have hcc := A.2.2.1
  have hcs := A.2.2.2.1
  have hcell := A.1.arr ht.1 hk
  have hnm := hnm _ hKs
  obtain ⟨-, kA0, hkA, comp, hkind⟩ := State.isArrayOf_alike X0.warmed.alike ((xtys_at hKs t (xtys_xat hty)).1 0 (fun _ => .null))
  obtain ⟨-, kS, hkS, compS, hkindS⟩ := (xtys_at hKs t (xtys_xat hty)).1 0 (fun _ => .null)
  obtain ⟨c0, t0', f1, f2, f3⟩ := Cond.castable_spec (va_Nw.use (A := cxa c) rfl (hKs.2.1 _ w6 rfl))
  cases Option.some.inj (hnm.symm.trans f1)
  obtain ⟨vm', X', step⟩ := X0.cloneArray B.1 B.2.2.2.2.2.1 (hts _ w1) (hts _ w2) (hts _ w3) (hts _ w4) (hts _ w5) (a := a) (cell := arrV (gA G t) (hLn h a) (ev h t a)) (by rw [hT]; exact hcell) (fun k h => by cases h) (fun h => by cases h) hnm f2 f3
    (fun i v hv => by
      have hk' : T.vm.classes[gA G t]? = some kA0 := hkA
      have hi : i < hLn h a := by
        have := (Array.getElem?_eq_some_iff.mp hv).1
        rw [arrV_size] at this
        exact this
      rw [arrV_read _ _ hi] at hv
      cases hv
      show State.fitsSlot T (gA G t) .none i (ev h t a i) = true
      simp only [State.fitsSlot, State.slotType?, hk', hkind, Option.bind_eq_bind, Option.bind_some]
      exact hfit i hi)
    (g := F0 (cxm c) pc ls (.ref a :: st)) rfl (hls.1.trans B.2.2.2.2.1.symm) rfl (by rw [B.2.1]; exact hd) hD (by show 2 * 0 + _ + 14 ≤ 64 * d; omega) (by show _ ≤ mc; omega) (by rw [arrV_size]; show _ ≤ ms; omega) (hloader := Vm.clonesLoader_of_array hkS hkindS)
  rw [arrV_size] at X'
  have hsz : H.size = hSz h := A.1.1
  obtain ⟨t9, b1, b2⟩ := kk B (H.push (arrV (gA G t) (hLn h a) (ev h t a))) locs _ _ ls (A.made (A.1.push (by rw [Array.size_push]) (fun q hq => by rw [Array.getElem?_push, if_neg (Nat.ne_of_lt hq)]) rfl (fun q hq => (Eqa.uER hq).tr ((Eqa.uEI hq).tr (Eqa.nArr hq))) (Cel.arr (t := t) (Or.inl (if_pos rfl)) ht.1 (by
      rw [← hsz, Array.getElem?_push_size]
      have e1 : hLn (cpA h t a) H.size = hLn h a := by rw [hsz]; exact if_pos rfl
      rw [e1]
      refine congrArg (fun z => some (arrV (gA G t) (hLn h a) z)) ?_
      rw [hsz]
      funext j
      unfold ev
      rw [if_neg ht.2.1, if_neg ht.2.2]
      rw [show hEI (cpA h t a) (hSz h) j = hEI h a j from congrFun (uEI_self (h := nArr h (t + 201) (hLn h a)) (a := hSz h) (F := hEI h a)) j]
      rw [show hER (cpA h t a) (hSz h) j = hER h a j from congrFun uER_self j]
      rw [if_neg ht.2.1, if_neg ht.2.2]))) (by rw [Array.size_push]; omega) h1 h2) hls ((T.setVm vm').pushCell (arrV (gA G t) (hLn h a) (ev h t a))) (by rw [← hT]; rfl) X'
  refine ⟨t9, step t9 ?_, b2⟩
  rw [show T.heap.size = hSz h by rw [hT]; exact hsz]
  exact b1
/-- super.clone() of an object whose fields are ints, to Object's -/
theorem x_cloneO {a ci idx : Nat} {C : String} {T9 : u_T} {N : Nat} (L : CLk ci C T9 N) (hint : ∀ k, k < N → parseFieldDescriptor (T9 k).2.2.1 = some .int ∧ fid ci k < 500) (w1 : Cond.methodLink (ky K).cls idx ⟨"java/lang/Object", "clone", "()Ljava/lang/Object;"⟩ ∈ lw_all) (w2 : Cond.sameMethod "java/lang/Object" "java/lang/Object" "clone" "()Ljava/lang/Object;" ∈ lw_all)
    (w3 : Cond.native ⟨"java/lang/Object", "clone", "()Ljava/lang/Object;"⟩ ∈ lw_all) (w4 : Cond.instanceMethod ⟨"java/lang/Object", "clone", "()Ljava/lang/Object;"⟩ ∈ lw_all) (w5 : Cond.superclass (ky K).cls "java/lang/Object" ∈ lw_all) (w6 : Cond.castable C "java/lang/Cloneable" ∈ lw_tbl) (w7 : Cond.instantiable C N ∈ lw_all)
    (hk : hKd h a = ci + 1) (hD : 1 ≤ d) (hst : (st.map fun v => v.category).sum ≤ 8) (h1 : 1 ≤ bc) (h2 : N ≤ bs) (hd : decode (kc K) pc = .ok (.invokespecial idx, 3))
    (hld : ∀ (A : Array Value) (s : State) (q : ClassId), (∀ w ∈ lw_all, w.before A s = true) → s.vm.findClass C = some q → Ncl s q)
    (kk : X G c K d mc ms Q (bc - 1) (bs - N) (dupO h (ci + 1) a) (pc + 3) lv (.ref (hSz h) :: st)) : X G c K d mc ms Q bc bs h pc lv (.ref a :: st) := by
  intro B H locs cells slots ls A hls T hT X0
  have hKs := B.2.2.2.2.2.2.2.1
  have hts := B.2.2.2.2.2.2.1
  have hcc := A.2.2.1
  have hcs := A.2.2.2.1
  have hsz : H.size = hSz h := A.1.1
  obtain ⟨cell, q1, q2, q3, q4⟩ := A.1.obj L (Or.inl hk)
  have hcz := A.1.size L hk q1
  have hcl := (hld (cxa c) (cxs c) (gC G ci) hts (hKs.1.1 ci _ L.2.1).2.1).no
  obtain ⟨hci, hcx, hin, ⟨ty0, hty, -⟩, hnames⟩ := L
  have hap := va_apart (own := C) hts hin ty0 hty hnames hKs.1 hcx
  obtain ⟨hS, hfc, kC, hkC, hkindC⟩ := hKs.1.1 ci _ hcx
  have hlt : ∀ k, k < N → gI G ci k < N := fun k hk9 => by
    have := (Array.getElem?_eq_some_iff.mp (q4 k hk9)).1
    rw [hcz] at this
    exact this
  have hfit : ∀ i v, cell.slots[i]? = some v → (cxs c).fitsSlot cell.cls .none i v = true := by
    intro i v hv
    have hi : i < N := by
      have := (Array.getElem?_eq_some_iff.mp hv).1
      rw [hcz] at this
      exact this
    obtain ⟨k, hkN, rfl⟩ := inj_sur hlt hap hi
    obtain ⟨cf, kf, fi, f, hi9, hsl⟩ := hS k hkN
    have e1 : v = fv h (fid ci k) a := Option.some.inj (hv.symm.trans (q4 k hkN))
    have e2 : fv h (fid ci k) a = .int (hFI h (fid ci k) a) := by unfold fv; rw [if_pos (hint k hkN).2]
    have hsl' : f.slot = gI G ci k := hsl
    rw [e1, e2, q2, ← hsl']
    exact (u_fits hfc hkC hkindC (u_lays hts hin hkN) hi9 (hint k hkN).1 rfl rfl).2
  have hown := B.2.2.2.2.2.1
  obtain ⟨r, kO, methO, hnO, hmO, hkO, N0⟩ := NativeOf.of_instance (hts _ w3) (hts _ w4) (ps := []) (ret := some (.object "java/lang/Object")) (by decide +kernel)
  obtain ⟨r', methO', hnO', hmO', hstO, habs⟩ := Cond.instanceMethod_spec (hts _ w4)
  cases hnO.symm.trans hnO'
  cases hmO.symm.trans hmO'
  obtain ⟨ps, dk, kp, hps, hdk, hkp, hsuper, -, -, hnid⟩ := Cond.superclass_spec hown (hts _ w5)
  have hpm : ps = r.cls := Option.some.inj (hps.symm.trans (findClass_of_methodNamed hnO))
  have hsub : (cxs c).vm.isSubclass ps r.cls = true := by rw [hpm]; simp [Vm.isSubclass, Vm.isSubclassAux]
  obtain ⟨vm', X', step⟩ := X0.invokespecialUp B.1 hown (hts _ w1) (hts _ w2) hnO hmO hstO habs (by decide) hdk hnid hps hsuper hsub (a := a) (cell := cell) (by rw [hT]; exact q1)
    (fun z h => by rw [h] at q3; cases q3) (by rw [q2]; exact hkC) (g := F0 (cxm c) pc ls (.ref a :: st)) rfl (argsL := []) (rest := st) (by rw [N0.sig]; rfl) rfl (by rw [B.2.1]; exact hd)
  obtain ⟨c0, t0, f1, f2, f3⟩ := Cond.castable_spec (va_Nw.use (A := cxa c) rfl (hKs.2.1 _ w6 rfl))
  cases Option.some.inj (hfc.symm.trans f1)
  have hA' : (cxs c).vm.Alike vm' := X'.warmed.alike
  obtain ⟨kO', N'⟩ := N0.alike hA'
  obtain ⟨ck', hck', -⟩ := hA'.2.2 _ _ hkC
  obtain ⟨kL, hkL, -⟩ := Vm.findClass_spec f2
  obtain ⟨kL', hkL', -⟩ := hA'.2.2 _ _ hkL
  have hroom := X0.room
  simp only [State.hasRoom, Bool.and_eq_true, decide_eq_true_eq] at hroom
  have g1 := X0.heapSize
  have g2 := X0.used
  have r1 : (rmx d mc ms).cells = mc := rfl
  have r2 : (rmx d mc ms).slots = ms := rfl
  have r3 : (rmx d mc ms).locals = 64 * d := rfl
  have e9 : T.fitsSlot = (cxs c).fitsSlot := (rfl : T.fitsSlot = ((cxs c).setVm T.vm).fitsSlot).trans (State.fitsSlot_setVm X0.warmed.alike)
  generalize hc2 : ({ cls := cell.cls, slots := cell.slots } : Cell) = c2
  have z1 : c2.cls = gC G ci := by rw [← hc2]; exact q2
  have z2 : c2.vm = .none := by rw [← hc2]
  have z3 : c2.slots = cell.slots := by rw [← hc2]
  obtain ⟨t9, b1, b2⟩ := kk B (H.push c2) locs _ _ ls (A.made (A.1.push (by rw [Array.size_push]) (fun q hq => by rw [Array.getElem?_push, if_neg (Nat.ne_of_lt hq)]) rfl (fun q hq => Eqa.dupO hq) (Cel.obj (ci := ci) (r := (C, T9, N)) (Or.inl (if_pos rfl)) hci hcx (fun ce hce => by
      rw [← hsz, Array.getElem?_push_size] at hce
      rw [← Option.some.inj hce, z3]
      exact hcz) ⟨c2, by rw [← hsz, Array.getElem?_push_size], z1, z2, fun k hkN => by
        rw [z3, q4 k hkN]
        refine congrArg some ?_
        show fv h (fid ci k) a = fv (dupO h (ci + 1) a) (fid ci k) (hSz h)
        unfold fv
        rw [dupO_hFI, if_pos rfl, dupO_hFR, if_pos rfl]⟩)) (by rw [Array.size_push]; omega) h1 h2) hls ((T.setVm vm').pushCell c2) (by rw [← hT]; rfl) (by
          have := X'.pushed c2
          rw [z3, hcz] at this
          exact this)
  refine ⟨t9, step t9 ?_, b2⟩
  refine Steps.cloneOf (g := { F0 (cxm c) pc ls (.ref a :: st) with stack := st }) (ig := .invokespecial idx) (len := 3) (cxp c) X'.here _ N'
    (X'.notFull (g := { F0 (cxm c) pc ls (.ref a :: st) with stack := st }) (hls.1.trans B.2.2.2.2.1.symm) (vars := nativeFrameWords "java/lang/Object" "clone" 1) hD (by rw [show nativeFrameWords "java/lang/Object" "clone" 1 = 3 from by decide]; show 2 * 0 + (st.map fun v => v.category).sum + (3 + 11) ≤ 64 * d; omega))
    (a := a) (cell := cell) (by show T.heap[a]? = _; rw [hT]; exact q1) (fun k h => by rw [h] at q3; cases q3) (by rw [q3]; exact fun h => by cases h) ⟨ck', by rw [q2]; exact hck'⟩ (by show vm'.findClass _ = _; rw [hA'.findClass]; exact f2) ⟨kL', hkL'⟩ (by show vm'.assignable _ _ = _; rw [hA'.assignable, q2]; exact f3) (Launch.admits_finalization X0.admits)
    (by show T.heap.size < _; omega) (by show T.slotsUsed + _ ≤ _; omega) (fun i v hv => by rw [State.fitsSlot_setVm (X0.warmed.alike.symm.trans hA'), e9]; exact hfit i v hv) (by rw [B.2.1]; exact hd) ?_ (by show vm'.clonesLoader _ = false; rw [hA'.clonesLoader, q2]; exact hcl)
  rw [hc2]
  rw [show (T.setVm vm').heap.size = hSz h by show T.heap.size = _; rw [hT]; exact hsz]
  exact b1
end NAT
