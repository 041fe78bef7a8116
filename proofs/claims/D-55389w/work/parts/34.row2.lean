/-! ROWS over the abstract heap: lcmp, class objects, casts and instanceof of arrays; printed by tools/mkrow2.py -/
set_option maxRecDepth 100000
def lcv (x y : Int64) : Int32 := if y < x then 1 else if x = y then 0 else -1
section RW2
variable {G : GG} {c : CX} {K : KX} {d mc ms : Nat} {Q : OC → AH → Prop} {bc bs : Nat} {h : AH} {pc : Nat} {lv : List (Nat × Value)} {st : List Value}
theorem x_lcmp {x y : Int64} (hd : decode (kc K) pc = .ok (.lcmp, 1)) (k : X G c K d mc ms Q bc bs h (pc + 1) lv (.int (lcv x y) :: st)) : X G c K d mc ms Q bc bs h pc lv (.long y :: .long x :: st) := by
  intro B H locs cells slots ls A hls T hT X0
  obtain ⟨t, a, b⟩ := k B H locs cells slots ls A hls T hT X0
  refine ⟨t, ?_, b⟩
  have hexec := B.1
  have hb := B.2.1
  unfold lcv at a
  jvm_step X0.here [X0.here.top, hexec, hb, hd, lcmp.wp_sem]
  split
  · next q => rw [if_pos q] at a; exact a
  · next q =>
    rw [if_neg q] at a
    split
    · next r => rw [if_pos r] at a; exact a
    · next r => rw [if_neg r] at a; exact a
/-- Object[].class -/
theorem x_ldcM {idx : Nat} (w : Cond.classLink (ky K).cls idx "[Ljava/lang/Object;" ∈ lw_all) (hd : decode (kc K) pc = .ok (.ldc idx, 2)) (k : X G c K d mc ms Q bc bs h (pc + 2) lv (.ref (gS G 106) :: st)) : X G c K d mc ms Q bc bs h pc lv st :=
  fun C H locs cells slots ls A hl => va_ldcM C.1 C.2.1 C.2.2.2.2.2.1 (C.2.2.2.2.2.2.1 _ w) C.2.2.2.2.2.2.2.1.2.2.2.2.2.2.2.2.1.2.2 hd (k C H locs cells slots ls A hl)
/-- getClass() of an Object[] -/
theorem x_getC {a idx : Nat} (w1 : Cond.methodLink (ky K).cls idx ⟨"java/lang/Object", "getClass", "()Ljava/lang/Class;"⟩ ∈ lw_all) (w2 : Cond.declares ⟨"java/lang/Object", "getClass", "()Ljava/lang/Class;"⟩ ∈ lw_tbl) (w3 : Cond.selects "[Ljava/lang/Object;" ⟨"java/lang/Object", "getClass", "()Ljava/lang/Class;"⟩ ⟨"java/lang/Object", "getClass", "()Ljava/lang/Class;"⟩ ∈ lw_all) (w4 : Cond.instanceMethod ⟨"java/lang/Object", "getClass", "()Ljava/lang/Class;"⟩ ∈ lw_all) (w5 : Cond.native ⟨"java/lang/Object", "getClass", "()Ljava/lang/Class;"⟩ ∈ lw_all)
    (hk : kA 6 (hKd h a)) (hD : 1 ≤ d) (hst : (st.map fun v => v.category).sum ≤ 8) (hd : decode (kc K) pc = .ok (.invokevirtual idx, 3)) (k : X G c K d mc ms Q bc bs h (pc + 3) lv (.ref (gS G 106) :: st)) : X G c K d mc ms Q bc bs h pc lv (.ref a :: st) := by
  intro B H locs cells slots ls A hls
  have hKs := B.2.2.2.2.2.2.2.1
  have hts := B.2.2.2.2.2.2.1
  have hfc := va_nmO (nm := "[Ljava/lang/Object;") (xtys_at hKs 6 rfl).2 (by decide +kernel)
  refine va_getC B.1 B.2.1 (B.2.2.2.2.1.trans hls.1.symm) B.2.2.2.2.2.1 (hts _ w1) (va_Nw.use rfl (hKs.2.1 _ w2 rfl)) (hts _ w3) (hts _ w4) (hts _ w5) hKs.2.2.2.2.2.2.2.2.1.2.2 ⟨_, A.1.arr (by decide) hk, rfl, hfc⟩ hD ?_ hd (k B H locs cells slots ls A hls)
  show _ ≤ 64 * d
  omega
/-- checkcast of an array to its own class, or to a class of arrays above -/
theorem x_ckcA {a t idx : Nat} {nm : String} (ht : t < 12) (w : Cond.classLink (ky K).cls idx nm ∈ lw_all) (hnm : ∀ s : State, KK G s → s.vm.findClass nm = some (gA G t)) (hk : kA t (hKd h a)) (hd : decode (kc K) pc = .ok (.checkcast idx, 3)) (k : X G c K d mc ms Q bc bs h (pc + 3) lv (.ref a :: st)) : X G c K d mc ms Q bc bs h pc lv (.ref a :: st) := by
  intro B H locs cells slots ls A hls T hT X0
  have hKs := B.2.2.2.2.2.2.2.1
  have hts := B.2.2.2.2.2.2.1
  obtain ⟨vm', X', step⟩ := X0.checkcastYes B.1 B.2.2.2.2.2.1 (hts _ w) (by rw [hT]; exact A.1.arr ht hk) rfl (hnm _ hKs) (va_asg _ _) (g := F0 (cxm c) pc ls (.ref a :: st)) rfl rfl (by rw [B.2.1]; exact hd)
  obtain ⟨t, a1, b1⟩ := k B H locs cells slots ls A hls (T.setVm vm') hT X'
  exact ⟨t, step t a1, b1⟩
theorem x_ckcAU {a t idx : Nat} {nm E : String} (ht : t < 12) (w : Cond.classLink (ky K).cls idx nm ∈ lw_all) (hE : ∀ s : State, KK G s → s.vm.findClass E = some (gA G t)) (w2 : Cond.castable E nm ∈ lw_tbl) (hk : kA t (hKd h a)) (hd : decode (kc K) pc = .ok (.checkcast idx, 3)) (k : X G c K d mc ms Q bc bs h (pc + 3) lv (.ref a :: st)) : X G c K d mc ms Q bc bs h pc lv (.ref a :: st) := by
  intro B H locs cells slots ls A hls T hT X0
  have hKs := B.2.2.2.2.2.2.2.1
  have hts := B.2.2.2.2.2.2.1
  obtain ⟨c0, t0, f1, f2, f3⟩ := Cond.castable_spec (va_Nw.use (A := cxa c) rfl (hKs.2.1 _ w2 rfl))
  cases Option.some.inj ((hE _ hKs).symm.trans f1)
  obtain ⟨vm', X', step⟩ := X0.checkcastYes B.1 B.2.2.2.2.2.1 (hts _ w) (by rw [hT]; exact A.1.arr ht hk) rfl f2 f3 (g := F0 (cxm c) pc ls (.ref a :: st)) rfl rfl (by rw [B.2.1]; exact hd)
  obtain ⟨t, a1, b1⟩ := k B H locs cells slots ls A hls (T.setVm vm') hT X'
  exact ⟨t, step t a1, b1⟩
/-- instanceof of an array: its own class -/
theorem x_instA {a t idx : Nat} {nm : String} (ht : t < 12) (w : Cond.classLink (ky K).cls idx nm ∈ lw_all) (hnm : ∀ s : State, KK G s → s.vm.findClass nm = some (gA G t)) (hk : kA t (hKd h a)) (hd : decode (kc K) pc = .ok (.instanceof idx, 3)) (k : X G c K d mc ms Q bc bs h (pc + 3) lv (.int 1 :: st)) : X G c K d mc ms Q bc bs h pc lv (.ref a :: st) := by
  intro B H locs cells slots ls A hls
  exact va_instE B.1 B.2.1 B.2.2.2.2.2.1 (B.2.2.2.2.2.2.1 _ w) ⟨_, A.1.arr ht hk, rfl, hnm _ B.2.2.2.2.2.2.2.1⟩ hd (k B H locs cells slots ls A hls)
/-- instanceof of an array: a class that it isn't -/
theorem x_instAN {a t idx : Nat} {nm E : String} (ht : t < 12) (w : Cond.classLink (ky K).cls idx nm ∈ lw_all) (hE : ∀ s : State, KK G s → s.vm.findClass E = some (gA G t)) (w2 : (E, nm) ∈ xnc) (hk : kA t (hKd h a)) (hd : decode (kc K) pc = .ok (.instanceof idx, 3)) (k : X G c K d mc ms Q bc bs h (pc + 3) lv (.int 0 :: st)) : X G c K d mc ms Q bc bs h pc lv (.ref a :: st) := by
  intro B H locs cells slots ls A hls
  have hKs := B.2.2.2.2.2.2.2.1
  exact va_instNo B.1 B.2.1 B.2.2.2.2.2.1 (B.2.2.2.2.2.2.1 _ w) (hKs.2.2.2.2.2.2.2.1 _ w2) ⟨_, A.1.arr ht hk, rfl, hE _ hKs⟩ hd (k B H locs cells slots ls A hls)
end RW2
theorem fA0 {G : GG} : ∀ s : State, KK G s → s.vm.findClass "[I" = some (gA G 0) := fun s h => va_nm_int (xtys_at h 0 rfl).2
theorem fA1 {G : GG} : ∀ s : State, KK G s → s.vm.findClass "[B" = some (gA G 1) := fun s h => va_nm_byte (xtys_at h 1 rfl).2
theorem fA6 {G : GG} : ∀ s : State, KK G s → s.vm.findClass "[Ljava/lang/Object;" = some (gA G 6) := fun s h => va_nmO (xtys_at h 6 rfl).2 (by decide +kernel)
theorem fA7 {G : GG} : ∀ s : State, KK G s → s.vm.findClass "[LMustardMill$Quern;" = some (gA G 7) := fun s h => va_nmO (xtys_at h 7 rfl).2 (by decide +kernel)
theorem fA8 {G : GG} : ∀ s : State, KK G s → s.vm.findClass "[LMustardMill$Thing;" = some (gA G 8) := fun s h => va_nmO (xtys_at h 8 rfl).2 (by decide +kernel)
theorem fA9 {G : GG} : ∀ s : State, KK G s → s.vm.findClass "[LMustardMill$Batch;" = some (gA G 9) := fun s h => va_nmO (xtys_at h 9 rfl).2 (by decide +kernel)
theorem fA10 {G : GG} : ∀ s : State, KK G s → s.vm.findClass "[LMustardMill$Jar;" = some (gA G 10) := fun s h => va_nmO (xtys_at h 10 rfl).2 (by decide +kernel)
