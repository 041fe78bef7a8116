/-! ROWS over the abstract heap, fourth part: calls, the contract out of its body; printed by tools/mkw.py -/
set_option maxRecDepth 100000
/-- what a call asks of the callee's name, whoever calls -/
def COk (K : KX) (n : Nat) : Prop := (ky K).cls ≠ "java/lang/invoke/MethodHandle" ∧ (ky K).cls ≠ "java/lang/invoke/VarHandle" ∧ (parseMethodDescriptor (ky K).desc).map (fun d => d.parameters.length) = some n ∧ kw K ∈ lw_all ∧ Cond.initialized (ky K).cls ∈ lw_all ∧ kl K ≤ 40
theorem COk.good {K : KX} {n : Nat} (k : COk K n) : GoodIn lw_all (kw K :: lw_all) := by
  intro w hw
  rcases List.mem_cons.mp hw with e | e
  · rw [e]; exact lw_self _ k.2.2.2.1
  · exact lw_self _ e
theorem COk.len {K : KX} {n : Nat} (k : COk K n) : ∀ sig, parseMethodDescriptor (ky K).desc = some sig → n = sig.parameters.length := by
  intro sig h
  have h2 := k.2.2.1
  rw [h] at h2
  exact (Option.some.inj h2).symm
section XC
variable {G : GG} {c : CX} {K : KX} {d mc ms : Nat} {Q : OC → AH → Prop} {bc bs : Nat} {h : AH} {pc : Nat} {lv : List (Nat × Value)} {st st0 : List Value}
abbrev xRun (G : GG) (c : CX) (d mc ms : Nat) (H : Heap) (locs : List Loc) (cells slots mc' ms' : Nat) (g : JFrame) (rest : List Value) (as : Array Value) (Q' : OC → AH → Prop) : Prop :=
  vx_Run (cxp c) (gl G) (cxe c) (rmx d mc ms) (cxs c) (cxm c) (cxa c) (cxb c) (cxt c) (cxc c) H locs cells slots mc' ms' g rest (xQc G Q' as) (xXC G Q') (fun q => gz G ≤ q)
abbrev xRun5 (G : GG) (c : CX) (d mc ms : Nat) (H : Heap) (locs : List Loc) (cells slots mc' ms' : Nat) (g : JFrame) (rest : List Value) (as : Array Value) (Q' : OC → AH → Prop) : Prop :=
  vx_Run5 (cxp c) (gl G) (cxe c) (rmx d mc ms) (cxs c) (cxm c) (cxa c) (cxb c) (cxt c) (cxc c) H locs cells slots mc' ms' g rest (xQc G Q' as) (xXC G Q') (fun q => gz G ≤ q)
theorem x_run {Q' : OC → AH → Prop} {mc' ms' : Nat} {as : Array Value} (hB : mc' ≤ bc) (hS : ms' ≤ bs)
    (hrun : CxOk G c K → ∀ (H : Heap) (locs : List Loc) (cells slots : Nat) (ls : Array Slot), xAt G c mc ms bc bs h H locs cells slots → lv_has ls (kl K) lv → xRun G c d mc ms H locs cells slots mc' ms' (F0 (cxm c) pc ls st0) st as Q')
    (k : ∀ (v : Option Value) (h' : AH), Q' (.inl v) h' → hSz h ≤ hSz h' → X G c K d mc ms Q (bc - mc') (bs - ms') h' (pc + 3) lv (v.toList ++ st))
    (kx : ∀ (E : String) (q : Nat) (h' : AH), Q' (.inr (E, q)) h' → hSz h ≤ hSz h' → XT G c K d mc ms Q (bc - mc') (bs - ms') h' pc lv E q) : X G c K d mc ms Q bc bs h pc lv st0 := by
  intro B H locs cells slots ls A hls T hT X0
  have hc := A.2.2.1
  have hs := A.2.2.2.1
  have hlo : ∀ (L : List Loc), (∀ q ∈ L, gz G ≤ q.base) → ∀ q ∈ locs ++ L, gz G ≤ q.base := fun L hL q hq => (List.mem_append.mp hq).elim (A.2.1 q) (hL q)
  rcases hrun B H locs cells slots ls A hls T hT X0 with ⟨v, st₀, t, T', L, h0, X', hL, e1, e2, ⟨v2, h', hv, hq, hR, hz⟩, sg⟩ | ⟨q, st₀, t, T', L, E, ce, h0, X', hL, e1, e2, ⟨h', hq, hR, hz⟩, hce, hcv, hcl, sg⟩
  · cases hv
    have hsz : hSz h ≤ hSz h' := by rw [← A.1.1, ← hR.1, ← h0]; exact hz
    obtain ⟨t2, a1, b1⟩ := k v h' hq hsz B T'.heap (locs ++ L) (cells + mc') (slots + ms') ls ⟨by rw [e1]; exact hR, hlo L hL, by omega, by omega, by rw [e1]; rw [h0] at hz; exact Nat.le_trans A.2.2.2.2 hz⟩ hls T' rfl X'
    exact ⟨t2, sg t2 a1, b1⟩
  · have hsz : hSz h ≤ hSz h' := by rw [← A.1.1, ← hR.1, ← h0]; exact hz
    obtain ⟨t2, a1, b1⟩ := kx E q h' hq hsz B T'.heap (locs ++ L) (cells + mc') (slots + ms') ls st ⟨by rw [e1]; exact hR, hlo L hL, by omega, by omega, by rw [e1]; rw [h0] at hz; exact Nat.le_trans A.2.2.2.2 hz⟩ hls ⟨ce, by rw [e1]; exact hce, hcv, hcl⟩ T' rfl X'
    exact ⟨t2, sg.trans a1, b1⟩
theorem x_run5 {Q' : OC → AH → Prop} {mc' ms' : Nat} {as : Array Value} (hB : mc' ≤ bc) (hS : ms' ≤ bs)
    (hrun : CxOk G c K → ∀ (H : Heap) (locs : List Loc) (cells slots : Nat) (ls : Array Slot), xAt G c mc ms bc bs h H locs cells slots → lv_has ls (kl K) lv → xRun5 G c d mc ms H locs cells slots mc' ms' (F0 (cxm c) pc ls st0) st as Q')
    (k : ∀ (v : Option Value) (h' : AH), Q' (.inl v) h' → hSz h ≤ hSz h' → X G c K d mc ms Q (bc - mc') (bs - ms') h' (pc + 5) lv (v.toList ++ st))
    (kx : ∀ (E : String) (q : Nat) (h' : AH), Q' (.inr (E, q)) h' → hSz h ≤ hSz h' → XT G c K d mc ms Q (bc - mc') (bs - ms') h' pc lv E q) : X G c K d mc ms Q bc bs h pc lv st0 := by
  intro B H locs cells slots ls A hls T hT X0
  have hc := A.2.2.1
  have hs := A.2.2.2.1
  have hlo : ∀ (L : List Loc), (∀ q ∈ L, gz G ≤ q.base) → ∀ q ∈ locs ++ L, gz G ≤ q.base := fun L hL q hq => (List.mem_append.mp hq).elim (A.2.1 q) (hL q)
  rcases hrun B H locs cells slots ls A hls T hT X0 with ⟨v, st₀, t, T', L, h0, X', hL, e1, e2, ⟨v2, h', hv, hq, hR, hz⟩, sg⟩ | ⟨q, st₀, t, T', L, E, ce, h0, X', hL, e1, e2, ⟨h', hq, hR, hz⟩, hce, hcv, hcl, sg⟩
  · cases hv
    have hsz : hSz h ≤ hSz h' := by rw [← A.1.1, ← hR.1, ← h0]; exact hz
    obtain ⟨t2, a1, b1⟩ := k v h' hq hsz B T'.heap (locs ++ L) (cells + mc') (slots + ms') ls ⟨by rw [e1]; exact hR, hlo L hL, by omega, by omega, by rw [e1]; rw [h0] at hz; exact Nat.le_trans A.2.2.2.2 hz⟩ hls T' rfl X'
    exact ⟨t2, sg t2 a1, b1⟩
  · have hsz : hSz h ≤ hSz h' := by rw [← A.1.1, ← hR.1, ← h0]; exact hz
    obtain ⟨t2, a1, b1⟩ := kx E q h' hq hsz B T'.heap (locs ++ L) (cells + mc') (slots + ms') ls st ⟨by rw [e1]; exact hR, hlo L hL, by omega, by omega, by rw [e1]; rw [h0] at hz; exact Nat.le_trans A.2.2.2.2 hz⟩ hls ⟨ce, by rw [e1]; exact hce, hcv, hcl⟩ T' rfl X'
    exact ⟨t2, sg.trans a1, b1⟩
theorem x_pc {As : List Value} (hK : KK G (cxs c)) {H : Heap} (R : Rep G h H) : ∀ U : State, U.heap = H → (cxs c).WarmedH U.vm → xPc G As h As.toArray U := fun U hU hW => ⟨rfl, KK.warm hW hK, by rw [hU]; exact R⟩
theorem x_rm {d' mc' ms' L : Nat} (hD : d' + 1 ≤ d) (hL : L ≤ 40) : (rmx d' mc' ms').frames + 1 ≤ (rmx d mc ms).frames ∧ 8 + (L + 11) + (rmx d' mc' ms').locals ≤ (rmx d mc ms).locals := by
  refine ⟨hD, ?_⟩
  show 8 + (L + 11) + 64 * d' ≤ 64 * d
  omega
theorem x_sum {ls : Array Slot} {m : MethodId} {pc : Nat} {st1 : List Value} (h : (st.map fun v => v.category).sum ≤ 8) : 2 * (F0 m pc ls st1).monitorRoom + (st.map fun v => v.category).sum ≤ 8 := lv_room h
/-- invokevirtual of the receiver's own class's method -/
theorem x_invV {K' : KX} {n d' mc' ms' idx b ci : Nat} {T : u_T} {N : Nat} {As : List Value} {Q' : OC → AH → Prop} (C' : Cal G K' d' mc' ms' (.ref b :: As) h Q') (ok : COk K' n) (L : CLk ci (ky K').cls T N) (w1 : Cond.methodLink (ky K).cls idx (ky K') ∈ lw_all) (w2 : Cond.instanceMethod (ky K') ∈ lw_all) (w3 : Cond.selects (ky K').cls (ky K') (ky K') ∈ lw_all)
    (hd : decode (kc K) pc = .ok (.invokevirtual idx, 3)) (hk : kO ci (hKd h b)) (hn : As.length = n) (hs : st0 = As.reverse ++ .ref b :: st) (hD : d' + 1 ≤ d) (hB : mc' ≤ bc) (hS : ms' ≤ bs) (hst : (st.map fun v => v.category).sum ≤ 8)
    (k : ∀ (v : Option Value) (h' : AH), Q' (.inl v) h' → hSz h ≤ hSz h' → X G c K d mc ms Q (bc - mc') (bs - ms') h' (pc + 3) lv (v.toList ++ st))
    (kx : ∀ (E : String) (q : Nat) (h' : AH), Q' (.inr (E, q)) h' → hSz h ≤ hSz h' → XT G c K d mc ms Q (bc - mc') (bs - ms') h' pc lv E q) : X G c K d mc ms Q bc bs h pc lv st0 := by
  subst hs
  refine x_run (as := (Value.ref b :: As).toArray) hB hS (fun B H locs cells slots ls A hls => ?_) k kx
  have hKs := B.2.2.2.2.2.2.2.1
  have hts := B.2.2.2.2.2.2.1
  have hf : cells + mc' ≤ (rmx d mc ms).cells ∧ slots + ms' ≤ (rmx d mc ms).slots := ⟨by have := A.2.2.1; show _ ≤ mc; omega, by have := A.2.2.2.1; show _ ≤ ms; omega⟩
  have hp : PreV (cxs c) H (ky K').cls b (xPc G (.ref b :: As) h) As := ⟨xPc_blind, A.1.recv hKs L hk, x_pc hKs A.1⟩
  have S : CallFix (cxp c) (cxm c) (cxc c) (kc K) (kl K) (cxs c) (cxa c) lw_all (ky K).cls := ⟨B.1, B.2.1, B.2.2.2.2.1, B.2.2.2.2.2.1, hts⟩
  have hR := x_rm (mc := mc) (ms := ms) (mc' := mc') (ms' := ms') hD ok.2.2.2.2.2
  obtain ⟨y, cc, nL, r, hh⟩ := K'
  cases hh with
  | nil => exact vx_runV S C' ⟨callB_of (bytes := cc) (maxL := nL) (ret := r) n hts ok.good rfl rfl rfl (hts _ ok.2.2.2.2.1) (hts _ w1) ⟨ok.1, ok.2.1, ok.2.2.1⟩ hR, hts _ w2, hts _ w3⟩ hp rfl hn hls.1 rfl (x_sum hst) hd hf
  | cons q qs => exact vx_runVX (hh := q :: qs) (bytes := cc) (maxL := nL) (ret := r) S C' ⟨⟨rfl, rfl, hR.1, hR.2, pay_in hts ok.good, List.mem_cons_self⟩, hts _ ok.2.2.2.1, hts _ ok.2.2.2.2.1, ⟨ok.1, ok.2.1⟩, ok.len, hts _ w1, hts _ w2, hts _ w3⟩ hp rfl hn hls.1 rfl (x_sum hst) hd hf
/-- invokestatic -/
theorem x_invS {K' : KX} {n d' mc' ms' idx : Nat} {As : List Value} {Q' : OC → AH → Prop} (C' : Cal G K' d' mc' ms' As h Q') (ok : COk K' n) (w1 : Cond.methodLink (ky K).cls idx (ky K') ∈ lw_all) (w2 : Cond.static (ky K') ∈ lw_all)
    (hd : decode (kc K) pc = .ok (.invokestatic idx, 3)) (hn : As.length = n) (hs : st0 = As.reverse ++ st) (hD : d' + 1 ≤ d) (hB : mc' ≤ bc) (hS : ms' ≤ bs) (hst : (st.map fun v => v.category).sum ≤ 8)
    (k : ∀ (v : Option Value) (h' : AH), Q' (.inl v) h' → hSz h ≤ hSz h' → X G c K d mc ms Q (bc - mc') (bs - ms') h' (pc + 3) lv (v.toList ++ st))
    (kx : ∀ (E : String) (q : Nat) (h' : AH), Q' (.inr (E, q)) h' → hSz h ≤ hSz h' → XT G c K d mc ms Q (bc - mc') (bs - ms') h' pc lv E q) : X G c K d mc ms Q bc bs h pc lv st0 := by
  subst hs
  refine x_run (as := As.toArray) hB hS (fun B H locs cells slots ls A hls => ?_) k kx
  have hKs := B.2.2.2.2.2.2.2.1
  have hts := B.2.2.2.2.2.2.1
  have hf : cells + mc' ≤ (rmx d mc ms).cells ∧ slots + ms' ≤ (rmx d mc ms).slots := ⟨by have := A.2.2.1; show _ ≤ mc; omega, by have := A.2.2.2.1; show _ ≤ ms; omega⟩
  have hp : PreS (cxs c) H (xPc G As h) As := ⟨xPc_blind, x_pc hKs A.1⟩
  have S : CallFix (cxp c) (cxm c) (cxc c) (kc K) (kl K) (cxs c) (cxa c) lw_all (ky K).cls := ⟨B.1, B.2.1, B.2.2.2.2.1, B.2.2.2.2.2.1, hts⟩
  have hR := x_rm (mc := mc) (ms := ms) (mc' := mc') (ms' := ms') hD ok.2.2.2.2.2
  obtain ⟨y, cc, nL, r, hh⟩ := K'
  cases hh with
  | nil => exact vx_runS S C' ⟨callB_of (bytes := cc) (maxL := nL) (ret := r) n hts ok.good rfl rfl rfl (hts _ ok.2.2.2.2.1) (hts _ w1) ⟨ok.1, ok.2.1, ok.2.2.1⟩ hR, hts _ w2⟩ hp rfl hn hls.1 rfl (x_sum hst) hd hf
  | cons q qs => exact vx_runSX (hh := q :: qs) (bytes := cc) (maxL := nL) (ret := r) S C' ⟨⟨rfl, rfl, hR.1, hR.2, pay_in hts ok.good, List.mem_cons_self⟩, hts _ ok.2.2.2.1, hts _ ok.2.2.2.2.1, ⟨ok.1, ok.2.1⟩, ok.len, hts _ w1, hts _ w2⟩ hp rfl hn hls.1 rfl (x_sum hst) hd hf
/-- invokespecial of a constructor (linked, or of a nest mate) -/
theorem x_invI {y : MethodName} {cc : ByteArray} {nL n d' mc' ms' idx b : Nat} {As : List Value} {Q' : OC → AH → Prop} (C' : Cal G (y, cc, nL, none, []) d' mc' ms' (.ref b :: As) h Q') (ok : COk (y, cc, nL, none, []) n) (hy : y.name = "<init>") (w1 : Cond.methodLink (ky K).cls idx y ∈ lw_all ∨ ∃ host : String, Cond.methodLinkNest (ky K).cls idx y host ∈ lw_tbl) (w2 : Cond.instanceMethod y ∈ lw_all)
    (hd : decode (kc K) pc = .ok (.invokespecial idx, 3)) (hn : As.length = n) (hs : st0 = As.reverse ++ .ref b :: st) (hD : d' + 1 ≤ d) (hB : mc' ≤ bc) (hS : ms' ≤ bs) (hst : (st.map fun v => v.category).sum ≤ 8)
    (k : ∀ (v : Option Value) (h' : AH), Q' (.inl v) h' → hSz h ≤ hSz h' → X G c K d mc ms Q (bc - mc') (bs - ms') h' (pc + 3) lv (v.toList ++ st))
    (kx : ∀ (E : String) (q : Nat) (h' : AH), Q' (.inr (E, q)) h' → hSz h ≤ hSz h' → XT G c K d mc ms Q (bc - mc') (bs - ms') h' pc lv E q) : X G c K d mc ms Q bc bs h pc lv st0 := by
  subst hs
  refine x_run (as := (Value.ref b :: As).toArray) hB hS (fun B H locs cells slots ls A hls => ?_) k kx
  have hKs := B.2.2.2.2.2.2.2.1
  have hts := B.2.2.2.2.2.2.1
  have hf : cells + mc' ≤ (rmx d mc ms).cells ∧ slots + ms' ≤ (rmx d mc ms).slots := ⟨by have := A.2.2.1; show _ ≤ mc; omega, by have := A.2.2.2.1; show _ ≤ ms; omega⟩
  have hp : PreS (cxs c) H (xPc G (.ref b :: As) h) (.ref b :: As) := ⟨xPc_blind, x_pc hKs A.1⟩
  have S : CallFix (cxp c) (cxm c) (cxc c) (kc K) (kl K) (cxs c) (cxa c) lw_all (ky K).cls := ⟨B.1, B.2.1, B.2.2.2.2.1, B.2.2.2.2.2.1, hts⟩
  have hR := x_rm (mc := mc) (ms := ms) (mc' := mc') (ms' := ms') hD ok.2.2.2.2.2
  rcases w1 with w1 | ⟨host, w1⟩
  · exact vx_runI (bytes := cc) (maxL := nL) S C' ⟨callB_of (bytes := cc) (maxL := nL) (ret := none) n hts ok.good rfl rfl rfl (hts _ ok.2.2.2.2.1) (hts _ w1) ⟨ok.1, ok.2.1, ok.2.2.1⟩ hR, hy, hts _ w2⟩ hp rfl hn hls.1 rfl (x_sum hst) hd hf
  · exact vx_runIN (bytes := cc) (maxL := nL) S C' ⟨va_cnB n hts ok.good rfl rfl rfl (hKs.2.1 _ w1 rfl) (hts _ ok.2.2.2.2.1) ⟨ok.1, ok.2.1, ok.2.2.1⟩ hR, hy, hts _ w2⟩ hp rfl hn hls.1 rfl (x_sum hst) hd hf
/-- Object.<init> -/
theorem x_objInit {b idx : Nat} (w1 : Cond.methodLink (ky K).cls idx Lib.objectInit ∈ lw_all) (w2 : Cond.instanceMethod Lib.objectInit ∈ lw_all) (w3 : Cond.code Lib.objectInit ⟨#[0xb1]⟩ 1 none ∈ lw_all) (hd : decode (kc K) pc = .ok (.invokespecial idx, 3)) (hD : 1 ≤ d) (hst : (st.map fun v => v.category).sum ≤ 8) (k : X G c K d mc ms Q bc bs h (pc + 3) lv st) : X G c K d mc ms Q bc bs h pc lv (.ref b :: st) := by
  intro B H locs cells slots ls A hls
  have hts := B.2.2.2.2.2.2.1
  refine W.objInit B.1 B.2.1 B.2.2.2.2.2.1 (hts _ w1) (hts _ w2) (hts _ w3) rfl (hls.1.trans B.2.2.2.2.1.symm) rfl hd hD ?_ (k B H locs cells slots ls A hls)
  show 2 * 0 + _ + 12 ≤ 64 * d
  omega
/-- THE CONTRACT OUT OF ITS BODY -/
theorem Cal.of {K : KX} {d mc ms : Nat} {As : List Value} {h : AH} {Q : OC → AH → Prop} (hy : plainName (ky K).cls = true) (hlen : (lg_sl As).length ≤ kl K)
    (body : ∀ (c : CX), X G c K d mc ms Q mc ms h 0 (lv_args 0 As) []) : Cal G K d mc ms As h Q := by
  obtain ⟨y, cc, nL, r, hh⟩ := K
  cases hh with
  | nil =>
    refine vx_ofW (cc := cc) (maxL := nL) (ret := r) hy rfl ?_
    intro p e s m args below meth c s₁ B hml het hv
    obtain ⟨rfl, hK, hR⟩ := hv
    have hts := atoms_spec (ws := kw (y, cc, nL, r, []) :: lw_all) B.pre
    rw [lg_entry_eq]
    refine body (p, e, s, m, As.toArray, below, meth, c) ⟨B.exec, B.bytes, B.returns, B.notSynchronized, hml, findClass_of_methodNamed B.named, fun w hw => hts w (List.mem_cons_of_mem _ hw), hK, (name_of_methodNamed B.named B.method).1, ?_, fun q hq => hR.2.2.2.1 q hq⟩ s.heap [] 0 0 _ ⟨hR, (fun q hq => nomatch hq), by omega, by omega, Nat.le_refl _⟩ (lv_entry As hlen)
    show c.exceptionTable.toList = []
    cases hl : c.exceptionTable.toList with
    | nil => rfl
    | cons x xs => exact (het x (by rw [hl]; exact List.mem_cons_self)).elim
  | cons q qs =>
    refine vx_ofWH (cc := cc) (maxL := nL) (ret := r) (hh := q :: qs) hy rfl ?_
    intro p e s m args below meth c s₁ B hml hv
    obtain ⟨rfl, hK, hR⟩ := hv
    have hts := atoms_spec (ws := kw (y, cc, nL, r, q :: qs) :: lw_all) B.pre
    have het := vx_table (x := y) B (hts _ List.mem_cons_self)
    rw [lg_entry_eq]
    exact body (p, e, s, m, As.toArray, below, meth, c) ⟨B.exec, B.bytes, B.returns, B.notSynchronized, hml, findClass_of_methodNamed B.named, fun w hw => hts w (List.mem_cons_of_mem _ hw), hK, (name_of_methodNamed B.named B.method).1, het, fun q hq => hR.2.2.2.1 q hq⟩ s.heap [] 0 0 _ ⟨hR, (fun q hq => nomatch hq), by omega, by omega, Nat.le_refl _⟩ (lv_entry As hlen)
/-- the end may be weaker -/
theorem X.weaken {Q1 Q2 : OC → AH → Prop} (hQ : ∀ o h', Q1 o h' → Q2 o h') (k : X G c K d mc ms Q1 bc bs h pc lv st) : X G c K d mc ms Q2 bc bs h pc lv st := by
  intro B H locs cells slots ls A hls T hT X0
  obtain ⟨t, a1, o, b1, b2, b3⟩ := k B H locs cells slots ls A hls T hT X0
  refine ⟨t, a1, o, b1, b2, ?_⟩
  rcases b3 with ⟨⟨v, h', e1, e2, e3⟩, r⟩ | ⟨q, e0, E, ce, L, ⟨h', f1, f2⟩, r⟩
  · exact Or.inl ⟨⟨v, h', e1, hQ _ _ e2, e3⟩, r⟩
  · exact Or.inr ⟨q, e0, E, ce, L, ⟨h', hQ _ _ f1, f2⟩, r⟩
end XC

