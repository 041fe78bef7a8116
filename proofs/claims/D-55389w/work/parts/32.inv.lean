/-! ROWS over the abstract heap: calls of inherited methods, super calls, nest mates, interfaces, defaults of interfaces; printed by tools/mkinv.py -/
set_option maxRecDepth 100000
section INV
variable {G : GG} {c : CX} {K : KX} {d mc ms : Nat} {Q : OC → AH → Prop} {bc bs : Nat} {h : AH} {pc : Nat} {lv : List (Nat × Value)} {st st0 : List Value}
/-- the callee's contract as the caller takes it up; len: the instruction's length -/
theorem x_back {K' : KX} {n d' mc' ms' len : Nat} {As : List Value} {Q' : OC → AH → Prop} (C' : Cal G K' d' mc' ms' As h Q') (ok : COk K' n) (B : CxOk G c K) (hD : d' + 1 ≤ d) :
    vx_Back (gl G) (rmx d mc ms) (cxp c) (cxe c) (cxb c) (cxs c) (cxa c) (ky K') len 8 (PreOf (rmx d mc ms) mc' ms' (xPc G As h)) (PostOf (xQc G Q') mc' ms' (fun q => gz G ≤ q)) (vx_Post (xXC G Q') mc' ms' (fun q => gz G ≤ q)) := by
  have hts := B.2.2.2.2.2.2.1
  have hR := x_rm (mc := mc) (ms := ms) (mc' := mc') (ms' := ms') hD ok.2.2.2.2.2
  have hini := hts _ ok.2.2.2.2.1
  obtain ⟨y, cc, nL, r, hh⟩ := K'
  cases hh with
  | nil => exact vx_back (bytes := cc) (maxL := nL) (ret := r) C' xPc_blind rfl rfl hR.1 hR.2 (pay_in hts ok.good) List.mem_cons_self (fun a' U hW => word_at hW (Or.inl (by first | rfl | simp [Cond.onTables, Cond.keeps, Cond.steady])) hini)
  | cons q qs => exact vx_backW (hh := q :: qs) (bytes := cc) (maxL := nL) (ret := r) C' xPc_blind rfl rfl hR.1 hR.2 (pay_in hts ok.good) List.mem_cons_self (fun a' U hW => word_at hW (Or.inl (by first | rfl | simp [Cond.onTables, Cond.keeps, Cond.steady])) hini)
/-- the callee's descriptor, out of its code's word -/
theorem x_sig {K' : KX} {n : Nat} (ok : COk K' n) (B : CxOk G c K) {mk : MethodId} {meth : Method} (hn : (cxs c).methodNamed? (ky K') = some mk) (hm : (cxs c).vm.method? mk = some meth) : parseMethodDescriptor (ky K').desc = some meth.sig := by
  have hts := B.2.2.2.2.2.2.1
  have hw := hts _ ok.2.2.2.1
  obtain ⟨y, cc, nL, r, hh⟩ := K'
  cases hh with
  | nil =>
    obtain ⟨m', cM, h1, -, -, -, -, -, -, h2⟩ := Cond.code_spec hn hw
    cases hm.symm.trans h1
    exact h2
  | cons q qs =>
    obtain ⟨m8, m', cM, h0, h1, -, -, -, -, -, -, h2⟩ := Cond.codeWith_spec hw
    cases Option.some.inj (h0.symm.trans hn)
    cases hm.symm.trans h1
    exact h2
abbrev xD (len : Nat) (G : GG) (c : CX) (d mc ms : Nat) (locs : List Loc) (cells slots mc' ms' : Nat) (T : State) (g : JFrame) (rest : List Value) (Av : Array Value) (Q' : OC → AH → Prop) : Prop :=
    (∃ (v : Option Value) (vm₁ : Vm) (B : Pt), (cxs c).WarmedH vm₁ ∧ Stand (cxp c) (gl G) (cxe c) (rmx d mc ms) (cxs c) (cxm c) (cxa c) (cxb c) (cxt c) (cxc c) B.U B.locs B.cells B.slots ∧ PostOf (xQc G Q') mc' ms' (fun q => gz G ≤ q) ⟨T.setVm vm₁, locs, cells, slots⟩ Av v B ∧
      ∀ target, Steps (cxp c).tables (cxe c) (cxb c) (B.U.setTop { g with pc := g.pc + len, stack := v.toList ++ rest }) target → Steps (cxp c).tables (cxe c) (cxb c) (T.setTop g) target) ∨
    (∃ (q : Addr) (vm₁ : Vm) (B : Pt), (cxs c).WarmedH vm₁ ∧ Stand (cxp c) (gl G) (cxe c) (rmx d mc ms) (cxs c) (cxm c) (cxa c) (cxb c) (cxt c) (cxc c) B.U B.locs B.cells B.slots ∧ vx_Post (xXC G Q') mc' ms' (fun q => gz G ≤ q) ⟨T.setVm vm₁, locs, cells, slots⟩ Av q B ∧
      Steps (cxp c).tables (cxe c) (cxb c) (T.setTop g) ((B.U.setTop { g with stack := rest }).pushFrame (.throwing q)))
theorem x_goes3 {H : Heap} {locs : List Loc} {cells slots mc' ms' : Nat} {g : JFrame} {rest : List Value} {Av : Array Value} {Q' : OC → AH → Prop}
    (k : ∀ T : State, T.heap = H → Stand (cxp c) (gl G) (cxe c) (rmx d mc ms) (cxs c) (cxm c) (cxa c) (cxb c) (cxt c) (cxc c) T locs cells slots → xD 3 G c d mc ms locs cells slots mc' ms' T g rest Av Q') : xRun G c d mc ms H locs cells slots mc' ms' g rest Av Q' := by
  intro T hT X
  rcases k T hT X with ⟨v, vm₁, ⟨U', l2, c2, s2⟩, hW₁, X', ⟨g', mk, t, L, e1, e2, hq, h1, hL, h2, h3⟩, st⟩ | ⟨q, vm₁, ⟨U', l2, c2, s2⟩, hW₁, X', ⟨g', mk, t, L, E, ce, e1, e2, hq, hce, hcv, hcl, h1, hL, h2, h3⟩, st⟩
  · dsimp only [Pt.U, Pt.locs, Pt.cells, Pt.slots] at X' e1 e2 h1 h2 h3 st
    subst h1; subst h2; subst h3
    exact Or.inl ⟨v, (T.setVm vm₁).calling g' mk Av, t, U', L, hT, X', hL, e1, e2, hq, st⟩
  · dsimp only [Pt.U, Pt.locs, Pt.cells, Pt.slots] at X' e1 e2 h1 h2 h3 st hcl
    subst h1; subst h2; subst h3
    exact Or.inr ⟨q, (T.setVm vm₁).calling g' mk Av, t, U', L, E, ce, hT, X', hL, e1, e2, hq, hce, hcv, vx_cls hW₁ hcl, st⟩
theorem x_goes5 {H : Heap} {locs : List Loc} {cells slots mc' ms' : Nat} {g : JFrame} {rest : List Value} {Av : Array Value} {Q' : OC → AH → Prop}
    (k : ∀ T : State, T.heap = H → Stand (cxp c) (gl G) (cxe c) (rmx d mc ms) (cxs c) (cxm c) (cxa c) (cxb c) (cxt c) (cxc c) T locs cells slots → xD 5 G c d mc ms locs cells slots mc' ms' T g rest Av Q') : xRun5 G c d mc ms H locs cells slots mc' ms' g rest Av Q' := by
  intro T hT X
  rcases k T hT X with ⟨v, vm₁, ⟨U', l2, c2, s2⟩, hW₁, X', ⟨g', mk, t, L, e1, e2, hq, h1, hL, h2, h3⟩, st⟩ | ⟨q, vm₁, ⟨U', l2, c2, s2⟩, hW₁, X', ⟨g', mk, t, L, E, ce, e1, e2, hq, hce, hcv, hcl, h1, hL, h2, h3⟩, st⟩
  · dsimp only [Pt.U, Pt.locs, Pt.cells, Pt.slots] at X' e1 e2 h1 h2 h3 st
    subst h1; subst h2; subst h3
    exact Or.inl ⟨v, (T.setVm vm₁).calling g' mk Av, t, U', L, hT, X', hL, e1, e2, hq, st⟩
  · dsimp only [Pt.U, Pt.locs, Pt.cells, Pt.slots] at X' e1 e2 h1 h2 h3 st hcl
    subst h1; subst h2; subst h3
    exact Or.inr ⟨q, (T.setVm vm₁).calling g' mk Av, t, U', L, E, ce, hT, X', hL, e1, e2, hq, hce, hcv, vx_cls hW₁ hcl, st⟩
/-- invokevirtual of a method that a class above declares -/
theorem x_invU {K' : KX} {n d' mc' ms' idx b ci : Nat} {C : String} {x : MethodName} {T : u_T} {N : Nat} {As : List Value} {Q' : OC → AH → Prop} (C' : Cal G K' d' mc' ms' (.ref b :: As) h Q') (ok : COk K' n) (L : CLk ci C T N) (hx : ky K' = ⟨(ky K').cls, x.name, x.desc⟩)
    (w1 : Cond.methodLink (ky K).cls idx x ∈ lw_all) (w4 : Cond.sameMethod x.cls (ky K').cls x.name x.desc ∈ lw_all) (w2 : Cond.instanceMethod (ky K') ∈ lw_all) (w3 : Cond.selects C x (ky K') ∈ lw_all)
    (hd : decode (kc K) pc = .ok (.invokevirtual idx, 3)) (hk : kO ci (hKd h b)) (hn : As.length = n) (hs : st0 = As.reverse ++ .ref b :: st) (hD : d' + 1 ≤ d) (hB : mc' ≤ bc) (hS : ms' ≤ bs) (hst : (st.map fun v => v.category).sum ≤ 8)
    (k : ∀ (v : Option Value) (h' : AH), Q' (.inl v) h' → hSz h ≤ hSz h' → X G c K d mc ms Q (bc - mc') (bs - ms') h' (pc + 3) lv (v.toList ++ st))
    (kx : ∀ (E : String) (q : Nat) (h' : AH), Q' (.inr (E, q)) h' → hSz h ≤ hSz h' → XT G c K d mc ms Q (bc - mc') (bs - ms') h' pc lv E q) : X G c K d mc ms Q bc bs h pc lv st0 := by
  subst hs
  refine x_run (as := (Value.ref b :: As).toArray) hB hS (fun B H locs cells slots ls A hls => ?_) k kx
  have hKs := B.2.2.2.2.2.2.2.1
  have hts := B.2.2.2.2.2.2.1
  have hf : cells + mc' ≤ (rmx d mc ms).cells ∧ slots + ms' ≤ (rmx d mc ms).slots := ⟨by have := A.2.2.1; show _ ≤ mc; omega, by have := A.2.2.2.1; show _ ≤ ms; omega⟩
  obtain ⟨cellB, hcB, hoB, hclB⟩ := A.1.recv hKs L hk
  refine x_goes3 (fun T hT X => ?_)
  obtain ⟨y, cc, nL, r, hh⟩ := K'
  have hlen : ∀ sig, parseMethodDescriptor x.desc = some sig → As.length = sig.parameters.length := fun sig h => hn.trans (ok.len sig (by rw [show ky (y, cc, nL, r, hh) = ⟨y.cls, x.name, x.desc⟩ from hx]; exact h))
  have hdcl : va_Decl (cxs c) ⟨y.cls, x.name, x.desc⟩ := by
    obtain ⟨mk, methM, h1, h2, h3, -⟩ := Cond.instanceMethod_spec (hts _ w2)
    have h1' : (cxs c).methodNamed? ⟨y.cls, x.name, x.desc⟩ = some mk := by rw [show (⟨y.cls, x.name, x.desc⟩ : MethodName) = y from hx.symm]; exact h1
    refine ⟨mk, methM, h1', h2, h3, ?_⟩
    have := x_sig (c := c) ok B h1 h2
    rw [show ky (y, cc, nL, r, hh) = ⟨y.cls, x.name, x.desc⟩ from hx] at this
    exact this
  have hbk := x_back (len := 3) (mc := mc) (ms := ms) C' ok B hD
  obtain ⟨r0, r1, hn0, hrm, hstR, hsigR⟩ := hdcl
  obtain ⟨cn, ck, r2, hcn, hck, hni, hfo, hn1⟩ := Cond.sameMethod_found (hts _ w4)
  cases hn0.symm.trans hn1
  obtain ⟨mk, methM, hnamed, hmethM, -, habM⟩ := Cond.instanceMethod_spec (hts _ w2)
  obtain ⟨c2, r3, m2, q1, q2, q3, q4, kP, hkP, hkPi⟩ := Cond.selects_spec (hts _ w3)
  cases hclB.symm.trans q1
  cases hfo.symm.trans q2
  cases hnamed.symm.trans q3
  have hselP : selectMethod (cxe c).platform (cxs c).vm cellB.cls r0 = .method mk := by rw [Launch.admits_selectMethod X.admits]; exact q4
  obtain ⟨vm₁, X₁, hstep₁⟩ := X.invokevirtualUp B.1 B.2.2.2.2.2.1 (hts _ w1) (hts _ w4) ⟨ok.1, ok.2.1⟩ hn0 hrm hstR (a := b) (cell := cellB) (by rw [hT]; exact hcB)
    (fun z h => by rw [h] at hoB; cases hoB) hselP hmethM habM hkP hkPi (g := F0 (cxm c) pc ls (As.reverse ++ .ref b :: st)) rfl (argsL := As) (rest := st) (hlen _ hsigR) rfl (by rw [B.2.1]; exact hd)
  rcases hbk (cxm c) (cxt c) (cxc c) ⟨T.setVm vm₁, locs, cells, slots⟩ { F0 (cxm c) pc ls (As.reverse ++ .ref b :: st) with stack := st } (.invokevirtual idx) mk (Value.ref b :: As).toArray X₁ rfl (hls.1.trans B.2.2.2.2.1.symm) (by rw [B.2.1]; exact hd) (x_sum hst) (X₁.named hnamed) ⟨hf.1, hf.2, x_pc hKs A.1 (T.setVm vm₁) hT X₁.warmed⟩ with ⟨v, B9, X', hpost, hsteps⟩ | ⟨q, B9, X', hpost, hsteps⟩
  · exact Or.inl ⟨v, vm₁, B9, X₁.warmed, X', hpost, fun target h => hstep₁ _ fun acts => by rw [doInvoke_state]; exact hsteps.trans h⟩
  · exact Or.inr ⟨q, vm₁, B9, X₁.warmed, X', hpost, hstep₁ _ fun acts => by rw [doInvoke_state]; exact hsteps⟩
/-- super.m(..) -/
theorem x_invSU {K' : KX} {n d' mc' ms' idx b ci : Nat} {C : String} {T : u_T} {N : Nat} {As : List Value} {Q' : OC → AH → Prop} (C' : Cal G K' d' mc' ms' (.ref b :: As) h Q') (ok : COk K' n) (L : CLk ci C T N) (hno : (ky K').name ≠ "<init>")
    (w1 : Cond.methodLink (ky K).cls idx (ky K') ∈ lw_all) (w4 : Cond.sameMethod (ky K').cls (ky K').cls (ky K').name (ky K').desc ∈ lw_all) (w2 : Cond.instanceMethod (ky K') ∈ lw_all) (w3 : Cond.superclass (ky K).cls (ky K').cls ∈ lw_all)
    (hd : decode (kc K) pc = .ok (.invokespecial idx, 3)) (hk : kO ci (hKd h b)) (hn : As.length = n) (hs : st0 = As.reverse ++ .ref b :: st) (hD : d' + 1 ≤ d) (hB : mc' ≤ bc) (hS : ms' ≤ bs) (hst : (st.map fun v => v.category).sum ≤ 8)
    (k : ∀ (v : Option Value) (h' : AH), Q' (.inl v) h' → hSz h ≤ hSz h' → X G c K d mc ms Q (bc - mc') (bs - ms') h' (pc + 3) lv (v.toList ++ st))
    (kx : ∀ (E : String) (q : Nat) (h' : AH), Q' (.inr (E, q)) h' → hSz h ≤ hSz h' → XT G c K d mc ms Q (bc - mc') (bs - ms') h' pc lv E q) : X G c K d mc ms Q bc bs h pc lv st0 := by
  subst hs
  refine x_run (as := (Value.ref b :: As).toArray) hB hS (fun B H locs cells slots ls A hls => ?_) k kx
  have hKs := B.2.2.2.2.2.2.2.1
  have hts := B.2.2.2.2.2.2.1
  have hf : cells + mc' ≤ (rmx d mc ms).cells ∧ slots + ms' ≤ (rmx d mc ms).slots := ⟨by have := A.2.2.1; show _ ≤ mc; omega, by have := A.2.2.2.1; show _ ≤ ms; omega⟩
  obtain ⟨cellB, hcB, hoB, hclB⟩ := A.1.recv hKs L hk
  obtain ⟨hfc, kB, hkB, -⟩ := hKs.at L
  rw [Option.some.inj (hfc.symm.trans hclB)] at hkB
  refine x_goes3 (fun T hT X => ?_)
  obtain ⟨y, cc, nL, r, hh⟩ := K'
  have hbk := x_back (len := 3) (mc := mc) (ms := ms) C' ok B hD
  have hown := B.2.2.2.2.2.1
  obtain ⟨mk, methM, hnamed, hmethM, hstM, habM⟩ := Cond.instanceMethod_spec (hts _ w2)
  have hsigM := x_sig (c := c) ok B hnamed hmethM
  obtain ⟨ps, dk, kp, hps, hdk, hkp, hsuper, -, -, hnid⟩ := Cond.superclass_spec hown (hts _ w3)
  have hn0 : (cxs c).methodNamed? ⟨y.cls, y.name, y.desc⟩ = some mk := hnamed
  have hpm : ps = mk.cls := Option.some.inj (hps.symm.trans (findClass_of_methodNamed hnamed))
  have hsub : (cxs c).vm.isSubclass ps mk.cls = true := by rw [hpm]; simp [Vm.isSubclass, Vm.isSubclassAux]
  obtain ⟨vm₁, X₁, hstep₁⟩ := X.invokespecialUp B.1 hown (hts _ w1) (hts _ w4) hn0 hmethM hstM habM hno hdk hnid hps hsuper hsub (a := b) (cell := cellB) (by rw [hT]; exact hcB)
    (fun z h => by rw [h] at hoB; cases hoB) hkB (g := F0 (cxm c) pc ls (As.reverse ++ .ref b :: st)) rfl (argsL := As) (rest := st) (hn.trans (ok.len _ hsigM)) rfl (by rw [B.2.1]; exact hd)
  rcases hbk (cxm c) (cxt c) (cxc c) ⟨T.setVm vm₁, locs, cells, slots⟩ { F0 (cxm c) pc ls (As.reverse ++ .ref b :: st) with stack := st } (.invokespecial idx) mk (Value.ref b :: As).toArray X₁ rfl (hls.1.trans B.2.2.2.2.1.symm) (by rw [B.2.1]; exact hd) (x_sum hst) (X₁.named hnamed) ⟨hf.1, hf.2, x_pc hKs A.1 (T.setVm vm₁) hT X₁.warmed⟩ with ⟨v, B9, X', hpost, hsteps⟩ | ⟨q, B9, X', hpost, hsteps⟩
  · exact Or.inl ⟨v, vm₁, B9, X₁.warmed, X', hpost, fun target h => hstep₁ _ (by rw [doInvoke_state]; exact hsteps.trans h)⟩
  · exact Or.inr ⟨q, vm₁, B9, X₁.warmed, X', hpost, hstep₁ _ (by rw [doInvoke_state]; exact hsteps)⟩
/-- invokestatic of a nest mate's private method -/
theorem x_invSN {K' : KX} {n d' mc' ms' idx : Nat} {host : String} {As : List Value} {Q' : OC → AH → Prop} (C' : Cal G K' d' mc' ms' As h Q') (ok : COk K' n) (w1 : Cond.methodLinkNest (ky K).cls idx (ky K') host ∈ lw_tbl) (w2 : Cond.static (ky K') ∈ lw_all)
    (hd : decode (kc K) pc = .ok (.invokestatic idx, 3)) (hn : As.length = n) (hs : st0 = As.reverse ++ st) (hD : d' + 1 ≤ d) (hB : mc' ≤ bc) (hS : ms' ≤ bs) (hst : (st.map fun v => v.category).sum ≤ 8)
    (k : ∀ (v : Option Value) (h' : AH), Q' (.inl v) h' → hSz h ≤ hSz h' → X G c K d mc ms Q (bc - mc') (bs - ms') h' (pc + 3) lv (v.toList ++ st))
    (kx : ∀ (E : String) (q : Nat) (h' : AH), Q' (.inr (E, q)) h' → hSz h ≤ hSz h' → XT G c K d mc ms Q (bc - mc') (bs - ms') h' pc lv E q) : X G c K d mc ms Q bc bs h pc lv st0 := by
  subst hs
  refine x_run (as := As.toArray) hB hS (fun B H locs cells slots ls A hls => ?_) k kx
  have hKs := B.2.2.2.2.2.2.2.1
  have hts := B.2.2.2.2.2.2.1
  have hf : cells + mc' ≤ (rmx d mc ms).cells ∧ slots + ms' ≤ (rmx d mc ms).slots := ⟨by have := A.2.2.1; show _ ≤ mc; omega, by have := A.2.2.2.1; show _ ≤ ms; omega⟩
  refine x_goes3 (fun T hT X => ?_)
  obtain ⟨y, cc, nL, r, hh⟩ := K'
  have hbk := x_back (len := 3) (mc := mc) (ms := ms) C' ok B hD
  have hini := hts _ ok.2.2.2.2.1
  obtain ⟨mk, hnamed⟩ : ∃ mk, (cxs c).methodNamed? y = some mk := by
    have hw := hts _ ok.2.2.2.1
    cases hh with
    | nil => exact Cond.code_named hw
    | cons q qs =>
      obtain ⟨m8, m', cM, h0, -⟩ := Cond.codeWith_spec hw
      exact ⟨m8, h0⟩
  obtain ⟨methM, hmethM⟩ : ∃ methM, (cxs c).vm.method? mk = some methM := by
    have hw := hts _ ok.2.2.2.1
    cases hh with
    | nil =>
      obtain ⟨methM, cM, hmethM, -⟩ := Cond.code_spec hnamed hw
      exact ⟨methM, hmethM⟩
    | cons q qs =>
      obtain ⟨m8, m', cM, h0, h1, -⟩ := Cond.codeWith_spec hw
      cases Option.some.inj (h0.symm.trans hnamed)
      exact ⟨m', h1⟩
  have hsigM := x_sig (c := c) ok B hnamed hmethM
  have hstatic : methM.isStatic = true := Cond.static_spec hnamed hmethM (hts _ w2)
  obtain ⟨kP, hkP, -⟩ := className_of_methodNamed hnamed
  have hinitP : kP.init = .initialized := Cond.initialized_spec (findClass_of_methodNamed hnamed) hkP hini
  obtain ⟨vm₁, X₁, hstep₁⟩ := X.invokestaticNest B.1 B.2.2.2.2.2.1 (va_Nw.use (A := cxa c) rfl (hKs.2.1 _ w1 rfl)) hnamed hmethM hstatic hkP hinitP ⟨ok.1, ok.2.1⟩ (g := F0 (cxm c) pc ls (As.reverse ++ st)) rfl (argsL := As) (rest := st) (hn.trans (ok.len _ hsigM)) rfl (by rw [B.2.1]; exact hd)
  rcases hbk (cxm c) (cxt c) (cxc c) ⟨T.setVm vm₁, locs, cells, slots⟩ { F0 (cxm c) pc ls (As.reverse ++ st) with stack := st } (.invokestatic idx) mk As.toArray X₁ rfl (hls.1.trans B.2.2.2.2.1.symm) (by rw [B.2.1]; exact hd) (x_sum hst) (X₁.named hnamed) ⟨hf.1, hf.2, x_pc hKs A.1 (T.setVm vm₁) hT X₁.warmed⟩ with ⟨v, B9, X', hpost, hsteps⟩ | ⟨q, B9, X', hpost, hsteps⟩
  · exact Or.inl ⟨v, vm₁, B9, X₁.warmed, X', hpost, fun target h => hstep₁ _ fun acts => by rw [doInvoke_state]; exact hsteps.trans h⟩
  · exact Or.inr ⟨q, vm₁, B9, X₁.warmed, X', hpost, hstep₁ _ fun acts => by rw [doInvoke_state]; exact hsteps⟩
/-- invokeinterface -/
theorem x_invF {K' : KX} {n d' mc' ms' idx b ci cnt : Nat} {C : String} {x : MethodName} {T : u_T} {N : Nat} {As : List Value} {Q' : OC → AH → Prop} (C' : Cal G K' d' mc' ms' (.ref b :: As) h Q') (ok : COk K' n) (L : CLk ci C T N) (hx : x.desc = (ky K').desc) (hM : x.cls ≠ "java/lang/invoke/MethodHandle" ∧ x.cls ≠ "java/lang/invoke/VarHandle")
    (w1 : Cond.methodLink (ky K).cls idx x ∈ lw_all) (w4 : Cond.declares x ∈ lw_tbl) (w5 : Cond.interfaceMethod x.cls x.cls x.name x.desc ∈ lw_tbl) (w2 : Cond.instanceMethod (ky K') ∈ lw_all) (w3 : Cond.selects C x (ky K') ∈ lw_all) (w6 : Cond.publicMethod (ky K') ∈ lw_tbl) (w7 : Cond.unhidden C x.name x.desc ∈ lw_tbl) (w8 : Cond.castable C x.cls ∈ lw_tbl)
    (hd : decode (kc K) pc = .ok (.invokeinterface idx cnt, 5)) (hk : kO ci (hKd h b)) (hn : As.length = n) (hs : st0 = As.reverse ++ .ref b :: st) (hD : d' + 1 ≤ d) (hB : mc' ≤ bc) (hS : ms' ≤ bs) (hst : (st.map fun v => v.category).sum ≤ 8)
    (k : ∀ (v : Option Value) (h' : AH), Q' (.inl v) h' → hSz h ≤ hSz h' → X G c K d mc ms Q (bc - mc') (bs - ms') h' (pc + 5) lv (v.toList ++ st))
    (kx : ∀ (E : String) (q : Nat) (h' : AH), Q' (.inr (E, q)) h' → hSz h ≤ hSz h' → XT G c K d mc ms Q (bc - mc') (bs - ms') h' pc lv E q) : X G c K d mc ms Q bc bs h pc lv st0 := by
  subst hs
  refine x_run5 (as := (Value.ref b :: As).toArray) hB hS (fun B H locs cells slots ls A hls => ?_) k kx
  have hKs := B.2.2.2.2.2.2.2.1
  have hts := B.2.2.2.2.2.2.1
  have hf : cells + mc' ≤ (rmx d mc ms).cells ∧ slots + ms' ≤ (rmx d mc ms).slots := ⟨by have := A.2.2.1; show _ ≤ mc; omega, by have := A.2.2.2.1; show _ ≤ ms; omega⟩
  obtain ⟨cellB, hcB, hoB, hclB⟩ := A.1.recv hKs L hk
  obtain ⟨hfc, kB, hkB, -⟩ := hKs.at L
  rw [Option.some.inj (hfc.symm.trans hclB)] at hkB
  refine x_goes5 (fun T hT X => ?_)
  obtain ⟨y, cc, nL, r, hh⟩ := K'
  have hbk := x_back (len := 5) (mc := mc) (ms := ms) C' ok B hD
  have hface := hKs.2.2.1 x w4 w5 hM
  obtain ⟨r0, r9, hn0, hrm, hstR, hsigR⟩ := Cond.declares_spec (hKs.2.1 _ w4 rfl)
  obtain ⟨cL, kL, r1, hcL, hkL, hiL, hfoundL, hn1⟩ := Cond.interfaceMethod_spec hface
  cases hn0.symm.trans hn1
  have hr0cls : r0.cls = cL := Option.some.inj ((findClass_of_methodNamed hn0).symm.trans hcL)
  obtain ⟨hnameR, hdescR⟩ := name_of_methodNamed hn0 hrm
  obtain ⟨mk, methM, hnamed, hmethM, -, habM⟩ := Cond.instanceMethod_spec (hts _ w2)
  obtain ⟨c2, r2, m2, q1, q2, q3, q4, -⟩ := Cond.selects_spec (hts _ w3)
  cases hclB.symm.trans q1
  cases hfoundL.symm.trans q2
  cases hnamed.symm.trans q3
  have hselP : selectMethod (cxe c).platform (cxs c).vm cellB.cls r0 = .method mk := by rw [Launch.admits_selectMethod X.admits]; exact q4
  have hpubM : hasFlag methM.accessFlags Acc.public_ = true := Cond.publicMethod_spec hnamed hmethM (va_Nw.use (A := cxa c) rfl (hKs.2.1 _ w6 rfl))
  have hway : ((cellB.cls :: (cxs c).vm.superclasses cellB.cls).any fun k => (declaredIn (cxs c).vm r9.name r9.desc k).any fun (_, z) => z.isPrivate || z.isStatic) = false := by
    rw [hnameR, hdescR]; exact Cond.unhidden_spec hclB (va_Nw.use (A := cxa c) rfl (hKs.2.1 _ w7 rfl))
  obtain ⟨c3, t3, e1, e2, e3⟩ := Cond.castable_spec (va_Nw.use (A := cxa c) rfl (hKs.2.1 _ w8 rfl))
  cases hclB.symm.trans e1
  cases hcL.symm.trans e2
  obtain ⟨vm₁, X₁, hstep₁⟩ := X.invokeinterface B.1 B.2.2.2.2.2.1 (hts _ w1) hn0 hrm hstR (by rw [hr0cls]; exact hkL) hiL hM (a := b) (cell := cellB) (kcell := kB) (by rw [hT]; exact hcB)
    (fun z h => by rw [h] at hoB; cases hoB) hkB (by rw [hr0cls]; exact e3) hselP hmethM hway hpubM habM (g := F0 (cxm c) pc ls (As.reverse ++ .ref b :: st)) rfl (argsL := As) (rest := st) (hn.trans (ok.len _ (by rw [← show x.desc = y.desc from hx]; exact hsigR))) rfl (by rw [B.2.1]; exact hd)
  rcases hbk (cxm c) (cxt c) (cxc c) ⟨T.setVm vm₁, locs, cells, slots⟩ { F0 (cxm c) pc ls (As.reverse ++ .ref b :: st) with stack := st } (.invokeinterface idx cnt) mk (Value.ref b :: As).toArray X₁ rfl (hls.1.trans B.2.2.2.2.1.symm) (by rw [B.2.1]; exact hd) (x_sum hst) (X₁.named hnamed) ⟨hf.1, hf.2, x_pc hKs A.1 (T.setVm vm₁) hT X₁.warmed⟩ with ⟨v, B9, X', hpost, hsteps⟩ | ⟨q, B9, X', hpost, hsteps⟩
  · exact Or.inl ⟨v, vm₁, B9, X₁.warmed, X', hpost, fun target h => hstep₁ _ fun acts => by rw [doInvoke_state]; exact hsteps.trans h⟩
  · exact Or.inr ⟨q, vm₁, B9, X₁.warmed, X', hpost, hstep₁ _ fun acts => by rw [doInvoke_state]; exact hsteps⟩
/-- invokeinterface that lands in a default -/
theorem x_invFD {K' : KX} {n d' mc' ms' idx b ci cnt : Nat} {C : String} {x : MethodName} {T : u_T} {N : Nat} {As : List Value} {Q' : OC → AH → Prop} (C' : Cal G K' d' mc' ms' (.ref b :: As) h Q') (ok : COk K' n) (L : CLk ci C T N) (hx : x.desc = (ky K').desc) (hM : x.cls ≠ "java/lang/invoke/MethodHandle" ∧ x.cls ≠ "java/lang/invoke/VarHandle")
    (w1 : Cond.methodLink (ky K).cls idx x ∈ lw_all) (w4 : Cond.declares x ∈ lw_tbl) (w5 : Cond.interfaceMethod x.cls x.cls x.name x.desc ∈ lw_tbl) (w2 : Cond.instanceMethod (ky K') ∈ lw_all) (w3 : (C, x, ky K') ∈ xld) (w6 : Cond.publicMethod (ky K') ∈ lw_tbl) (w8 : Cond.castable C x.cls ∈ lw_tbl)
    (hd : decode (kc K) pc = .ok (.invokeinterface idx cnt, 5)) (hk : kO ci (hKd h b)) (hn : As.length = n) (hs : st0 = As.reverse ++ .ref b :: st) (hD : d' + 1 ≤ d) (hB : mc' ≤ bc) (hS : ms' ≤ bs) (hst : (st.map fun v => v.category).sum ≤ 8)
    (k : ∀ (v : Option Value) (h' : AH), Q' (.inl v) h' → hSz h ≤ hSz h' → X G c K d mc ms Q (bc - mc') (bs - ms') h' (pc + 5) lv (v.toList ++ st))
    (kx : ∀ (E : String) (q : Nat) (h' : AH), Q' (.inr (E, q)) h' → hSz h ≤ hSz h' → XT G c K d mc ms Q (bc - mc') (bs - ms') h' pc lv E q) : X G c K d mc ms Q bc bs h pc lv st0 := by
  subst hs
  refine x_run5 (as := (Value.ref b :: As).toArray) hB hS (fun B H locs cells slots ls A hls => ?_) k kx
  have hKs := B.2.2.2.2.2.2.2.1
  have hts := B.2.2.2.2.2.2.1
  have hf : cells + mc' ≤ (rmx d mc ms).cells ∧ slots + ms' ≤ (rmx d mc ms).slots := ⟨by have := A.2.2.1; show _ ≤ mc; omega, by have := A.2.2.2.1; show _ ≤ ms; omega⟩
  obtain ⟨cellB, hcB, hoB, hclB⟩ := A.1.recv hKs L hk
  obtain ⟨hfc, kB, hkB, -⟩ := hKs.at L
  rw [Option.some.inj (hfc.symm.trans hclB)] at hkB
  refine x_goes5 (fun T hT X => ?_)
  obtain ⟨y, cc, nL, r, hh⟩ := K'
  have hbk := x_back (len := 5) (mc := mc) (ms := ms) C' ok B hD
  have hface := hKs.2.2.1 x w4 w5 hM
  obtain ⟨r0, r9, hn0, hrm, hstR, hsigR⟩ := Cond.declares_spec (hKs.2.1 _ w4 rfl)
  obtain ⟨cL, kL, r1, hcL, hkL, hiL, hfoundL, hn1⟩ := Cond.interfaceMethod_spec hface
  cases hn0.symm.trans hn1
  have hr0cls : r0.cls = cL := Option.some.inj ((findClass_of_methodNamed hn0).symm.trans hcL)
  obtain ⟨mk, methM, hnamed, hmethM, -, habM⟩ := Cond.instanceMethod_spec (hts _ w2)
  obtain ⟨c2, r2, m2, rm, q1, q2, q3, q5, q4, -, q6, -⟩ := Cond.landsInDefault_spec (hKs.2.2.2.2.2.2.2.2.1.2.1 _ w3)
  cases hclB.symm.trans q1
  cases hfoundL.symm.trans q2
  cases hnamed.symm.trans q3
  cases hrm.symm.trans q5
  have hselP : selectMethod (cxe c).platform (cxs c).vm cellB.cls r0 = .method mk := by rw [Launch.admits_selectMethod X.admits]; exact q4
  have hpubM : hasFlag methM.accessFlags Acc.public_ = true := Cond.publicMethod_spec hnamed hmethM (va_Nw.use (A := cxa c) rfl (hKs.2.1 _ w6 rfl))
  obtain ⟨c3, t3, e1, e2, e3⟩ := Cond.castable_spec (va_Nw.use (A := cxa c) rfl (hKs.2.1 _ w8 rfl))
  cases hclB.symm.trans e1
  cases hcL.symm.trans e2
  obtain ⟨vm₁, X₁, hstep₁⟩ := X.invokeinterface B.1 B.2.2.2.2.2.1 (hts _ w1) hn0 hrm hstR (by rw [hr0cls]; exact hkL) hiL hM (a := b) (cell := cellB) (kcell := kB) (by rw [hT]; exact hcB)
    (fun z h => by rw [h] at hoB; cases hoB) hkB (by rw [hr0cls]; exact e3) hselP hmethM q6 hpubM habM (g := F0 (cxm c) pc ls (As.reverse ++ .ref b :: st)) rfl (argsL := As) (rest := st) (hn.trans (ok.len _ (by rw [← show x.desc = y.desc from hx]; exact hsigR))) rfl (by rw [B.2.1]; exact hd)
  rcases hbk (cxm c) (cxt c) (cxc c) ⟨T.setVm vm₁, locs, cells, slots⟩ { F0 (cxm c) pc ls (As.reverse ++ .ref b :: st) with stack := st } (.invokeinterface idx cnt) mk (Value.ref b :: As).toArray X₁ rfl (hls.1.trans B.2.2.2.2.1.symm) (by rw [B.2.1]; exact hd) (x_sum hst) (X₁.named hnamed) ⟨hf.1, hf.2, x_pc hKs A.1 (T.setVm vm₁) hT X₁.warmed⟩ with ⟨v, B9, X', hpost, hsteps⟩ | ⟨q, B9, X', hpost, hsteps⟩
  · exact Or.inl ⟨v, vm₁, B9, X₁.warmed, X', hpost, fun target h => hstep₁ _ fun acts => by rw [doInvoke_state]; exact hsteps.trans h⟩
  · exact Or.inr ⟨q, vm₁, B9, X₁.warmed, X', hpost, hstep₁ _ fun acts => by rw [doInvoke_state]; exact hsteps⟩
/-- invokevirtual that lands in a default -/
theorem x_invVD {K' : KX} {n d' mc' ms' idx b ci : Nat} {C : String} {x : MethodName} {T : u_T} {N : Nat} {As : List Value} {Q' : OC → AH → Prop} (C' : Cal G K' d' mc' ms' (.ref b :: As) h Q') (ok : COk K' n) (L : CLk ci C T N) (hx : ky K' = ⟨(ky K').cls, x.name, x.desc⟩)
    (w1 : Cond.methodLink (ky K).cls idx x ∈ defaultWords_1) (w4 : Cond.sameMethod x.cls (ky K').cls x.name x.desc ∈ defaultWords_1) (w2 : Cond.instanceMethod (ky K') ∈ lw_all) (w3 : (C, x, ky K') ∈ xld)
    (hd : decode (kc K) pc = .ok (.invokevirtual idx, 3)) (hk : kO ci (hKd h b)) (hn : As.length = n) (hs : st0 = As.reverse ++ .ref b :: st) (hD : d' + 1 ≤ d) (hB : mc' ≤ bc) (hS : ms' ≤ bs) (hst : (st.map fun v => v.category).sum ≤ 8)
    (k : ∀ (v : Option Value) (h' : AH), Q' (.inl v) h' → hSz h ≤ hSz h' → X G c K d mc ms Q (bc - mc') (bs - ms') h' (pc + 3) lv (v.toList ++ st))
    (kx : ∀ (E : String) (q : Nat) (h' : AH), Q' (.inr (E, q)) h' → hSz h ≤ hSz h' → XT G c K d mc ms Q (bc - mc') (bs - ms') h' pc lv E q) : X G c K d mc ms Q bc bs h pc lv st0 := by
  subst hs
  refine x_run (as := (Value.ref b :: As).toArray) hB hS (fun B H locs cells slots ls A hls => ?_) k kx
  have hKs := B.2.2.2.2.2.2.2.1
  have hts := B.2.2.2.2.2.2.1
  have hf : cells + mc' ≤ (rmx d mc ms).cells ∧ slots + ms' ≤ (rmx d mc ms).slots := ⟨by have := A.2.2.1; show _ ≤ mc; omega, by have := A.2.2.2.1; show _ ≤ ms; omega⟩
  obtain ⟨cellB, hcB, hoB, hclB⟩ := A.1.recv hKs L hk
  refine x_goes3 (fun T hT X => ?_)
  obtain ⟨y, cc, nL, r, hh⟩ := K'
  have hlen : ∀ sig, parseMethodDescriptor x.desc = some sig → As.length = sig.parameters.length := fun sig h => hn.trans (ok.len sig (by rw [show ky (y, cc, nL, r, hh) = ⟨y.cls, x.name, x.desc⟩ from hx]; exact h))
  have hbk := x_back (len := 3) (mc := mc) (ms := ms) C' ok B hD
  have hwd := hKs.2.2.2.2.2.2.2.2.1.1
  obtain ⟨mk, methM, hnamed, hmethM, hstM, habM⟩ := Cond.instanceMethod_spec (hts _ w2)
  have hn0 : (cxs c).methodNamed? ⟨y.cls, x.name, x.desc⟩ = some mk := by rw [show (⟨y.cls, x.name, x.desc⟩ : MethodName) = y from hx.symm]; exact hnamed
  have hsigM : parseMethodDescriptor x.desc = some methM.sig := by
    have := x_sig (c := c) ok B hnamed hmethM
    rw [show ky (y, cc, nL, r, hh) = ⟨y.cls, x.name, x.desc⟩ from hx] at this
    exact this
  have hsame := va_Nw.use (A := cxa c) rfl (hwd _ w4 rfl)
  obtain ⟨cn, ck, r2, hcn, hck, hni, hfo, hn1⟩ := Cond.sameMethod_found hsame
  cases hn0.symm.trans hn1
  obtain ⟨c2, r3, m2, rm, q1, q2, q3, q5, q4, ⟨kP, hkP, hkPi⟩, -, q7⟩ := Cond.landsInDefault_spec (hKs.2.2.2.2.2.2.2.2.1.2.1 _ w3)
  cases hclB.symm.trans q1
  cases hfo.symm.trans q2
  cases hnamed.symm.trans q3
  cases hmethM.symm.trans q5
  have hselP : selectMethod (cxe c).platform (cxs c).vm cellB.cls mk = .method mk := by rw [Launch.admits_selectMethod X.admits]; exact q4
  obtain ⟨vm₁, X₁, hstep₁⟩ := X.invokevirtualUpD B.1 B.2.2.2.2.2.1 (va_Nw.use (A := cxa c) rfl (hwd _ w1 rfl)) hsame ⟨ok.1, ok.2.1⟩ hn0 hmethM hstM (a := b) (cell := cellB) (by rw [hT]; exact hcB)
    (fun z h => by rw [h] at hoB; cases hoB) hselP hmethM habM hkP hkPi q7 (g := F0 (cxm c) pc ls (As.reverse ++ .ref b :: st)) rfl (argsL := As) (rest := st) (hlen _ hsigM) rfl (by rw [B.2.1]; exact hd)
  rcases hbk (cxm c) (cxt c) (cxc c) ⟨T.setVm vm₁, locs, cells, slots⟩ { F0 (cxm c) pc ls (As.reverse ++ .ref b :: st) with stack := st } (.invokevirtual idx) mk (Value.ref b :: As).toArray X₁ rfl (hls.1.trans B.2.2.2.2.1.symm) (by rw [B.2.1]; exact hd) (x_sum hst) (X₁.named hnamed) ⟨hf.1, hf.2, x_pc hKs A.1 (T.setVm vm₁) hT X₁.warmed⟩ with ⟨v, B9, X', hpost, hsteps⟩ | ⟨q, B9, X', hpost, hsteps⟩
  · exact Or.inl ⟨v, vm₁, B9, X₁.warmed, X', hpost, fun target h => hstep₁ _ fun acts => by rw [doInvoke_state]; exact hsteps.trans h⟩
  · exact Or.inr ⟨q, vm₁, B9, X₁.warmed, X', hpost, hstep₁ _ fun acts => by rw [doInvoke_state]; exact hsteps⟩
end INV
