/-! ROWS over the abstract heap, third part: what is made, casts, calls, answers, throws, the contract out of its body; printed by tools/mkz.py -/
set_option maxRecDepth 100000
theorem Rep.recv {G : GG} {h : AH} {a ci : Nat} {H : Heap} {C : String} {T : u_T} {N : Nat} {s : State} (R : Rep G h H) (hK : KK G s) (L : CLk ci C T N) (hk : kO ci (hKd h a)) : ∃ cell : Cell, H[a]? = some cell ∧ cell.vm.isStatics = false ∧ s.vm.findClass C = some cell.cls := by
  obtain ⟨cell, q1, q2, q3, -⟩ := R.obj L hk
  exact ⟨cell, q1, by rw [q3]; rfl, by rw [q2]; exact (hK.1.1 ci _ L.2.1).2.1⟩
theorem Rep.recvX {G : GG} {h : AH} {a ci : Nat} {H : Heap} {C : String} {T : u_T} {N : Nat} {s : State} (R : Rep G h H) (hK : KK G s) (L : CLk ci C T N) (hk : kO ci (hKd h a)) : ∃ ce : Cell, H[a]? = some ce ∧ ce.vm = .none ∧ s.vm.findClass C = some ce.cls := by
  obtain ⟨cell, q1, q2, q3, -⟩ := R.obj L hk
  exact ⟨cell, q1, q3, by rw [q2]; exact (hK.1.1 ci _ L.2.1).2.1⟩
theorem KK.at {G : GG} {s : State} (hK : KK G s) {ci : Nat} {C : String} {T : u_T} {N : Nat} (L : CLk ci C T N) : ClassAt s C (gC G ci) := (hK.1.1 ci _ L.2.1).2
/-- an object of class C may lie in an array of type t -/
def Asg (C : String) (t : Nat) : Prop := ∃ E : String, xat[t]? = some (.object E) ∧ (C = E ∨ Cond.castable C E ∈ lw_tbl)
theorem xtys_xat {G : GG} {t : Nat} {ty : FieldType} (h : xat[t]? = some ty) : (xtys G)[t]? = some (gA G t, ty) := by
  have e : (xtys G) = (List.range 12).map (fun t => (gA G t, xat.getD t .int)) := rfl
  have ht : t < 12 := by
    have := (List.getElem?_eq_some_iff.mp h).1
    exact this
  rw [e, List.getElem?_map, List.getElem?_range ht]
  simp [List.getD, h]
section XZ
variable {G : GG} {c : CX} {K : KX} {d mc ms : Nat} {Q : OC → AH → Prop} {bc bs : Nat} {h : AH} {pc : Nat} {lv : List (Nat × Value)} {st : List Value}
theorem ev_q {k : AH} {t a j : Nat} (h : 5 < t) : ev k t a j = va_rf (hER k a j) := by
  have e1 : ¬ t < 4 := by omega
  have e2 : ¬ t = 4 := by omega
  have e3 : ¬ t = 5 := by omega
  unfold ev
  rw [if_neg e1, if_neg e2, if_neg e3]
theorem arr_stq {t a j : Nat} (o : Option Nat) (ht : 5 < t) : (arrV (gA G t) (hLn h a) (ev h t a)).setSlot j (va_rf o) = arrV (gA G t) (hLn (uER h a (va_up (hER h a) j o)) a) (ev (uER h a (va_up (hER h a) j o)) t a) := by
  refine (arrV_store _ _ _ _ _).trans ?_
  refine congrArg (arrV (gA G t) (hLn h a)) ?_
  funext q
  rw [ev_q ht]
  by_cases hq : q = j
  · subst hq
    simp [updV, va_up, uER_hER]
  · simp [updV, va_up, uER_hER, hq, ev_q ht]
theorem x_aastN {a j t : Nat} {i : Int32} (ht : 5 < t ∧ t < 12) (hi : i = nI j) (hj : j < hLn h a) (h31 : j < 2147483648) (hd : decode (kc K) pc = .ok (.aastore, 1)) (hk : hKd h a = t + 201) (kk : X G c K d mc ms Q bc bs (uER h a (va_up (hER h a) j none)) (pc + 1) lv st) : X G c K d mc ms Q bc bs h pc lv (.null :: .int i :: .ref a :: st) := by
  intro B H locs cells slots ls A hls
  subst hi
  obtain ⟨h1, h2⟩ := ht
  have hk2 : kA t (hKd h a) := Or.inl hk
  have hwk : wk (hKd h a) := Or.inr (by omega)
  obtain ⟨E, hE⟩ : ∃ E, xat[t]? = some (.object E) := by
    rcases (show t = 6 ∨ t = 7 ∨ t = 8 ∨ t = 9 ∨ t = 10 ∨ t = 11 by omega) with r | r | r | r | r | r <;> subst r <;> exact ⟨_, rfl⟩
  refine va_WaastN (C := E) B.1 B.2.1 (A.1.arr h2 hk2) ((xtys_at B.2.2.2.2.2.2.2.1 t (xtys_xat hE)).1 _ _) (fun q => by cases q) (by rw [arrV_size]; exact vp_inj hj h31) rfl rfl hd fun H1 e z oq => ?_
  refine kk B H1 (locs ++ [⟨a, (nI j).toNatClampNeg⟩]) cells slots ls ⟨A.1.put z oq hwk rfl rfl (fun q hq => Eqa.uER hq) (Cel.arr (t := t) hk2 h2 ?_), fun q hq => ?_, A.2.2.1, A.2.2.2.1, by rw [z]; exact A.2.2.2.2⟩ hls
  · rw [e, nI_clamp h31]
    exact congrArg some (arr_stq none h1)
  · rcases List.mem_append.mp hq with m | m
    · exact A.2.1 q m
    · rw [List.mem_singleton.mp m]
      exact A.1.2.2.2.2.2.2 a hwk
theorem x_aast {a j t v ci : Nat} {i : Int32} {C : String} {T : u_T} {N : Nat} (ht : 5 < t ∧ t < 12) (hi : i = nI j) (hj : j < hLn h a) (h31 : j < 2147483648) (L : CLk ci C T N) (hg : Asg C t) (hd : decode (kc K) pc = .ok (.aastore, 1)) (hk : hKd h a = t + 201) (hv : kO ci (hKd h v)) (kk : X G c K d mc ms Q bc bs (uER h a (va_up (hER h a) j (some v))) (pc + 1) lv st) : X G c K d mc ms Q bc bs h pc lv (.ref v :: .int i :: .ref a :: st) := by
  intro B H locs cells slots ls A hls
  subst hi
  obtain ⟨h1, h2⟩ := ht
  have hk2 : kA t (hKd h a) := Or.inl hk
  have hwk : wk (hKd h a) := Or.inr (by omega)
  obtain ⟨E, hE, hCE⟩ := hg
  have hKs := B.2.2.2.2.2.2.2.1
  obtain ⟨cellV, g1, g2, g3, -⟩ := A.1.obj L hv
  obtain ⟨hfc, kC, hkC, -⟩ := hKs.at L
  obtain ⟨hAr, kA', comp, k1, k2, k3, -⟩ := xtys_at hKs t (xtys_xat hE)
  obtain ⟨kE, hkE, -⟩ := Vm.findClass_spec k3
  have hasg : (cxs c).vm.assignable cellV.cls comp = true := by
    rw [g2]
    rcases hCE with e | e
    · subst e
      cases Option.some.inj (hfc.symm.trans k3)
      exact va_asg _ _
    · exact vb_asgC (hKs.2.1 _ e rfl) _ _ k3 hfc
  refine W.aast B.1 B.2.1 (A.1.arr h2 hk2) (fun q h => by cases h) (fun h => by cases h) k1 k2 rfl hkE ⟨nI_pos h31, by rw [arrV_size, nI_clamp h31]; exact hj⟩ g1 (fun q h => by rw [h] at g3; cases g3) (by rw [g2]; exact hkC) hasg rfl rfl hd fun H1 e z oq => ?_
  refine kk B H1 (locs ++ [⟨a, (nI j).toNatClampNeg⟩]) cells slots ls ⟨A.1.put z oq hwk rfl rfl (fun q hq => Eqa.uER hq) (Cel.arr (t := t) hk2 h2 ?_), fun q hq => ?_, A.2.2.1, A.2.2.2.1, by rw [z]; exact A.2.2.2.2⟩ hls
  · rw [e, nI_clamp h31]
    exact congrArg some (arr_stq (some v) h1)
  · rcases List.mem_append.mp hq with m | m
    · exact A.2.1 q m
    · rw [List.mem_singleton.mp m]
      exact A.1.2.2.2.2.2.2 a hwk
theorem xAt.made {H H1 : Heap} {locs : List Loc} {cells slots m n : Nat} {k : AH} (A : xAt G c mc ms bc bs h H locs cells slots) (R : Rep G k H1) (z : H.size ≤ H1.size) (h1 : m ≤ bc) (h2 : n ≤ bs) : xAt G c mc ms (bc - m) (bs - n) k H1 locs (cells + m) (slots + n) := by
  obtain ⟨a1, a2, a3, a4, a5⟩ := A
  exact ⟨R, a2, by omega, by omega, by omega⟩
/-- newarray -/
theorem x_newa {t n : Nat} {i : Int32} {atype : ArrayType} (ht : t < 6) (hty : xat[t]? = some (newarray.typeOf atype)) (hi : i = nI n) (hn : n ≤ 65536) (hw : Cond.arrayClass (newarray.typeOf atype) ∈ lw_all) (h1 : 1 ≤ bc) (h2 : n ≤ bs) (hd : decode (kc K) pc = .ok (.newarray atype, 2)) (kk : X G c K d mc ms Q (bc - 1) (bs - n) (nArr h (t + 201) n) (pc + 2) lv (.ref (hSz h) :: st)) : X G c K d mc ms Q bc bs h pc lv (.int i :: st) := by
  intro B H locs cells slots ls A hls
  subst hi
  have hc := A.2.2.1
  have hs := A.2.2.2.1
  have hKs := B.2.2.2.2.2.2.2.1
  have hb8 : componentBytes (newarray.typeOf atype) ≤ 8 := by cases atype <;> decide +kernel
  have hsz : H.size = hSz h := A.1.1
  refine va_newaK (h := hSz h) B.1 B.2.1 (B.2.2.2.2.2.2.1 _ hw) rfl hd rfl (nI_pos (by omega)) (nI_clamp (by omega)) (Nat.le_trans (Nat.mul_le_mul hn hb8) (by decide)) (Nat.le_trans (Nat.add_le_add_left h1 cells) hc) (Nat.le_trans (Nat.add_le_add_left h2 slots) hs) hsz fun H1 cA e1 z1 o1 hAr hNm => ?_
  obtain ⟨hAr2, hRA⟩ := xtys_at hKs t (xtys_xat hty)
  have ecA : cA = gA G t := by
    have : (cxs c).vm.findClass ("[" ++ (newarray.typeOf atype).toString) = some (gA G t) := by
      cases atype <;> exact hRA
    exact Option.some.inj (hNm.symm.trans this)
  subst ecA
  refine kk B H1 locs _ _ ls (A.made (A.1.push (by omega) (fun q hq => o1 q (by omega)) rfl (fun q hq => Eqa.nArr hq) (Cel.arr (t := t) (Or.inl (if_pos rfl)) (by omega) ?_)) (by omega) h1 h2) hls
  rw [e1]
  refine congrArg some ?_
  have hl : hLn (nArr h (t + 201) n) (hSz h) = n := if_pos rfl
  rw [hl]
  refine congrArg (arrV (gA G t) n) ?_
  funext j
  have hEI' : hEI (nArr h (t + 201) n) (hSz h) j = 0 := by rw [nArr_hEI, if_pos rfl]
  have hEL' : hEL (nArr h (t + 201) n) (hSz h) j = 0 := by rw [nArr_hEL, if_pos rfl]
  have hED' : hED (nArr h (t + 201) n) (hSz h) j = 0 := by rw [nArr_hED, if_pos rfl]
  unfold ev
  rw [hEI', hEL', hED']
  rcases (show t = 0 ∨ t = 1 ∨ t = 2 ∨ t = 3 ∨ t = 4 ∨ t = 5 by omega) with r | r | r | r | r | r <;> subst r <;> (have q := Option.some.inj hty; rw [← q]; rfl)
/-- anewarray -/
theorem x_newq {t n idx : Nat} {i : Int32} {C : String} (hty : xat[t]? = some (.object C)) (hi : i = nI n) (hn : n ≤ 65536) (hw : Cond.classLink (ky K).cls idx C ∈ lw_all) (hw2 : Cond.arrayOver (.object C) ∈ lw_tbl) (h1 : 1 ≤ bc) (h2 : n ≤ bs) (hd : decode (kc K) pc = .ok (.anewarray idx, 3)) (kk : X G c K d mc ms Q (bc - 1) (bs - n) (nArr h (t + 201) n) (pc + 3) lv (.ref (hSz h) :: st)) : X G c K d mc ms Q bc bs h pc lv (.int i :: st) := by
  intro B H locs cells slots ls A hls
  subst hi
  have hc := A.2.2.1
  have hs := A.2.2.2.1
  have hKs := B.2.2.2.2.2.2.2.1
  have hsz : H.size = hSz h := A.1.1
  have hcl : (nI n).toNatClampNeg = n := nI_clamp (by omega)
  have ht : t < 12 := (List.getElem?_eq_some_iff.mp hty).1
  have ht5 : 5 < t := by
    rcases (show t = 0 ∨ t = 1 ∨ t = 2 ∨ t = 3 ∨ t = 4 ∨ t = 5 ∨ 5 < t by omega) with r | r | r | r | r | r | r
    all_goals first | exact r | (subst r; cases hty)
  refine W.anew B.1 B.2.1 B.2.2.2.2.2.1 (B.2.2.2.2.2.2.1 _ hw) (va_AO.use (hKs.2.2.2.1 _ hw2)) rfl hd rfl (nI_pos (by omega)) (by rw [hcl]; omega) (Nat.le_trans (Nat.add_le_add_left h1 cells) hc) (by rw [hcl]; exact Nat.le_trans (Nat.add_le_add_left h2 slots) hs) fun cA kA comp f1 f2 f3 f4 => ?_
  obtain ⟨hAr2, kA', comp', g1, g2, g3, g4⟩ := xtys_at hKs t (xtys_xat hty)
  have ecA : cA = gA G t := Option.some.inj (f1.symm.trans g4)
  subst ecA
  rw [hcl]
  generalize hH1 : H.push ({ cls := gA G t, slots := Array.replicate n .null, vm := .none } : Cell) = H1
  have z1 : H1.size = H.size + 1 := by rw [← hH1, Array.size_push]
  have e1 : H1[H.size]? = some (arrV (gA G t) n (fun _ => .null)) := by rw [← hH1, Array.getElem?_push_size, ← arrV_new]
  have o1 : ∀ q : Nat, q < H.size → H1[q]? = H[q]? := fun q hq => by rw [← hH1, Array.getElem?_push, if_neg (Nat.ne_of_lt hq)]
  rw [hsz] at e1 ⊢
  refine kk B H1 locs _ _ ls (A.made (A.1.push z1 o1 rfl (fun q hq => Eqa.nArr hq) (Cel.arr (t := t) (Or.inl (if_pos rfl)) ht ?_)) (by omega) h1 h2) hls
  rw [e1]
  refine congrArg some ?_
  have hl : hLn (nArr h (t + 201) n) (hSz h) = n := if_pos rfl
  rw [hl]
  refine congrArg (arrV (gA G t) n) ?_
  funext j
  rw [ev_q ht5, nArr_hER, if_pos rfl]
  rfl
/-- new -/
theorem x_new {ci idx : Nat} {C : String} {T : u_T} {N : Nat} (L : CLk ci C T N) (w1 : Cond.classLink (ky K).cls idx C ∈ lw_all) (w2 : Cond.instantiable C N ∈ lw_all) (w3 : Cond.initialized C ∈ lw_all) (h1 : 1 ≤ bc) (h2 : N ≤ bs) (hd : decode (kc K) pc = .ok (.new idx, 3)) (kk : X G c K d mc ms Q (bc - 1) (bs - N) (nObj h (ci + 1)) (pc + 3) lv (.ref (hSz h) :: st)) : X G c K d mc ms Q bc bs h pc lv st := by
  intro B H locs cells slots ls A hls
  have hc := A.2.2.1
  have hs := A.2.2.2.1
  have hts := B.2.2.2.2.2.2.1
  have hKs := B.2.2.2.2.2.2.2.1
  have hsz : H.size = hSz h := A.1.1
  obtain ⟨hci, hcc, hin, ⟨ty, hty, hdf⟩, hnames⟩ := L
  have hKn := hKs.1.1 ci _ hcc
  refine W.newcK B.1 B.2.1 B.2.2.2.2.2.1 (hts _ w1) (hts _ w2) (hts _ w3) rfl hd (Nat.le_trans (Nat.add_le_add_left h1 cells) hc) (Nat.le_trans (Nat.add_le_add_left h2 slots) hs) hKn.2.1 hsz fun H1 kC hkC e1 z1 o1 => ?_
  refine kk B H1 locs _ _ ls (A.made (A.1.push (by omega) (fun q hq => o1 q (by omega)) rfl (fun q hq => Eqa.nObj hq) (Cel.obj (ci := ci) (r := (C, T, N)) (Or.inl (if_pos rfl)) hci hcc (fun ce hce => by
      rw [← Option.some.inj (e1.symm.trans hce)]
      obtain ⟨c9, k9, f1, f2, -, -, -, f3⟩ := Cond.instantiable_spec (hts _ w2)
      cases Option.some.inj (hKn.2.1.symm.trans f1)
      cases Option.some.inj (hkC.symm.trans f2)
      rw [← f3]
      exact Array.size_map ..) ?_)) (by omega) h1 h2) hls
  refine (u_born ty hts hin hKn hkC e1 hty).to (fun j hj => ?_)
  rw [hdf j hj]
  have hI : hFI (nObj h (ci + 1)) (fid ci j) (hSz h) = 0 := by rw [nObj_hFI, if_pos rfl]
  have hR : hFR (nObj h (ci + 1)) (fid ci j) (hSz h) = none := by rw [nObj_hFR, if_pos rfl]
  show fv0 (fid ci j) = fv (nObj h (ci + 1)) (fid ci j) (hSz h)
  unfold fv0 fv
  rw [hI, hR]
  rfl
/-- checkcast to a class above, or the own -/
theorem x_ckc {ci idx a : Nat} {C E : String} {T : u_T} {N : Nat} (L : CLk ci C T N) (w1 : Cond.classLink (ky K).cls idx E ∈ lw_all) (hg : C = E ∨ Cond.castable C E ∈ lw_tbl) (hd : decode (kc K) pc = .ok (.checkcast idx, 3)) (hk : kO ci (hKd h a)) (kk : X G c K d mc ms Q bc bs h (pc + 3) lv (.ref a :: st)) : X G c K d mc ms Q bc bs h pc lv (.ref a :: st) := by
  intro B H locs cells slots ls A hls
  have hKs := B.2.2.2.2.2.2.2.1
  rcases hg with e | e
  · subst e
    exact va_castS B.1 B.2.1 B.2.2.2.2.2.1 (B.2.2.2.2.2.2.1 _ w1) (hKs.at L) (A.1.recv hKs L hk) hd (kk B H locs cells slots ls A hls)
  · exact va_castY B.1 B.2.1 B.2.2.2.2.2.1 (B.2.2.2.2.2.2.1 _ w1) (hKs.2.1 _ e rfl) (A.1.recv hKs L hk) hd (kk B H locs cells slots ls A hls)
theorem x_ckcN {idx : Nat} (hd : decode (kc K) pc = .ok (.checkcast idx, 3)) (kk : X G c K d mc ms Q bc bs h (pc + 3) lv (.null :: st)) : X G c K d mc ms Q bc bs h pc lv (.null :: st) := fun B H locs cells slots ls A hls => lv_castN B.1 B.2.1 hd (kk B H locs cells slots ls A hls)
/-- getstatic -/
theorem x_gets {idx : Nat} {C n t ref : String} {v : Value} (hq : (C, n, t, v) ∈ xst G) (w1 : Cond.fieldLink (ky K).cls idx C n t ∈ lw_all) (hd : decode (kc K) pc = .ok (.getstatic idx, 3)) (kk : X G c K d mc ms Q bc bs h (pc + 3) lv (v :: st)) : X G c K d mc ms Q bc bs h pc lv st := by
  intro B H locs cells slots ls A hls
  have hKs := B.2.2.2.2.2.2.2.1
  obtain ⟨cf, kf, fi, f, a, cell, g1, g2, g3, g4, g5, g6, g7, g8⟩ := hKs.2.2.2.2.2.2.1 _ hq
  have hlt : a < gz G := (Array.getElem?_eq_some_iff.mp g5).1
  exact W.gets B.1 B.2.1 B.2.2.2.2.2.1 (B.2.2.2.2.2.2.1 _ w1) g1 g2 g3 g4 (by rw [A.1.2.2.2.1 a hlt]; exact g5) (fun e => by rw [e] at g6; cases g6) g7 rfl hd (kk B H locs cells slots ls A hls)
/-! answers -/
theorem x_ret0 {g : JFrame} {H : Heap} {locs : List Loc} {cells slots : Nat} (A : xAt G c mc ms bc bs h H locs cells slots) (k : W (cxp c) (gl G) (cxe c) (rmx d mc ms) (cxs c) (cxm c) (cxa c) (cxb c) (cxt c) (cxc c) H locs mc ms (MQ (cxb c) (xQc G Q) (cxa c) (cxs c) mc ms (fun q => gz G ≤ q)) g) : xW G c d mc ms Q H locs cells slots g := by
  have h1 := A.2.2.1
  have h2 := A.2.2.2.1
  exact W.widen (k := mc) (n := ms) (by omega) (by omega) (vx_ret k)
theorem x_qc {v : Option Value} {H : Heap} {locs : List Loc} {cells slots : Nat} (A : xAt G c mc ms bc bs h H locs cells slots) (hq : Q (.inl v) h) : ∀ t : State, t.heap = H → (cxs c).WarmedH t.vm → xQc G Q (cxa c) (cxs c) (.returned v) t := fun t ht _ => ⟨v, h, rfl, hq, by rw [ht]; exact A.1, by rw [ht]; exact A.2.2.2.2⟩
theorem x_iret {v : Int32} (hr : kr K = some .int) (hd : decode (kc K) pc = .ok (.ireturn, 1)) (hq : Q (.inl (some (.int v))) h) : X G c K d mc ms Q bc bs h pc lv [.int v] := by
  intro B H locs cells slots ls A hls
  exact x_ret0 A (W.iret B.1 B.2.1 (B.2.2.1.trans hr) (x_qc A hq) A.2.1 hd (hlocks := B.2.2.2.1))
theorem x_zret {v : Int32} {ty : FieldType} (hr : kr K = some ty) (hn : narrow ty (.int v) = .int v) (hd : decode (kc K) pc = .ok (.ireturn, 1)) (hq : Q (.inl (some (.int v))) h) : X G c K d mc ms Q bc bs h pc lv [.int v] := by
  intro B H locs cells slots ls A hls
  exact x_ret0 A (W.zret B.1 B.2.1 (B.2.2.1.trans hr) hn (x_qc A hq) A.2.1 hd (hlocks := B.2.2.2.1))
theorem x_vret (hr : kr K = none) (hd : decode (kc K) pc = .ok (.return_, 1)) (hq : Q (.inl none) h) : X G c K d mc ms Q bc bs h pc lv [] := by
  intro B H locs cells slots ls A hls
  exact x_ret0 A (W.vret B.1 B.2.1 (B.2.2.1.trans hr) (x_qc A hq) A.2.1 hd (hlocks := B.2.2.2.1))
theorem x_aret {v : Value} {rt : FieldType} (hr : kr K = some rt) (ho : (∃ n, rt = .object n) ∨ ∃ t, rt = .array t) (hv : v = .null ∨ ∃ a, v = .ref a) (hd : decode (kc K) pc = .ok (.areturn, 1)) (hq : Q (.inl (some v)) h) : X G c K d mc ms Q bc bs h pc lv [v] := by
  intro B H locs cells slots ls A hls
  exact x_ret0 A (W.aret B.1 B.2.1 (B.2.2.1.trans hr) ho hv (x_qc A hq) A.2.1 hd (hlocks := B.2.2.2.1))
theorem x_fret {v : UInt32} (hr : kr K = some .float) (hd : decode (kc K) pc = .ok (.freturn, 1)) (hq : Q (.inl (some (.float v))) h) : X G c K d mc ms Q bc bs h pc lv [.float v] := by
  intro B H locs cells slots ls A hls
  exact x_ret0 A (W.fret B.1 B.2.1 (B.2.2.1.trans hr) (x_qc A hq) A.2.1 hd (hlocks := B.2.2.2.1))
theorem x_dret {v : UInt64} (hr : kr K = some .double) (hd : decode (kc K) pc = .ok (.dreturn, 1)) (hq : Q (.inl (some (.double v))) h) : X G c K d mc ms Q bc bs h pc lv [.double v] := by
  intro B H locs cells slots ls A hls
  exact x_ret0 A (W.dret B.1 B.2.1 (B.2.2.1.trans hr) (x_qc A hq) A.2.1 hd (hlocks := B.2.2.2.1))
/-! throws -/
theorem x_athrow {ci q : Nat} {C : String} {T : u_T} {N : Nat} (L : CLk ci C T N) (hd : decode (kc K) pc = .ok (.athrow, 1)) (hk : kO ci (hKd h q)) (kk : XT G c K d mc ms Q bc bs h pc lv C q) : X G c K d mc ms Q bc bs h pc lv (.ref q :: st) := by
  intro B H locs cells slots ls A hls
  exact vx_athrow B.1 B.2.1 hd (kk B H locs cells slots ls st A hls (A.1.recvX B.2.2.2.2.2.2.2.1 L hk))
/-- it leaves the method -/
theorem x_out {E : String} {q : Nat} (hp : ∀ z ∈ tableOf (kh K), covers z pc = false ∨ (z.catchType ≠ 0 ∧ ∃ nm : String, Cond.classLink (ky K).cls z.catchType nm ∈ lw_all ∧ (E, nm) ∈ xnc)) (hq : Q (.inr (E, q)) h) : XT G c K d mc ms Q bc bs h pc lv E q := by
  intro B H locs cells slots ls rest A hls ⟨ce, h1, h2, h3⟩
  have hc := A.2.2.1
  have hs := A.2.2.2.1
  refine vx_outP B.2.2.2.2.2.1 B.2.2.2.1 (fun z hz => ?_) h1 h2 h3 (fun t ht _ => ⟨h, hq, by rw [ht]; exact A.1, by rw [ht]; exact A.2.2.2.2⟩) A.2.1 (by omega) (by omega)
  rw [B.2.2.2.2.2.2.2.2.2.1] at hz
  rcases hp z hz with r | ⟨r0, nm, r1, r2⟩
  · exact Or.inl r
  · exact Or.inr ⟨r0, nm, B.2.2.2.2.2.2.1 _ r1, B.2.2.2.2.2.2.2.1.2.2.2.2.2.2.2.1 _ r2⟩
/-- it is caught -/
theorem x_catch {E name : String} {q : Nat} (pre : List ExceptionTableEntry) (x : ExceptionTableEntry) (suf : List ExceptionTableEntry) (hsp : tableOf (kh K) = pre ++ x :: suf) (hp : ∀ z ∈ pre, covers z pc = false ∨ (z.catchType ≠ 0 ∧ ∃ nm : String, Cond.classLink (ky K).cls z.catchType nm ∈ lw_all ∧ (E, nm) ∈ xnc)) (hx : covers x pc = true) (h0 : x.catchType ≠ 0) (w1 : Cond.classLink (ky K).cls x.catchType name ∈ lw_all) (w2 : Cond.castable E name ∈ lw_tbl)
    (kk : X G c K d mc ms Q bc bs h x.handlerPc lv [.ref q]) : XT G c K d mc ms Q bc bs h pc lv E q := by
  intro B H locs cells slots ls rest A hls ⟨ce, h1, h2, h3⟩
  have hKs := B.2.2.2.2.2.2.2.1
  refine vx_catch B.2.2.2.2.2.1 pre x suf (by rw [B.2.2.2.2.2.2.2.2.2.1]; exact hsp) (fun z hz => ?_) hx h0 (B.2.2.2.2.2.2.1 _ w1) (va_Nw.use rfl (hKs.2.1 _ w2 rfl)) h1 h2 h3 (kk B H locs cells slots ls A hls)
  rcases hp z hz with r | ⟨r0, nm, r1, r2⟩
  · exact Or.inl r
  · exact Or.inr ⟨r0, nm, B.2.2.2.2.2.2.1 _ r1, hKs.2.2.2.2.2.2.2.1 _ r2⟩
/-- 'throw new E()' of a JDK class, out of the method -/
theorem x_throw0 {cls : String} {names : List String} {ik ic : Nat} (hcls : Bundle.fit cls = true) (hnames : ∀ n ∈ names, Bundle.fit n = true) (hk : Cond.classLink (ky K).cls ik cls ∈ lw_all) (hini : Cond.initialized cls ∈ lw_all) (hat : ∀ w ∈ vx_at0 (ky K).cls ic cls names, (w ∈ lw_all ∨ (w ∈ lw_tbl ∧ nwk w = true)))
    (hgood : ∀ w ∈ Cond.classLink (ky K).cls ik cls :: Cond.initialized cls :: vx_at0 (ky K).cls ic cls names, vx_ot w = true)
    (d0 : decode (kc K) pc = .ok (.new ik, 3)) (d3 : decode (kc K) (pc + 3) = .ok (.dup, 1)) (d4 : decode (kc K) (pc + 4) = .ok (.invokespecial ic, 3)) (d7 : decode (kc K) (pc + 7) = .ok (.athrow, 1))
    (hout : ∀ z ∈ tableOf (kh K), covers z (pc + 7) = false) (hD : names.length + 3 < d) (hL : 13 * (names.length + 1) + 50 ≤ 64 * d) (hst : (st.map fun v => v.category).sum ≤ 8) (h1 : 1 ≤ bc) (h2 : 6 ≤ bs) (hq : ∀ n, hSz h ≤ n → Q (.inr (cls, hSz h)) (grw h n)) : X G c K d mc ms Q bc bs h pc lv st := by
  intro B H locs cells slots ls A hls
  obtain ⟨hx, hb, hret, hlk, hml, hown, hts, hK, hnm, het, hsh⟩ := B
  have hc := A.2.2.1
  have hs := A.2.2.2.1
  have hsz : H.size = hSz h := A.1.1
  have hsg : ∀ q, q < (gH G).size → ¬ gz G ≤ q → (cxs c).heap[q]? = (gH G)[q]? := fun q hq _ => hsh q hq
  have hSA : va_S (fun q => gz G ≤ q) (cxs c).heap H locs := ⟨A.2.2.2.2, fun q hq hn => by rw [hsh q (Nat.not_le.mp hn)]; exact A.1.2.2.2.1 q (Nat.not_le.mp hn), A.2.1⟩
  refine vx_throw0 (A := fun q => gz G ≤ q) hx hb hK.2.2.2.2.1 hown hcls hnames (hts _ hk) (hts _ hini) (fun w hw => ?_) hgood (hK.2.2.2.2.2.2.2.2.2.1.kept hsg) (hK.2.2.2.2.2.2.2.2.2.2.kept hsg) hSA (hls.1.trans hml.symm) d0 d3 d4 d7 (by rw [het]; exact hout) hD (by show _ ≤ 64 * d; omega) (by show _ ≤ mc; omega) (by show _ ≤ ms; omega) hlk (fun t hal hz ho => ⟨grw h t.heap.size, by rw [hsz]; exact hq _ (by omega), A.1.grow hz ho, Nat.le_trans A.2.2.2.2 hz⟩) A.2.1 (by omega) (by omega)
  rcases hat w hw with r | ⟨r, rn⟩
  · exact hts _ r
  · exact va_Nw.use (nwk_tab rn) (hK.2.1 _ r rn)
end XZ

