/-! ROWS over the abstract heap, second part: fields, arrays, what is made, calls, answers, throws; printed by tools/mky.py -/
set_option maxRecDepth 100000
def LkF (K : KX) (idx : Nat) (ref n d : String) : Prop := Cond.fieldLink (ky K).cls idx ref n d ∈ lw_all ∨ ∃ host : String, Cond.fieldLinkNest (ky K).cls idx ref n d host ∈ lw_tbl
def fv0 (f : Nat) : Value := if f < 500 then .int 0 else .null
/-- a class of the list, with its fields' words -/
def CLk (ci : Nat) (C : String) (T : u_T) (N : Nat) : Prop := ci < 18 ∧ xcl[ci]? = some (C, T, N) ∧ (∀ w ∈ u_ws C T N, w ∈ lw_all) ∧ (∃ ty : Nat → FieldType, (∀ k, k < N → parseFieldDescriptor (T k).2.2.1 = some (ty k)) ∧ ∀ k, k < N → defaultValue (ty k) = fv0 (fid ci k)) ∧ (∀ a, a < N → ∀ b, b < N → a ≠ b → (T a).2.1 ≠ (T b).2.1)
/-- an object of class ci -/
def kO (ci k : Nat) : Prop := k = ci + 1 ∨ k = ci + 101
/-- an array of type t -/
def kA (t k : Nat) : Prop := k = t + 201 ∨ k = t + 301
theorem vp_inj {j n : Nat} (h : j < n) (h31 : j < 2147483648) : vp_in (nI j) n := by
  rintro (q | q)
  · exact nI_pos h31 q
  · rw [nI_clamp h31] at q; omega
theorem Cel.obj {G : GG} {k : AH} {a ci : Nat} {H : Heap} {r : vw_C} (hk : kO ci (hKd k a)) (hci : ci < 18) (hc : xcl[ci]? = some r) (hz : ∀ cell : Cell, H[a]? = some cell → cell.slots.size = r.2.2) (ho : t_OB a (gC G ci) r.2.2 (gI G ci) H (fun j => fv k (fid ci j) a)) : Cel G k a H := by
  refine ⟨fun cj hcj hj => ?_, fun t ht hj => ?_, fun cj r1 hr hj hcj => ?_⟩
  · have e : cj = ci := by unfold kO at hk; omega
    subst e
    exact ⟨r, hc, ho⟩
  · unfold kO at hk; omega
  · have e : cj = ci := by unfold kO at hk; omega
    subst e
    cases Option.some.inj (hc.symm.trans hr)
    exact hz
theorem Cel.arr {G : GG} {k : AH} {a t : Nat} {H : Heap} (hk : kA t (hKd k a)) (ht : t < 12) (ho : H[a]? = some (arrV (gA G t) (hLn k a) (ev k t a))) : Cel G k a H := by
  refine ⟨fun cj hcj hj => ?_, fun u hu hj => ?_, fun cj r1 hr hj hcj => ?_⟩
  · unfold kA at hk; omega
  · have e : u = t := by unfold kA at hk; omega
    subst e
    exact ho
  · unfold kA at hk; omega
theorem Rep.obj {G : GG} {h : AH} {a ci : Nat} {H : Heap} {C : String} {T : u_T} {N : Nat} (R : Rep G h H) (L : CLk ci C T N) (hk : kO ci (hKd h a)) : t_OB a (gC G ci) N (gI G ci) H (fun j => fv h (fid ci j) a) := by
  obtain ⟨r, h1, h2⟩ := (R.2.1 a).1 ci L.1 hk
  cases Option.some.inj (h1.symm.trans L.2.1)
  exact h2
theorem Rep.arr {G : GG} {h : AH} {a t : Nat} {H : Heap} (R : Rep G h H) (ht : t < 12) (hk : kA t (hKd h a)) : H[a]? = some (arrV (gA G t) (hLn h a) (ev h t a)) := (R.2.1 a).2.1 t ht hk
theorem Rep.size {G : GG} {h : AH} {a ci : Nat} {H : Heap} {C : String} {T : u_T} {N : Nat} (R : Rep G h H) (L : CLk ci C T N) (hk : hKd h a = ci + 1) {cell : Cell} (hc : H[a]? = some cell) : cell.slots.size = N := (R.2.1 a).2.2 ci _ L.2.1 hk L.1 cell hc
theorem cell_set {cell : Cell} {i : Nat} {v : Value} : (cell.setSlot i v).slots.size = cell.slots.size := by
  simp [Cell.setSlot]
theorem xtys_at {G : GG} {s : State} (hK : KK G s) (t : Nat) {ty : FieldType} (h : (xtys G)[t]? = some (gA G t, ty)) : ArrOfT s (gA G t) ty ∧ va_RA s (gA G t) ty := hK.1.2 t _ h
section XY
variable {G : GG} {c : CX} {K : KX} {d mc ms : Nat} {Q : OC → AH → Prop} {bc bs : Nat} {h : AH} {pc : Nat} {lv : List (Nat × Value)} {st : List Value}
/-- getfield -/
theorem x_getf {ci : Nat} {C : String} {T : u_T} {N a idx : Nat} {ref : String} {v : Value} (L : CLk ci C T N) (k : Nat) (hkN : k < N) (hl : LkF K idx ref (T k).2.1 (T k).2.2.1) (hr : (T k).1 = ref) (hv : fv h (fid ci k) a = v) (hd : decode (kc K) pc = .ok (.getfield idx, 3)) (hk : kO ci (hKd h a))
    (kk : X G c K d mc ms Q bc bs h (pc + 3) lv (v :: st)) : X G c K d mc ms Q bc bs h pc lv (.ref a :: st) := by
  intro B H locs cells slots ls A hls
  have kk := kk B H locs cells slots ls A hls
  obtain ⟨hx, hb, hret, hlk, hml, hown, hts, hK, hnm, het, hsh⟩ := B
  obtain ⟨cell, q1, q2, q3, q4⟩ := A.1.obj L hk
  obtain ⟨hci, hc, hin, -, -⟩ := L
  obtain ⟨hS, hfc, kC, hkC, hkind⟩ := hK.1.1 ci _ hc
  obtain ⟨cf, kf, fi, f, hi, hsl⟩ := hS k hkN
  have hst := (u_facts hfc hkC (u_lays hts hin hkN) hi).1
  subst hr
  have hs : cell.slots[f.slot]? = some v := by
    rw [hsl, ← hv]
    exact q4 k hkN
  rcases hl with hl | ⟨host, hl⟩
  · exact W.getf hx hb hown (hts _ hl) hi hst q1 (by rw [q3]; exact fun h => by cases h) hs rfl rfl hd kk
  · exact va_Wgetf hx hb hown (va_Nw.use rfl (hK.2.1 _ hl rfl)) hi hst q1 (by rw [q3]; exact fun h => by cases h) hs rfl rfl hd kk
/-- putfield; h' is h with the field written -/
theorem x_putf {ci : Nat} {C : String} {T : u_T} {N a idx : Nat} {ref : String} {v : Value} {h' : AH} {ty : FieldType} (L : CLk ci C T N) (k : Nat) (hkN : k < N) (hl : LkF K idx ref (T k).2.1 (T k).2.2.1) (hr : (T k).1 = ref) (hfin : (T k).2.2.2 = false) (hdt : parseFieldDescriptor (T k).2.2.1 = some ty) (hn : narrow ty v = v) (hfit : fits ty v = true)
    (e1 : hKd h' = hKd h) (e2 : hSz h' = hSz h) (e3 : ∀ q, q ≠ a → Eqa h' h q) (e4 : ∀ j, j < N → fv h' (fid ci j) a = if j = k then v else fv h (fid ci j) a) (hd : decode (kc K) pc = .ok (.putfield idx, 3)) (hk : hKd h a = ci + 1)
    (kk : X G c K d mc ms Q bc bs h' (pc + 3) lv st) : X G c K d mc ms Q bc bs h pc lv (v :: .ref a :: st) := by
  intro B H locs cells slots ls A hls
  have kk := kk B
  obtain ⟨hx, hb, hret, hlk, hml, hown, hts, hK, hnm, het, hsh⟩ := B
  have hcz : ∀ ce : Cell, H[a]? = some ce → ce.slots.size = N := fun ce hce => A.1.size L hk hce
  obtain ⟨cell, q1, q2, q3, q4⟩ := A.1.obj L (Or.inl hk)
  obtain ⟨hci, hc, hin, ⟨ty0, hty, -⟩, hnames⟩ := L
  have hap := va_apart (own := C) hts hin ty0 hty hnames hK.1 hc
  obtain ⟨hS, hfc, kC, hkC, hkind⟩ := hK.1.1 ci _ hc
  obtain ⟨cf, kf, fi, f, hi, hsl⟩ := hS k hkN
  have hlay := hts _ (hin _ (u_in_lay hkN))
  unfold u_lay at hlay
  rw [if_neg (by rw [hfin]; decide)] at hlay
  have hst := (u_facts hfc hkC (u_lays hts hin hkN) hi).1
  have h6 := u_store hfc hkC hkind hlay hi hdt hn hfit
  subst hr
  have fin : ∀ H' : Heap, H'[a]? = some (cell.setSlot f.slot v) → H'.size = H.size → (∀ q, q ≠ a → H'[q]? = H[q]?) → xW G c d mc ms Q H' (locs ++ [⟨a, f.slot⟩]) cells slots (F0 (cxm c) (pc + 3) ls st) := by
    intro H' g1 g2 g3
    have hwk : wk (hKd h a) := Or.inl (by omega)
    refine kk H' (locs ++ [⟨a, f.slot⟩]) cells slots ls ⟨A.1.put g2 g3 hwk e1 e2 e3 (Cel.obj (ci := ci) (r := (C, T, N)) (Or.inl (by rw [e1]; exact hk)) hci hc (fun ce hce => by rw [← Option.some.inj (g1.symm.trans hce), cell_set]; exact hcz _ q1) ?_), ?_, A.2.2.1, A.2.2.2.1, by rw [g2]; exact A.2.2.2.2⟩ hls
    · refine t_OB.to (V := updV (fun j => fv h (fid ci j) a) k v) ⟨_, g1, q2, q3, by rw [hsl]; exact t_set q4 hap hkN v⟩ (fun j hj => ?_)
      show updV _ k v j = fv h' (fid ci j) a
      rw [e4 j hj]
      rfl
    · intro q hq
      rcases List.mem_append.mp hq with m | m
      · exact A.2.1 q m
      · rw [List.mem_singleton.mp m]
        exact A.1.2.2.2.2.2.2 a hwk
  rcases hl with hl | ⟨host, hl⟩
  · exact W.putK hx hb (f := f) ⟨hown, hts _ hl, ⟨_, _, _, hi⟩, hst⟩ (by rw [q2]; exact h6) q1 q3 (by rw [hsl]; exact k2_hasslot (q4 k hkN)) rfl rfl hd fin
  · exact va_WputK hx hb hown (va_Nw.use rfl (hK.2.1 _ hl rfl)) hi hst (by rw [q2]; exact h6) q1 q3 (by rw [hsl]; exact k2_hasslot (q4 k hkN)) rfl rfl hd fin
/-- putfield of a final field, in the class's own constructor -/
theorem x_putF {ci : Nat} {C : String} {T : u_T} {N a idx : Nat} {v : Value} {h' : AH} {ty : FieldType} (L : CLk ci C T N) (k : Nat) (hkN : k < N) (hl : Cond.fieldLink (ky K).cls idx (T k).1 (T k).2.1 (T k).2.2.1 ∈ lw_all) (hfin : (T k).2.2.2 = true) (hin2 : (ky K).name = "<init>") (hdecl : (T k).1 = (ky K).cls) (hdt : parseFieldDescriptor (T k).2.2.1 = some ty) (hn : narrow ty v = v) (hfit : fits ty v = true)
    (e1 : hKd h' = hKd h) (e2 : hSz h' = hSz h) (e3 : ∀ q, q ≠ a → Eqa h' h q) (e4 : ∀ j, j < N → fv h' (fid ci j) a = if j = k then v else fv h (fid ci j) a) (hd : decode (kc K) pc = .ok (.putfield idx, 3)) (hk : hKd h a = ci + 1)
    (kk : X G c K d mc ms Q bc bs h' (pc + 3) lv st) : X G c K d mc ms Q bc bs h pc lv (v :: .ref a :: st) := by
  intro B H locs cells slots ls A hls
  have kk := kk B
  obtain ⟨hx, hb, hret, hlk, hml, hown, hts, hK, hnm, het, hsh⟩ := B
  have hcz : ∀ ce : Cell, H[a]? = some ce → ce.slots.size = N := fun ce hce => A.1.size L hk hce
  obtain ⟨cell, q1, q2, q3, q4⟩ := A.1.obj L (Or.inl hk)
  obtain ⟨hci, hc, hin, ⟨ty0, hty, -⟩, hnames⟩ := L
  have hap := va_apart (own := C) hts hin ty0 hty hnames hK.1 hc
  obtain ⟨hS, hfc, kC, hkC, hkind⟩ := hK.1.1 ci _ hc
  obtain ⟨cf, kf, fi, f, hi, hsl⟩ := hS k hkN
  have hlay := hts _ (hin _ (u_in_lay hkN))
  unfold u_lay at hlay
  rw [if_pos hfin] at hlay
  have hst := (u_facts hfc hkC (u_lays hts hin hkN) hi).1
  have hcf : (cxm c).cls = cf := by
    obtain ⟨_, _, c', _, _, _, -, -, hf', -, -, -, hown2, -⟩ := Cond.laysFinal_spec hlay
    have e1 : c' = cf := by have := hi.symm.trans hf'; simp at this; exact this.1.symm
    rw [hdecl] at hown2
    rw [← e1]; exact Option.some.inj (hown.symm.trans hown2)
  have h6 := u_fits hfc hkC hkind (Or.inr hlay) hi hdt hn hfit
  refine W.putFinK hx hb hown (hts _ hl) hi hst hcf (by rw [hnm]; exact hin2) (by rw [q2]; exact h6) q1 q3 (by rw [hsl]; exact k2_hasslot (q4 k hkN)) rfl rfl hd fun H' g1 g2 g3 => ?_
  have hwk : wk (hKd h a) := Or.inl (by omega)
  refine kk H' (locs ++ [⟨a, f.slot⟩]) cells slots ls ⟨A.1.put g2 g3 hwk e1 e2 e3 (Cel.obj (ci := ci) (r := (C, T, N)) (Or.inl (by rw [e1]; exact hk)) hci hc (fun ce hce => by rw [← Option.some.inj (g1.symm.trans hce), cell_set]; exact hcz _ q1) ?_), ?_, A.2.2.1, A.2.2.2.1, by rw [g2]; exact A.2.2.2.2⟩ hls
  · refine t_OB.to (V := updV (fun j => fv h (fid ci j) a) k v) ⟨_, g1, q2, q3, by rw [hsl]; exact t_set q4 hap hkN v⟩ (fun j hj => ?_)
    show updV _ k v j = fv h' (fid ci j) a
    rw [e4 j hj]
    rfl
  · intro q hq
    rcases List.mem_append.mp hq with m | m
    · exact A.2.1 q m
    · rw [List.mem_singleton.mp m]
      exact A.1.2.2.2.2.2.2 a hwk
theorem fv_uFI {f a : Nat} {v : Int32} {g : Nat} (hf : f < 500) : fv (uFI h f a v) g a = if g = f then .int v else fv h g a := by
  unfold fv
  by_cases e : g = f
  · subst e
    rw [if_pos hf, if_pos rfl, uFI_hFI, if_pos ⟨rfl, rfl⟩]
  · rw [if_neg e]
    have h1 : hFI (uFI h f a v) g a = hFI h g a := by rw [uFI_hFI, if_neg (fun z => e z.1)]
    rw [h1]
    rfl
theorem fv_uFR {f a : Nat} {v : Option Nat} {g : Nat} (hf : ¬ f < 500) : fv (uFR h f a v) g a = if g = f then va_rf v else fv h g a := by
  unfold fv
  by_cases e : g = f
  · subst e
    rw [if_neg hf, if_pos rfl, uFR_hFR, if_pos ⟨rfl, rfl⟩]
  · rw [if_neg e]
    have h1 : hFR (uFR h f a v) g a = hFR h g a := by rw [uFR_hFR, if_neg (fun z => e z.1)]
    rw [h1]
    rfl
theorem e4I {ci N k f a : Nat} {v : Int32} (hf : f < 500) (hj : ∀ j, j < N → (fid ci j = f ↔ j = k)) : ∀ j, j < N → fv (uFI h f a v) (fid ci j) a = if j = k then .int v else fv h (fid ci j) a := by
  intro j h1
  rw [fv_uFI hf]
  by_cases e : j = k
  · rw [if_pos e, if_pos ((hj j h1).mpr e)]
  · rw [if_neg e, if_neg (fun z => e ((hj j h1).mp z))]
theorem e4R {ci N k f a : Nat} {v : Option Nat} (hf : ¬ f < 500) (hj : ∀ j, j < N → (fid ci j = f ↔ j = k)) : ∀ j, j < N → fv (uFR h f a v) (fid ci j) a = if j = k then va_rf v else fv h (fid ci j) a := by
  intro j h1
  rw [fv_uFR hf]
  by_cases e : j = k
  · rw [if_pos e, if_pos ((hj j h1).mpr e)]
  · rw [if_neg e, if_neg (fun z => e ((hj j h1).mp z))]
theorem nar_zb {v : Int32} (h : v = 0 ∨ v = 1) : narrow .boolean (.int v) = .int v ∧ fits .boolean (.int v) = true := by
  rcases h with h | h <;> subst h <;> exact ⟨by decide +kernel, by decide +kernel⟩

theorem x_iald {a j : Nat} {i : Int32} (hi : i = nI j) (hj : j < hLn h a) (h31 : j < 2147483648) (hd : decode (kc K) pc = .ok (.iaload, 1)) (hk : kA 0 (hKd h a)) (kk : X G c K d mc ms Q bc bs h (pc + 1) lv (.int (hEI h a j) :: st)) : X G c K d mc ms Q bc bs h pc lv (.int i :: .ref a :: st) := by
  intro B H locs cells slots ls A hls
  subst hi
  refine W.iald (v := .int (hEI h a j)) B.1 B.2.1 (A.1.arr (by decide) hk) ((xtys_at B.2.2.2.2.2.2.2.1 0 rfl).1 _ _) (fun q => by cases q) (by rw [arrV_size]; exact vp_inj hj h31) (by rw [nI_clamp h31, arrV_read _ _ hj]; rfl) rfl rfl hd (kk B H locs cells slots ls A hls)
theorem x_iast {a j : Nat} {i : Int32} {x : Int32} (hi : i = nI j) (hj : j < hLn h a) (h31 : j < 2147483648) (hd : decode (kc K) pc = .ok (.iastore, 1)) (hk : hKd h a = 201) (kk : X G c K d mc ms Q bc bs (uEI h a (upd (hEI h a) j x)) (pc + 1) lv st) : X G c K d mc ms Q bc bs h pc lv (.int x :: .int i :: .ref a :: st) := by
  intro B H locs cells slots ls A hls
  subst hi
  have hk2 : kA 0 (hKd h a) := Or.inl hk
  have hwk : wk (hKd h a) := Or.inr (by omega)
  refine W.iast B.1 B.2.1 (A.1.arr (by decide) hk2) ((xtys_at B.2.2.2.2.2.2.2.1 0 rfl).1 _ _) (fun q => by cases q) (by rw [arrV_size]; exact vp_inj hj h31) rfl rfl hd fun H1 e z oq => ?_
  refine kk B H1 (locs ++ [⟨a, (nI j).toNatClampNeg⟩]) cells slots ls ⟨A.1.put z oq hwk rfl rfl (fun q hq => Eqa.uEI hq) (Cel.arr (t := 0) hk2 (by decide) ?_), fun q hq => ?_, A.2.2.1, A.2.2.2.1, by rw [z]; exact A.2.2.2.2⟩ hls
  · rw [e]
    refine congrArg some ?_
    refine (arrV_store _ _ _ _ _).trans ?_
    refine congrArg (arrV (gA G 0) (hLn h a)) ?_
    funext q
    rw [nI_clamp h31]
    by_cases hq : q = j
    · subst hq
      simp [updV, ev, upd, uEI_hEI, vp_nar_byte, vp_nar_char, narrow]
    · simp [updV, ev, upd, uEI_hEI, hq]
  · rcases List.mem_append.mp hq with m | m
    · exact A.2.1 q m
    · rw [List.mem_singleton.mp m]
      exact A.1.2.2.2.2.2.2 a hwk
theorem x_bald {a j : Nat} {i : Int32} (hi : i = nI j) (hj : j < hLn h a) (h31 : j < 2147483648) (hd : decode (kc K) pc = .ok (.baload, 1)) (hk : kA 1 (hKd h a)) (kk : X G c K d mc ms Q bc bs h (pc + 1) lv (.int (hEI h a j) :: st)) : X G c K d mc ms Q bc bs h pc lv (.int i :: .ref a :: st) := by
  intro B H locs cells slots ls A hls
  subst hi
  refine W.bald (v := .int (hEI h a j)) B.1 B.2.1 (A.1.arr (by decide) hk) ((xtys_at B.2.2.2.2.2.2.2.1 1 rfl).1 _ _) (fun q => by cases q) (by rw [arrV_size]; exact vp_inj hj h31) (by rw [nI_clamp h31, arrV_read _ _ hj]; rfl) rfl rfl hd (kk B H locs cells slots ls A hls)
theorem x_bast {a j : Nat} {i : Int32} {x : Int32} (hi : i = nI j) (hj : j < hLn h a) (h31 : j < 2147483648) (hd : decode (kc K) pc = .ok (.bastore, 1)) (hk : hKd h a = 202) (kk : X G c K d mc ms Q bc bs (uEI h a (upd (hEI h a) j (vp_nar .byte x))) (pc + 1) lv st) : X G c K d mc ms Q bc bs h pc lv (.int x :: .int i :: .ref a :: st) := by
  intro B H locs cells slots ls A hls
  subst hi
  have hk2 : kA 1 (hKd h a) := Or.inl hk
  have hwk : wk (hKd h a) := Or.inr (by omega)
  refine W.bast B.1 B.2.1 (A.1.arr (by decide) hk2) ((xtys_at B.2.2.2.2.2.2.2.1 1 rfl).1 _ _) (fun q => by cases q) (by rw [arrV_size]; exact vp_inj hj h31) rfl rfl hd fun H1 e z oq => ?_
  refine kk B H1 (locs ++ [⟨a, (nI j).toNatClampNeg⟩]) cells slots ls ⟨A.1.put z oq hwk rfl rfl (fun q hq => Eqa.uEI hq) (Cel.arr (t := 1) hk2 (by decide) ?_), fun q hq => ?_, A.2.2.1, A.2.2.2.1, by rw [z]; exact A.2.2.2.2⟩ hls
  · rw [e]
    refine congrArg some ?_
    refine (arrV_store _ _ _ _ _).trans ?_
    refine congrArg (arrV (gA G 1) (hLn h a)) ?_
    funext q
    rw [nI_clamp h31]
    by_cases hq : q = j
    · subst hq
      simp [updV, ev, upd, uEI_hEI, vp_nar_byte, vp_nar_char, narrow]
    · simp [updV, ev, upd, uEI_hEI, hq]
  · rcases List.mem_append.mp hq with m | m
    · exact A.2.1 q m
    · rw [List.mem_singleton.mp m]
      exact A.1.2.2.2.2.2.2 a hwk
theorem x_cald {a j : Nat} {i : Int32} (hi : i = nI j) (hj : j < hLn h a) (h31 : j < 2147483648) (hd : decode (kc K) pc = .ok (.caload, 1)) (hk : kA 2 (hKd h a)) (kk : X G c K d mc ms Q bc bs h (pc + 1) lv (.int (hEI h a j) :: st)) : X G c K d mc ms Q bc bs h pc lv (.int i :: .ref a :: st) := by
  intro B H locs cells slots ls A hls
  subst hi
  refine W.cald (v := .int (hEI h a j)) B.1 B.2.1 (A.1.arr (by decide) hk) ((xtys_at B.2.2.2.2.2.2.2.1 2 rfl).1 _ _) (fun q => by cases q) (by rw [arrV_size]; exact vp_inj hj h31) (by rw [nI_clamp h31, arrV_read _ _ hj]; rfl) rfl rfl hd (kk B H locs cells slots ls A hls)
theorem x_cast {a j : Nat} {i : Int32} {x : Int32} (hi : i = nI j) (hj : j < hLn h a) (h31 : j < 2147483648) (hd : decode (kc K) pc = .ok (.castore, 1)) (hk : hKd h a = 203) (kk : X G c K d mc ms Q bc bs (uEI h a (upd (hEI h a) j (vp_nar .char x))) (pc + 1) lv st) : X G c K d mc ms Q bc bs h pc lv (.int x :: .int i :: .ref a :: st) := by
  intro B H locs cells slots ls A hls
  subst hi
  have hk2 : kA 2 (hKd h a) := Or.inl hk
  have hwk : wk (hKd h a) := Or.inr (by omega)
  refine W.cast B.1 B.2.1 (A.1.arr (by decide) hk2) ((xtys_at B.2.2.2.2.2.2.2.1 2 rfl).1 _ _) (fun q => by cases q) (by rw [arrV_size]; exact vp_inj hj h31) rfl rfl hd fun H1 e z oq => ?_
  refine kk B H1 (locs ++ [⟨a, (nI j).toNatClampNeg⟩]) cells slots ls ⟨A.1.put z oq hwk rfl rfl (fun q hq => Eqa.uEI hq) (Cel.arr (t := 2) hk2 (by decide) ?_), fun q hq => ?_, A.2.2.1, A.2.2.2.1, by rw [z]; exact A.2.2.2.2⟩ hls
  · rw [e]
    refine congrArg some ?_
    refine (arrV_store _ _ _ _ _).trans ?_
    refine congrArg (arrV (gA G 2) (hLn h a)) ?_
    funext q
    rw [nI_clamp h31]
    by_cases hq : q = j
    · subst hq
      simp [updV, ev, upd, uEI_hEI, vp_nar_byte, vp_nar_char, narrow]
    · simp [updV, ev, upd, uEI_hEI, hq]
  · rcases List.mem_append.mp hq with m | m
    · exact A.2.1 q m
    · rw [List.mem_singleton.mp m]
      exact A.1.2.2.2.2.2.2 a hwk
theorem x_lald {a j : Nat} {i : Int32} (hi : i = nI j) (hj : j < hLn h a) (h31 : j < 2147483648) (hd : decode (kc K) pc = .ok (.laload, 1)) (hk : kA 4 (hKd h a)) (kk : X G c K d mc ms Q bc bs h (pc + 1) lv (.long (hEL h a j) :: st)) : X G c K d mc ms Q bc bs h pc lv (.int i :: .ref a :: st) := by
  intro B H locs cells slots ls A hls
  subst hi
  refine W.lald (v := .long (hEL h a j)) B.1 B.2.1 (A.1.arr (by decide) hk) ((xtys_at B.2.2.2.2.2.2.2.1 4 rfl).1 _ _) (fun q => by cases q) (by rw [arrV_size]; exact vp_inj hj h31) (by rw [nI_clamp h31, arrV_read _ _ hj]; rfl) rfl rfl hd (kk B H locs cells slots ls A hls)
theorem x_last {a j : Nat} {i : Int32} {x : Int64} (hi : i = nI j) (hj : j < hLn h a) (h31 : j < 2147483648) (hd : decode (kc K) pc = .ok (.lastore, 1)) (hk : hKd h a = 205) (kk : X G c K d mc ms Q bc bs (uEL h a (vp_updL (hEL h a) j x)) (pc + 1) lv st) : X G c K d mc ms Q bc bs h pc lv (.long x :: .int i :: .ref a :: st) := by
  intro B H locs cells slots ls A hls
  subst hi
  have hk2 : kA 4 (hKd h a) := Or.inl hk
  have hwk : wk (hKd h a) := Or.inr (by omega)
  refine W.last B.1 B.2.1 (A.1.arr (by decide) hk2) ((xtys_at B.2.2.2.2.2.2.2.1 4 rfl).1 _ _) (fun q => by cases q) (by rw [arrV_size]; exact vp_inj hj h31) rfl rfl hd fun H1 e z oq => ?_
  refine kk B H1 (locs ++ [⟨a, (nI j).toNatClampNeg⟩]) cells slots ls ⟨A.1.put z oq hwk rfl rfl (fun q hq => Eqa.uEL hq) (Cel.arr (t := 4) hk2 (by decide) ?_), fun q hq => ?_, A.2.2.1, A.2.2.2.1, by rw [z]; exact A.2.2.2.2⟩ hls
  · rw [e]
    refine congrArg some ?_
    refine (arrV_store _ _ _ _ _).trans ?_
    refine congrArg (arrV (gA G 4) (hLn h a)) ?_
    funext q
    rw [nI_clamp h31]
    by_cases hq : q = j
    · subst hq
      simp [updV, ev, vp_updL, uEL_hEL, vp_nar_byte, vp_nar_char, narrow]
    · simp [updV, ev, vp_updL, uEL_hEL, hq]
  · rcases List.mem_append.mp hq with m | m
    · exact A.2.1 q m
    · rw [List.mem_singleton.mp m]
      exact A.1.2.2.2.2.2.2 a hwk
theorem x_dald {a j : Nat} {i : Int32} (hi : i = nI j) (hj : j < hLn h a) (h31 : j < 2147483648) (hd : decode (kc K) pc = .ok (.daload, 1)) (hk : kA 5 (hKd h a)) (kk : X G c K d mc ms Q bc bs h (pc + 1) lv (.double (hED h a j) :: st)) : X G c K d mc ms Q bc bs h pc lv (.int i :: .ref a :: st) := by
  intro B H locs cells slots ls A hls
  subst hi
  refine W.dald (v := .double (hED h a j)) B.1 B.2.1 (A.1.arr (by decide) hk) ((xtys_at B.2.2.2.2.2.2.2.1 5 rfl).1 _ _) (fun q => by cases q) (by rw [arrV_size]; exact vp_inj hj h31) (by rw [nI_clamp h31, arrV_read _ _ hj]; rfl) rfl rfl hd (kk B H locs cells slots ls A hls)
theorem x_aald {a j t : Nat} {i : Int32} (o : Option Nat) (ht : 5 < t ∧ t < 12) (hi : i = nI j) (hj : j < hLn h a) (h31 : j < 2147483648) (ho : hER h a j = o) (hd : decode (kc K) pc = .ok (.aaload, 1)) (hk : kA t (hKd h a)) (kk : X G c K d mc ms Q bc bs h (pc + 1) lv (va_rf o :: st)) : X G c K d mc ms Q bc bs h pc lv (.int i :: .ref a :: st) := by
  intro B H locs cells slots ls A hls
  subst hi
  obtain ⟨C, hC⟩ : ∃ C, (xtys G)[t]? = some (gA G t, .object C) := by
    obtain ⟨h1, h2⟩ := ht
    rcases (show t = 6 ∨ t = 7 ∨ t = 8 ∨ t = 9 ∨ t = 10 ∨ t = 11 by omega) with r | r | r | r | r | r <;> subst r <;> exact ⟨_, rfl⟩
  refine W.aald (v := va_rf o) B.1 B.2.1 (A.1.arr ht.2 hk) ((xtys_at B.2.2.2.2.2.2.2.1 t hC).1 _ _) rfl (fun q => by cases q) (by rw [arrV_size]; exact vp_inj hj h31) (by
    rw [nI_clamp h31, arrV_read _ _ hj]
    have e1 : ¬ t < 4 := by omega
    have e2 : ¬ t = 4 := by omega
    have e3 : ¬ t = 5 := by omega
    unfold ev
    rw [if_neg e1, if_neg e2, if_neg e3, ho]) rfl rfl hd (kk B H locs cells slots ls A hls)
theorem x_alen {a t : Nat} (ht : t < 12) (hd : decode (kc K) pc = .ok (.arraylength, 1)) (hk : kA t (hKd h a)) (kk : X G c K d mc ms Q bc bs h (pc + 1) lv (.int (nI (hLn h a)) :: st)) : X G c K d mc ms Q bc bs h pc lv (.ref a :: st) := by
  intro B H locs cells slots ls A hls
  obtain ⟨ty, hC⟩ : ∃ ty, (xtys G)[t]? = some (gA G t, ty) := by
    rcases (show t = 0 ∨ t = 1 ∨ t = 2 ∨ t = 3 ∨ t = 4 ∨ t = 5 ∨ t = 6 ∨ t = 7 ∨ t = 8 ∨ t = 9 ∨ t = 10 ∨ t = 11 by omega) with r | r | r | r | r | r | r | r | r | r | r | r <;> subst r <;> exact ⟨_, rfl⟩
  exact W.alen (n := nI (hLn h a)) B.1 B.2.1 (A.1.arr ht hk) ((xtys_at B.2.2.2.2.2.2.2.1 t hC).1 _ _) (by rw [arrV_size]; rfl) rfl rfl hd (kk B H locs cells slots ls A hls)

end XY
