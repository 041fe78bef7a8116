/-! FORMS of contracts and their calls; THE REFERENCE's cells: the object a, its arrays a+1 .. a+8 (g kept saved before spare input signs told); printed by tools/mktw.py -/
set_option maxRecDepth 100000
def rI (e : Int32) (h2 : AH) : OC → AH → Prop := fun o h' => o = .inl (some (.int e)) ∧ h' = h2
def rV (h2 : AH) : OC → AH → Prop := fun o h' => o = .inl none ∧ h' = h2
def rO (v : Value) (h2 : AH) : OC → AH → Prop := fun o h' => o = .inl (some v) ∧ h' = h2
def bB (b : Bool) : Int32 := if b = true then 1 else 0
theorem bB_t : bB true = 1 := rfl
theorem bB_f : bB false = 0 := rfl
theorem bB_nar (b : Bool) : narrow .boolean (.int (bB b)) = .int (bB b) := by cases b <;> decide +kernel
section XT
variable {G : GG} {c : CX} {K : KX} {d mc ms : Nat} {Q : OC → AH → Prop} {bc bs : Nat} {h : AH} {pc : Nat} {lv : List (Nat × Value)} {st st0 : List Value}
theorem x_if_eqB {b : Bool} {off : Int} (tgt : Nat) (hd : decode (kc K) pc = .ok (.ifCond .eq off, 3)) (ht : (pc : Int) + off = (tgt : Int)) (kt : b = false → X G c K d mc ms Q bc bs h tgt lv st) (kf : b = true → X G c K d mc ms Q bc bs h (pc + 3) lv st) : X G c K d mc ms Q bc bs h pc lv (.int (bB b) :: st) := by
  refine x_if_eq tgt hd ht (fun e => ?_) (fun e => ?_)
  · cases b
    · exact kt rfl
    · exact absurd e (by decide)
  · cases b
    · exact absurd rfl e
    · exact kf rfl
theorem x_if_neB {b : Bool} {off : Int} (tgt : Nat) (hd : decode (kc K) pc = .ok (.ifCond .ne off, 3)) (ht : (pc : Int) + off = (tgt : Int)) (kt : b = true → X G c K d mc ms Q bc bs h tgt lv st) (kf : b = false → X G c K d mc ms Q bc bs h (pc + 3) lv st) : X G c K d mc ms Q bc bs h pc lv (.int (bB b) :: st) := by
  refine x_if_ne tgt hd ht (fun e => ?_) (fun e => ?_)
  · cases b
    · exact absurd rfl e
    · exact kt rfl
  · cases b
    · exact kf rfl
    · exact absurd e (by decide)
theorem x_cVI {K' : KX} {n d' mc' ms' idx b ci : Nat} {T : u_T} {N : Nat} {As : List Value} {e : Int32} {h2 : AH} (C' : Cal G K' d' mc' ms' (.ref b :: As) h (rI e h2)) (ok : COk K' n) (L : CLk ci (ky K').cls T N) (w1 : Cond.methodLink (ky K).cls idx (ky K') ∈ lw_all) (w2 : Cond.instanceMethod (ky K') ∈ lw_all) (w3 : Cond.selects (ky K').cls (ky K') (ky K') ∈ lw_all)
    (hd : decode (kc K) pc = .ok (.invokevirtual idx, 3)) (hk : kO ci (hKd h b)) (hn : As.length = n) (hs : st0 = As.reverse ++ .ref b :: st) (hD : d' + 1 ≤ d) (hB : mc' ≤ bc) (hS : ms' ≤ bs) (hst : (st.map fun v => v.category).sum ≤ 8)
    (k : hSz h ≤ hSz h2 → X G c K d mc ms Q (bc - mc') (bs - ms') h2 (pc + 3) lv (.int e :: st)) : X G c K d mc ms Q bc bs h pc lv st0 :=
  x_invV C' ok L w1 w2 w3 hd hk hn hs hD hB hS hst (fun v h' hq hz => by
    obtain ⟨h1, rfl⟩ := hq
    cases h1
    exact k hz) (fun E q h' hq _ => nomatch hq.1)
theorem x_cVV {K' : KX} {n d' mc' ms' idx b ci : Nat} {T : u_T} {N : Nat} {As : List Value} {h2 : AH} (C' : Cal G K' d' mc' ms' (.ref b :: As) h (rV h2)) (ok : COk K' n) (L : CLk ci (ky K').cls T N) (w1 : Cond.methodLink (ky K).cls idx (ky K') ∈ lw_all) (w2 : Cond.instanceMethod (ky K') ∈ lw_all) (w3 : Cond.selects (ky K').cls (ky K') (ky K') ∈ lw_all)
    (hd : decode (kc K) pc = .ok (.invokevirtual idx, 3)) (hk : kO ci (hKd h b)) (hn : As.length = n) (hs : st0 = As.reverse ++ .ref b :: st) (hD : d' + 1 ≤ d) (hB : mc' ≤ bc) (hS : ms' ≤ bs) (hst : (st.map fun v => v.category).sum ≤ 8)
    (k : hSz h ≤ hSz h2 → X G c K d mc ms Q (bc - mc') (bs - ms') h2 (pc + 3) lv st) : X G c K d mc ms Q bc bs h pc lv st0 :=
  x_invV C' ok L w1 w2 w3 hd hk hn hs hD hB hS hst (fun v h' hq hz => by
    obtain ⟨h1, rfl⟩ := hq
    cases h1
    exact k hz) (fun E q h' hq _ => nomatch hq.1)
theorem x_cVO {K' : KX} {n d' mc' ms' idx b ci : Nat} {T : u_T} {N : Nat} {As : List Value} {v : Value} {h2 : AH} (C' : Cal G K' d' mc' ms' (.ref b :: As) h (rO v h2)) (ok : COk K' n) (L : CLk ci (ky K').cls T N) (w1 : Cond.methodLink (ky K).cls idx (ky K') ∈ lw_all) (w2 : Cond.instanceMethod (ky K') ∈ lw_all) (w3 : Cond.selects (ky K').cls (ky K') (ky K') ∈ lw_all)
    (hd : decode (kc K) pc = .ok (.invokevirtual idx, 3)) (hk : kO ci (hKd h b)) (hn : As.length = n) (hs : st0 = As.reverse ++ .ref b :: st) (hD : d' + 1 ≤ d) (hB : mc' ≤ bc) (hS : ms' ≤ bs) (hst : (st.map fun v => v.category).sum ≤ 8)
    (k : hSz h ≤ hSz h2 → X G c K d mc ms Q (bc - mc') (bs - ms') h2 (pc + 3) lv (v :: st)) : X G c K d mc ms Q bc bs h pc lv st0 :=
  x_invV C' ok L w1 w2 w3 hd hk hn hs hD hB hS hst (fun v h' hq hz => by
    obtain ⟨h1, rfl⟩ := hq
    cases h1
    exact k hz) (fun E q h' hq _ => nomatch hq.1)
theorem x_cSI {K' : KX} {n d' mc' ms' idx : Nat} {As : List Value} {e : Int32} {h2 : AH} (C' : Cal G K' d' mc' ms' As h (rI e h2)) (ok : COk K' n) (w1 : Cond.methodLink (ky K).cls idx (ky K') ∈ lw_all) (w2 : Cond.static (ky K') ∈ lw_all)
    (hd : decode (kc K) pc = .ok (.invokestatic idx, 3)) (hn : As.length = n) (hs : st0 = As.reverse ++ st) (hD : d' + 1 ≤ d) (hB : mc' ≤ bc) (hS : ms' ≤ bs) (hst : (st.map fun v => v.category).sum ≤ 8)
    (k : hSz h ≤ hSz h2 → X G c K d mc ms Q (bc - mc') (bs - ms') h2 (pc + 3) lv (.int e :: st)) : X G c K d mc ms Q bc bs h pc lv st0 :=
  x_invS C' ok w1 w2 hd hn hs hD hB hS hst (fun v h' hq hz => by
    obtain ⟨h1, rfl⟩ := hq
    cases h1
    exact k hz) (fun E q h' hq _ => nomatch hq.1)
theorem x_cSV {K' : KX} {n d' mc' ms' idx : Nat} {As : List Value} {h2 : AH} (C' : Cal G K' d' mc' ms' As h (rV h2)) (ok : COk K' n) (w1 : Cond.methodLink (ky K).cls idx (ky K') ∈ lw_all) (w2 : Cond.static (ky K') ∈ lw_all)
    (hd : decode (kc K) pc = .ok (.invokestatic idx, 3)) (hn : As.length = n) (hs : st0 = As.reverse ++ st) (hD : d' + 1 ≤ d) (hB : mc' ≤ bc) (hS : ms' ≤ bs) (hst : (st.map fun v => v.category).sum ≤ 8)
    (k : hSz h ≤ hSz h2 → X G c K d mc ms Q (bc - mc') (bs - ms') h2 (pc + 3) lv st) : X G c K d mc ms Q bc bs h pc lv st0 :=
  x_invS C' ok w1 w2 hd hn hs hD hB hS hst (fun v h' hq hz => by
    obtain ⟨h1, rfl⟩ := hq
    cases h1
    exact k hz) (fun E q h' hq _ => nomatch hq.1)
end XT
/-! the reference -/
/-- the reference's cells in h: kinds, lengths, references -/
def Tw (h : AH) (a : Nat) : Prop :=
  hKd h a = 13 ∧ hFR h 525 a = some (a + 1) ∧ hFR h 526 a = some (a + 2) ∧ hFR h 527 a = some (a + 3) ∧ hFR h 528 a = some (a + 4) ∧ hFR h 529 a = some (a + 5) ∧ hFR h 530 a = some (a + 6) ∧ hFR h 531 a = some (a + 7) ∧ hFR h 532 a = some (a + 8) ∧
  hKd h (a + 1) = 201 ∧ hKd h (a + 2) = 201 ∧ hKd h (a + 3) = 201 ∧ hKd h (a + 4) = 201 ∧ hKd h (a + 5) = 201 ∧ hKd h (a + 6) = 201 ∧ hKd h (a + 7) = 203 ∧ hKd h (a + 8) = 201 ∧
  hLn h (a + 1) = 221 ∧ hLn h (a + 2) = 1768 ∧ hLn h (a + 3) = 221 ∧ hLn h (a + 4) = 221 ∧ hLn h (a + 5) = 221 ∧ hLn h (a + 6) = 60 ∧ hLn h (a + 7) = 60 ∧ hLn h (a + 8) = 100
/-- the heap h, where the reference at a holds g, the other arrays S (by their places), the fields V (by their numbers) -/
def twh (h : AH) (a : Nat) (g : Nat → Int32) (S : Nat → Nat → Int32) (V : Nat → Int32) : AH :=
  (hKd h, hLn h, fun f b => if b = a then V f else hFI h f b, hFR h, fun b j => if b = a + 1 then g j else if a + 1 < b ∧ b ≤ a + 8 then S (b - a) j else hEI h b j, hER h, hEL h, hED h, hSz h)
def upS (S : Nat → Nat → Int32) (i : Nat) (F : Nat → Int32) : Nat → Nat → Int32 := fun k => if k = i then F else S k
theorem upS_s {S : Nat → Nat → Int32} {i : Nat} {F : Nat → Int32} : upS S i F i = F := if_pos rfl
theorem upS_n {S : Nat → Nat → Int32} {i k : Nat} {F : Nat → Int32} (n : k ≠ i) : upS S i F k = S k := if_neg n
theorem twh_eta (h : AH) (a : Nat) : twh h a (hEI h (a + 1)) (fun i => hEI h (a + i)) (fun f => hFI h f a) = h := by
  show (_, _, _, _, _, _, _, _, _) = h
  have e1 : (fun f b => if b = a then hFI h f a else hFI h f b) = hFI h := by
    funext f b
    split
    · next q => rw [q]
    · rfl
  have e2 : (fun b j => if b = a + 1 then hEI h (a + 1) j else if a + 1 < b ∧ b ≤ a + 8 then hEI h (a + (b - a)) j else hEI h b j) = hEI h := by
    funext b j
    split
    · next q => rw [q]
    · split
      · next q => rw [show a + (b - a) = b by omega]
      · rfl
  rw [e1, e2]
  rfl
section TW
variable {h : AH} {a : Nat} {g : Nat → Int32} {S : Nat → Nat → Int32} {V : Nat → Int32}
theorem twh_hKd {b : Nat} : hKd (twh h a g S V) b = hKd h b := rfl
theorem twh_hLn {b : Nat} : hLn (twh h a g S V) b = hLn h b := rfl
theorem twh_hFR {f b : Nat} : hFR (twh h a g S V) f b = hFR h f b := rfl
theorem twh_hSz : hSz (twh h a g S V) = hSz h := rfl
theorem twh_hFI {f : Nat} : hFI (twh h a g S V) f a = V f := if_pos rfl
theorem twh_g : hEI (twh h a g S V) (a + 1) = g := by
  funext j
  exact if_pos rfl
theorem twh_S {i : Nat} (h1 : 1 < i) (h2 : i ≤ 8) : hEI (twh h a g S V) (a + i) = S i := by
  funext j
  show (if a + i = a + 1 then g j else if a + 1 < a + i ∧ a + i ≤ a + 8 then S (a + i - a) j else hEI h (a + i) j) = S i j
  rw [if_neg (by omega), if_pos (by omega), show a + i - a = i by omega]
theorem twh_uFI {f : Nat} {v : Int32} : uFI (twh h a g S V) f a v = twh h a g S (upd V f v) := by
  show (_, _, _, _, _, _, _, _, _) = (_, _, _, _, _, _, _, _, _)
  have e1 : up2 (hFI (twh h a g S V)) f a v = hFI (twh h a g S (upd V f v)) := by
    funext f' b
    show (if f' = f ∧ b = a then v else if b = a then V f' else hFI h f' b) = (if b = a then upd V f v f' else hFI h f' b)
    by_cases q : b = a
    · by_cases r : f' = f
      · rw [if_pos ⟨r, q⟩, if_pos q]; simp [upd, r]
      · rw [if_neg (fun z => r z.1), if_pos q, if_pos q]; simp [upd, r]
    · rw [if_neg (fun z => q z.2), if_neg q, if_neg q]
  rw [e1]
  rfl
theorem twh_uG {F : Nat → Int32} : uEI (twh h a g S V) (a + 1) F = twh h a F S V := by
  show (_, _, _, _, _, _, _, _, _) = (_, _, _, _, _, _, _, _, _)
  have e1 : up1 (hEI (twh h a g S V)) (a + 1) F = hEI (twh h a F S V) := by
    funext b j
    show (if b = a + 1 then F else fun j => if b = a + 1 then g j else if a + 1 < b ∧ b ≤ a + 8 then S (b - a) j else hEI h b j) j = (if b = a + 1 then F j else if a + 1 < b ∧ b ≤ a + 8 then S (b - a) j else hEI h b j)
    by_cases q : b = a + 1
    · rw [if_pos q, if_pos q]
    · rw [if_neg q, if_neg q, if_neg q]
  rw [e1]
  rfl
theorem twh_uS {i : Nat} {F : Nat → Int32} (h1 : 1 < i) (h2 : i ≤ 8) : uEI (twh h a g S V) (a + i) F = twh h a g (upS S i F) V := by
  show (_, _, _, _, _, _, _, _, _) = (_, _, _, _, _, _, _, _, _)
  have e1 : up1 (hEI (twh h a g S V)) (a + i) F = hEI (twh h a g (upS S i F) V) := by
    funext b j
    show (if b = a + i then F else fun j => if b = a + 1 then g j else if a + 1 < b ∧ b ≤ a + 8 then S (b - a) j else hEI h b j) j = (if b = a + 1 then g j else if a + 1 < b ∧ b ≤ a + 8 then upS S i F (b - a) j else hEI h b j)
    by_cases q : b = a + i
    · rw [if_pos q, if_neg (by omega), if_pos (by omega)]
      simp [upS, show b - a = i by omega]
    · rw [if_neg q]
      show (if b = a + 1 then g j else if a + 1 < b ∧ b ≤ a + 8 then S (b - a) j else hEI h b j) = _
      by_cases r : b = a + 1
      · rw [if_pos r, if_pos r]
      · rw [if_neg r, if_neg r]
        by_cases u : a + 1 < b ∧ b ≤ a + 8
        · rw [if_pos u, if_pos u]
          simp [upS, show b - a ≠ i by omega]
        · rw [if_neg u, if_neg u]
  rw [e1]
  rfl
variable {G : GG} {c : CX} {K : KX} {d mc ms : Nat} {Q : OC → AH → Prop} {bc bs : Nat} {pc : Nat} {lv : List (Nat × Value)} {st st0 : List Value}

theorem tg_g {idx : Nat} (T : Tw h a) (hl : LkF K idx "MustardMillModel" "g" "[I") (hd : decode (kc K) pc = .ok (.getfield idx, 3)) (kk : X G c K d mc ms Q bc bs (twh h a g S V) (pc + 3) lv (.ref (a + 1) :: st)) : X G c K d mc ms Q bc bs (twh h a g S V) pc lv (.ref a :: st) := xh12_0 hl hd (Or.inl T.1) T.2.1 kk
theorem tg_kept {idx : Nat} (T : Tw h a) (hl : LkF K idx "MustardMillModel" "kept" "[I") (hd : decode (kc K) pc = .ok (.getfield idx, 3)) (kk : X G c K d mc ms Q bc bs (twh h a g S V) (pc + 3) lv (.ref (a + 2) :: st)) : X G c K d mc ms Q bc bs (twh h a g S V) pc lv (.ref a :: st) := xh12_1 hl hd (Or.inl T.1) T.2.2.1 kk
theorem tg_saved {idx : Nat} (T : Tw h a) (hl : LkF K idx "MustardMillModel" "saved" "[I") (hd : decode (kc K) pc = .ok (.getfield idx, 3)) (kk : X G c K d mc ms Q bc bs (twh h a g S V) (pc + 3) lv (.ref (a + 3) :: st)) : X G c K d mc ms Q bc bs (twh h a g S V) pc lv (.ref a :: st) := xh12_2 hl hd (Or.inl T.1) T.2.2.2.1 kk
theorem tg_before {idx : Nat} (T : Tw h a) (hl : LkF K idx "MustardMillModel" "before" "[I") (hd : decode (kc K) pc = .ok (.getfield idx, 3)) (kk : X G c K d mc ms Q bc bs (twh h a g S V) (pc + 3) lv (.ref (a + 4) :: st)) : X G c K d mc ms Q bc bs (twh h a g S V) pc lv (.ref a :: st) := xh12_3 hl hd (Or.inl T.1) T.2.2.2.2.1 kk
theorem tg_spare {idx : Nat} (T : Tw h a) (hl : LkF K idx "MustardMillModel" "spare" "[I") (hd : decode (kc K) pc = .ok (.getfield idx, 3)) (kk : X G c K d mc ms Q bc bs (twh h a g S V) (pc + 3) lv (.ref (a + 5) :: st)) : X G c K d mc ms Q bc bs (twh h a g S V) pc lv (.ref a :: st) := xh12_4 hl hd (Or.inl T.1) T.2.2.2.2.2.1 kk
theorem tg_isSaved {idx : Nat} (T : Tw h a) (hl : LkF K idx "MustardMillModel" "isSaved" "Z") (hd : decode (kc K) pc = .ok (.getfield idx, 3)) (kk : X G c K d mc ms Q bc bs (twh h a g S V) (pc + 3) lv (.int (V 31) :: st)) : X G c K d mc ms Q bc bs (twh h a g S V) pc lv (.ref a :: st) := xg12_5 hl hd (Or.inl T.1) (twh_hFI (f := 31) ▸ kk)
theorem tp_isSaved {idx : Nat} {v : Int32} (T : Tw h a) (hv : v = 0 ∨ v = 1) (hl : LkF K idx "MustardMillModel" "isSaved" "Z") (hd : decode (kc K) pc = .ok (.putfield idx, 3)) (kk : X G c K d mc ms Q bc bs (twh h a g S (upd V 31 v)) (pc + 3) lv st) : X G c K d mc ms Q bc bs (twh h a g S V) pc lv (.int v :: .ref a :: st) := xp12_5 hv hl hd T.1 (twh_uFI ▸ kk)
theorem tg_changes {idx : Nat} (T : Tw h a) (hl : LkF K idx "MustardMillModel" "changes" "I") (hd : decode (kc K) pc = .ok (.getfield idx, 3)) (kk : X G c K d mc ms Q bc bs (twh h a g S V) (pc + 3) lv (.int (V 32) :: st)) : X G c K d mc ms Q bc bs (twh h a g S V) pc lv (.ref a :: st) := xg12_6 hl hd (Or.inl T.1) (twh_hFI (f := 32) ▸ kk)
theorem tp_changes {idx : Nat} {v : Int32} (T : Tw h a) (hl : LkF K idx "MustardMillModel" "changes" "I") (hd : decode (kc K) pc = .ok (.putfield idx, 3)) (kk : X G c K d mc ms Q bc bs (twh h a g S (upd V 32 v)) (pc + 3) lv st) : X G c K d mc ms Q bc bs (twh h a g S V) pc lv (.int v :: .ref a :: st) := xp12_6 hl hd T.1 (twh_uFI ▸ kk)
theorem tg_isWithin {idx : Nat} (T : Tw h a) (hl : LkF K idx "MustardMillModel" "isWithin" "Z") (hd : decode (kc K) pc = .ok (.getfield idx, 3)) (kk : X G c K d mc ms Q bc bs (twh h a g S V) (pc + 3) lv (.int (V 33) :: st)) : X G c K d mc ms Q bc bs (twh h a g S V) pc lv (.ref a :: st) := xg12_7 hl hd (Or.inl T.1) (twh_hFI (f := 33) ▸ kk)
theorem tp_isWithin {idx : Nat} {v : Int32} (T : Tw h a) (hv : v = 0 ∨ v = 1) (hl : LkF K idx "MustardMillModel" "isWithin" "Z") (hd : decode (kc K) pc = .ok (.putfield idx, 3)) (kk : X G c K d mc ms Q bc bs (twh h a g S (upd V 33 v)) (pc + 3) lv st) : X G c K d mc ms Q bc bs (twh h a g S V) pc lv (.int v :: .ref a :: st) := xp12_7 hv hl hd T.1 (twh_uFI ▸ kk)
theorem tg_code {idx : Nat} (T : Tw h a) (hl : LkF K idx "MustardMillModel" "code" "I") (hd : decode (kc K) pc = .ok (.getfield idx, 3)) (kk : X G c K d mc ms Q bc bs (twh h a g S V) (pc + 3) lv (.int (V 34) :: st)) : X G c K d mc ms Q bc bs (twh h a g S V) pc lv (.ref a :: st) := xg12_8 hl hd (Or.inl T.1) (twh_hFI (f := 34) ▸ kk)
theorem tp_code {idx : Nat} {v : Int32} (T : Tw h a) (hl : LkF K idx "MustardMillModel" "code" "I") (hd : decode (kc K) pc = .ok (.putfield idx, 3)) (kk : X G c K d mc ms Q bc bs (twh h a g S (upd V 34 v)) (pc + 3) lv st) : X G c K d mc ms Q bc bs (twh h a g S V) pc lv (.int v :: .ref a :: st) := xp12_8 hl hd T.1 (twh_uFI ▸ kk)
theorem tg_why {idx : Nat} (T : Tw h a) (hl : LkF K idx "MustardMillModel" "why" "I") (hd : decode (kc K) pc = .ok (.getfield idx, 3)) (kk : X G c K d mc ms Q bc bs (twh h a g S V) (pc + 3) lv (.int (V 35) :: st)) : X G c K d mc ms Q bc bs (twh h a g S V) pc lv (.ref a :: st) := xg12_9 hl hd (Or.inl T.1) (twh_hFI (f := 35) ▸ kk)
theorem tp_why {idx : Nat} {v : Int32} (T : Tw h a) (hl : LkF K idx "MustardMillModel" "why" "I") (hd : decode (kc K) pc = .ok (.putfield idx, 3)) (kk : X G c K d mc ms Q bc bs (twh h a g S (upd V 35 v)) (pc + 3) lv st) : X G c K d mc ms Q bc bs (twh h a g S V) pc lv (.int v :: .ref a :: st) := xp12_9 hl hd T.1 (twh_uFI ▸ kk)
theorem tg_detail {idx : Nat} (T : Tw h a) (hl : LkF K idx "MustardMillModel" "detail" "I") (hd : decode (kc K) pc = .ok (.getfield idx, 3)) (kk : X G c K d mc ms Q bc bs (twh h a g S V) (pc + 3) lv (.int (V 36) :: st)) : X G c K d mc ms Q bc bs (twh h a g S V) pc lv (.ref a :: st) := xg12_10 hl hd (Or.inl T.1) (twh_hFI (f := 36) ▸ kk)
theorem tp_detail {idx : Nat} {v : Int32} (T : Tw h a) (hl : LkF K idx "MustardMillModel" "detail" "I") (hd : decode (kc K) pc = .ok (.putfield idx, 3)) (kk : X G c K d mc ms Q bc bs (twh h a g S (upd V 36 v)) (pc + 3) lv st) : X G c K d mc ms Q bc bs (twh h a g S V) pc lv (.int v :: .ref a :: st) := xp12_10 hl hd T.1 (twh_uFI ▸ kk)
theorem tg_input {idx : Nat} (T : Tw h a) (hl : LkF K idx "MustardMillModel" "input" "[I") (hd : decode (kc K) pc = .ok (.getfield idx, 3)) (kk : X G c K d mc ms Q bc bs (twh h a g S V) (pc + 3) lv (.ref (a + 6) :: st)) : X G c K d mc ms Q bc bs (twh h a g S V) pc lv (.ref a :: st) := xh12_11 hl hd (Or.inl T.1) T.2.2.2.2.2.2.1 kk
theorem tg_length {idx : Nat} (T : Tw h a) (hl : LkF K idx "MustardMillModel" "length" "I") (hd : decode (kc K) pc = .ok (.getfield idx, 3)) (kk : X G c K d mc ms Q bc bs (twh h a g S V) (pc + 3) lv (.int (V 37) :: st)) : X G c K d mc ms Q bc bs (twh h a g S V) pc lv (.ref a :: st) := xg12_12 hl hd (Or.inl T.1) (twh_hFI (f := 37) ▸ kk)
theorem tp_length {idx : Nat} {v : Int32} (T : Tw h a) (hl : LkF K idx "MustardMillModel" "length" "I") (hd : decode (kc K) pc = .ok (.putfield idx, 3)) (kk : X G c K d mc ms Q bc bs (twh h a g S (upd V 37 v)) (pc + 3) lv st) : X G c K d mc ms Q bc bs (twh h a g S V) pc lv (.int v :: .ref a :: st) := xp12_12 hl hd T.1 (twh_uFI ▸ kk)
theorem tg_error {idx : Nat} (T : Tw h a) (hl : LkF K idx "MustardMillModel" "error" "I") (hd : decode (kc K) pc = .ok (.getfield idx, 3)) (kk : X G c K d mc ms Q bc bs (twh h a g S V) (pc + 3) lv (.int (V 38) :: st)) : X G c K d mc ms Q bc bs (twh h a g S V) pc lv (.ref a :: st) := xg12_13 hl hd (Or.inl T.1) (twh_hFI (f := 38) ▸ kk)
theorem tp_error {idx : Nat} {v : Int32} (T : Tw h a) (hl : LkF K idx "MustardMillModel" "error" "I") (hd : decode (kc K) pc = .ok (.putfield idx, 3)) (kk : X G c K d mc ms Q bc bs (twh h a g S (upd V 38 v)) (pc + 3) lv st) : X G c K d mc ms Q bc bs (twh h a g S V) pc lv (.int v :: .ref a :: st) := xp12_13 hl hd T.1 (twh_uFI ▸ kk)
theorem tg_item {idx : Nat} (T : Tw h a) (hl : LkF K idx "MustardMillModel" "item" "I") (hd : decode (kc K) pc = .ok (.getfield idx, 3)) (kk : X G c K d mc ms Q bc bs (twh h a g S V) (pc + 3) lv (.int (V 39) :: st)) : X G c K d mc ms Q bc bs (twh h a g S V) pc lv (.ref a :: st) := xg12_14 hl hd (Or.inl T.1) (twh_hFI (f := 39) ▸ kk)
theorem tp_item {idx : Nat} {v : Int32} (T : Tw h a) (hl : LkF K idx "MustardMillModel" "item" "I") (hd : decode (kc K) pc = .ok (.putfield idx, 3)) (kk : X G c K d mc ms Q bc bs (twh h a g S (upd V 39 v)) (pc + 3) lv st) : X G c K d mc ms Q bc bs (twh h a g S V) pc lv (.int v :: .ref a :: st) := xp12_14 hl hd T.1 (twh_uFI ▸ kk)
theorem tg_signs {idx : Nat} (T : Tw h a) (hl : LkF K idx "MustardMillModel" "signs" "[C") (hd : decode (kc K) pc = .ok (.getfield idx, 3)) (kk : X G c K d mc ms Q bc bs (twh h a g S V) (pc + 3) lv (.ref (a + 7) :: st)) : X G c K d mc ms Q bc bs (twh h a g S V) pc lv (.ref a :: st) := xh12_15 hl hd (Or.inl T.1) T.2.2.2.2.2.2.2.1 kk
theorem tg_signMany {idx : Nat} (T : Tw h a) (hl : LkF K idx "MustardMillModel" "signMany" "I") (hd : decode (kc K) pc = .ok (.getfield idx, 3)) (kk : X G c K d mc ms Q bc bs (twh h a g S V) (pc + 3) lv (.int (V 40) :: st)) : X G c K d mc ms Q bc bs (twh h a g S V) pc lv (.ref a :: st) := xg12_16 hl hd (Or.inl T.1) (twh_hFI (f := 40) ▸ kk)
theorem tp_signMany {idx : Nat} {v : Int32} (T : Tw h a) (hl : LkF K idx "MustardMillModel" "signMany" "I") (hd : decode (kc K) pc = .ok (.putfield idx, 3)) (kk : X G c K d mc ms Q bc bs (twh h a g S (upd V 40 v)) (pc + 3) lv st) : X G c K d mc ms Q bc bs (twh h a g S V) pc lv (.int v :: .ref a :: st) := xp12_16 hl hd T.1 (twh_uFI ▸ kk)
theorem tg_at {idx : Nat} (T : Tw h a) (hl : LkF K idx "MustardMillModel" "at" "I") (hd : decode (kc K) pc = .ok (.getfield idx, 3)) (kk : X G c K d mc ms Q bc bs (twh h a g S V) (pc + 3) lv (.int (V 41) :: st)) : X G c K d mc ms Q bc bs (twh h a g S V) pc lv (.ref a :: st) := xg12_17 hl hd (Or.inl T.1) (twh_hFI (f := 41) ▸ kk)
theorem tp_at {idx : Nat} {v : Int32} (T : Tw h a) (hl : LkF K idx "MustardMillModel" "at" "I") (hd : decode (kc K) pc = .ok (.putfield idx, 3)) (kk : X G c K d mc ms Q bc bs (twh h a g S (upd V 41 v)) (pc + 3) lv st) : X G c K d mc ms Q bc bs (twh h a g S V) pc lv (.int v :: .ref a :: st) := xp12_17 hl hd T.1 (twh_uFI ▸ kk)
theorem tg_told {idx : Nat} (T : Tw h a) (hl : LkF K idx "MustardMillModel" "told" "[I") (hd : decode (kc K) pc = .ok (.getfield idx, 3)) (kk : X G c K d mc ms Q bc bs (twh h a g S V) (pc + 3) lv (.ref (a + 8) :: st)) : X G c K d mc ms Q bc bs (twh h a g S V) pc lv (.ref a :: st) := xh12_18 hl hd (Or.inl T.1) T.2.2.2.2.2.2.2.2.1 kk
theorem tg_toldMany {idx : Nat} (T : Tw h a) (hl : LkF K idx "MustardMillModel" "toldMany" "I") (hd : decode (kc K) pc = .ok (.getfield idx, 3)) (kk : X G c K d mc ms Q bc bs (twh h a g S V) (pc + 3) lv (.int (V 42) :: st)) : X G c K d mc ms Q bc bs (twh h a g S V) pc lv (.ref a :: st) := xg12_19 hl hd (Or.inl T.1) (twh_hFI (f := 42) ▸ kk)
theorem tp_toldMany {idx : Nat} {v : Int32} (T : Tw h a) (hl : LkF K idx "MustardMillModel" "toldMany" "I") (hd : decode (kc K) pc = .ok (.putfield idx, 3)) (kk : X G c K d mc ms Q bc bs (twh h a g S (upd V 42 v)) (pc + 3) lv st) : X G c K d mc ms Q bc bs (twh h a g S V) pc lv (.int v :: .ref a :: st) := xp12_19 hl hd T.1 (twh_uFI ▸ kk)
theorem tld1 {j : Nat} {i : Int32} (T : Tw h a) (hi : i = nI j) (hj : j < 221) (hd : decode (kc K) pc = .ok (.iaload, 1)) (kk : X G c K d mc ms Q bc bs (twh h a g S V) (pc + 1) lv (.int (g j) :: st)) : X G c K d mc ms Q bc bs (twh h a g S V) pc lv (.int i :: .ref (a + 1) :: st) := by
  have e := congrFun (twh_g : hEI (twh h a g S V) (a + 1) = g) j
  exact x_iald hi (by rw [twh_hLn, T.2.2.2.2.2.2.2.2.2.2.2.2.2.2.2.2.2.1]; exact hj) (by omega) hd (Or.inl T.2.2.2.2.2.2.2.2.2.1) (e ▸ kk)
theorem tst1 {j : Nat} {i x : Int32} (T : Tw h a) (hi : i = nI j) (hj : j < 221) (hd : decode (kc K) pc = .ok (.iastore, 1)) (kk : X G c K d mc ms Q bc bs (twh h a (upd g j x) S V) (pc + 1) lv st) : X G c K d mc ms Q bc bs (twh h a g S V) pc lv (.int x :: .int i :: .ref (a + 1) :: st) := by
  refine x_iast hi (by rw [twh_hLn, T.2.2.2.2.2.2.2.2.2.2.2.2.2.2.2.2.2.1]; exact hj) (by omega) hd T.2.2.2.2.2.2.2.2.2.1 ?_
  rw [twh_g, twh_uG]
  exact kk
theorem tld2 {j : Nat} {i : Int32} (T : Tw h a) (hi : i = nI j) (hj : j < 1768) (hd : decode (kc K) pc = .ok (.iaload, 1)) (kk : X G c K d mc ms Q bc bs (twh h a g S V) (pc + 1) lv (.int (S 2 j) :: st)) : X G c K d mc ms Q bc bs (twh h a g S V) pc lv (.int i :: .ref (a + 2) :: st) := by
  have e := congrFun (twh_S (i := 2) (by decide) (by decide) : hEI (twh h a g S V) (a + 2) = S 2) j
  exact x_iald hi (by rw [twh_hLn, T.2.2.2.2.2.2.2.2.2.2.2.2.2.2.2.2.2.2.1]; exact hj) (by omega) hd (Or.inl T.2.2.2.2.2.2.2.2.2.2.1) (e ▸ kk)
theorem tst2 {j : Nat} {i x : Int32} (T : Tw h a) (hi : i = nI j) (hj : j < 1768) (hd : decode (kc K) pc = .ok (.iastore, 1)) (kk : X G c K d mc ms Q bc bs (twh h a g (upS S 2 (upd (S 2) j x)) V) (pc + 1) lv st) : X G c K d mc ms Q bc bs (twh h a g S V) pc lv (.int x :: .int i :: .ref (a + 2) :: st) := by
  refine x_iast hi (by rw [twh_hLn, T.2.2.2.2.2.2.2.2.2.2.2.2.2.2.2.2.2.2.1]; exact hj) (by omega) hd T.2.2.2.2.2.2.2.2.2.2.1 ?_
  rw [twh_S (i := 2) (by decide) (by decide), twh_uS (i := 2) (by decide) (by decide)]
  exact kk
theorem tld3 {j : Nat} {i : Int32} (T : Tw h a) (hi : i = nI j) (hj : j < 221) (hd : decode (kc K) pc = .ok (.iaload, 1)) (kk : X G c K d mc ms Q bc bs (twh h a g S V) (pc + 1) lv (.int (S 3 j) :: st)) : X G c K d mc ms Q bc bs (twh h a g S V) pc lv (.int i :: .ref (a + 3) :: st) := by
  have e := congrFun (twh_S (i := 3) (by decide) (by decide) : hEI (twh h a g S V) (a + 3) = S 3) j
  exact x_iald hi (by rw [twh_hLn, T.2.2.2.2.2.2.2.2.2.2.2.2.2.2.2.2.2.2.2.1]; exact hj) (by omega) hd (Or.inl T.2.2.2.2.2.2.2.2.2.2.2.1) (e ▸ kk)
theorem tst3 {j : Nat} {i x : Int32} (T : Tw h a) (hi : i = nI j) (hj : j < 221) (hd : decode (kc K) pc = .ok (.iastore, 1)) (kk : X G c K d mc ms Q bc bs (twh h a g (upS S 3 (upd (S 3) j x)) V) (pc + 1) lv st) : X G c K d mc ms Q bc bs (twh h a g S V) pc lv (.int x :: .int i :: .ref (a + 3) :: st) := by
  refine x_iast hi (by rw [twh_hLn, T.2.2.2.2.2.2.2.2.2.2.2.2.2.2.2.2.2.2.2.1]; exact hj) (by omega) hd T.2.2.2.2.2.2.2.2.2.2.2.1 ?_
  rw [twh_S (i := 3) (by decide) (by decide), twh_uS (i := 3) (by decide) (by decide)]
  exact kk
theorem tld4 {j : Nat} {i : Int32} (T : Tw h a) (hi : i = nI j) (hj : j < 221) (hd : decode (kc K) pc = .ok (.iaload, 1)) (kk : X G c K d mc ms Q bc bs (twh h a g S V) (pc + 1) lv (.int (S 4 j) :: st)) : X G c K d mc ms Q bc bs (twh h a g S V) pc lv (.int i :: .ref (a + 4) :: st) := by
  have e := congrFun (twh_S (i := 4) (by decide) (by decide) : hEI (twh h a g S V) (a + 4) = S 4) j
  exact x_iald hi (by rw [twh_hLn, T.2.2.2.2.2.2.2.2.2.2.2.2.2.2.2.2.2.2.2.2.1]; exact hj) (by omega) hd (Or.inl T.2.2.2.2.2.2.2.2.2.2.2.2.1) (e ▸ kk)
theorem tst4 {j : Nat} {i x : Int32} (T : Tw h a) (hi : i = nI j) (hj : j < 221) (hd : decode (kc K) pc = .ok (.iastore, 1)) (kk : X G c K d mc ms Q bc bs (twh h a g (upS S 4 (upd (S 4) j x)) V) (pc + 1) lv st) : X G c K d mc ms Q bc bs (twh h a g S V) pc lv (.int x :: .int i :: .ref (a + 4) :: st) := by
  refine x_iast hi (by rw [twh_hLn, T.2.2.2.2.2.2.2.2.2.2.2.2.2.2.2.2.2.2.2.2.1]; exact hj) (by omega) hd T.2.2.2.2.2.2.2.2.2.2.2.2.1 ?_
  rw [twh_S (i := 4) (by decide) (by decide), twh_uS (i := 4) (by decide) (by decide)]
  exact kk
theorem tld5 {j : Nat} {i : Int32} (T : Tw h a) (hi : i = nI j) (hj : j < 221) (hd : decode (kc K) pc = .ok (.iaload, 1)) (kk : X G c K d mc ms Q bc bs (twh h a g S V) (pc + 1) lv (.int (S 5 j) :: st)) : X G c K d mc ms Q bc bs (twh h a g S V) pc lv (.int i :: .ref (a + 5) :: st) := by
  have e := congrFun (twh_S (i := 5) (by decide) (by decide) : hEI (twh h a g S V) (a + 5) = S 5) j
  exact x_iald hi (by rw [twh_hLn, T.2.2.2.2.2.2.2.2.2.2.2.2.2.2.2.2.2.2.2.2.2.1]; exact hj) (by omega) hd (Or.inl T.2.2.2.2.2.2.2.2.2.2.2.2.2.1) (e ▸ kk)
theorem tst5 {j : Nat} {i x : Int32} (T : Tw h a) (hi : i = nI j) (hj : j < 221) (hd : decode (kc K) pc = .ok (.iastore, 1)) (kk : X G c K d mc ms Q bc bs (twh h a g (upS S 5 (upd (S 5) j x)) V) (pc + 1) lv st) : X G c K d mc ms Q bc bs (twh h a g S V) pc lv (.int x :: .int i :: .ref (a + 5) :: st) := by
  refine x_iast hi (by rw [twh_hLn, T.2.2.2.2.2.2.2.2.2.2.2.2.2.2.2.2.2.2.2.2.2.1]; exact hj) (by omega) hd T.2.2.2.2.2.2.2.2.2.2.2.2.2.1 ?_
  rw [twh_S (i := 5) (by decide) (by decide), twh_uS (i := 5) (by decide) (by decide)]
  exact kk
theorem tld6 {j : Nat} {i : Int32} (T : Tw h a) (hi : i = nI j) (hj : j < 60) (hd : decode (kc K) pc = .ok (.iaload, 1)) (kk : X G c K d mc ms Q bc bs (twh h a g S V) (pc + 1) lv (.int (S 6 j) :: st)) : X G c K d mc ms Q bc bs (twh h a g S V) pc lv (.int i :: .ref (a + 6) :: st) := by
  have e := congrFun (twh_S (i := 6) (by decide) (by decide) : hEI (twh h a g S V) (a + 6) = S 6) j
  exact x_iald hi (by rw [twh_hLn, T.2.2.2.2.2.2.2.2.2.2.2.2.2.2.2.2.2.2.2.2.2.2.1]; exact hj) (by omega) hd (Or.inl T.2.2.2.2.2.2.2.2.2.2.2.2.2.2.1) (e ▸ kk)
theorem tst6 {j : Nat} {i x : Int32} (T : Tw h a) (hi : i = nI j) (hj : j < 60) (hd : decode (kc K) pc = .ok (.iastore, 1)) (kk : X G c K d mc ms Q bc bs (twh h a g (upS S 6 (upd (S 6) j x)) V) (pc + 1) lv st) : X G c K d mc ms Q bc bs (twh h a g S V) pc lv (.int x :: .int i :: .ref (a + 6) :: st) := by
  refine x_iast hi (by rw [twh_hLn, T.2.2.2.2.2.2.2.2.2.2.2.2.2.2.2.2.2.2.2.2.2.2.1]; exact hj) (by omega) hd T.2.2.2.2.2.2.2.2.2.2.2.2.2.2.1 ?_
  rw [twh_S (i := 6) (by decide) (by decide), twh_uS (i := 6) (by decide) (by decide)]
  exact kk
theorem tld7 {j : Nat} {i : Int32} (T : Tw h a) (hi : i = nI j) (hj : j < 60) (hd : decode (kc K) pc = .ok (.caload, 1)) (kk : X G c K d mc ms Q bc bs (twh h a g S V) (pc + 1) lv (.int (S 7 j) :: st)) : X G c K d mc ms Q bc bs (twh h a g S V) pc lv (.int i :: .ref (a + 7) :: st) := by
  have e := congrFun (twh_S (i := 7) (by decide) (by decide) : hEI (twh h a g S V) (a + 7) = S 7) j
  exact x_cald hi (by rw [twh_hLn, T.2.2.2.2.2.2.2.2.2.2.2.2.2.2.2.2.2.2.2.2.2.2.2.1]; exact hj) (by omega) hd (Or.inl T.2.2.2.2.2.2.2.2.2.2.2.2.2.2.2.1) (e ▸ kk)
theorem tst7 {j : Nat} {i x : Int32} (T : Tw h a) (hi : i = nI j) (hj : j < 60) (hd : decode (kc K) pc = .ok (.castore, 1)) (kk : X G c K d mc ms Q bc bs (twh h a g (upS S 7 (upd (S 7) j (vp_nar .char x))) V) (pc + 1) lv st) : X G c K d mc ms Q bc bs (twh h a g S V) pc lv (.int x :: .int i :: .ref (a + 7) :: st) := by
  refine x_cast hi (by rw [twh_hLn, T.2.2.2.2.2.2.2.2.2.2.2.2.2.2.2.2.2.2.2.2.2.2.2.1]; exact hj) (by omega) hd T.2.2.2.2.2.2.2.2.2.2.2.2.2.2.2.1 ?_
  rw [twh_S (i := 7) (by decide) (by decide), twh_uS (i := 7) (by decide) (by decide)]
  exact kk
theorem tld8 {j : Nat} {i : Int32} (T : Tw h a) (hi : i = nI j) (hj : j < 100) (hd : decode (kc K) pc = .ok (.iaload, 1)) (kk : X G c K d mc ms Q bc bs (twh h a g S V) (pc + 1) lv (.int (S 8 j) :: st)) : X G c K d mc ms Q bc bs (twh h a g S V) pc lv (.int i :: .ref (a + 8) :: st) := by
  have e := congrFun (twh_S (i := 8) (by decide) (by decide) : hEI (twh h a g S V) (a + 8) = S 8) j
  exact x_iald hi (by rw [twh_hLn, T.2.2.2.2.2.2.2.2.2.2.2.2.2.2.2.2.2.2.2.2.2.2.2.2]; exact hj) (by omega) hd (Or.inl T.2.2.2.2.2.2.2.2.2.2.2.2.2.2.2.2.1) (e ▸ kk)
theorem tst8 {j : Nat} {i x : Int32} (T : Tw h a) (hi : i = nI j) (hj : j < 100) (hd : decode (kc K) pc = .ok (.iastore, 1)) (kk : X G c K d mc ms Q bc bs (twh h a g (upS S 8 (upd (S 8) j x)) V) (pc + 1) lv st) : X G c K d mc ms Q bc bs (twh h a g S V) pc lv (.int x :: .int i :: .ref (a + 8) :: st) := by
  refine x_iast hi (by rw [twh_hLn, T.2.2.2.2.2.2.2.2.2.2.2.2.2.2.2.2.2.2.2.2.2.2.2.2]; exact hj) (by omega) hd T.2.2.2.2.2.2.2.2.2.2.2.2.2.2.2.2.1 ?_
  rw [twh_S (i := 8) (by decide) (by decide), twh_uS (i := 8) (by decide) (by decide)]
  exact kk
end TW
