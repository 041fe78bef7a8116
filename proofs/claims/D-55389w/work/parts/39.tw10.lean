/-! THE REFERENCE, tenth part: reading; printed by tools/tw10.py -/
set_option maxRecDepth 100000
def Vr (V : Nat → Int32) (p m : Nat) : Nat → Int32 := upd (upd V 42 (nI m)) 41 (nI p)
theorem Vr_41 {V : Nat → Int32} {p m p2 : Nat} : upd (Vr V p m) 41 (nI p2) = Vr V p2 m := upd_uu
theorem Vr_42 {V : Nat → Int32} {p m m2 : Nat} : upd (Vr V p m) 42 (nI m2) = Vr V p m2 := by
  funext k
  unfold Vr upd
  by_cases a : k = 42
  · subst a; rfl
  · by_cases b : k = 41
    · subst b; rfl
    · simp [a, b]
theorem Vr_at {V : Nat → Int32} {p m : Nat} : Vr V p m 41 = nI p := by unfold Vr; exact pk_us
theorem Vr_many {V : Nat → Int32} {p m : Nat} : Vr V p m 42 = nI m := rfl
theorem Vr_ne {V : Nat → Int32} {p m k : Nat} (h1 : k ≠ 41) (h2 : k ≠ 42) : Vr V p m k = V k := by
  unfold Vr
  rw [pk_un h1, pk_un h2]
/-- the reference while it reads: at p, with m orders told, which are F -/
abbrev rdH (h : AH) (a : Nat) (g : Nat → Int32) (S : Nat → Nat → Int32) (V : Nat → Int32) (p m : Nat) (F : Nat → Int32) : AH := twh h a g (upS S 8 F) (Vr V p m)
/-- the input -/
def InR (S : Nat → Nat → Int32) (V : Nat → Int32) (t : List Int32) : Prop := (∃ s, S 6 = wrs s t) ∧ V 37 = nI t.length ∧ t.length ≤ 60
theorem InR.at {S : Nat → Nat → Int32} {V : Nat → Int32} {t : List Int32} (I : InR S V t) {p : Nat} (h : p < t.length) : S 6 p = t.getD p 0 := by
  obtain ⟨s, e⟩ := I.1
  rw [e]
  exact if_pos h
theorem t_here {G : GG} {h : AH} {a : Nat} {g : Nat → Int32} {S : Nat → Nat → Int32} {V : Nat → Int32} {t : List Int32} {p m : Nat} {F : Nat → Int32} (T : Tw h a) (I : InR S V t) (hp : p ≤ t.length) : Cal G kX5_here 0 0 0 [.ref a] (rdH h a g S V p m F) (rI (hrL t p) (rdH h a g S V p m F)) := by
  refine Cal.of (by decide +kernel) (Nat.le_of_ble_eq_true rfl) (fun c => ?_)
  have h60 := I.2.2
  refine x_aload_n dX5_here_0 rfl rfl ?_
  refine tg_at T (.inl q2099) dX5_here_1 ?_
  refine x_val Vr_at ?_
  refine x_aload_n dX5_here_4 rfl rfl ?_
  refine tg_length T (.inl q2094) dX5_here_5 ?_
  refine x_val ((Vr_ne (by decide) (by decide)).trans I.2.1) ?_
  refine x_icmp_ge 23 dX5_here_8 (by decide) (fun e1 => ?_) (fun e1 => ?_)
  · skip
    have ne1 := e1
    rw [nI_leI (by omega) (by omega)] at ne1
    refine x_iconst (-1) dX5_here_23 (by decide) ?_
    refine x_iret rfl dX5_here_24 ?_
    exact ⟨by rw [show hrL t p = -1 from if_neg (by omega)], rfl⟩
  · skip
    have ne1 := e1
    rw [nI_leI (by omega) (by omega)] at ne1
    refine x_aload_n dX5_here_11 rfl rfl ?_
    refine tg_input T (.inl q2093) dX5_here_12 ?_
    refine x_aload_n dX5_here_15 rfl rfl ?_
    refine tg_at T (.inl q2099) dX5_here_16 ?_
    refine x_val Vr_at ?_
    refine tld6 T rfl (by have := I.2.2; omega) dX5_here_19 ?_
    refine x_val ((congrFun (upS_n (by decide)) p).trans (I.at (by omega))) ?_
    refine x_goto 24 dX5_here_20 (by decide) ?_
    refine x_iret rfl dX5_here_24 ?_
    exact ⟨by rw [show hrL t p = t.getD p 0 from if_pos (by omega)], rfl⟩
theorem t_skips {G : GG} {h : AH} {a : Nat} {g : Nat → Int32} {S : Nat → Nat → Int32} {V : Nat → Int32} {t : List Int32} {p m : Nat} {F : Nat → Int32} (T : Tw h a) (I : InR S V t) (hp : p ≤ t.length) {x : Int32} : Cal G kX5_skips 1 0 0 [.ref a, .int x] (rdH h a g S V p m F) (rI (bB (decide (hrL t p = x))) (rdH h a g S V (if hrL t p = x then p + 1 else p) m F)) := by
  refine Cal.of (by decide +kernel) (Nat.le_of_ble_eq_true rfl) (fun c => ?_)
  refine x_aload_n dX5_skips_0 rfl rfl ?_
  refine x_cVI (t_here T I hp) okX5_here clX5 q2440 q2442 qs58 dX5_skips_1 (Or.inl T.1) rfl rfl (by decide) (Nat.zero_le _) (Nat.zero_le _) (Nat.le_of_ble_eq_true rfl) (fun _ => ?_)
  refine x_iload_n dX5_skips_4 rfl rfl ?_
  refine x_icmp_eq 10 dX5_skips_5 (by decide) (fun e1 => ?_) (fun e1 => ?_)
  · skip
    refine x_aload_n dX5_skips_10 rfl rfl ?_
    refine x_dup dX5_skips_11 rfl ?_
    refine tg_at T (.inl q2099) dX5_skips_12 ?_
    refine x_val Vr_at ?_
    refine x_iconst (nI 1) dX5_skips_15 (by decide) ?_
    refine x_iadd dX5_skips_16 ?_
    refine x_val (nI_add _ _) ?_
    refine tp_at T (.inl q2099) dX5_skips_17 ?_
    refine x_eq (h' := rdH h a g S V (p + 1) m F) (by rw [Vr_41]) rfl rfl ?_
    refine x_iconst (nI 1) dX5_skips_20 (by decide) ?_
    refine x_zret rfl (by decide +kernel) dX5_skips_21 ?_
    exact ⟨by rw [decide_eq_true (by assumption)]; rfl, by rw [if_pos (by assumption)]⟩
  · skip
    refine x_iconst (nI 0) dX5_skips_8 (by decide) ?_
    refine x_zret rfl (by decide +kernel) dX5_skips_9 ?_
    exact ⟨by rw [decide_eq_false (by assumption)]; rfl, by rw [if_neg (by assumption)]⟩
theorem t_word {G : GG} {h : AH} {a : Nat} {g : Nat → Int32} {S : Nat → Nat → Int32} {V : Nat → Int32} {t : List Int32} {p m : Nat} {F : Nat → Int32} (T : Tw h a) (I : InR S V t) (hp : p ≤ t.length) (SG : GSt G) {i f : Nat} (hi : i < 26) (hf : f ≤ (txl i).length) : Cal G kX5_word 4 0 0 [.ref a, .ref (gS G i), .int (nI f)] (rdH h a g S V p m F) (rI (bB (wdS t ((txl i).drop f) p).1) (rdH h a g S V ((wdS t ((txl i).drop f) p).2) m F)) := by
  refine Cal.of (by decide +kernel) (Nat.le_of_ble_eq_true rfl) (fun c => ?_)
  refine x_iload_n dX5_word_0 rfl rfl ?_
  refine x_istore_n [(3, .int (nI f)), (0, .ref a), (1, .ref (gS G i)), (2, .int (nI f))] dX5_word_1 rfl (by decide) rfl ?_
  have hall : ∀ k, f ≤ k → k ≤ (txl i).length → ∀ q, q ≤ t.length → wdS t ((txl i).drop f) p = wdS t ((txl i).drop k) q → X G c kX5_word 4 0 0 (rI (bB (wdS t ((txl i).drop f) p).1) (rdH h a g S V ((wdS t ((txl i).drop f) p).2) m F)) 0 0 (rdH h a g S V q m F) 2 [(3, .int (nI k)), (0, .ref a), (1, .ref (gS G i)), (2, .int (nI f))] [] := by
    have key : ∀ n k, n + k = (txl i).length → f ≤ k → ∀ q, q ≤ t.length → wdS t ((txl i).drop f) p = wdS t ((txl i).drop k) q → X G c kX5_word 4 0 0 (rI (bB (wdS t ((txl i).drop f) p).1) (rdH h a g S V ((wdS t ((txl i).drop f) p).2) m F)) 0 0 (rdH h a g S V q m F) 2 [(3, .int (nI k)), (0, .ref a), (1, .ref (gS G i)), (2, .int (nI f))] [] := by
      intro n
      induction n with
      | zero =>
        intro k hn hf q hql hq
        refine x_wf (fun w => ?_)
        have S0 := SG.str w hi
        refine x_iload_n dX5_word_2 rfl rfl ?_
        refine x_aload_n dX5_word_3 rfl rfl ?_
        refine x_cVI (s_length S0) okJ6_length clJ6 q2379 q587 q588 dX5_word_4 S0.1 rfl rfl (by decide) (Nat.zero_le _) (Nat.zero_le _) (Nat.le_of_ble_eq_true rfl) (fun _ => ?_)
        refine x_icmp_ge 30 dX5_word_7 (by decide) (fun _ => ?_) (fun z => False.elim (z ((nI_leI (by have := S0.2.2.2.1; omega) (by have := S0.2.2.2.1; omega)).mpr (by omega))))
        refine x_iconst (nI 1) dX5_word_30 (by decide) ?_
        refine x_zret rfl (by decide +kernel) dX5_word_31 ?_
        have hr : wdS t ((txl i).drop f) p = (true, q) := by rw [hq, show k = (txl i).length by omega, List.drop_length]; rfl
        rw [hr]
        exact ⟨rfl, rfl⟩
      | succ n ih =>
        intro k hn hf q hql hq
        refine x_wf (fun w => ?_)
        have S0 := SG.str w hi
        refine x_iload_n dX5_word_2 rfl rfl ?_
        refine x_aload_n dX5_word_3 rfl rfl ?_
        refine x_cVI (s_length S0) okJ6_length clJ6 q2379 q587 q588 dX5_word_4 S0.1 rfl rfl (by decide) (Nat.zero_le _) (Nat.zero_le _) (Nat.le_of_ble_eq_true rfl) (fun _ => ?_)
        refine x_icmp_ge 30 dX5_word_7 (by decide) (fun z => False.elim (by rw [nI_leI (by have := S0.2.2.2.1; omega) (by have := S0.2.2.2.1; omega)] at z; omega)) (fun _ => ?_)
        have hd : (txl i).drop k = (txl i).getD k 0 :: (txl i).drop (k + 1) := by rw [List.drop_eq_getElem_cons (by omega), List.getD_eq_getElem?_getD, List.getElem?_eq_getElem (by omega)]; rfl
        have hmem : (txl i).getD k 0 ∈ txl i := by rw [List.getD_eq_getElem?_getD, List.getElem?_eq_getElem (by omega)]; exact List.getElem_mem (by omega)
        refine x_aload_n dX5_word_10 rfl rfl ?_
        refine x_aload_n dX5_word_11 rfl rfl ?_
        refine x_iload_n dX5_word_12 rfl rfl ?_
        refine x_cVI (s_charAt S0 (by omega)) okJ6_charAt clJ6 q2380 q425 q426 dX5_word_13 S0.1 rfl rfl (by decide) (Nat.zero_le _) (Nat.zero_le _) (Nat.le_of_ble_eq_true rfl) (fun _ => ?_)
        refine x_cVI (t_skips T I hql) okX5_skips clX5 q2449 q2451 qs60 dX5_word_16 (Or.inl T.1) rfl rfl (by decide) (Nat.zero_le _) (Nat.zero_le _) (Nat.le_of_ble_eq_true rfl) (fun _ => ?_)
        refine x_if_neB 24 dX5_word_19 (by decide) (fun e1 => ?_) (fun e1 => ?_)
        · skip
          have s1 := of_decide_eq_true e1
          refine x_eq (h' := rdH h a g S V (q + 1) m F) (by rw [if_pos s1]) rfl rfl ?_
          refine x_iinc (j := 0) (nI (k + 1)) [(3, .int (nI (k + 1))), (0, .ref a), (1, .ref (gS G i)), (2, .int (nI f))] dX5_word_24 rfl (by first | exact nI_add _ _ | decide) (by decide) rfl ?_
          refine x_goto 2 dX5_word_27 (by decide) ?_
          refine x_sub [0, 1, 2, 3] (lv' := [(3, .int (nI (k + 1))), (0, .ref a), (1, .ref (gS G i)), (2, .int (nI f))]) rfl ?_
          exact ih (k + 1) (by omega) (by omega) (q + 1) (hrL_lt s1 (txl_ok i hi _ hmem)) (by rw [hq, hd]; show (if hrL t q = (txl i).getD k 0 then wdS t ((txl i).drop (k + 1)) (q + 1) else (false, q)) = _; rw [if_pos s1])
        · skip
          have s1 := of_decide_eq_false e1
          refine x_eq (h' := rdH h a g S V q m F) (by rw [if_neg s1]) rfl rfl ?_
          refine x_iconst (nI 0) dX5_word_22 (by decide) ?_
          refine x_zret rfl (by decide +kernel) dX5_word_23 ?_
          have hr : wdS t ((txl i).drop f) p = (false, q) := by rw [hq, hd]; show (if hrL t q = (txl i).getD k 0 then wdS t ((txl i).drop (k + 1)) (q + 1) else (false, q)) = _; rw [if_neg s1]
          rw [hr]
          exact ⟨rfl, rfl⟩
    exact fun k hf hk q hql hq => key ((txl i).length - k) k (by omega) hf q hql hq
  refine x_sub [0, 1, 2, 3] (lv' := [(3, .int (nI f)), (0, .ref a), (1, .ref (gS G i)), (2, .int (nI f))]) rfl ?_
  exact hall f (Nat.le_refl _) hf p hp rfl
theorem hr_dig {t : List Int32} {p : Nat} (h : inB (hrL t p) 48 57 = true) : p < t.length := by
  rcases Nat.lt_or_ge p t.length with l | l
  · exact l
  · exfalso
    unfold hrL at h
    rw [if_neg (by omega)] at h
    exact absurd h (by decide)
theorem t_numbers {G : GG} {h : AH} {a : Nat} {g : Nat → Int32} {S : Nat → Nat → Int32} {V : Nat → Int32} {t : List Int32} {p m : Nat} {F : Nat → Int32} (T : Tw h a) (I : InR S V t) (hp : p ≤ t.length) {pl mn : Nat} (hb : pl + mn ≤ 100) : Cal G kX5_numbers 2 0 0 [.ref a, .int (nI pl), .int (nI mn)] (rdH h a g S V p m F) (rI (bB (nbS t pl mn 0 p F).1) (rdH h a g S V ((nbS t pl mn 0 p F).2.1) m ((nbS t pl mn 0 p F).2.2))) := by
  refine Cal.of (by decide +kernel) (Nat.le_of_ble_eq_true rfl) (fun c => ?_)
  have h60 := I.2.2
  refine x_iconst (nI 0) dX5_numbers_0 (by decide) ?_
  refine x_istore_n [(3, .int (nI 0)), (0, .ref a), (1, .int (nI pl)), (2, .int (nI mn))] dX5_numbers_1 rfl (by decide) rfl ?_
  have key : ∀ r n, n + r = mn → ∀ q E, q ≤ t.length → nbS t pl mn 0 p F = nbS t pl r n q E → X G c kX5_numbers 2 0 0 (rI (bB (nbS t pl mn 0 p F).1) (rdH h a g S V ((nbS t pl mn 0 p F).2.1) m ((nbS t pl mn 0 p F).2.2))) 0 0 (rdH h a g S V q m E) 2 [(3, .int (nI n)), (0, .ref a), (1, .int (nI pl)), (2, .int (nI mn))] [] := by
    intro r
    induction r with
    | zero =>
      intro n hn q E hql hq
      refine x_iload_n dX5_numbers_2 rfl rfl ?_
      refine x_iload_n dX5_numbers_3 rfl rfl ?_
      refine x_icmp_ge 125 dX5_numbers_4 (by decide) (fun _ => ?_) (fun z => False.elim (z ((nI_leI (by omega) (by omega)).mpr (by omega))))
      refine x_iconst (nI 1) dX5_numbers_125 (by decide) ?_
      refine x_zret rfl (by decide +kernel) dX5_numbers_126 ?_
      rw [hq]
      exact ⟨rfl, rfl⟩
    | succ r ih =>
      intro n hn q E hql hq
      refine x_iload_n dX5_numbers_2 rfl rfl ?_
      refine x_iload_n dX5_numbers_3 rfl rfl ?_
      refine x_icmp_ge 125 dX5_numbers_4 (by decide) (fun z => False.elim (by rw [nI_leI (by omega) (by omega)] at z; omega)) (fun _ => ?_)
      refine x_aload_n dX5_numbers_7 rfl rfl ?_
      refine x_bipush (nI 32) dX5_numbers_8 (by decide) ?_
      refine x_cVI (t_skips T I (by omega)) okX5_skips clX5 q2449 q2451 qs60 dX5_numbers_10 (Or.inl T.1) rfl rfl (by decide) (Nat.zero_le _) (Nat.zero_le _) (Nat.le_of_ble_eq_true rfl) (fun _ => ?_)
      refine x_if_eqB 30 dX5_numbers_13 (by decide) (fun e1 => ?_) (fun e1 => ?_)
      · skip
        have s1 := of_decide_eq_false e1
        refine x_eq (h' := rdH h a g S V q m E) (by rw [if_neg s1]) rfl rfl ?_
        have k1 := s1
        refine x_iconst (nI 0) dX5_numbers_30 (by decide) ?_
        refine x_zret rfl (by decide +kernel) dX5_numbers_31 ?_
        have hb : nb1 t q = (false, q, 0) := by unfold nb1; rw [if_pos (show ¬ hrL t q = 32 from k1)]
        have hr : nbS t pl (r + 1) n q E = (false, (nb1 t q).2.1, E) := by show (if (nb1 t q).1 = true then _ else _) = _; rw [hb]; rfl
        rw [hq, hr, hb]
        exact ⟨rfl, rfl⟩
      · skip
        have s1 := of_decide_eq_true e1
        refine x_eq (h' := rdH h a g S V (q + 1) m E) (by rw [if_pos s1]) rfl rfl ?_
        have k1 := s1
        have hq1 := hrL_lt k1 (by decide)
        refine x_aload_n dX5_numbers_16 rfl rfl ?_
        refine x_cVI (t_here T I (by omega)) okX5_here clX5 q2440 q2442 qs58 dX5_numbers_17 (Or.inl T.1) rfl rfl (by decide) (Nat.zero_le _) (Nat.zero_le _) (Nat.le_of_ble_eq_true rfl) (fun _ => ?_)
        refine x_bipush (nI 48) dX5_numbers_20 (by decide) ?_
        refine x_bipush (nI 57) dX5_numbers_22 (by decide) ?_
        refine x_cSI t_in okX5_in q2156 q2157 dX5_numbers_24 rfl rfl (by decide) (Nat.zero_le _) (Nat.zero_le _) (Nat.le_of_ble_eq_true rfl) (fun _ => ?_)
        refine x_if_neB 32 dX5_numbers_27 (by decide) (fun e2 => ?_) (fun e2 => ?_)
        · skip
          have k2 : inB (hrL t (q + 1)) 48 57 = true := e2
          have hq2 : q + 1 < t.length := hr_dig k2
          refine x_aload_n dX5_numbers_32 rfl rfl ?_
          refine tg_told T (.inl q2100) dX5_numbers_33 ?_
          refine x_iload_n dX5_numbers_36 rfl rfl ?_
          refine x_iload_n dX5_numbers_37 rfl rfl ?_
          refine x_iadd dX5_numbers_38 ?_
          refine x_val (nI_add _ _) ?_
          refine x_aload_n dX5_numbers_39 rfl rfl ?_
          refine x_cVI (t_here T I (by omega)) okX5_here clX5 q2440 q2442 qs58 dX5_numbers_40 (Or.inl T.1) rfl rfl (by decide) (Nat.zero_le _) (Nat.zero_le _) (Nat.le_of_ble_eq_true rfl) (fun _ => ?_)
          refine x_bipush (nI 48) dX5_numbers_43 (by decide) ?_
          refine x_isub dX5_numbers_45 ?_
          refine tst8 T rfl (by omega) dX5_numbers_46 ?_
          refine x_eq (h' := rdH h a g S V (q + 1) m (upd E (pl + n) ((hrL t (q + 1)) - (nI 48)))) (by rw [upS_upS, upS_s]) rfl rfl ?_
          refine x_aload_n dX5_numbers_47 rfl rfl ?_
          refine x_dup dX5_numbers_48 rfl ?_
          refine tg_at T (.inl q2099) dX5_numbers_49 ?_
          refine x_val Vr_at ?_
          refine x_iconst (nI 1) dX5_numbers_52 (by decide) ?_
          refine x_iadd dX5_numbers_53 ?_
          refine x_val (nI_add _ _) ?_
          refine tp_at T (.inl q2099) dX5_numbers_54 ?_
          refine x_eq (h' := rdH h a g S V ((q + 1) + 1) m (upd E (pl + n) ((hrL t (q + 1)) - (nI 48)))) (by rw [Vr_41]) rfl rfl ?_
          refine x_aload_n dX5_numbers_57 rfl rfl ?_
          refine tg_told T (.inl q2100) dX5_numbers_58 ?_
          refine x_iload_n dX5_numbers_61 rfl rfl ?_
          refine x_iload_n dX5_numbers_62 rfl rfl ?_
          refine x_iadd dX5_numbers_63 ?_
          refine x_val (nI_add _ _) ?_
          refine tld8 T rfl (by omega) dX5_numbers_64 ?_
          refine x_val pk_us ?_
          refine x_if_le 119 dX5_numbers_65 (by decide) (fun e3 => ?_) (fun e3 => ?_)
          · skip
            refine x_iinc (j := 0) (nI (n + 1)) [(3, .int (nI (n + 1))), (0, .ref a), (1, .int (nI pl)), (2, .int (nI mn))] dX5_numbers_119 rfl (by first | exact nI_add _ _ | decide) (by decide) rfl ?_
            refine x_goto 2 dX5_numbers_122 (by decide) ?_
            have hb : nb1 t q = (true, q + 2, hrL t (q + 1) - 48) := by unfold nb1; rw [if_neg (fun z => z k1), if_neg (by rw [k2]; decide), if_neg (fun z => absurd e3 (Int32.not_le.mpr z.1))]
            have hr : nbS t pl (r + 1) n q E = nbS t pl r (n + 1) (q + 2) (upd E (pl + n) (hrL t (q + 1) - 48)) := by show (if (nb1 t q).1 = true then nbS t pl r (n + 1) (nb1 t q).2.1 (upd E (pl + n) (nb1 t q).2.2) else _) = _; rw [hb]; rfl
            refine x_eq (h' := rdH h a g S V (q + 2) m (upd E (pl + n) (hrL t (q + 1) - 48))) (rfl) rfl rfl ?_
            refine x_sub [0, 1, 2, 3] (lv' := [(3, .int (nI (n + 1))), (0, .ref a), (1, .int (nI pl)), (2, .int (nI mn))]) rfl ?_
            exact ih (n + 1) (by omega) (q + 2) _ (by omega) (hq.trans hr)
          · skip
            refine x_aload_n dX5_numbers_68 rfl rfl ?_
            refine x_cVI (t_here T I (by omega)) okX5_here clX5 q2440 q2442 qs58 dX5_numbers_69 (Or.inl T.1) rfl rfl (by decide) (Nat.zero_le _) (Nat.zero_le _) (Nat.le_of_ble_eq_true rfl) (fun _ => ?_)
            refine x_bipush (nI 48) dX5_numbers_72 (by decide) ?_
            refine x_bipush (nI 57) dX5_numbers_74 (by decide) ?_
            refine x_cSI t_in okX5_in q2156 q2157 dX5_numbers_76 rfl rfl (by decide) (Nat.zero_le _) (Nat.zero_le _) (Nat.le_of_ble_eq_true rfl) (fun _ => ?_)
            refine x_if_eqB 119 dX5_numbers_79 (by decide) (fun e4 => ?_) (fun e4 => ?_)
            · skip
              have k4 : inB (hrL t (q + 2)) 48 57 = false := e4
              refine x_iinc (j := 0) (nI (n + 1)) [(3, .int (nI (n + 1))), (0, .ref a), (1, .int (nI pl)), (2, .int (nI mn))] dX5_numbers_119 rfl (by first | exact nI_add _ _ | decide) (by decide) rfl ?_
              refine x_goto 2 dX5_numbers_122 (by decide) ?_
              have hb : nb1 t q = (true, q + 2, hrL t (q + 1) - 48) := by unfold nb1; rw [if_neg (fun z => z k1), if_neg (by rw [k2]; decide), if_neg (fun z => absurd (z.2.symm.trans k4) (by decide))]
              have hr : nbS t pl (r + 1) n q E = nbS t pl r (n + 1) (q + 2) (upd E (pl + n) (hrL t (q + 1) - 48)) := by show (if (nb1 t q).1 = true then nbS t pl r (n + 1) (nb1 t q).2.1 (upd E (pl + n) (nb1 t q).2.2) else _) = _; rw [hb]; rfl
              refine x_eq (h' := rdH h a g S V (q + 2) m (upd E (pl + n) (hrL t (q + 1) - 48))) (rfl) rfl rfl ?_
              refine x_sub [0, 1, 2, 3] (lv' := [(3, .int (nI (n + 1))), (0, .ref a), (1, .int (nI pl)), (2, .int (nI mn))]) rfl ?_
              exact ih (n + 1) (by omega) (q + 2) _ (by omega) (hq.trans hr)
            · skip
              have k4 : inB (hrL t (q + 2)) 48 57 = true := e4
              have hq3 : q + 2 < t.length := hr_dig k4
              refine x_aload_n dX5_numbers_82 rfl rfl ?_
              refine tg_told T (.inl q2100) dX5_numbers_83 ?_
              refine x_iload_n dX5_numbers_86 rfl rfl ?_
              refine x_iload_n dX5_numbers_87 rfl rfl ?_
              refine x_iadd dX5_numbers_88 ?_
              refine x_val (nI_add _ _) ?_
              refine x_bipush (nI 10) dX5_numbers_89 (by decide) ?_
              refine x_aload_n dX5_numbers_91 rfl rfl ?_
              refine tg_told T (.inl q2100) dX5_numbers_92 ?_
              refine x_iload_n dX5_numbers_95 rfl rfl ?_
              refine x_iload_n dX5_numbers_96 rfl rfl ?_
              refine x_iadd dX5_numbers_97 ?_
              refine x_val (nI_add _ _) ?_
              refine tld8 T rfl (by omega) dX5_numbers_98 ?_
              refine x_val pk_us ?_
              refine x_imul dX5_numbers_99 ?_
              refine x_aload_n dX5_numbers_100 rfl rfl ?_
              refine x_cVI (t_here T I (by omega)) okX5_here clX5 q2440 q2442 qs58 dX5_numbers_101 (Or.inl T.1) rfl rfl (by decide) (Nat.zero_le _) (Nat.zero_le _) (Nat.le_of_ble_eq_true rfl) (fun _ => ?_)
              refine x_iadd dX5_numbers_104 ?_
              refine x_bipush (nI 48) dX5_numbers_105 (by decide) ?_
              refine x_isub dX5_numbers_107 ?_
              refine tst8 T rfl (by omega) dX5_numbers_108 ?_
              refine x_eq (h' := rdH h a g S V ((q + 1) + 1) m (upd (upd E (pl + n) ((hrL t (q + 1)) - (nI 48))) (pl + n) ((((nI 10) * (hrL t (q + 1) - nI 48)) + (hrL t ((q + 1) + 1))) - (nI 48)))) (by rw [upS_upS, upS_s]) rfl rfl ?_
              refine x_aload_n dX5_numbers_109 rfl rfl ?_
              refine x_dup dX5_numbers_110 rfl ?_
              refine tg_at T (.inl q2099) dX5_numbers_111 ?_
              refine x_val Vr_at ?_
              refine x_iconst (nI 1) dX5_numbers_114 (by decide) ?_
              refine x_iadd dX5_numbers_115 ?_
              refine x_val (nI_add _ _) ?_
              refine tp_at T (.inl q2099) dX5_numbers_116 ?_
              refine x_eq (h' := rdH h a g S V (((q + 1) + 1) + 1) m (upd (upd E (pl + n) ((hrL t (q + 1)) - (nI 48))) (pl + n) ((((nI 10) * (hrL t (q + 1) - nI 48)) + (hrL t ((q + 1) + 1))) - (nI 48)))) (by rw [Vr_41]) rfl rfl ?_
              refine x_iinc (j := 0) (nI (n + 1)) [(3, .int (nI (n + 1))), (0, .ref a), (1, .int (nI pl)), (2, .int (nI mn))] dX5_numbers_119 rfl (by first | exact nI_add _ _ | decide) (by decide) rfl ?_
              refine x_goto 2 dX5_numbers_122 (by decide) ?_
              have hb : nb1 t q = (true, q + 3, 10 * (hrL t (q + 1) - 48) + hrL t (q + 2) - 48) := by unfold nb1; rw [if_neg (fun z => z k1), if_neg (by rw [k2]; decide), if_pos ⟨Int32.not_le.mp e3, k4⟩]
              have hr : nbS t pl (r + 1) n q E = nbS t pl r (n + 1) (q + 3) (upd E (pl + n) (10 * (hrL t (q + 1) - 48) + hrL t (q + 2) - 48)) := by show (if (nb1 t q).1 = true then nbS t pl r (n + 1) (nb1 t q).2.1 (upd E (pl + n) (nb1 t q).2.2) else _) = _; rw [hb]; rfl
              refine x_eq (h' := rdH h a g S V (q + 3) m (upd E (pl + n) (10 * (hrL t (q + 1) - 48) + hrL t (q + 2) - 48))) (by rw [upd_uu]; rfl) rfl rfl ?_
              refine x_sub [0, 1, 2, 3] (lv' := [(3, .int (nI (n + 1))), (0, .ref a), (1, .int (nI pl)), (2, .int (nI mn))]) rfl ?_
              exact ih (n + 1) (by omega) (q + 3) _ (by omega) (hq.trans hr)
        · skip
          have k2 : inB (hrL t (q + 1)) 48 57 = false := e2
          refine x_iconst (nI 0) dX5_numbers_30 (by decide) ?_
          refine x_zret rfl (by decide +kernel) dX5_numbers_31 ?_
          have hb : nb1 t q = (false, q + 1, 0) := by unfold nb1; rw [if_neg (fun z => z k1), if_pos k2]
          have hr : nbS t pl (r + 1) n q E = (false, (nb1 t q).2.1, E) := by show (if (nb1 t q).1 = true then _ else _) = _; rw [hb]; rfl
          rw [hq, hr, hb]
          exact ⟨rfl, rfl⟩
  refine x_sub [0, 1, 2, 3] (lv' := [(3, .int (nI 0)), (0, .ref a), (1, .int (nI pl)), (2, .int (nI mn))]) rfl ?_
  exact key mn 0 (by omega) p F hp rfl
