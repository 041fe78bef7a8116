/-! THE REFERENCE, third part: findJar, a day, copies, what is kept; printed by tools/tw3.py -/
set_option maxRecDepth 100000
theorem t_findJar {G : GG} {h : AH} {a : Nat} {g : Nat → Int32} {S : Nat → Nat → Int32} {V : Nat → Int32} (T : Tw h a) {o : Nat} (O : GOk g) (ho : o < 8) : Cal G kX5_findJar 4 0 0 [.ref a, .int (nI o)] (twh h a g S V) (rI (oI (findJar g o)) (twh h a g S V)) := by
  refine Cal.of (by decide +kernel) (Nat.le_of_ble_eq_true rfl) (fun c => ?_)
  have hJ := O.j
  refine x_iconst (-1) dX5_findJar_0 (by decide) ?_
  refine x_istore_n [(2, .int (-1)), (0, .ref a), (1, .int (nI o))] dX5_findJar_1 rfl (by decide) rfl ?_
  refine x_iconst (nI 0) dX5_findJar_2 (by decide) ?_
  refine x_istore_n [(3, .int (nI 0)), (2, .int (-1)), (0, .ref a), (1, .int (nI o))] dX5_findJar_3 rfl (by decide) rfl ?_
  refine x_sub [2, 3, 1, 0] (lv' := [(0, .ref a), (1, .int (nI o)), (2, .int (-1)), (3, .int (nI 0))]) rfl ?_
  refine x_bud (bc' := 0) (bs' := 0) (by first | exact Nat.zero_le _ | omega) (by first | exact Nat.zero_le _ | omega) ?_
  refine lpN (P := fun i => X G c kX5_findJar 4 _ _ _ 0 0 (twh h a g S V) 4 [(0, .ref a), (1, .int (nI o)), (2, .int (oI (fjS g o i))), (3, .int (nI i))] []) (nJr g) (fun i hi ih => ?_) 0 (Nat.zero_le _)
  refine x_iload_n dX5_findJar_4 rfl rfl ?_
  refine x_aload_n dX5_findJar_5 rfl rfl ?_
  refine tg_g T (.inl q2082) dX5_findJar_6 ?_
  refine x_bipush (nI 8) dX5_findJar_9 (by decide) ?_
  refine tld1 T rfl (by omega) dX5_findJar_11 ?_
  refine x_val hJ.1 ?_
  refine x_icmp_ge 73 dX5_findJar_12 (by decide) (fun e1 => ?_) (fun e1 => ?_)
  · skip
    have ne1 := e1
    rw [nI_leI (by omega) (by omega)] at ne1
    refine x_iload_n dX5_findJar_73 rfl rfl ?_
    refine x_iret rfl dX5_findJar_74 ?_
    exact rI_of (by rw [show i = nJr g by omega]; rfl)
  · skip
    have ne1 := e1
    rw [nI_leI (by omega) (by omega)] at ne1
    refine x_aload_n dX5_findJar_15 rfl rfl ?_
    refine x_iload_n dX5_findJar_16 rfl rfl ?_
    refine x_cVI (t_isRipe T O (by omega) (by omega)) okX5_isRipe clX5 q2322 q2324 qs46 dX5_findJar_17 (Or.inl T.1) rfl rfl (by decide) (Nat.zero_le _) (Nat.zero_le _) (Nat.le_of_ble_eq_true rfl) (fun _ => ?_)
    refine x_if_eqB 67 dX5_findJar_20 (by decide) (fun e2 => ?_) (fun e2 => ?_)
    · skip
      refine x_iinc (j := 3) (nI (i + 1)) [(3, .int (nI (i + 1))), (0, .ref a), (1, .int (nI o)), (2, .int (oI (fjS g o i)))] dX5_findJar_67 rfl (by first | exact nI_add _ _ | decide) (by decide) rfl ?_
      refine x_goto 4 dX5_findJar_70 (by decide) ?_
      refine x_sub [1, 2, 3, 0] (lv' := [(0, .ref a), (1, .int (nI o)), (2, .int (oI (fjS g o i))), (3, .int (nI (i + 1)))]) rfl ?_
      have ec : oI (fjS g o (i + 1)) = (oI (fjS g o i)) := by simp_all [fjS, fjC, oI, nle_i, nlt_i]
      rw [← ec]
      exact ih (by omega)
    · skip
      refine x_aload_n dX5_findJar_23 rfl rfl ?_
      refine x_iload_n dX5_findJar_24 rfl rfl ?_
      refine x_cVI (t_tearOf T O (by omega) (by omega)) okX5_tearOf clX5 q2259 q2261 qs37 dX5_findJar_25 (Or.inl T.1) rfl rfl (by decide) (Nat.zero_le _) (Nat.zero_le _) (Nat.le_of_ble_eq_true rfl) (fun _ => ?_)
      refine x_aload_n dX5_findJar_28 rfl rfl ?_
      refine x_iload_n dX5_findJar_29 rfl rfl ?_
      refine x_iconst (nI 0) dX5_findJar_30 (by decide) ?_
      refine x_cVI (t_ofOrder T (by omega)) okX5_ofOrder clX5 q2314 q2316 qs44 dX5_findJar_31 (Or.inl T.1) rfl rfl (by decide) (Nat.zero_le _) (Nat.zero_le _) (Nat.le_of_ble_eq_true rfl) (fun _ => ?_)
      refine x_aload_n dX5_findJar_34 rfl rfl ?_
      refine x_iload_n dX5_findJar_35 rfl rfl ?_
      refine x_iconst (nI 1) dX5_findJar_36 (by decide) ?_
      refine x_cVI (t_ofOrder T (by omega)) okX5_ofOrder clX5 q2314 q2316 qs44 dX5_findJar_37 (Or.inl T.1) rfl rfl (by decide) (Nat.zero_le _) (Nat.zero_le _) (Nat.le_of_ble_eq_true rfl) (fun _ => ?_)
      refine x_cSI t_in okX5_in q2156 q2157 dX5_findJar_40 rfl rfl (by decide) (Nat.zero_le _) (Nat.zero_le _) (Nat.le_of_ble_eq_true rfl) (fun _ => ?_)
      refine x_if_eqB 67 dX5_findJar_43 (by decide) (fun e3 => ?_) (fun e3 => ?_)
      · skip
        refine x_iinc (j := 3) (nI (i + 1)) [(3, .int (nI (i + 1))), (0, .ref a), (1, .int (nI o)), (2, .int (oI (fjS g o i)))] dX5_findJar_67 rfl (by first | exact nI_add _ _ | decide) (by decide) rfl ?_
        refine x_goto 4 dX5_findJar_70 (by decide) ?_
        refine x_sub [1, 2, 3, 0] (lv' := [(0, .ref a), (1, .int (nI o)), (2, .int (oI (fjS g o i))), (3, .int (nI (i + 1)))]) rfl ?_
        have ec : oI (fjS g o (i + 1)) = (oI (fjS g o i)) := by simp_all [fjS, fjC, oI, nle_i, nlt_i]
        rw [← ec]
        exact ih (by omega)
      · skip
        cases hb : fjS g o i with
        | none =>
          refine x_iload_n dX5_findJar_46 rfl rfl ?_
          refine x_if_lt 65 dX5_findJar_47 (by decide) (fun _ => ?_) (fun z => absurd (by decide) z)
          refine x_iload_n dX5_findJar_65 rfl rfl ?_
          refine x_istore_n [(2, .int (nI i)), (0, .ref a), (1, .int (nI o)), (3, .int (nI i))] dX5_findJar_66 rfl (by decide) rfl ?_
          refine x_iinc (j := 3) (nI (i + 1)) [(3, .int (nI (i + 1))), (2, .int (nI i)), (0, .ref a), (1, .int (nI o))] dX5_findJar_67 rfl (by first | exact nI_add _ _ | decide) (by decide) rfl ?_
          refine x_goto 4 dX5_findJar_70 (by decide) ?_
          refine x_sub [2, 3, 1, 0] (lv' := [(0, .ref a), (1, .int (nI o)), (2, .int (nI i)), (3, .int (nI (i + 1)))]) rfl ?_
          have ec : oI (fjS g o (i + 1)) = (nI i) := by simp_all [fjS, fjC, oI, nle_i, nlt_i]
          rw [← ec]
          exact ih (by omega)
        | some k =>
          have hk := fjS_lt hb
          refine x_iload_n dX5_findJar_46 rfl rfl ?_
          refine x_val (oI_some k) ?_
          refine x_if_lt 65 dX5_findJar_47 (by decide) (fun z => absurd z (nI_pos (by omega))) (fun _ => ?_)
          refine x_aload_n dX5_findJar_50 rfl rfl ?_
          refine x_iload_n dX5_findJar_51 rfl rfl ?_
          refine x_iconst (nI 2) dX5_findJar_52 (by decide) ?_
          refine x_cVI (t_ofJar T (by omega)) okX5_ofJar clX5 q2251 q2253 qs35 dX5_findJar_53 (Or.inl T.1) rfl rfl (by decide) (Nat.zero_le _) (Nat.zero_le _) (Nat.le_of_ble_eq_true rfl) (fun _ => ?_)
          refine x_aload_n dX5_findJar_56 rfl rfl ?_
          refine x_iload_n dX5_findJar_57 rfl rfl ?_
          refine x_iconst (nI 2) dX5_findJar_58 (by decide) ?_
          refine x_cVI (t_ofJar T (by omega)) okX5_ofJar clX5 q2251 q2253 qs35 dX5_findJar_59 (Or.inl T.1) rfl rfl (by decide) (Nat.zero_le _) (Nat.zero_le _) (Nat.le_of_ble_eq_true rfl) (fun _ => ?_)
          refine x_icmp_le 67 dX5_findJar_62 (by decide) (fun e4 => ?_) (fun e4 => ?_)
          · skip
            refine x_iinc (j := 3) (nI (i + 1)) [(3, .int (nI (i + 1))), (0, .ref a), (1, .int (nI o)), (2, .int (oI (some k)))] dX5_findJar_67 rfl (by first | exact nI_add _ _ | decide) (by decide) rfl ?_
            refine x_goto 4 dX5_findJar_70 (by decide) ?_
            refine x_sub [1, 2, 3, 0] (lv' := [(0, .ref a), (1, .int (nI o)), (2, .int (oI (some k))), (3, .int (nI (i + 1)))]) rfl ?_
            have ec : oI (fjS g o (i + 1)) = (oI (some k)) := by simp_all [fjS, fjC, oI, nle_i, nlt_i]
            rw [← ec]
            exact ih (by omega)
          · skip
            refine x_iload_n dX5_findJar_65 rfl rfl ?_
            refine x_istore_n [(2, .int (nI i)), (0, .ref a), (1, .int (nI o)), (3, .int (nI i))] dX5_findJar_66 rfl (by decide) rfl ?_
            refine x_iinc (j := 3) (nI (i + 1)) [(3, .int (nI (i + 1))), (2, .int (nI i)), (0, .ref a), (1, .int (nI o))] dX5_findJar_67 rfl (by first | exact nI_add _ _ | decide) (by decide) rfl ?_
            refine x_goto 4 dX5_findJar_70 (by decide) ?_
            refine x_sub [2, 3, 1, 0] (lv' := [(0, .ref a), (1, .int (nI o)), (2, .int (nI i)), (3, .int (nI (i + 1)))]) rfl ?_
            have ec : oI (fjS g o (i + 1)) = (nI i) := by simp_all [fjS, fjC, oI, nle_i, nlt_i]
            rw [← ec]
            exact ih (by omega)
theorem t_goesBy {G : GG} {h : AH} {a : Nat} {g : Nat → Int32} {S : Nat → Nat → Int32} {V : Nat → Int32} (T : Tw h a) (O : GOk g) : Cal G kX5_goesBy 4 0 0 [.ref a] (twh h a g S V) (rI (nI (goesN g)) (twh h a (goesG g) S V)) := by
  refine Cal.of (by decide +kernel) (Nat.le_of_ble_eq_true rfl) (fun c => ?_)
  have hJ := O.j
  refine x_iconst (nI 0) dX5_goesBy_0 (by decide) ?_
  refine x_istore_n [(1, .int (nI 0)), (0, .ref a)] dX5_goesBy_1 rfl (by decide) rfl ?_
  refine x_aload_n dX5_goesBy_2 rfl rfl ?_
  refine tg_g T (.inl q2082) dX5_goesBy_3 ?_
  refine x_iconst (nI 0) dX5_goesBy_6 (by decide) ?_
  refine x_dup2 dX5_goesBy_7 rfl rfl ?_
  refine tld1 T rfl (by omega) dX5_goesBy_8 ?_
  refine x_iconst (nI 1) dX5_goesBy_9 (by decide) ?_
  refine x_iadd dX5_goesBy_10 ?_
  refine tst1 T rfl (by omega) dX5_goesBy_11 ?_
  refine x_iconst (nI 0) dX5_goesBy_12 (by decide) ?_
  refine x_istore_n [(2, .int (nI 0)), (1, .int (nI 0)), (0, .ref a)] dX5_goesBy_13 rfl (by decide) rfl ?_
  refine x_eq (h' := twh h a (gyD g 0) S V) rfl rfl rfl ?_
  refine x_sub [2, 1, 0] (lv' := [(0, .ref a), (1, .int (nI 0)), (2, .int (nI 0))]) rfl ?_
  refine x_bud (bc' := 0) (bs' := 0) (by first | exact Nat.zero_le _ | omega) (by first | exact Nat.zero_le _ | omega) ?_
  refine lpN (P := fun k => X G c kX5_goesBy 4 _ _ _ 0 0 (twh h a (gyD g k) S V) 14 [(0, .ref a), (1, .int (nI 0)), (2, .int (nI k))] []) 3 (fun k hk ihk => ?_) 0 (Nat.zero_le _)
  refine x_iload_n dX5_goesBy_14 rfl rfl ?_
  refine x_iconst (nI 3) dX5_goesBy_15 (by decide) ?_
  refine x_icmp_ge 50 dX5_goesBy_16 (by decide) (fun e1 => ?_) (fun e1 => ?_)
  · skip
    have ne1 := e1
    rw [nI_leI (by omega) (by omega)] at ne1
    refine x_iconst (nI 0) dX5_goesBy_50 (by decide) ?_
    refine x_istore_n [(2, .int (nI 0)), (0, .ref a), (1, .int (nI 0))] dX5_goesBy_51 rfl (by decide) rfl ?_
    obtain rfl : k = 3 := by omega
    refine x_eq (h' := twh h a (gyS g 0).1 S V) rfl rfl rfl ?_
    refine x_sub [1, 2, 0] (lv' := [(0, .ref a), (1, .int (nI 0)), (2, .int (nI 0))]) rfl ?_
    refine x_bud (bc' := 0) (bs' := 0) (by first | exact Nat.zero_le _ | omega) (by first | exact Nat.zero_le _ | omega) ?_
    refine lpN (P := fun i => X G c kX5_goesBy 4 _ _ _ 0 0 (twh h a ((gyS g i).1) S V) 52 [(0, .ref a), (1, .int (nI ((gyS g i).2))), (2, .int (nI i))] []) (nJr g) (fun i hi ih => ?_) 0 (Nat.zero_le _)
    obtain ⟨Oi, hJi⟩ := O.gyS i (by omega)
    have hJ8 := Oi.j
    generalize hgi : (gyS g i).1 = gi at Oi hJi hJ8 ⊢
    refine x_iload_n dX5_goesBy_52 rfl rfl ?_
    refine x_aload_n dX5_goesBy_53 rfl rfl ?_
    refine tg_g T (.inl q2082) dX5_goesBy_54 ?_
    refine x_bipush (nI 8) dX5_goesBy_57 (by decide) ?_
    refine tld1 T rfl (by omega) dX5_goesBy_59 ?_
    refine x_val hJ8.1 ?_
    refine x_icmp_ge 149 dX5_goesBy_60 (by decide) (fun e2 => ?_) (fun e2 => ?_)
    · skip
      have ne2 := e2
      rw [nI_leI (by omega) (by omega)] at ne2
      refine x_iload_n dX5_goesBy_149 rfl rfl ?_
      refine x_iret rfl dX5_goesBy_150 ?_
      exact rI_of2 (by rw [show i = nJr g by omega]; rfl) (by rw [← hgi, show i = nJr g by omega]; rfl)
    · skip
      have ne2 := e2
      rw [nI_leI (by omega) (by omega)] at ne2
      refine x_aload_n dX5_goesBy_63 rfl rfl ?_
      refine x_iload_n dX5_goesBy_64 rfl rfl ?_
      refine x_iconst (nI 0) dX5_goesBy_65 (by decide) ?_
      refine x_cVI (t_ofJar T (by omega)) okX5_ofJar clX5 q2251 q2253 qs35 dX5_goesBy_66 (Or.inl T.1) rfl rfl (by decide) (Nat.zero_le _) (Nat.zero_le _) (Nat.le_of_ble_eq_true rfl) (fun _ => ?_)
      refine x_iconst (nI 1) dX5_goesBy_69 (by decide) ?_
      refine x_icmp_ne 91 dX5_goesBy_70 (by decide) (fun e3 => ?_) (fun e3 => ?_)
      · skip
        refine x_aload_n dX5_goesBy_91 rfl rfl ?_
        refine x_iload_n dX5_goesBy_92 rfl rfl ?_
        refine x_iconst (nI 0) dX5_goesBy_93 (by decide) ?_
        refine x_cVI (t_ofJar T (by omega)) okX5_ofJar clX5 q2251 q2253 qs35 dX5_goesBy_94 (Or.inl T.1) rfl rfl (by decide) (Nat.zero_le _) (Nat.zero_le _) (Nat.le_of_ble_eq_true rfl) (fun _ => ?_)
        refine x_if_eq 103 dX5_goesBy_97 (by decide) (fun e4 => ?_) (fun e4 => ?_)
        · skip
          refine x_aload_n dX5_goesBy_103 rfl rfl ?_
          refine x_iload_n dX5_goesBy_104 rfl rfl ?_
          refine x_cVI (t_isRipe T Oi (by omega) (by omega)) okX5_isRipe clX5 q2322 q2324 qs46 dX5_goesBy_105 (Or.inl T.1) rfl rfl (by decide) (Nat.zero_le _) (Nat.zero_le _) (Nat.le_of_ble_eq_true rfl) (fun _ => ?_)
          refine x_istore_n [(3, .int (bB (isRipe gi i))), (0, .ref a), (1, .int (nI ((gyS g i).2))), (2, .int (nI i))] dX5_goesBy_108 rfl (by decide) rfl ?_
          refine x_aload_n dX5_goesBy_109 rfl rfl ?_
          refine x_iload_n dX5_goesBy_110 rfl rfl ?_
          refine x_iconst (nI 2) dX5_goesBy_111 (by decide) ?_
          refine x_aload_n dX5_goesBy_112 rfl rfl ?_
          refine x_iload_n dX5_goesBy_113 rfl rfl ?_
          refine x_iconst (nI 2) dX5_goesBy_114 (by decide) ?_
          refine x_cVI (t_ofJar T (by omega)) okX5_ofJar clX5 q2251 q2253 qs35 dX5_goesBy_115 (Or.inl T.1) rfl rfl (by decide) (Nat.zero_le _) (Nat.zero_le _) (Nat.le_of_ble_eq_true rfl) (fun _ => ?_)
          refine x_iconst (nI 1) dX5_goesBy_118 (by decide) ?_
          refine x_iadd dX5_goesBy_119 ?_
          refine x_cVV (t_laysJar T (by omega)) okX5_laysJar clX5 q2239 q2241 qs33 dX5_goesBy_120 (Or.inl T.1) rfl rfl (by decide) (Nat.zero_le _) (Nat.zero_le _) (Nat.le_of_ble_eq_true rfl) (fun _ => ?_)
          have O2 : GOk (upd gi (109 + 4 * i + 2) ((gj gi i 2) + (nI 1))) := Oi.upd _ _ (by refine ⟨?_, ?_, ?_, fun i _ => ?_, fun b _ => ?_⟩ <;> omega)
          have hJ2 : nJr (upd gi (109 + 4 * i + 2) ((gj gi i 2) + (nI 1))) = nJr gi := nJr_upd (by omega)
          refine x_iload_n dX5_goesBy_123 rfl rfl ?_
          refine x_aload_n dX5_goesBy_124 rfl rfl ?_
          refine x_iload_n dX5_goesBy_125 rfl rfl ?_
          refine x_cVI (t_isRipe T O2 (by omega) (by omega)) okX5_isRipe clX5 q2322 q2324 qs46 dX5_goesBy_126 (Or.inl T.1) rfl rfl (by decide) (Nat.zero_le _) (Nat.zero_le _) (Nat.le_of_ble_eq_true rfl) (fun _ => ?_)
          refine x_if_eqB 140 dX5_goesBy_129 (by decide) (fun e5 => ?_) (fun e5 => ?_)
          · skip
            refine x_iconst (nI 0) dX5_goesBy_140 (by decide) ?_
            refine x_iadd dX5_goesBy_141 ?_
            refine x_val (nI_add _ _) ?_
            refine x_istore_n [(1, .int (nI (((gyS g i).2) + 0))), (3, .int (bB (isRipe gi i))), (0, .ref a), (2, .int (nI i))] dX5_goesBy_142 rfl (by decide) rfl ?_
            refine x_iinc (j := 3) (nI (i + 1)) [(2, .int (nI (i + 1))), (1, .int (nI (((gyS g i).2) + 0))), (3, .int (bB (isRipe gi i))), (0, .ref a)] dX5_goesBy_143 rfl (by first | exact nI_add _ _ | decide) (by decide) rfl ?_
            refine x_goto 52 dX5_goesBy_146 (by decide) ?_
            refine x_sub [3, 1, 0] (lv' := [(0, .ref a), (1, .int (nI (((gyS g i).2) + 0))), (2, .int (nI (i + 1)))]) rfl ?_
            have eg : (gyS g (i + 1)).1 = upd gi (109 + 4 * i + 2) ((gj gi i 2) + (nI 1)) := by
              show gyJ (gyS g i).1 i = _
              rw [hgi]
              simp_all [gyJ, nI1, nI0]
            have ec : (gyS g (i + 1)).2 = ((gyS g i).2) + 0 := by
              show (gyS g i).2 + (if gyC (gyS g i).1 i = true then 1 else 0) = _
              rw [hgi]
              simp_all [gyC, gyJ, nI1, nI0]
            rw [← eg, ← ec]
            exact ih (by omega)
          · skip
            refine x_iload_n dX5_goesBy_132 rfl rfl ?_
            refine x_if_neB 140 dX5_goesBy_133 (by decide) (fun e6 => ?_) (fun e6 => ?_)
            · skip
              refine x_iconst (nI 0) dX5_goesBy_140 (by decide) ?_
              refine x_iadd dX5_goesBy_141 ?_
              refine x_val (nI_add _ _) ?_
              refine x_istore_n [(1, .int (nI (((gyS g i).2) + 0))), (3, .int (bB (isRipe gi i))), (0, .ref a), (2, .int (nI i))] dX5_goesBy_142 rfl (by decide) rfl ?_
              refine x_iinc (j := 3) (nI (i + 1)) [(2, .int (nI (i + 1))), (1, .int (nI (((gyS g i).2) + 0))), (3, .int (bB (isRipe gi i))), (0, .ref a)] dX5_goesBy_143 rfl (by first | exact nI_add _ _ | decide) (by decide) rfl ?_
              refine x_goto 52 dX5_goesBy_146 (by decide) ?_
              refine x_sub [3, 1, 0] (lv' := [(0, .ref a), (1, .int (nI (((gyS g i).2) + 0))), (2, .int (nI (i + 1)))]) rfl ?_
              have eg : (gyS g (i + 1)).1 = upd gi (109 + 4 * i + 2) ((gj gi i 2) + (nI 1)) := by
                show gyJ (gyS g i).1 i = _
                rw [hgi]
                simp_all [gyJ, nI1, nI0]
              have ec : (gyS g (i + 1)).2 = ((gyS g i).2) + 0 := by
                show (gyS g i).2 + (if gyC (gyS g i).1 i = true then 1 else 0) = _
                rw [hgi]
                simp_all [gyC, gyJ, nI1, nI0]
              rw [← eg, ← ec]
              exact ih (by omega)
            · skip
              refine x_iconst (nI 1) dX5_goesBy_136 (by decide) ?_
              refine x_goto 141 dX5_goesBy_137 (by decide) ?_
              refine x_iadd dX5_goesBy_141 ?_
              refine x_val (nI_add _ _) ?_
              refine x_istore_n [(1, .int (nI (((gyS g i).2) + 1))), (3, .int (bB (isRipe gi i))), (0, .ref a), (2, .int (nI i))] dX5_goesBy_142 rfl (by decide) rfl ?_
              refine x_iinc (j := 3) (nI (i + 1)) [(2, .int (nI (i + 1))), (1, .int (nI (((gyS g i).2) + 1))), (3, .int (bB (isRipe gi i))), (0, .ref a)] dX5_goesBy_143 rfl (by first | exact nI_add _ _ | decide) (by decide) rfl ?_
              refine x_goto 52 dX5_goesBy_146 (by decide) ?_
              refine x_sub [3, 1, 0] (lv' := [(0, .ref a), (1, .int (nI (((gyS g i).2) + 1))), (2, .int (nI (i + 1)))]) rfl ?_
              have eg : (gyS g (i + 1)).1 = upd gi (109 + 4 * i + 2) ((gj gi i 2) + (nI 1)) := by
                show gyJ (gyS g i).1 i = _
                rw [hgi]
                simp_all [gyJ, nI1, nI0]
              have ec : (gyS g (i + 1)).2 = ((gyS g i).2) + 1 := by
                show (gyS g i).2 + (if gyC (gyS g i).1 i = true then 1 else 0) = _
                rw [hgi]
                simp_all [gyC, gyJ, nI1, nI0]
              rw [← eg, ← ec]
              exact ih (by omega)
        · skip
          refine x_goto 143 dX5_goesBy_100 (by decide) ?_
          refine x_iinc (j := 2) (nI (i + 1)) [(2, .int (nI (i + 1))), (0, .ref a), (1, .int (nI ((gyS g i).2)))] dX5_goesBy_143 rfl (by first | exact nI_add _ _ | decide) (by decide) rfl ?_
          refine x_goto 52 dX5_goesBy_146 (by decide) ?_
          refine x_sub [1, 2, 0] (lv' := [(0, .ref a), (1, .int (nI ((gyS g i).2))), (2, .int (nI (i + 1)))]) rfl ?_
          have eg : (gyS g (i + 1)).1 = gi := by
            show gyJ (gyS g i).1 i = _
            rw [hgi]
            simp_all [gyJ, nI1, nI0]
          have ec : (gyS g (i + 1)).2 = (gyS g i).2 := by
            show (gyS g i).2 + (if gyC (gyS g i).1 i = true then 1 else 0) = _
            rw [hgi]
            simp_all [gyC, gyJ, nI1, nI0]
          rw [← eg, ← ec]
          exact ih (by omega)
      · skip
        refine x_aload_n dX5_goesBy_73 rfl rfl ?_
        refine x_iload_n dX5_goesBy_74 rfl rfl ?_
        refine x_iconst (nI 3) dX5_goesBy_75 (by decide) ?_
        refine x_iconst (nI 0) dX5_goesBy_76 (by decide) ?_
        refine x_aload_n dX5_goesBy_77 rfl rfl ?_
        refine x_iload_n dX5_goesBy_78 rfl rfl ?_
        refine x_iconst (nI 3) dX5_goesBy_79 (by decide) ?_
        refine x_cVI (t_ofJar T (by omega)) okX5_ofJar clX5 q2251 q2253 qs35 dX5_goesBy_80 (Or.inl T.1) rfl rfl (by decide) (Nat.zero_le _) (Nat.zero_le _) (Nat.le_of_ble_eq_true rfl) (fun _ => ?_)
        refine x_iconst (nI 1) dX5_goesBy_83 (by decide) ?_
        refine x_isub dX5_goesBy_84 ?_
        refine x_cSI t_more okX5_more q2208 q2209 dX5_goesBy_85 rfl rfl (by decide) (Nat.zero_le _) (Nat.zero_le _) (Nat.le_of_ble_eq_true rfl) (fun _ => ?_)
        refine x_cVV (t_laysJar T (by omega)) okX5_laysJar clX5 q2239 q2241 qs33 dX5_goesBy_88 (Or.inl T.1) rfl rfl (by decide) (Nat.zero_le _) (Nat.zero_le _) (Nat.le_of_ble_eq_true rfl) (fun _ => ?_)
        refine x_aload_n dX5_goesBy_91 rfl rfl ?_
        refine x_iload_n dX5_goesBy_92 rfl rfl ?_
        refine x_iconst (nI 0) dX5_goesBy_93 (by decide) ?_
        refine x_cVI (t_ofJar T (by omega)) okX5_ofJar clX5 q2251 q2253 qs35 dX5_goesBy_94 (Or.inl T.1) rfl rfl (by decide) (Nat.zero_le _) (Nat.zero_le _) (Nat.le_of_ble_eq_true rfl) (fun _ => ?_)
        refine x_val (show gj (upd gi (109 + 4 * i + 3) (mx (nI 0) ((gj gi i 3) - (nI 1)))) i 0 = gj gi i 0 from pk_un (by omega)) ?_
        refine x_if_eq 103 dX5_goesBy_97 (by decide) (fun z => absurd z (by simp_all [nI])) (fun _ => ?_)
        refine x_goto 143 dX5_goesBy_100 (by decide) ?_
        refine x_iinc (j := 2) (nI (i + 1)) [(2, .int (nI (i + 1))), (0, .ref a), (1, .int (nI ((gyS g i).2)))] dX5_goesBy_143 rfl (by first | exact nI_add _ _ | decide) (by decide) rfl ?_
        refine x_goto 52 dX5_goesBy_146 (by decide) ?_
        refine x_sub [1, 2, 0] (lv' := [(0, .ref a), (1, .int (nI ((gyS g i).2))), (2, .int (nI (i + 1)))]) rfl ?_
        have eg : (gyS g (i + 1)).1 = upd gi (109 + 4 * i + 3) (mx (nI 0) ((gj gi i 3) - (nI 1))) := by
          show gyJ (gyS g i).1 i = _
          rw [hgi]
          simp_all [gyJ, nI1, nI0]
        have ec : (gyS g (i + 1)).2 = (gyS g i).2 := by
          show (gyS g i).2 + (if gyC (gyS g i).1 i = true then 1 else 0) = _
          rw [hgi]
          simp_all [gyC, gyJ, nI1, nI0]
        rw [← eg, ← ec]
        exact ih (by omega)
  · skip
    have ne1 := e1
    rw [nI_leI (by omega) (by omega)] at ne1
    refine x_aload_n dX5_goesBy_19 rfl rfl ?_
    refine tg_g T (.inl q2082) dX5_goesBy_20 ?_
    refine x_bipush (nI 16) dX5_goesBy_23 (by decide) ?_
    refine x_iconst (nI 3) dX5_goesBy_25 (by decide) ?_
    refine x_iload_n dX5_goesBy_26 rfl rfl ?_
    refine x_imul dX5_goesBy_27 ?_
    refine x_val (pk_mul _ _) ?_
    refine x_iadd dX5_goesBy_28 ?_
    refine x_val (nI_add _ _) ?_
    refine x_iconst (nI 1) dX5_goesBy_29 (by decide) ?_
    refine x_iadd dX5_goesBy_30 ?_
    refine x_val (nI_add _ _) ?_
    refine x_iconst (nI 0) dX5_goesBy_31 (by decide) ?_
    refine x_aload_n dX5_goesBy_32 rfl rfl ?_
    refine x_iload_n dX5_goesBy_33 rfl rfl ?_
    refine x_iconst (nI 1) dX5_goesBy_34 (by decide) ?_
    refine x_cVI (t_ofQuern T (by omega)) okX5_ofQuern clX5 q2181 q2183 qs26 dX5_goesBy_35 (Or.inl T.1) rfl rfl (by decide) (Nat.zero_le _) (Nat.zero_le _) (Nat.le_of_ble_eq_true rfl) (fun _ => ?_)
    refine x_iconst (nI 3) dX5_goesBy_38 (by decide) ?_
    refine x_isub dX5_goesBy_39 ?_
    refine x_cSI t_more okX5_more q2208 q2209 dX5_goesBy_40 rfl rfl (by decide) (Nat.zero_le _) (Nat.zero_le _) (Nat.le_of_ble_eq_true rfl) (fun _ => ?_)
    refine tst1 T rfl (by omega) dX5_goesBy_43 ?_
    refine x_iinc (j := 2) (nI (k + 1)) [(2, .int (nI (k + 1))), (0, .ref a), (1, .int (nI 0))] dX5_goesBy_44 rfl (by first | exact nI_add _ _ | decide) (by decide) rfl ?_
    refine x_goto 14 dX5_goesBy_47 (by decide) ?_
    refine x_sub [1, 2, 0] (lv' := [(0, .ref a), (1, .int (nI 0)), (2, .int (nI (k + 1)))]) rfl ?_
    refine x_eq (h' := twh h a (gyD g (k + 1)) S V) rfl rfl rfl ?_
    exact ihk (by omega)
theorem t_copies {G : GG} {h : AH} {s t p0 q0 : Nat} (ks : hKd h s = 201) (kt : hKd h t = 201) (ls : p0 + 221 ≤ hLn h s) (lt : q0 + 221 ≤ hLn h t) (b1 : p0 ≤ 2000) (b2 : q0 ≤ 2000) (n : s ≠ t) : Cal G kX5_copies 0 0 0 [.ref s, .int (nI p0), .ref t, .int (nI q0)] h (rV (uEI h t (va_cpy (hEI h s) (hEI h t) p0 q0 221))) := by
  refine Cal.of (by decide +kernel) (Nat.le_of_ble_eq_true rfl) (fun c => ?_)
  refine x_iconst (nI 0) dX5_copies_0 (by decide) ?_
  refine x_istore [(4, .int (nI 0)), (0, .ref s), (1, .int (nI p0)), (2, .ref t), (3, .int (nI q0))] dX5_copies_1 (by decide) rfl ?_
  refine x_eq (h' := uEI h t (va_cpy (hEI h s) (hEI h t) p0 q0 0)) (by rw [cpy0, uEI_eta]) rfl rfl ?_
  refine lpN (P := fun i => X G c kX5_copies 0 _ _ _ _ _ (uEI h t (va_cpy (hEI h s) (hEI h t) p0 q0 i)) 3 [(4, .int (nI i)), (0, .ref s), (1, .int (nI p0)), (2, .ref t), (3, .int (nI q0))] []) 221 (fun i hi ih => ?_) 0 (Nat.zero_le _)
  refine x_iload dX5_copies_3 rfl ?_
  refine x_sipush (nI 221) dX5_copies_5 (by decide) ?_
  refine x_icmp_ge 29 dX5_copies_8 (by decide) (fun e1 => ?_) (fun e1 => ?_)
  · rw [nI_leI (by omega) (by omega)] at e1
    refine x_vret rfl dX5_copies_29 (rV_of2 (by rw [show i = 221 by omega]))
  · rw [nI_leI (by omega) (by omega)] at e1
    refine x_aload_n dX5_copies_11 rfl rfl ?_
    refine x_iload_n dX5_copies_12 rfl rfl ?_
    refine x_iload dX5_copies_13 rfl ?_
    refine x_iadd dX5_copies_15 ?_
    refine x_val (nI_add _ _) ?_
    refine x_aload_n dX5_copies_16 rfl rfl ?_
    refine x_iload_n dX5_copies_17 rfl rfl ?_
    refine x_iload dX5_copies_18 rfl ?_
    refine x_iadd dX5_copies_20 ?_
    refine x_val (nI_add _ _) ?_
    refine x_iald rfl (show p0 + i < hLn h s by omega) (by omega) dX5_copies_21 (Or.inl ks) ?_
    refine x_iast rfl (show q0 + i < hLn h t by omega) (by omega) dX5_copies_22 kt ?_
    rw [uEI_self, uEI_uEI, uEI_other n, cpyS]
    refine x_iinc (j := 0) (nI (i + 1)) [(4, .int (nI (i + 1))), (0, .ref s), (1, .int (nI p0)), (2, .ref t), (3, .int (nI q0))] dX5_copies_23 rfl (by exact nI_add _ _) (by decide) rfl ?_
    refine x_goto 3 dX5_copies_26 (by decide) ?_
    exact ih (by omega)
