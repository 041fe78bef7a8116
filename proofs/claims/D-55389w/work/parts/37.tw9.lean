/-! THE REFERENCE, ninth part: stockLine, append; printed by tools/tw9.py -/
set_option maxRecDepth 100000
/-- what the stock line asks of the numbers -/
def SNum (g : Nat → Int32) : Prop := ∀ k, k < 6 → g (1 + k) = nI (ix (g (1 + k))) ∧ ix (g (1 + k)) < 100000
def stockL (g : Nat → Int32) : List Int32 := [] ++ dg (ix (g 1)) ++ [nI 121] ++ [nI 32] ++ dg (ix (g 2)) ++ [nI 98] ++ [nI 32] ++ dg (ix (g 3)) ++ [nI 107] ++ [nI 32] ++ dg (ix (g 4)) ++ [nI 118] ++ [nI 32] ++ dg (ix (g 5)) ++ [nI 99] ++ [nI 32] ++ dg (ix (g 6)) ++ [nI 112]
theorem stockL_le (g : Nat → Int32) : (stockL g).length ≤ 60 := by
  have h1 := dg_le (ix (g 1))
  have h2 := dg_le (ix (g 2))
  have h3 := dg_le (ix (g 3))
  have h4 := dg_le (ix (g 4))
  have h5 := dg_le (ix (g 5))
  have h6 := dg_le (ix (g 6))
  unfold stockL
  simp only [List.length_append, List.length_cons, List.length_nil]
  omega
theorem t_stockLine {G : GG} {h : AH} {a : Nat} {g : Nat → Int32} {S : Nat → Nat → Int32} {V : Nat → Int32} (T : Tw h a) (SN : SNum g) (SG : GSt G) : Cal G kX5_stockLine 5 0 0 [.ref a] (twh h a g S V) (rI (nI (stockL g).length) (lnH h a g S (upd V 34 (nI 0)) (stockL g))) := by
  refine Cal.of (by decide +kernel) (Nat.le_of_ble_eq_true rfl) (fun c => ?_)
  have n1 := SN 0 (by decide)
  have n2 := SN 1 (by decide)
  have n3 := SN 2 (by decide)
  have n4 := SN 3 (by decide)
  have n5 := SN 4 (by decide)
  have n6 := SN 5 (by decide)
  have d1 := dg_le (ix (g 1))
  have d2 := dg_le (ix (g 2))
  have d3 := dg_le (ix (g 3))
  have d4 := dg_le (ix (g 4))
  have d5 := dg_le (ix (g 5))
  have d6 := dg_le (ix (g 6))
  refine x_aload_n dX5_stockLine_0 rfl rfl ?_
  refine x_iconst (nI 0) dX5_stockLine_1 (by decide) ?_
  refine tp_code T (.inl q2090) dX5_stockLine_2 ?_
  refine x_aload_n dX5_stockLine_5 rfl rfl ?_
  refine x_iconst (nI 0) dX5_stockLine_6 (by decide) ?_
  refine tp_signMany T (.inl q2098) dX5_stockLine_7 ?_
  refine x_eq (h' := lnH h a g S (upd V 34 (nI 0)) []) (by show _ = twh h a g (upS S 7 (wrs (S 7) [])) _; rw [wrs_nil, upS_id]; rfl) rfl rfl ?_
  refine x_iconst (nI 0) dX5_stockLine_10 (by decide) ?_
  refine x_istore_n [(1, .int (nI 0)), (0, .ref a)] dX5_stockLine_11 rfl (by decide) rfl ?_
  refine x_iload_n dX5_stockLine_12 rfl rfl ?_
  refine x_bipush (nI 6) dX5_stockLine_13 (by decide) ?_
  refine x_icmp_ge 56 dX5_stockLine_15 (by decide) (fun z => False.elim (by revert z; decide)) (fun _ => ?_)
  refine x_iload_n dX5_stockLine_18 rfl rfl ?_
  refine x_if_le 28 dX5_stockLine_19 (by decide) (fun _ => ?_) (fun z => False.elim (by revert z; decide))
  refine x_aload_n dX5_stockLine_28 rfl rfl ?_
  refine x_aload_n dX5_stockLine_29 rfl rfl ?_
  refine tg_g T (.inl q2082) dX5_stockLine_30 ?_
  refine x_iconst (nI 1) dX5_stockLine_33 (by decide) ?_
  refine x_iload_n dX5_stockLine_34 rfl rfl ?_
  refine x_iadd dX5_stockLine_35 ?_
  refine x_val (nI_add _ _) ?_
  refine x_val (rfl : nI (1 + 0) = nI 1) ?_
  refine tld1 T rfl (by omega) dX5_stockLine_36 ?_
  refine x_cVV (n1.1.symm ▸ t_writesNumber (n := (ix (g 1))) T n1.2 (by simp only [List.length_append, List.length_cons, List.length_nil]; omega)) okX5_writesNumber clX5 q2370 q2372 qs51 dX5_stockLine_37 (Or.inl T.1) rfl rfl (by decide) (Nat.zero_le _) (Nat.zero_le _) (Nat.le_of_ble_eq_true rfl) (fun _ => ?_)
  refine x_aload_n dX5_stockLine_40 rfl rfl ?_
  refine x_ldcS dX5_stockLine_41 (List.mem_of_getElem? (i := 51) rfl) ?_
  refine x_wf (fun w => ?_)
  refine x_iload_n dX5_stockLine_43 rfl rfl ?_
  refine x_cVI (s_charAt (SG.str w (i := 24) (by decide)) (j := 0) (by decide)) okJ6_charAt clJ6 q2380 q425 q426 dX5_stockLine_44 (SG.str w (i := 24) (by decide)).1 rfl rfl (by decide) (Nat.zero_le _) (Nat.zero_le _) (Nat.le_of_ble_eq_true rfl) (fun _ => ?_)
  refine x_val (rfl : (txl 24).getD 0 0 = nI 121) ?_
  refine x_cVV (t_writes (k := 121) T (by decide) (by simp only [List.length_append, List.length_cons, List.length_nil]; omega)) okX5_writes clX5 q2366 q2368 qs50 dX5_stockLine_47 (Or.inl T.1) rfl rfl (by decide) (Nat.zero_le _) (Nat.zero_le _) (Nat.le_of_ble_eq_true rfl) (fun _ => ?_)
  refine x_iinc (j := 0) (nI 1) [(1, .int (nI 1)), (0, .ref a)] dX5_stockLine_50 rfl (by decide) (by decide) rfl ?_
  refine x_goto 12 dX5_stockLine_53 (by decide) ?_
  refine x_iload_n dX5_stockLine_12 rfl rfl ?_
  refine x_bipush (nI 6) dX5_stockLine_13 (by decide) ?_
  refine x_icmp_ge 56 dX5_stockLine_15 (by decide) (fun z => False.elim (by revert z; decide)) (fun _ => ?_)
  refine x_iload_n dX5_stockLine_18 rfl rfl ?_
  refine x_if_le 28 dX5_stockLine_19 (by decide) (fun z => False.elim (by revert z; decide)) (fun _ => ?_)
  refine x_aload_n dX5_stockLine_22 rfl rfl ?_
  refine x_bipush (nI 32) dX5_stockLine_23 (by decide) ?_
  refine x_cVV (t_writes (k := 32) T (by decide) (by simp only [List.length_append, List.length_cons, List.length_nil]; omega)) okX5_writes clX5 q2366 q2368 qs50 dX5_stockLine_25 (Or.inl T.1) rfl rfl (by decide) (Nat.zero_le _) (Nat.zero_le _) (Nat.le_of_ble_eq_true rfl) (fun _ => ?_)
  refine x_aload_n dX5_stockLine_28 rfl rfl ?_
  refine x_aload_n dX5_stockLine_29 rfl rfl ?_
  refine tg_g T (.inl q2082) dX5_stockLine_30 ?_
  refine x_iconst (nI 1) dX5_stockLine_33 (by decide) ?_
  refine x_iload_n dX5_stockLine_34 rfl rfl ?_
  refine x_iadd dX5_stockLine_35 ?_
  refine x_val (nI_add _ _) ?_
  refine x_val (rfl : nI (1 + 1) = nI 2) ?_
  refine tld1 T rfl (by omega) dX5_stockLine_36 ?_
  refine x_cVV (n2.1.symm ▸ t_writesNumber (n := (ix (g 2))) T n2.2 (by simp only [List.length_append, List.length_cons, List.length_nil]; omega)) okX5_writesNumber clX5 q2370 q2372 qs51 dX5_stockLine_37 (Or.inl T.1) rfl rfl (by decide) (Nat.zero_le _) (Nat.zero_le _) (Nat.le_of_ble_eq_true rfl) (fun _ => ?_)
  refine x_aload_n dX5_stockLine_40 rfl rfl ?_
  refine x_ldcS dX5_stockLine_41 (List.mem_of_getElem? (i := 51) rfl) ?_
  refine x_wf (fun w => ?_)
  refine x_iload_n dX5_stockLine_43 rfl rfl ?_
  refine x_cVI (s_charAt (SG.str w (i := 24) (by decide)) (j := 1) (by decide)) okJ6_charAt clJ6 q2380 q425 q426 dX5_stockLine_44 (SG.str w (i := 24) (by decide)).1 rfl rfl (by decide) (Nat.zero_le _) (Nat.zero_le _) (Nat.le_of_ble_eq_true rfl) (fun _ => ?_)
  refine x_val (rfl : (txl 24).getD 1 0 = nI 98) ?_
  refine x_cVV (t_writes (k := 98) T (by decide) (by simp only [List.length_append, List.length_cons, List.length_nil]; omega)) okX5_writes clX5 q2366 q2368 qs50 dX5_stockLine_47 (Or.inl T.1) rfl rfl (by decide) (Nat.zero_le _) (Nat.zero_le _) (Nat.le_of_ble_eq_true rfl) (fun _ => ?_)
  refine x_iinc (j := 0) (nI 2) [(1, .int (nI 2)), (0, .ref a)] dX5_stockLine_50 rfl (by decide) (by decide) rfl ?_
  refine x_goto 12 dX5_stockLine_53 (by decide) ?_
  refine x_iload_n dX5_stockLine_12 rfl rfl ?_
  refine x_bipush (nI 6) dX5_stockLine_13 (by decide) ?_
  refine x_icmp_ge 56 dX5_stockLine_15 (by decide) (fun z => False.elim (by revert z; decide)) (fun _ => ?_)
  refine x_iload_n dX5_stockLine_18 rfl rfl ?_
  refine x_if_le 28 dX5_stockLine_19 (by decide) (fun z => False.elim (by revert z; decide)) (fun _ => ?_)
  refine x_aload_n dX5_stockLine_22 rfl rfl ?_
  refine x_bipush (nI 32) dX5_stockLine_23 (by decide) ?_
  refine x_cVV (t_writes (k := 32) T (by decide) (by simp only [List.length_append, List.length_cons, List.length_nil]; omega)) okX5_writes clX5 q2366 q2368 qs50 dX5_stockLine_25 (Or.inl T.1) rfl rfl (by decide) (Nat.zero_le _) (Nat.zero_le _) (Nat.le_of_ble_eq_true rfl) (fun _ => ?_)
  refine x_aload_n dX5_stockLine_28 rfl rfl ?_
  refine x_aload_n dX5_stockLine_29 rfl rfl ?_
  refine tg_g T (.inl q2082) dX5_stockLine_30 ?_
  refine x_iconst (nI 1) dX5_stockLine_33 (by decide) ?_
  refine x_iload_n dX5_stockLine_34 rfl rfl ?_
  refine x_iadd dX5_stockLine_35 ?_
  refine x_val (nI_add _ _) ?_
  refine x_val (rfl : nI (1 + 2) = nI 3) ?_
  refine tld1 T rfl (by omega) dX5_stockLine_36 ?_
  refine x_cVV (n3.1.symm ▸ t_writesNumber (n := (ix (g 3))) T n3.2 (by simp only [List.length_append, List.length_cons, List.length_nil]; omega)) okX5_writesNumber clX5 q2370 q2372 qs51 dX5_stockLine_37 (Or.inl T.1) rfl rfl (by decide) (Nat.zero_le _) (Nat.zero_le _) (Nat.le_of_ble_eq_true rfl) (fun _ => ?_)
  refine x_aload_n dX5_stockLine_40 rfl rfl ?_
  refine x_ldcS dX5_stockLine_41 (List.mem_of_getElem? (i := 51) rfl) ?_
  refine x_wf (fun w => ?_)
  refine x_iload_n dX5_stockLine_43 rfl rfl ?_
  refine x_cVI (s_charAt (SG.str w (i := 24) (by decide)) (j := 2) (by decide)) okJ6_charAt clJ6 q2380 q425 q426 dX5_stockLine_44 (SG.str w (i := 24) (by decide)).1 rfl rfl (by decide) (Nat.zero_le _) (Nat.zero_le _) (Nat.le_of_ble_eq_true rfl) (fun _ => ?_)
  refine x_val (rfl : (txl 24).getD 2 0 = nI 107) ?_
  refine x_cVV (t_writes (k := 107) T (by decide) (by simp only [List.length_append, List.length_cons, List.length_nil]; omega)) okX5_writes clX5 q2366 q2368 qs50 dX5_stockLine_47 (Or.inl T.1) rfl rfl (by decide) (Nat.zero_le _) (Nat.zero_le _) (Nat.le_of_ble_eq_true rfl) (fun _ => ?_)
  refine x_iinc (j := 0) (nI 3) [(1, .int (nI 3)), (0, .ref a)] dX5_stockLine_50 rfl (by decide) (by decide) rfl ?_
  refine x_goto 12 dX5_stockLine_53 (by decide) ?_
  refine x_iload_n dX5_stockLine_12 rfl rfl ?_
  refine x_bipush (nI 6) dX5_stockLine_13 (by decide) ?_
  refine x_icmp_ge 56 dX5_stockLine_15 (by decide) (fun z => False.elim (by revert z; decide)) (fun _ => ?_)
  refine x_iload_n dX5_stockLine_18 rfl rfl ?_
  refine x_if_le 28 dX5_stockLine_19 (by decide) (fun z => False.elim (by revert z; decide)) (fun _ => ?_)
  refine x_aload_n dX5_stockLine_22 rfl rfl ?_
  refine x_bipush (nI 32) dX5_stockLine_23 (by decide) ?_
  refine x_cVV (t_writes (k := 32) T (by decide) (by simp only [List.length_append, List.length_cons, List.length_nil]; omega)) okX5_writes clX5 q2366 q2368 qs50 dX5_stockLine_25 (Or.inl T.1) rfl rfl (by decide) (Nat.zero_le _) (Nat.zero_le _) (Nat.le_of_ble_eq_true rfl) (fun _ => ?_)
  refine x_aload_n dX5_stockLine_28 rfl rfl ?_
  refine x_aload_n dX5_stockLine_29 rfl rfl ?_
  refine tg_g T (.inl q2082) dX5_stockLine_30 ?_
  refine x_iconst (nI 1) dX5_stockLine_33 (by decide) ?_
  refine x_iload_n dX5_stockLine_34 rfl rfl ?_
  refine x_iadd dX5_stockLine_35 ?_
  refine x_val (nI_add _ _) ?_
  refine x_val (rfl : nI (1 + 3) = nI 4) ?_
  refine tld1 T rfl (by omega) dX5_stockLine_36 ?_
  refine x_cVV (n4.1.symm ▸ t_writesNumber (n := (ix (g 4))) T n4.2 (by simp only [List.length_append, List.length_cons, List.length_nil]; omega)) okX5_writesNumber clX5 q2370 q2372 qs51 dX5_stockLine_37 (Or.inl T.1) rfl rfl (by decide) (Nat.zero_le _) (Nat.zero_le _) (Nat.le_of_ble_eq_true rfl) (fun _ => ?_)
  refine x_aload_n dX5_stockLine_40 rfl rfl ?_
  refine x_ldcS dX5_stockLine_41 (List.mem_of_getElem? (i := 51) rfl) ?_
  refine x_wf (fun w => ?_)
  refine x_iload_n dX5_stockLine_43 rfl rfl ?_
  refine x_cVI (s_charAt (SG.str w (i := 24) (by decide)) (j := 3) (by decide)) okJ6_charAt clJ6 q2380 q425 q426 dX5_stockLine_44 (SG.str w (i := 24) (by decide)).1 rfl rfl (by decide) (Nat.zero_le _) (Nat.zero_le _) (Nat.le_of_ble_eq_true rfl) (fun _ => ?_)
  refine x_val (rfl : (txl 24).getD 3 0 = nI 118) ?_
  refine x_cVV (t_writes (k := 118) T (by decide) (by simp only [List.length_append, List.length_cons, List.length_nil]; omega)) okX5_writes clX5 q2366 q2368 qs50 dX5_stockLine_47 (Or.inl T.1) rfl rfl (by decide) (Nat.zero_le _) (Nat.zero_le _) (Nat.le_of_ble_eq_true rfl) (fun _ => ?_)
  refine x_iinc (j := 0) (nI 4) [(1, .int (nI 4)), (0, .ref a)] dX5_stockLine_50 rfl (by decide) (by decide) rfl ?_
  refine x_goto 12 dX5_stockLine_53 (by decide) ?_
  refine x_iload_n dX5_stockLine_12 rfl rfl ?_
  refine x_bipush (nI 6) dX5_stockLine_13 (by decide) ?_
  refine x_icmp_ge 56 dX5_stockLine_15 (by decide) (fun z => False.elim (by revert z; decide)) (fun _ => ?_)
  refine x_iload_n dX5_stockLine_18 rfl rfl ?_
  refine x_if_le 28 dX5_stockLine_19 (by decide) (fun z => False.elim (by revert z; decide)) (fun _ => ?_)
  refine x_aload_n dX5_stockLine_22 rfl rfl ?_
  refine x_bipush (nI 32) dX5_stockLine_23 (by decide) ?_
  refine x_cVV (t_writes (k := 32) T (by decide) (by simp only [List.length_append, List.length_cons, List.length_nil]; omega)) okX5_writes clX5 q2366 q2368 qs50 dX5_stockLine_25 (Or.inl T.1) rfl rfl (by decide) (Nat.zero_le _) (Nat.zero_le _) (Nat.le_of_ble_eq_true rfl) (fun _ => ?_)
  refine x_aload_n dX5_stockLine_28 rfl rfl ?_
  refine x_aload_n dX5_stockLine_29 rfl rfl ?_
  refine tg_g T (.inl q2082) dX5_stockLine_30 ?_
  refine x_iconst (nI 1) dX5_stockLine_33 (by decide) ?_
  refine x_iload_n dX5_stockLine_34 rfl rfl ?_
  refine x_iadd dX5_stockLine_35 ?_
  refine x_val (nI_add _ _) ?_
  refine x_val (rfl : nI (1 + 4) = nI 5) ?_
  refine tld1 T rfl (by omega) dX5_stockLine_36 ?_
  refine x_cVV (n5.1.symm ▸ t_writesNumber (n := (ix (g 5))) T n5.2 (by simp only [List.length_append, List.length_cons, List.length_nil]; omega)) okX5_writesNumber clX5 q2370 q2372 qs51 dX5_stockLine_37 (Or.inl T.1) rfl rfl (by decide) (Nat.zero_le _) (Nat.zero_le _) (Nat.le_of_ble_eq_true rfl) (fun _ => ?_)
  refine x_aload_n dX5_stockLine_40 rfl rfl ?_
  refine x_ldcS dX5_stockLine_41 (List.mem_of_getElem? (i := 51) rfl) ?_
  refine x_wf (fun w => ?_)
  refine x_iload_n dX5_stockLine_43 rfl rfl ?_
  refine x_cVI (s_charAt (SG.str w (i := 24) (by decide)) (j := 4) (by decide)) okJ6_charAt clJ6 q2380 q425 q426 dX5_stockLine_44 (SG.str w (i := 24) (by decide)).1 rfl rfl (by decide) (Nat.zero_le _) (Nat.zero_le _) (Nat.le_of_ble_eq_true rfl) (fun _ => ?_)
  refine x_val (rfl : (txl 24).getD 4 0 = nI 99) ?_
  refine x_cVV (t_writes (k := 99) T (by decide) (by simp only [List.length_append, List.length_cons, List.length_nil]; omega)) okX5_writes clX5 q2366 q2368 qs50 dX5_stockLine_47 (Or.inl T.1) rfl rfl (by decide) (Nat.zero_le _) (Nat.zero_le _) (Nat.le_of_ble_eq_true rfl) (fun _ => ?_)
  refine x_iinc (j := 0) (nI 5) [(1, .int (nI 5)), (0, .ref a)] dX5_stockLine_50 rfl (by decide) (by decide) rfl ?_
  refine x_goto 12 dX5_stockLine_53 (by decide) ?_
  refine x_iload_n dX5_stockLine_12 rfl rfl ?_
  refine x_bipush (nI 6) dX5_stockLine_13 (by decide) ?_
  refine x_icmp_ge 56 dX5_stockLine_15 (by decide) (fun z => False.elim (by revert z; decide)) (fun _ => ?_)
  refine x_iload_n dX5_stockLine_18 rfl rfl ?_
  refine x_if_le 28 dX5_stockLine_19 (by decide) (fun z => False.elim (by revert z; decide)) (fun _ => ?_)
  refine x_aload_n dX5_stockLine_22 rfl rfl ?_
  refine x_bipush (nI 32) dX5_stockLine_23 (by decide) ?_
  refine x_cVV (t_writes (k := 32) T (by decide) (by simp only [List.length_append, List.length_cons, List.length_nil]; omega)) okX5_writes clX5 q2366 q2368 qs50 dX5_stockLine_25 (Or.inl T.1) rfl rfl (by decide) (Nat.zero_le _) (Nat.zero_le _) (Nat.le_of_ble_eq_true rfl) (fun _ => ?_)
  refine x_aload_n dX5_stockLine_28 rfl rfl ?_
  refine x_aload_n dX5_stockLine_29 rfl rfl ?_
  refine tg_g T (.inl q2082) dX5_stockLine_30 ?_
  refine x_iconst (nI 1) dX5_stockLine_33 (by decide) ?_
  refine x_iload_n dX5_stockLine_34 rfl rfl ?_
  refine x_iadd dX5_stockLine_35 ?_
  refine x_val (nI_add _ _) ?_
  refine x_val (rfl : nI (1 + 5) = nI 6) ?_
  refine tld1 T rfl (by omega) dX5_stockLine_36 ?_
  refine x_cVV (n6.1.symm ▸ t_writesNumber (n := (ix (g 6))) T n6.2 (by simp only [List.length_append, List.length_cons, List.length_nil]; omega)) okX5_writesNumber clX5 q2370 q2372 qs51 dX5_stockLine_37 (Or.inl T.1) rfl rfl (by decide) (Nat.zero_le _) (Nat.zero_le _) (Nat.le_of_ble_eq_true rfl) (fun _ => ?_)
  refine x_aload_n dX5_stockLine_40 rfl rfl ?_
  refine x_ldcS dX5_stockLine_41 (List.mem_of_getElem? (i := 51) rfl) ?_
  refine x_wf (fun w => ?_)
  refine x_iload_n dX5_stockLine_43 rfl rfl ?_
  refine x_cVI (s_charAt (SG.str w (i := 24) (by decide)) (j := 5) (by decide)) okJ6_charAt clJ6 q2380 q425 q426 dX5_stockLine_44 (SG.str w (i := 24) (by decide)).1 rfl rfl (by decide) (Nat.zero_le _) (Nat.zero_le _) (Nat.le_of_ble_eq_true rfl) (fun _ => ?_)
  refine x_val (rfl : (txl 24).getD 5 0 = nI 112) ?_
  refine x_cVV (t_writes (k := 112) T (by decide) (by simp only [List.length_append, List.length_cons, List.length_nil]; omega)) okX5_writes clX5 q2366 q2368 qs50 dX5_stockLine_47 (Or.inl T.1) rfl rfl (by decide) (Nat.zero_le _) (Nat.zero_le _) (Nat.le_of_ble_eq_true rfl) (fun _ => ?_)
  refine x_iinc (j := 0) (nI 6) [(1, .int (nI 6)), (0, .ref a)] dX5_stockLine_50 rfl (by decide) (by decide) rfl ?_
  refine x_goto 12 dX5_stockLine_53 (by decide) ?_
  refine x_iload_n dX5_stockLine_12 rfl rfl ?_
  refine x_bipush (nI 6) dX5_stockLine_13 (by decide) ?_
  refine x_icmp_ge 56 dX5_stockLine_15 (by decide) (fun _ => ?_) (fun z => False.elim (by revert z; decide))
  refine x_aload_n dX5_stockLine_56 rfl rfl ?_
  refine tg_signMany T (.inl q2098) dX5_stockLine_57 ?_
  refine x_iret rfl dX5_stockLine_60 ?_
  exact ⟨rfl, rfl⟩
/-- the byte of a packed text by its place 3, 2, 1, 0 (from the left) -/
def pb (x : Int32) (i : Nat) : Nat := (x.toBitVec.toNat >>> (8 * i)) % 256
theorem pb_lt (x : Int32) (i : Nat) : pb x i < 256 := Nat.mod_lt _ (by decide)
def pOk (x : Int32) (i : Nat) : Bool := decide (pb x i = 0) || (decide (32 ≤ pb x i) && decide (pb x i ≤ 126))
def pN (x : Int32) : Nat := (if pb x 3 = 0 then 0 else 1) + (if pb x 2 = 0 then 0 else 1) + (if pb x 1 = 0 then 0 else 1) + (if pb x 0 = 0 then 0 else 1)
/-- the characters of a packed text -/
def pL (x : Int32) : List Int32 := (if pb x 3 = 0 then [] else [nI (pb x 3)]) ++ (if pb x 2 = 0 then [] else [nI (pb x 2)]) ++ (if pb x 1 = 0 then [] else [nI (pb x 1)]) ++ (if pb x 0 = 0 then [] else [nI (pb x 0)])
theorem pb_sh (x : Int32) (i : Nat) (s : Int32) (hs : ((s.toUInt32 &&& Int32.toUInt32 31).toBitVec % 32).toNat = 8 * i) : (x.toUInt32 >>> (s.toUInt32 &&& Int32.toUInt32 31)).toInt32 &&& nI 255 = nI (pb x i) := by
  rw [pk_and _ 8 (by decide), pk_ushr x s (8 * i) hs]
  unfold pb
  rw [Nat.shiftRight_eq_div_pow]
theorem upd_id {f : Nat → Int32} {k : Nat} {v : Int32} (h : f k = v) : upd f k v = f := by
  funext j
  unfold upd
  split
  · next e => rw [e, h]
  · rfl
/-- the input's text t in the cells s -/
def InT (S : Nat → Nat → Int32) (V : Nat → Int32) (t : List Int32) : Prop := (∃ s, S 6 = wrs s t) ∧ V 37 = nI t.length ∧ t.length ≤ 60 ∧ ∀ x ∈ t, ∃ k, x = nI k ∧ k < 128
def sp_append (t : List Int32) (x : Int32) : Nat × Int32 :=
  if (pOk x 3 && pOk x 2 && pOk x 1 && pOk x 0) = false then (1, 0) else if 60 < t.length + pN x then (2, 0) else (0, nI (t.length + pN x))
/-- the reference behind append -/
def twA (h : AH) (a : Nat) (g : Nat → Int32) (S : Nat → Nat → Int32) (V : Nat → Int32) (s : Nat → Int32) (t : List Int32) (x : Int32) : AH :=
  match (sp_append t x).1 with
  | 0 => twh h a g (upS S 6 (wrs s (t ++ pL x))) (upd (upd V 34 (nI 0)) 37 (nI (t.length + pN x)))
  | 1 => twh h a g S (upd V 34 (nI 1))
  | _ => twh h a g S (upd V 34 (nI 2))
def pS (x : Int32) : Nat → Nat
  | 0 => 0
  | i + 1 => pS x i + (if pb x (3 - i) = 0 then 0 else 1)
def pT (t : List Int32) (x : Int32) : Nat → List Int32
  | 0 => t
  | i + 1 => pT t x i ++ (if pb x (3 - i) = 0 then [] else [nI (pb x (3 - i))])
theorem pS_4 (x : Int32) : pS x 4 = pN x := by
  show 0 + (if pb x 3 = 0 then 0 else 1) + (if pb x 2 = 0 then 0 else 1) + (if pb x 1 = 0 then 0 else 1) + (if pb x 0 = 0 then 0 else 1) = _
  unfold pN
  omega
theorem pS_st (x : Int32) (i : Nat) : pS x i ≤ pS x (i + 1) ∧ pS x (i + 1) ≤ pS x i + 1 := by
  show pS x i ≤ pS x i + (if pb x (3 - i) = 0 then 0 else 1) ∧ _
  show _ ∧ pS x i + (if pb x (3 - i) = 0 then 0 else 1) ≤ pS x i + 1
  split <;> omega
theorem pS_1 (x : Int32) (i : Nat) (h : ¬ pb x (3 - i) = 0) : pS x (i + 1) = pS x i + 1 := by
  show pS x i + (if pb x (3 - i) = 0 then 0 else 1) = _
  rw [if_neg h]
theorem pT_4 (t : List Int32) (x : Int32) : pT t x 4 = t ++ pL x := by
  show t ++ (if pb x 3 = 0 then [] else [nI (pb x 3)]) ++ (if pb x 2 = 0 then [] else [nI (pb x 2)]) ++ (if pb x 1 = 0 then [] else [nI (pb x 1)]) ++ (if pb x 0 = 0 then [] else [nI (pb x 0)]) = _
  unfold pL
  simp only [List.append_assoc]
theorem pT_len (t : List Int32) (x : Int32) (i : Nat) : (pT t x i).length = t.length + pS x i := by
  induction i with
  | zero => rfl
  | succ i ih =>
    show (pT t x i ++ (if pb x (3 - i) = 0 then [] else [nI (pb x (3 - i))])).length = t.length + (pS x i + (if pb x (3 - i) = 0 then 0 else 1))
    rw [List.length_append, ih]
    split
    · rfl
    · rfl
theorem t_append {G : GG} {h : AH} {a : Nat} {g : Nat → Int32} {S : Nat → Nat → Int32} {V : Nat → Int32} (T : Tw h a) {s : Nat → Int32} {t : List Int32} (hS : S 6 = wrs s t) (hV : V 37 = nI t.length) (h60 : t.length ≤ 60) {x : Int32} : Cal G kX5_append 1 0 0 [.ref a, .int x] (twh h a g S V) (rI (sp_append t x).2 (twA h a g S V s t x)) := by
  refine Cal.of (by decide +kernel) (Nat.le_of_ble_eq_true rfl) (fun c => ?_)
  have q0 : pS x 0 ≤ pS x 1 ∧ pS x 1 ≤ pS x 0 + 1 := pS_st x 0
  have q1 : pS x 1 ≤ pS x 2 ∧ pS x 2 ≤ pS x 1 + 1 := pS_st x 1
  have q2 : pS x 2 ≤ pS x 3 ∧ pS x 3 ≤ pS x 2 + 1 := pS_st x 2
  have q3 : pS x 3 ≤ pS x 4 ∧ pS x 4 ≤ pS x 3 + 1 := pS_st x 3
  have hN := pS_4 x
  have h00 : pS x 0 = 0 := rfl
  have hpl := fun i => pT_len t x i
  have B4 : pOk x 3 = true → pOk x 2 = true → pOk x 1 = true → pOk x 0 = true → ¬ 60 < t.length + pN x → X G c kX5_append 1 0 0 (rI (sp_append t x).2 (twA h a g S V s t x)) 0 0 (twh h a g (upS S 6 (wrs s (pT t x 4))) (upd (upd V 34 (nI 0)) 37 (nI (pT t x 4).length))) 96 [(3, .int (-8)), (2, .int (nI (pS x 4))), (0, .ref a), (1, .int x)] [] := by
    intro o3 o2 o1 o0 ol
    refine x_iload_n dX5_append_96 rfl rfl ?_
    refine x_if_lt 144 dX5_append_97 (by decide) (fun _ => ?_) (fun z => absurd (by decide) z)
    refine x_aload_n dX5_append_144 rfl rfl ?_
    refine tg_length T (.inl q2094) dX5_append_145 ?_
    refine x_iret rfl dX5_append_148 ?_
    have hs : sp_append t x = (0, nI (t.length + pN x)) := by unfold sp_append; rw [if_neg (by rw [o3, o2, o1, o0]; decide), if_neg ol]
    have e1 : (pT t x 4).length = t.length + pN x := by rw [hpl, pS_4]
    rw [e1, pT_4]
    exact ⟨by rw [hs]; exact congrArg (fun z => Sum.inl (some (Value.int z))) pk_us, by unfold twA; rw [hs]; rfl⟩
  have B3 : pOk x 3 = true → pOk x 2 = true → pOk x 1 = true → pOk x 0 = true → ¬ 60 < t.length + pN x → X G c kX5_append 1 0 0 (rI (sp_append t x).2 (twA h a g S V s t x)) 0 0 (twh h a g (upS S 6 (wrs s (pT t x 3))) (upd (upd V 34 (nI 0)) 37 (nI (pT t x 3).length))) 96 [(3, .int (nI 0)), (2, .int (nI (pS x 4))), (0, .ref a), (1, .int x)] [] := by
    intro o3 o2 o1 o0 ol
    refine x_iload_n dX5_append_96 rfl rfl ?_
    refine x_if_lt 144 dX5_append_97 (by decide) (fun z => False.elim (by revert z; decide)) (fun _ => ?_)
    refine x_iload_n dX5_append_100 rfl rfl ?_
    refine x_iload_n dX5_append_101 rfl rfl ?_
    refine x_iushr (v := (x.toUInt32 >>> ((nI 0).toUInt32 &&& Int32.toUInt32 31)).toInt32) dX5_append_102 rfl ?_
    refine x_sipush (nI 255) dX5_append_103 (by decide) ?_
    refine x_iand dX5_append_106 ?_
    refine x_val (pb_sh x 0 (nI 0) (by decide)) ?_
    refine x_istore [(4, .int (nI (pb x 0))), (3, .int (nI 0)), (2, .int (nI (pS x 4))), (0, .ref a), (1, .int x)] dX5_append_107 (by decide) rfl ?_
    refine x_iload dX5_append_109 rfl ?_
    have hb := pb_lt x 0
    refine x_if_ne 117 dX5_append_111 (by decide) (fun e1 => ?_) (fun e1 => ?_)
    · skip
      refine x_aload_n dX5_append_117 rfl rfl ?_
      refine tg_input T (.inl q2093) dX5_append_118 ?_
      refine x_aload_n dX5_append_121 rfl rfl ?_
      refine tg_length T (.inl q2094) dX5_append_122 ?_
      refine x_iload dX5_append_125 rfl ?_
      refine tst6 T rfl (by have h1 := hpl 3; have h2 : pS x 4 = pS x 3 + 1 := pS_1 x 3 (fun z => e1 (by rw [z]; rfl)); rw [h1]; omega) dX5_append_127 ?_
      refine x_aload_n dX5_append_128 rfl rfl ?_
      refine x_dup dX5_append_129 rfl ?_
      refine tg_length T (.inl q2094) dX5_append_130 ?_
      refine x_iconst (nI 1) dX5_append_133 (by decide) ?_
      refine x_iadd dX5_append_134 ?_
      refine x_val (nI_add _ _) ?_
      refine tp_length T (.inl q2094) dX5_append_135 ?_
      refine x_iinc (j := 1) ((nI 0) + (-8)) [(3, .int ((nI 0) + (-8))), (4, .int (nI (pb x 0))), (2, .int (nI (pS x 4))), (0, .ref a), (1, .int x)] dX5_append_138 rfl rfl (by decide) rfl ?_
      refine x_goto 96 dX5_append_141 (by decide) ?_
      have hz : ¬ pb x 0 = 0 := fun z => e1 (by rw [z]; rfl)
      have hT : pT t x 4 = pT t x 3 ++ [nI (pb x 0)] := by show pT t x 3 ++ (if pb x 0 = 0 then [] else [nI (pb x 0)]) = _; rw [if_neg hz]
      refine x_eq (h' := twh h a g (upS S 6 (wrs s (pT t x 4))) (upd (upd V 34 (nI 0)) 37 (nI (pT t x 4).length))) (by rw [hT, upS_upS, upS_s, wrs_app, upd_uu]; simp) rfl rfl ?_
      refine x_sub [0, 2, 3, 4] (lv' := [(3, .int (-8)), (2, .int (nI (pS x 4))), (0, .ref a), (1, .int x)]) rfl ?_
      exact B4 o3 o2 o1 o0 ol
    · skip
      refine x_goto 138 dX5_append_114 (by decide) ?_
      refine x_iinc (j := 1) ((nI 0) + (-8)) [(3, .int ((nI 0) + (-8))), (4, .int (nI (pb x 0))), (2, .int (nI (pS x 4))), (0, .ref a), (1, .int x)] dX5_append_138 rfl rfl (by decide) rfl ?_
      refine x_goto 96 dX5_append_141 (by decide) ?_
      have hz : pb x 0 = 0 := (nI_eq (by omega) (by decide)).mp e1
      have hT : pT t x 4 = pT t x 3 := by show pT t x 3 ++ (if pb x 0 = 0 then [] else [nI (pb x 0)]) = _; rw [if_pos hz, List.append_nil]
      refine x_eq (h' := twh h a g (upS S 6 (wrs s (pT t x 4))) (upd (upd V 34 (nI 0)) 37 (nI (pT t x 4).length))) (by rw [hT]) rfl rfl ?_
      refine x_sub [0, 2, 3, 4] (lv' := [(3, .int (-8)), (2, .int (nI (pS x 4))), (0, .ref a), (1, .int x)]) rfl ?_
      exact B4 o3 o2 o1 o0 ol
  have B2 : pOk x 3 = true → pOk x 2 = true → pOk x 1 = true → pOk x 0 = true → ¬ 60 < t.length + pN x → X G c kX5_append 1 0 0 (rI (sp_append t x).2 (twA h a g S V s t x)) 0 0 (twh h a g (upS S 6 (wrs s (pT t x 2))) (upd (upd V 34 (nI 0)) 37 (nI (pT t x 2).length))) 96 [(3, .int (nI 8)), (2, .int (nI (pS x 4))), (0, .ref a), (1, .int x)] [] := by
    intro o3 o2 o1 o0 ol
    refine x_iload_n dX5_append_96 rfl rfl ?_
    refine x_if_lt 144 dX5_append_97 (by decide) (fun z => False.elim (by revert z; decide)) (fun _ => ?_)
    refine x_iload_n dX5_append_100 rfl rfl ?_
    refine x_iload_n dX5_append_101 rfl rfl ?_
    refine x_iushr (v := (x.toUInt32 >>> ((nI 8).toUInt32 &&& Int32.toUInt32 31)).toInt32) dX5_append_102 rfl ?_
    refine x_sipush (nI 255) dX5_append_103 (by decide) ?_
    refine x_iand dX5_append_106 ?_
    refine x_val (pb_sh x 1 (nI 8) (by decide)) ?_
    refine x_istore [(4, .int (nI (pb x 1))), (3, .int (nI 8)), (2, .int (nI (pS x 4))), (0, .ref a), (1, .int x)] dX5_append_107 (by decide) rfl ?_
    refine x_iload dX5_append_109 rfl ?_
    have hb := pb_lt x 1
    refine x_if_ne 117 dX5_append_111 (by decide) (fun e1 => ?_) (fun e1 => ?_)
    · skip
      refine x_aload_n dX5_append_117 rfl rfl ?_
      refine tg_input T (.inl q2093) dX5_append_118 ?_
      refine x_aload_n dX5_append_121 rfl rfl ?_
      refine tg_length T (.inl q2094) dX5_append_122 ?_
      refine x_iload dX5_append_125 rfl ?_
      refine tst6 T rfl (by have h1 := hpl 2; have h2 : pS x 3 = pS x 2 + 1 := pS_1 x 2 (fun z => e1 (by rw [z]; rfl)); rw [h1]; omega) dX5_append_127 ?_
      refine x_aload_n dX5_append_128 rfl rfl ?_
      refine x_dup dX5_append_129 rfl ?_
      refine tg_length T (.inl q2094) dX5_append_130 ?_
      refine x_iconst (nI 1) dX5_append_133 (by decide) ?_
      refine x_iadd dX5_append_134 ?_
      refine x_val (nI_add _ _) ?_
      refine tp_length T (.inl q2094) dX5_append_135 ?_
      refine x_iinc (j := 1) (nI 0) [(3, .int (nI 0)), (4, .int (nI (pb x 1))), (2, .int (nI (pS x 4))), (0, .ref a), (1, .int x)] dX5_append_138 rfl (by decide) (by decide) rfl ?_
      refine x_goto 96 dX5_append_141 (by decide) ?_
      have hz : ¬ pb x 1 = 0 := fun z => e1 (by rw [z]; rfl)
      have hT : pT t x 3 = pT t x 2 ++ [nI (pb x 1)] := by show pT t x 2 ++ (if pb x 1 = 0 then [] else [nI (pb x 1)]) = _; rw [if_neg hz]
      refine x_eq (h' := twh h a g (upS S 6 (wrs s (pT t x 3))) (upd (upd V 34 (nI 0)) 37 (nI (pT t x 3).length))) (by rw [hT, upS_upS, upS_s, wrs_app, upd_uu]; simp) rfl rfl ?_
      refine x_sub [0, 2, 3, 4] (lv' := [(3, .int (nI 0)), (2, .int (nI (pS x 4))), (0, .ref a), (1, .int x)]) rfl ?_
      exact B3 o3 o2 o1 o0 ol
    · skip
      refine x_goto 138 dX5_append_114 (by decide) ?_
      refine x_iinc (j := 1) (nI 0) [(3, .int (nI 0)), (4, .int (nI (pb x 1))), (2, .int (nI (pS x 4))), (0, .ref a), (1, .int x)] dX5_append_138 rfl (by decide) (by decide) rfl ?_
      refine x_goto 96 dX5_append_141 (by decide) ?_
      have hz : pb x 1 = 0 := (nI_eq (by omega) (by decide)).mp e1
      have hT : pT t x 3 = pT t x 2 := by show pT t x 2 ++ (if pb x 1 = 0 then [] else [nI (pb x 1)]) = _; rw [if_pos hz, List.append_nil]
      refine x_eq (h' := twh h a g (upS S 6 (wrs s (pT t x 3))) (upd (upd V 34 (nI 0)) 37 (nI (pT t x 3).length))) (by rw [hT]) rfl rfl ?_
      refine x_sub [0, 2, 3, 4] (lv' := [(3, .int (nI 0)), (2, .int (nI (pS x 4))), (0, .ref a), (1, .int x)]) rfl ?_
      exact B3 o3 o2 o1 o0 ol
  have B1 : pOk x 3 = true → pOk x 2 = true → pOk x 1 = true → pOk x 0 = true → ¬ 60 < t.length + pN x → X G c kX5_append 1 0 0 (rI (sp_append t x).2 (twA h a g S V s t x)) 0 0 (twh h a g (upS S 6 (wrs s (pT t x 1))) (upd (upd V 34 (nI 0)) 37 (nI (pT t x 1).length))) 96 [(3, .int (nI 16)), (2, .int (nI (pS x 4))), (0, .ref a), (1, .int x)] [] := by
    intro o3 o2 o1 o0 ol
    refine x_iload_n dX5_append_96 rfl rfl ?_
    refine x_if_lt 144 dX5_append_97 (by decide) (fun z => False.elim (by revert z; decide)) (fun _ => ?_)
    refine x_iload_n dX5_append_100 rfl rfl ?_
    refine x_iload_n dX5_append_101 rfl rfl ?_
    refine x_iushr (v := (x.toUInt32 >>> ((nI 16).toUInt32 &&& Int32.toUInt32 31)).toInt32) dX5_append_102 rfl ?_
    refine x_sipush (nI 255) dX5_append_103 (by decide) ?_
    refine x_iand dX5_append_106 ?_
    refine x_val (pb_sh x 2 (nI 16) (by decide)) ?_
    refine x_istore [(4, .int (nI (pb x 2))), (3, .int (nI 16)), (2, .int (nI (pS x 4))), (0, .ref a), (1, .int x)] dX5_append_107 (by decide) rfl ?_
    refine x_iload dX5_append_109 rfl ?_
    have hb := pb_lt x 2
    refine x_if_ne 117 dX5_append_111 (by decide) (fun e1 => ?_) (fun e1 => ?_)
    · skip
      refine x_aload_n dX5_append_117 rfl rfl ?_
      refine tg_input T (.inl q2093) dX5_append_118 ?_
      refine x_aload_n dX5_append_121 rfl rfl ?_
      refine tg_length T (.inl q2094) dX5_append_122 ?_
      refine x_iload dX5_append_125 rfl ?_
      refine tst6 T rfl (by have h1 := hpl 1; have h2 : pS x 2 = pS x 1 + 1 := pS_1 x 1 (fun z => e1 (by rw [z]; rfl)); rw [h1]; omega) dX5_append_127 ?_
      refine x_aload_n dX5_append_128 rfl rfl ?_
      refine x_dup dX5_append_129 rfl ?_
      refine tg_length T (.inl q2094) dX5_append_130 ?_
      refine x_iconst (nI 1) dX5_append_133 (by decide) ?_
      refine x_iadd dX5_append_134 ?_
      refine x_val (nI_add _ _) ?_
      refine tp_length T (.inl q2094) dX5_append_135 ?_
      refine x_iinc (j := 1) (nI 8) [(3, .int (nI 8)), (4, .int (nI (pb x 2))), (2, .int (nI (pS x 4))), (0, .ref a), (1, .int x)] dX5_append_138 rfl (by decide) (by decide) rfl ?_
      refine x_goto 96 dX5_append_141 (by decide) ?_
      have hz : ¬ pb x 2 = 0 := fun z => e1 (by rw [z]; rfl)
      have hT : pT t x 2 = pT t x 1 ++ [nI (pb x 2)] := by show pT t x 1 ++ (if pb x 2 = 0 then [] else [nI (pb x 2)]) = _; rw [if_neg hz]
      refine x_eq (h' := twh h a g (upS S 6 (wrs s (pT t x 2))) (upd (upd V 34 (nI 0)) 37 (nI (pT t x 2).length))) (by rw [hT, upS_upS, upS_s, wrs_app, upd_uu]; simp) rfl rfl ?_
      refine x_sub [0, 2, 3, 4] (lv' := [(3, .int (nI 8)), (2, .int (nI (pS x 4))), (0, .ref a), (1, .int x)]) rfl ?_
      exact B2 o3 o2 o1 o0 ol
    · skip
      refine x_goto 138 dX5_append_114 (by decide) ?_
      refine x_iinc (j := 1) (nI 8) [(3, .int (nI 8)), (4, .int (nI (pb x 2))), (2, .int (nI (pS x 4))), (0, .ref a), (1, .int x)] dX5_append_138 rfl (by decide) (by decide) rfl ?_
      refine x_goto 96 dX5_append_141 (by decide) ?_
      have hz : pb x 2 = 0 := (nI_eq (by omega) (by decide)).mp e1
      have hT : pT t x 2 = pT t x 1 := by show pT t x 1 ++ (if pb x 2 = 0 then [] else [nI (pb x 2)]) = _; rw [if_pos hz, List.append_nil]
      refine x_eq (h' := twh h a g (upS S 6 (wrs s (pT t x 2))) (upd (upd V 34 (nI 0)) 37 (nI (pT t x 2).length))) (by rw [hT]) rfl rfl ?_
      refine x_sub [0, 2, 3, 4] (lv' := [(3, .int (nI 8)), (2, .int (nI (pS x 4))), (0, .ref a), (1, .int x)]) rfl ?_
      exact B2 o3 o2 o1 o0 ol
  have B0 : pOk x 3 = true → pOk x 2 = true → pOk x 1 = true → pOk x 0 = true → ¬ 60 < t.length + pN x → X G c kX5_append 1 0 0 (rI (sp_append t x).2 (twA h a g S V s t x)) 0 0 (twh h a g (upS S 6 (wrs s (pT t x 0))) (upd (upd V 34 (nI 0)) 37 (nI (pT t x 0).length))) 96 [(3, .int (nI 24)), (2, .int (nI (pS x 4))), (0, .ref a), (1, .int x)] [] := by
    intro o3 o2 o1 o0 ol
    refine x_iload_n dX5_append_96 rfl rfl ?_
    refine x_if_lt 144 dX5_append_97 (by decide) (fun z => False.elim (by revert z; decide)) (fun _ => ?_)
    refine x_iload_n dX5_append_100 rfl rfl ?_
    refine x_iload_n dX5_append_101 rfl rfl ?_
    refine x_iushr (v := (x.toUInt32 >>> ((nI 24).toUInt32 &&& Int32.toUInt32 31)).toInt32) dX5_append_102 rfl ?_
    refine x_sipush (nI 255) dX5_append_103 (by decide) ?_
    refine x_iand dX5_append_106 ?_
    refine x_val (pb_sh x 3 (nI 24) (by decide)) ?_
    refine x_istore [(4, .int (nI (pb x 3))), (3, .int (nI 24)), (2, .int (nI (pS x 4))), (0, .ref a), (1, .int x)] dX5_append_107 (by decide) rfl ?_
    refine x_iload dX5_append_109 rfl ?_
    have hb := pb_lt x 3
    refine x_if_ne 117 dX5_append_111 (by decide) (fun e1 => ?_) (fun e1 => ?_)
    · skip
      refine x_aload_n dX5_append_117 rfl rfl ?_
      refine tg_input T (.inl q2093) dX5_append_118 ?_
      refine x_aload_n dX5_append_121 rfl rfl ?_
      refine tg_length T (.inl q2094) dX5_append_122 ?_
      refine x_iload dX5_append_125 rfl ?_
      refine tst6 T rfl (by have h1 := hpl 0; have h2 : pS x 1 = pS x 0 + 1 := pS_1 x 0 (fun z => e1 (by rw [z]; rfl)); rw [h1]; omega) dX5_append_127 ?_
      refine x_aload_n dX5_append_128 rfl rfl ?_
      refine x_dup dX5_append_129 rfl ?_
      refine tg_length T (.inl q2094) dX5_append_130 ?_
      refine x_iconst (nI 1) dX5_append_133 (by decide) ?_
      refine x_iadd dX5_append_134 ?_
      refine x_val (nI_add _ _) ?_
      refine tp_length T (.inl q2094) dX5_append_135 ?_
      refine x_iinc (j := 1) (nI 16) [(3, .int (nI 16)), (4, .int (nI (pb x 3))), (2, .int (nI (pS x 4))), (0, .ref a), (1, .int x)] dX5_append_138 rfl (by decide) (by decide) rfl ?_
      refine x_goto 96 dX5_append_141 (by decide) ?_
      have hz : ¬ pb x 3 = 0 := fun z => e1 (by rw [z]; rfl)
      have hT : pT t x 1 = pT t x 0 ++ [nI (pb x 3)] := by show pT t x 0 ++ (if pb x 3 = 0 then [] else [nI (pb x 3)]) = _; rw [if_neg hz]
      refine x_eq (h' := twh h a g (upS S 6 (wrs s (pT t x 1))) (upd (upd V 34 (nI 0)) 37 (nI (pT t x 1).length))) (by rw [hT, upS_upS, upS_s, wrs_app, upd_uu]; simp) rfl rfl ?_
      refine x_sub [0, 2, 3, 4] (lv' := [(3, .int (nI 16)), (2, .int (nI (pS x 4))), (0, .ref a), (1, .int x)]) rfl ?_
      exact B1 o3 o2 o1 o0 ol
    · skip
      refine x_goto 138 dX5_append_114 (by decide) ?_
      refine x_iinc (j := 1) (nI 16) [(3, .int (nI 16)), (4, .int (nI (pb x 3))), (2, .int (nI (pS x 4))), (0, .ref a), (1, .int x)] dX5_append_138 rfl (by decide) (by decide) rfl ?_
      refine x_goto 96 dX5_append_141 (by decide) ?_
      have hz : pb x 3 = 0 := (nI_eq (by omega) (by decide)).mp e1
      have hT : pT t x 1 = pT t x 0 := by show pT t x 0 ++ (if pb x 3 = 0 then [] else [nI (pb x 3)]) = _; rw [if_pos hz, List.append_nil]
      refine x_eq (h' := twh h a g (upS S 6 (wrs s (pT t x 1))) (upd (upd V 34 (nI 0)) 37 (nI (pT t x 1).length))) (by rw [hT]) rfl rfl ?_
      refine x_sub [0, 2, 3, 4] (lv' := [(3, .int (nI 16)), (2, .int (nI (pS x 4))), (0, .ref a), (1, .int x)]) rfl ?_
      exact B1 o3 o2 o1 o0 ol
  have A4 : pOk x 3 = true → pOk x 2 = true → pOk x 1 = true → pOk x 0 = true → X G c kX5_append 1 0 0 (rI (sp_append t x).2 (twA h a g S V s t x)) 0 0 (twh h a g S (upd V 34 (nI 0))) 68 [(3, .int (-8)), (2, .int (nI (pS x 4))), (0, .ref a), (1, .int x)] [] := by
    intro o3 o2 o1 o0
    refine x_aload_n dX5_append_68 rfl rfl ?_
    refine x_aload_n dX5_append_69 rfl rfl ?_
    refine tg_length T (.inl q2094) dX5_append_70 ?_
    refine x_val ((pk_un (by decide)).trans hV : upd V 34 (nI 0) 37 = nI t.length) ?_
    refine x_iload_n dX5_append_73 rfl rfl ?_
    refine x_iadd dX5_append_74 ?_
    refine x_val (nI_add _ _) ?_
    refine x_bipush (nI 60) dX5_append_75 (by decide) ?_
    refine x_icmp_le 84 dX5_append_77 (by decide) (fun e1 => ?_) (fun e1 => ?_)
    · skip
      have ne1 := e1
      rw [nI_leI (by omega) (by omega)] at ne1
      refine x_iconst (nI 0) dX5_append_84 (by decide) ?_
      refine x_cVI (t_fails0 T) okX5_fails clX5 q2159 q2161 qs23 dX5_append_85 (Or.inl T.1) rfl rfl (by decide) (Nat.zero_le _) (Nat.zero_le _) (Nat.le_of_ble_eq_true rfl) (fun _ => ?_)
      refine x_if_eq 93 dX5_append_88 (by decide) (fun _ => ?_) (fun z => False.elim (by revert z; decide))
      refine x_bipush (nI 24) dX5_append_93 (by decide) ?_
      refine x_istore_n [(3, .int (nI 24)), (2, .int (nI (pS x 4))), (0, .ref a), (1, .int x)] dX5_append_95 rfl (by decide) rfl ?_
      refine x_eq (h' := twh h a g (upS S 6 (wrs s (pT t x 0))) (upd (upd V 34 (nI 0)) 37 (nI (pT t x 0).length))) (by rw [show pT t x 0 = t from rfl, ← hS, upS_id, upd_uu, upd_id ((pk_un (by decide)).trans hV)]) rfl rfl ?_
      refine x_sub [0, 1, 2, 3] (lv' := [(3, .int (nI 24)), (2, .int (nI (pS x 4))), (0, .ref a), (1, .int x)]) rfl ?_
      exact B0 o3 o2 o1 o0 (by omega)
    · skip
      have ne1 := e1
      rw [nI_leI (by omega) (by omega)] at ne1
      refine x_iconst (nI 2) dX5_append_80 (by decide) ?_
      refine x_goto 85 dX5_append_81 (by decide) ?_
      refine x_cVI (t_fails2 T) okX5_fails clX5 q2159 q2161 qs23 dX5_append_85 (Or.inl T.1) rfl rfl (by decide) (Nat.zero_le _) (Nat.zero_le _) (Nat.le_of_ble_eq_true rfl) (fun _ => ?_)
      refine x_if_eq 93 dX5_append_88 (by decide) (fun z => False.elim (by revert z; decide)) (fun _ => ?_)
      refine x_iconst (nI 0) dX5_append_91 (by decide) ?_
      refine x_iret rfl dX5_append_92 ?_
      have hs : sp_append t x = (2, 0) := by unfold sp_append; rw [if_neg (by rw [o3, o2, o1, o0]; decide), if_pos (by omega)]
      exact ⟨by rw [hs]; rfl, by unfold twA; rw [hs, upd_uu]; rfl⟩
  have A3 : pOk x 3 = true → pOk x 2 = true → pOk x 1 = true → X G c kX5_append 1 0 0 (rI (sp_append t x).2 (twA h a g S V s t x)) 0 0 (twh h a g S (upd V 34 (nI 0))) 5 [(3, .int (nI 0)), (2, .int (nI (pS x 3))), (0, .ref a), (1, .int x)] [] := by
    intro o3 o2 o1
    have hb := pb_lt x 0
    refine x_iload_n dX5_append_5 rfl rfl ?_
    refine x_if_lt 68 dX5_append_6 (by decide) (fun z => False.elim (by revert z; decide)) (fun _ => ?_)
    refine x_iload_n dX5_append_9 rfl rfl ?_
    refine x_iload_n dX5_append_10 rfl rfl ?_
    refine x_iushr (v := (x.toUInt32 >>> ((nI 0).toUInt32 &&& Int32.toUInt32 31)).toInt32) dX5_append_11 rfl ?_
    refine x_sipush (nI 255) dX5_append_12 (by decide) ?_
    refine x_iand dX5_append_15 ?_
    refine x_val (pb_sh x 0 (nI 0) (by decide)) ?_
    refine x_istore [(4, .int (nI (pb x 0))), (3, .int (nI 0)), (2, .int (nI (pS x 3))), (0, .ref a), (1, .int x)] dX5_append_16 (by decide) rfl ?_
    refine x_aload_n dX5_append_18 rfl rfl ?_
    refine x_iload dX5_append_19 rfl ?_
    refine x_if_eq 36 dX5_append_21 (by decide) (fun e1 => ?_) (fun e1 => ?_)
    · skip
      have hz : pb x 0 = 0 := (nI_eq (by omega) (by decide)).mp e1
      have ho : pOk x 0 = true := by unfold pOk; rw [decide_eq_true hz]; rfl
      refine x_iconst (nI 0) dX5_append_36 (by decide) ?_
      refine x_goto 41 dX5_append_37 (by decide) ?_
      refine x_cVI (t_fails0 T) okX5_fails clX5 q2159 q2161 qs23 dX5_append_41 (Or.inl T.1) rfl rfl (by decide) (Nat.zero_le _) (Nat.zero_le _) (Nat.le_of_ble_eq_true rfl) (fun _ => ?_)
      refine x_if_eq 49 dX5_append_44 (by decide) (fun _ => ?_) (fun z => False.elim (by revert z; decide))
      refine x_iload_n dX5_append_49 rfl rfl ?_
      refine x_iload dX5_append_50 rfl ?_
      refine x_if_ne 59 dX5_append_52 (by decide) (fun z => absurd e1 z) (fun _ => ?_)
      refine x_iconst (nI 0) dX5_append_55 (by decide) ?_
      refine x_goto 60 dX5_append_56 (by decide) ?_
      refine x_iadd dX5_append_60 ?_
      refine x_val (nI_add _ _) ?_
      refine x_istore_n [(2, .int (nI ((pS x 3) + 0))), (4, .int (nI (pb x 0))), (3, .int (nI 0)), (0, .ref a), (1, .int x)] dX5_append_61 rfl (by decide) rfl ?_
      refine x_iinc (j := 2) ((nI 0) + (-8)) [(3, .int ((nI 0) + (-8))), (2, .int (nI ((pS x 3) + 0))), (4, .int (nI (pb x 0))), (0, .ref a), (1, .int x)] dX5_append_62 rfl rfl (by decide) rfl ?_
      refine x_goto 5 dX5_append_65 (by decide) ?_
      have hp : pS x 4 = pS x 3 + 0 := by show pS x 3 + (if pb x 0 = 0 then 0 else 1) = _; rw [if_pos hz]
      refine x_eq (h' := twh h a g S (upd V 34 (nI 0))) (by rw [upd_uu]) rfl rfl ?_
      refine x_sub [0, 1, 3, 4] (lv' := [(3, .int (-8)), (2, .int (nI (pS x 3 + 0))), (0, .ref a), (1, .int x)]) rfl ?_
      rw [← hp]
      refine x_iload_n dX5_append_5 rfl rfl ?_
      refine x_if_lt 68 dX5_append_6 (by decide) (fun _ => ?_) (fun z => absurd (by decide) z)
      exact A4 o3 o2 o1 ho
    · skip
      have hz : ¬ pb x 0 = 0 := fun z => e1 (by rw [z]; rfl)
      refine x_iload dX5_append_24 rfl ?_
      refine x_bipush (nI 32) dX5_append_26 (by decide) ?_
      refine x_bipush (nI 126) dX5_append_28 (by decide) ?_
      refine x_cSI t_in okX5_in q2156 q2157 dX5_append_30 rfl rfl (by decide) (Nat.zero_le _) (Nat.zero_le _) (Nat.le_of_ble_eq_true rfl) (fun _ => ?_)
      refine x_if_eqB 40 dX5_append_33 (by decide) (fun e1 => ?_) (fun e1 => ?_)
      · skip
        have ho : pOk x 0 = false := by
          unfold inB at e1
          rw [Bool.and_eq_false_iff, decide_eq_false_iff_not, decide_eq_false_iff_not, nI_leI (by decide) (by omega), nI_leI (by omega) (by decide)] at e1
          unfold pOk
          rw [decide_eq_false hz, Bool.false_or, Bool.and_eq_false_iff, decide_eq_false_iff_not, decide_eq_false_iff_not]
          exact e1
        refine x_iconst (nI 1) dX5_append_40 (by decide) ?_
        refine x_cVI (t_fails1 T) okX5_fails clX5 q2159 q2161 qs23 dX5_append_41 (Or.inl T.1) rfl rfl (by decide) (Nat.zero_le _) (Nat.zero_le _) (Nat.le_of_ble_eq_true rfl) (fun _ => ?_)
        refine x_if_eq 49 dX5_append_44 (by decide) (fun z => False.elim (by revert z; decide)) (fun _ => ?_)
        refine x_iconst (nI 0) dX5_append_47 (by decide) ?_
        refine x_iret rfl dX5_append_48 ?_
        have hs : sp_append t x = (1, 0) := by unfold sp_append; rw [if_pos (by rw [ho]; simp)]
        exact ⟨by rw [hs]; rfl, by unfold twA; rw [hs, upd_uu]; rfl⟩
      · skip
        have ho : pOk x 0 = true := by
          unfold inB at e1
          rw [Bool.and_eq_true, decide_eq_true_eq, decide_eq_true_eq, nI_leI (by decide) (by omega), nI_leI (by omega) (by decide)] at e1
          unfold pOk
          rw [decide_eq_true e1.1, decide_eq_true e1.2, Bool.and_true, Bool.or_true]
        refine x_iconst (nI 0) dX5_append_36 (by decide) ?_
        refine x_goto 41 dX5_append_37 (by decide) ?_
        refine x_cVI (t_fails0 T) okX5_fails clX5 q2159 q2161 qs23 dX5_append_41 (Or.inl T.1) rfl rfl (by decide) (Nat.zero_le _) (Nat.zero_le _) (Nat.le_of_ble_eq_true rfl) (fun _ => ?_)
        refine x_if_eq 49 dX5_append_44 (by decide) (fun _ => ?_) (fun z => False.elim (by revert z; decide))
        refine x_iload_n dX5_append_49 rfl rfl ?_
        refine x_iload dX5_append_50 rfl ?_
        refine x_if_ne 59 dX5_append_52 (by decide) (fun _ => ?_) (fun z => absurd ((nI_eq (by omega) (by decide)).mp z) hz)
        refine x_iconst (nI 1) dX5_append_59 (by decide) ?_
        refine x_iadd dX5_append_60 ?_
        refine x_val (nI_add _ _) ?_
        refine x_istore_n [(2, .int (nI ((pS x 3) + 1))), (4, .int (nI (pb x 0))), (3, .int (nI 0)), (0, .ref a), (1, .int x)] dX5_append_61 rfl (by decide) rfl ?_
        refine x_iinc (j := 2) ((nI 0) + (-8)) [(3, .int ((nI 0) + (-8))), (2, .int (nI ((pS x 3) + 1))), (4, .int (nI (pb x 0))), (0, .ref a), (1, .int x)] dX5_append_62 rfl rfl (by decide) rfl ?_
        refine x_goto 5 dX5_append_65 (by decide) ?_
        have hp : pS x 4 = pS x 3 + 1 := by show pS x 3 + (if pb x 0 = 0 then 0 else 1) = _; rw [if_neg hz]
        refine x_eq (h' := twh h a g S (upd V 34 (nI 0))) (by rw [upd_uu]) rfl rfl ?_
        refine x_sub [0, 1, 3, 4] (lv' := [(3, .int (-8)), (2, .int (nI (pS x 3 + 1))), (0, .ref a), (1, .int x)]) rfl ?_
        rw [← hp]
        refine x_iload_n dX5_append_5 rfl rfl ?_
        refine x_if_lt 68 dX5_append_6 (by decide) (fun _ => ?_) (fun z => absurd (by decide) z)
        exact A4 o3 o2 o1 ho
  have A2 : pOk x 3 = true → pOk x 2 = true → X G c kX5_append 1 0 0 (rI (sp_append t x).2 (twA h a g S V s t x)) 0 0 (twh h a g S (upd V 34 (nI 0))) 5 [(3, .int (nI 8)), (2, .int (nI (pS x 2))), (0, .ref a), (1, .int x)] [] := by
    intro o3 o2
    have hb := pb_lt x 1
    refine x_iload_n dX5_append_5 rfl rfl ?_
    refine x_if_lt 68 dX5_append_6 (by decide) (fun z => False.elim (by revert z; decide)) (fun _ => ?_)
    refine x_iload_n dX5_append_9 rfl rfl ?_
    refine x_iload_n dX5_append_10 rfl rfl ?_
    refine x_iushr (v := (x.toUInt32 >>> ((nI 8).toUInt32 &&& Int32.toUInt32 31)).toInt32) dX5_append_11 rfl ?_
    refine x_sipush (nI 255) dX5_append_12 (by decide) ?_
    refine x_iand dX5_append_15 ?_
    refine x_val (pb_sh x 1 (nI 8) (by decide)) ?_
    refine x_istore [(4, .int (nI (pb x 1))), (3, .int (nI 8)), (2, .int (nI (pS x 2))), (0, .ref a), (1, .int x)] dX5_append_16 (by decide) rfl ?_
    refine x_aload_n dX5_append_18 rfl rfl ?_
    refine x_iload dX5_append_19 rfl ?_
    refine x_if_eq 36 dX5_append_21 (by decide) (fun e1 => ?_) (fun e1 => ?_)
    · skip
      have hz : pb x 1 = 0 := (nI_eq (by omega) (by decide)).mp e1
      have ho : pOk x 1 = true := by unfold pOk; rw [decide_eq_true hz]; rfl
      refine x_iconst (nI 0) dX5_append_36 (by decide) ?_
      refine x_goto 41 dX5_append_37 (by decide) ?_
      refine x_cVI (t_fails0 T) okX5_fails clX5 q2159 q2161 qs23 dX5_append_41 (Or.inl T.1) rfl rfl (by decide) (Nat.zero_le _) (Nat.zero_le _) (Nat.le_of_ble_eq_true rfl) (fun _ => ?_)
      refine x_if_eq 49 dX5_append_44 (by decide) (fun _ => ?_) (fun z => False.elim (by revert z; decide))
      refine x_iload_n dX5_append_49 rfl rfl ?_
      refine x_iload dX5_append_50 rfl ?_
      refine x_if_ne 59 dX5_append_52 (by decide) (fun z => absurd e1 z) (fun _ => ?_)
      refine x_iconst (nI 0) dX5_append_55 (by decide) ?_
      refine x_goto 60 dX5_append_56 (by decide) ?_
      refine x_iadd dX5_append_60 ?_
      refine x_val (nI_add _ _) ?_
      refine x_istore_n [(2, .int (nI ((pS x 2) + 0))), (4, .int (nI (pb x 1))), (3, .int (nI 8)), (0, .ref a), (1, .int x)] dX5_append_61 rfl (by decide) rfl ?_
      refine x_iinc (j := 2) (nI 0) [(3, .int (nI 0)), (2, .int (nI ((pS x 2) + 0))), (4, .int (nI (pb x 1))), (0, .ref a), (1, .int x)] dX5_append_62 rfl (by decide) (by decide) rfl ?_
      refine x_goto 5 dX5_append_65 (by decide) ?_
      have hp : pS x 3 = pS x 2 + 0 := by show pS x 2 + (if pb x 1 = 0 then 0 else 1) = _; rw [if_pos hz]
      refine x_eq (h' := twh h a g S (upd V 34 (nI 0))) (by rw [upd_uu]) rfl rfl ?_
      refine x_sub [0, 1, 3, 4] (lv' := [(3, .int (nI 0)), (2, .int (nI (pS x 2 + 0))), (0, .ref a), (1, .int x)]) rfl ?_
      rw [← hp]
      exact A3 o3 o2 ho
    · skip
      have hz : ¬ pb x 1 = 0 := fun z => e1 (by rw [z]; rfl)
      refine x_iload dX5_append_24 rfl ?_
      refine x_bipush (nI 32) dX5_append_26 (by decide) ?_
      refine x_bipush (nI 126) dX5_append_28 (by decide) ?_
      refine x_cSI t_in okX5_in q2156 q2157 dX5_append_30 rfl rfl (by decide) (Nat.zero_le _) (Nat.zero_le _) (Nat.le_of_ble_eq_true rfl) (fun _ => ?_)
      refine x_if_eqB 40 dX5_append_33 (by decide) (fun e1 => ?_) (fun e1 => ?_)
      · skip
        have ho : pOk x 1 = false := by
          unfold inB at e1
          rw [Bool.and_eq_false_iff, decide_eq_false_iff_not, decide_eq_false_iff_not, nI_leI (by decide) (by omega), nI_leI (by omega) (by decide)] at e1
          unfold pOk
          rw [decide_eq_false hz, Bool.false_or, Bool.and_eq_false_iff, decide_eq_false_iff_not, decide_eq_false_iff_not]
          exact e1
        refine x_iconst (nI 1) dX5_append_40 (by decide) ?_
        refine x_cVI (t_fails1 T) okX5_fails clX5 q2159 q2161 qs23 dX5_append_41 (Or.inl T.1) rfl rfl (by decide) (Nat.zero_le _) (Nat.zero_le _) (Nat.le_of_ble_eq_true rfl) (fun _ => ?_)
        refine x_if_eq 49 dX5_append_44 (by decide) (fun z => False.elim (by revert z; decide)) (fun _ => ?_)
        refine x_iconst (nI 0) dX5_append_47 (by decide) ?_
        refine x_iret rfl dX5_append_48 ?_
        have hs : sp_append t x = (1, 0) := by unfold sp_append; rw [if_pos (by rw [ho]; simp)]
        exact ⟨by rw [hs]; rfl, by unfold twA; rw [hs, upd_uu]; rfl⟩
      · skip
        have ho : pOk x 1 = true := by
          unfold inB at e1
          rw [Bool.and_eq_true, decide_eq_true_eq, decide_eq_true_eq, nI_leI (by decide) (by omega), nI_leI (by omega) (by decide)] at e1
          unfold pOk
          rw [decide_eq_true e1.1, decide_eq_true e1.2, Bool.and_true, Bool.or_true]
        refine x_iconst (nI 0) dX5_append_36 (by decide) ?_
        refine x_goto 41 dX5_append_37 (by decide) ?_
        refine x_cVI (t_fails0 T) okX5_fails clX5 q2159 q2161 qs23 dX5_append_41 (Or.inl T.1) rfl rfl (by decide) (Nat.zero_le _) (Nat.zero_le _) (Nat.le_of_ble_eq_true rfl) (fun _ => ?_)
        refine x_if_eq 49 dX5_append_44 (by decide) (fun _ => ?_) (fun z => False.elim (by revert z; decide))
        refine x_iload_n dX5_append_49 rfl rfl ?_
        refine x_iload dX5_append_50 rfl ?_
        refine x_if_ne 59 dX5_append_52 (by decide) (fun _ => ?_) (fun z => absurd ((nI_eq (by omega) (by decide)).mp z) hz)
        refine x_iconst (nI 1) dX5_append_59 (by decide) ?_
        refine x_iadd dX5_append_60 ?_
        refine x_val (nI_add _ _) ?_
        refine x_istore_n [(2, .int (nI ((pS x 2) + 1))), (4, .int (nI (pb x 1))), (3, .int (nI 8)), (0, .ref a), (1, .int x)] dX5_append_61 rfl (by decide) rfl ?_
        refine x_iinc (j := 2) (nI 0) [(3, .int (nI 0)), (2, .int (nI ((pS x 2) + 1))), (4, .int (nI (pb x 1))), (0, .ref a), (1, .int x)] dX5_append_62 rfl (by decide) (by decide) rfl ?_
        refine x_goto 5 dX5_append_65 (by decide) ?_
        have hp : pS x 3 = pS x 2 + 1 := by show pS x 2 + (if pb x 1 = 0 then 0 else 1) = _; rw [if_neg hz]
        refine x_eq (h' := twh h a g S (upd V 34 (nI 0))) (by rw [upd_uu]) rfl rfl ?_
        refine x_sub [0, 1, 3, 4] (lv' := [(3, .int (nI 0)), (2, .int (nI (pS x 2 + 1))), (0, .ref a), (1, .int x)]) rfl ?_
        rw [← hp]
        exact A3 o3 o2 ho
  have A1 : pOk x 3 = true → X G c kX5_append 1 0 0 (rI (sp_append t x).2 (twA h a g S V s t x)) 0 0 (twh h a g S (upd V 34 (nI 0))) 5 [(3, .int (nI 16)), (2, .int (nI (pS x 1))), (0, .ref a), (1, .int x)] [] := by
    intro o3
    have hb := pb_lt x 2
    refine x_iload_n dX5_append_5 rfl rfl ?_
    refine x_if_lt 68 dX5_append_6 (by decide) (fun z => False.elim (by revert z; decide)) (fun _ => ?_)
    refine x_iload_n dX5_append_9 rfl rfl ?_
    refine x_iload_n dX5_append_10 rfl rfl ?_
    refine x_iushr (v := (x.toUInt32 >>> ((nI 16).toUInt32 &&& Int32.toUInt32 31)).toInt32) dX5_append_11 rfl ?_
    refine x_sipush (nI 255) dX5_append_12 (by decide) ?_
    refine x_iand dX5_append_15 ?_
    refine x_val (pb_sh x 2 (nI 16) (by decide)) ?_
    refine x_istore [(4, .int (nI (pb x 2))), (3, .int (nI 16)), (2, .int (nI (pS x 1))), (0, .ref a), (1, .int x)] dX5_append_16 (by decide) rfl ?_
    refine x_aload_n dX5_append_18 rfl rfl ?_
    refine x_iload dX5_append_19 rfl ?_
    refine x_if_eq 36 dX5_append_21 (by decide) (fun e1 => ?_) (fun e1 => ?_)
    · skip
      have hz : pb x 2 = 0 := (nI_eq (by omega) (by decide)).mp e1
      have ho : pOk x 2 = true := by unfold pOk; rw [decide_eq_true hz]; rfl
      refine x_iconst (nI 0) dX5_append_36 (by decide) ?_
      refine x_goto 41 dX5_append_37 (by decide) ?_
      refine x_cVI (t_fails0 T) okX5_fails clX5 q2159 q2161 qs23 dX5_append_41 (Or.inl T.1) rfl rfl (by decide) (Nat.zero_le _) (Nat.zero_le _) (Nat.le_of_ble_eq_true rfl) (fun _ => ?_)
      refine x_if_eq 49 dX5_append_44 (by decide) (fun _ => ?_) (fun z => False.elim (by revert z; decide))
      refine x_iload_n dX5_append_49 rfl rfl ?_
      refine x_iload dX5_append_50 rfl ?_
      refine x_if_ne 59 dX5_append_52 (by decide) (fun z => absurd e1 z) (fun _ => ?_)
      refine x_iconst (nI 0) dX5_append_55 (by decide) ?_
      refine x_goto 60 dX5_append_56 (by decide) ?_
      refine x_iadd dX5_append_60 ?_
      refine x_val (nI_add _ _) ?_
      refine x_istore_n [(2, .int (nI ((pS x 1) + 0))), (4, .int (nI (pb x 2))), (3, .int (nI 16)), (0, .ref a), (1, .int x)] dX5_append_61 rfl (by decide) rfl ?_
      refine x_iinc (j := 2) (nI 8) [(3, .int (nI 8)), (2, .int (nI ((pS x 1) + 0))), (4, .int (nI (pb x 2))), (0, .ref a), (1, .int x)] dX5_append_62 rfl (by decide) (by decide) rfl ?_
      refine x_goto 5 dX5_append_65 (by decide) ?_
      have hp : pS x 2 = pS x 1 + 0 := by show pS x 1 + (if pb x 2 = 0 then 0 else 1) = _; rw [if_pos hz]
      refine x_eq (h' := twh h a g S (upd V 34 (nI 0))) (by rw [upd_uu]) rfl rfl ?_
      refine x_sub [0, 1, 3, 4] (lv' := [(3, .int (nI 8)), (2, .int (nI (pS x 1 + 0))), (0, .ref a), (1, .int x)]) rfl ?_
      rw [← hp]
      exact A2 o3 ho
    · skip
      have hz : ¬ pb x 2 = 0 := fun z => e1 (by rw [z]; rfl)
      refine x_iload dX5_append_24 rfl ?_
      refine x_bipush (nI 32) dX5_append_26 (by decide) ?_
      refine x_bipush (nI 126) dX5_append_28 (by decide) ?_
      refine x_cSI t_in okX5_in q2156 q2157 dX5_append_30 rfl rfl (by decide) (Nat.zero_le _) (Nat.zero_le _) (Nat.le_of_ble_eq_true rfl) (fun _ => ?_)
      refine x_if_eqB 40 dX5_append_33 (by decide) (fun e1 => ?_) (fun e1 => ?_)
      · skip
        have ho : pOk x 2 = false := by
          unfold inB at e1
          rw [Bool.and_eq_false_iff, decide_eq_false_iff_not, decide_eq_false_iff_not, nI_leI (by decide) (by omega), nI_leI (by omega) (by decide)] at e1
          unfold pOk
          rw [decide_eq_false hz, Bool.false_or, Bool.and_eq_false_iff, decide_eq_false_iff_not, decide_eq_false_iff_not]
          exact e1
        refine x_iconst (nI 1) dX5_append_40 (by decide) ?_
        refine x_cVI (t_fails1 T) okX5_fails clX5 q2159 q2161 qs23 dX5_append_41 (Or.inl T.1) rfl rfl (by decide) (Nat.zero_le _) (Nat.zero_le _) (Nat.le_of_ble_eq_true rfl) (fun _ => ?_)
        refine x_if_eq 49 dX5_append_44 (by decide) (fun z => False.elim (by revert z; decide)) (fun _ => ?_)
        refine x_iconst (nI 0) dX5_append_47 (by decide) ?_
        refine x_iret rfl dX5_append_48 ?_
        have hs : sp_append t x = (1, 0) := by unfold sp_append; rw [if_pos (by rw [ho]; simp)]
        exact ⟨by rw [hs]; rfl, by unfold twA; rw [hs, upd_uu]; rfl⟩
      · skip
        have ho : pOk x 2 = true := by
          unfold inB at e1
          rw [Bool.and_eq_true, decide_eq_true_eq, decide_eq_true_eq, nI_leI (by decide) (by omega), nI_leI (by omega) (by decide)] at e1
          unfold pOk
          rw [decide_eq_true e1.1, decide_eq_true e1.2, Bool.and_true, Bool.or_true]
        refine x_iconst (nI 0) dX5_append_36 (by decide) ?_
        refine x_goto 41 dX5_append_37 (by decide) ?_
        refine x_cVI (t_fails0 T) okX5_fails clX5 q2159 q2161 qs23 dX5_append_41 (Or.inl T.1) rfl rfl (by decide) (Nat.zero_le _) (Nat.zero_le _) (Nat.le_of_ble_eq_true rfl) (fun _ => ?_)
        refine x_if_eq 49 dX5_append_44 (by decide) (fun _ => ?_) (fun z => False.elim (by revert z; decide))
        refine x_iload_n dX5_append_49 rfl rfl ?_
        refine x_iload dX5_append_50 rfl ?_
        refine x_if_ne 59 dX5_append_52 (by decide) (fun _ => ?_) (fun z => absurd ((nI_eq (by omega) (by decide)).mp z) hz)
        refine x_iconst (nI 1) dX5_append_59 (by decide) ?_
        refine x_iadd dX5_append_60 ?_
        refine x_val (nI_add _ _) ?_
        refine x_istore_n [(2, .int (nI ((pS x 1) + 1))), (4, .int (nI (pb x 2))), (3, .int (nI 16)), (0, .ref a), (1, .int x)] dX5_append_61 rfl (by decide) rfl ?_
        refine x_iinc (j := 2) (nI 8) [(3, .int (nI 8)), (2, .int (nI ((pS x 1) + 1))), (4, .int (nI (pb x 2))), (0, .ref a), (1, .int x)] dX5_append_62 rfl (by decide) (by decide) rfl ?_
        refine x_goto 5 dX5_append_65 (by decide) ?_
        have hp : pS x 2 = pS x 1 + 1 := by show pS x 1 + (if pb x 2 = 0 then 0 else 1) = _; rw [if_neg hz]
        refine x_eq (h' := twh h a g S (upd V 34 (nI 0))) (by rw [upd_uu]) rfl rfl ?_
        refine x_sub [0, 1, 3, 4] (lv' := [(3, .int (nI 8)), (2, .int (nI (pS x 1 + 1))), (0, .ref a), (1, .int x)]) rfl ?_
        rw [← hp]
        exact A2 o3 ho
  have A0 : X G c kX5_append 1 0 0 (rI (sp_append t x).2 (twA h a g S V s t x)) 0 0 (twh h a g S V) 5 [(3, .int (nI 24)), (2, .int (nI (pS x 0))), (0, .ref a), (1, .int x)] [] := by
    skip
    have hb := pb_lt x 3
    refine x_iload_n dX5_append_5 rfl rfl ?_
    refine x_if_lt 68 dX5_append_6 (by decide) (fun z => False.elim (by revert z; decide)) (fun _ => ?_)
    refine x_iload_n dX5_append_9 rfl rfl ?_
    refine x_iload_n dX5_append_10 rfl rfl ?_
    refine x_iushr (v := (x.toUInt32 >>> ((nI 24).toUInt32 &&& Int32.toUInt32 31)).toInt32) dX5_append_11 rfl ?_
    refine x_sipush (nI 255) dX5_append_12 (by decide) ?_
    refine x_iand dX5_append_15 ?_
    refine x_val (pb_sh x 3 (nI 24) (by decide)) ?_
    refine x_istore [(4, .int (nI (pb x 3))), (3, .int (nI 24)), (2, .int (nI (pS x 0))), (0, .ref a), (1, .int x)] dX5_append_16 (by decide) rfl ?_
    refine x_aload_n dX5_append_18 rfl rfl ?_
    refine x_iload dX5_append_19 rfl ?_
    refine x_if_eq 36 dX5_append_21 (by decide) (fun e1 => ?_) (fun e1 => ?_)
    · skip
      have hz : pb x 3 = 0 := (nI_eq (by omega) (by decide)).mp e1
      have ho : pOk x 3 = true := by unfold pOk; rw [decide_eq_true hz]; rfl
      refine x_iconst (nI 0) dX5_append_36 (by decide) ?_
      refine x_goto 41 dX5_append_37 (by decide) ?_
      refine x_cVI (t_fails0 T) okX5_fails clX5 q2159 q2161 qs23 dX5_append_41 (Or.inl T.1) rfl rfl (by decide) (Nat.zero_le _) (Nat.zero_le _) (Nat.le_of_ble_eq_true rfl) (fun _ => ?_)
      refine x_if_eq 49 dX5_append_44 (by decide) (fun _ => ?_) (fun z => False.elim (by revert z; decide))
      refine x_iload_n dX5_append_49 rfl rfl ?_
      refine x_iload dX5_append_50 rfl ?_
      refine x_if_ne 59 dX5_append_52 (by decide) (fun z => absurd e1 z) (fun _ => ?_)
      refine x_iconst (nI 0) dX5_append_55 (by decide) ?_
      refine x_goto 60 dX5_append_56 (by decide) ?_
      refine x_iadd dX5_append_60 ?_
      refine x_val (nI_add _ _) ?_
      refine x_istore_n [(2, .int (nI ((pS x 0) + 0))), (4, .int (nI (pb x 3))), (3, .int (nI 24)), (0, .ref a), (1, .int x)] dX5_append_61 rfl (by decide) rfl ?_
      refine x_iinc (j := 2) (nI 16) [(3, .int (nI 16)), (2, .int (nI ((pS x 0) + 0))), (4, .int (nI (pb x 3))), (0, .ref a), (1, .int x)] dX5_append_62 rfl (by decide) (by decide) rfl ?_
      refine x_goto 5 dX5_append_65 (by decide) ?_
      have hp : pS x 1 = pS x 0 + 0 := by show pS x 0 + (if pb x 3 = 0 then 0 else 1) = _; rw [if_pos hz]
      refine x_eq (h' := twh h a g S (upd V 34 (nI 0))) (by rfl) rfl rfl ?_
      refine x_sub [0, 1, 3, 4] (lv' := [(3, .int (nI 16)), (2, .int (nI (pS x 0 + 0))), (0, .ref a), (1, .int x)]) rfl ?_
      rw [← hp]
      exact A1 ho
    · skip
      have hz : ¬ pb x 3 = 0 := fun z => e1 (by rw [z]; rfl)
      refine x_iload dX5_append_24 rfl ?_
      refine x_bipush (nI 32) dX5_append_26 (by decide) ?_
      refine x_bipush (nI 126) dX5_append_28 (by decide) ?_
      refine x_cSI t_in okX5_in q2156 q2157 dX5_append_30 rfl rfl (by decide) (Nat.zero_le _) (Nat.zero_le _) (Nat.le_of_ble_eq_true rfl) (fun _ => ?_)
      refine x_if_eqB 40 dX5_append_33 (by decide) (fun e1 => ?_) (fun e1 => ?_)
      · skip
        have ho : pOk x 3 = false := by
          unfold inB at e1
          rw [Bool.and_eq_false_iff, decide_eq_false_iff_not, decide_eq_false_iff_not, nI_leI (by decide) (by omega), nI_leI (by omega) (by decide)] at e1
          unfold pOk
          rw [decide_eq_false hz, Bool.false_or, Bool.and_eq_false_iff, decide_eq_false_iff_not, decide_eq_false_iff_not]
          exact e1
        refine x_iconst (nI 1) dX5_append_40 (by decide) ?_
        refine x_cVI (t_fails1 T) okX5_fails clX5 q2159 q2161 qs23 dX5_append_41 (Or.inl T.1) rfl rfl (by decide) (Nat.zero_le _) (Nat.zero_le _) (Nat.le_of_ble_eq_true rfl) (fun _ => ?_)
        refine x_if_eq 49 dX5_append_44 (by decide) (fun z => False.elim (by revert z; decide)) (fun _ => ?_)
        refine x_iconst (nI 0) dX5_append_47 (by decide) ?_
        refine x_iret rfl dX5_append_48 ?_
        have hs : sp_append t x = (1, 0) := by unfold sp_append; rw [if_pos (by rw [ho]; simp)]
        exact ⟨by rw [hs]; rfl, by unfold twA; rw [hs]; rfl⟩
      · skip
        have ho : pOk x 3 = true := by
          unfold inB at e1
          rw [Bool.and_eq_true, decide_eq_true_eq, decide_eq_true_eq, nI_leI (by decide) (by omega), nI_leI (by omega) (by decide)] at e1
          unfold pOk
          rw [decide_eq_true e1.1, decide_eq_true e1.2, Bool.and_true, Bool.or_true]
        refine x_iconst (nI 0) dX5_append_36 (by decide) ?_
        refine x_goto 41 dX5_append_37 (by decide) ?_
        refine x_cVI (t_fails0 T) okX5_fails clX5 q2159 q2161 qs23 dX5_append_41 (Or.inl T.1) rfl rfl (by decide) (Nat.zero_le _) (Nat.zero_le _) (Nat.le_of_ble_eq_true rfl) (fun _ => ?_)
        refine x_if_eq 49 dX5_append_44 (by decide) (fun _ => ?_) (fun z => False.elim (by revert z; decide))
        refine x_iload_n dX5_append_49 rfl rfl ?_
        refine x_iload dX5_append_50 rfl ?_
        refine x_if_ne 59 dX5_append_52 (by decide) (fun _ => ?_) (fun z => absurd ((nI_eq (by omega) (by decide)).mp z) hz)
        refine x_iconst (nI 1) dX5_append_59 (by decide) ?_
        refine x_iadd dX5_append_60 ?_
        refine x_val (nI_add _ _) ?_
        refine x_istore_n [(2, .int (nI ((pS x 0) + 1))), (4, .int (nI (pb x 3))), (3, .int (nI 24)), (0, .ref a), (1, .int x)] dX5_append_61 rfl (by decide) rfl ?_
        refine x_iinc (j := 2) (nI 16) [(3, .int (nI 16)), (2, .int (nI ((pS x 0) + 1))), (4, .int (nI (pb x 3))), (0, .ref a), (1, .int x)] dX5_append_62 rfl (by decide) (by decide) rfl ?_
        refine x_goto 5 dX5_append_65 (by decide) ?_
        have hp : pS x 1 = pS x 0 + 1 := by show pS x 0 + (if pb x 3 = 0 then 0 else 1) = _; rw [if_neg hz]
        refine x_eq (h' := twh h a g S (upd V 34 (nI 0))) (by rfl) rfl rfl ?_
        refine x_sub [0, 1, 3, 4] (lv' := [(3, .int (nI 16)), (2, .int (nI (pS x 0 + 1))), (0, .ref a), (1, .int x)]) rfl ?_
        rw [← hp]
        exact A1 ho
  refine x_iconst (nI 0) dX5_append_0 (by decide) ?_
  refine x_istore_n [(2, .int (nI 0)), (0, .ref a), (1, .int x)] dX5_append_1 rfl (by decide) rfl ?_
  refine x_bipush (nI 24) dX5_append_2 (by decide) ?_
  refine x_istore_n [(3, .int (nI 24)), (2, .int (nI 0)), (0, .ref a), (1, .int x)] dX5_append_4 rfl (by decide) rfl ?_
  refine x_sub [0, 1, 2, 3] (lv' := [(3, .int (nI 24)), (2, .int (nI (pS x 0))), (0, .ref a), (1, .int x)]) rfl ?_
  exact A0
