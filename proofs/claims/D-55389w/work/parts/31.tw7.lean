/-! THE REFERENCE, seventh part: clear, snapshot, restore, undo, account, what is told of refusals, shares; printed by tools/tw7.py -/
set_option maxRecDepth 100000
theorem t_clearT {G : GG} {h : AH} {a : Nat} {g : Nat → Int32} {S : Nat → Nat → Int32} {V : Nat → Int32} (T : Tw h a)  : Cal G kX5_clear 1 0 0 [.ref a] (twh h a g S V) (rI (g 0) (twh h a (bgG g) S (upd (upd V 34 0) 32 0))) := by
  refine Cal.of (by decide +kernel) (Nat.le_of_ble_eq_true rfl) (fun c => ?_)
  refine x_aload_n dX5_clear_0 rfl rfl ?_
  refine x_iconst (nI 0) dX5_clear_1 (by decide) ?_
  refine tp_code T (.inl q2090) dX5_clear_2 ?_
  refine x_aload_n dX5_clear_5 rfl rfl ?_
  refine tg_g T (.inl q2082) dX5_clear_6 ?_
  refine x_iconst (nI 0) dX5_clear_9 (by decide) ?_
  refine tld1 T rfl (by omega) dX5_clear_10 ?_
  refine x_istore_n [(1, .int (g 0)), (0, .ref a)] dX5_clear_11 rfl (by decide) rfl ?_
  refine x_aload_n dX5_clear_12 rfl rfl ?_
  refine x_cVV (t_begins T) okX5_begins clX5 q2078 q2080 qs22 dX5_clear_13 (Or.inl T.1) rfl rfl (by decide) (Nat.zero_le _) (Nat.zero_le _) (Nat.le_of_ble_eq_true rfl) (fun _ => ?_)
  refine x_aload_n dX5_clear_16 rfl rfl ?_
  refine x_iconst (nI 0) dX5_clear_17 (by decide) ?_
  refine tp_changes T (.inl q2088) dX5_clear_18 ?_
  refine x_iload_n dX5_clear_21 rfl rfl ?_
  refine x_iret rfl dX5_clear_22 ?_
  exact ⟨rfl, rfl⟩
theorem t_snapshot {G : GG} {h : AH} {a : Nat} {g : Nat → Int32} {S : Nat → Nat → Int32} {V : Nat → Int32} (T : Tw h a)  : Cal G kX5_snapshot 1 0 0 [.ref a] (twh h a g S V) (rI (g 0) (twh h a g (upS S 3 (va_cpy g (S 3) 0 0 221)) (upd (upd V 34 0) 31 1))) := by
  refine Cal.of (by decide +kernel) (Nat.le_of_ble_eq_true rfl) (fun c => ?_)
  refine x_aload_n dX5_snapshot_0 rfl rfl ?_
  refine x_iconst (nI 0) dX5_snapshot_1 (by decide) ?_
  refine tp_code T (.inl q2090) dX5_snapshot_2 ?_
  refine x_aload_n dX5_snapshot_5 rfl rfl ?_
  refine x_iconst (nI 1) dX5_snapshot_6 (by decide) ?_
  refine tp_isSaved T (Or.inr rfl) (.inl q2087) dX5_snapshot_7 ?_
  refine x_aload_n dX5_snapshot_10 rfl rfl ?_
  refine tg_g T (.inl q2082) dX5_snapshot_11 ?_
  refine x_iconst (nI 0) dX5_snapshot_14 (by decide) ?_
  refine x_aload_n dX5_snapshot_15 rfl rfl ?_
  refine tg_saved T (.inl q2084) dX5_snapshot_16 ?_
  refine x_iconst (nI 0) dX5_snapshot_19 (by decide) ?_
  refine x_cSV (by
      have k9 := t_copies (G := G) (h := twh h a g S (upd (upd V 34 (nI 0)) 31 (nI 1))) (s := a + 1) (t := a + 3) (p0 := 0) (q0 := 0) (T.2.2.2.2.2.2.2.2.2.1) (T.2.2.2.2.2.2.2.2.2.2.2.1) (by rw [twh_hLn, T.2.2.2.2.2.2.2.2.2.2.2.2.2.2.2.2.2.1]; omega) (by rw [twh_hLn, T.2.2.2.2.2.2.2.2.2.2.2.2.2.2.2.2.2.2.2.1]; omega) (by omega) (by omega) (by omega)
      rw [(twh_g : hEI (twh h a g S (upd (upd V 34 (nI 0)) 31 (nI 1))) (a + 1) = g), ((twh_S (by decide) (by decide)).trans (by first | rfl | exact upS_s | exact upS_n (by decide)) : hEI (twh h a g S (upd (upd V 34 (nI 0)) 31 (nI 1))) (a + 3) = S 3), twh_uS (by decide) (by decide)] at k9
      exact k9) okX5_copies q2171 q2172 dX5_snapshot_20 rfl rfl (by decide) (Nat.zero_le _) (Nat.zero_le _) (Nat.le_of_ble_eq_true rfl) (fun _ => ?_)
  refine x_aload_n dX5_snapshot_23 rfl rfl ?_
  refine tg_g T (.inl q2082) dX5_snapshot_24 ?_
  refine x_iconst (nI 0) dX5_snapshot_27 (by decide) ?_
  refine tld1 T rfl (by omega) dX5_snapshot_28 ?_
  refine x_iret rfl dX5_snapshot_29 ?_
  exact ⟨rfl, rfl⟩
theorem t_restore0 {G : GG} {h : AH} {a : Nat} {g : Nat → Int32} {S : Nat → Nat → Int32} {V : Nat → Int32} (T : Tw h a) (e : V 31 = 0) : Cal G kX5_restore 1 0 0 [.ref a] (twh h a g S V) (rI 0 (twh h a g S (upd V 34 (nI 1)))) := by
  refine Cal.of (by decide +kernel) (Nat.le_of_ble_eq_true rfl) (fun c => ?_)
  refine x_aload_n dX5_restore_0 rfl rfl ?_
  refine x_aload_n dX5_restore_1 rfl rfl ?_
  refine tg_isSaved T (.inl q2087) dX5_restore_2 ?_
  refine x_if_eq 12 dX5_restore_5 (by decide) (fun _ => ?_) (fun z => absurd e z)
  refine x_iconst (nI 1) dX5_restore_12 (by decide) ?_
  refine x_cVI (t_fails1 T) okX5_fails clX5 q2159 q2161 qs23 dX5_restore_13 (Or.inl T.1) rfl rfl (by decide) (Nat.zero_le _) (Nat.zero_le _) (Nat.le_of_ble_eq_true rfl) (fun _ => ?_)
  refine x_if_eq 21 dX5_restore_16 (by decide) (fun z => False.elim (by revert z; decide)) (fun _ => ?_)
  refine x_iconst (nI 0) dX5_restore_19 (by decide) ?_
  refine x_iret rfl dX5_restore_20 ?_
  exact ⟨rfl, rfl⟩
theorem t_restore1 {G : GG} {h : AH} {a : Nat} {g : Nat → Int32} {S : Nat → Nat → Int32} {V : Nat → Int32} (T : Tw h a) (e : ¬ V 31 = 0) : Cal G kX5_restore 1 0 0 [.ref a] (twh h a g S V) (rI (va_cpy (S 3) g 0 0 221 0) (twh h a (va_cpy (S 3) g 0 0 221) S (upd (upd V 34 (nI 0)) 32 0))) := by
  refine Cal.of (by decide +kernel) (Nat.le_of_ble_eq_true rfl) (fun c => ?_)
  refine x_aload_n dX5_restore_0 rfl rfl ?_
  refine x_aload_n dX5_restore_1 rfl rfl ?_
  refine tg_isSaved T (.inl q2087) dX5_restore_2 ?_
  refine x_if_eq 12 dX5_restore_5 (by decide) (fun z => absurd z e) (fun _ => ?_)
  refine x_iconst (nI 0) dX5_restore_8 (by decide) ?_
  refine x_goto 13 dX5_restore_9 (by decide) ?_
  refine x_cVI (t_fails0 T) okX5_fails clX5 q2159 q2161 qs23 dX5_restore_13 (Or.inl T.1) rfl rfl (by decide) (Nat.zero_le _) (Nat.zero_le _) (Nat.le_of_ble_eq_true rfl) (fun _ => ?_)
  refine x_if_eq 21 dX5_restore_16 (by decide) (fun _ => ?_) (fun z => False.elim (by revert z; decide))
  refine x_aload_n dX5_restore_21 rfl rfl ?_
  refine tg_saved T (.inl q2084) dX5_restore_22 ?_
  refine x_iconst (nI 0) dX5_restore_25 (by decide) ?_
  refine x_aload_n dX5_restore_26 rfl rfl ?_
  refine tg_g T (.inl q2082) dX5_restore_27 ?_
  refine x_iconst (nI 0) dX5_restore_30 (by decide) ?_
  refine x_cSV (by
      have k9 := t_copies (G := G) (h := twh h a g S (upd V 34 (nI 0))) (s := a + 3) (t := a + 1) (p0 := 0) (q0 := 0) (T.2.2.2.2.2.2.2.2.2.2.2.1) (T.2.2.2.2.2.2.2.2.2.1) (by rw [twh_hLn, T.2.2.2.2.2.2.2.2.2.2.2.2.2.2.2.2.2.2.2.1]; omega) (by rw [twh_hLn, T.2.2.2.2.2.2.2.2.2.2.2.2.2.2.2.2.2.1]; omega) (by omega) (by omega) (by omega)
      rw [((twh_S (by decide) (by decide)).trans (by first | rfl | exact upS_s | exact upS_n (by decide)) : hEI (twh h a g S (upd V 34 (nI 0))) (a + 3) = S 3), (twh_g : hEI (twh h a g S (upd V 34 (nI 0))) (a + 1) = g), twh_uG] at k9
      exact k9) okX5_copies q2171 q2172 dX5_restore_31 rfl rfl (by decide) (Nat.zero_le _) (Nat.zero_le _) (Nat.le_of_ble_eq_true rfl) (fun _ => ?_)
  refine x_aload_n dX5_restore_34 rfl rfl ?_
  refine x_iconst (nI 0) dX5_restore_35 (by decide) ?_
  refine tp_changes T (.inl q2088) dX5_restore_36 ?_
  refine x_aload_n dX5_restore_39 rfl rfl ?_
  refine tg_g T (.inl q2082) dX5_restore_40 ?_
  refine x_iconst (nI 0) dX5_restore_43 (by decide) ?_
  refine tld1 T rfl (by omega) dX5_restore_44 ?_
  refine x_iret rfl dX5_restore_45 ?_
  exact ⟨rfl, rfl⟩
theorem t_undo0 {G : GG} {h : AH} {a : Nat} {g : Nat → Int32} {S : Nat → Nat → Int32} {V : Nat → Int32} (T : Tw h a) (e : V 32 = 0) : Cal G kX5_undo 1 0 0 [.ref a] (twh h a g S V) (rI 0 (twh h a g S (upd V 34 (nI 1)))) := by
  refine Cal.of (by decide +kernel) (Nat.le_of_ble_eq_true rfl) (fun c => ?_)
  refine x_aload_n dX5_undo_0 rfl rfl ?_
  refine x_aload_n dX5_undo_1 rfl rfl ?_
  refine tg_changes T (.inl q2088) dX5_undo_2 ?_
  refine x_if_ne 12 dX5_undo_5 (by decide) (fun z => absurd e z) (fun _ => ?_)
  refine x_iconst (nI 1) dX5_undo_8 (by decide) ?_
  refine x_goto 13 dX5_undo_9 (by decide) ?_
  refine x_cVI (t_fails1 T) okX5_fails clX5 q2159 q2161 qs23 dX5_undo_13 (Or.inl T.1) rfl rfl (by decide) (Nat.zero_le _) (Nat.zero_le _) (Nat.le_of_ble_eq_true rfl) (fun _ => ?_)
  refine x_if_eq 21 dX5_undo_16 (by decide) (fun z => False.elim (by revert z; decide)) (fun _ => ?_)
  refine x_iconst (nI 0) dX5_undo_19 (by decide) ?_
  refine x_iret rfl dX5_undo_20 ?_
  exact ⟨rfl, rfl⟩
theorem t_undo1 {G : GG} {h : AH} {a : Nat} {g : Nat → Int32} {S : Nat → Nat → Int32} {V : Nat → Int32} (T : Tw h a) {n : Nat} (e : V 32 = nI (n + 1)) (h8 : n < 8) : Cal G kX5_undo 1 0 0 [.ref a] (twh h a g S V) (rI (nI n) (twh h a (va_cpy (S 2) g (221 * n) 0 221) S (upd (upd V 34 (nI 0)) 32 (nI n)))) := by
  refine Cal.of (by decide +kernel) (Nat.le_of_ble_eq_true rfl) (fun c => ?_)
  refine x_aload_n dX5_undo_0 rfl rfl ?_
  refine x_aload_n dX5_undo_1 rfl rfl ?_
  refine tg_changes T (.inl q2088) dX5_undo_2 ?_
  refine x_if_ne 12 dX5_undo_5 (by decide) (fun _ => ?_) (fun z => absurd (e.symm.trans z) (nI_ne0 (by omega) (by omega)))
  refine x_iconst (nI 0) dX5_undo_12 (by decide) ?_
  refine x_cVI (t_fails0 T) okX5_fails clX5 q2159 q2161 qs23 dX5_undo_13 (Or.inl T.1) rfl rfl (by decide) (Nat.zero_le _) (Nat.zero_le _) (Nat.le_of_ble_eq_true rfl) (fun _ => ?_)
  refine x_if_eq 21 dX5_undo_16 (by decide) (fun _ => ?_) (fun z => False.elim (by revert z; decide))
  refine x_aload_n dX5_undo_21 rfl rfl ?_
  refine x_dup dX5_undo_22 rfl ?_
  refine tg_changes T (.inl q2088) dX5_undo_23 ?_
  refine x_val (show upd V 34 (nI 0) 32 = nI (n + 1) from (pk_un (by decide)).trans e) ?_
  refine x_iconst (nI 1) dX5_undo_26 (by decide) ?_
  refine x_isub dX5_undo_27 ?_
  refine x_val (nI_pred n) ?_
  refine tp_changes T (.inl q2088) dX5_undo_28 ?_
  refine x_aload_n dX5_undo_31 rfl rfl ?_
  refine tg_kept T (.inl q2083) dX5_undo_32 ?_
  refine x_sipush (nI 221) dX5_undo_35 (by decide) ?_
  refine x_aload_n dX5_undo_38 rfl rfl ?_
  refine tg_changes T (.inl q2088) dX5_undo_39 ?_
  refine x_imul dX5_undo_42 ?_
  refine x_val (pk_mul _ _) ?_
  refine x_aload_n dX5_undo_43 rfl rfl ?_
  refine tg_g T (.inl q2082) dX5_undo_44 ?_
  refine x_iconst (nI 0) dX5_undo_47 (by decide) ?_
  refine x_cSV (by
      have k9 := t_copies (G := G) (h := twh h a g S (upd (upd V 34 (nI 0)) 32 (nI n))) (s := a + 2) (t := a + 1) (p0 := 221 * n) (q0 := 0) (T.2.2.2.2.2.2.2.2.2.2.1) (T.2.2.2.2.2.2.2.2.2.1) (by rw [twh_hLn, T.2.2.2.2.2.2.2.2.2.2.2.2.2.2.2.2.2.2.1]; omega) (by rw [twh_hLn, T.2.2.2.2.2.2.2.2.2.2.2.2.2.2.2.2.2.1]; omega) (by omega) (by omega) (by omega)
      rw [((twh_S (by decide) (by decide)).trans (by first | rfl | exact upS_s | exact upS_n (by decide)) : hEI (twh h a g S (upd (upd V 34 (nI 0)) 32 (nI n))) (a + 2) = S 2), (twh_g : hEI (twh h a g S (upd (upd V 34 (nI 0)) 32 (nI n))) (a + 1) = g), twh_uG] at k9
      exact k9) okX5_copies q2171 q2172 dX5_undo_48 rfl rfl (by decide) (Nat.zero_le _) (Nat.zero_le _) (Nat.le_of_ble_eq_true rfl) (fun _ => ?_)
  refine x_aload_n dX5_undo_51 rfl rfl ?_
  refine tg_changes T (.inl q2088) dX5_undo_52 ?_
  refine x_iret rfl dX5_undo_55 ?_
  exact ⟨rfl, rfl⟩
theorem t_account {G : GG} {h : AH} {a : Nat} {g : Nat → Int32} {S : Nat → Nat → Int32} {V : Nat → Int32} (T : Tw h a) (O : GOk g) {x : Int32} : Cal G kX5_account 5 0 0 [.ref a, .int x] (twh h a g S V) (rI (sp_account g V x).2 (twQ h a g S V (sp_account g V x))) := by
  refine Cal.of (by decide +kernel) (Nat.le_of_ble_eq_true rfl) (fun c => ?_)
  have hb0 := O.b
  have hj0 := O.j
  have ho0 := O.o
  refine x_aload_n dX5_account_0 rfl rfl ?_
  refine x_iload_n dX5_account_1 rfl rfl ?_
  refine x_iconst (nI 0) dX5_account_2 (by decide) ?_
  refine x_bipush (nI 17) dX5_account_3 (by decide) ?_
  refine x_cSI t_in okX5_in q2156 q2157 dX5_account_5 rfl rfl (by decide) (Nat.zero_le _) (Nat.zero_le _) (Nat.le_of_ble_eq_true rfl) (fun _ => ?_)
  refine x_if_eqB 15 dX5_account_8 (by decide) (fun e1 => ?_) (fun e1 => ?_)
  · skip
    refine x_iconst (nI 1) dX5_account_15 (by decide) ?_
    refine x_cVI (t_fails1 T) okX5_fails clX5 q2159 q2161 qs23 dX5_account_16 (Or.inl T.1) rfl rfl (by decide) (Nat.zero_le _) (Nat.zero_le _) (Nat.le_of_ble_eq_true rfl) (fun _ => ?_)
    refine x_if_eq 24 dX5_account_19 (by decide) (fun z => False.elim (by revert z; decide)) (fun _ => ?_)
    refine x_iconst (nI 0) dX5_account_22 (by decide) ?_
    refine x_iret rfl dX5_account_23 ?_
    rw [show sp_account g V x = (1, 0) from if_pos e1]
    exact ⟨rfl, rfl⟩
  · skip
    refine x_iconst (nI 0) dX5_account_11 (by decide) ?_
    refine x_goto 16 dX5_account_12 (by decide) ?_
    refine x_cVI (t_fails0 T) okX5_fails clX5 q2159 q2161 qs23 dX5_account_16 (Or.inl T.1) rfl rfl (by decide) (Nat.zero_le _) (Nat.zero_le _) (Nat.le_of_ble_eq_true rfl) (fun _ => ?_)
    refine x_if_eq 24 dX5_account_19 (by decide) (fun _ => ?_) (fun z => False.elim (by revert z; decide))
    refine x_iload_n dX5_account_24 rfl rfl ?_
    by_cases ek9 : x = nI 9
    · skip
      refine x_val ek9 ?_
      refine x_tableIn 76 dX5_account_25 (by decide) (by decide) rfl (by decide) ?_
      refine x_aload_n dX5_account_76 rfl rfl ?_
      refine x_iconst (nI 0) dX5_account_77 (by decide) ?_
      refine x_cVI (t_jars T O) okX5_jars clX5 q2326 q2328 qs47 dX5_account_78 (Or.inl T.1) rfl rfl (by decide) (Nat.zero_le _) (Nat.zero_le _) (Nat.le_of_ble_eq_true rfl) (fun _ => ?_)
      refine x_iret rfl dX5_account_81 ?_
      subst ek9
      have hx : sp_account g V (nI 9) = (0, nI (jarsN g (nI 0))) := by
        unfold sp_account
        rw [if_neg (show ¬ inB (nI 9) 0 17 = false from by decide), if_pos (show nI 9 = 9 from rfl)]
        try rfl
      rw [hx]
      exact ⟨rfl, rfl⟩
    by_cases ek10 : x = nI 10
    · skip
      refine x_val ek10 ?_
      refine x_tableIn 82 dX5_account_25 (by decide) (by decide) rfl (by decide) ?_
      refine x_aload_n dX5_account_82 rfl rfl ?_
      refine x_cVI (t_ripe T O) okX5_ripe clX5 q2404 q2406 qs53 dX5_account_83 (Or.inl T.1) rfl rfl (by decide) (Nat.zero_le _) (Nat.zero_le _) (Nat.le_of_ble_eq_true rfl) (fun _ => ?_)
      refine x_iret rfl dX5_account_86 ?_
      subst ek10
      have hx : sp_account g V (nI 10) = (0, nI (ripeN g)) := by
        unfold sp_account
        rw [if_neg (show ¬ inB (nI 10) 0 17 = false from by decide), if_neg (show ¬ nI 10 = 9 from by decide), if_pos (show nI 10 = 10 from rfl)]
        try rfl
      rw [hx]
      exact ⟨rfl, rfl⟩
    by_cases ek11 : x = nI 11
    · skip
      refine x_val ek11 ?_
      refine x_tableIn 87 dX5_account_25 (by decide) (by decide) rfl (by decide) ?_
      refine x_aload_n dX5_account_87 rfl rfl ?_
      refine x_iconst (nI 1) dX5_account_88 (by decide) ?_
      refine x_cVI (t_jars T O) okX5_jars clX5 q2326 q2328 qs47 dX5_account_89 (Or.inl T.1) rfl rfl (by decide) (Nat.zero_le _) (Nat.zero_le _) (Nat.le_of_ble_eq_true rfl) (fun _ => ?_)
      refine x_iret rfl dX5_account_92 ?_
      subst ek11
      have hx : sp_account g V (nI 11) = (0, nI (jarsN g (nI 1))) := by
        unfold sp_account
        rw [if_neg (show ¬ inB (nI 11) 0 17 = false from by decide), if_neg (show ¬ nI 11 = 9 from by decide), if_neg (show ¬ nI 11 = 10 from by decide), if_pos (show nI 11 = 11 from rfl)]
        try rfl
      rw [hx]
      exact ⟨rfl, rfl⟩
    by_cases ek12 : x = nI 12
    · skip
      refine x_val ek12 ?_
      refine x_tableIn 93 dX5_account_25 (by decide) (by decide) rfl (by decide) ?_
      refine x_aload_n dX5_account_93 rfl rfl ?_
      refine x_iconst (nI 2) dX5_account_94 (by decide) ?_
      refine x_cVI (t_jars T O) okX5_jars clX5 q2326 q2328 qs47 dX5_account_95 (Or.inl T.1) rfl rfl (by decide) (Nat.zero_le _) (Nat.zero_le _) (Nat.le_of_ble_eq_true rfl) (fun _ => ?_)
      refine x_iret rfl dX5_account_98 ?_
      subst ek12
      have hx : sp_account g V (nI 12) = (0, nI (jarsN g (nI 2))) := by
        unfold sp_account
        rw [if_neg (show ¬ inB (nI 12) 0 17 = false from by decide), if_neg (show ¬ nI 12 = 9 from by decide), if_neg (show ¬ nI 12 = 10 from by decide), if_neg (show ¬ nI 12 = 11 from by decide), if_pos (show nI 12 = 12 from rfl)]
        try rfl
      rw [hx]
      exact ⟨rfl, rfl⟩
    by_cases ek13 : x = nI 13
    · skip
      refine x_val ek13 ?_
      refine x_tableIn 99 dX5_account_25 (by decide) (by decide) rfl (by decide) ?_
      refine x_aload_n dX5_account_99 rfl rfl ?_
      refine tg_g T (.inl q2082) dX5_account_100 ?_
      refine x_bipush (nI 9) dX5_account_103 (by decide) ?_
      refine tld1 T rfl (by omega) dX5_account_105 ?_
      refine x_iret rfl dX5_account_106 ?_
      subst ek13
      have hx : sp_account g V (nI 13) = (0, g 9) := by
        unfold sp_account
        rw [if_neg (show ¬ inB (nI 13) 0 17 = false from by decide), if_neg (show ¬ nI 13 = 9 from by decide), if_neg (show ¬ nI 13 = 10 from by decide), if_neg (show ¬ nI 13 = 11 from by decide), if_neg (show ¬ nI 13 = 12 from by decide), if_pos (show nI 13 = 13 from rfl)]
        try rfl
      rw [hx]
      exact ⟨rfl, rfl⟩
    by_cases ek14 : x = nI 14
    · skip
      refine x_val ek14 ?_
      refine x_tableIn 107 dX5_account_25 (by decide) (by decide) rfl (by decide) ?_
      refine x_aload_n dX5_account_107 rfl rfl ?_
      refine x_cVI (t_openOrders T O) okX5_openOrders clX5 q2408 q2410 qs54 dX5_account_108 (Or.inl T.1) rfl rfl (by decide) (Nat.zero_le _) (Nat.zero_le _) (Nat.le_of_ble_eq_true rfl) (fun _ => ?_)
      refine x_iret rfl dX5_account_111 ?_
      subst ek14
      have hx : sp_account g V (nI 14) = (0, nI (openN g)) := by
        unfold sp_account
        rw [if_neg (show ¬ inB (nI 14) 0 17 = false from by decide), if_neg (show ¬ nI 14 = 9 from by decide), if_neg (show ¬ nI 14 = 10 from by decide), if_neg (show ¬ nI 14 = 11 from by decide), if_neg (show ¬ nI 14 = 12 from by decide), if_neg (show ¬ nI 14 = 13 from by decide), if_pos (show nI 14 = 14 from rfl)]
        try rfl
      rw [hx]
      exact ⟨rfl, rfl⟩
    by_cases ek15 : x = nI 15
    · skip
      refine x_val ek15 ?_
      refine x_tableIn 112 dX5_account_25 (by decide) (by decide) rfl (by decide) ?_
      refine x_aload_n dX5_account_112 rfl rfl ?_
      refine tg_g T (.inl q2082) dX5_account_113 ?_
      refine x_bipush (nI 10) dX5_account_116 (by decide) ?_
      refine tld1 T rfl (by omega) dX5_account_118 ?_
      refine x_iret rfl dX5_account_119 ?_
      subst ek15
      have hx : sp_account g V (nI 15) = (0, g 10) := by
        unfold sp_account
        rw [if_neg (show ¬ inB (nI 15) 0 17 = false from by decide), if_neg (show ¬ nI 15 = 9 from by decide), if_neg (show ¬ nI 15 = 10 from by decide), if_neg (show ¬ nI 15 = 11 from by decide), if_neg (show ¬ nI 15 = 12 from by decide), if_neg (show ¬ nI 15 = 13 from by decide), if_neg (show ¬ nI 15 = 14 from by decide), if_pos (show nI 15 = 15 from rfl)]
        try rfl
      rw [hx]
      exact ⟨rfl, rfl⟩
    by_cases ek16 : x = nI 16
    · skip
      refine x_val ek16 ?_
      refine x_tableIn 120 dX5_account_25 (by decide) (by decide) rfl (by decide) ?_
      refine x_aload_n dX5_account_120 rfl rfl ?_
      refine tg_length T (.inl q2094) dX5_account_121 ?_
      refine x_iret rfl dX5_account_124 ?_
      subst ek16
      have hx : sp_account g V (nI 16) = (0, V 37) := by
        unfold sp_account
        rw [if_neg (show ¬ inB (nI 16) 0 17 = false from by decide), if_neg (show ¬ nI 16 = 9 from by decide), if_neg (show ¬ nI 16 = 10 from by decide), if_neg (show ¬ nI 16 = 11 from by decide), if_neg (show ¬ nI 16 = 12 from by decide), if_neg (show ¬ nI 16 = 13 from by decide), if_neg (show ¬ nI 16 = 14 from by decide), if_neg (show ¬ nI 16 = 15 from by decide), if_pos (show nI 16 = 16 from rfl)]
        try rfl
      rw [hx]
      exact ⟨rfl, rfl⟩
    by_cases ek17 : x = nI 17
    · skip
      refine x_val ek17 ?_
      refine x_tableIn 125 dX5_account_25 (by decide) (by decide) rfl (by decide) ?_
      refine x_aload_n dX5_account_125 rfl rfl ?_
      refine tg_changes T (.inl q2088) dX5_account_126 ?_
      refine x_iret rfl dX5_account_129 ?_
      subst ek17
      have hx : sp_account g V (nI 17) = (0, V 32) := by
        unfold sp_account
        rw [if_neg (show ¬ inB (nI 17) 0 17 = false from by decide), if_neg (show ¬ nI 17 = 9 from by decide), if_neg (show ¬ nI 17 = 10 from by decide), if_neg (show ¬ nI 17 = 11 from by decide), if_neg (show ¬ nI 17 = 12 from by decide), if_neg (show ¬ nI 17 = 13 from by decide), if_neg (show ¬ nI 17 = 14 from by decide), if_neg (show ¬ nI 17 = 15 from by decide), if_neg (show ¬ nI 17 = 16 from by decide), if_pos (show nI 17 = 17 from rfl)]
        try rfl
      rw [hx]
      exact ⟨rfl, rfl⟩
    refine x_tableOut 130 dX5_account_25 (ts_out 9 17 (by decide) (fun k h1 h2 z => by
      rcases (show k = 9 ∨ k = 10 ∨ k = 11 ∨ k = 12 ∨ k = 13 ∨ k = 14 ∨ k = 15 ∨ k = 16 ∨ k = 17 by omega) with r | r | r | r | r | r | r | r | r
      · rw [r] at z; exact ek9 z
      · rw [r] at z; exact ek10 z
      · rw [r] at z; exact ek11 z
      · rw [r] at z; exact ek12 z
      · rw [r] at z; exact ek13 z
      · rw [r] at z; exact ek14 z
      · rw [r] at z; exact ek15 z
      · rw [r] at z; exact ek16 z
      · rw [r] at z; exact ek17 z
      )) (by decide) ?_
    obtain ⟨k, hk, rfl⟩ := inB_n (n := 17) (by decide) (by first | assumption | simp_all [nIl])
    have xk : (nI k).toNatClampNeg = k := ix_nI (by omega)
    refine x_eq rfl rfl rfl ?_
    refine x_aload_n dX5_account_130 rfl rfl ?_
    refine tg_g T (.inl q2082) dX5_account_131 ?_
    refine x_iload_n dX5_account_134 rfl rfl ?_
    refine tld1 T rfl (by omega) dX5_account_135 ?_
    refine x_iret rfl dX5_account_136 ?_
    have hx : sp_account g V (nI k) = (0, g k) := by
      unfold sp_account
      rw [if_neg (show ¬ inB (nI k) 0 17 = false from by rw [show inB (nI k) 0 17 = true from e1]; decide), if_neg (show ¬ nI k = 9 from ek9), if_neg (show ¬ nI k = 10 from ek10), if_neg (show ¬ nI k = 11 from ek11), if_neg (show ¬ nI k = 12 from ek12), if_neg (show ¬ nI k = 13 from ek13), if_neg (show ¬ nI k = 14 from ek14), if_neg (show ¬ nI k = 15 from ek15), if_neg (show ¬ nI k = 16 from ek16), if_neg (show ¬ nI k = 17 from ek17)]
      show (0, g (nI k).toNatClampNeg) = (0, g k)
      rw [xk]
    rw [hx]
    exact ⟨rfl, rfl⟩
def sp_error (V : Nat → Int32) : Nat × Int32 := if V 38 < 0 then (1, 0) else (0, V 38)
def sp_item (V : Nat → Int32) : Nat × Int32 := if V 39 < 0 then (1, 0) else (0, V 39)
def sp_char (V : Nat → Int32) (s : Nat → Int32) (x : Int32) : Nat × Int32 := if inB x 0 (V 40 - 1) = false then (1, 32) else (0, s (ix x))
def sumT (g : Nat → Int32) : Nat → Int32
  | 0 => 0
  | j + 1 => sumT g j + (if gj g j 0 = 2 then gj g j 3 else 0)
def sp_mean (g : Nat → Int32) : Nat × UInt64 := if nI (jarsN g 2) = 0 then (1, FP.dconst0) else (0, FP.ddiv (FP.i2d (sumT g (nJr g))) (FP.i2d (nI (jarsN g 2))))
def sp_share (g : Nat → Int32) : Nat × UInt32 := if nI (nJr g) = 0 then (1, FP.fconst0) else (0, FP.fdiv (FP.i2f (nI (jarsN g 2))) (FP.i2f (nI (nJr g))))
theorem t_refusal {G : GG} {h : AH} {a : Nat} {g : Nat → Int32} {S : Nat → Nat → Int32} {V : Nat → Int32} (T : Tw h a) {b : Bool} : Cal G kX5_refusal 1 0 0 [.ref a, .int (bB b)] (twh h a g S V) (rI (sp_refusal V b).2 (twQ h a g S V (sp_refusal V b))) := by
  refine Cal.of (by decide +kernel) (Nat.le_of_ble_eq_true rfl) (fun c => ?_)
  refine x_aload_n dX5_refusal_0 rfl rfl ?_
  refine x_aload_n dX5_refusal_1 rfl rfl ?_
  refine tg_why T (.inl q2091) dX5_refusal_2 ?_
  refine x_if_ne 12 dX5_refusal_5 (by decide) (fun e1 => ?_) (fun e1 => ?_)
  · skip
    refine x_iconst (nI 0) dX5_refusal_12 (by decide) ?_
    refine x_cVI (t_fails0 T) okX5_fails clX5 q2159 q2161 qs23 dX5_refusal_13 (Or.inl T.1) rfl rfl (by decide) (Nat.zero_le _) (Nat.zero_le _) (Nat.le_of_ble_eq_true rfl) (fun _ => ?_)
    refine x_if_eq 23 dX5_refusal_16 (by decide) (fun _ => ?_) (fun z => False.elim (by revert z; decide))
    refine x_iload_n dX5_refusal_23 rfl rfl ?_
    refine x_if_eqB 34 dX5_refusal_24 (by decide) (fun e2 => ?_) (fun e2 => ?_)
    · skip
      refine x_aload_n dX5_refusal_34 rfl rfl ?_
      refine tg_why T (.inl q2091) dX5_refusal_35 ?_
      refine x_iret rfl dX5_refusal_38 ?_
      rw [show sp_refusal V b = (0, V 35) from by simp_all [sp_refusal, nIl, nle_i, nlt_i]]
      exact ⟨rfl, rfl⟩
    · skip
      refine x_aload_n dX5_refusal_27 rfl rfl ?_
      refine tg_detail T (.inl q2092) dX5_refusal_28 ?_
      refine x_goto 38 dX5_refusal_31 (by decide) ?_
      refine x_iret rfl dX5_refusal_38 ?_
      rw [show sp_refusal V b = (0, V 36) from by simp_all [sp_refusal, nIl, nle_i, nlt_i]]
      exact ⟨rfl, rfl⟩
  · skip
    refine x_iconst (nI 1) dX5_refusal_8 (by decide) ?_
    refine x_goto 13 dX5_refusal_9 (by decide) ?_
    refine x_cVI (t_fails1 T) okX5_fails clX5 q2159 q2161 qs23 dX5_refusal_13 (Or.inl T.1) rfl rfl (by decide) (Nat.zero_le _) (Nat.zero_le _) (Nat.le_of_ble_eq_true rfl) (fun _ => ?_)
    refine x_if_eq 23 dX5_refusal_16 (by decide) (fun z => False.elim (by revert z; decide)) (fun _ => ?_)
    refine x_iconst (nI 0) dX5_refusal_19 (by decide) ?_
    refine x_goto 38 dX5_refusal_20 (by decide) ?_
    refine x_iret rfl dX5_refusal_38 ?_
    rw [show sp_refusal V b = (1, nI 0) from by simp_all [sp_refusal, nIl, nle_i, nlt_i]]
    exact ⟨rfl, rfl⟩
theorem t_errorPosition {G : GG} {h : AH} {a : Nat} {g : Nat → Int32} {S : Nat → Nat → Int32} {V : Nat → Int32} (T : Tw h a)  : Cal G kX5_errorPosition 1 0 0 [.ref a] (twh h a g S V) (rI (sp_error V).2 (twQ h a g S V (sp_error V))) := by
  refine Cal.of (by decide +kernel) (Nat.le_of_ble_eq_true rfl) (fun c => ?_)
  refine x_aload_n dX5_errorPosition_0 rfl rfl ?_
  refine x_aload_n dX5_errorPosition_1 rfl rfl ?_
  refine tg_error T (.inl q2095) dX5_errorPosition_2 ?_
  refine x_if_ge 12 dX5_errorPosition_5 (by decide) (fun e1 => ?_) (fun e1 => ?_)
  · skip
    refine x_iconst (nI 0) dX5_errorPosition_12 (by decide) ?_
    refine x_cVI (t_fails0 T) okX5_fails clX5 q2159 q2161 qs23 dX5_errorPosition_13 (Or.inl T.1) rfl rfl (by decide) (Nat.zero_le _) (Nat.zero_le _) (Nat.le_of_ble_eq_true rfl) (fun _ => ?_)
    refine x_if_eq 23 dX5_errorPosition_16 (by decide) (fun _ => ?_) (fun z => False.elim (by revert z; decide))
    refine x_aload_n dX5_errorPosition_23 rfl rfl ?_
    refine tg_error T (.inl q2095) dX5_errorPosition_24 ?_
    refine x_iret rfl dX5_errorPosition_27 ?_
    rw [show sp_error V = (0, V 38) from by simp_all [sp_error, nIl, nle_i, nlt_i]]
    exact ⟨rfl, rfl⟩
  · skip
    refine x_iconst (nI 1) dX5_errorPosition_8 (by decide) ?_
    refine x_goto 13 dX5_errorPosition_9 (by decide) ?_
    refine x_cVI (t_fails1 T) okX5_fails clX5 q2159 q2161 qs23 dX5_errorPosition_13 (Or.inl T.1) rfl rfl (by decide) (Nat.zero_le _) (Nat.zero_le _) (Nat.le_of_ble_eq_true rfl) (fun _ => ?_)
    refine x_if_eq 23 dX5_errorPosition_16 (by decide) (fun z => False.elim (by revert z; decide)) (fun _ => ?_)
    refine x_iconst (nI 0) dX5_errorPosition_19 (by decide) ?_
    refine x_goto 27 dX5_errorPosition_20 (by decide) ?_
    refine x_iret rfl dX5_errorPosition_27 ?_
    rw [show sp_error V = (1, nI 0) from by simp_all [sp_error, nIl, nle_i, nlt_i]]
    exact ⟨rfl, rfl⟩
theorem t_refusedItem {G : GG} {h : AH} {a : Nat} {g : Nat → Int32} {S : Nat → Nat → Int32} {V : Nat → Int32} (T : Tw h a)  : Cal G kX5_refusedItem 1 0 0 [.ref a] (twh h a g S V) (rI (sp_item V).2 (twQ h a g S V (sp_item V))) := by
  refine Cal.of (by decide +kernel) (Nat.le_of_ble_eq_true rfl) (fun c => ?_)
  refine x_aload_n dX5_refusedItem_0 rfl rfl ?_
  refine x_aload_n dX5_refusedItem_1 rfl rfl ?_
  refine tg_item T (.inl q2096) dX5_refusedItem_2 ?_
  refine x_if_ge 12 dX5_refusedItem_5 (by decide) (fun e1 => ?_) (fun e1 => ?_)
  · skip
    refine x_iconst (nI 0) dX5_refusedItem_12 (by decide) ?_
    refine x_cVI (t_fails0 T) okX5_fails clX5 q2159 q2161 qs23 dX5_refusedItem_13 (Or.inl T.1) rfl rfl (by decide) (Nat.zero_le _) (Nat.zero_le _) (Nat.le_of_ble_eq_true rfl) (fun _ => ?_)
    refine x_if_eq 23 dX5_refusedItem_16 (by decide) (fun _ => ?_) (fun z => False.elim (by revert z; decide))
    refine x_aload_n dX5_refusedItem_23 rfl rfl ?_
    refine tg_item T (.inl q2096) dX5_refusedItem_24 ?_
    refine x_iret rfl dX5_refusedItem_27 ?_
    rw [show sp_item V = (0, V 39) from by simp_all [sp_item, nIl, nle_i, nlt_i]]
    exact ⟨rfl, rfl⟩
  · skip
    refine x_iconst (nI 1) dX5_refusedItem_8 (by decide) ?_
    refine x_goto 13 dX5_refusedItem_9 (by decide) ?_
    refine x_cVI (t_fails1 T) okX5_fails clX5 q2159 q2161 qs23 dX5_refusedItem_13 (Or.inl T.1) rfl rfl (by decide) (Nat.zero_le _) (Nat.zero_le _) (Nat.le_of_ble_eq_true rfl) (fun _ => ?_)
    refine x_if_eq 23 dX5_refusedItem_16 (by decide) (fun z => False.elim (by revert z; decide)) (fun _ => ?_)
    refine x_iconst (nI 0) dX5_refusedItem_19 (by decide) ?_
    refine x_goto 27 dX5_refusedItem_20 (by decide) ?_
    refine x_iret rfl dX5_refusedItem_27 ?_
    rw [show sp_item V = (1, nI 0) from by simp_all [sp_item, nIl, nle_i, nlt_i]]
    exact ⟨rfl, rfl⟩
theorem t_character {G : GG} {h : AH} {a : Nat} {g : Nat → Int32} {S : Nat → Nat → Int32} {V : Nat → Int32} (T : Tw h a) {n : Nat} (hn : V 40 = nI n) (h60 : n ≤ 60) (hc : ∀ k, narrow .char (.int (S 7 k)) = .int (S 7 k)) {x : Int32} : Cal G kX5_character 1 0 0 [.ref a, .int x] (twh h a g S V) (rI (sp_char V (S 7) x).2 (twQ h a g S V (sp_char V (S 7) x))) := by
  refine Cal.of (by decide +kernel) (Nat.le_of_ble_eq_true rfl) (fun c => ?_)
  refine x_aload_n dX5_character_0 rfl rfl ?_
  refine x_iload_n dX5_character_1 rfl rfl ?_
  refine x_iconst (nI 0) dX5_character_2 (by decide) ?_
  refine x_aload_n dX5_character_3 rfl rfl ?_
  refine tg_signMany T (.inl q2098) dX5_character_4 ?_
  refine x_iconst (nI 1) dX5_character_7 (by decide) ?_
  refine x_isub dX5_character_8 ?_
  refine x_cSI t_in okX5_in q2156 q2157 dX5_character_9 rfl rfl (by decide) (Nat.zero_le _) (Nat.zero_le _) (Nat.le_of_ble_eq_true rfl) (fun _ => ?_)
  refine x_if_eqB 19 dX5_character_12 (by decide) (fun e1 => ?_) (fun e1 => ?_)
  · skip
    refine x_iconst (nI 1) dX5_character_19 (by decide) ?_
    refine x_cVI (t_fails1 T) okX5_fails clX5 q2159 q2161 qs23 dX5_character_20 (Or.inl T.1) rfl rfl (by decide) (Nat.zero_le _) (Nat.zero_le _) (Nat.le_of_ble_eq_true rfl) (fun _ => ?_)
    refine x_if_eq 31 dX5_character_23 (by decide) (fun z => False.elim (by revert z; decide)) (fun _ => ?_)
    refine x_bipush (nI 32) dX5_character_26 (by decide) ?_
    refine x_goto 37 dX5_character_28 (by decide) ?_
    refine x_zret rfl (by first | exact hc _ | decide +kernel) dX5_character_37 ?_
    rw [show sp_char V (S 7) x = (1, nI 32) from by simp_all [sp_char, nIl, nle_i, nlt_i]]
    exact ⟨rfl, rfl⟩
  · skip
    obtain ⟨k, hk, rfl⟩ := inB_m hn (by omega) e1
    have xk : (nI k).toNatClampNeg = k := ix_nI (by omega)
    refine x_iconst (nI 0) dX5_character_15 (by decide) ?_
    refine x_goto 20 dX5_character_16 (by decide) ?_
    refine x_cVI (t_fails0 T) okX5_fails clX5 q2159 q2161 qs23 dX5_character_20 (Or.inl T.1) rfl rfl (by decide) (Nat.zero_le _) (Nat.zero_le _) (Nat.le_of_ble_eq_true rfl) (fun _ => ?_)
    refine x_if_eq 31 dX5_character_23 (by decide) (fun _ => ?_) (fun z => False.elim (by revert z; decide))
    refine x_aload_n dX5_character_31 rfl rfl ?_
    refine tg_signs T (.inl q2097) dX5_character_32 ?_
    refine x_iload_n dX5_character_35 rfl rfl ?_
    refine tld7 T rfl (by omega) dX5_character_36 ?_
    refine x_zret rfl (by first | exact hc _ | decide +kernel) dX5_character_37 ?_
    rw [show sp_char V (S 7) (nI k) = (0, (S 7) k) from by simp_all [sp_char, nIl, nle_i, nlt_i]]
    exact ⟨rfl, rfl⟩
theorem t_meanTear {G : GG} {h : AH} {a : Nat} {g : Nat → Int32} {S : Nat → Nat → Int32} {V : Nat → Int32} (T : Tw h a) (O : GOk g) (hn : ¬ nI (jarsN g 2) = 0 → vf_n64 (FP.ddiv (FP.i2d (sumT g (nJr g))) (FP.i2d (nI (jarsN g 2))))) : Cal G kX5_meanTear 2 0 0 [.ref a] (twh h a g S V) (rO (.double (sp_mean g).2) (twh h a g S (upd V 34 (nI (sp_mean g).1)))) := by
  refine Cal.of (by decide +kernel) (Nat.le_of_ble_eq_true rfl) (fun c => ?_)
  have hb0 := O.b
  have hj0 := O.j
  have ho0 := O.o
  refine x_iconst (nI 0) dX5_meanTear_0 (by decide) ?_
  refine x_istore_n [(1, .int (nI 0)), (0, .ref a)] dX5_meanTear_1 rfl (by decide) rfl ?_
  refine x_iconst (nI 0) dX5_meanTear_2 (by decide) ?_
  refine x_istore_n [(2, .int (nI 0)), (1, .int (nI 0)), (0, .ref a)] dX5_meanTear_3 rfl (by decide) rfl ?_
  refine x_sub [2, 1, 0] (lv' := [(0, .ref a), (1, .int (nI 0)), (2, .int (nI 0))]) rfl ?_
  refine x_bud (bc' := 0) (bs' := 0) (by first | exact Nat.zero_le _ | omega) (by first | exact Nat.zero_le _ | omega) ?_
  refine lpN (P := fun j => X G c kX5_meanTear 2 _ _ _ 0 0 (twh h a g S V) 4 [(0, .ref a), (1, .int (sumT g j)), (2, .int (nI j))] []) (nJr g) (fun j hi ih => ?_) 0 (Nat.zero_le _)
  refine x_iload_n dX5_meanTear_4 rfl rfl ?_
  refine x_aload_n dX5_meanTear_5 rfl rfl ?_
  refine tg_g T (.inl q2082) dX5_meanTear_6 ?_
  refine x_bipush (nI 8) dX5_meanTear_9 (by decide) ?_
  refine tld1 T rfl (by omega) dX5_meanTear_11 ?_
  refine x_val hj0.1 ?_
  refine x_icmp_ge 44 dX5_meanTear_12 (by decide) (fun e1 => ?_) (fun e1 => ?_)
  · skip
    have ne1 := e1
    rw [nI_leI (by omega) (by omega)] at ne1
    obtain rfl : j = nJr g := by omega
    refine x_aload_n dX5_meanTear_44 rfl rfl ?_
    refine x_aload_n dX5_meanTear_45 rfl rfl ?_
    refine x_iconst (nI 2) dX5_meanTear_46 (by decide) ?_
    refine x_cVI (t_jars T O) okX5_jars clX5 q2326 q2328 qs47 dX5_meanTear_47 (Or.inl T.1) rfl rfl (by decide) (Nat.zero_le _) (Nat.zero_le _) (Nat.le_of_ble_eq_true rfl) (fun _ => ?_)
    refine x_if_ne 57 dX5_meanTear_50 (by decide) (fun e2 => ?_) (fun e2 => ?_)
    · skip
      refine x_iconst (nI 0) dX5_meanTear_57 (by decide) ?_
      refine x_cVI (t_fails0 T) okX5_fails clX5 q2159 q2161 qs23 dX5_meanTear_58 (Or.inl T.1) rfl rfl (by decide) (Nat.zero_le _) (Nat.zero_le _) (Nat.le_of_ble_eq_true rfl) (fun _ => ?_)
      refine x_if_eq 68 dX5_meanTear_61 (by decide) (fun _ => ?_) (fun z => False.elim (by revert z; decide))
      refine x_iload_n dX5_meanTear_68 rfl rfl ?_
      refine x_i2d dX5_meanTear_69 ?_
      refine x_aload_n dX5_meanTear_70 rfl rfl ?_
      refine x_iconst (nI 2) dX5_meanTear_71 (by decide) ?_
      refine x_cVI (t_jars T O) okX5_jars clX5 q2326 q2328 qs47 dX5_meanTear_72 (Or.inl T.1) rfl rfl (by decide) (Nat.zero_le _) (Nat.zero_le _) (Nat.le_of_ble_eq_true rfl) (fun _ => ?_)
      refine x_i2d dX5_meanTear_75 ?_
      refine x_ddiv (hn (by assumption)) dX5_meanTear_76 ?_
      refine x_dret rfl dX5_meanTear_77 ?_
      rw [show sp_mean g = (0, FP.ddiv (FP.i2d (sumT g (nJr g))) (FP.i2d (nI (jarsN g (nI 2))))) from by simp_all [sp_mean, nIl]]
      exact ⟨rfl, rfl⟩
    · skip
      refine x_iconst (nI 1) dX5_meanTear_53 (by decide) ?_
      refine x_goto 58 dX5_meanTear_54 (by decide) ?_
      refine x_cVI (t_fails1 T) okX5_fails clX5 q2159 q2161 qs23 dX5_meanTear_58 (Or.inl T.1) rfl rfl (by decide) (Nat.zero_le _) (Nat.zero_le _) (Nat.le_of_ble_eq_true rfl) (fun _ => ?_)
      refine x_if_eq 68 dX5_meanTear_61 (by decide) (fun z => False.elim (by revert z; decide)) (fun _ => ?_)
      refine x_dconst0 dX5_meanTear_64 ?_
      refine x_goto 77 dX5_meanTear_65 (by decide) ?_
      refine x_dret rfl dX5_meanTear_77 ?_
      rw [show sp_mean g = (1, FP.dconst0) from by simp_all [sp_mean, nIl]]
      exact ⟨rfl, rfl⟩
  · skip
    have ne1 := e1
    rw [nI_leI (by omega) (by omega)] at ne1
    refine x_iload_n dX5_meanTear_15 rfl rfl ?_
    refine x_aload_n dX5_meanTear_16 rfl rfl ?_
    refine x_iload_n dX5_meanTear_17 rfl rfl ?_
    refine x_iconst (nI 0) dX5_meanTear_18 (by decide) ?_
    refine x_cVI (t_ofJar T (by omega)) okX5_ofJar clX5 q2251 q2253 qs35 dX5_meanTear_19 (Or.inl T.1) rfl rfl (by decide) (Nat.zero_le _) (Nat.zero_le _) (Nat.le_of_ble_eq_true rfl) (fun _ => ?_)
    refine x_iconst (nI 2) dX5_meanTear_22 (by decide) ?_
    refine x_icmp_ne 35 dX5_meanTear_23 (by decide) (fun e3 => ?_) (fun e3 => ?_)
    · skip
      refine x_iconst (nI 0) dX5_meanTear_35 (by decide) ?_
      refine x_iadd dX5_meanTear_36 ?_
      refine x_istore_n [(1, .int ((sumT g j) + (nI 0))), (0, .ref a), (2, .int (nI j))] dX5_meanTear_37 rfl (by decide) rfl ?_
      refine x_iinc (j := 2) (nI (j + 1)) [(2, .int (nI (j + 1))), (1, .int ((sumT g j) + (nI 0))), (0, .ref a)] dX5_meanTear_38 rfl (by first | exact nI_add _ _ | decide) (by decide) rfl ?_
      refine x_goto 4 dX5_meanTear_41 (by decide) ?_
      refine x_sub [2, 1, 0] (lv' := [(0, .ref a), (1, .int ((sumT g j) + (nI 0))), (2, .int (nI (j + 1)))]) rfl ?_
      have hs : sumT g (j + 1) = (sumT g j) + (nI 0) := by
        show sumT g j + _ = _
        first | rw [if_pos (by assumption)] | rw [if_neg (by assumption)]
        try rfl
      rw [← hs]
      exact ih (by omega)
    · skip
      refine x_aload_n dX5_meanTear_26 rfl rfl ?_
      refine x_iload_n dX5_meanTear_27 rfl rfl ?_
      refine x_iconst (nI 3) dX5_meanTear_28 (by decide) ?_
      refine x_cVI (t_ofJar T (by omega)) okX5_ofJar clX5 q2251 q2253 qs35 dX5_meanTear_29 (Or.inl T.1) rfl rfl (by decide) (Nat.zero_le _) (Nat.zero_le _) (Nat.le_of_ble_eq_true rfl) (fun _ => ?_)
      refine x_goto 36 dX5_meanTear_32 (by decide) ?_
      refine x_iadd dX5_meanTear_36 ?_
      refine x_istore_n [(1, .int ((sumT g j) + (gj g j 3))), (0, .ref a), (2, .int (nI j))] dX5_meanTear_37 rfl (by decide) rfl ?_
      refine x_iinc (j := 2) (nI (j + 1)) [(2, .int (nI (j + 1))), (1, .int ((sumT g j) + (gj g j 3))), (0, .ref a)] dX5_meanTear_38 rfl (by first | exact nI_add _ _ | decide) (by decide) rfl ?_
      refine x_goto 4 dX5_meanTear_41 (by decide) ?_
      refine x_sub [2, 1, 0] (lv' := [(0, .ref a), (1, .int ((sumT g j) + (gj g j 3))), (2, .int (nI (j + 1)))]) rfl ?_
      have hs : sumT g (j + 1) = (sumT g j) + (gj g j 3) := by
        show sumT g j + _ = _
        first | rw [if_pos (by assumption)] | rw [if_neg (by assumption)]
        try rfl
      rw [← hs]
      exact ih (by omega)
theorem t_soldShare {G : GG} {h : AH} {a : Nat} {g : Nat → Int32} {S : Nat → Nat → Int32} {V : Nat → Int32} (T : Tw h a) (O : GOk g) (hn : ¬ nI (nJr g) = 0 → vf_n32 (FP.fdiv (FP.i2f (nI (jarsN g 2))) (FP.i2f (nI (nJr g))))) : Cal G kX5_soldShare 2 0 0 [.ref a] (twh h a g S V) (rO (.float (sp_share g).2) (twh h a g S (upd V 34 (nI (sp_share g).1)))) := by
  refine Cal.of (by decide +kernel) (Nat.le_of_ble_eq_true rfl) (fun c => ?_)
  have hb0 := O.b
  have hj0 := O.j
  have ho0 := O.o
  refine x_aload_n dX5_soldShare_0 rfl rfl ?_
  refine x_aload_n dX5_soldShare_1 rfl rfl ?_
  refine tg_g T (.inl q2082) dX5_soldShare_2 ?_
  refine x_bipush (nI 8) dX5_soldShare_5 (by decide) ?_
  refine tld1 T rfl (by omega) dX5_soldShare_7 ?_
  refine x_val hj0.1 ?_
  refine x_if_ne 15 dX5_soldShare_8 (by decide) (fun e1 => ?_) (fun e1 => ?_)
  · skip
    refine x_iconst (nI 0) dX5_soldShare_15 (by decide) ?_
    refine x_cVI (t_fails0 T) okX5_fails clX5 q2159 q2161 qs23 dX5_soldShare_16 (Or.inl T.1) rfl rfl (by decide) (Nat.zero_le _) (Nat.zero_le _) (Nat.le_of_ble_eq_true rfl) (fun _ => ?_)
    refine x_if_eq 26 dX5_soldShare_19 (by decide) (fun _ => ?_) (fun z => False.elim (by revert z; decide))
    refine x_aload_n dX5_soldShare_26 rfl rfl ?_
    refine x_iconst (nI 2) dX5_soldShare_27 (by decide) ?_
    refine x_cVI (t_jars T O) okX5_jars clX5 q2326 q2328 qs47 dX5_soldShare_28 (Or.inl T.1) rfl rfl (by decide) (Nat.zero_le _) (Nat.zero_le _) (Nat.le_of_ble_eq_true rfl) (fun _ => ?_)
    refine x_i2f dX5_soldShare_31 ?_
    refine x_aload_n dX5_soldShare_32 rfl rfl ?_
    refine tg_g T (.inl q2082) dX5_soldShare_33 ?_
    refine x_bipush (nI 8) dX5_soldShare_36 (by decide) ?_
    refine tld1 T rfl (by omega) dX5_soldShare_38 ?_
    refine x_val hj0.1 ?_
    refine x_i2f dX5_soldShare_39 ?_
    refine x_fdiv (hn (by assumption)) dX5_soldShare_40 ?_
    refine x_fret rfl dX5_soldShare_41 ?_
    rw [show sp_share g = (0, FP.fdiv (FP.i2f (nI (jarsN g (nI 2)))) (FP.i2f (nI (nJr g)))) from by simp_all [sp_share, nIl]]
    exact ⟨rfl, rfl⟩
  · skip
    refine x_iconst (nI 1) dX5_soldShare_11 (by decide) ?_
    refine x_goto 16 dX5_soldShare_12 (by decide) ?_
    refine x_cVI (t_fails1 T) okX5_fails clX5 q2159 q2161 qs23 dX5_soldShare_16 (Or.inl T.1) rfl rfl (by decide) (Nat.zero_le _) (Nat.zero_le _) (Nat.le_of_ble_eq_true rfl) (fun _ => ?_)
    refine x_if_eq 26 dX5_soldShare_19 (by decide) (fun z => False.elim (by revert z; decide)) (fun _ => ?_)
    refine x_fconst0 dX5_soldShare_22 ?_
    refine x_goto 41 dX5_soldShare_23 (by decide) ?_
    refine x_fret rfl dX5_soldShare_41 ?_
    rw [show sp_share g = (1, FP.fconst0) from by simp_all [sp_share, nIl]]
    exact ⟨rfl, rfl⟩
